/-! KC2: contracts of the component's methods that write and whose premise has FX too -/
set_option maxRecDepth 100000
def KC2 (l : Launch) (y : MethodName) (code : ByteArray) (n : Nat) (ret : Option FieldType) (fr lc : Nat) (D : va_G) (dA : Nat → ClassId) (a : Nat → Nat) (av : List Value) (σ : MS) (Ph : Heap → Prop) (post : Option Value → MS → Prop) : Prop :=
  Met l y (ws_ y code n ret) ({ frames := fr, cells := 0, slots := 0, locals := lc }) (va_Pc av (fun U => K2 D dA U ∧ va_P D vwCl (kW dA a σ) U.heap ∧ Ph U.heap)) (KQc D dA a post) 0 0 (kAd a)
theorem KC2.of {l : Launch} {y : MethodName} {code : ByteArray} {n : Nat} {ret : Option FieldType} {fr lc : Nat} {D : va_G} {dA : Nat → ClassId} {a : Nat → Nat} {av : List Value} {σ : MS} {Ph : Heap → Prop} {post : Option Value → MS → Prop} (hy : plainName y.cls = true) (hav : (lg_sl av).length ≤ n)
    (body : ∀ (p : Program) (e : Env) (s : State) (m : MethodId) (below : List Frame) (meth : Method) (c : Code) (ls : Array Slot), CallFix p m c code n s av.toArray lw_all y.cls → meth.sig.returnType = ret → meth.locks = false → K2 D dA s → KB D dA a σ s.heap s.heap [] → Ph s.heap → lv_has ls n (lv_args 0 av) →
      W p l e ({ frames := fr, cells := 0, slots := 0, locals := lc }) s m av.toArray below meth c s.heap [] 0 0 (KZ below D dA a post av s) (F0 m 0 ls [])) : KC2 l y code n ret fr lc D dA a av σ Ph post := by
  refine Met.ofW (cc := code) (maxL := n) (ret := ret) hy rfl ?_
  intro p e s m args below meth c s₁ B hml hv
  obtain ⟨rfl, hK, hP, hPh⟩ := hv
  have hts := atoms_spec (ws := ws_ y code n ret) B.pre
  have hts' : ∀ w ∈ lw_all, w.before av.toArray s = true := fun w h => hts w (List.mem_cons_of_mem _ h)
  have hl := lv_entry av (n := n) hav
  rw [lg_entry_eq]
  generalize (lg_sl av ++ List.replicate (n - (lg_sl av).length) Slot.unset).toArray = ls at hl ⊢
  exact body p e s m below meth c ls ⟨B.exec, B.bytes, hml, findClass_of_methodNamed B.named, hts'⟩ B.returns B.notSynchronized hK ⟨hP, va_S.rf⟩ hPh hl
theorem b2i_fit (b : Bool) : fits .boolean (.int (b2i b)) = true := by cases b <;> decide
section KC2R
variable {p : Program} {l : Launch} {e : Env} {R : Room} {s : State} {m : MethodId} {args : Array Value} {below : List Frame} {meth : Method} {c : Code} {H : Heap} {locs : List Loc} {cells slots : Nat} {Q : State → Prop}
variable {cc : ByteArray} {pc nL : Nat} {ls : Array Slot} {rest : List Value} {D : va_G} {dA : Nat → ClassId} {a : Nat → Nat} {σ : MS} {post : Option Value → MS → Prop} {H0 : Heap}
theorem kc2_V {Ph : Heap → Prop} {y : MethodName} {code : ByteArray} {n index : Nat} {ret : Option FieldType} {fr lc : Nat} {own : String} (As : List Value) (nn : Nat) (S : CallFix p m c cc nL s args lw_all own) (hK : K2 D dA s) (hM : KB D dA a σ H0 H locs) (hC : KC2 l y code n ret fr lc D dA a (.ref (a 0) :: As) σ Ph post)
    (hw : GoodIn lw_all (wsV own index RX0 y (ws_ y code n ret))) (hd : y.cls = RX0 ∧ y.cls ≠ "java/lang/invoke/MethodHandle" ∧ y.cls ≠ "java/lang/invoke/VarHandle" ∧ (parseMethodDescriptor y.desc).map (fun d => d.parameters.length) = some nn) (hn : As.length = nn) (hR : fr + 1 ≤ R.frames ∧ 8 + (n + 11) + lc ≤ R.locals)
    (hsz : ls.size = nL) (hst : (rest.map fun v => v.category).sum ≤ 8) (hdg : decode cc pc = .ok (.invokevirtual index, 3)) (hf : cells ≤ R.cells ∧ slots ≤ R.slots) (hPh : Ph H)
    (kk : ∀ (v : Option Value) (σ' : MS) (H : Heap) (locs : List Loc), post v σ' → KB D dA a σ' H0 H locs → W p l e R s m args below meth c H locs cells slots Q (F0 m (pc + 3) ls (v.toList ++ rest))) {st : List Value} (hs : st = As.reverse ++ .ref (a 0) :: rest) : W p l e R s m args below meth c H locs cells slots Q (F0 m pc ls st) :=
  k_back (rest := rest) hM (va_runV (As := As) (rest := rest) S hC (cwV nn S.2.2.2.2 hw rfl rfl rfl hd hR) ⟨rc2_blind (Ph := fun H9 => va_P D vwCl (kW dA a σ) H9 ∧ Ph H9), k_recv hK.1 hM.1, fun U hU hW => ⟨rfl, hK.warm hW, by rw [hU]; exact ⟨hM.1, hPh⟩⟩⟩ rfl hn hsz hs (lv_room hst) hdg hf) kk
/-- the boolean field is written -/
theorem k_putz (hI : kInj a) (S : CallFix p m c cc nL s args lw_all RX0) (hK : va_K D vwCl (tyL dA) s) (hM : KB D dA a σ H0 H locs) {index : Nat} (hlink : Cond.fieldLink RX0 index RX0 (TX0 12).2.1 (TX0 12).2.2.1 ∈ lw_all) (hdg : decode cc pc = .ok (.putfield index, 3)) {v : Int32} (hn : narrow .boolean (.int v) = .int v) (hft : fits .boolean (.int v) = true)
    (kk : ∀ (H : Heap) (locs : List Loc), KB D dA a (σ.i 12 v) H0 H locs → W p l e R s m args below meth c H locs cells slots Q (F0 m (pc + 3) ls rest)) : W p l e R s m args below meth c H locs cells slots Q (F0 m pc ls (.int v :: .ref (a 0) :: rest)) := by
  refine va_put (D := D) (ci := 0) (C := RX0) (T := TX0) (N := 15) (ty := .boolean) S.1 S.2.1 S.2.2.2.2 in_X0 tyX0 tyX0_ok nmX0 S.2.2.2.1 hK hM.1 (kW_D hI) hM.2 0 kW_0 rfl 12 (by decide) (S.2.2.2.2 _ hlink) (fun _ h9 => h9) rfl (by decide +kernel) hn hft (by simp [kF]) hdg (fun H1 locs1 h1 h2 h3 => ?_)
  have e1 : (kW dA a σ).set 0 (a 0, .inr (0, (kF a σ).set 12 (.int v))) = kW dA a (σ.i 12 v) := by
    rw [kF_set (σ' := σ.i 12 v) (.int v) (by simp [kFv, kKd, MS.i, va_up]) (fun j hj => by simp [kFv, MS.i, va_up, hj])]
    exact kW_set0 rfl (fun q => by simp [kE, MS.i])
  rw [e1] at h1
  exact kk H1 locs1 ⟨h1, h3⟩
end KC2R
/-- the rings stay while only the component's own cells are written -/
theorem va_P.keep {D : va_G} {A : Nat → Prop} {ws : va_W} {H0 H : Heap} {locs : List Loc} (h : va_P D vwCl ws H0) (hS : va_S A H0 H locs) (hA : ∀ (k : Nat) (q : Nat × va_E), ws[k]? = some q → ¬ A q.1) : va_P D vwCl ws H := by
  intro k q hq
  have h1 := h k q hq
  have ha := hA k q hq
  have hs : ∀ cell, H0[q.1]? = some cell → H[q.1]? = some cell := fun cell hc => by
    have hlt : q.1 < H0.size := by
      rcases Nat.lt_or_ge q.1 H0.size with g | g
      · exact g
      · rw [Array.getElem?_eq_none g] at hc; cases hc
    rw [hS.2.1 q.1 hlt ha]; exact hc
  unfold va_at at h1 ⊢
  split at h1
  · exact hs _ h1
  · obtain ⟨r, h2, cell, h3, h4⟩ := h1
    exact ⟨r, h2, cell, hs _ h3, h4⟩
