/-! GCON: contracts of methods that make cells or write cells of any kind (GC); their calls, of all kinds; calls of mates in the nest -/
set_option maxRecDepth 100000
abbrev GQ (A : Nat → Prop) (post : Option Value → Heap → Prop) : Array Value → State → Outcome → State → Prop := fun _ st o t => (∃ v, o = .returned v ∧ post v t.heap) ∧ va_F A st t
/-- what is known of the tables goes along -/
def Wm (Kp : State → Prop) : Prop := ∀ s U : State, s.WarmedH U.vm → Kp s → Kp U
theorem Wm_K2 {D : va_G} {dA : Nat → ClassId} : Wm (K2 D dA) := fun _ _ hW h => h.warm hW
def GC (l : Launch) (y : MethodName) (code : ByteArray) (n : Nat) (ret : Option FieldType) (fr lc mc ms : Nat) (Kp : State → Prop) (av : List Value) (Pre : Heap → Prop) (A : Nat → Prop) (post : Option Value → Heap → Prop) : Prop :=
  Met l y (ws_ y code n ret) ({ frames := fr, cells := mc, slots := ms, locals := lc }) (va_Pc av (fun U => Kp U ∧ Pre U.heap)) (GQ A post) mc ms A
abbrev GZ (below : List Frame) (A : Nat → Prop) (post : Option Value → Heap → Prop) (av : List Value) (s : State) (mc ms : Nat) : State → Prop := MQ below (GQ A post) av.toArray s mc ms A
theorem GC.of {l : Launch} {y : MethodName} {code : ByteArray} {n : Nat} {ret : Option FieldType} {fr lc mc ms : Nat} {Kp : State → Prop} {av : List Value} {Pre : Heap → Prop} {A : Nat → Prop} {post : Option Value → Heap → Prop} (hy : plainName y.cls = true) (hav : (lg_sl av).length ≤ n)
    (body : ∀ (p : Program) (e : Env) (s : State) (m : MethodId) (below : List Frame) (meth : Method) (c : Code) (ls : Array Slot), CallFix p m c code n s av.toArray lw_all y.cls → meth.sig.returnType = ret → meth.locks = false → meth.name = y.name → Kp s → Pre s.heap → lv_has ls n (lv_args 0 av) →
      W p l e ({ frames := fr, cells := mc, slots := ms, locals := lc }) s m av.toArray below meth c s.heap [] 0 0 (GZ below A post av s mc ms) (F0 m 0 ls [])) : GC l y code n ret fr lc mc ms Kp av Pre A post := by
  refine Met.ofW (cc := code) (maxL := n) (ret := ret) hy rfl ?_
  intro p e s m args below meth c s₁ B hml hv
  obtain ⟨rfl, hK, hPh⟩ := hv
  have hts := atoms_spec (ws := ws_ y code n ret) B.pre
  have hts' : ∀ w ∈ lw_all, w.before av.toArray s = true := fun w h => hts w (List.mem_cons_of_mem _ h)
  have hl := lv_entry av (n := n) hav
  rw [lg_entry_eq]
  generalize (lg_sl av ++ List.replicate (n - (lg_sl av).length) Slot.unset).toArray = ls at hl ⊢
  exact body p e s m below meth c ls ⟨B.exec, B.bytes, hml, findClass_of_methodNamed B.named, hts'⟩ B.returns B.notSynchronized (name_of_methodNamed B.named B.method).1 hK hPh hl
theorem Met.mono {l : Launch} {y : MethodName} {ws : List Cond} {rm : Room} {Pc Pc' : Array Value → State → Prop} {Qc Qc' : Array Value → State → Outcome → State → Prop} {mc ms : Nat} {free free' : Addr → Prop} (h : Met l y ws rm Pc Qc mc ms free) (hp : ∀ a s, Pc' a s → Pc a s) (hq : ∀ a s o t, Pc' a s → Qc a s o t → Qc' a s o t) (hf : ∀ q, free q → free' q) : Met l y ws rm Pc' Qc' mc ms free' := by
  intro p e h1 h2 h3 s m args below h4 h5 h6 h7
  obtain ⟨k, o, a1, a2, a3, ⟨a4, L, a5, a6⟩⟩ := h p e h1 h2 h3 s m args below h4 h5 (hp _ _ h6) trivial
  exact ⟨k, o, a1, a2, a3, hq _ _ _ _ h6 a4, L, a5, fun q hq => hf _ (a6 q hq)⟩
theorem RC.k2 {l : Launch} {y : MethodName} {code : ByteArray} {n : Nat} {ret : Option FieldType} {fr lc : Nat} {D : va_G} {dA : Nat → ClassId} {av : List Value} {Ph : Heap → Prop} {post : Option Value → Prop} (h : RC l y code n ret fr lc D dA av Ph post) : RC2 l y code n ret fr lc D dA av Ph post :=
  Met.mono h (fun _ _ x => ⟨x.1, x.2.1.1, x.2.2⟩) (fun _ _ _ _ _ q => q) (fun _ q => q)
theorem KC.k2 {l : Launch} {y : MethodName} {code : ByteArray} {n : Nat} {ret : Option FieldType} {fr lc : Nat} {D : va_G} {dA : Nat → ClassId} {a : Nat → Nat} {av : List Value} {σ : MS} {Ph : Heap → Prop} {post : Option Value → MS → Prop} (h : KC l y code n ret fr lc D dA a av σ Ph post) : KC2 l y code n ret fr lc D dA a av σ Ph post :=
  Met.mono h (fun _ _ x => ⟨x.1, x.2.1.1, x.2.2⟩) (fun _ _ _ _ _ q => q) (fun _ q => q)
/-- a method of the component that writes its own cells, in the general form -/
theorem KC2.gc {l : Launch} {y : MethodName} {code : ByteArray} {n : Nat} {ret : Option FieldType} {fr lc : Nat} {D : va_G} {dA : Nat → ClassId} {a : Nat → Nat} {av : List Value} {σ : MS} {Ph : Heap → Prop} {post : Option Value → MS → Prop} (h : KC2 l y code n ret fr lc D dA a av σ Ph post) :
    GC l y code n ret fr lc 0 0 (K2 D dA) av (fun H => va_P D vwCl (kW dA a σ) H ∧ Ph H) (kAd a) (fun v H => ∃ σ', post v σ' ∧ va_P D vwCl (kW dA a σ') H) :=
  Met.mono h (fun _ _ x => x) (fun _ _ _ _ _ q => ⟨(by obtain ⟨v, σ', e, hp, hP⟩ := q.1; exact ⟨v, e, σ', hp, hP⟩), q.2⟩) (fun _ q => q)
theorem RC2.gc {l : Launch} {y : MethodName} {code : ByteArray} {n : Nat} {ret : Option FieldType} {fr lc : Nat} {D : va_G} {dA : Nat → ClassId} {av : List Value} {Ph : Heap → Prop} {post : Option Value → Prop} (H0 : Heap) (h : RC2 l y code n ret fr lc D dA av Ph post) :
    GC l y code n ret fr lc 0 0 (K2 D dA) av (fun H => Ph H ∧ H = H0) (fun _ => False) (fun v H => post v ∧ H = H0) :=
  Met.mono h (fun _ _ x => ⟨x.1, x.2.1, x.2.2.1⟩) (fun a s o t x q => ⟨(by obtain ⟨v, e, hp⟩ := q.1; exact ⟨v, e, hp, q.2.trans x.2.2.2⟩), by rw [va_F, q.2]; exact ⟨Nat.le_refl _, fun _ _ _ => rfl⟩⟩) (fun _ q => q)
/-- what a call through a method of an upper class, or one that is written anew, asks -/
theorem lw_U {own : String} {idx : Nat} {C owner : String} {x y : MethodName} {b : ByteArray} {L : Nat} {r : Option FieldType} (h1 : Cond.methodLink own idx x ∈ lw_all) (h2 : Cond.sameMethod x.cls owner x.name x.desc ∈ lw_all) (h3 : Cond.selects C x y ∈ lw_all) (h4 : Cond.instanceMethod y ∈ lw_all) (h5 : Cond.initialized y.cls ∈ lw_all) (h6 : Cond.code y b L r ∈ lw_all) : GoodIn lw_all (va_wsU own idx C owner x y (ws_ y b L r)) := by
  refine lw_app ?_ (lw_meth h6)
  intro w hw
  simp only [List.mem_cons, List.not_mem_nil, or_false] at hw
  rcases hw with e | e | e | e | e
  · rw [e]; exact h1
  · rw [e]; exact h2
  · rw [e]; exact h3
  · rw [e]; exact h4
  · rw [e]; exact h5
theorem lw_SUp {own : String} {idx : Nat} {y : MethodName} {b : ByteArray} {L : Nat} {r : Option FieldType} (h1 : Cond.methodLink own idx y ∈ lw_all) (h2 : Cond.sameMethod y.cls y.cls y.name y.desc ∈ lw_all) (h3 : Cond.superclass own y.cls ∈ lw_all) (h4 : Cond.instanceMethod y ∈ lw_all) (h5 : Cond.initialized y.cls ∈ lw_all) (h6 : Cond.code y b L r ∈ lw_all) : GoodIn lw_all (va_wsSU own idx y (ws_ y b L r)) := by
  refine lw_app ?_ (lw_meth h6)
  intro w hw
  simp only [List.mem_cons, List.not_mem_nil, or_false] at hw
  rcases hw with e | e | e | e | e
  · rw [e]; exact h1
  · rw [e]; exact h2
  · rw [e]; exact h3
  · rw [e]; exact h4
  · rw [e]; exact h5
section GCR
variable {p : Program} {l : Launch} {e : Env} {R : Room} {s : State} {m : MethodId} {args : Array Value} {below : List Frame} {meth : Method} {c : Code} {H : Heap} {locs : List Loc} {cells slots : Nat} {Q : State → Prop}
variable {cc : ByteArray} {pc nL : Nat} {ls : Array Slot} {rest : List Value} {D : va_G} {dA : Nat → ClassId} {own : String} {A A0 : Nat → Prop} {H0 : Heap} {post : Option Value → Heap → Prop} {Kp : State → Prop} {mc ms : Nat}
theorem cu_U {C owner : String} {index maxL : Nat} {x y : MethodName} {bytes : ByteArray} {ret : Option FieldType} {rm : Room} (n : Nat) (hts : ∀ w ∈ lw_all, w.before args s = true) (hT : GoodIn lw_all (va_wsU own index C owner x y (ws_ y bytes maxL ret))) (hrc : rm.cells = mc) (hrs : rm.slots = ms) (hdl : va_Decl s ⟨owner, x.name, x.desc⟩)
    (hd : owner ≠ "java/lang/invoke/MethodHandle" ∧ owner ≠ "java/lang/invoke/VarHandle" ∧ (parseMethodDescriptor x.desc).map (fun d => d.parameters.length) = some n) (hR : rm.frames + 1 ≤ R.frames ∧ 8 + (maxL + 11) + rm.locals ≤ R.locals) : va_CU R s args own C owner index x y bytes maxL ret (ws_ y bytes maxL ret) rm mc ms n := by
  have ok : ∀ w ∈ va_wsU own index C owner x y (ws_ y bytes maxL ret), w.before args s = true := fun w h => hts w (hT w h).1
  have hG : GoodIn lw_all (ws_ y bytes maxL ret) := fun w h => hT w (by unfold va_wsU; exact List.mem_append_right _ h)
  have hc : Cond.code y bytes maxL ret ∈ ws_ y bytes maxL ret := List.mem_cons_self
  refine ⟨⟨hrc, hrs, hR.1, hR.2, pay_in hts hG, hc⟩, hts _ (hG _ hc).1, ok _ (by simp [va_wsU]), ⟨hd.1, hd.2.1⟩, fun sig h => ?_, ok _ (by simp [va_wsU]), ok _ (by simp [va_wsU]), hdl, ok _ (by simp [va_wsU]), ok _ (by simp [va_wsU])⟩
  have h2 := hd.2.2
  rw [h] at h2
  exact (Option.some.inj h2).symm
theorem dl_code {x : MethodName} {b : ByteArray} {n : Nat} {ret : Option FieldType} (hts : ∀ w ∈ lw_all, w.before args s = true) (hi : Cond.instanceMethod x ∈ lw_all) (hc : Cond.code x b n ret ∈ lw_all) : va_Decl s x := va_Decl.of (hts _ hi) (hts _ hc)
theorem dl_abs {x : MethodName} (hK : K2 D dA s) (h : Cond.declares x ∈ lw_tbl) : va_Decl s x := Cond.declares_spec (hK.2.1 _ h rfl)
theorem g_blind {Pre : Heap → Prop} {As : List Value} (hW : Wm Kp) : FrameBlind (va_Pc As (fun U => Kp U ∧ Pre U.heap)) := by
  intro a U g mk q
  obtain ⟨q0, qK, qP⟩ := q
  exact ⟨q0, hW U (U.calling g mk a) (State.WarmedH.refl U) qK, qP⟩
/-- behind a call -/
theorem g_back {g : JFrame} {rest : List Value} {aa : Array Value} (hS : va_S A0 H0 H locs) (hA : ∀ q, A q → A0 q) (hr : va_Run p l e R s m args below meth c H locs cells slots mc ms g rest (GQ A post aa) A)
    (kk : ∀ (v : Option Value) (H1 : Heap) (locs1 : List Loc), post v H1 → H.size ≤ H1.size → (∀ q, q < H.size → ¬ A q → H1[q]? = H[q]?) → va_S A0 H0 H1 locs1 → W p l e R s m args below meth c H1 locs1 (cells + mc) (slots + ms) Q ({ g with pc := g.pc + 3, stack := v.toList ++ rest })) : W p l e R s m args below meth c H locs cells slots Q g := by
  intro T hT X
  obtain ⟨v, st₀, t, T', L, e1, X', hL, e2, e3, ⟨⟨v', hv', hp⟩, hF⟩, go⟩ := hr T hT X
  cases hv'
  have h1 : H.size ≤ t.heap.size := by rw [← e1]; exact hF.1
  have h2 : ∀ q, q < H.size → ¬ A q → t.heap[q]? = H[q]? := fun q g1 g2 => by rw [hF.2 q (by rw [e1]; exact g1) g2, e1]
  have hS' : va_S A0 H0 t.heap (locs ++ L) := by
    refine ⟨Nat.le_trans hS.1 h1, fun q g1 g2 => ?_, fun q hq => ?_⟩
    · rw [h2 q (Nat.lt_of_lt_of_le g1 hS.1) (fun z => g2 (hA q z))]
      exact hS.2.1 q g1 g2
    · rcases List.mem_append.mp hq with h | h
      · exact hS.2.2 q h
      · exact hA _ (hL q h)
  obtain ⟨t2, a1, b1⟩ := kk v t.heap (locs ++ L) hp h1 h2 hS' T' e2 X'
  exact ⟨t2, go t2 a1, b1⟩
theorem g_back5 {g : JFrame} {rest : List Value} {aa : Array Value} (hS : va_S A0 H0 H locs) (hA : ∀ q, A q → A0 q) (hr : va_Run5 p l e R s m args below meth c H locs cells slots mc ms g rest (GQ A post aa) A)
    (kk : ∀ (v : Option Value) (H1 : Heap) (locs1 : List Loc), post v H1 → H.size ≤ H1.size → (∀ q, q < H.size → ¬ A q → H1[q]? = H[q]?) → va_S A0 H0 H1 locs1 → W p l e R s m args below meth c H1 locs1 (cells + mc) (slots + ms) Q ({ g with pc := g.pc + 5, stack := v.toList ++ rest })) : W p l e R s m args below meth c H locs cells slots Q g := by
  intro T hT X
  obtain ⟨v, st₀, t, T', L, e1, X', hL, e2, e3, ⟨⟨v', hv', hp⟩, hF⟩, go⟩ := hr T hT X
  cases hv'
  have h1 : H.size ≤ t.heap.size := by rw [← e1]; exact hF.1
  have h2 : ∀ q, q < H.size → ¬ A q → t.heap[q]? = H[q]? := fun q g1 g2 => by rw [hF.2 q (by rw [e1]; exact g1) g2, e1]
  have hS' : va_S A0 H0 t.heap (locs ++ L) := by
    refine ⟨Nat.le_trans hS.1 h1, fun q g1 g2 => ?_, fun q hq => ?_⟩
    · rw [h2 q (Nat.lt_of_lt_of_le g1 hS.1) (fun z => g2 (hA q z))]
      exact hS.2.1 q g1 g2
    · rcases List.mem_append.mp hq with h | h
      · exact hS.2.2 q h
      · exact hA _ (hL q h)
  obtain ⟨t2, a1, b1⟩ := kk v t.heap (locs ++ L) hp h1 h2 hS' T' e2 X'
  exact ⟨t2, go t2 a1, b1⟩
variable {y : MethodName} {code : ByteArray} {n index : Nat} {ret : Option FieldType} {fr lc : Nat} {Pre : Heap → Prop} {C : String} {b : Nat}
/-- a static call -/
theorem gc_S (As : List Value) (nn : Nat) (S : CallFix p m c cc nL s args lw_all own) (hKw : Wm Kp) (hK : Kp s) (hS : va_S A0 H0 H locs) (hA : ∀ q, A q → A0 q) (hC : GC l y code n ret fr lc mc ms Kp As Pre A post)
    (hw : GoodIn lw_all (va_wsS own index y (ws_ y code n ret))) (hd : y.cls ≠ "java/lang/invoke/MethodHandle" ∧ y.cls ≠ "java/lang/invoke/VarHandle" ∧ (parseMethodDescriptor y.desc).map (fun d => d.parameters.length) = some nn) (hn : As.length = nn) (hR : fr + 1 ≤ R.frames ∧ 8 + (n + 11) + lc ≤ R.locals)
    (hsz : ls.size = nL) (hst : (rest.map fun v => v.category).sum ≤ 8) (hdg : decode cc pc = .ok (.invokestatic index, 3)) (hf : cells + mc ≤ R.cells ∧ slots + ms ≤ R.slots) (hPh : Pre H)
    (kk : ∀ (v : Option Value) (H1 : Heap) (locs1 : List Loc), post v H1 → H.size ≤ H1.size → (∀ q, q < H.size → ¬ A q → H1[q]? = H[q]?) → va_S A0 H0 H1 locs1 → W p l e R s m args below meth c H1 locs1 (cells + mc) (slots + ms) Q (F0 m (pc + 3) ls (v.toList ++ rest))) {st : List Value} (hs : st = As.reverse ++ rest) : W p l e R s m args below meth c H locs cells slots Q (F0 m pc ls st) :=
  g_back (rest := rest) hS hA (va_runS (As := As) (rest := rest) S hC (va_cwS nn S.2.2.2.2 hw rfl rfl rfl hd hR) ⟨g_blind hKw, fun U hU hW => ⟨rfl, hKw _ _ hW hK, by rw [hU]; exact hPh⟩⟩ rfl hn hsz hs (lv_room hst) hdg hf) kk
/-- a call through an object of the class that declares the method -/
theorem gc_V (As : List Value) (nn : Nat) (S : CallFix p m c cc nL s args lw_all own) (hKw : Wm Kp) (hK : Kp s) (hS : va_S A0 H0 H locs) (hA : ∀ q, A q → A0 q) (hC : GC l y code n ret fr lc mc ms Kp (.ref b :: As) Pre A post)
    (hw : GoodIn lw_all (wsV own index C y (ws_ y code n ret))) (hd : y.cls = C ∧ y.cls ≠ "java/lang/invoke/MethodHandle" ∧ y.cls ≠ "java/lang/invoke/VarHandle" ∧ (parseMethodDescriptor y.desc).map (fun d => d.parameters.length) = some nn) (hn : As.length = nn) (hR : fr + 1 ≤ R.frames ∧ 8 + (n + 11) + lc ≤ R.locals)
    (hrc : ∃ cell : Cell, H[b]? = some cell ∧ cell.vm.isStatics = false ∧ s.vm.findClass C = some cell.cls)
    (hsz : ls.size = nL) (hst : (rest.map fun v => v.category).sum ≤ 8) (hdg : decode cc pc = .ok (.invokevirtual index, 3)) (hf : cells + mc ≤ R.cells ∧ slots + ms ≤ R.slots) (hPh : Pre H)
    (kk : ∀ (v : Option Value) (H1 : Heap) (locs1 : List Loc), post v H1 → H.size ≤ H1.size → (∀ q, q < H.size → ¬ A q → H1[q]? = H[q]?) → va_S A0 H0 H1 locs1 → W p l e R s m args below meth c H1 locs1 (cells + mc) (slots + ms) Q (F0 m (pc + 3) ls (v.toList ++ rest))) {st : List Value} (hs : st = As.reverse ++ .ref b :: rest) : W p l e R s m args below meth c H locs cells slots Q (F0 m pc ls st) :=
  g_back (rest := rest) hS hA (va_runV (As := As) (rest := rest) S hC (cwV nn S.2.2.2.2 hw rfl rfl rfl hd hR) ⟨g_blind hKw, hrc, fun U hU hW => ⟨rfl, hKw _ _ hW hK, by rw [hU]; exact hPh⟩⟩ rfl hn hsz hs (lv_room hst) hdg hf) kk
/-- a call of an inherited method, or of one that is written anew -/
theorem gc_U {x : MethodName} {owner : String} (As : List Value) (nn : Nat) (S : CallFix p m c cc nL s args lw_all own) (hKw : Wm Kp) (hK : Kp s) (hS : va_S A0 H0 H locs) (hA : ∀ q, A q → A0 q) (hC : GC l y code n ret fr lc mc ms Kp (.ref b :: As) Pre A post)
    (hw : GoodIn lw_all (va_wsU own index C owner x y (ws_ y code n ret))) (hdl : va_Decl s ⟨owner, x.name, x.desc⟩) (hd : owner ≠ "java/lang/invoke/MethodHandle" ∧ owner ≠ "java/lang/invoke/VarHandle" ∧ (parseMethodDescriptor x.desc).map (fun d => d.parameters.length) = some nn) (hn : As.length = nn) (hR : fr + 1 ≤ R.frames ∧ 8 + (n + 11) + lc ≤ R.locals)
    (hrc : ∃ cell : Cell, H[b]? = some cell ∧ cell.vm.isStatics = false ∧ s.vm.findClass C = some cell.cls)
    (hsz : ls.size = nL) (hst : (rest.map fun v => v.category).sum ≤ 8) (hdg : decode cc pc = .ok (.invokevirtual index, 3)) (hf : cells + mc ≤ R.cells ∧ slots + ms ≤ R.slots) (hPh : Pre H)
    (kk : ∀ (v : Option Value) (H1 : Heap) (locs1 : List Loc), post v H1 → H.size ≤ H1.size → (∀ q, q < H.size → ¬ A q → H1[q]? = H[q]?) → va_S A0 H0 H1 locs1 → W p l e R s m args below meth c H1 locs1 (cells + mc) (slots + ms) Q (F0 m (pc + 3) ls (v.toList ++ rest))) {st : List Value} (hs : st = As.reverse ++ .ref b :: rest) : W p l e R s m args below meth c H locs cells slots Q (F0 m pc ls st) :=
  g_back (rest := rest) hS hA (va_runU (As := As) (rest := rest) S hC (cu_U nn S.2.2.2.2 hw rfl rfl hdl hd hR) ⟨g_blind hKw, hrc, fun U hU hW => ⟨rfl, hKw _ _ hW hK, by rw [hU]; exact hPh⟩⟩ rfl hn hsz hs (lv_room hst) hdg hf) kk
/-- a call of the upper class's method -/
theorem gc_SU {cC : ClassId} (As : List Value) (nn : Nat) (S : CallFix p m c cc nL s args lw_all own) (hat : ClassAt s C cC) (hKw : Wm Kp) (hK : Kp s) (hS : va_S A0 H0 H locs) (hA : ∀ q, A q → A0 q) (hC : GC l y code n ret fr lc mc ms Kp (.ref b :: As) Pre A post)
    (hw : GoodIn lw_all (va_wsSU own index y (ws_ y code n ret))) (hd : y.name ≠ "<init>" ∧ (parseMethodDescriptor y.desc).map (fun d => d.parameters.length) = some nn) (hn : As.length = nn) (hR : fr + 1 ≤ R.frames ∧ 8 + (n + 11) + lc ≤ R.locals)
    (hrc : ∃ cell : Cell, H[b]? = some cell ∧ cell.vm.isStatics = false ∧ s.vm.findClass C = some cell.cls)
    (hsz : ls.size = nL) (hst : (rest.map fun v => v.category).sum ≤ 8) (hdg : decode cc pc = .ok (.invokespecial index, 3)) (hf : cells + mc ≤ R.cells ∧ slots + ms ≤ R.slots) (hPh : Pre H)
    (kk : ∀ (v : Option Value) (H1 : Heap) (locs1 : List Loc), post v H1 → H.size ≤ H1.size → (∀ q, q < H.size → ¬ A q → H1[q]? = H[q]?) → va_S A0 H0 H1 locs1 → W p l e R s m args below meth c H1 locs1 (cells + mc) (slots + ms) Q (F0 m (pc + 3) ls (v.toList ++ rest))) {st : List Value} (hs : st = As.reverse ++ .ref b :: rest) : W p l e R s m args below meth c H locs cells slots Q (F0 m pc ls st) :=
  g_back (rest := rest) hS hA (va_runSU (As := As) (rest := rest) hat S hC (va_cwSU nn S.2.2.2.2 hw rfl rfl rfl hd hR) ⟨g_blind hKw, hrc, fun U hU hW => ⟨rfl, hKw _ _ hW hK, by rw [hU]; exact hPh⟩⟩ rfl hn hsz hs (lv_room hst) hdg hf) kk
/-- a constructor is called -/
theorem gc_I (As : List Value) (nn : Nat) (S : CallFix p m c cc nL s args lw_all own) (hKw : Wm Kp) (hK : Kp s) (hS : va_S A0 H0 H locs) (hA : ∀ q, A q → A0 q) (hC : GC l y code n none fr lc mc ms Kp (.ref b :: As) Pre A post)
    (hc : Cond.code y code n none ∈ lw_all) (hini : Cond.initialized y.cls ∈ lw_all) (hl : Cond.methodLink own index y ∈ lw_all) (hin : Cond.instanceMethod y ∈ lw_all) (hy1 : y.name = "<init>") (hd : y.cls ≠ "java/lang/invoke/MethodHandle" ∧ y.cls ≠ "java/lang/invoke/VarHandle" ∧ (parseMethodDescriptor y.desc).map (fun d => d.parameters.length) = some nn) (hn : As.length = nn) (hR : fr + 1 ≤ R.frames ∧ 8 + (n + 11) + lc ≤ R.locals)
    (hsz : ls.size = nL) (hst : (rest.map fun v => v.category).sum ≤ 8) (hdg : decode cc pc = .ok (.invokespecial index, 3)) (hf : cells + mc ≤ R.cells ∧ slots + ms ≤ R.slots) (hPh : Pre H)
    (kk : ∀ (v : Option Value) (H1 : Heap) (locs1 : List Loc), post v H1 → H.size ≤ H1.size → (∀ q, q < H.size → ¬ A q → H1[q]? = H[q]?) → va_S A0 H0 H1 locs1 → W p l e R s m args below meth c H1 locs1 (cells + mc) (slots + ms) Q (F0 m (pc + 3) ls (v.toList ++ rest))) {st : List Value} (hs : st = As.reverse ++ .ref b :: rest) : W p l e R s m args below meth c H locs cells slots Q (F0 m pc ls st) :=
  g_back (rest := rest) hS hA (va_runI (As := As) (rest := rest) S hC (cwI nn S.2.2.2.2 (lw_meth hc) rfl rfl rfl (S.2.2.2.2 _ hini) (S.2.2.2.2 _ hl) (S.2.2.2.2 _ hin) hy1 hd hR) ⟨g_blind hKw, fun U hU hW => ⟨rfl, hKw _ _ hW hK, by rw [hU]; exact hPh⟩⟩ rfl hn hsz hs (lv_room hst) hdg hf) kk
/-- private ones of a mate in the nest: a constructor, a static method, one of an object -/
theorem gc_IN {host : String} (As : List Value) (nn : Nat) (S : CallFix p m c cc nL s args lw_all own) (hKw : Wm Kp) (hK : Kp s) (hS : va_S A0 H0 H locs) (hA : ∀ q, A q → A0 q) (hC : GC l y code n none fr lc mc ms Kp (.ref b :: As) Pre A post)
    (hc : Cond.code y code n none ∈ lw_all) (hini : Cond.initialized y.cls ∈ lw_all) (hl : va_Nw (.methodLinkNest own index y host) s) (hin : Cond.instanceMethod y ∈ lw_all) (hy1 : y.name = "<init>") (hd : y.cls ≠ "java/lang/invoke/MethodHandle" ∧ y.cls ≠ "java/lang/invoke/VarHandle" ∧ (parseMethodDescriptor y.desc).map (fun d => d.parameters.length) = some nn) (hn : As.length = nn) (hR : fr + 1 ≤ R.frames ∧ 8 + (n + 11) + lc ≤ R.locals)
    (hsz : ls.size = nL) (hst : (rest.map fun v => v.category).sum ≤ 8) (hdg : decode cc pc = .ok (.invokespecial index, 3)) (hf : cells + mc ≤ R.cells ∧ slots + ms ≤ R.slots) (hPh : Pre H)
    (kk : ∀ (v : Option Value) (H1 : Heap) (locs1 : List Loc), post v H1 → H.size ≤ H1.size → (∀ q, q < H.size → ¬ A q → H1[q]? = H[q]?) → va_S A0 H0 H1 locs1 → W p l e R s m args below meth c H1 locs1 (cells + mc) (slots + ms) Q (F0 m (pc + 3) ls (v.toList ++ rest))) {st : List Value} (hs : st = As.reverse ++ .ref b :: rest) : W p l e R s m args below meth c H locs cells slots Q (F0 m pc ls st) :=
  g_back (rest := rest) hS hA (va_runIN (As := As) (rest := rest) S hC ⟨va_cnB nn S.2.2.2.2 (lw_meth hc) rfl rfl rfl hl (S.2.2.2.2 _ hini) hd hR, hy1, S.2.2.2.2 _ hin⟩ ⟨g_blind hKw, fun U hU hW => ⟨rfl, hKw _ _ hW hK, by rw [hU]; exact hPh⟩⟩ rfl hn hsz hs (lv_room hst) hdg hf) kk
theorem gc_SN {host : String} (As : List Value) (nn : Nat) (S : CallFix p m c cc nL s args lw_all own) (hKw : Wm Kp) (hK : Kp s) (hS : va_S A0 H0 H locs) (hA : ∀ q, A q → A0 q) (hC : GC l y code n ret fr lc mc ms Kp As Pre A post)
    (hc : Cond.code y code n ret ∈ lw_all) (hini : Cond.initialized y.cls ∈ lw_all) (hl : va_Nw (.methodLinkNest own index y host) s) (hin : Cond.static y ∈ lw_all) (hd : y.cls ≠ "java/lang/invoke/MethodHandle" ∧ y.cls ≠ "java/lang/invoke/VarHandle" ∧ (parseMethodDescriptor y.desc).map (fun d => d.parameters.length) = some nn) (hn : As.length = nn) (hR : fr + 1 ≤ R.frames ∧ 8 + (n + 11) + lc ≤ R.locals)
    (hsz : ls.size = nL) (hst : (rest.map fun v => v.category).sum ≤ 8) (hdg : decode cc pc = .ok (.invokestatic index, 3)) (hf : cells + mc ≤ R.cells ∧ slots + ms ≤ R.slots) (hPh : Pre H)
    (kk : ∀ (v : Option Value) (H1 : Heap) (locs1 : List Loc), post v H1 → H.size ≤ H1.size → (∀ q, q < H.size → ¬ A q → H1[q]? = H[q]?) → va_S A0 H0 H1 locs1 → W p l e R s m args below meth c H1 locs1 (cells + mc) (slots + ms) Q (F0 m (pc + 3) ls (v.toList ++ rest))) {st : List Value} (hs : st = As.reverse ++ rest) : W p l e R s m args below meth c H locs cells slots Q (F0 m pc ls st) :=
  g_back (rest := rest) hS hA (va_runSN (As := As) (rest := rest) S hC ⟨va_cnB nn S.2.2.2.2 (lw_meth hc) rfl rfl rfl hl (S.2.2.2.2 _ hini) hd hR, S.2.2.2.2 _ hin, trivial⟩ ⟨g_blind hKw, fun U hU hW => ⟨rfl, hKw _ _ hW hK, by rw [hU]; exact hPh⟩⟩ rfl hn hsz hs (lv_room hst) hdg hf) kk
theorem gc_VN {host : String} (As : List Value) (nn : Nat) (S : CallFix p m c cc nL s args lw_all own) (hKw : Wm Kp) (hK : Kp s) (hS : va_S A0 H0 H locs) (hA : ∀ q, A q → A0 q) (hC : GC l y code n ret fr lc mc ms Kp (.ref b :: As) Pre A post)
    (hc : Cond.code y code n ret ∈ lw_all) (hini : Cond.initialized y.cls ∈ lw_all) (hl : va_Nw (.methodLinkNest own index y host) s) (hin : Cond.instanceMethod y ∈ lw_all) (hsl : Cond.selects C y y ∈ lw_all) (hd : y.cls ≠ "java/lang/invoke/MethodHandle" ∧ y.cls ≠ "java/lang/invoke/VarHandle" ∧ (parseMethodDescriptor y.desc).map (fun d => d.parameters.length) = some nn) (hn : As.length = nn) (hR : fr + 1 ≤ R.frames ∧ 8 + (n + 11) + lc ≤ R.locals)
    (hrc : ∃ cell : Cell, H[b]? = some cell ∧ cell.vm.isStatics = false ∧ s.vm.findClass C = some cell.cls)
    (hsz : ls.size = nL) (hst : (rest.map fun v => v.category).sum ≤ 8) (hdg : decode cc pc = .ok (.invokevirtual index, 3)) (hf : cells + mc ≤ R.cells ∧ slots + ms ≤ R.slots) (hPh : Pre H)
    (kk : ∀ (v : Option Value) (H1 : Heap) (locs1 : List Loc), post v H1 → H.size ≤ H1.size → (∀ q, q < H.size → ¬ A q → H1[q]? = H[q]?) → va_S A0 H0 H1 locs1 → W p l e R s m args below meth c H1 locs1 (cells + mc) (slots + ms) Q (F0 m (pc + 3) ls (v.toList ++ rest))) {st : List Value} (hs : st = As.reverse ++ .ref b :: rest) : W p l e R s m args below meth c H locs cells slots Q (F0 m pc ls st) :=
  g_back (rest := rest) hS hA (va_runVN (As := As) (rest := rest) S hC ⟨va_cnB nn S.2.2.2.2 (lw_meth hc) rfl rfl rfl hl (S.2.2.2.2 _ hini) hd hR, S.2.2.2.2 _ hin, S.2.2.2.2 _ hsl⟩ ⟨g_blind hKw, hrc, fun U hU hW => ⟨rfl, hKw _ _ hW hK, by rw [hU]; exact hPh⟩⟩ rfl hn hsz hs (lv_room hst) hdg hf) kk
/-- a call through an interface -/
theorem gc_F {x : MethodName} {cC : ClassId} {count : Nat} (As : List Value) (nn : Nat) (S : CallFix p m c cc nL s args lw_all own) (hat : ClassAt s C cC) (hFw : va_Fw C x y s) (hKw : Wm Kp) (hK : Kp s) (hS : va_S A0 H0 H locs) (hA : ∀ q, A q → A0 q) (hC : GC l y code n ret fr lc mc ms Kp (.ref b :: As) Pre A post)
    (hw : GoodIn lw_all (va_wsF own index C x y (ws_ y code n ret))) (hd : x.cls ≠ "java/lang/invoke/MethodHandle" ∧ x.cls ≠ "java/lang/invoke/VarHandle" ∧ (parseMethodDescriptor x.desc).map (fun d => d.parameters.length) = some nn) (hn : As.length = nn) (hR : fr + 1 ≤ R.frames ∧ 8 + (n + 11) + lc ≤ R.locals)
    (hrc : ∃ cell : Cell, H[b]? = some cell ∧ cell.vm.isStatics = false ∧ s.vm.findClass C = some cell.cls)
    (hsz : ls.size = nL) (hst : (rest.map fun v => v.category).sum ≤ 8) (hdg : decode cc pc = .ok (.invokeinterface index count, 5)) (hf : cells + mc ≤ R.cells ∧ slots + ms ≤ R.slots) (hPh : Pre H)
    (kk : ∀ (v : Option Value) (H1 : Heap) (locs1 : List Loc), post v H1 → H.size ≤ H1.size → (∀ q, q < H.size → ¬ A q → H1[q]? = H[q]?) → va_S A0 H0 H1 locs1 → W p l e R s m args below meth c H1 locs1 (cells + mc) (slots + ms) Q (F0 m (pc + 5) ls (v.toList ++ rest))) {st : List Value} (hs : st = As.reverse ++ .ref b :: rest) : W p l e R s m args below meth c H locs cells slots Q (F0 m pc ls st) :=
  g_back5 (rest := rest) hS hA (va_runF (As := As) (rest := rest) hat S hC (va_cwF nn S.2.2.2.2 hw rfl rfl rfl hFw hd hR) ⟨g_blind hKw, hrc, fun U hU hW => ⟨rfl, hKw _ _ hW hK, by rw [hU]; exact hPh⟩⟩ rfl hn hsz hs (lv_room hst) hdg hf) kk
end GCR
