/-! RULES: calls whose answer is a number that is known; places of arrays by natural numbers -/
set_option maxRecDepth 100000
section RUL
variable {p : Program} {l : Launch} {e : Env} {R : Room} {s : State} {m : MethodId} {args : Array Value} {below : List Frame} {meth : Method} {c : Code} {H : Heap} {locs : List Loc} {cells slots : Nat} {Q : State → Prop}
variable {cc : ByteArray} {pc nL : Nat} {ls : Array Slot} {rest : List Value} {D : va_G} {dA : Nat → ClassId} {own : String} {a : Nat → Nat} {σ τ : MS} {H0 : Heap}
variable {y : MethodName} {code : ByteArray} {n index : Nat} {ret : Option FieldType} {fr lc : Nat} {Ph : Heap → Prop}
theorem rc_Si {X : Int32} (As : List Value) (nn : Nat) (S : CallFix p m c cc nL s args lw_all own) (hK : va_K D vwCl (tyL dA) s) (hC : RC l y code n ret fr lc D dA As Ph (fun v => v = some (.int X)))
    (hw : GoodIn lw_all (va_wsS own index y (ws_ y code n ret))) (hd : y.cls ≠ "java/lang/invoke/MethodHandle" ∧ y.cls ≠ "java/lang/invoke/VarHandle" ∧ (parseMethodDescriptor y.desc).map (fun d => d.parameters.length) = some nn) (hn : As.length = nn) (hR : fr + 1 ≤ R.frames ∧ 8 + (n + 11) + lc ≤ R.locals)
    (hsz : ls.size = nL) (hst : (rest.map fun v => v.category).sum ≤ 8) (hdg : decode cc pc = .ok (.invokestatic index, 3)) (hf : cells ≤ R.cells ∧ slots ≤ R.slots) (hPh : Ph H)
    (kk : W p l e R s m args below meth c H locs cells slots Q (F0 m (pc + 3) ls (.int X :: rest))) {st : List Value} (hs : st = As.reverse ++ rest) : W p l e R s m args below meth c H locs cells slots Q (F0 m pc ls st) :=
  rc_S As nn S hK hC hw hd hn hR hsz hst hdg hf hPh (fun v hv => by subst hv; exact kk) hs
theorem rc_Vi {X : Int32} {C : String} {b : Nat} (As : List Value) (nn : Nat) (S : CallFix p m c cc nL s args lw_all own) (hK : va_K D vwCl (tyL dA) s) (hC : RC l y code n ret fr lc D dA (.ref b :: As) Ph (fun v => v = some (.int X)))
    (hw : GoodIn lw_all (wsV own index C y (ws_ y code n ret))) (hd : y.cls = C ∧ y.cls ≠ "java/lang/invoke/MethodHandle" ∧ y.cls ≠ "java/lang/invoke/VarHandle" ∧ (parseMethodDescriptor y.desc).map (fun d => d.parameters.length) = some nn) (hn : As.length = nn) (hR : fr + 1 ≤ R.frames ∧ 8 + (n + 11) + lc ≤ R.locals)
    (hrc : ∃ cell : Cell, H[b]? = some cell ∧ cell.vm.isStatics = false ∧ s.vm.findClass C = some cell.cls)
    (hsz : ls.size = nL) (hst : (rest.map fun v => v.category).sum ≤ 8) (hdg : decode cc pc = .ok (.invokevirtual index, 3)) (hf : cells ≤ R.cells ∧ slots ≤ R.slots) (hPh : Ph H)
    (kk : W p l e R s m args below meth c H locs cells slots Q (F0 m (pc + 3) ls (.int X :: rest))) {st : List Value} (hs : st = As.reverse ++ .ref b :: rest) : W p l e R s m args below meth c H locs cells slots Q (F0 m pc ls st) :=
  rc_V As nn S hK hC hw hd hn hR hrc hsz hst hdg hf hPh (fun v hv => by subst hv; exact kk) hs
theorem mc_Vi {X : Int32} (As : List Value) (nn : Nat) (S : CallFix p m c cc nL s args lw_all own) (hK : va_K D vwCl (tyL dA) s) (hM : MB D dA a σ H0 H locs) (hC : MC l y code n ret fr lc D dA a (.ref (a 0) :: As) σ (fun v σ' => v = some (.int X) ∧ σ' = τ))
    (hw : GoodIn lw_all (wsV own index RX1 y (ws_ y code n ret))) (hd : y.cls = RX1 ∧ y.cls ≠ "java/lang/invoke/MethodHandle" ∧ y.cls ≠ "java/lang/invoke/VarHandle" ∧ (parseMethodDescriptor y.desc).map (fun d => d.parameters.length) = some nn) (hn : As.length = nn) (hR : fr + 1 ≤ R.frames ∧ 8 + (n + 11) + lc ≤ R.locals)
    (hsz : ls.size = nL) (hst : (rest.map fun v => v.category).sum ≤ 8) (hdg : decode cc pc = .ok (.invokevirtual index, 3)) (hf : cells ≤ R.cells ∧ slots ≤ R.slots)
    (kk : ∀ (H : Heap) (locs : List Loc), MB D dA a τ H0 H locs → W p l e R s m args below meth c H locs cells slots Q (F0 m (pc + 3) ls (.int X :: rest))) {st : List Value} (hs : st = As.reverse ++ .ref (a 0) :: rest) : W p l e R s m args below meth c H locs cells slots Q (F0 m pc ls st) :=
  mc_V As nn S hK hM hC hw hd hn hR hsz hst hdg hf (fun v σ' H locs hv hM => by obtain ⟨rfl, rfl⟩ := hv; exact kk H locs hM) hs
theorem mc_Vl {X : Int64} (As : List Value) (nn : Nat) (S : CallFix p m c cc nL s args lw_all own) (hK : va_K D vwCl (tyL dA) s) (hM : MB D dA a σ H0 H locs) (hC : MC l y code n ret fr lc D dA a (.ref (a 0) :: As) σ (fun v σ' => v = some (.long X) ∧ σ' = τ))
    (hw : GoodIn lw_all (wsV own index RX1 y (ws_ y code n ret))) (hd : y.cls = RX1 ∧ y.cls ≠ "java/lang/invoke/MethodHandle" ∧ y.cls ≠ "java/lang/invoke/VarHandle" ∧ (parseMethodDescriptor y.desc).map (fun d => d.parameters.length) = some nn) (hn : As.length = nn) (hR : fr + 1 ≤ R.frames ∧ 8 + (n + 11) + lc ≤ R.locals)
    (hsz : ls.size = nL) (hst : (rest.map fun v => v.category).sum ≤ 8) (hdg : decode cc pc = .ok (.invokevirtual index, 3)) (hf : cells ≤ R.cells ∧ slots ≤ R.slots)
    (kk : ∀ (H : Heap) (locs : List Loc), MB D dA a τ H0 H locs → W p l e R s m args below meth c H locs cells slots Q (F0 m (pc + 3) ls (.long X :: rest))) {st : List Value} (hs : st = As.reverse ++ .ref (a 0) :: rest) : W p l e R s m args below meth c H locs cells slots Q (F0 m pc ls st) :=
  mc_V As nn S hK hM hC hw hd hn hR hsz hst hdg hf (fun v σ' H locs hv hM => by obtain ⟨rfl, rfl⟩ := hv; exact kk H locs hM) hs
theorem mc_Vv (As : List Value) (nn : Nat) (S : CallFix p m c cc nL s args lw_all own) (hK : va_K D vwCl (tyL dA) s) (hM : MB D dA a σ H0 H locs) (hC : MC l y code n ret fr lc D dA a (.ref (a 0) :: As) σ (fun v σ' => v = none ∧ σ' = τ))
    (hw : GoodIn lw_all (wsV own index RX1 y (ws_ y code n ret))) (hd : y.cls = RX1 ∧ y.cls ≠ "java/lang/invoke/MethodHandle" ∧ y.cls ≠ "java/lang/invoke/VarHandle" ∧ (parseMethodDescriptor y.desc).map (fun d => d.parameters.length) = some nn) (hn : As.length = nn) (hR : fr + 1 ≤ R.frames ∧ 8 + (n + 11) + lc ≤ R.locals)
    (hsz : ls.size = nL) (hst : (rest.map fun v => v.category).sum ≤ 8) (hdg : decode cc pc = .ok (.invokevirtual index, 3)) (hf : cells ≤ R.cells ∧ slots ≤ R.slots)
    (kk : ∀ (H : Heap) (locs : List Loc), MB D dA a τ H0 H locs → W p l e R s m args below meth c H locs cells slots Q (F0 m (pc + 3) ls rest)) {st : List Value} (hs : st = As.reverse ++ .ref (a 0) :: rest) : W p l e R s m args below meth c H locs cells slots Q (F0 m pc ls st) :=
  mc_V As nn S hK hM hC hw hd hn hR hsz hst hdg hf (fun v σ' H locs hv hM => by obtain ⟨rfl, rfl⟩ := hv; exact kk H locs hM) hs
theorem mN_lt : ∀ k, mN k < 2 ^ 31 := by
  intro k
  by_cases h : k < 30
  · have : ∀ k, k < 30 → mN k < 2 ^ 31 := by decide +kernel
    exact this k h
  · unfold mN
    rw [List.getD_eq_getElem?_getD, List.getElem?_eq_none (by simp; omega)]
    decide
/-- places by natural numbers -/
theorem m_aldn (S : CallFix p m c cc nL s args lw_all RX1) (hK : va_K D vwCl (tyL dA) s) (hP : va_P D vwCl (mW dA a σ) H) (k : Nat) (hk : k ∈ mL) (hkd : mKd k = 1) {j : Nat} (hj : j < mN k) (hdg : decode cc pc = .ok (.iaload, 1))
    {v : Int32} (hv : σ.2.1 k j = v) (kk : W p l e R s m args below meth c H locs cells slots Q (F0 m (pc + 1) ls (.int v :: rest))) : W p l e R s m args below meth c H locs cells slots Q (F0 m pc ls (.int (nI j) :: .ref (a k) :: rest)) :=
  m_ald S hK hP k hk hkd (vp_in_nI hj (mN_lt k)) hdg (by rw [nI_clamp (Nat.lt_trans hj (mN_lt k)), hv]; exact kk)
theorem m_lldn (S : CallFix p m c cc nL s args lw_all RX1) (hK : va_K D vwCl (tyL dA) s) (hP : va_P D vwCl (mW dA a σ) H) (k : Nat) (hk : k ∈ mL) (hkd : mKd k = 2) {j : Nat} (hj : j < mN k) (hdg : decode cc pc = .ok (.laload, 1))
    {v : Int64} (hv : σ.2.2.1 k j = v) (kk : W p l e R s m args below meth c H locs cells slots Q (F0 m (pc + 1) ls (.long v :: rest))) : W p l e R s m args below meth c H locs cells slots Q (F0 m pc ls (.int (nI j) :: .ref (a k) :: rest)) :=
  m_lld S hK hP k hk hkd (vp_in_nI hj (mN_lt k)) hdg (by rw [nI_clamp (Nat.lt_trans hj (mN_lt k)), hv]; exact kk)
theorem m_astn (hI : mInj a) (S : CallFix p m c cc nL s args lw_all RX1) (hK : va_K D vwCl (tyL dA) s) (hM : MB D dA a σ H0 H locs) (k : Nat) (hk : k ∈ mL) (hkd : mKd k = 1) {j : Nat} {x : Int32} (hj : j < mN k) (hdg : decode cc pc = .ok (.iastore, 1))
    (kk : ∀ (H : Heap) (locs : List Loc), MB D dA a (σ.b k (upd (σ.2.1 k) j x)) H0 H locs → W p l e R s m args below meth c H locs cells slots Q (F0 m (pc + 1) ls rest)) : W p l e R s m args below meth c H locs cells slots Q (F0 m pc ls (.int x :: .int (nI j) :: .ref (a k) :: rest)) :=
  m_ast hI S hK hM k hk hkd (vp_in_nI hj (mN_lt k)) hdg (fun H locs h => by rw [nI_clamp (Nat.lt_trans hj (mN_lt k))] at h; exact kk H locs h)
theorem m_lstn (hI : mInj a) (S : CallFix p m c cc nL s args lw_all RX1) (hK : va_K D vwCl (tyL dA) s) (hM : MB D dA a σ H0 H locs) (k : Nat) (hk : k ∈ mL) (hkd : mKd k = 2) {j : Nat} {x : Int64} (hj : j < mN k) (hdg : decode cc pc = .ok (.lastore, 1))
    (kk : ∀ (H : Heap) (locs : List Loc), MB D dA a (σ.l k (vp_updL (σ.2.2.1 k) j x)) H0 H locs → W p l e R s m args below meth c H locs cells slots Q (F0 m (pc + 1) ls rest)) : W p l e R s m args below meth c H locs cells slots Q (F0 m pc ls (.long x :: .int (nI j) :: .ref (a k) :: rest)) :=
  m_lst hI S hK hM k hk hkd (vp_in_nI hj (mN_lt k)) hdg (fun H locs h => by rw [nI_clamp (Nat.lt_trans hj (mN_lt k))] at h; exact kk H locs h)
/-- a place of an int array that is known as a cell -/
theorem c_aldn (S : CallFix p m c cc nL s args lw_all own) (hK : va_K D vwCl (tyL dA) s) {b N : Nat} {f : Nat → Int32} (hb : H[b]? = some (vp_cell (dA 0) (N, .inl f))) {j : Nat} (hj : j < N) (hN : N < 2 ^ 31) (hdg : decode cc pc = .ok (.iaload, 1))
    {v : Int32} (hv : f j = v) (kk : W p l e R s m args below meth c H locs cells slots Q (F0 m (pc + 1) ls (.int v :: rest))) : W p l e R s m args below meth c H locs cells slots Q (F0 m pc ls (.int (nI j) :: .ref b :: rest)) :=
  va_iald (ws := [(b, .inl (dA 0, N, .inl f))]) S.1 S.2.1 hK (fun k q hq => by
    match k, hq with
    | 0, hq => cases hq; exact hb
    | k + 1, hq => simp at hq) 0 0 rfl rfl (vp_in_nI hj hN) hdg (by rw [nI_clamp (Nat.lt_trans hj hN), hv]; exact kk)
/-- the word that stands on the stack may be told otherwise -/
theorem topi {x z : Int32} (h : x = z) (k : W p l e R s m args below meth c H locs cells slots Q (F0 m pc ls (.int z :: rest))) : W p l e R s m args below meth c H locs cells slots Q (F0 m pc ls (.int x :: rest)) := h ▸ k
theorem topl {x z : Int64} (h : x = z) (k : W p l e R s m args below meth c H locs cells slots Q (F0 m pc ls (.long z :: rest))) : W p l e R s m args below meth c H locs cells slots Q (F0 m pc ls (.long x :: rest)) := h ▸ k
end RUL
theorem i32_ne {x : Int32} {k : Int} {z : Int32} (hz : z.toInt = k) (h : ¬ x = z) : x.toInt ≠ k := fun e => h (Int32.toInt_inj.mp (e.trans hz.symm))
/-- a switch on 0 .. 5 (0 .. 4, 0 .. 3, 1 .. 2): none of them -/
theorem sw_out0_5 {x : Int32} (h0 : ¬ x = 0) (h1 : ¬ x = 1) (h2 : ¬ x = 2) (h3 : ¬ x = 3) (h4 : ¬ x = 4) (h5 : ¬ x = 5) : x.toInt < 0 ∨ 5 < x.toInt := by
  have a0 := i32_ne (k := 0) rfl h0; have a1 := i32_ne (k := 1) rfl h1; have a2 := i32_ne (k := 2) rfl h2
  have a3 := i32_ne (k := 3) rfl h3; have a4 := i32_ne (k := 4) rfl h4; have a5 := i32_ne (k := 5) rfl h5
  omega
theorem sw_out0_4 {x : Int32} (h0 : ¬ x = 0) (h1 : ¬ x = 1) (h2 : ¬ x = 2) (h3 : ¬ x = 3) (h4 : ¬ x = 4) : x.toInt < 0 ∨ 4 < x.toInt := by
  have a0 := i32_ne (k := 0) rfl h0; have a1 := i32_ne (k := 1) rfl h1; have a2 := i32_ne (k := 2) rfl h2
  have a3 := i32_ne (k := 3) rfl h3; have a4 := i32_ne (k := 4) rfl h4
  omega
theorem sw_out0_3 {x : Int32} (h0 : ¬ x = 0) (h1 : ¬ x = 1) (h2 : ¬ x = 2) (h3 : ¬ x = 3) : x.toInt < 0 ∨ 3 < x.toInt := by
  have a0 := i32_ne (k := 0) rfl h0; have a1 := i32_ne (k := 1) rfl h1; have a2 := i32_ne (k := 2) rfl h2
  have a3 := i32_ne (k := 3) rfl h3
  omega
