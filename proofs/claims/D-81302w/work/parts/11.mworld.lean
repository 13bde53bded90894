/-! THE REFERENCE's WORLD: one object of CallRoundsModel with its arrays; contracts of its methods that write (MC); rows for its fields and arrays -/
set_option maxRecDepth 100000
/-- the reference's state: its int fields, its int arrays, its long arrays (each by the number of the field), the array that is looked at -/
abbrev MS : Type := (Nat → Int32) × (Nat → Nat → Int32) × (Nat → Nat → Int64) × Nat
/-- kinds of fields: 0 int, 1 array of ints, 2 array of longs, 3 the array that is looked at -/
def mKd (k : Nat) : Nat := [0, 0, 1, 1, 1, 0, 1, 1, 0, 0, 1, 1, 1, 2, 2, 1, 1, 0, 1, 1, 1, 3, 0, 0, 1, 1, 0, 0, 1, 1].getD k 0
/-- lengths of the arrays -/
def mN (k : Nat) : Nat := [0, 0, 4, 4, 240, 0, 4, 4, 0, 0, 12, 12, 65536, 65536, 65536, 65536, 65536, 0, 16, 16, 16, 0, 0, 0, 4, 4, 0, 0, 4, 65536].getD k 0
def mFv (a : Nat → Nat) (σ : MS) (k : Nat) : Value := if mKd k = 0 then .int (σ.1 k) else if mKd k = 3 then .ref σ.2.2.2 else .ref (a k)
def mF (a : Nat → Nat) (σ : MS) : List Value := (List.range 30).map (mFv a σ)
/-- the array fields -/
def mL : List Nat := [2, 3, 4, 6, 7, 10, 11, 12, 13, 14, 15, 16, 18, 19, 20, 24, 25, 28, 29]
def mE (dA : Nat → ClassId) (σ : MS) (k : Nat) : va_E := if mKd k = 2 then .inl (dA 1, mN k, .inr (.inl (σ.2.2.1 k))) else .inl (dA 0, mN k, .inl (σ.2.1 k))
def mW (dA : Nat → ClassId) (a : Nat → Nat) (σ : MS) : va_W := (a 0, .inr (1, mF a σ)) :: mL.map (fun k => (a k, mE dA σ k))
/-- the place of an array in the picture -/
def mPos (k : Nat) : Nat := mL.findIdx (· == k) + 1
/-- the state with an int field, an int array, a long array, the looked-at array changed -/
def MS.i (σ : MS) (k : Nat) (v : Int32) : MS := (va_up σ.1 k v, σ.2)
def MS.b (σ : MS) (k : Nat) (f : Nat → Int32) : MS := (σ.1, va_up σ.2.1 k f, σ.2.2)
def MS.l (σ : MS) (k : Nat) (f : Nat → Int64) : MS := (σ.1, σ.2.1, va_up σ.2.2.1 k f, σ.2.2.2)
def MS.r (σ : MS) (x : Nat) : MS := (σ.1, σ.2.1, σ.2.2.1, x)
theorem mF_get {a : Nat → Nat} {σ : MS} {k : Nat} (hk : k < 30) : (mF a σ)[k]? = some (mFv a σ k) := by
  simp [mF, List.getElem?_map, List.getElem?_range hk]
theorem mF_set {a : Nat → Nat} {σ σ' : MS} {k : Nat} (v : Value) (hv : mFv a σ' k = v) (ho : ∀ j, j ≠ k → mFv a σ' j = mFv a σ j) : (mF a σ).set k v = mF a σ' := by
  apply List.ext_getElem?
  intro j
  rw [List.getElem?_set]
  by_cases hj : k = j
  · subst hj
    rw [if_pos rfl]
    by_cases hk : k < 30
    · rw [if_pos (by simpa [mF] using hk), mF_get hk, hv]
    · rw [if_neg (by simpa [mF] using hk)]
      simp [mF, List.getElem?_eq_none, Nat.le_of_not_lt hk]
  · rw [if_neg hj]
    by_cases hk : j < 30
    · rw [mF_get hk, mF_get hk, ho j (fun e => hj e.symm)]
    · simp [mF, List.getElem?_eq_none, Nat.le_of_not_lt hk]
theorem mW_0 {dA : Nat → ClassId} {a : Nat → Nat} {σ : MS} : (mW dA a σ)[0]? = some (a 0, .inr (1, mF a σ)) := rfl
theorem mL_pos : ∀ k ∈ mL, mL[mL.findIdx (· == k)]? = some k := by decide +kernel
theorem mW_k {dA : Nat → ClassId} {a : Nat → Nat} {σ : MS} {k : Nat} (hk : k ∈ mL) : (mW dA a σ)[mPos k]? = some (a k, mE dA σ k) := by
  show ((a 0, _) :: mL.map _)[mL.findIdx (· == k) + 1]? = _
  rw [List.getElem?_cons_succ, List.getElem?_map, mL_pos k hk]
  rfl
theorem mL_inj : ∀ (i j : Nat) (k : Nat), mL[i]? = some k → mL[j]? = some k → i = j := by
  have h : va_nd mL = true := by decide +kernel
  exact fun i j k => va_nd_inj mL h i j k
theorem mW_set {dA : Nat → ClassId} {a : Nat → Nat} {σ σ' : MS} {k : Nat} (hk : k ∈ mL) (e : va_E) (he : mE dA σ' k = e) (ho : ∀ j, j ≠ k → mE dA σ' j = mE dA σ j) (hF : mF a σ' = mF a σ) : (mW dA a σ).set (mPos k) (a k, e) = mW dA a σ' := by
  show ((a 0, Sum.inr (1, mF a σ)) :: mL.map (fun k => (a k, mE dA σ k))).set (mL.findIdx (· == k) + 1) (a k, e) = (a 0, Sum.inr (1, mF a σ')) :: mL.map (fun k => (a k, mE dA σ' k))
  rw [List.set_cons_succ, hF]
  congr 1
  apply List.ext_getElem?
  intro j
  rw [List.getElem?_set]
  by_cases hj : mL.findIdx (· == k) = j
  · subst hj
    have h1 := mL_pos k hk
    have h2 : mL.findIdx (· == k) < mL.length := (List.getElem?_eq_some_iff.mp h1).1
    rw [if_pos rfl, if_pos (by rw [List.length_map]; exact h2), List.getElem?_map, h1]
    simp [he]
  · rw [if_neg hj, List.getElem?_map, List.getElem?_map]
    cases hm : mL[j]? with
    | none => rfl
    | some q =>
      have hq : q ≠ k := fun e => hj (mL_inj _ _ _ (mL_pos k hk) (e ▸ hm))
      simp [ho q hq]
theorem mW_set0 {dA : Nat → ClassId} {a : Nat → Nat} {σ σ' : MS} {fs : List Value} (hF : mF a σ' = fs) (hE : ∀ k, mE dA σ' k = mE dA σ k) : (mW dA a σ).set 0 (a 0, .inr (1, fs)) = mW dA a σ' := by
  subst hF
  show (a 0, Sum.inr (1, mF a σ')) :: mL.map (fun k => (a k, mE dA σ k)) = (a 0, Sum.inr (1, mF a σ')) :: mL.map (fun k => (a k, mE dA σ' k))
  congr 1
  exact List.map_congr_left (fun k _ => by rw [hE k])
/-- the addresses of the reference's cells -/
def mAd (a : Nat → Nat) : Nat → Prop := fun q => ∃ k ∈ 0 :: mL, q = a k
/-- its cells are apart -/
def mInj (a : Nat → Nat) : Prop := ∀ i ∈ 0 :: mL, ∀ j ∈ 0 :: mL, a i = a j → i = j
theorem mW_addr {dA : Nat → ClassId} {a : Nat → Nat} {σ : MS} {i : Nat} {q : Nat × va_E} (h : (mW dA a σ)[i]? = some q) : ∃ k, (0 :: mL)[i]? = some k ∧ q.1 = a k := by
  cases i with
  | zero =>
    cases h
    exact ⟨0, rfl, rfl⟩
  | succ i =>
    rw [show (mW dA a σ)[i + 1]? = (mL.map (fun k => (a k, mE dA σ k)))[i]? from rfl, List.getElem?_map] at h
    cases hm : mL[i]? with
    | none => rw [hm] at h; cases h
    | some k =>
      rw [hm] at h
      cases h
      exact ⟨k, hm, rfl⟩
theorem mW_D {dA : Nat → ClassId} {a : Nat → Nat} {σ : MS} (hI : mInj a) : va_D (mAd a) (mW dA a σ) := by
  have hn : va_nd (0 :: mL) = true := by decide +kernel
  refine ⟨fun i j p q hp hq e => ?_, fun k q hq => ?_⟩
  · obtain ⟨k1, h1, e1⟩ := mW_addr hp
    obtain ⟨k2, h2, e2⟩ := mW_addr hq
    have e3 : a k1 = a k2 := by rw [← e1, ← e2, e]
    have e4 := hI k1 (List.mem_of_getElem? h1) k2 (List.mem_of_getElem? h2) e3
    subst e4
    exact va_nd_inj _ hn i j k1 h1 h2
  · obtain ⟨k1, h1, e1⟩ := mW_addr hq
    exact ⟨k1, List.mem_of_getElem? h1, e1⟩
/-- the heap holds the reference's state; since H0 nothing else has changed -/
def MB (D : va_G) (dA : Nat → ClassId) (a : Nat → Nat) (σ : MS) (H0 H : Heap) (locs : List Loc) : Prop := va_P D vwCl (mW dA a σ) H ∧ va_S (mAd a) H0 H locs
abbrev MQc (D : va_G) (dA : Nat → ClassId) (a : Nat → Nat) (post : Option Value → MS → Prop) : Array Value → State → Outcome → State → Prop := fun _ st o t => (∃ (v : Option Value) (σ' : MS), o = .returned v ∧ post v σ' ∧ va_P D vwCl (mW dA a σ') t.heap) ∧ va_F (mAd a) st t
/-- a contract of a method of the reference that writes -/
def MC (l : Launch) (y : MethodName) (code : ByteArray) (n : Nat) (ret : Option FieldType) (fr lc : Nat) (D : va_G) (dA : Nat → ClassId) (a : Nat → Nat) (av : List Value) (σ : MS) (post : Option Value → MS → Prop) : Prop :=
  Met l y (ws_ y code n ret) ({ frames := fr, cells := 0, slots := 0, locals := lc }) (va_Pc av (fun U => va_K D vwCl (tyL dA) U ∧ va_P D vwCl (mW dA a σ) U.heap)) (MQc D dA a post) 0 0 (mAd a)
abbrev MZ (below : List Frame) (D : va_G) (dA : Nat → ClassId) (a : Nat → Nat) (post : Option Value → MS → Prop) (av : List Value) (s : State) : State → Prop := MQ below (MQc D dA a post) av.toArray s 0 0 (mAd a)
theorem MC.of {l : Launch} {y : MethodName} {code : ByteArray} {n : Nat} {ret : Option FieldType} {fr lc : Nat} {D : va_G} {dA : Nat → ClassId} {a : Nat → Nat} {av : List Value} {σ : MS} {post : Option Value → MS → Prop} (hy : plainName y.cls = true) (hav : (lg_sl av).length ≤ n)
    (body : ∀ (p : Program) (e : Env) (s : State) (m : MethodId) (below : List Frame) (meth : Method) (c : Code) (ls : Array Slot), CallFix p m c code n s av.toArray lw_all y.cls → meth.sig.returnType = ret → meth.locks = false → va_K D vwCl (tyL dA) s → MB D dA a σ s.heap s.heap [] → lv_has ls n (lv_args 0 av) →
      W p l e ({ frames := fr, cells := 0, slots := 0, locals := lc }) s m av.toArray below meth c s.heap [] 0 0 (MZ below D dA a post av s) (F0 m 0 ls [])) : MC l y code n ret fr lc D dA a av σ post := by
  refine Met.ofW (cc := code) (maxL := n) (ret := ret) hy rfl ?_
  intro p e s m args below meth c s₁ B hml hv
  obtain ⟨rfl, hK, hP⟩ := hv
  have hts := atoms_spec (ws := ws_ y code n ret) B.pre
  have hts' : ∀ w ∈ lw_all, w.before av.toArray s = true := fun w h => hts w (List.mem_cons_of_mem _ h)
  have hl := lv_entry av (n := n) hav
  rw [lg_entry_eq]
  generalize (lg_sl av ++ List.replicate (n - (lg_sl av).length) Slot.unset).toArray = ls at hl ⊢
  exact body p e s m below meth c ls ⟨B.exec, B.bytes, hml, findClass_of_methodNamed B.named, hts'⟩ B.returns B.notSynchronized hK ⟨hP, va_S.rf⟩ hl
section MCR
variable {p : Program} {l : Launch} {e : Env} {R : Room} {s : State} {m : MethodId} {args : Array Value} {below : List Frame} {meth : Method} {c : Code} {H : Heap} {locs : List Loc} {cells slots : Nat} {Q : State → Prop}
variable {cc : ByteArray} {pc nL : Nat} {ls : Array Slot} {rest : List Value} {D : va_G} {dA : Nat → ClassId} {a : Nat → Nat} {σ : MS} {av : List Value} {post : Option Value → MS → Prop} {H0 : Heap}
theorem MB.done {σ' : MS} {v : Option Value} (hM : MB D dA a σ' s.heap H locs) (hq : post v σ') {t : State} (ht : t.heap = H) : MQc D dA a post args s (.returned v) t :=
  ⟨⟨v, σ', rfl, hq, by rw [ht]; exact hM.1⟩, hM.2.F ht⟩
theorem m_iret {own : String} {Ts : List Cond} {σ' : MS} {aa : Array Value} (S : CallFix p m c cc nL s aa Ts own) (hr : meth.sig.returnType = some .int) (hlk : meth.locks = false) (hM : MB D dA a σ' s.heap H locs) (hdg : decode cc pc = .ok (.ireturn, 1)) {v : Int32} (hq : post (some (.int v)) σ') :
    W p l e R s m av.toArray below meth c H locs 0 0 (MZ below D dA a post av s) (F0 m pc ls [.int v]) :=
  W.iret S.1 S.2.1 hr (fun t ht _ => hM.done hq ht) hM.2.2.2 hdg hlk
theorem m_zret {own : String} {Ts : List Cond} {σ' : MS} {aa : Array Value} (S : CallFix p m c cc nL s aa Ts own) (hr : meth.sig.returnType = some .boolean) (hlk : meth.locks = false) (hM : MB D dA a σ' s.heap H locs) (hdg : decode cc pc = .ok (.ireturn, 1)) {v : Int32} (hn : narrow .boolean (.int v) = .int v) (hq : post (some (.int v)) σ') :
    W p l e R s m av.toArray below meth c H locs 0 0 (MZ below D dA a post av s) (F0 m pc ls [.int v]) :=
  W.zret S.1 S.2.1 hr hn (fun t ht _ => hM.done hq ht) hM.2.2.2 hdg hlk
theorem m_lret {own : String} {Ts : List Cond} {σ' : MS} {aa : Array Value} (S : CallFix p m c cc nL s aa Ts own) (hr : meth.sig.returnType = some .long) (hlk : meth.locks = false) (hM : MB D dA a σ' s.heap H locs) (hdg : decode cc pc = .ok (.lreturn, 1)) {v : Int64} (hq : post (some (.long v)) σ') :
    W p l e R s m av.toArray below meth c H locs 0 0 (MZ below D dA a post av s) (F0 m pc ls [.long v]) :=
  W.lret S.1 S.2.1 hr (fun t ht _ => hM.done hq ht) hM.2.2.2 hdg hlk
theorem m_vret {own : String} {Ts : List Cond} {σ' : MS} {aa : Array Value} (S : CallFix p m c cc nL s aa Ts own) (hr : meth.sig.returnType = none) (hlk : meth.locks = false) (hM : MB D dA a σ' s.heap H locs) (hdg : decode cc pc = .ok (.return_, 1)) (hq : post none σ') :
    W p l e R s m av.toArray below meth c H locs 0 0 (MZ below D dA a post av s) (F0 m pc ls []) :=
  W.vret S.1 S.2.1 hr (fun t ht _ => hM.done hq ht) hM.2.2.2 hdg hlk
/-- a field of the reference is read -/
theorem m_get (S : CallFix p m c cc nL s args lw_all RX1) (hK : va_K D vwCl (tyL dA) s) (hP : va_P D vwCl (mW dA a σ) H) (k : Nat) (hk : k < 30) {index : Nat} (hlink : Cond.fieldLink RX1 index RX1 (TX1 k).2.1 (TX1 k).2.2.1 ∈ lw_all) (hf : (TX1 k).1 = RX1) (hdg : decode cc pc = .ok (.getfield index, 3))
    {v : Value} (hv : mFv a σ k = v) (kk : W p l e R s m args below meth c H locs cells slots Q (F0 m (pc + 3) ls (v :: rest))) : W p l e R s m args below meth c H locs cells slots Q (F0 m pc ls (.ref (a 0) :: rest)) :=
  va_get (D := D) (ci := 1) (C := RX1) (T := TX1) (N := 30) S.1 S.2.1 S.2.2.2.2 in_X1 S.2.2.2.1 hK hP 0 mW_0 rfl k hk (S.2.2.2.2 _ hlink) (fun _ h9 => by rw [hf] at h9; exact h9) ((mF_get hk).trans (congrArg some hv)) hdg kk
/-- an int field of the reference is written -/
theorem m_put (hI : mInj a) (S : CallFix p m c cc nL s args lw_all RX1) (hK : va_K D vwCl (tyL dA) s) (hM : MB D dA a σ H0 H locs) (k : Nat) (hk : k < 30) (hkd : mKd k = 0) {index : Nat} (hlink : Cond.fieldLink RX1 index RX1 (TX1 k).2.1 (TX1 k).2.2.1 ∈ lw_all) (hf : (TX1 k).1 = RX1) (hfin : (TX1 k).2.2.2 = false) (hd : parseFieldDescriptor (TX1 k).2.2.1 = some .int) (hdg : decode cc pc = .ok (.putfield index, 3))
    {v : Int32} (kk : ∀ (H : Heap) (locs : List Loc), MB D dA a (σ.i k v) H0 H locs → W p l e R s m args below meth c H locs cells slots Q (F0 m (pc + 3) ls rest)) : W p l e R s m args below meth c H locs cells slots Q (F0 m pc ls (.int v :: .ref (a 0) :: rest)) := by
  refine va_put (D := D) (ci := 1) (C := RX1) (T := TX1) (N := 30) (ty := .int) S.1 S.2.1 S.2.2.2.2 in_X1 tyX1 tyX1_ok nmX1 S.2.2.2.1 hK hM.1 (mW_D hI) hM.2 0 mW_0 rfl k hk (S.2.2.2.2 _ hlink) (fun _ h9 => by rw [hf] at h9; exact h9) hfin hd rfl rfl (by simpa [mF] using hk) hdg (fun H1 locs1 h1 h2 h3 => ?_)
  have e1 : (mW dA a σ).set 0 (a 0, .inr (1, (mF a σ).set k (.int v))) = mW dA a (σ.i k v) := by
    rw [mF_set (σ' := σ.i k v) (.int v) (by simp [mFv, hkd, MS.i, va_up]) (fun j hj => by simp [mFv, MS.i, va_up, hj])]
    exact mW_set0 rfl (fun q => by simp [mE, MS.i])
  rw [e1] at h1
  exact kk H1 locs1 ⟨h1, h3⟩
/-- the looked-at array is named -/
theorem m_putr (hI : mInj a) (S : CallFix p m c cc nL s args lw_all RX1) (hK : va_K D vwCl (tyL dA) s) (hM : MB D dA a σ H0 H locs) {index : Nat} (hlink : Cond.fieldLink RX1 index RX1 (TX1 21).2.1 (TX1 21).2.2.1 ∈ lw_all) (hdg : decode cc pc = .ok (.putfield index, 3))
    {v : Nat} (kk : ∀ (H : Heap) (locs : List Loc), MB D dA a (σ.r v) H0 H locs → W p l e R s m args below meth c H locs cells slots Q (F0 m (pc + 3) ls rest)) : W p l e R s m args below meth c H locs cells slots Q (F0 m pc ls (.ref v :: .ref (a 0) :: rest)) := by
  refine va_put (D := D) (ci := 1) (C := RX1) (T := TX1) (N := 30) (ty := .array .int) S.1 S.2.1 S.2.2.2.2 in_X1 tyX1 tyX1_ok nmX1 S.2.2.2.1 hK hM.1 (mW_D hI) hM.2 0 mW_0 rfl 21 (by decide) (S.2.2.2.2 _ hlink) (fun _ h9 => h9) rfl (by decide +kernel) rfl rfl (by simp [mF]) hdg (fun H1 locs1 h1 h2 h3 => ?_)
  have e1 : (mW dA a σ).set 0 (a 0, .inr (1, (mF a σ).set 21 (.ref v))) = mW dA a (σ.r v) := by
    rw [mF_set (σ' := σ.r v) (.ref v) (by simp [mFv, mKd, MS.r]) (fun j hj => ?_)]
    · exact mW_set0 rfl (fun q => by simp [mE, MS.r])
    · by_cases h : j < 30
      · have h3 : mKd j ≠ 3 := by
          have : ∀ j, j < 30 → j ≠ 21 → mKd j ≠ 3 := by decide +kernel
          exact this j h hj
        simp [mFv, MS.r, h3]
      · have h0 : mKd j = 0 := by
          unfold mKd
          rw [List.getD_eq_getElem?_getD, List.getElem?_eq_none (by simp; omega)]
          rfl
        simp [mFv, MS.r, h0]
  rw [e1] at h1
  exact kk H1 locs1 ⟨h1, h3⟩
theorem mE_int {k : Nat} (h : mKd k = 1) : mE dA σ k = .inl (dA 0, mN k, .inl (σ.2.1 k)) := by simp [mE, h]
theorem mE_long {k : Nat} (h : mKd k = 2) : mE dA σ k = .inl (dA 1, mN k, .inr (.inl (σ.2.2.1 k))) := by simp [mE, h]
/-- a place of an int array is read -/
theorem m_ald (S : CallFix p m c cc nL s args lw_all RX1) (hK : va_K D vwCl (tyL dA) s) (hP : va_P D vwCl (mW dA a σ) H) (k : Nat) (hk : k ∈ mL) (hkd : mKd k = 1) {i : Int32} (hin : vp_in i (mN k)) (hdg : decode cc pc = .ok (.iaload, 1))
    (kk : W p l e R s m args below meth c H locs cells slots Q (F0 m (pc + 1) ls (.int (σ.2.1 k i.toNatClampNeg) :: rest))) : W p l e R s m args below meth c H locs cells slots Q (F0 m pc ls (.int i :: .ref (a k) :: rest)) :=
  va_iald S.1 S.2.1 hK hP (mPos k) 0 ((mW_k hk).trans (by rw [mE_int hkd])) rfl hin hdg kk
theorem m_lld (S : CallFix p m c cc nL s args lw_all RX1) (hK : va_K D vwCl (tyL dA) s) (hP : va_P D vwCl (mW dA a σ) H) (k : Nat) (hk : k ∈ mL) (hkd : mKd k = 2) {i : Int32} (hin : vp_in i (mN k)) (hdg : decode cc pc = .ok (.laload, 1))
    (kk : W p l e R s m args below meth c H locs cells slots Q (F0 m (pc + 1) ls (.long (σ.2.2.1 k i.toNatClampNeg) :: rest))) : W p l e R s m args below meth c H locs cells slots Q (F0 m pc ls (.int i :: .ref (a k) :: rest)) :=
  va_lald S.1 S.2.1 hK hP (mPos k) 1 ((mW_k hk).trans (by rw [mE_long hkd])) rfl hin hdg kk
/-- a place of an int array is written -/
theorem m_ast (hI : mInj a) (S : CallFix p m c cc nL s args lw_all RX1) (hK : va_K D vwCl (tyL dA) s) (hM : MB D dA a σ H0 H locs) (k : Nat) (hk : k ∈ mL) (hkd : mKd k = 1) {i x : Int32} (hin : vp_in i (mN k)) (hdg : decode cc pc = .ok (.iastore, 1))
    (kk : ∀ (H : Heap) (locs : List Loc), MB D dA a (σ.b k (upd (σ.2.1 k) i.toNatClampNeg x)) H0 H locs → W p l e R s m args below meth c H locs cells slots Q (F0 m (pc + 1) ls rest)) : W p l e R s m args below meth c H locs cells slots Q (F0 m pc ls (.int x :: .int i :: .ref (a k) :: rest)) := by
  refine va_iast S.1 S.2.1 hK hM.1 (mW_D hI) hM.2 (mPos k) 0 ((mW_k hk).trans (by rw [mE_int hkd])) rfl hin hdg (fun H1 locs1 h1 h2 h3 => ?_)
  rw [mW_set (σ' := σ.b k (upd (σ.2.1 k) i.toNatClampNeg x)) hk _ (by rw [mE_int hkd]; simp [MS.b, va_up]) (fun j hj => by simp [mE, MS.b, va_up, hj]) (by simp [mF, mFv, MS.b])] at h1
  exact kk H1 locs1 ⟨h1, h3⟩
theorem m_lst (hI : mInj a) (S : CallFix p m c cc nL s args lw_all RX1) (hK : va_K D vwCl (tyL dA) s) (hM : MB D dA a σ H0 H locs) (k : Nat) (hk : k ∈ mL) (hkd : mKd k = 2) {i : Int32} {x : Int64} (hin : vp_in i (mN k)) (hdg : decode cc pc = .ok (.lastore, 1))
    (kk : ∀ (H : Heap) (locs : List Loc), MB D dA a (σ.l k (vp_updL (σ.2.2.1 k) i.toNatClampNeg x)) H0 H locs → W p l e R s m args below meth c H locs cells slots Q (F0 m (pc + 1) ls rest)) : W p l e R s m args below meth c H locs cells slots Q (F0 m pc ls (.long x :: .int i :: .ref (a k) :: rest)) := by
  refine va_last S.1 S.2.1 hK hM.1 (mW_D hI) hM.2 (mPos k) 1 ((mW_k hk).trans (by rw [mE_long hkd])) rfl hin hdg (fun H1 locs1 h1 h2 h3 => ?_)
  rw [mW_set (σ' := σ.l k (vp_updL (σ.2.2.1 k) i.toNatClampNeg x)) hk _ (by rw [mE_long hkd]; simp [MS.l, va_up]) (fun j hj => by simp [mE, MS.l, va_up, hj]) (by simp [mF, mFv, MS.l])] at h1
  exact kk H1 locs1 ⟨h1, h3⟩
/-- an array of the reference as a cell -/
theorem m_cell (hP : va_P D vwCl (mW dA a σ) H) (k : Nat) (hk : k ∈ mL) (hkd : mKd k = 1) : H[a k]? = some (vp_cell (dA 0) (mN k, .inl (σ.2.1 k))) := by
  have h := hP (mPos k) _ (mW_k hk)
  rw [mE_int hkd] at h
  exact h
/-- the receiver -/
theorem m_recv (hK : va_K D vwCl (tyL dA) s) (hP : va_P D vwCl (mW dA a σ) H) : ∃ cell : Cell, H[a 0]? = some cell ∧ cell.vm.isStatics = false ∧ s.vm.findClass RX1 = some cell.cls :=
  va_recv hK hP (ci := 1) (q0 := 0) rfl mW_0
theorem m_back {g : JFrame} {rest : List Value} {aa : Array Value} (hM : MB D dA a σ H0 H locs) (hr : va_Run p l e R s m args below meth c H locs cells slots 0 0 g rest (MQc D dA a post aa) (mAd a))
    (kk : ∀ (v : Option Value) (σ' : MS) (H : Heap) (locs : List Loc), post v σ' → MB D dA a σ' H0 H locs → W p l e R s m args below meth c H locs cells slots Q ({ g with pc := g.pc + 3, stack := v.toList ++ rest })) : W p l e R s m args below meth c H locs cells slots Q g := by
  intro T hT X
  obtain ⟨v, st₀, t, T', L, e1, X', hL, e2, e3, ⟨⟨v', σ', hv', hp, hP'⟩, hF⟩, go⟩ := hr T hT X
  cases hv'
  have hS' : va_S (mAd a) H0 t.heap (locs ++ L) := by
    refine ⟨Nat.le_trans hM.2.1 (by rw [← e1]; exact hF.1), fun q h1 h2 => ?_, fun q hq => ?_⟩
    · rw [hF.2 q (by rw [e1]; exact Nat.lt_of_lt_of_le h1 hM.2.1) h2, e1]
      exact hM.2.2.1 q h1 h2
    · rcases List.mem_append.mp hq with h | h
      · exact hM.2.2.2 q h
      · exact hL q h
  obtain ⟨t2, a1, b1⟩ := kk v σ' t.heap (locs ++ L) hp ⟨hP', hS'⟩ T' e2 X'
  exact ⟨t2, go t2 a1, b1⟩
/-- a method of the reference that writes is called on the reference -/
theorem mc_V {y : MethodName} {code : ByteArray} {n index : Nat} {ret : Option FieldType} {fr lc : Nat} {own : String} (As : List Value) (nn : Nat) (S : CallFix p m c cc nL s args lw_all own) (hK : va_K D vwCl (tyL dA) s) (hM : MB D dA a σ H0 H locs) (hC : MC l y code n ret fr lc D dA a (.ref (a 0) :: As) σ post)
    (hw : GoodIn lw_all (wsV own index RX1 y (ws_ y code n ret))) (hd : y.cls = RX1 ∧ y.cls ≠ "java/lang/invoke/MethodHandle" ∧ y.cls ≠ "java/lang/invoke/VarHandle" ∧ (parseMethodDescriptor y.desc).map (fun d => d.parameters.length) = some nn) (hn : As.length = nn) (hR : fr + 1 ≤ R.frames ∧ 8 + (n + 11) + lc ≤ R.locals)
    (hsz : ls.size = nL) (hst : (rest.map fun v => v.category).sum ≤ 8) (hdg : decode cc pc = .ok (.invokevirtual index, 3)) (hf : cells ≤ R.cells ∧ slots ≤ R.slots)
    (kk : ∀ (v : Option Value) (σ' : MS) (H : Heap) (locs : List Loc), post v σ' → MB D dA a σ' H0 H locs → W p l e R s m args below meth c H locs cells slots Q (F0 m (pc + 3) ls (v.toList ++ rest))) {st : List Value} (hs : st = As.reverse ++ .ref (a 0) :: rest) : W p l e R s m args below meth c H locs cells slots Q (F0 m pc ls st) :=
  m_back (rest := rest) hM (va_runV (As := As) (rest := rest) S hC (cwV nn S.2.2.2.2 hw rfl rfl rfl hd hR) ⟨rc_blind, m_recv hK hM.1, fun U hU hW => ⟨rfl, va_K.moved hW.alike hK, by rw [hU]; exact hM.1⟩⟩ rfl hn hsz hs (lv_room hst) hdg hf) kk
end MCR
