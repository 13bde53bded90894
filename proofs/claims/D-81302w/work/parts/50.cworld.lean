/-! THE COMPONENT's WORLD (by program: gen/mkcw.py): one object of CallRounds with its arrays; Ph: what else is known of the heap and stays -/
set_option maxRecDepth 100000
/-- kinds of fields: 0 int (or boolean), 1 array of ints, 2 array of longs, 3 what lies elsewhere -/
def kKd (k : Nat) : Nat := [0, 1, 0, 3, 1, 2, 2, 1, 1, 0, 0, 0, 0, 0, 3].getD k 0
/-- lengths of the arrays -/
def kLn (k : Nat) : Nat := [0, 4, 0, 0, 65536, 65536, 65536, 65536, 65536, 0, 0, 0, 0, 0, 0].getD k 0
def kFv (a : Nat → Nat) (σ : MS) (k : Nat) : Value := if kKd k = 0 then .int (σ.1 k) else .ref (a k)
def kF (a : Nat → Nat) (σ : MS) : List Value := (List.range 15).map (kFv a σ)
/-- the array fields -/
def kL : List Nat := [1, 4, 5, 6, 7, 8]
def kE (dA : Nat → ClassId) (σ : MS) (k : Nat) : va_E := if kKd k = 2 then .inl (dA 1, kLn k, .inr (.inl (σ.2.2.1 k))) else .inl (dA 0, kLn k, .inl (σ.2.1 k))
def kW (dA : Nat → ClassId) (a : Nat → Nat) (σ : MS) : va_W := (a 0, .inr (0, kF a σ)) :: kL.map (fun k => (a k, kE dA σ k))
/-- the place of an array in the picture -/
def kPos (k : Nat) : Nat := kL.findIdx (· == k) + 1
theorem kF_get {a : Nat → Nat} {σ : MS} {k : Nat} (hk : k < 15) : (kF a σ)[k]? = some (kFv a σ k) := by
  simp [kF, List.getElem?_map, List.getElem?_range hk]
theorem kF_set {a : Nat → Nat} {σ σ' : MS} {k : Nat} (v : Value) (hv : kFv a σ' k = v) (ho : ∀ j, j ≠ k → kFv a σ' j = kFv a σ j) : (kF a σ).set k v = kF a σ' := by
  apply List.ext_getElem?
  intro j
  rw [List.getElem?_set]
  by_cases hj : k = j
  · subst hj
    rw [if_pos rfl]
    by_cases hk : k < 15
    · rw [if_pos (by simpa [kF] using hk), kF_get hk, hv]
    · rw [if_neg (by simpa [kF] using hk)]
      simp [kF, List.getElem?_eq_none, Nat.le_of_not_lt hk]
  · rw [if_neg hj]
    by_cases hk : j < 15
    · rw [kF_get hk, kF_get hk, ho j (fun e => hj e.symm)]
    · simp [kF, List.getElem?_eq_none, Nat.le_of_not_lt hk]
theorem kW_0 {dA : Nat → ClassId} {a : Nat → Nat} {σ : MS} : (kW dA a σ)[0]? = some (a 0, .inr (0, kF a σ)) := rfl
theorem kL_pos : ∀ k ∈ kL, kL[kL.findIdx (· == k)]? = some k := by decide +kernel
theorem kW_k {dA : Nat → ClassId} {a : Nat → Nat} {σ : MS} {k : Nat} (hk : k ∈ kL) : (kW dA a σ)[kPos k]? = some (a k, kE dA σ k) := by
  show ((a 0, _) :: kL.map _)[kL.findIdx (· == k) + 1]? = _
  rw [List.getElem?_cons_succ, List.getElem?_map, kL_pos k hk]
  rfl
theorem kL_inj : ∀ (i j : Nat) (k : Nat), kL[i]? = some k → kL[j]? = some k → i = j := by
  have h : va_nd kL = true := by decide +kernel
  exact fun i j k => va_nd_inj kL h i j k
theorem kW_set {dA : Nat → ClassId} {a : Nat → Nat} {σ σ' : MS} {k : Nat} (hk : k ∈ kL) (e : va_E) (he : kE dA σ' k = e) (ho : ∀ j, j ≠ k → kE dA σ' j = kE dA σ j) (hF : kF a σ' = kF a σ) : (kW dA a σ).set (kPos k) (a k, e) = kW dA a σ' := by
  show ((a 0, Sum.inr (0, kF a σ)) :: kL.map (fun k => (a k, kE dA σ k))).set (kL.findIdx (· == k) + 1) (a k, e) = (a 0, Sum.inr (0, kF a σ')) :: kL.map (fun k => (a k, kE dA σ' k))
  rw [List.set_cons_succ, hF]
  congr 1
  apply List.ext_getElem?
  intro j
  rw [List.getElem?_set]
  by_cases hj : kL.findIdx (· == k) = j
  · subst hj
    have h1 := kL_pos k hk
    have h2 : kL.findIdx (· == k) < kL.length := (List.getElem?_eq_some_iff.mp h1).1
    rw [if_pos rfl, if_pos (by rw [List.length_map]; exact h2), List.getElem?_map, h1]
    simp [he]
  · rw [if_neg hj, List.getElem?_map, List.getElem?_map]
    cases hm : kL[j]? with
    | none => rfl
    | some q =>
      have hq : q ≠ k := fun e => hj (kL_inj _ _ _ (kL_pos k hk) (e ▸ hm))
      simp [ho q hq]
theorem kW_set0 {dA : Nat → ClassId} {a : Nat → Nat} {σ σ' : MS} {fs : List Value} (hF : kF a σ' = fs) (hE : ∀ k, kE dA σ' k = kE dA σ k) : (kW dA a σ).set 0 (a 0, .inr (0, fs)) = kW dA a σ' := by
  subst hF
  show (a 0, Sum.inr (0, kF a σ')) :: kL.map (fun k => (a k, kE dA σ k)) = (a 0, Sum.inr (0, kF a σ')) :: kL.map (fun k => (a k, kE dA σ' k))
  congr 1
  exact List.map_congr_left (fun k _ => by rw [hE k])
/-- the addresses of the component's cells -/
def kAd (a : Nat → Nat) : Nat → Prop := fun q => ∃ k ∈ 0 :: kL, q = a k
/-- its cells are apart -/
def kInj (a : Nat → Nat) : Prop := ∀ i ∈ 0 :: kL, ∀ j ∈ 0 :: kL, a i = a j → i = j
theorem kW_addr {dA : Nat → ClassId} {a : Nat → Nat} {σ : MS} {i : Nat} {q : Nat × va_E} (h : (kW dA a σ)[i]? = some q) : ∃ k, (0 :: kL)[i]? = some k ∧ q.1 = a k := by
  cases i with
  | zero =>
    cases h
    exact ⟨0, rfl, rfl⟩
  | succ i =>
    rw [show (kW dA a σ)[i + 1]? = (kL.map (fun k => (a k, kE dA σ k)))[i]? from rfl, List.getElem?_map] at h
    cases hm : kL[i]? with
    | none => rw [hm] at h; cases h
    | some k =>
      rw [hm] at h
      cases h
      exact ⟨k, hm, rfl⟩
theorem kW_D {dA : Nat → ClassId} {a : Nat → Nat} {σ : MS} (hI : kInj a) : va_D (kAd a) (kW dA a σ) := by
  have hn : va_nd (0 :: kL) = true := by decide +kernel
  refine ⟨fun i j p q hp hq e => ?_, fun k q hq => ?_⟩
  · obtain ⟨k1, h1, e1⟩ := kW_addr hp
    obtain ⟨k2, h2, e2⟩ := kW_addr hq
    have e3 : a k1 = a k2 := by rw [← e1, ← e2, e]
    have e4 := hI k1 (List.mem_of_getElem? h1) k2 (List.mem_of_getElem? h2) e3
    subst e4
    exact va_nd_inj _ hn i j k1 h1 h2
  · obtain ⟨k1, h1, e1⟩ := kW_addr hq
    exact ⟨k1, List.mem_of_getElem? h1, e1⟩
/-- the heap holds the component's state; since H0 nothing else has changed -/
def KB (D : va_G) (dA : Nat → ClassId) (a : Nat → Nat) (σ : MS) (H0 H : Heap) (locs : List Loc) : Prop := va_P D vwCl (kW dA a σ) H ∧ va_S (kAd a) H0 H locs
abbrev KQc (D : va_G) (dA : Nat → ClassId) (a : Nat → Nat) (post : Option Value → MS → Prop) : Array Value → State → Outcome → State → Prop := fun _ st o t => (∃ (v : Option Value) (σ' : MS), o = .returned v ∧ post v σ' ∧ va_P D vwCl (kW dA a σ') t.heap) ∧ va_F (kAd a) st t
/-- a contract of a method of the component that writes -/
def KC (l : Launch) (y : MethodName) (code : ByteArray) (n : Nat) (ret : Option FieldType) (fr lc : Nat) (D : va_G) (dA : Nat → ClassId) (a : Nat → Nat) (av : List Value) (σ : MS) (Ph : Heap → Prop) (post : Option Value → MS → Prop) : Prop :=
  Met l y (ws_ y code n ret) ({ frames := fr, cells := 0, slots := 0, locals := lc }) (va_Pc av (fun U => va_K D vwCl (tyL dA) U ∧ va_P D vwCl (kW dA a σ) U.heap ∧ Ph U.heap)) (KQc D dA a post) 0 0 (kAd a)
abbrev KZ (below : List Frame) (D : va_G) (dA : Nat → ClassId) (a : Nat → Nat) (post : Option Value → MS → Prop) (av : List Value) (s : State) : State → Prop := MQ below (KQc D dA a post) av.toArray s 0 0 (kAd a)
theorem KC.of {l : Launch} {y : MethodName} {code : ByteArray} {n : Nat} {ret : Option FieldType} {fr lc : Nat} {D : va_G} {dA : Nat → ClassId} {a : Nat → Nat} {av : List Value} {σ : MS} {Ph : Heap → Prop} {post : Option Value → MS → Prop} (hy : plainName y.cls = true) (hav : (lg_sl av).length ≤ n)
    (body : ∀ (p : Program) (e : Env) (s : State) (m : MethodId) (below : List Frame) (meth : Method) (c : Code) (ls : Array Slot), CallFix p m c code n s av.toArray lw_all y.cls → meth.sig.returnType = ret → meth.locks = false → va_K D vwCl (tyL dA) s → KB D dA a σ s.heap s.heap [] → Ph s.heap → lv_has ls n (lv_args 0 av) →
      W p l e ({ frames := fr, cells := 0, slots := 0, locals := lc }) s m av.toArray below meth c s.heap [] 0 0 (KZ below D dA a post av s) (F0 m 0 ls [])) : KC l y code n ret fr lc D dA a av σ Ph post := by
  refine Met.ofW (cc := code) (maxL := n) (ret := ret) hy rfl ?_
  intro p e s m args below meth c s₁ B hml hv
  obtain ⟨rfl, hK, hP, hPh⟩ := hv
  have hts := atoms_spec (ws := ws_ y code n ret) B.pre
  have hts' : ∀ w ∈ lw_all, w.before av.toArray s = true := fun w h => hts w (List.mem_cons_of_mem _ h)
  have hl := lv_entry av (n := n) hav
  rw [lg_entry_eq]
  generalize (lg_sl av ++ List.replicate (n - (lg_sl av).length) Slot.unset).toArray = ls at hl ⊢
  exact body p e s m below meth c ls ⟨B.exec, B.bytes, hml, findClass_of_methodNamed B.named, hts'⟩ B.returns B.notSynchronized hK ⟨hP, va_S.rf⟩ hPh hl
section KCR
variable {p : Program} {l : Launch} {e : Env} {R : Room} {s : State} {m : MethodId} {args : Array Value} {below : List Frame} {meth : Method} {c : Code} {H : Heap} {locs : List Loc} {cells slots : Nat} {Q : State → Prop}
variable {cc : ByteArray} {pc nL : Nat} {ls : Array Slot} {rest : List Value} {D : va_G} {dA : Nat → ClassId} {a : Nat → Nat} {σ : MS} {av : List Value} {post : Option Value → MS → Prop} {H0 : Heap}
theorem KB.done {σ' : MS} {v : Option Value} (hM : KB D dA a σ' s.heap H locs) (hq : post v σ') {t : State} (ht : t.heap = H) : KQc D dA a post args s (.returned v) t :=
  ⟨⟨v, σ', rfl, hq, by rw [ht]; exact hM.1⟩, hM.2.F ht⟩
theorem k_iret {own : String} {Ts : List Cond} {σ' : MS} {aa : Array Value} (S : CallFix p m c cc nL s aa Ts own) (hr : meth.sig.returnType = some .int) (hlk : meth.locks = false) (hM : KB D dA a σ' s.heap H locs) (hdg : decode cc pc = .ok (.ireturn, 1)) {v : Int32} (hq : post (some (.int v)) σ') :
    W p l e R s m av.toArray below meth c H locs 0 0 (KZ below D dA a post av s) (F0 m pc ls [.int v]) :=
  W.iret S.1 S.2.1 hr (fun t ht _ => hM.done hq ht) hM.2.2.2 hdg hlk
theorem k_zret {own : String} {Ts : List Cond} {σ' : MS} {aa : Array Value} (S : CallFix p m c cc nL s aa Ts own) (hr : meth.sig.returnType = some .boolean) (hlk : meth.locks = false) (hM : KB D dA a σ' s.heap H locs) (hdg : decode cc pc = .ok (.ireturn, 1)) {v : Int32} (hn : narrow .boolean (.int v) = .int v) (hq : post (some (.int v)) σ') :
    W p l e R s m av.toArray below meth c H locs 0 0 (KZ below D dA a post av s) (F0 m pc ls [.int v]) :=
  W.zret S.1 S.2.1 hr hn (fun t ht _ => hM.done hq ht) hM.2.2.2 hdg hlk
theorem k_lret {own : String} {Ts : List Cond} {σ' : MS} {aa : Array Value} (S : CallFix p m c cc nL s aa Ts own) (hr : meth.sig.returnType = some .long) (hlk : meth.locks = false) (hM : KB D dA a σ' s.heap H locs) (hdg : decode cc pc = .ok (.lreturn, 1)) {v : Int64} (hq : post (some (.long v)) σ') :
    W p l e R s m av.toArray below meth c H locs 0 0 (KZ below D dA a post av s) (F0 m pc ls [.long v]) :=
  W.lret S.1 S.2.1 hr (fun t ht _ => hM.done hq ht) hM.2.2.2 hdg hlk
theorem k_vret {own : String} {Ts : List Cond} {σ' : MS} {aa : Array Value} (S : CallFix p m c cc nL s aa Ts own) (hr : meth.sig.returnType = none) (hlk : meth.locks = false) (hM : KB D dA a σ' s.heap H locs) (hdg : decode cc pc = .ok (.return_, 1)) (hq : post none σ') :
    W p l e R s m av.toArray below meth c H locs 0 0 (KZ below D dA a post av s) (F0 m pc ls []) :=
  W.vret S.1 S.2.1 hr (fun t ht _ => hM.done hq ht) hM.2.2.2 hdg hlk
/-- a field of the component is read -/
theorem k_get (S : CallFix p m c cc nL s args lw_all RX0) (hK : va_K D vwCl (tyL dA) s) (hP : va_P D vwCl (kW dA a σ) H) (k : Nat) (hk : k < 15) {index : Nat} (hlink : Cond.fieldLink RX0 index RX0 (TX0 k).2.1 (TX0 k).2.2.1 ∈ lw_all) (hf : (TX0 k).1 = RX0) (hdg : decode cc pc = .ok (.getfield index, 3))
    {v : Value} (hv : kFv a σ k = v) (kk : W p l e R s m args below meth c H locs cells slots Q (F0 m (pc + 3) ls (v :: rest))) : W p l e R s m args below meth c H locs cells slots Q (F0 m pc ls (.ref (a 0) :: rest)) :=
  va_get (D := D) (ci := 0) (C := RX0) (T := TX0) (N := 15) S.1 S.2.1 S.2.2.2.2 in_X0 S.2.2.2.1 hK hP 0 kW_0 rfl k hk (S.2.2.2.2 _ hlink) (fun _ h9 => by rw [hf] at h9; exact h9) ((kF_get hk).trans (congrArg some hv)) hdg kk
/-- an int field of the component is written -/
theorem k_put (hI : kInj a) (S : CallFix p m c cc nL s args lw_all RX0) (hK : va_K D vwCl (tyL dA) s) (hM : KB D dA a σ H0 H locs) (k : Nat) (hk : k < 15) (hkd : kKd k = 0) {index : Nat} (hlink : Cond.fieldLink RX0 index RX0 (TX0 k).2.1 (TX0 k).2.2.1 ∈ lw_all) (hf : (TX0 k).1 = RX0) (hfin : (TX0 k).2.2.2 = false) (hd : parseFieldDescriptor (TX0 k).2.2.1 = some .int) (hdg : decode cc pc = .ok (.putfield index, 3))
    {v : Int32} (kk : ∀ (H : Heap) (locs : List Loc), KB D dA a (σ.i k v) H0 H locs → W p l e R s m args below meth c H locs cells slots Q (F0 m (pc + 3) ls rest)) : W p l e R s m args below meth c H locs cells slots Q (F0 m pc ls (.int v :: .ref (a 0) :: rest)) := by
  refine va_put (D := D) (ci := 0) (C := RX0) (T := TX0) (N := 15) (ty := .int) S.1 S.2.1 S.2.2.2.2 in_X0 tyX0 tyX0_ok nmX0 S.2.2.2.1 hK hM.1 (kW_D hI) hM.2 0 kW_0 rfl k hk (S.2.2.2.2 _ hlink) (fun _ h9 => by rw [hf] at h9; exact h9) hfin hd rfl rfl (by simpa [kF] using hk) hdg (fun H1 locs1 h1 h2 h3 => ?_)
  have e1 : (kW dA a σ).set 0 (a 0, .inr (0, (kF a σ).set k (.int v))) = kW dA a (σ.i k v) := by
    rw [kF_set (σ' := σ.i k v) (.int v) (by simp [kFv, hkd, MS.i, va_up]) (fun j hj => by simp [kFv, MS.i, va_up, hj])]
    exact kW_set0 rfl (fun q => by simp [kE, MS.i])
  rw [e1] at h1
  exact kk H1 locs1 ⟨h1, h3⟩
theorem kE_int {k : Nat} (h : kKd k = 1) : kE dA σ k = .inl (dA 0, kLn k, .inl (σ.2.1 k)) := by simp [kE, h]
theorem kE_long {k : Nat} (h : kKd k = 2) : kE dA σ k = .inl (dA 1, kLn k, .inr (.inl (σ.2.2.1 k))) := by simp [kE, h]
/-- a place of an int array is read -/
theorem k_ald (S : CallFix p m c cc nL s args lw_all RX0) (hK : va_K D vwCl (tyL dA) s) (hP : va_P D vwCl (kW dA a σ) H) (k : Nat) (hk : k ∈ kL) (hkd : kKd k = 1) {i : Int32} (hin : vp_in i (kLn k)) (hdg : decode cc pc = .ok (.iaload, 1))
    (kk : W p l e R s m args below meth c H locs cells slots Q (F0 m (pc + 1) ls (.int (σ.2.1 k i.toNatClampNeg) :: rest))) : W p l e R s m args below meth c H locs cells slots Q (F0 m pc ls (.int i :: .ref (a k) :: rest)) :=
  va_iald S.1 S.2.1 hK hP (kPos k) 0 ((kW_k hk).trans (by rw [kE_int hkd])) rfl hin hdg kk
theorem k_lld (S : CallFix p m c cc nL s args lw_all RX0) (hK : va_K D vwCl (tyL dA) s) (hP : va_P D vwCl (kW dA a σ) H) (k : Nat) (hk : k ∈ kL) (hkd : kKd k = 2) {i : Int32} (hin : vp_in i (kLn k)) (hdg : decode cc pc = .ok (.laload, 1))
    (kk : W p l e R s m args below meth c H locs cells slots Q (F0 m (pc + 1) ls (.long (σ.2.2.1 k i.toNatClampNeg) :: rest))) : W p l e R s m args below meth c H locs cells slots Q (F0 m pc ls (.int i :: .ref (a k) :: rest)) :=
  va_lald S.1 S.2.1 hK hP (kPos k) 1 ((kW_k hk).trans (by rw [kE_long hkd])) rfl hin hdg kk
/-- a place of an int array is written -/
theorem k_ast (hI : kInj a) (S : CallFix p m c cc nL s args lw_all RX0) (hK : va_K D vwCl (tyL dA) s) (hM : KB D dA a σ H0 H locs) (k : Nat) (hk : k ∈ kL) (hkd : kKd k = 1) {i x : Int32} (hin : vp_in i (kLn k)) (hdg : decode cc pc = .ok (.iastore, 1))
    (kk : ∀ (H : Heap) (locs : List Loc), KB D dA a (σ.b k (upd (σ.2.1 k) i.toNatClampNeg x)) H0 H locs → W p l e R s m args below meth c H locs cells slots Q (F0 m (pc + 1) ls rest)) : W p l e R s m args below meth c H locs cells slots Q (F0 m pc ls (.int x :: .int i :: .ref (a k) :: rest)) := by
  refine va_iast S.1 S.2.1 hK hM.1 (kW_D hI) hM.2 (kPos k) 0 ((kW_k hk).trans (by rw [kE_int hkd])) rfl hin hdg (fun H1 locs1 h1 h2 h3 => ?_)
  rw [kW_set (σ' := σ.b k (upd (σ.2.1 k) i.toNatClampNeg x)) hk _ (by rw [kE_int hkd]; simp [MS.b, va_up]) (fun j hj => by simp [kE, MS.b, va_up, hj]) (by simp [kF, kFv, MS.b])] at h1
  exact kk H1 locs1 ⟨h1, h3⟩
theorem k_lst (hI : kInj a) (S : CallFix p m c cc nL s args lw_all RX0) (hK : va_K D vwCl (tyL dA) s) (hM : KB D dA a σ H0 H locs) (k : Nat) (hk : k ∈ kL) (hkd : kKd k = 2) {i : Int32} {x : Int64} (hin : vp_in i (kLn k)) (hdg : decode cc pc = .ok (.lastore, 1))
    (kk : ∀ (H : Heap) (locs : List Loc), KB D dA a (σ.l k (vp_updL (σ.2.2.1 k) i.toNatClampNeg x)) H0 H locs → W p l e R s m args below meth c H locs cells slots Q (F0 m (pc + 1) ls rest)) : W p l e R s m args below meth c H locs cells slots Q (F0 m pc ls (.long x :: .int i :: .ref (a k) :: rest)) := by
  refine va_last S.1 S.2.1 hK hM.1 (kW_D hI) hM.2 (kPos k) 1 ((kW_k hk).trans (by rw [kE_long hkd])) rfl hin hdg (fun H1 locs1 h1 h2 h3 => ?_)
  rw [kW_set (σ' := σ.l k (vp_updL (σ.2.2.1 k) i.toNatClampNeg x)) hk _ (by rw [kE_long hkd]; simp [MS.l, va_up]) (fun j hj => by simp [kE, MS.l, va_up, hj]) (by simp [kF, kFv, MS.l])] at h1
  exact kk H1 locs1 ⟨h1, h3⟩
/-- an array of the component as a cell -/
theorem k_cell (hP : va_P D vwCl (kW dA a σ) H) (k : Nat) (hk : k ∈ kL) (hkd : kKd k = 1) : H[a k]? = some (vp_cell (dA 0) (kLn k, .inl (σ.2.1 k))) := by
  have h := hP (kPos k) _ (kW_k hk)
  rw [kE_int hkd] at h
  exact h
/-- the receiver -/
theorem k_recv (hK : va_K D vwCl (tyL dA) s) (hP : va_P D vwCl (kW dA a σ) H) : ∃ cell : Cell, H[a 0]? = some cell ∧ cell.vm.isStatics = false ∧ s.vm.findClass RX0 = some cell.cls :=
  va_recv hK hP (ci := 0) (q0 := 0) rfl kW_0
theorem k_back {g : JFrame} {rest : List Value} {aa : Array Value} (hM : KB D dA a σ H0 H locs) (hr : va_Run p l e R s m args below meth c H locs cells slots 0 0 g rest (KQc D dA a post aa) (kAd a))
    (kk : ∀ (v : Option Value) (σ' : MS) (H : Heap) (locs : List Loc), post v σ' → KB D dA a σ' H0 H locs → W p l e R s m args below meth c H locs cells slots Q ({ g with pc := g.pc + 3, stack := v.toList ++ rest })) : W p l e R s m args below meth c H locs cells slots Q g := by
  intro T hT X
  obtain ⟨v, st₀, t, T', L, e1, X', hL, e2, e3, ⟨⟨v', σ', hv', hp, hP'⟩, hF⟩, go⟩ := hr T hT X
  cases hv'
  have hS' : va_S (kAd a) H0 t.heap (locs ++ L) := by
    refine ⟨Nat.le_trans hM.2.1 (by rw [← e1]; exact hF.1), fun q h1 h2 => ?_, fun q hq => ?_⟩
    · rw [hF.2 q (by rw [e1]; exact Nat.lt_of_lt_of_le h1 hM.2.1) h2, e1]
      exact hM.2.2.1 q h1 h2
    · rcases List.mem_append.mp hq with h | h
      · exact hM.2.2.2 q h
      · exact hL q h
  obtain ⟨t2, a1, b1⟩ := kk v σ' t.heap (locs ++ L) hp ⟨hP', hS'⟩ T' e2 X'
  exact ⟨t2, go t2 a1, b1⟩
/-- a method of the component that writes is called on the component -/
theorem kc_V {Ph : Heap → Prop} {y : MethodName} {code : ByteArray} {n index : Nat} {ret : Option FieldType} {fr lc : Nat} {own : String} (As : List Value) (nn : Nat) (S : CallFix p m c cc nL s args lw_all own) (hK : va_K D vwCl (tyL dA) s) (hM : KB D dA a σ H0 H locs) (hC : KC l y code n ret fr lc D dA a (.ref (a 0) :: As) σ Ph post)
    (hw : GoodIn lw_all (wsV own index RX0 y (ws_ y code n ret))) (hd : y.cls = RX0 ∧ y.cls ≠ "java/lang/invoke/MethodHandle" ∧ y.cls ≠ "java/lang/invoke/VarHandle" ∧ (parseMethodDescriptor y.desc).map (fun d => d.parameters.length) = some nn) (hn : As.length = nn) (hR : fr + 1 ≤ R.frames ∧ 8 + (n + 11) + lc ≤ R.locals)
    (hsz : ls.size = nL) (hst : (rest.map fun v => v.category).sum ≤ 8) (hdg : decode cc pc = .ok (.invokevirtual index, 3)) (hf : cells ≤ R.cells ∧ slots ≤ R.slots) (hPh : Ph H)
    (kk : ∀ (v : Option Value) (σ' : MS) (H : Heap) (locs : List Loc), post v σ' → KB D dA a σ' H0 H locs → W p l e R s m args below meth c H locs cells slots Q (F0 m (pc + 3) ls (v.toList ++ rest))) {st : List Value} (hs : st = As.reverse ++ .ref (a 0) :: rest) : W p l e R s m args below meth c H locs cells slots Q (F0 m pc ls st) :=
  k_back (rest := rest) hM (va_runV (As := As) (rest := rest) S hC (cwV nn S.2.2.2.2 hw rfl rfl rfl hd hR) ⟨rc_blind (Ph := fun H9 => va_P D vwCl (kW dA a σ) H9 ∧ Ph H9), k_recv hK hM.1, fun U hU hW => ⟨rfl, va_K.moved hW.alike hK, by rw [hU]; exact ⟨hM.1, hPh⟩⟩⟩ rfl hn hsz hs (lv_room hst) hdg hf) kk
end KCR
section KRUL
variable {p : Program} {l : Launch} {e : Env} {R : Room} {s : State} {m : MethodId} {args : Array Value} {below : List Frame} {meth : Method} {c : Code} {H : Heap} {locs : List Loc} {cells slots : Nat} {Q : State → Prop}
variable {cc : ByteArray} {pc nL : Nat} {ls : Array Slot} {rest : List Value} {D : va_G} {dA : Nat → ClassId} {own : String} {a : Nat → Nat} {σ τ : MS} {H0 : Heap}
variable {y : MethodName} {code : ByteArray} {n index : Nat} {ret : Option FieldType} {fr lc : Nat} {Ph : Heap → Prop}
theorem kc_Vi {X : Int32} (As : List Value) (nn : Nat) (S : CallFix p m c cc nL s args lw_all own) (hK : va_K D vwCl (tyL dA) s) (hM : KB D dA a σ H0 H locs) (hC : KC l y code n ret fr lc D dA a (.ref (a 0) :: As) σ Ph (fun v σ' => v = some (.int X) ∧ σ' = τ))
    (hw : GoodIn lw_all (wsV own index RX0 y (ws_ y code n ret))) (hd : y.cls = RX0 ∧ y.cls ≠ "java/lang/invoke/MethodHandle" ∧ y.cls ≠ "java/lang/invoke/VarHandle" ∧ (parseMethodDescriptor y.desc).map (fun d => d.parameters.length) = some nn) (hn : As.length = nn) (hR : fr + 1 ≤ R.frames ∧ 8 + (n + 11) + lc ≤ R.locals)
    (hsz : ls.size = nL) (hst : (rest.map fun v => v.category).sum ≤ 8) (hdg : decode cc pc = .ok (.invokevirtual index, 3)) (hf : cells ≤ R.cells ∧ slots ≤ R.slots) (hPh : Ph H)
    (kk : ∀ (H : Heap) (locs : List Loc), KB D dA a τ H0 H locs → W p l e R s m args below meth c H locs cells slots Q (F0 m (pc + 3) ls (.int X :: rest))) {st : List Value} (hs : st = As.reverse ++ .ref (a 0) :: rest) : W p l e R s m args below meth c H locs cells slots Q (F0 m pc ls st) :=
  kc_V As nn S hK hM hC hw hd hn hR hsz hst hdg hf hPh (fun v σ' H locs hv hM => by obtain ⟨rfl, rfl⟩ := hv; exact kk H locs hM) hs
theorem kc_Vl {X : Int64} (As : List Value) (nn : Nat) (S : CallFix p m c cc nL s args lw_all own) (hK : va_K D vwCl (tyL dA) s) (hM : KB D dA a σ H0 H locs) (hC : KC l y code n ret fr lc D dA a (.ref (a 0) :: As) σ Ph (fun v σ' => v = some (.long X) ∧ σ' = τ))
    (hw : GoodIn lw_all (wsV own index RX0 y (ws_ y code n ret))) (hd : y.cls = RX0 ∧ y.cls ≠ "java/lang/invoke/MethodHandle" ∧ y.cls ≠ "java/lang/invoke/VarHandle" ∧ (parseMethodDescriptor y.desc).map (fun d => d.parameters.length) = some nn) (hn : As.length = nn) (hR : fr + 1 ≤ R.frames ∧ 8 + (n + 11) + lc ≤ R.locals)
    (hsz : ls.size = nL) (hst : (rest.map fun v => v.category).sum ≤ 8) (hdg : decode cc pc = .ok (.invokevirtual index, 3)) (hf : cells ≤ R.cells ∧ slots ≤ R.slots) (hPh : Ph H)
    (kk : ∀ (H : Heap) (locs : List Loc), KB D dA a τ H0 H locs → W p l e R s m args below meth c H locs cells slots Q (F0 m (pc + 3) ls (.long X :: rest))) {st : List Value} (hs : st = As.reverse ++ .ref (a 0) :: rest) : W p l e R s m args below meth c H locs cells slots Q (F0 m pc ls st) :=
  kc_V As nn S hK hM hC hw hd hn hR hsz hst hdg hf hPh (fun v σ' H locs hv hM => by obtain ⟨rfl, rfl⟩ := hv; exact kk H locs hM) hs
theorem kc_Vv (As : List Value) (nn : Nat) (S : CallFix p m c cc nL s args lw_all own) (hK : va_K D vwCl (tyL dA) s) (hM : KB D dA a σ H0 H locs) (hC : KC l y code n ret fr lc D dA a (.ref (a 0) :: As) σ Ph (fun v σ' => v = none ∧ σ' = τ))
    (hw : GoodIn lw_all (wsV own index RX0 y (ws_ y code n ret))) (hd : y.cls = RX0 ∧ y.cls ≠ "java/lang/invoke/MethodHandle" ∧ y.cls ≠ "java/lang/invoke/VarHandle" ∧ (parseMethodDescriptor y.desc).map (fun d => d.parameters.length) = some nn) (hn : As.length = nn) (hR : fr + 1 ≤ R.frames ∧ 8 + (n + 11) + lc ≤ R.locals)
    (hsz : ls.size = nL) (hst : (rest.map fun v => v.category).sum ≤ 8) (hdg : decode cc pc = .ok (.invokevirtual index, 3)) (hf : cells ≤ R.cells ∧ slots ≤ R.slots) (hPh : Ph H)
    (kk : ∀ (H : Heap) (locs : List Loc), KB D dA a τ H0 H locs → W p l e R s m args below meth c H locs cells slots Q (F0 m (pc + 3) ls rest)) {st : List Value} (hs : st = As.reverse ++ .ref (a 0) :: rest) : W p l e R s m args below meth c H locs cells slots Q (F0 m pc ls st) :=
  kc_V As nn S hK hM hC hw hd hn hR hsz hst hdg hf hPh (fun v σ' H locs hv hM => by obtain ⟨rfl, rfl⟩ := hv; exact kk H locs hM) hs
theorem kLn_lt : ∀ k, kLn k < 2 ^ 31 := by
  intro k
  by_cases h : k < 15
  · have : ∀ k, k < 15 → kLn k < 2 ^ 31 := by decide +kernel
    exact this k h
  · unfold kLn
    rw [List.getD_eq_getElem?_getD, List.getElem?_eq_none (by simp; omega)]
    decide
/-- places by natural numbers -/
theorem k_aldn (S : CallFix p m c cc nL s args lw_all RX0) (hK : va_K D vwCl (tyL dA) s) (hP : va_P D vwCl (kW dA a σ) H) (k : Nat) (hk : k ∈ kL) (hkd : kKd k = 1) {j : Nat} (hj : j < kLn k) (hdg : decode cc pc = .ok (.iaload, 1))
    {v : Int32} (hv : σ.2.1 k j = v) (kk : W p l e R s m args below meth c H locs cells slots Q (F0 m (pc + 1) ls (.int v :: rest))) : W p l e R s m args below meth c H locs cells slots Q (F0 m pc ls (.int (nI j) :: .ref (a k) :: rest)) :=
  k_ald S hK hP k hk hkd (vp_in_nI hj (kLn_lt k)) hdg (by rw [nI_clamp (Nat.lt_trans hj (kLn_lt k)), hv]; exact kk)
theorem k_lldn (S : CallFix p m c cc nL s args lw_all RX0) (hK : va_K D vwCl (tyL dA) s) (hP : va_P D vwCl (kW dA a σ) H) (k : Nat) (hk : k ∈ kL) (hkd : kKd k = 2) {j : Nat} (hj : j < kLn k) (hdg : decode cc pc = .ok (.laload, 1))
    {v : Int64} (hv : σ.2.2.1 k j = v) (kk : W p l e R s m args below meth c H locs cells slots Q (F0 m (pc + 1) ls (.long v :: rest))) : W p l e R s m args below meth c H locs cells slots Q (F0 m pc ls (.int (nI j) :: .ref (a k) :: rest)) :=
  k_lld S hK hP k hk hkd (vp_in_nI hj (kLn_lt k)) hdg (by rw [nI_clamp (Nat.lt_trans hj (kLn_lt k)), hv]; exact kk)
theorem k_astn (hI : kInj a) (S : CallFix p m c cc nL s args lw_all RX0) (hK : va_K D vwCl (tyL dA) s) (hM : KB D dA a σ H0 H locs) (k : Nat) (hk : k ∈ kL) (hkd : kKd k = 1) {j : Nat} {x : Int32} (hj : j < kLn k) (hdg : decode cc pc = .ok (.iastore, 1))
    (kk : ∀ (H : Heap) (locs : List Loc), KB D dA a (σ.b k (upd (σ.2.1 k) j x)) H0 H locs → W p l e R s m args below meth c H locs cells slots Q (F0 m (pc + 1) ls rest)) : W p l e R s m args below meth c H locs cells slots Q (F0 m pc ls (.int x :: .int (nI j) :: .ref (a k) :: rest)) :=
  k_ast hI S hK hM k hk hkd (vp_in_nI hj (kLn_lt k)) hdg (fun H locs h => by rw [nI_clamp (Nat.lt_trans hj (kLn_lt k))] at h; exact kk H locs h)
theorem k_lstn (hI : kInj a) (S : CallFix p m c cc nL s args lw_all RX0) (hK : va_K D vwCl (tyL dA) s) (hM : KB D dA a σ H0 H locs) (k : Nat) (hk : k ∈ kL) (hkd : kKd k = 2) {j : Nat} {x : Int64} (hj : j < kLn k) (hdg : decode cc pc = .ok (.lastore, 1))
    (kk : ∀ (H : Heap) (locs : List Loc), KB D dA a (σ.l k (vp_updL (σ.2.2.1 k) j x)) H0 H locs → W p l e R s m args below meth c H locs cells slots Q (F0 m (pc + 1) ls rest)) : W p l e R s m args below meth c H locs cells slots Q (F0 m pc ls (.long x :: .int (nI j) :: .ref (a k) :: rest)) :=
  k_lst hI S hK hM k hk hkd (vp_in_nI hj (kLn_lt k)) hdg (fun H locs h => by rw [nI_clamp (Nat.lt_trans hj (kLn_lt k))] at h; exact kk H locs h)
end KRUL
/-- what stays as long as only the component's own cells are written -/
def kStb (a : Nat → Nat) (Ph : Heap → Prop) : Prop := ∀ (H0 H : Heap) (locs : List Loc), Ph H0 → va_S (kAd a) H0 H locs → Ph H
theorem kStb.at {a : Nat → Nat} {Ph : Heap → Prop} (h : kStb a Ph) {D : va_G} {dA : Nat → ClassId} {σ : MS} {H0 H : Heap} {locs : List Loc} (hM : KB D dA a σ H0 H locs) (h0 : Ph H0) : Ph H := h H0 H locs h0 hM.2
