/-! STATICS: a static of which it is said that it holds a reference or null: the tables' part and the heap's part -/
set_option maxRecDepth 100000
def SV (C nm ds : String) (c : ClassId) (zs zf : Nat) (U : State) : Prop := ∃ (kf : Class) (fi : Nat) (f : Field), U.vm.findClass C = some c ∧ U.fieldFound? C nm ds = some (c, kf, fi, f) ∧ f.isStatic = true ∧ kf.statics = some zs ∧ f.slot = zf ∧ kf.staticTypes[f.slot]? = some f.type
def SH (c : ClassId) (zs zf : Nat) (H : Heap) : Prop := ∃ cell : Cell, H[zs]? = some cell ∧ cell.vm.isStatics = true ∧ cell.cls = c ∧ ∃ v, cell.slots[zf]? = some v ∧ v.isRef = true
theorem SV.warm {C nm ds : String} {c : ClassId} {zs zf : Nat} {s U : State} (hW : s.WarmedH U.vm) (h : SV C nm ds c zs zf s) : SV C nm ds c zs zf U := by
  obtain ⟨kf, fi, f, h0, h1, h2, h3, h4, h5⟩ := h
  obtain ⟨k', hi', he⟩ := State.fieldFound?_setVm hW.alike h1
  exact ⟨k', fi, f, by rw [hW.alike.findClass]; exact h0, hi', h2, by rw [he]; exact h3, h4, by rw [he]; exact h5⟩
theorem SH.fr {c : ClassId} {zs zf : Nat} {A : Nat → Prop} {H H1 : Heap} (h : SH c zs zf H) (o1 : ∀ q, q < H.size → ¬ A q → H1[q]? = H[q]?) (hA : ¬ A zs) : SH c zs zf H1 := by
  obtain ⟨cell, g1, g2⟩ := h
  exact ⟨cell, by rw [o1 zs (Array.getElem?_eq_some_iff.mp g1).1 hA]; exact g1, g2⟩
theorem SV.lays {C nm ds : String} {c : ClassId} {zs zf : Nat} {U : State} {args : Array Value} (h : SV C nm ds c zs zf U) (g : SH c zs zf U.heap) : (Cond.laysStatic C nm ds).before args U = true := by
  obtain ⟨kf, fi, f, h0, h1, h2, h3, h4, h5⟩ := h
  obtain ⟨cell, g1, g2, g3, v, g4, g5⟩ := g
  have hlt : f.slot < cell.slots.size := by rw [h4]; exact (Array.getElem?_eq_some_iff.mp g4).1
  simp [Cond.before, Cond.holds, Cond.value, h0, h1, h3, g1, h2, g2, g3, hlt, h5]
theorem SV.isRef {C nm ds : String} {c : ClassId} {zs zf : Nat} {U : State} {args : Array Value} (h : SV C nm ds c zs zf U) (g : SH c zs zf U.heap) : (Cond.isRef (.static C nm ds)).before args U = true := by
  obtain ⟨kf, fi, f, h0, h1, h2, h3, h4, h5⟩ := h
  obtain ⟨cell, g1, g2, g3, v, g4, g5⟩ := g
  have he : (Term.static C nm ds).eval args U none [] U = some v := by
    simp [Term.eval, State.fieldNamed?, h1, h2, h3, g1, g2, h4, g4]
  simp only [Cond.before, Cond.holds, Cond.value]
  rw [he]
  cases v <;> simp [Value.isRef] at g5 ⊢
theorem SV.of {C nm ds : String} {args : Array Value} {s : State} (h1 : (Cond.laysStatic C nm ds).before args s = true) (h2 : (Cond.isRef (.static C nm ds)).before args s = true) : ∃ c zs zf, SV C nm ds c zs zf s ∧ SH c zs zf s.heap := by
  simp only [Cond.before, Cond.holds, Cond.value] at h1
  cases hc : s.vm.findClass C with
  | none => simp [hc] at h1
  | some c =>
  cases hf : s.fieldFound? C nm ds with
  | none => simp [hc, hf] at h1
  | some q =>
  obtain ⟨c', k, fi, f⟩ := q
  cases hs : k.statics with
  | none => simp [hc, hf, hs] at h1
  | some zs =>
  cases hh : s.heap[zs]? with
  | none => simp [hc, hf, hs, hh] at h1
  | some cell =>
  simp only [hc, hf, hs, hh, Option.bind_some, Option.map_some, beq_iff_eq, Option.some.injEq, Bool.and_eq_true, decide_eq_true_eq] at h1
  obtain ⟨⟨⟨⟨⟨a1, a2⟩, a3⟩, a4⟩, a5⟩, a6⟩ := h1
  subst a2
  obtain ⟨u, hu⟩ := Cond.staticRefV hf a1 hs hh a3 h2
  exact ⟨c, zs, f.slot, ⟨k, fi, f, hc, hf, a1, hs, rfl, a6⟩, cell, hh, a3, a4, u.v, hu, u.2⟩
