/-! LISTK: what the list's growing asks of the tables and of the heap -/
set_option maxRecDepth 100000
def ZV (zs zf : Nat) (U : State) : Prop := ∃ (cf : ClassId) (kf : Class) (fi : Nat) (f : Field), U.fieldFound? "java/util/ArrayList" "DEFAULTCAPACITY_EMPTY_ELEMENTDATA" "[Ljava/lang/Object;" = some (cf, kf, fi, f) ∧ f.isStatic = true ∧ kf.init = .initialized ∧ kf.statics = some zs ∧ f.slot = zf
/-- the static that holds the empty array -/
def ZH (zs zf e0 : Nat) (H : Heap) : Prop := ∃ cell : Cell, H[zs]? = some cell ∧ cell.vm.isStatics = true ∧ cell.slots[zf]? = some (.ref e0)
/-- the empty array -/
def EH (dA : Nat → ClassId) (e0 : Nat) (H : Heap) : Prop := ∃ cell : Cell, H[e0]? = some cell ∧ cell.cls = dA 5 ∧ (∀ k, cell.vm ≠ .statics k) ∧ cell.vm ≠ .unknown ∧ cell.slots.size = 0
def K4 (D : va_G) (dA : Nat → ClassId) (mi zs zf : Nat) (U : State) : Prop := K2 D dA U ∧ va_AO "java/lang/Object" U ∧ va_Mi "[Ljava/lang/Object;" mi U ∧ ZV zs zf U
theorem Wm_K4 {D : va_G} {dA : Nat → ClassId} {mi zs zf : Nat} : Wm (K4 D dA mi zs zf) := fun s U hW h => ⟨h.1.warm hW, h.2.1.moved hW.alike, h.2.2.1.moved hW.alike, by
  obtain ⟨cf, kf, fi, f, h1, h2, h3, h4, h5⟩ := h.2.2.2
  obtain ⟨k', hi', he⟩ := State.fieldFound?_setVm hW.alike h1
  exact ⟨cf, k', fi, f, hi', h2, by rw [he]; exact h3, by rw [he]; exact h4, h5⟩⟩
theorem ZH.z {zs zf e0 : Nat} {A : Nat → Prop} {U : State} {H : Heap} (h : ZH zs zf e0 H) (hv : ZV zs zf U) (hA : ¬ A zs) : va_Z "java/util/ArrayList" "DEFAULTCAPACITY_EMPTY_ELEMENTDATA" "[Ljava/lang/Object;" (.ref e0) A U H := by
  obtain ⟨cf, kf, fi, f, h1, h2, h3, h4, h5⟩ := hv
  obtain ⟨cell, g1, g2, g3⟩ := h
  exact ⟨cf, kf, fi, f, zs, cell, h1, h2, h3, h4, g1, g2, by rw [h5]; exact g3, hA⟩
theorem ZH.fr {zs zf e0 : Nat} {A : Nat → Prop} {H H1 : Heap} (h : ZH zs zf e0 H) (o1 : ∀ q, q < H.size → ¬ A q → H1[q]? = H[q]?) (hA : ¬ A zs) : ZH zs zf e0 H1 := by
  obtain ⟨cell, g1, g2⟩ := h
  exact ⟨cell, by rw [o1 zs (Array.getElem?_eq_some_iff.mp g1).1 hA]; exact g1, g2⟩
theorem EH.fr {dA : Nat → ClassId} {e0 : Nat} {A : Nat → Prop} {H H1 : Heap} (h : EH dA e0 H) (o1 : ∀ q, q < H.size → ¬ A q → H1[q]? = H[q]?) (hA : ¬ A e0) : EH dA e0 H1 := by
  obtain ⟨cell, g1, g2⟩ := h
  exact ⟨cell, by rw [o1 e0 (Array.getElem?_eq_some_iff.mp g1).1 hA]; exact g1, g2⟩
/-- an object that is a ring of some kind -/
def anyR (D : va_G) (g : Nat) (H : Heap) : Prop := ∃ κ fs, κ < 3 ∧ va_P D vwCl [(g, .inr (3 + κ, fs))] H
theorem anyR.fr {D : va_G} {g : Nat} {A : Nat → Prop} {H H1 : Heap} (h : anyR D g H) (o1 : ∀ q, q < H.size → ¬ A q → H1[q]? = H[q]?) (hA : ¬ A g) : anyR D g H1 := by
  obtain ⟨κ, fs, h1, h2⟩ := h
  exact ⟨κ, fs, h1, h2.fr o1 (one_A hA)⟩
theorem anyR.keep {D : va_G} {g : Nat} {A : Nat → Prop} {H H1 : Heap} {locs : List Loc} (h : anyR D g H) (hS : va_S A H H1 locs) (hA : ¬ A g) : anyR D g H1 := h.fr hS.2.1 hA
theorem anyR.any {D : va_G} {dA : Nat → ClassId} {g : Nat} {H : Heap} {s : State} (h : anyR D g H) (hK : K2 D dA s) : va_Any "java/lang/Object" s H g := by
  have key : ∀ C, Cond.castable C "java/lang/Object" ∈ lw_tbl → ∀ comp c0 : ClassId, s.vm.findClass "java/lang/Object" = some comp → s.vm.findClass C = some c0 → s.vm.assignable c0 comp = true := by
    intro C hw comp c0 h1 h2
    obtain ⟨c3, c4, e3, e4, hasg⟩ := Cond.castable_spec (hK.2.1 _ hw rfl)
    cases h2.symm.trans e3
    cases h1.symm.trans e4
    exact hasg
  obtain ⟨κ, fs, hκ, hP⟩ := h
  match κ, hκ, hP with
  | 0, _, hP => exact va_rAny hK.1 hP (q0 := 0) (ci := 3) rfl rfl (key _ q1561)
  | 1, _, hP => exact va_rAny hK.1 hP (q0 := 0) (ci := 4) rfl rfl (key _ q1563)
  | 2, _, hP => exact va_rAny hK.1 hP (q0 := 0) (ci := 5) rfl rfl (key _ q1562)
theorem K_o {D : va_G} {dA : Nat → ClassId} {cA : ClassId} {s : State} (h : va_K D vwCl (tyL dA ++ [(cA, .object "java/lang/Object")]) s) : cA = dA 5 := by
  obtain ⟨_, _, _, _, _, h1⟩ := (h.2 6 (cA, .object "java/lang/Object") rfl).2
  obtain ⟨_, _, _, _, _, h2⟩ := (h.2 5 (dA 5, .object "java/lang/Object") rfl).2
  exact Option.some.inj (h1.symm.trans h2)
theorem D1 {A : Nat → Prop} {b : Nat} {e : va_E} (h : A b) : va_D A [(b, e)] := ⟨fun i j p q hp hq _ => by
  match i, j, hp, hq with
  | 0, 0, _, _ => rfl
  | i + 1, _, hp, _ => simp at hp
  | _, j + 1, _, hq => simp at hq, fun k q hq => by
  match k, hq with
  | 0, hq => cases hq; exact h
  | k + 1, hq => simp at hq⟩
theorem D2 {A : Nat → Prop} {b b' : Nat} {e e' : va_E} (h : A b) (h' : A b') (hne : b ≠ b') : va_D A [(b, e), (b', e')] :=
  va_D.app (D1 h) (D1 h') (fun i j p q hp hq => by
    match i, j, hp, hq with
    | 0, 0, hp, hq => cases hp; cases hq; exact hne
    | i + 1, _, hp, _ => simp at hp
    | _, j + 1, _, hq => simp at hq)
section LISTK
variable {p : Program} {l : Launch} {e : Env} {R : Room} {s : State} {m : MethodId} {args : Array Value} {below : List Frame} {meth : Method} {c : Code} {H : Heap} {locs : List Loc} {cells slots : Nat} {Q : State → Prop}
variable {cc : ByteArray} {pc nL : Nat} {ls : Array Slot} {rest : List Value} {D : va_G} {dA : Nat → ClassId} {own : String}
theorem e_len (S : CallFix p m c cc nL s args lw_all own) (hK : va_K D vwCl (tyL dA) s) {e0 : Nat} (h : EH dA e0 H) (hdg : decode cc pc = .ok (.arraylength, 1)) (kk : W p l e R s m args below meth c H locs cells slots Q (F0 m (pc + 1) ls (.int 0 :: rest))) : W p l e R s m args below meth c H locs cells slots Q (F0 m pc ls (.ref e0 :: rest)) := by
  obtain ⟨cell, g1, g2, g3, g4, g5⟩ := h
  obtain ⟨-, k0, hk0, hkk0⟩ := (hK.2 5 (dA 5, .object "java/lang/Object") rfl).1 0 (fun _ => .null)
  exact W.alen (n := 0) S.1 S.2.1 g1 ⟨g3, k0, by rw [g2]; exact hk0, hkk0⟩ (by rw [g5]; rfl) rfl rfl hdg kk
end LISTK
