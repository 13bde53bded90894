/-! FX: the tables' words that are not in a method's own list: casts, interface methods, nest mates -/
set_option maxRecDepth 100000
def fxK : Cond → Bool
  | .castable _ _ => true
  | .declares _ => true
  | .publicMethod _ => true
  | .unhidden _ _ _ => true
  | .fieldLinkNest _ _ _ _ _ _ => true
  | .methodLinkNest _ _ _ _ => true
  | _ => false
/-- methods of interfaces that are called -/
def fxI : List MethodName := [⟨"java/util/List", "isEmpty", "()Z"⟩, ⟨"java/util/List", "size", "()I"⟩, ⟨"java/util/List", "get", "(I)Ljava/lang/Object;"⟩, ⟨"java/util/List", "add", "(Ljava/lang/Object;)Z"⟩, ⟨"java/util/List", "remove", "(I)Ljava/lang/Object;"⟩, ⟨"java/util/List", "clear", "()V"⟩, ⟨"CallRounds$Logged", "logged", "()I"⟩, ⟨"CallRounds$Logged", "tracedBy", "(I)I"⟩, ⟨"CallRounds$Logged", "number", "()I"⟩]
def FX (U : State) : Prop := (∀ w ∈ lw_tbl, fxK w = true → va_Nw w U) ∧ ∀ x ∈ fxI, va_Nw (.interfaceMethod x.cls x.cls x.name x.desc) U
theorem fxI_ok : ∀ x ∈ fxI, Cond.declares x ∈ lw_tbl ∧ x.cls ≠ "java/lang/invoke/MethodHandle" ∧ x.cls ≠ "java/lang/invoke/VarHandle" := by
  intro x hx
  simp only [fxI, List.mem_cons, List.not_mem_nil, or_false] at hx
  rcases hx with rfl | rfl | rfl | rfl | rfl | rfl | rfl | rfl | rfl
  · exact ⟨q202, by decide, by decide⟩
  · exact ⟨q216, by decide, by decide⟩
  · exact ⟨q225, by decide, by decide⟩
  · exact ⟨q346, by decide, by decide⟩
  · exact ⟨q443, by decide, by decide⟩
  · exact ⟨q992, by decide, by decide⟩
  · exact ⟨q1096, by decide, by decide⟩
  · exact ⟨q1105, by decide, by decide⟩
  · exact ⟨q1118, by decide, by decide⟩
theorem fx_tr {u U : State} {c : Cond} (hc : c.onTables = true) (h : c.before #[] (u.setVm U.vm) = true) : va_Nw c U := va_tabs hc (rfl : (u.setVm U.vm).vm = U.vm) h
theorem FX.warm {s U : State} (hW : s.WarmedH U.vm) (h : FX s) : FX U := by
  have h1 : ∀ w ∈ lw_tbl, fxK w = true → va_Nw w U := by
    intro w hw hk
    have hz := h.1 w hw hk
    cases w with
    | castable C T => exact va_Nw.warmC hW hz
    | declares x => exact va_Nw.warmD hW hz
    | publicMethod x => exact fx_tr (u := s) rfl (by rw [Cond.publicMethod_setVm hW.alike]; exact hz)
    | unhidden a b c => exact fx_tr (u := s) rfl (by rw [Cond.unhidden_setVm hW.alike]; exact hz)
    | fieldLinkNest a i b n d h => exact va_Nw.warmF hW hz
    | methodLinkNest a i x h => exact va_Nw.warmM hW hz
    | _ => cases hk
  refine ⟨h1, fun x hx => ?_⟩
  obtain ⟨hd, hx1⟩ := fxI_ok x hx
  obtain ⟨r, meth, hn, -⟩ := Cond.declares_spec (h.1 _ hd rfl)
  exact fx_tr (u := s) rfl (by rw [Cond.interfaceMethod_setVm hW.alike (r := r) hn hx1]; exact h.2 x hx)
theorem FX.same {s U : State} (hv : s.vm = U.vm) (h : FX s) : FX U := by
  refine ⟨fun w hw hk => ?_, fun x hx => va_Nw.same rfl hv (h.2 x hx)⟩
  have hz := h.1 w hw hk
  cases w with
  | castable C T => exact va_Nw.same rfl hv hz
  | declares x => exact va_Nw.same rfl hv hz
  | publicMethod x => exact va_Nw.same rfl hv hz
  | unhidden a b c => exact va_Nw.same rfl hv hz
  | fieldLinkNest a i b n d h => exact va_Nw.same rfl hv hz
  | methodLinkNest a i x h => exact va_Nw.same rfl hv hz
  | _ => cases hk
/-- an interface's method, on objects of the class C -/
theorem FX.fw {U : State} (h : FX U) {C : String} {x y : MethodName} (hx : x ∈ fxI) (h1 : Cond.publicMethod y ∈ lw_tbl) (h2 : Cond.unhidden C x.name x.desc ∈ lw_tbl) (h3 : Cond.castable C x.cls ∈ lw_tbl) : va_Fw C x y U :=
  ⟨h.1 _ (fxI_ok x hx).1 rfl, h.2 x hx, h.1 _ h1 rfl, h.1 _ h2 rfl, h.1 _ h3 rfl⟩
