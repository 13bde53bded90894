/-! NESTK: a mate in the nest reads and writes the component's int fields -/
set_option maxRecDepth 100000
section NESTK
variable {p : Program} {l : Launch} {e : Env} {R : Room} {s : State} {m : MethodId} {args : Array Value} {below : List Frame} {meth : Method} {c : Code} {H : Heap} {locs : List Loc} {cells slots : Nat} {Q : State → Prop}
variable {cc : ByteArray} {pc nL : Nat} {ls : Array Slot} {rest : List Value} {D : va_G} {dA : Nat → ClassId} {a : Nat → Nat} {σ : MS} {H0 : Heap} {own host : String}
theorem k_getN (S : CallFix p m c cc nL s args lw_all own) (hK : va_K D vwCl (tyL dA) s) (hP : va_P D vwCl (kW dA a σ) H) (k : Nat) (hk : k < 15) {index : Nat} (hlink : va_Nw (.fieldLinkNest own index RX0 (TX0 k).2.1 (TX0 k).2.2.1 host) s) (hf : (TX0 k).1 = RX0) (hdg : decode cc pc = .ok (.getfield index, 3))
    {v : Value} (hv : kFv a σ k = v) (kk : W p l e R s m args below meth c H locs cells slots Q (F0 m (pc + 3) ls (v :: rest))) : W p l e R s m args below meth c H locs cells slots Q (F0 m pc ls (.ref (a 0) :: rest)) :=
  va_getN (D := D) (ci := 0) (C := RX0) (T := TX0) (N := 15) (host := host) S.1 S.2.1 S.2.2.2.2 in_X0 S.2.2.2.1 hK hP 0 kW_0 rfl k hk (va_tabs rfl rfl hlink) (fun _ h9 => by rw [hf] at h9; exact h9) ((kF_get hk).trans (congrArg some hv)) hdg kk
theorem k_putN (hI : kInj a) (S : CallFix p m c cc nL s args lw_all own) (hK : va_K D vwCl (tyL dA) s) (hM : KB D dA a σ H0 H locs) (k : Nat) (hk : k < 15) (hkd : kKd k = 0) {index : Nat} (hlink : va_Nw (.fieldLinkNest own index RX0 (TX0 k).2.1 (TX0 k).2.2.1 host) s) (hf : (TX0 k).1 = RX0) (hfin : (TX0 k).2.2.2 = false) (hd : parseFieldDescriptor (TX0 k).2.2.1 = some .int) (hdg : decode cc pc = .ok (.putfield index, 3))
    {v : Int32} (kk : ∀ (H : Heap) (locs : List Loc), KB D dA a (σ.i k v) H0 H locs → W p l e R s m args below meth c H locs cells slots Q (F0 m (pc + 3) ls rest)) : W p l e R s m args below meth c H locs cells slots Q (F0 m pc ls (.int v :: .ref (a 0) :: rest)) := by
  refine va_putN (D := D) (ci := 0) (C := RX0) (T := TX0) (N := 15) (ty := .int) (host := host) S.1 S.2.1 S.2.2.2.2 in_X0 tyX0 tyX0_ok nmX0 S.2.2.2.1 hK hM.1 (kW_D hI) hM.2 0 kW_0 rfl k hk (va_tabs rfl rfl hlink) (fun _ h9 => by rw [hf] at h9; exact h9) hfin hd rfl rfl (by simpa [kF] using hk) hdg (fun H1 locs1 h1 h2 h3 => ?_)
  have e1 : (kW dA a σ).set 0 (a 0, .inr (0, (kF a σ).set k (.int v))) = kW dA a (σ.i k v) := by
    rw [kF_set (σ' := σ.i k v) (.int v) (by simp [kFv, hkd, MS.i, va_up]) (fun j hj => by simp [kFv, MS.i, va_up, hj])]
    exact kW_set0 rfl (fun q => by simp [kE, MS.i])
  rw [e1] at h1
  exact kk H1 locs1 ⟨h1, h3⟩
end NESTK
