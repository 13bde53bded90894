/-! SOBJ: the fields of a search are laid -/
set_option maxRecDepth 100000
theorem ls2 {fs : List Value} {x y : Value} (h : fs.length = 2) (h0 : fs[0]? = some x) (h1 : fs[1]? = some y) : fs = [x, y] := by
  match fs, h, h0, h1 with
  | [u, v], _, h0, h1 => cases h0; cases h1; rfl
theorem ls3 {fs : List Value} {x y z : Value} (h : fs.length = 3) (h0 : fs[0]? = some x) (h1 : fs[1]? = some y) (h2 : fs[2]? = some z) : fs = [x, y, z] := by
  match fs, h, h0, h1, h2 with
  | [u, v, w], _, h0, h1, h2 => cases h0; cases h1; cases h2; rfl
section SOBJ
variable {p : Program} {l : Launch} {e : Env} {R : Room} {s : State} {m : MethodId} {args : Array Value} {below : List Frame} {meth : Method} {c : Code} {H : Heap} {locs : List Loc} {cells slots : Nat} {Q : State → Prop}
variable {cc : ByteArray} {pc nL : Nat} {ls : Array Slot} {rest : List Value} {D : va_G} {dA : Nat → ClassId} {A0 : Nat → Prop} {H0 : Heap} {b index ao : Nat}
theorem s9_p1 {x0 x1 : Value} (S : CallFix p m c cc nL s args lw_all RX9) (hK : va_K D vwCl (tyL dA) s) (hP : va_P D vwCl [(b, .inr (11, [x0, x1]))] H) (hlink : Cond.fieldLink RX9 index RX9 (TX9 1).2.1 (TX9 1).2.2.1 ∈ lw_all) (hin2 : meth.name = "<init>") (hS0 : va_S A0 H0 H locs) (hAb : A0 b) (hdg : decode cc pc = .ok (.putfield index, 3))
    (kk : ∀ (H : Heap) (locs : List Loc) (y : Value), va_P D vwCl [(b, .inr (11, [y, .ref ao]))] H → va_S A0 H0 H locs → W p l e R s m args below meth c H locs cells slots Q (F0 m (pc + 3) ls rest)) : W p l e R s m args below meth c H locs cells slots Q (F0 m pc ls (.ref ao :: .ref b :: rest)) := by
  refine g_putF (C := RX9) (T := TX9) (N := 2) (ci := 11) (ref := RX9) (index := index) (ty := .object "CallRounds") S in_X9 tyX9 tyX9_ok hK hP rfl 1 (by decide) rfl hlink (fun _ h9 => h9) rfl hin2 rfl (by decide +kernel) rfl rfl hS0 hAb hdg (fun H1 locs1 fs' b1 b2 b3 b4 b5 b6 b7 b8 => ?_)
  obtain ⟨y, hy⟩ : ∃ y, fs'[0]? = some y := ⟨_, List.getElem?_eq_getElem (by omega)⟩
  rw [ls2 b1 hy b2] at b5
  exact kk H1 locs1 y b5 b8
theorem s9_p0 {x0 : Value} (S : CallFix p m c cc nL s args lw_all RX8) (hK : va_K D vwCl (tyL dA) s) (hP : va_P D vwCl [(b, .inr (11, [x0, .ref ao]))] H) (hlink : Cond.fieldLink RX8 index RX8 (TX9 0).2.1 (TX9 0).2.2.1 ∈ lw_all) (hin2 : meth.name = "<init>") (hS0 : va_S A0 H0 H locs) (hAb : A0 b) (hdg : decode cc pc = .ok (.putfield index, 3))
    (kk : ∀ (H : Heap) (locs : List Loc), va_P D vwCl [(b, .inr (11, [.ref ao, .ref ao]))] H → va_S A0 H0 H locs → W p l e R s m args below meth c H locs cells slots Q (F0 m (pc + 3) ls rest)) : W p l e R s m args below meth c H locs cells slots Q (F0 m pc ls (.ref ao :: .ref b :: rest)) := by
  refine g_putF (C := RX9) (T := TX9) (N := 2) (ci := 11) (ref := RX8) (index := index) (ty := .object "CallRounds") S in_X9 tyX9 tyX9_ok hK hP rfl 0 (by decide) rfl hlink (fun _ h9 => h9) rfl hin2 rfl (by decide +kernel) rfl rfl hS0 hAb hdg (fun H1 locs1 fs' b1 b2 b3 b4 b5 b6 b7 b8 => ?_)
  rw [ls2 b1 b2 ((b4 1 (by decide)).elim (fun h => h) (fun h => h))] at b5
  exact kk H1 locs1 b5 b8
theorem s10_p2 {x0 x1 x2 : Value} (S : CallFix p m c cc nL s args lw_all RX10) (hK : va_K D vwCl (tyL dA) s) (hP : va_P D vwCl [(b, .inr (12, [x0, x1, x2]))] H) (hlink : Cond.fieldLink RX10 index RX10 (TX10 2).2.1 (TX10 2).2.2.1 ∈ lw_all) (hin2 : meth.name = "<init>") (hS0 : va_S A0 H0 H locs) (hAb : A0 b) (hdg : decode cc pc = .ok (.putfield index, 3))
    (kk : ∀ (H : Heap) (locs : List Loc) (y : Value), va_P D vwCl [(b, .inr (12, [y, x1, .ref ao]))] H → va_S A0 H0 H locs → W p l e R s m args below meth c H locs cells slots Q (F0 m (pc + 3) ls rest)) : W p l e R s m args below meth c H locs cells slots Q (F0 m pc ls (.ref ao :: .ref b :: rest)) := by
  refine g_putF (C := RX10) (T := TX10) (N := 3) (ci := 12) (ref := RX10) (index := index) (ty := .object "CallRounds") S in_X10 tyX10 tyX10_ok hK hP rfl 2 (by decide) rfl hlink (fun _ h9 => h9) rfl hin2 rfl (by decide +kernel) rfl rfl hS0 hAb hdg (fun H1 locs1 fs' b1 b2 b3 b4 b5 b6 b7 b8 => ?_)
  obtain ⟨y, hy⟩ : ∃ y, fs'[0]? = some y := ⟨_, List.getElem?_eq_getElem (by omega)⟩
  rw [ls3 b1 hy (b3 1 (by decide) (by decide +kernel)) b2] at b5
  exact kk H1 locs1 y b5 b8
theorem s10_p0 {x0 x1 : Value} (S : CallFix p m c cc nL s args lw_all RX8) (hK : va_K D vwCl (tyL dA) s) (hP : va_P D vwCl [(b, .inr (12, [x0, x1, .ref ao]))] H) (hlink : Cond.fieldLink RX8 index RX8 (TX10 0).2.1 (TX10 0).2.2.1 ∈ lw_all) (hin2 : meth.name = "<init>") (hS0 : va_S A0 H0 H locs) (hAb : A0 b) (hdg : decode cc pc = .ok (.putfield index, 3))
    (kk : ∀ (H : Heap) (locs : List Loc), va_P D vwCl [(b, .inr (12, [.ref ao, x1, .ref ao]))] H → va_S A0 H0 H locs → W p l e R s m args below meth c H locs cells slots Q (F0 m (pc + 3) ls rest)) : W p l e R s m args below meth c H locs cells slots Q (F0 m pc ls (.ref ao :: .ref b :: rest)) := by
  refine g_putF (C := RX10) (T := TX10) (N := 3) (ci := 12) (ref := RX8) (index := index) (ty := .object "CallRounds") S in_X10 tyX10 tyX10_ok hK hP rfl 0 (by decide) rfl hlink (fun _ h9 => h9) rfl hin2 rfl (by decide +kernel) rfl rfl hS0 hAb hdg (fun H1 locs1 fs' b1 b2 b3 b4 b5 b6 b7 b8 => ?_)
  rw [ls3 b1 b2 (b3 1 (by decide) (by decide +kernel)) ((b4 2 (by decide)).elim (fun h => h) (fun h => h))] at b5
  exact kk H1 locs1 b5 b8
theorem s10_p1 {x0 x1 x2 : Value} {v : Int32} (S : CallFix p m c cc nL s args lw_all RX10) (hK : va_K D vwCl (tyL dA) s) (hP : va_P D vwCl [(b, .inr (12, [x0, x1, x2]))] H) (hlink : Cond.fieldLink RX10 index RX10 (TX10 1).2.1 (TX10 1).2.2.1 ∈ lw_all) (hin2 : meth.name = "<init>") (hS0 : va_S A0 H0 H locs) (hAb : A0 b) (hdg : decode cc pc = .ok (.putfield index, 3))
    (kk : ∀ (H : Heap) (locs : List Loc), va_P D vwCl [(b, .inr (12, [x0, .int v, x2]))] H → va_S A0 H0 H locs → W p l e R s m args below meth c H locs cells slots Q (F0 m (pc + 3) ls rest)) : W p l e R s m args below meth c H locs cells slots Q (F0 m pc ls (.int v :: .ref b :: rest)) := by
  refine g_putF (C := RX10) (T := TX10) (N := 3) (ci := 12) (ref := RX10) (index := index) (ty := .int) S in_X10 tyX10 tyX10_ok hK hP rfl 1 (by decide) rfl hlink (fun _ h9 => h9) rfl hin2 rfl (by decide +kernel) rfl rfl hS0 hAb hdg (fun H1 locs1 fs' b1 b2 b3 b4 b5 b6 b7 b8 => ?_)
  rw [ls3 b1 (b3 0 (by decide) (by decide +kernel)) b2 (b3 2 (by decide) (by decide +kernel))] at b5
  exact kk H1 locs1 b5 b8
end SOBJ
