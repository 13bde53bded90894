/-! COMPONENT 41: the Acts are made (by program: gen/comp41.py) -/
set_option maxRecDepth 100000
theorem ls4 {fs : List Value} {u0 u1 u2 u3 : Value} (h : fs.length = 4) (h0 : fs[0]? = some u0) (h1 : fs[1]? = some u1) (h2 : fs[2]? = some u2) (h3 : fs[3]? = some u3) : fs = [u0, u1, u2, u3] := by
  match fs, h, h0, h1, h2, h3 with
  | [w0, w1, w2, w3], _, h0, h1, h2, h3 => cases h0; cases h1; cases h2; cases h3; rfl
theorem ls6 {fs : List Value} {u0 u1 u2 u3 u4 u5 : Value} (h : fs.length = 6) (h0 : fs[0]? = some u0) (h1 : fs[1]? = some u1) (h2 : fs[2]? = some u2) (h3 : fs[3]? = some u3) (h4 : fs[4]? = some u4) (h5 : fs[5]? = some u5) : fs = [u0, u1, u2, u3, u4, u5] := by
  match fs, h, h0, h1, h2, h3, h4, h5 with
  | [w0, w1, w2, w3, w4, w5], _, h0, h1, h2, h3, h4, h5 => cases h0; cases h1; cases h2; cases h3; cases h4; cases h5; rfl
theorem ls7 {fs : List Value} {u0 u1 u2 u3 u4 u5 u6 : Value} (h : fs.length = 7) (h0 : fs[0]? = some u0) (h1 : fs[1]? = some u1) (h2 : fs[2]? = some u2) (h3 : fs[3]? = some u3) (h4 : fs[4]? = some u4) (h5 : fs[5]? = some u5) (h6 : fs[6]? = some u6) : fs = [u0, u1, u2, u3, u4, u5, u6] := by
  match fs, h, h0, h1, h2, h3, h4, h5, h6 with
  | [w0, w1, w2, w3, w4, w5, w6], _, h0, h1, h2, h3, h4, h5, h6 => cases h0; cases h1; cases h2; cases h3; cases h4; cases h5; cases h6; rfl
section ACTS
variable {p : Program} {l : Launch} {e : Env} {R : Room} {s : State} {m : MethodId} {args : Array Value} {below : List Frame} {meth : Method} {c : Code} {H : Heap} {locs : List Loc} {cells slots : Nat} {Q : State → Prop}
variable {cc : ByteArray} {pc nL : Nat} {ls : Array Slot} {rest : List Value} {D : va_G} {dA : Nat → ClassId} {A0 : Nat → Prop} {H0 : Heap} {b index ao : Nat}
theorem sX3_pL {x0 x1 x2 x3 x4 x5 : Value} (S : CallFix p m c cc nL s args lw_all RX3) (hK : va_K D vwCl (tyL dA) s) (hP : va_P D vwCl [(b, .inr (8, [x0, x1, x2, x3, x4, x5]))] H) (hlink : Cond.fieldLink RX3 index RX3 (TX3 5).2.1 (TX3 5).2.2.1 ∈ lw_all) (hin2 : meth.name = "<init>") (hS0 : va_S A0 H0 H locs) (hAb : A0 b) (hdg : decode cc pc = .ok (.putfield index, 3))
    (kk : ∀ (H : Heap) (locs : List Loc) (y : Value), va_P D vwCl [(b, .inr (8, [y, x1, x2, x3, x4, .ref ao]))] H → va_S A0 H0 H locs → W p l e R s m args below meth c H locs cells slots Q (F0 m (pc + 3) ls rest)) : W p l e R s m args below meth c H locs cells slots Q (F0 m pc ls (.ref ao :: .ref b :: rest)) := by
  refine g_putF (C := RX3) (T := TX3) (N := 6) (ci := 8) (ref := RX3) (index := index) (ty := .object "CallRounds") S in_X3 tyX3 tyX3_ok hK hP rfl 5 (by decide) rfl hlink (fun _ h9 => h9) rfl hin2 rfl (by decide +kernel) rfl rfl hS0 hAb hdg (fun H1 locs1 fs' b1 b2 b3 b4 b5 b6 b7 b8 => ?_)
  obtain ⟨y, hy⟩ : ∃ y, fs'[0]? = some y := ⟨_, List.getElem?_eq_getElem (by omega)⟩
  rw [ls6 b1 hy (b3 1 (by decide) (by decide +kernel)) (b3 2 (by decide) (by decide +kernel)) (b3 3 (by decide) (by decide +kernel)) (b3 4 (by decide) (by decide +kernel)) b2] at b5
  exact kk H1 locs1 y b5 b8
theorem sX3_p0 {x0 x1 x2 x3 x4 : Value} (S : CallFix p m c cc nL s args lw_all RX2) (hK : va_K D vwCl (tyL dA) s) (hP : va_P D vwCl [(b, .inr (8, [x0, x1, x2, x3, x4, .ref ao]))] H) (hlink : Cond.fieldLink RX2 index RX2 (TX3 0).2.1 (TX3 0).2.2.1 ∈ lw_all) (hin2 : meth.name = "<init>") (hS0 : va_S A0 H0 H locs) (hAb : A0 b) (hdg : decode cc pc = .ok (.putfield index, 3))
    (kk : ∀ (H : Heap) (locs : List Loc), va_P D vwCl [(b, .inr (8, [.ref ao, x1, x2, x3, x4, .ref ao]))] H → va_S A0 H0 H locs → W p l e R s m args below meth c H locs cells slots Q (F0 m (pc + 3) ls rest)) : W p l e R s m args below meth c H locs cells slots Q (F0 m pc ls (.ref ao :: .ref b :: rest)) := by
  refine g_putF (C := RX3) (T := TX3) (N := 6) (ci := 8) (ref := RX2) (index := index) (ty := .object "CallRounds") S in_X3 tyX3 tyX3_ok hK hP rfl 0 (by decide) rfl hlink (fun _ h9 => h9) rfl hin2 rfl (by decide +kernel) rfl rfl hS0 hAb hdg (fun H1 locs1 fs' b1 b2 b3 b4 b5 b6 b7 b8 => ?_)
  rw [ls6 b1 b2 (b3 1 (by decide) (by decide +kernel)) (b3 2 (by decide) (by decide +kernel)) (b3 3 (by decide) (by decide +kernel)) (b3 4 (by decide) (by decide +kernel)) ((b4 5 (by decide)).elim (fun h => h) (fun h => h))] at b5
  exact kk H1 locs1 b5 b8
theorem sX3_p1 {x0 x1 x2 x3 x4 x5 : Value} {v : Int32} (S : CallFix p m c cc nL s args lw_all RX3) (hK : va_K D vwCl (tyL dA) s) (hP : va_P D vwCl [(b, .inr (8, [x0, x1, x2, x3, x4, x5]))] H) (hlink : Cond.fieldLink RX3 index RX3 (TX3 1).2.1 (TX3 1).2.2.1 ∈ lw_all) (hin2 : meth.name = "<init>") (hS0 : va_S A0 H0 H locs) (hAb : A0 b) (hdg : decode cc pc = .ok (.putfield index, 3))
    (kk : ∀ (H : Heap) (locs : List Loc), va_P D vwCl [(b, .inr (8, [x0, .int v, x2, x3, x4, x5]))] H → va_S A0 H0 H locs → W p l e R s m args below meth c H locs cells slots Q (F0 m (pc + 3) ls rest)) : W p l e R s m args below meth c H locs cells slots Q (F0 m pc ls (.int v :: .ref b :: rest)) := by
  refine g_putF (C := RX3) (T := TX3) (N := 6) (ci := 8) (ref := RX3) (index := index) (ty := .int) S in_X3 tyX3 tyX3_ok hK hP rfl 1 (by decide) rfl hlink (fun _ h9 => h9) rfl hin2 rfl (by decide +kernel) rfl rfl hS0 hAb hdg (fun H1 locs1 fs' b1 b2 b3 b4 b5 b6 b7 b8 => ?_)
  rw [ls6 b1 (b3 0 (by decide) (by decide +kernel)) b2 (b3 2 (by decide) (by decide +kernel)) (b3 3 (by decide) (by decide +kernel)) (b3 4 (by decide) (by decide +kernel)) (b3 5 (by decide) (by decide +kernel))] at b5
  exact kk H1 locs1 b5 b8
theorem sX3_p2 {x0 x1 x2 x3 x4 x5 : Value} {v : Int32} (S : CallFix p m c cc nL s args lw_all RX3) (hK : va_K D vwCl (tyL dA) s) (hP : va_P D vwCl [(b, .inr (8, [x0, x1, x2, x3, x4, x5]))] H) (hlink : Cond.fieldLink RX3 index RX3 (TX3 2).2.1 (TX3 2).2.2.1 ∈ lw_all) (hin2 : meth.name = "<init>") (hS0 : va_S A0 H0 H locs) (hAb : A0 b) (hdg : decode cc pc = .ok (.putfield index, 3))
    (kk : ∀ (H : Heap) (locs : List Loc), va_P D vwCl [(b, .inr (8, [x0, x1, .int v, x3, x4, x5]))] H → va_S A0 H0 H locs → W p l e R s m args below meth c H locs cells slots Q (F0 m (pc + 3) ls rest)) : W p l e R s m args below meth c H locs cells slots Q (F0 m pc ls (.int v :: .ref b :: rest)) := by
  refine g_putF (C := RX3) (T := TX3) (N := 6) (ci := 8) (ref := RX3) (index := index) (ty := .int) S in_X3 tyX3 tyX3_ok hK hP rfl 2 (by decide) rfl hlink (fun _ h9 => h9) rfl hin2 rfl (by decide +kernel) rfl rfl hS0 hAb hdg (fun H1 locs1 fs' b1 b2 b3 b4 b5 b6 b7 b8 => ?_)
  rw [ls6 b1 (b3 0 (by decide) (by decide +kernel)) (b3 1 (by decide) (by decide +kernel)) b2 (b3 3 (by decide) (by decide +kernel)) (b3 4 (by decide) (by decide +kernel)) (b3 5 (by decide) (by decide +kernel))] at b5
  exact kk H1 locs1 b5 b8
theorem sX3_p3 {x0 x1 x2 x3 x4 x5 : Value} {v : Int32} (S : CallFix p m c cc nL s args lw_all RX3) (hK : va_K D vwCl (tyL dA) s) (hP : va_P D vwCl [(b, .inr (8, [x0, x1, x2, x3, x4, x5]))] H) (hlink : Cond.fieldLink RX3 index RX3 (TX3 3).2.1 (TX3 3).2.2.1 ∈ lw_all) (hin2 : meth.name = "<init>") (hS0 : va_S A0 H0 H locs) (hAb : A0 b) (hdg : decode cc pc = .ok (.putfield index, 3))
    (kk : ∀ (H : Heap) (locs : List Loc), va_P D vwCl [(b, .inr (8, [x0, x1, x2, .int v, x4, x5]))] H → va_S A0 H0 H locs → W p l e R s m args below meth c H locs cells slots Q (F0 m (pc + 3) ls rest)) : W p l e R s m args below meth c H locs cells slots Q (F0 m pc ls (.int v :: .ref b :: rest)) := by
  refine g_putF (C := RX3) (T := TX3) (N := 6) (ci := 8) (ref := RX3) (index := index) (ty := .int) S in_X3 tyX3 tyX3_ok hK hP rfl 3 (by decide) rfl hlink (fun _ h9 => h9) rfl hin2 rfl (by decide +kernel) rfl rfl hS0 hAb hdg (fun H1 locs1 fs' b1 b2 b3 b4 b5 b6 b7 b8 => ?_)
  rw [ls6 b1 (b3 0 (by decide) (by decide +kernel)) (b3 1 (by decide) (by decide +kernel)) (b3 2 (by decide) (by decide +kernel)) b2 (b3 4 (by decide) (by decide +kernel)) (b3 5 (by decide) (by decide +kernel))] at b5
  exact kk H1 locs1 b5 b8
theorem sX3_p4 {x0 x1 x2 x3 x4 x5 : Value} {v : Int32} (S : CallFix p m c cc nL s args lw_all RX3) (hK : va_K D vwCl (tyL dA) s) (hP : va_P D vwCl [(b, .inr (8, [x0, x1, x2, x3, x4, x5]))] H) (hlink : Cond.fieldLink RX3 index RX3 (TX3 4).2.1 (TX3 4).2.2.1 ∈ lw_all) (hin2 : meth.name = "<init>") (hS0 : va_S A0 H0 H locs) (hAb : A0 b) (hdg : decode cc pc = .ok (.putfield index, 3))
    (kk : ∀ (H : Heap) (locs : List Loc), va_P D vwCl [(b, .inr (8, [x0, x1, x2, x3, .int v, x5]))] H → va_S A0 H0 H locs → W p l e R s m args below meth c H locs cells slots Q (F0 m (pc + 3) ls rest)) : W p l e R s m args below meth c H locs cells slots Q (F0 m pc ls (.int v :: .ref b :: rest)) := by
  refine g_putF (C := RX3) (T := TX3) (N := 6) (ci := 8) (ref := RX3) (index := index) (ty := .int) S in_X3 tyX3 tyX3_ok hK hP rfl 4 (by decide) rfl hlink (fun _ h9 => h9) rfl hin2 rfl (by decide +kernel) rfl rfl hS0 hAb hdg (fun H1 locs1 fs' b1 b2 b3 b4 b5 b6 b7 b8 => ?_)
  rw [ls6 b1 (b3 0 (by decide) (by decide +kernel)) (b3 1 (by decide) (by decide +kernel)) (b3 2 (by decide) (by decide +kernel)) (b3 3 (by decide) (by decide +kernel)) b2 (b3 5 (by decide) (by decide +kernel))] at b5
  exact kk H1 locs1 b5 b8
theorem sX12_pL {x0 x1 x2 x3 x4 x5 x6 : Value} (S : CallFix p m c cc nL s args lw_all RX12) (hK : va_K D vwCl (tyL dA) s) (hP : va_P D vwCl [(b, .inr (9, [x0, x1, x2, x3, x4, x5, x6]))] H) (hlink : Cond.fieldLink RX12 index RX12 (TX12 6).2.1 (TX12 6).2.2.1 ∈ lw_all) (hin2 : meth.name = "<init>") (hS0 : va_S A0 H0 H locs) (hAb : A0 b) (hdg : decode cc pc = .ok (.putfield index, 3))
    (kk : ∀ (H : Heap) (locs : List Loc) (y : Value), va_P D vwCl [(b, .inr (9, [y, x1, x2, x3, x4, x5, .ref ao]))] H → va_S A0 H0 H locs → W p l e R s m args below meth c H locs cells slots Q (F0 m (pc + 3) ls rest)) : W p l e R s m args below meth c H locs cells slots Q (F0 m pc ls (.ref ao :: .ref b :: rest)) := by
  refine g_putF (C := RX12) (T := TX12) (N := 7) (ci := 9) (ref := RX12) (index := index) (ty := .object "CallRounds") S in_X12 tyX12 tyX12_ok hK hP rfl 6 (by decide) rfl hlink (fun _ h9 => h9) rfl hin2 rfl (by decide +kernel) rfl rfl hS0 hAb hdg (fun H1 locs1 fs' b1 b2 b3 b4 b5 b6 b7 b8 => ?_)
  obtain ⟨y, hy⟩ : ∃ y, fs'[0]? = some y := ⟨_, List.getElem?_eq_getElem (by omega)⟩
  rw [ls7 b1 hy (b3 1 (by decide) (by decide +kernel)) (b3 2 (by decide) (by decide +kernel)) (b3 3 (by decide) (by decide +kernel)) (b3 4 (by decide) (by decide +kernel)) (b3 5 (by decide) (by decide +kernel)) b2] at b5
  exact kk H1 locs1 y b5 b8
theorem sX12_p0 {x0 x1 x2 x3 x4 x5 : Value} (S : CallFix p m c cc nL s args lw_all RX2) (hK : va_K D vwCl (tyL dA) s) (hP : va_P D vwCl [(b, .inr (9, [x0, x1, x2, x3, x4, x5, .ref ao]))] H) (hlink : Cond.fieldLink RX2 index RX2 (TX12 0).2.1 (TX12 0).2.2.1 ∈ lw_all) (hin2 : meth.name = "<init>") (hS0 : va_S A0 H0 H locs) (hAb : A0 b) (hdg : decode cc pc = .ok (.putfield index, 3))
    (kk : ∀ (H : Heap) (locs : List Loc), va_P D vwCl [(b, .inr (9, [.ref ao, x1, x2, x3, x4, x5, .ref ao]))] H → va_S A0 H0 H locs → W p l e R s m args below meth c H locs cells slots Q (F0 m (pc + 3) ls rest)) : W p l e R s m args below meth c H locs cells slots Q (F0 m pc ls (.ref ao :: .ref b :: rest)) := by
  refine g_putF (C := RX12) (T := TX12) (N := 7) (ci := 9) (ref := RX2) (index := index) (ty := .object "CallRounds") S in_X12 tyX12 tyX12_ok hK hP rfl 0 (by decide) rfl hlink (fun _ h9 => h9) rfl hin2 rfl (by decide +kernel) rfl rfl hS0 hAb hdg (fun H1 locs1 fs' b1 b2 b3 b4 b5 b6 b7 b8 => ?_)
  rw [ls7 b1 b2 (b3 1 (by decide) (by decide +kernel)) (b3 2 (by decide) (by decide +kernel)) (b3 3 (by decide) (by decide +kernel)) (b3 4 (by decide) (by decide +kernel)) (b3 5 (by decide) (by decide +kernel)) ((b4 6 (by decide)).elim (fun h => h) (fun h => h))] at b5
  exact kk H1 locs1 b5 b8
theorem sX12_p1 {x0 x1 x2 x3 x4 x5 x6 : Value} {v : Int32} (S : CallFix p m c cc nL s args lw_all RX12) (hK : va_K D vwCl (tyL dA) s) (hP : va_P D vwCl [(b, .inr (9, [x0, x1, x2, x3, x4, x5, x6]))] H) (hlink : Cond.fieldLink RX12 index RX12 (TX12 1).2.1 (TX12 1).2.2.1 ∈ lw_all) (hin2 : meth.name = "<init>") (hS0 : va_S A0 H0 H locs) (hAb : A0 b) (hdg : decode cc pc = .ok (.putfield index, 3))
    (kk : ∀ (H : Heap) (locs : List Loc), va_P D vwCl [(b, .inr (9, [x0, .int v, x2, x3, x4, x5, x6]))] H → va_S A0 H0 H locs → W p l e R s m args below meth c H locs cells slots Q (F0 m (pc + 3) ls rest)) : W p l e R s m args below meth c H locs cells slots Q (F0 m pc ls (.int v :: .ref b :: rest)) := by
  refine g_putF (C := RX12) (T := TX12) (N := 7) (ci := 9) (ref := RX12) (index := index) (ty := .int) S in_X12 tyX12 tyX12_ok hK hP rfl 1 (by decide) rfl hlink (fun _ h9 => h9) rfl hin2 rfl (by decide +kernel) rfl rfl hS0 hAb hdg (fun H1 locs1 fs' b1 b2 b3 b4 b5 b6 b7 b8 => ?_)
  rw [ls7 b1 (b3 0 (by decide) (by decide +kernel)) b2 (b3 2 (by decide) (by decide +kernel)) (b3 3 (by decide) (by decide +kernel)) (b3 4 (by decide) (by decide +kernel)) (b3 5 (by decide) (by decide +kernel)) (b3 6 (by decide) (by decide +kernel))] at b5
  exact kk H1 locs1 b5 b8
theorem sX12_p2 {x0 x1 x2 x3 x4 x5 x6 : Value} {v : Int32} (S : CallFix p m c cc nL s args lw_all RX12) (hK : va_K D vwCl (tyL dA) s) (hP : va_P D vwCl [(b, .inr (9, [x0, x1, x2, x3, x4, x5, x6]))] H) (hlink : Cond.fieldLink RX12 index RX12 (TX12 2).2.1 (TX12 2).2.2.1 ∈ lw_all) (hin2 : meth.name = "<init>") (hS0 : va_S A0 H0 H locs) (hAb : A0 b) (hdg : decode cc pc = .ok (.putfield index, 3))
    (kk : ∀ (H : Heap) (locs : List Loc), va_P D vwCl [(b, .inr (9, [x0, x1, .int v, x3, x4, x5, x6]))] H → va_S A0 H0 H locs → W p l e R s m args below meth c H locs cells slots Q (F0 m (pc + 3) ls rest)) : W p l e R s m args below meth c H locs cells slots Q (F0 m pc ls (.int v :: .ref b :: rest)) := by
  refine g_putF (C := RX12) (T := TX12) (N := 7) (ci := 9) (ref := RX12) (index := index) (ty := .int) S in_X12 tyX12 tyX12_ok hK hP rfl 2 (by decide) rfl hlink (fun _ h9 => h9) rfl hin2 rfl (by decide +kernel) rfl rfl hS0 hAb hdg (fun H1 locs1 fs' b1 b2 b3 b4 b5 b6 b7 b8 => ?_)
  rw [ls7 b1 (b3 0 (by decide) (by decide +kernel)) (b3 1 (by decide) (by decide +kernel)) b2 (b3 3 (by decide) (by decide +kernel)) (b3 4 (by decide) (by decide +kernel)) (b3 5 (by decide) (by decide +kernel)) (b3 6 (by decide) (by decide +kernel))] at b5
  exact kk H1 locs1 b5 b8
theorem sX12_p3 {x0 x1 x2 x3 x4 x5 x6 : Value} {v : Int32} (S : CallFix p m c cc nL s args lw_all RX12) (hK : va_K D vwCl (tyL dA) s) (hP : va_P D vwCl [(b, .inr (9, [x0, x1, x2, x3, x4, x5, x6]))] H) (hlink : Cond.fieldLink RX12 index RX12 (TX12 3).2.1 (TX12 3).2.2.1 ∈ lw_all) (hin2 : meth.name = "<init>") (hS0 : va_S A0 H0 H locs) (hAb : A0 b) (hdg : decode cc pc = .ok (.putfield index, 3))
    (kk : ∀ (H : Heap) (locs : List Loc), va_P D vwCl [(b, .inr (9, [x0, x1, x2, .int v, x4, x5, x6]))] H → va_S A0 H0 H locs → W p l e R s m args below meth c H locs cells slots Q (F0 m (pc + 3) ls rest)) : W p l e R s m args below meth c H locs cells slots Q (F0 m pc ls (.int v :: .ref b :: rest)) := by
  refine g_putF (C := RX12) (T := TX12) (N := 7) (ci := 9) (ref := RX12) (index := index) (ty := .int) S in_X12 tyX12 tyX12_ok hK hP rfl 3 (by decide) rfl hlink (fun _ h9 => h9) rfl hin2 rfl (by decide +kernel) rfl rfl hS0 hAb hdg (fun H1 locs1 fs' b1 b2 b3 b4 b5 b6 b7 b8 => ?_)
  rw [ls7 b1 (b3 0 (by decide) (by decide +kernel)) (b3 1 (by decide) (by decide +kernel)) (b3 2 (by decide) (by decide +kernel)) b2 (b3 4 (by decide) (by decide +kernel)) (b3 5 (by decide) (by decide +kernel)) (b3 6 (by decide) (by decide +kernel))] at b5
  exact kk H1 locs1 b5 b8
theorem sX12_p4 {x0 x1 x2 x3 x4 x5 x6 : Value} {v : Int32} (S : CallFix p m c cc nL s args lw_all RX12) (hK : va_K D vwCl (tyL dA) s) (hP : va_P D vwCl [(b, .inr (9, [x0, x1, x2, x3, x4, x5, x6]))] H) (hlink : Cond.fieldLink RX12 index RX12 (TX12 4).2.1 (TX12 4).2.2.1 ∈ lw_all) (hin2 : meth.name = "<init>") (hS0 : va_S A0 H0 H locs) (hAb : A0 b) (hdg : decode cc pc = .ok (.putfield index, 3))
    (kk : ∀ (H : Heap) (locs : List Loc), va_P D vwCl [(b, .inr (9, [x0, x1, x2, x3, .int v, x5, x6]))] H → va_S A0 H0 H locs → W p l e R s m args below meth c H locs cells slots Q (F0 m (pc + 3) ls rest)) : W p l e R s m args below meth c H locs cells slots Q (F0 m pc ls (.int v :: .ref b :: rest)) := by
  refine g_putF (C := RX12) (T := TX12) (N := 7) (ci := 9) (ref := RX12) (index := index) (ty := .int) S in_X12 tyX12 tyX12_ok hK hP rfl 4 (by decide) rfl hlink (fun _ h9 => h9) rfl hin2 rfl (by decide +kernel) rfl rfl hS0 hAb hdg (fun H1 locs1 fs' b1 b2 b3 b4 b5 b6 b7 b8 => ?_)
  rw [ls7 b1 (b3 0 (by decide) (by decide +kernel)) (b3 1 (by decide) (by decide +kernel)) (b3 2 (by decide) (by decide +kernel)) (b3 3 (by decide) (by decide +kernel)) b2 (b3 5 (by decide) (by decide +kernel)) (b3 6 (by decide) (by decide +kernel))] at b5
  exact kk H1 locs1 b5 b8
theorem sX12_p5 {x0 x1 x2 x3 x4 x5 x6 : Value} {v : Int32} (S : CallFix p m c cc nL s args lw_all RX12) (hK : va_K D vwCl (tyL dA) s) (hP : va_P D vwCl [(b, .inr (9, [x0, x1, x2, x3, x4, x5, x6]))] H) (hlink : Cond.fieldLink RX12 index RX12 (TX12 5).2.1 (TX12 5).2.2.1 ∈ lw_all) (hin2 : meth.name = "<init>") (hS0 : va_S A0 H0 H locs) (hAb : A0 b) (hdg : decode cc pc = .ok (.putfield index, 3))
    (kk : ∀ (H : Heap) (locs : List Loc), va_P D vwCl [(b, .inr (9, [x0, x1, x2, x3, x4, .int v, x6]))] H → va_S A0 H0 H locs → W p l e R s m args below meth c H locs cells slots Q (F0 m (pc + 3) ls rest)) : W p l e R s m args below meth c H locs cells slots Q (F0 m pc ls (.int v :: .ref b :: rest)) := by
  refine g_putF (C := RX12) (T := TX12) (N := 7) (ci := 9) (ref := RX12) (index := index) (ty := .int) S in_X12 tyX12 tyX12_ok hK hP rfl 5 (by decide) rfl hlink (fun _ h9 => h9) rfl hin2 rfl (by decide +kernel) rfl rfl hS0 hAb hdg (fun H1 locs1 fs' b1 b2 b3 b4 b5 b6 b7 b8 => ?_)
  rw [ls7 b1 (b3 0 (by decide) (by decide +kernel)) (b3 1 (by decide) (by decide +kernel)) (b3 2 (by decide) (by decide +kernel)) (b3 3 (by decide) (by decide +kernel)) (b3 4 (by decide) (by decide +kernel)) b2 (b3 6 (by decide) (by decide +kernel))] at b5
  exact kk H1 locs1 b5 b8
theorem sX13_pL {x0 x1 x2 x3 : Value} (S : CallFix p m c cc nL s args lw_all RX13) (hK : va_K D vwCl (tyL dA) s) (hP : va_P D vwCl [(b, .inr (10, [x0, x1, x2, x3]))] H) (hlink : Cond.fieldLink RX13 index RX13 (TX13 3).2.1 (TX13 3).2.2.1 ∈ lw_all) (hin2 : meth.name = "<init>") (hS0 : va_S A0 H0 H locs) (hAb : A0 b) (hdg : decode cc pc = .ok (.putfield index, 3))
    (kk : ∀ (H : Heap) (locs : List Loc) (y : Value), va_P D vwCl [(b, .inr (10, [y, x1, x2, .ref ao]))] H → va_S A0 H0 H locs → W p l e R s m args below meth c H locs cells slots Q (F0 m (pc + 3) ls rest)) : W p l e R s m args below meth c H locs cells slots Q (F0 m pc ls (.ref ao :: .ref b :: rest)) := by
  refine g_putF (C := RX13) (T := TX13) (N := 4) (ci := 10) (ref := RX13) (index := index) (ty := .object "CallRounds") S in_X13 tyX13 tyX13_ok hK hP rfl 3 (by decide) rfl hlink (fun _ h9 => h9) rfl hin2 rfl (by decide +kernel) rfl rfl hS0 hAb hdg (fun H1 locs1 fs' b1 b2 b3 b4 b5 b6 b7 b8 => ?_)
  obtain ⟨y, hy⟩ : ∃ y, fs'[0]? = some y := ⟨_, List.getElem?_eq_getElem (by omega)⟩
  rw [ls4 b1 hy (b3 1 (by decide) (by decide +kernel)) (b3 2 (by decide) (by decide +kernel)) b2] at b5
  exact kk H1 locs1 y b5 b8
theorem sX13_p0 {x0 x1 x2 : Value} (S : CallFix p m c cc nL s args lw_all RX2) (hK : va_K D vwCl (tyL dA) s) (hP : va_P D vwCl [(b, .inr (10, [x0, x1, x2, .ref ao]))] H) (hlink : Cond.fieldLink RX2 index RX2 (TX13 0).2.1 (TX13 0).2.2.1 ∈ lw_all) (hin2 : meth.name = "<init>") (hS0 : va_S A0 H0 H locs) (hAb : A0 b) (hdg : decode cc pc = .ok (.putfield index, 3))
    (kk : ∀ (H : Heap) (locs : List Loc), va_P D vwCl [(b, .inr (10, [.ref ao, x1, x2, .ref ao]))] H → va_S A0 H0 H locs → W p l e R s m args below meth c H locs cells slots Q (F0 m (pc + 3) ls rest)) : W p l e R s m args below meth c H locs cells slots Q (F0 m pc ls (.ref ao :: .ref b :: rest)) := by
  refine g_putF (C := RX13) (T := TX13) (N := 4) (ci := 10) (ref := RX2) (index := index) (ty := .object "CallRounds") S in_X13 tyX13 tyX13_ok hK hP rfl 0 (by decide) rfl hlink (fun _ h9 => h9) rfl hin2 rfl (by decide +kernel) rfl rfl hS0 hAb hdg (fun H1 locs1 fs' b1 b2 b3 b4 b5 b6 b7 b8 => ?_)
  rw [ls4 b1 b2 (b3 1 (by decide) (by decide +kernel)) (b3 2 (by decide) (by decide +kernel)) ((b4 3 (by decide)).elim (fun h => h) (fun h => h))] at b5
  exact kk H1 locs1 b5 b8
theorem sX13_p1 {x0 x1 x2 x3 : Value} {rg : Nat} (S : CallFix p m c cc nL s args lw_all RX13) (hK : va_K D vwCl (tyL dA) s) (hP : va_P D vwCl [(b, .inr (10, [x0, x1, x2, x3]))] H) (hlink : Cond.fieldLink RX13 index RX13 (TX13 1).2.1 (TX13 1).2.2.1 ∈ lw_all) (hin2 : meth.name = "<init>") (hS0 : va_S A0 H0 H locs) (hAb : A0 b) (hdg : decode cc pc = .ok (.putfield index, 3))
    (kk : ∀ (H : Heap) (locs : List Loc), va_P D vwCl [(b, .inr (10, [x0, .ref rg, x2, x3]))] H → va_S A0 H0 H locs → W p l e R s m args below meth c H locs cells slots Q (F0 m (pc + 3) ls rest)) : W p l e R s m args below meth c H locs cells slots Q (F0 m pc ls (.ref rg :: .ref b :: rest)) := by
  refine g_putF (C := RX13) (T := TX13) (N := 4) (ci := 10) (ref := RX13) (index := index) (ty := .object "CallRounds$Ring") S in_X13 tyX13 tyX13_ok hK hP rfl 1 (by decide) rfl hlink (fun _ h9 => h9) rfl hin2 rfl (by decide +kernel) rfl rfl hS0 hAb hdg (fun H1 locs1 fs' b1 b2 b3 b4 b5 b6 b7 b8 => ?_)
  rw [ls4 b1 (b3 0 (by decide) (by decide +kernel)) b2 (b3 2 (by decide) (by decide +kernel)) (b3 3 (by decide) (by decide +kernel))] at b5
  exact kk H1 locs1 b5 b8
theorem sX13_p2 {x0 x1 x2 x3 : Value} {v : Int32} (S : CallFix p m c cc nL s args lw_all RX13) (hK : va_K D vwCl (tyL dA) s) (hP : va_P D vwCl [(b, .inr (10, [x0, x1, x2, x3]))] H) (hlink : Cond.fieldLink RX13 index RX13 (TX13 2).2.1 (TX13 2).2.2.1 ∈ lw_all) (hin2 : meth.name = "<init>") (hS0 : va_S A0 H0 H locs) (hAb : A0 b) (hdg : decode cc pc = .ok (.putfield index, 3))
    (kk : ∀ (H : Heap) (locs : List Loc), va_P D vwCl [(b, .inr (10, [x0, x1, .int v, x3]))] H → va_S A0 H0 H locs → W p l e R s m args below meth c H locs cells slots Q (F0 m (pc + 3) ls rest)) : W p l e R s m args below meth c H locs cells slots Q (F0 m pc ls (.int v :: .ref b :: rest)) := by
  refine g_putF (C := RX13) (T := TX13) (N := 4) (ci := 10) (ref := RX13) (index := index) (ty := .int) S in_X13 tyX13 tyX13_ok hK hP rfl 2 (by decide) rfl hlink (fun _ h9 => h9) rfl hin2 rfl (by decide +kernel) rfl rfl hS0 hAb hdg (fun H1 locs1 fs' b1 b2 b3 b4 b5 b6 b7 b8 => ?_)
  rw [ls4 b1 (b3 0 (by decide) (by decide +kernel)) (b3 1 (by decide) (by decide +kernel)) b2 (b3 3 (by decide) (by decide +kernel))] at b5
  exact kk H1 locs1 b5 b8
end ACTS
set_option maxHeartbeats 4000000 in
theorem g2_initX3 (l : Launch) (D : va_G) (dA : Nat → ClassId) (b ao : Nat) (y0 x1 x2 x3 x4 : Value) : GC l yX2_init cX2_init 2 none 1 30 0 0 (K2 D dA) [.ref b, .ref ao] (fun H => va_P D vwCl [(b, .inr (8, [y0, x1, x2, x3, x4, .ref ao]))] H) (fun q => q = b) (fun v9 H => v9 = none ∧ va_P D vwCl [(b, .inr (8, [.ref ao, x1, x2, x3, x4, .ref ao]))] H) := by
  refine GC.of (by decide) (Nat.le_of_ble_eq_true rfl) ?_
  intro p e s m below meth c ls S hr hlk hnm hK2 hPre hl
  have hK := hK2.1
  have hx := S.1
  have hb := S.2.1
  have hl : lv_has ls 2 [(0, .ref b), (1, .ref ao)] := hl
  have hS : va_S (fun q => q = b) s.heap s.heap [] := va_S.rf
  have hP := hPre
  have hAb : (fun q => q = b) b := rfl
  refine lv_aload_n hx hb dX2_init_0 rfl (lv_at hl 0 rfl) ?_
  refine lv_aload_n hx hb dX2_init_1 rfl (lv_at hl 1 rfl) ?_
  refine sX3_p0 (ao := ao) S hK hP q872 (hnm.trans rfl) hS hAb dX2_init_2 (fun H locs hP hS => ?_)
  refine lv_aload_n hx hb dX2_init_5 rfl (lv_at hl 0 rfl) ?_
  refine W.objInit (rest := []) S.1 S.2.1 S.2.2.2.1 (S.2.2.2.2 _ q866) (S.2.2.2.2 _ q100) (S.2.2.2.2 _ q101) rfl (hl.1.trans S.2.2.1.symm) rfl dX2_init_6 (Nat.le_of_ble_eq_true rfl) (Nat.le_of_ble_eq_true rfl) ?_
  refine W.eq (g2 := F0 m 9 ls []) rfl ?_
  exact g_vret S hr hlk hS dX2_init_9 ⟨Nat.le_of_ble_eq_true rfl, Nat.le_of_ble_eq_true rfl⟩ ⟨rfl, hP⟩
set_option maxHeartbeats 4000000 in
theorem g3_init (l : Launch) (D : va_G) (dA : Nat → ClassId) (b ao : Nat) (x0 x1 x2 x3 x4 x5 : Value) (v0 v1 v2 v3 : Int32) : GC l yX3_init cX3_init 6 none 2 51 0 0 (K2 D dA) [.ref b, .ref ao, .int v0, .int v1, .int v2, .int v3] (fun H => va_P D vwCl [(b, .inr (8, [x0, x1, x2, x3, x4, x5]))] H) (fun q => q = b) (fun v9 H => v9 = none ∧ va_P D vwCl [(b, .inr (8, [.ref ao, .int v0, .int v1, .int v2, .int v3, .ref ao]))] H) := by
  refine GC.of (by decide) (Nat.le_of_ble_eq_true rfl) ?_
  intro p e s m below meth c ls S hr hlk hnm hK2 hPre hl
  have hK := hK2.1
  have hx := S.1
  have hb := S.2.1
  have hl : lv_has ls 6 [(0, .ref b), (1, .ref ao), (2, .int v0), (3, .int v1), (4, .int v2), (5, .int v3)] := hl
  have hS : va_S (fun q => q = b) s.heap s.heap [] := va_S.rf
  have hP := hPre
  have hAb : (fun q => q = b) b := rfl
  refine lv_aload_n hx hb dX3_init_0 rfl (lv_at hl 0 rfl) ?_
  refine lv_aload_n hx hb dX3_init_1 rfl (lv_at hl 1 rfl) ?_
  refine sX3_pL (ao := ao) S hK hP q871 (hnm.trans rfl) hS hAb dX3_init_2 (fun H locs y0 hP hS => ?_)
  refine lv_aload_n hx hb dX3_init_5 rfl (lv_at hl 0 rfl) ?_
  refine lv_aload_n hx hb dX3_init_6 rfl (lv_at hl 1 rfl) ?_
  refine gc_IN (rest := []) [.ref ao] 1 S Wm_K2 hK2 hS (fun q h => h) (g2_initX3 l D dA b ao y0 x1 x2 x3 x4) q865 q65 (hK2.2.1 _ q863 rfl) q864 rfl (by decide +kernel : yX2_init.cls ≠ "java/lang/invoke/MethodHandle" ∧ yX2_init.cls ≠ "java/lang/invoke/VarHandle" ∧ (parseMethodDescriptor yX2_init.desc).map (fun d => d.parameters.length) = some 1) rfl ⟨Nat.le_of_ble_eq_true rfl, Nat.le_of_ble_eq_true rfl⟩ hl.1 (Nat.le_of_ble_eq_true rfl) dX3_init_7 ⟨Nat.le_of_ble_eq_true rfl, Nat.le_of_ble_eq_true rfl⟩ hP (fun v9 H locs hp9 hz9 ho9 hS => ?_) rfl
  obtain ⟨rfl, hP⟩ := hp9
  refine W.eq (g2 := F0 m 10 ls []) rfl ?_
  refine lv_aload_n hx hb dX3_init_10 rfl (lv_at hl 0 rfl) ?_
  refine lv_iload_n hx hb dX3_init_11 rfl (lv_at hl 2 rfl) ?_
  refine sX3_p1 S hK hP q867 (hnm.trans rfl) hS hAb dX3_init_12 (fun H locs hP hS => ?_)
  refine lv_aload_n hx hb dX3_init_15 rfl (lv_at hl 0 rfl) ?_
  refine lv_iload_n hx hb dX3_init_16 rfl (lv_at hl 3 rfl) ?_
  refine sX3_p2 S hK hP q868 (hnm.trans rfl) hS hAb dX3_init_17 (fun H locs hP hS => ?_)
  refine lv_aload_n hx hb dX3_init_20 rfl (lv_at hl 0 rfl) ?_
  refine lv_iload hx hb dX3_init_21 (lv_at hl 4 rfl) ?_
  refine sX3_p3 S hK hP q869 (hnm.trans rfl) hS hAb dX3_init_23 (fun H locs hP hS => ?_)
  refine lv_aload_n hx hb dX3_init_26 rfl (lv_at hl 0 rfl) ?_
  refine lv_iload hx hb dX3_init_27 (lv_at hl 5 rfl) ?_
  refine sX3_p4 S hK hP q870 (hnm.trans rfl) hS hAb dX3_init_29 (fun H locs hP hS => ?_)
  exact g_vret S hr hlk hS dX3_init_32 ⟨Nat.le_of_ble_eq_true rfl, Nat.le_of_ble_eq_true rfl⟩ ⟨rfl, hP⟩
set_option maxHeartbeats 4000000 in
theorem g2_initX12 (l : Launch) (D : va_G) (dA : Nat → ClassId) (b ao : Nat) (y0 x1 x2 x3 x4 x5 : Value) : GC l yX2_init cX2_init 2 none 1 30 0 0 (K2 D dA) [.ref b, .ref ao] (fun H => va_P D vwCl [(b, .inr (9, [y0, x1, x2, x3, x4, x5, .ref ao]))] H) (fun q => q = b) (fun v9 H => v9 = none ∧ va_P D vwCl [(b, .inr (9, [.ref ao, x1, x2, x3, x4, x5, .ref ao]))] H) := by
  refine GC.of (by decide) (Nat.le_of_ble_eq_true rfl) ?_
  intro p e s m below meth c ls S hr hlk hnm hK2 hPre hl
  have hK := hK2.1
  have hx := S.1
  have hb := S.2.1
  have hl : lv_has ls 2 [(0, .ref b), (1, .ref ao)] := hl
  have hS : va_S (fun q => q = b) s.heap s.heap [] := va_S.rf
  have hP := hPre
  have hAb : (fun q => q = b) b := rfl
  refine lv_aload_n hx hb dX2_init_0 rfl (lv_at hl 0 rfl) ?_
  refine lv_aload_n hx hb dX2_init_1 rfl (lv_at hl 1 rfl) ?_
  refine sX12_p0 (ao := ao) S hK hP q872 (hnm.trans rfl) hS hAb dX2_init_2 (fun H locs hP hS => ?_)
  refine lv_aload_n hx hb dX2_init_5 rfl (lv_at hl 0 rfl) ?_
  refine W.objInit (rest := []) S.1 S.2.1 S.2.2.2.1 (S.2.2.2.2 _ q866) (S.2.2.2.2 _ q100) (S.2.2.2.2 _ q101) rfl (hl.1.trans S.2.2.1.symm) rfl dX2_init_6 (Nat.le_of_ble_eq_true rfl) (Nat.le_of_ble_eq_true rfl) ?_
  refine W.eq (g2 := F0 m 9 ls []) rfl ?_
  exact g_vret S hr hlk hS dX2_init_9 ⟨Nat.le_of_ble_eq_true rfl, Nat.le_of_ble_eq_true rfl⟩ ⟨rfl, hP⟩
set_option maxHeartbeats 4000000 in
theorem g12_init (l : Launch) (D : va_G) (dA : Nat → ClassId) (b ao : Nat) (x0 x1 x2 x3 x4 x5 x6 : Value) (v0 v1 v2 v3 v4 : Int32) : GC l yX12_init cX12_init 7 none 2 51 0 0 (K2 D dA) [.ref b, .ref ao, .int v0, .int v1, .int v2, .int v3, .int v4] (fun H => va_P D vwCl [(b, .inr (9, [x0, x1, x2, x3, x4, x5, x6]))] H) (fun q => q = b) (fun v9 H => v9 = none ∧ va_P D vwCl [(b, .inr (9, [.ref ao, .int v0, .int v1, .int v2, .int v3, .int v4, .ref ao]))] H) := by
  refine GC.of (by decide) (Nat.le_of_ble_eq_true rfl) ?_
  intro p e s m below meth c ls S hr hlk hnm hK2 hPre hl
  have hK := hK2.1
  have hx := S.1
  have hb := S.2.1
  have hl : lv_has ls 7 [(0, .ref b), (1, .ref ao), (2, .int v0), (3, .int v1), (4, .int v2), (5, .int v3), (6, .int v4)] := hl
  have hS : va_S (fun q => q = b) s.heap s.heap [] := va_S.rf
  have hP := hPre
  have hAb : (fun q => q = b) b := rfl
  refine lv_aload_n hx hb dX12_init_0 rfl (lv_at hl 0 rfl) ?_
  refine lv_aload_n hx hb dX12_init_1 rfl (lv_at hl 1 rfl) ?_
  refine sX12_pL (ao := ao) S hK hP q1019 (hnm.trans rfl) hS hAb dX12_init_2 (fun H locs y0 hP hS => ?_)
  refine lv_aload_n hx hb dX12_init_5 rfl (lv_at hl 0 rfl) ?_
  refine lv_aload_n hx hb dX12_init_6 rfl (lv_at hl 1 rfl) ?_
  refine gc_IN (rest := []) [.ref ao] 1 S Wm_K2 hK2 hS (fun q h => h) (g2_initX12 l D dA b ao y0 x1 x2 x3 x4 x5) q865 q65 (hK2.2.1 _ q1013 rfl) q864 rfl (by decide +kernel : yX2_init.cls ≠ "java/lang/invoke/MethodHandle" ∧ yX2_init.cls ≠ "java/lang/invoke/VarHandle" ∧ (parseMethodDescriptor yX2_init.desc).map (fun d => d.parameters.length) = some 1) rfl ⟨Nat.le_of_ble_eq_true rfl, Nat.le_of_ble_eq_true rfl⟩ hl.1 (Nat.le_of_ble_eq_true rfl) dX12_init_7 ⟨Nat.le_of_ble_eq_true rfl, Nat.le_of_ble_eq_true rfl⟩ hP (fun v9 H locs hp9 hz9 ho9 hS => ?_) rfl
  obtain ⟨rfl, hP⟩ := hp9
  refine W.eq (g2 := F0 m 10 ls []) rfl ?_
  refine lv_aload_n hx hb dX12_init_10 rfl (lv_at hl 0 rfl) ?_
  refine lv_iload_n hx hb dX12_init_11 rfl (lv_at hl 2 rfl) ?_
  refine sX12_p1 S hK hP q1014 (hnm.trans rfl) hS hAb dX12_init_12 (fun H locs hP hS => ?_)
  refine lv_aload_n hx hb dX12_init_15 rfl (lv_at hl 0 rfl) ?_
  refine lv_iload_n hx hb dX12_init_16 rfl (lv_at hl 3 rfl) ?_
  refine sX12_p2 S hK hP q1015 (hnm.trans rfl) hS hAb dX12_init_17 (fun H locs hP hS => ?_)
  refine lv_aload_n hx hb dX12_init_20 rfl (lv_at hl 0 rfl) ?_
  refine lv_iload hx hb dX12_init_21 (lv_at hl 4 rfl) ?_
  refine sX12_p3 S hK hP q1016 (hnm.trans rfl) hS hAb dX12_init_23 (fun H locs hP hS => ?_)
  refine lv_aload_n hx hb dX12_init_26 rfl (lv_at hl 0 rfl) ?_
  refine lv_iload hx hb dX12_init_27 (lv_at hl 5 rfl) ?_
  refine sX12_p4 S hK hP q1017 (hnm.trans rfl) hS hAb dX12_init_29 (fun H locs hP hS => ?_)
  refine lv_aload_n hx hb dX12_init_32 rfl (lv_at hl 0 rfl) ?_
  refine lv_iload hx hb dX12_init_33 (lv_at hl 6 rfl) ?_
  refine sX12_p5 S hK hP q1018 (hnm.trans rfl) hS hAb dX12_init_35 (fun H locs hP hS => ?_)
  exact g_vret S hr hlk hS dX12_init_38 ⟨Nat.le_of_ble_eq_true rfl, Nat.le_of_ble_eq_true rfl⟩ ⟨rfl, hP⟩
set_option maxHeartbeats 4000000 in
theorem g2_initX13 (l : Launch) (D : va_G) (dA : Nat → ClassId) (b ao : Nat) (y0 x1 x2 : Value) : GC l yX2_init cX2_init 2 none 1 30 0 0 (K2 D dA) [.ref b, .ref ao] (fun H => va_P D vwCl [(b, .inr (10, [y0, x1, x2, .ref ao]))] H) (fun q => q = b) (fun v9 H => v9 = none ∧ va_P D vwCl [(b, .inr (10, [.ref ao, x1, x2, .ref ao]))] H) := by
  refine GC.of (by decide) (Nat.le_of_ble_eq_true rfl) ?_
  intro p e s m below meth c ls S hr hlk hnm hK2 hPre hl
  have hK := hK2.1
  have hx := S.1
  have hb := S.2.1
  have hl : lv_has ls 2 [(0, .ref b), (1, .ref ao)] := hl
  have hS : va_S (fun q => q = b) s.heap s.heap [] := va_S.rf
  have hP := hPre
  have hAb : (fun q => q = b) b := rfl
  refine lv_aload_n hx hb dX2_init_0 rfl (lv_at hl 0 rfl) ?_
  refine lv_aload_n hx hb dX2_init_1 rfl (lv_at hl 1 rfl) ?_
  refine sX13_p0 (ao := ao) S hK hP q872 (hnm.trans rfl) hS hAb dX2_init_2 (fun H locs hP hS => ?_)
  refine lv_aload_n hx hb dX2_init_5 rfl (lv_at hl 0 rfl) ?_
  refine W.objInit (rest := []) S.1 S.2.1 S.2.2.2.1 (S.2.2.2.2 _ q866) (S.2.2.2.2 _ q100) (S.2.2.2.2 _ q101) rfl (hl.1.trans S.2.2.1.symm) rfl dX2_init_6 (Nat.le_of_ble_eq_true rfl) (Nat.le_of_ble_eq_true rfl) ?_
  refine W.eq (g2 := F0 m 9 ls []) rfl ?_
  exact g_vret S hr hlk hS dX2_init_9 ⟨Nat.le_of_ble_eq_true rfl, Nat.le_of_ble_eq_true rfl⟩ ⟨rfl, hP⟩
set_option maxHeartbeats 4000000 in
theorem g13_init (l : Launch) (D : va_G) (dA : Nat → ClassId) (b ao : Nat) (x0 x1 x2 x3 : Value) (v1 : Int32) (rg : Nat) : GC l yX13_init cX13_init 4 none 2 51 0 0 (K2 D dA) [.ref b, .ref ao, .ref rg, .int v1] (fun H => va_P D vwCl [(b, .inr (10, [x0, x1, x2, x3]))] H) (fun q => q = b) (fun v9 H => v9 = none ∧ va_P D vwCl [(b, .inr (10, [.ref ao, .ref rg, .int v1, .ref ao]))] H) := by
  refine GC.of (by decide) (Nat.le_of_ble_eq_true rfl) ?_
  intro p e s m below meth c ls S hr hlk hnm hK2 hPre hl
  have hK := hK2.1
  have hx := S.1
  have hb := S.2.1
  have hl : lv_has ls 4 [(0, .ref b), (1, .ref ao), (2, .ref rg), (3, .int v1)] := hl
  have hS : va_S (fun q => q = b) s.heap s.heap [] := va_S.rf
  have hP := hPre
  have hAb : (fun q => q = b) b := rfl
  refine lv_aload_n hx hb dX13_init_0 rfl (lv_at hl 0 rfl) ?_
  refine lv_aload_n hx hb dX13_init_1 rfl (lv_at hl 1 rfl) ?_
  refine sX13_pL (ao := ao) S hK hP q1146 (hnm.trans rfl) hS hAb dX13_init_2 (fun H locs y0 hP hS => ?_)
  refine lv_aload_n hx hb dX13_init_5 rfl (lv_at hl 0 rfl) ?_
  refine lv_aload_n hx hb dX13_init_6 rfl (lv_at hl 1 rfl) ?_
  refine gc_IN (rest := []) [.ref ao] 1 S Wm_K2 hK2 hS (fun q h => h) (g2_initX13 l D dA b ao y0 x1 x2) q865 q65 (hK2.2.1 _ q1143 rfl) q864 rfl (by decide +kernel : yX2_init.cls ≠ "java/lang/invoke/MethodHandle" ∧ yX2_init.cls ≠ "java/lang/invoke/VarHandle" ∧ (parseMethodDescriptor yX2_init.desc).map (fun d => d.parameters.length) = some 1) rfl ⟨Nat.le_of_ble_eq_true rfl, Nat.le_of_ble_eq_true rfl⟩ hl.1 (Nat.le_of_ble_eq_true rfl) dX13_init_7 ⟨Nat.le_of_ble_eq_true rfl, Nat.le_of_ble_eq_true rfl⟩ hP (fun v9 H locs hp9 hz9 ho9 hS => ?_) rfl
  obtain ⟨rfl, hP⟩ := hp9
  refine W.eq (g2 := F0 m 10 ls []) rfl ?_
  refine lv_aload_n hx hb dX13_init_10 rfl (lv_at hl 0 rfl) ?_
  refine lv_aload_n hx hb dX13_init_11 rfl (lv_at hl 2 rfl) ?_
  refine sX13_p1 S hK hP q1144 (hnm.trans rfl) hS hAb dX13_init_12 (fun H locs hP hS => ?_)
  refine lv_aload_n hx hb dX13_init_15 rfl (lv_at hl 0 rfl) ?_
  refine lv_iload_n hx hb dX13_init_16 rfl (lv_at hl 3 rfl) ?_
  refine sX13_p2 S hK hP q1145 (hnm.trans rfl) hS hAb dX13_init_17 (fun H locs hP hS => ?_)
  exact g_vret S hr hlk hS dX13_init_20 ⟨Nat.le_of_ble_eq_true rfl, Nat.le_of_ble_eq_true rfl⟩ ⟨rfl, hP⟩
