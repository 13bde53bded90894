/-! COMPONENT 12: trace, fault (by program: gen/comp12.py) -/
set_option maxRecDepth 100000
set_option maxHeartbeats 4000000 in
theorem r0_trace (l : Launch) (D : va_G) (dA : Nat → ClassId) (a : Nat → Nat) (σ : MS)  : RC l yX0_trace cX0_trace 1 (some .int) 0 0 D dA [.ref (a 0)] (fun H => va_P D vwCl (kW dA a σ) H) (fun v9 => v9 = some (.int (σ.1 2))) := by
  refine RC.of (by decide) (Nat.le_of_ble_eq_true rfl) ?_
  intro p e s m below meth c ls S hr hlk hK hP hl
  have hx := S.1
  have hb := S.2.1
  have hl : lv_has ls 1 [(0, .ref (a 0))] := hl
  have hP : va_P D vwCl (kW dA a σ) s.heap := hP
  refine lv_aload_n hx hb dX0_trace_0 rfl (lv_at hl 0 rfl) ?_
  refine k_get (v := .int (σ.1 2)) S hK hP 2 (by decide) fl_X0_357 rfl dX0_trace_1 rfl ?_
  exact r_iret S hr hlk dX0_trace_4 (congrArg (fun z : Int32 => some (Value.int z)) (show σ.1 2 = σ.1 2 from rfl))
set_option maxHeartbeats 4000000 in
theorem r0_fault (l : Launch) (D : va_G) (dA : Nat → ClassId) (a : Nat → Nat) (σ : MS)  : RC l yX0_fault cX0_fault 1 (some .int) 0 0 D dA [.ref (a 0)] (fun H => va_P D vwCl (kW dA a σ) H) (fun v9 => v9 = some (.int (σ.1 13))) := by
  refine RC.of (by decide) (Nat.le_of_ble_eq_true rfl) ?_
  intro p e s m below meth c ls S hr hlk hK hP hl
  have hx := S.1
  have hb := S.2.1
  have hl : lv_has ls 1 [(0, .ref (a 0))] := hl
  have hP : va_P D vwCl (kW dA a σ) s.heap := hP
  refine lv_aload_n hx hb dX0_fault_0 rfl (lv_at hl 0 rfl) ?_
  refine k_get (v := .int (σ.1 13)) S hK hP 13 (by decide) fl_X0_263 rfl dX0_fault_1 rfl ?_
  exact r_iret S hr hlk dX0_fault_4 (congrArg (fun z : Int32 => some (Value.int z)) (show σ.1 13 = σ.1 13 from rfl))
set_option maxHeartbeats 4000000 in
theorem k0_refused (l : Launch) (D : va_G) (dA : Nat → ClassId) (a : Nat → Nat) (hI : kInj a) (σ : MS) (Ph : Heap → Prop) (hSt : kStb a Ph) (k : Int32) : KC l yX0_refused cX0_refused 2 (some .int) 0 0 D dA a [.ref (a 0), .int k] σ Ph (fun v9 σ9 => v9 = some (.int k) ∧ σ9 = σ.i 13 0) := by
  refine KC.of (by decide) (Nat.le_of_ble_eq_true rfl) ?_
  intro p e s m below meth c ls S hr hlk hK hM hPh hl
  have hx := S.1
  have hb := S.2.1
  have hl : lv_has ls 2 [(0, .ref (a 0)), (1, .int k)] := hl
  refine lv_aload_n hx hb dX0_refused_0 rfl (lv_at hl 0 rfl) ?_
  refine lv_iconst (v := 0) hx hb dX0_refused_1 (by decide) ?_
  refine k_put hI S hK hM 13 (by decide) rfl fl_X0_263 rfl rfl (by decide +kernel) dX0_refused_2 (fun H locs hM => ?_)
  refine lv_iload_n hx hb dX0_refused_5 rfl (lv_at hl 1 rfl) ?_
  exact k_iret S hr hlk hM dX0_refused_6 (⟨congrArg (fun z : Int32 => some (Value.int z)) (show k = k from rfl), rfl⟩)
set_option maxHeartbeats 4000000 in
theorem k0_fails (l : Launch) (D : va_G) (dA : Nat → ClassId) (a : Nat → Nat) (hI : kInj a) (σ : MS) (Ph : Heap → Prop) (hSt : kStb a Ph) (k : Int32) : KC l yX0_fails cX0_fails 2 (some .int) 0 0 D dA a [.ref (a 0), .int k] σ Ph (fun v9 σ9 => v9 = some (.int ((-10) - k)) ∧ σ9 = σ.i 13 k) := by
  refine KC.of (by decide) (Nat.le_of_ble_eq_true rfl) ?_
  intro p e s m below meth c ls S hr hlk hK hM hPh hl
  have hx := S.1
  have hb := S.2.1
  have hl : lv_has ls 2 [(0, .ref (a 0)), (1, .int k)] := hl
  refine lv_aload_n hx hb dX0_fails_0 rfl (lv_at hl 0 rfl) ?_
  refine lv_iload_n hx hb dX0_fails_1 rfl (lv_at hl 1 rfl) ?_
  refine k_put hI S hK hM 13 (by decide) rfl fl_X0_263 rfl rfl (by decide +kernel) dX0_fails_2 (fun H locs hM => ?_)
  refine lv_bipush (v := (-10)) hx hb dX0_fails_5 (by decide) ?_
  refine lv_iload_n hx hb dX0_fails_7 rfl (lv_at hl 1 rfl) ?_
  refine lv_isub hx hb dX0_fails_8 ?_
  exact k_iret S hr hlk hM dX0_fails_9 (⟨congrArg (fun z : Int32 => some (Value.int z)) (show (-10) - k = (-10) - k from rfl), rfl⟩)
set_option maxHeartbeats 4000000 in
theorem k0_failsLong (l : Launch) (D : va_G) (dA : Nat → ClassId) (a : Nat → Nat) (hI : kInj a) (σ : MS) (Ph : Heap → Prop) (hSt : kStb a Ph) (k : Int32) : KC l yX0_failsLong cX0_failsLong 2 (some .long) 0 0 D dA a [.ref (a 0), .int k] σ Ph (fun v9 σ9 => v9 = some (.long (-9223372036854775808)) ∧ σ9 = σ.i 13 k) := by
  refine KC.of (by decide) (Nat.le_of_ble_eq_true rfl) ?_
  intro p e s m below meth c ls S hr hlk hK hM hPh hl
  have hx := S.1
  have hb := S.2.1
  have hl : lv_has ls 2 [(0, .ref (a 0)), (1, .int k)] := hl
  refine lv_aload_n hx hb dX0_failsLong_0 rfl (lv_at hl 0 rfl) ?_
  refine lv_iload_n hx hb dX0_failsLong_1 rfl (lv_at hl 1 rfl) ?_
  refine k_put hI S hK hM 13 (by decide) rfl fl_X0_263 rfl rfl (by decide +kernel) dX0_failsLong_2 (fun H locs hM => ?_)
  refine lv_ldc2 (v := (-9223372036854775808)) hx hb S.2.2.2.1 (S.2.2.2.2 _ q477) dX0_failsLong_5 ?_
  exact k_lret S hr hlk hM dX0_failsLong_8 (⟨congrArg (fun z : Int64 => some (Value.long z)) (show (-9223372036854775808) = (-9223372036854775808) from rfl), rfl⟩)
