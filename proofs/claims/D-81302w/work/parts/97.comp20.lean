/-! COMPONENT 20: News, Whole are made (by program: gen/comp20.py) -/
set_option maxRecDepth 100000
set_option maxHeartbeats 4000000 in
theorem g6_init (l : Launch) (D : va_G) (dA : Nat → ClassId) (b ao : Nat) (x7 x8 : Value) (nn pa qa sb tt : Nat) (hp : pa < 4) (hq : qa < 4) (hs : sb < 65536) : GC l yX6_init cX6_init 7 none 3 70 0 0 (K2 D dA) [.ref b, .ref ao, .int (nI nn), .int (nI pa), .int (nI qa), .int (nI sb), .int (nI tt)] (fun H => va_P D vwCl [(b, .inr (4, z7 ++ [x7, x8]))] H) (fun q => q = b) (fun v9 H => v9 = none ∧ va_P D vwCl [(b, .inr (4, rgN ao nn pa qa sb tt 1))] H) := by
  refine GC.of (by decide) (Nat.le_of_ble_eq_true rfl) ?_
  intro p e s m below meth c ls S hr hlk hnm hK2 hPre hl
  have hK := hK2.1
  have hx := S.1
  have hb := S.2.1
  have hl : lv_has ls 7 [(0, .ref b), (1, .ref ao), (2, .int (nI nn)), (3, .int (nI pa)), (4, .int (nI qa)), (5, .int (nI sb)), (6, .int (nI tt))] := hl
  have hS : va_S (fun q => q = b) s.heap s.heap [] := va_S.rf
  have hP := hPre
  have hAb : (fun q => q = b) b := rfl
  refine lv_aload_n hx hb dX6_init_0 rfl (lv_at hl 0 rfl) ?_
  refine lv_aload_n hx hb dX6_init_1 rfl (lv_at hl 1 rfl) ?_
  refine ri_p8a (ao := ao) S hK hP fl_X6_1 (hnm.trans rfl) hS hAb dX6_init_2 (fun H locs y7 hP hz9 ho9 hS => ?_)
  refine lv_aload_n hx hb dX6_init_5 rfl (lv_at hl 0 rfl) ?_
  refine lv_aload_n hx hb dX6_init_6 rfl (lv_at hl 1 rfl) ?_
  refine lv_iload_n hx hb dX6_init_7 rfl (lv_at hl 2 rfl) ?_
  refine lv_iload_n hx hb dX6_init_8 rfl (lv_at hl 3 rfl) ?_
  refine lv_iload hx hb dX6_init_9 (lv_at hl 4 rfl) ?_
  refine lv_iload hx hb dX6_init_11 (lv_at hl 5 rfl) ?_
  refine lv_iload hx hb dX6_init_13 (lv_at hl 6 rfl) ?_
  refine gc_I (rest := []) [.ref ao, .int (nI nn), .int (nI pa), .int (nI qa), .int (nI sb), .int (nI tt)] 6 S Wm_K2 hK2 hS (fun q h => h) (g5_init l D dA b ao 1 (by decide) y7 nn pa qa sb tt hp hq hs) q262 q82 q314 q261 rfl (by decide +kernel : yX5_init.cls ≠ "java/lang/invoke/MethodHandle" ∧ yX5_init.cls ≠ "java/lang/invoke/VarHandle" ∧ (parseMethodDescriptor yX5_init.desc).map (fun d => d.parameters.length) = some 6) rfl ⟨Nat.le_of_ble_eq_true rfl, Nat.le_of_ble_eq_true rfl⟩ hl.1 (Nat.le_of_ble_eq_true rfl) dX6_init_15 ⟨Nat.le_of_ble_eq_true rfl, Nat.le_of_ble_eq_true rfl⟩ (hP) (fun v9 H locs hp9 hz9 ho9 hS => ?_) rfl
  obtain ⟨rfl, hP⟩ := hp9
  refine W.eq (g2 := F0 m 18 ls []) rfl ?_
  exact g_vret S hr hlk hS dX6_init_18 ⟨Nat.le_of_ble_eq_true rfl, Nat.le_of_ble_eq_true rfl⟩ (⟨rfl, hP⟩)
set_option maxHeartbeats 4000000 in
theorem g6_init2 (l : Launch) (D : va_G) (dA : Nat → ClassId) (b ao : Nat) (x7 x8 : Value) (nn pa qa sb tt : Nat) (hp : pa < 4) (hq : qa < 4) (hs : sb < 65536) : GC l yX6_init cX6_init 7 none 3 70 0 0 (K2 D dA) [.ref b, .ref ao, .int (nI nn), .int (nI pa), .int (nI qa), .int (nI sb), .int (nI tt)] (fun H => va_P D vwCl [(b, .inr (5, z7 ++ [x7, x8, .ref ao]))] H) (fun q => q = b) (fun v9 H => v9 = none ∧ va_P D vwCl [(b, .inr (5, rgN ao nn pa qa sb tt 2))] H) := by
  refine GC.of (by decide) (Nat.le_of_ble_eq_true rfl) ?_
  intro p e s m below meth c ls S hr hlk hnm hK2 hPre hl
  have hK := hK2.1
  have hx := S.1
  have hb := S.2.1
  have hl : lv_has ls 7 [(0, .ref b), (1, .ref ao), (2, .int (nI nn)), (3, .int (nI pa)), (4, .int (nI qa)), (5, .int (nI sb)), (6, .int (nI tt))] := hl
  have hS : va_S (fun q => q = b) s.heap s.heap [] := va_S.rf
  have hP := hPre
  have hAb : (fun q => q = b) b := rfl
  refine lv_aload_n hx hb dX6_init_0 rfl (lv_at hl 0 rfl) ?_
  refine lv_aload_n hx hb dX6_init_1 rfl (lv_at hl 1 rfl) ?_
  refine ri_p8b (ao := ao) S hK hP fl_X6_1 (hnm.trans rfl) hS hAb dX6_init_2 (fun H locs y7 hP hz9 ho9 hS => ?_)
  refine lv_aload_n hx hb dX6_init_5 rfl (lv_at hl 0 rfl) ?_
  refine lv_aload_n hx hb dX6_init_6 rfl (lv_at hl 1 rfl) ?_
  refine lv_iload_n hx hb dX6_init_7 rfl (lv_at hl 2 rfl) ?_
  refine lv_iload_n hx hb dX6_init_8 rfl (lv_at hl 3 rfl) ?_
  refine lv_iload hx hb dX6_init_9 (lv_at hl 4 rfl) ?_
  refine lv_iload hx hb dX6_init_11 (lv_at hl 5 rfl) ?_
  refine lv_iload hx hb dX6_init_13 (lv_at hl 6 rfl) ?_
  refine gc_I (rest := []) [.ref ao, .int (nI nn), .int (nI pa), .int (nI qa), .int (nI sb), .int (nI tt)] 6 S Wm_K2 hK2 hS (fun q h => h) (g5_init l D dA b ao 2 (by decide) y7 nn pa qa sb tt hp hq hs) q262 q82 q314 q261 rfl (by decide +kernel : yX5_init.cls ≠ "java/lang/invoke/MethodHandle" ∧ yX5_init.cls ≠ "java/lang/invoke/VarHandle" ∧ (parseMethodDescriptor yX5_init.desc).map (fun d => d.parameters.length) = some 6) rfl ⟨Nat.le_of_ble_eq_true rfl, Nat.le_of_ble_eq_true rfl⟩ hl.1 (Nat.le_of_ble_eq_true rfl) dX6_init_15 ⟨Nat.le_of_ble_eq_true rfl, Nat.le_of_ble_eq_true rfl⟩ (hP) (fun v9 H locs hp9 hz9 ho9 hS => ?_) rfl
  obtain ⟨rfl, hP⟩ := hp9
  refine W.eq (g2 := F0 m 18 ls []) rfl ?_
  exact g_vret S hr hlk hS dX6_init_18 ⟨Nat.le_of_ble_eq_true rfl, Nat.le_of_ble_eq_true rfl⟩ (⟨rfl, hP⟩)
set_option maxHeartbeats 4000000 in
theorem g7_init (l : Launch) (D : va_G) (dA : Nat → ClassId) (b ao : Nat) (x7 x8 x9 : Value) (nn pa qa sb tt : Nat) (hp : pa < 4) (hq : qa < 4) (hs : sb < 65536) : GC l yX7_init cX7_init 7 none 4 96 0 0 (K2 D dA) [.ref b, .ref ao, .int (nI nn), .int (nI pa), .int (nI qa), .int (nI sb), .int (nI tt)] (fun H => va_P D vwCl [(b, .inr (5, z7 ++ [x7, x8, x9]))] H) (fun q => q = b) (fun v9 H => v9 = none ∧ va_P D vwCl [(b, .inr (5, rgN ao nn pa qa sb tt 2))] H) := by
  refine GC.of (by decide) (Nat.le_of_ble_eq_true rfl) ?_
  intro p e s m below meth c ls S hr hlk hnm hK2 hPre hl
  have hK := hK2.1
  have hx := S.1
  have hb := S.2.1
  have hl : lv_has ls 7 [(0, .ref b), (1, .ref ao), (2, .int (nI nn)), (3, .int (nI pa)), (4, .int (nI qa)), (5, .int (nI sb)), (6, .int (nI tt))] := hl
  have hS : va_S (fun q => q = b) s.heap s.heap [] := va_S.rf
  have hP := hPre
  have hAb : (fun q => q = b) b := rfl
  refine lv_aload_n hx hb dX7_init_0 rfl (lv_at hl 0 rfl) ?_
  refine lv_aload_n hx hb dX7_init_1 rfl (lv_at hl 1 rfl) ?_
  refine ri_p9 (ao := ao) S hK hP fl_X7_1 (hnm.trans rfl) hS hAb dX7_init_2 (fun H locs y7 y8 hP hz9 ho9 hS => ?_)
  refine lv_aload_n hx hb dX7_init_5 rfl (lv_at hl 0 rfl) ?_
  refine lv_aload_n hx hb dX7_init_6 rfl (lv_at hl 1 rfl) ?_
  refine lv_iload_n hx hb dX7_init_7 rfl (lv_at hl 2 rfl) ?_
  refine lv_iload_n hx hb dX7_init_8 rfl (lv_at hl 3 rfl) ?_
  refine lv_iload hx hb dX7_init_9 (lv_at hl 4 rfl) ?_
  refine lv_iload hx hb dX7_init_11 (lv_at hl 5 rfl) ?_
  refine lv_iload hx hb dX7_init_13 (lv_at hl 6 rfl) ?_
  refine gc_I (rest := []) [.ref ao, .int (nI nn), .int (nI pa), .int (nI qa), .int (nI sb), .int (nI tt)] 6 S Wm_K2 hK2 hS (fun q h => h) (g6_init2 l D dA b ao y7 y8 nn pa qa sb tt hp hq hs) q313 q83 q311 q312 rfl (by decide +kernel : yX6_init.cls ≠ "java/lang/invoke/MethodHandle" ∧ yX6_init.cls ≠ "java/lang/invoke/VarHandle" ∧ (parseMethodDescriptor yX6_init.desc).map (fun d => d.parameters.length) = some 6) rfl ⟨Nat.le_of_ble_eq_true rfl, Nat.le_of_ble_eq_true rfl⟩ hl.1 (Nat.le_of_ble_eq_true rfl) dX7_init_15 ⟨Nat.le_of_ble_eq_true rfl, Nat.le_of_ble_eq_true rfl⟩ (hP) (fun v9 H locs hp9 hz9 ho9 hS => ?_) rfl
  obtain ⟨rfl, hP⟩ := hp9
  refine W.eq (g2 := F0 m 18 ls []) rfl ?_
  exact g_vret S hr hlk hS dX7_init_18 ⟨Nat.le_of_ble_eq_true rfl, Nat.le_of_ble_eq_true rfl⟩ (⟨rfl, hP⟩)
