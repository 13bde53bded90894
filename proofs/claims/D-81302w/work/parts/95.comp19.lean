/-! COMPONENT 19: a ring is made (by program: gen/comp19.py) -/
set_option maxRecDepth 100000
theorem tail8 {κ ao : Nat} (L : List Value) (hL : L.length = 8) (j : Nat) (h1 : 8 ≤ j) (h2 : j < 8 + κ) : (L ++ List.replicate κ (.ref ao))[j]? = some (.ref ao) := by
  rw [List.getElem?_append_right (by omega), List.getElem?_replicate, if_pos (by omega)]
set_option maxHeartbeats 4000000 in
theorem g5_init (l : Launch) (D : va_G) (dA : Nat → ClassId) (b ao κ : Nat) (hκ : κ < 3) (x7 : Value) (nn pa qa sb tt : Nat) (hp : pa < 4) (hq : qa < 4) (hs : sb < 65536) : GC l yX5_init cX5_init 7 none 2 44 0 0 (K2 D dA) [.ref b, .ref ao, .int (nI nn), .int (nI pa), .int (nI qa), .int (nI sb), .int (nI tt)] (fun H => va_P D vwCl [(b, .inr (3 + κ, [.int 0, .int 0, .int 0, .int 0, .int 0, .int 0, .int 0, x7] ++ List.replicate κ (.ref ao)))] H) (fun q => q = b) (fun v9 H => v9 = none ∧ va_P D vwCl [(b, .inr (3 + κ, rgN ao nn pa qa sb tt κ))] H) := by
  refine GC.of (by decide) (Nat.le_of_ble_eq_true rfl) ?_
  intro p e s m below meth c ls S hr hlk hnm hK2 hPre hl
  have hK := hK2.1
  have hx := S.1
  have hb := S.2.1
  have hl : lv_has ls 7 [(0, .ref b), (1, .ref ao), (2, .int (nI nn)), (3, .int (nI pa)), (4, .int (nI qa)), (5, .int (nI sb)), (6, .int (nI tt))] := hl
  have hS : va_S (fun q => q = b) s.heap s.heap [] := va_S.rf
  have hP := hPre
  have hAb : (fun q => q = b) b := rfl
  have hsa := aft_lt hs hp hq
  refine lv_aload_n hx hb dX5_init_0 rfl (lv_at hl 0 rfl) ?_
  refine lv_aload_n hx hb dX5_init_1 rfl (lv_at hl 1 rfl) ?_
  refine ri_put (ao := ao) (fs := [.int 0, .int 0, .int 0, .int 0, .int 0, .int 0, .int 0, x7] ++ List.replicate κ (.ref ao)) (ty := (.object "CallRounds")) S hK hκ hP 7 (by decide) (by simp; omega) fl_X5_3 (hnm.trans rfl) (by decide +kernel) rfl rfl (fun _ => rfl) (fun j h1 h2 => tail8 _ rfl j h1 h2) hS hAb dX5_init_2 (fun H locs hP hz9 ho9 hS => ?_)
  have hP : va_P D vwCl [(b, .inr (3 + κ, [.int 0, .int 0, .int 0, .int 0, .int 0, .int 0, .int 0, .ref ao] ++ List.replicate κ (.ref ao)))] H := hP
  refine lv_aload_n hx hb dX5_init_5 rfl (lv_at hl 0 rfl) ?_
  refine W.objInit (rest := []) S.1 S.2.1 S.2.2.2.1 (S.2.2.2.2 _ q263) (S.2.2.2.2 _ q100) (S.2.2.2.2 _ q101) rfl (hl.1.trans S.2.2.1.symm) rfl dX5_init_6 (Nat.le_of_ble_eq_true rfl) (Nat.le_of_ble_eq_true rfl) ?_
  refine W.eq (g2 := F0 m 9 ls []) rfl ?_
  refine lv_aload_n hx hb dX5_init_9 rfl (lv_at hl 0 rfl) ?_
  refine lv_iload_n hx hb dX5_init_10 rfl (lv_at hl 2 rfl) ?_
  refine ri_put (ao := ao) (fs := [.int 0, .int 0, .int 0, .int 0, .int 0, .int 0, .int 0, .ref ao] ++ List.replicate κ (.ref ao)) (ty := .int) S hK hκ hP 0 (by decide) (by simp; omega) fl_X5_15 (hnm.trans rfl) (by decide +kernel) rfl rfl (fun h => absurd h (by decide)) (fun j h1 h2 => tail8 _ rfl j h1 h2) hS hAb dX5_init_11 (fun H locs hP hz9 ho9 hS => ?_)
  have hP : va_P D vwCl [(b, .inr (3 + κ, [.int (nI nn), .int 0, .int 0, .int 0, .int 0, .int 0, .int 0, .ref ao] ++ List.replicate κ (.ref ao)))] H := hP
  refine lv_aload_n hx hb dX5_init_14 rfl (lv_at hl 0 rfl) ?_
  refine lv_iload_n hx hb dX5_init_15 rfl (lv_at hl 3 rfl) ?_
  refine ri_put (ao := ao) (fs := [.int (nI nn), .int 0, .int 0, .int 0, .int 0, .int 0, .int 0, .ref ao] ++ List.replicate κ (.ref ao)) (ty := .int) S hK hκ hP 1 (by decide) (by simp; omega) fl_X5_19 (hnm.trans rfl) (by decide +kernel) rfl rfl (fun h => absurd h (by decide)) (fun j h1 h2 => tail8 _ rfl j h1 h2) hS hAb dX5_init_16 (fun H locs hP hz9 ho9 hS => ?_)
  have hP : va_P D vwCl [(b, .inr (3 + κ, [.int (nI nn), .int (nI pa), .int 0, .int 0, .int 0, .int 0, .int 0, .ref ao] ++ List.replicate κ (.ref ao)))] H := hP
  refine lv_aload_n hx hb dX5_init_19 rfl (lv_at hl 0 rfl) ?_
  refine lv_iload hx hb dX5_init_20 (lv_at hl 4 rfl) ?_
  refine ri_put (ao := ao) (fs := [.int (nI nn), .int (nI pa), .int 0, .int 0, .int 0, .int 0, .int 0, .ref ao] ++ List.replicate κ (.ref ao)) (ty := .int) S hK hκ hP 2 (by decide) (by simp; omega) fl_X5_22 (hnm.trans rfl) (by decide +kernel) rfl rfl (fun h => absurd h (by decide)) (fun j h1 h2 => tail8 _ rfl j h1 h2) hS hAb dX5_init_22 (fun H locs hP hz9 ho9 hS => ?_)
  have hP : va_P D vwCl [(b, .inr (3 + κ, [.int (nI nn), .int (nI pa), .int (nI qa), .int 0, .int 0, .int 0, .int 0, .ref ao] ++ List.replicate κ (.ref ao)))] H := hP
  refine lv_aload_n hx hb dX5_init_25 rfl (lv_at hl 0 rfl) ?_
  refine lv_iload hx hb dX5_init_26 (lv_at hl 6 rfl) ?_
  refine ri_put (ao := ao) (fs := [.int (nI nn), .int (nI pa), .int (nI qa), .int 0, .int 0, .int 0, .int 0, .ref ao] ++ List.replicate κ (.ref ao)) (ty := .int) S hK hκ hP 4 (by decide) (by simp; omega) fl_X5_25 (hnm.trans rfl) (by decide +kernel) rfl rfl (fun h => absurd h (by decide)) (fun j h1 h2 => tail8 _ rfl j h1 h2) hS hAb dX5_init_28 (fun H locs hP hz9 ho9 hS => ?_)
  have hP : va_P D vwCl [(b, .inr (3 + κ, [.int (nI nn), .int (nI pa), .int (nI qa), .int 0, .int (nI tt), .int 0, .int 0, .ref ao] ++ List.replicate κ (.ref ao)))] H := hP
  refine lv_aload_n hx hb dX5_init_31 rfl (lv_at hl 0 rfl) ?_
  refine lv_iload hx hb dX5_init_32 (lv_at hl 5 rfl) ?_
  refine lv_iload_n hx hb dX5_init_34 rfl (lv_at hl 3 rfl) ?_
  refine lv_iload hx hb dX5_init_35 (lv_at hl 4 rfl) ?_
  refine rc2_SN (rest := [.ref b]) [.int (nI sb), .int (nI pa), .int (nI qa)] 3 S hK2 (RC.k2 (r0_behind l D dA sb pa qa (by first | assumption | omega | decide) (by first | assumption | omega | decide) (by first | assumption | omega | decide))) q266 q60 (hK2.2.1 _ q264 rfl) q265 (by decide +kernel : yX0_behind.cls ≠ "java/lang/invoke/MethodHandle" ∧ yX0_behind.cls ≠ "java/lang/invoke/VarHandle" ∧ (parseMethodDescriptor yX0_behind.desc).map (fun d => d.parameters.length) = some 3) rfl ⟨Nat.le_of_ble_eq_true rfl, Nat.le_of_ble_eq_true rfl⟩ hl.1 (Nat.le_of_ble_eq_true rfl) dX5_init_37 ⟨Nat.le_of_ble_eq_true rfl, Nat.le_of_ble_eq_true rfl⟩ (trivial) (fun v9 hv9 => ?_) rfl
  subst hv9
  refine W.eq (g2 := F0 m 40 ls [.int (nI (aft sb pa qa)), .ref b]) rfl ?_
  refine ri_put (ao := ao) (fs := [.int (nI nn), .int (nI pa), .int (nI qa), .int 0, .int (nI tt), .int 0, .int 0, .ref ao] ++ List.replicate κ (.ref ao)) (ty := .int) S hK hκ hP 3 (by decide) (by simp; omega) fl_X5_32 (hnm.trans rfl) (by decide +kernel) rfl rfl (fun h => absurd h (by decide)) (fun j h1 h2 => tail8 _ rfl j h1 h2) hS hAb dX5_init_40 (fun H locs hP hz9 ho9 hS => ?_)
  have hP : va_P D vwCl [(b, .inr (3 + κ, [.int (nI nn), .int (nI pa), .int (nI qa), .int (nI (aft sb pa qa)), .int (nI tt), .int 0, .int 0, .ref ao] ++ List.replicate κ (.ref ao)))] H := hP
  refine lv_aload_n hx hb dX5_init_43 rfl (lv_at hl 0 rfl) ?_
  refine lv_aload_n hx hb dX5_init_44 rfl (lv_at hl 0 rfl) ?_
  refine g_get (v := .int (nI (aft sb pa qa))) S hK hκ hP 3 (by decide) fl_X5_32 dX5_init_45 rfl ?_
  refine lv_iload_n hx hb dX5_init_48 rfl (lv_at hl 3 rfl) ?_
  refine rc2_SN (rest := [.ref b]) [.int (nI (aft sb pa qa)), .int (nI pa)] 2 S hK2 (RC.k2 (r0_hasOf l D dA (aft sb pa qa) pa (by first | assumption | omega | decide) (by first | assumption | omega | decide))) q248 q60 (hK2.2.1 _ q267 rfl) q247 (by decide +kernel : yX0_hasOf.cls ≠ "java/lang/invoke/MethodHandle" ∧ yX0_hasOf.cls ≠ "java/lang/invoke/VarHandle" ∧ (parseMethodDescriptor yX0_hasOf.desc).map (fun d => d.parameters.length) = some 2) rfl ⟨Nat.le_of_ble_eq_true rfl, Nat.le_of_ble_eq_true rfl⟩ hl.1 (Nat.le_of_ble_eq_true rfl) dX5_init_49 ⟨Nat.le_of_ble_eq_true rfl, Nat.le_of_ble_eq_true rfl⟩ (trivial) (fun v9 hv9 => ?_) rfl
  subst hv9
  refine W.eq (g2 := F0 m 52 ls [.int (nI (hs4 (aft sb pa qa) pa)), .ref b]) rfl ?_
  refine lv_iload hx hb dX5_init_52 (lv_at hl 5 rfl) ?_
  refine lv_iload_n hx hb dX5_init_54 rfl (lv_at hl 3 rfl) ?_
  refine rc2_SN (rest := [.int (nI (hs4 (aft sb pa qa) pa)), .ref b]) [.int (nI sb), .int (nI pa)] 2 S hK2 (RC.k2 (r0_hasOf l D dA sb pa (by first | assumption | omega | decide) (by first | assumption | omega | decide))) q248 q60 (hK2.2.1 _ q267 rfl) q247 (by decide +kernel : yX0_hasOf.cls ≠ "java/lang/invoke/MethodHandle" ∧ yX0_hasOf.cls ≠ "java/lang/invoke/VarHandle" ∧ (parseMethodDescriptor yX0_hasOf.desc).map (fun d => d.parameters.length) = some 2) rfl ⟨Nat.le_of_ble_eq_true rfl, Nat.le_of_ble_eq_true rfl⟩ hl.1 (Nat.le_of_ble_eq_true rfl) dX5_init_55 ⟨Nat.le_of_ble_eq_true rfl, Nat.le_of_ble_eq_true rfl⟩ (trivial) (fun v9 hv9 => ?_) rfl
  subst hv9
  refine W.eq (g2 := F0 m 58 ls [.int (nI (hs4 sb pa)), .int (nI (hs4 (aft sb pa qa) pa)), .ref b]) rfl ?_
  refine lv_iconst (v := (-1)) hx hb dX5_init_58 (by decide) ?_
  refine lv_ixor hx hb dX5_init_59 ?_
  refine lv_iand hx hb dX5_init_60 ?_
  refine topi (z := nI (hs4 (aft sb pa qa) pa &&& (15 ^^^ hs4 sb pa))) (andn_eq _ (hs4_lt _ _) _ (hs4_lt _ _)) ?_
  refine ri_put (ao := ao) (fs := [.int (nI nn), .int (nI pa), .int (nI qa), .int (nI (aft sb pa qa)), .int (nI tt), .int 0, .int 0, .ref ao] ++ List.replicate κ (.ref ao)) (ty := .int) S hK hκ hP 5 (by decide) (by simp; omega) fl_X5_39 (hnm.trans rfl) (by decide +kernel) rfl rfl (fun h => absurd h (by decide)) (fun j h1 h2 => tail8 _ rfl j h1 h2) hS hAb dX5_init_61 (fun H locs hP hz9 ho9 hS => ?_)
  have hP : va_P D vwCl [(b, .inr (3 + κ, [.int (nI nn), .int (nI pa), .int (nI qa), .int (nI (aft sb pa qa)), .int (nI tt), .int (nI (hs4 (aft sb pa qa) pa &&& (15 ^^^ hs4 sb pa))), .int 0, .ref ao] ++ List.replicate κ (.ref ao)))] H := hP
  refine lv_aload_n hx hb dX5_init_64 rfl (lv_at hl 0 rfl) ?_
  refine lv_aload_n hx hb dX5_init_65 rfl (lv_at hl 0 rfl) ?_
  refine g_get (v := .int (nI (aft sb pa qa))) S hK hκ hP 3 (by decide) fl_X5_32 dX5_init_66 rfl ?_
  refine lv_iload hx hb dX5_init_69 (lv_at hl 4 rfl) ?_
  refine rc2_SN (rest := [.ref b]) [.int (nI (aft sb pa qa)), .int (nI qa)] 2 S hK2 (RC.k2 (r0_hasOf l D dA (aft sb pa qa) qa (by first | assumption | omega | decide) (by first | assumption | omega | decide))) q248 q60 (hK2.2.1 _ q267 rfl) q247 (by decide +kernel : yX0_hasOf.cls ≠ "java/lang/invoke/MethodHandle" ∧ yX0_hasOf.cls ≠ "java/lang/invoke/VarHandle" ∧ (parseMethodDescriptor yX0_hasOf.desc).map (fun d => d.parameters.length) = some 2) rfl ⟨Nat.le_of_ble_eq_true rfl, Nat.le_of_ble_eq_true rfl⟩ hl.1 (Nat.le_of_ble_eq_true rfl) dX5_init_71 ⟨Nat.le_of_ble_eq_true rfl, Nat.le_of_ble_eq_true rfl⟩ (trivial) (fun v9 hv9 => ?_) rfl
  subst hv9
  refine W.eq (g2 := F0 m 74 ls [.int (nI (hs4 (aft sb pa qa) qa)), .ref b]) rfl ?_
  refine lv_iload hx hb dX5_init_74 (lv_at hl 5 rfl) ?_
  refine lv_iload hx hb dX5_init_76 (lv_at hl 4 rfl) ?_
  refine rc2_SN (rest := [.int (nI (hs4 (aft sb pa qa) qa)), .ref b]) [.int (nI sb), .int (nI qa)] 2 S hK2 (RC.k2 (r0_hasOf l D dA sb qa (by first | assumption | omega | decide) (by first | assumption | omega | decide))) q248 q60 (hK2.2.1 _ q267 rfl) q247 (by decide +kernel : yX0_hasOf.cls ≠ "java/lang/invoke/MethodHandle" ∧ yX0_hasOf.cls ≠ "java/lang/invoke/VarHandle" ∧ (parseMethodDescriptor yX0_hasOf.desc).map (fun d => d.parameters.length) = some 2) rfl ⟨Nat.le_of_ble_eq_true rfl, Nat.le_of_ble_eq_true rfl⟩ hl.1 (Nat.le_of_ble_eq_true rfl) dX5_init_78 ⟨Nat.le_of_ble_eq_true rfl, Nat.le_of_ble_eq_true rfl⟩ (trivial) (fun v9 hv9 => ?_) rfl
  subst hv9
  refine W.eq (g2 := F0 m 81 ls [.int (nI (hs4 sb qa)), .int (nI (hs4 (aft sb pa qa) qa)), .ref b]) rfl ?_
  refine lv_iconst (v := (-1)) hx hb dX5_init_81 (by decide) ?_
  refine lv_ixor hx hb dX5_init_82 ?_
  refine lv_iand hx hb dX5_init_83 ?_
  refine topi (z := nI (hs4 (aft sb pa qa) qa &&& (15 ^^^ hs4 sb qa))) (andn_eq _ (hs4_lt _ _) _ (hs4_lt _ _)) ?_
  refine ri_put (ao := ao) (fs := [.int (nI nn), .int (nI pa), .int (nI qa), .int (nI (aft sb pa qa)), .int (nI tt), .int (nI (hs4 (aft sb pa qa) pa &&& (15 ^^^ hs4 sb pa))), .int 0, .ref ao] ++ List.replicate κ (.ref ao)) (ty := .int) S hK hκ hP 6 (by decide) (by simp; omega) fl_X5_42 (hnm.trans rfl) (by decide +kernel) rfl rfl (fun h => absurd h (by decide)) (fun j h1 h2 => tail8 _ rfl j h1 h2) hS hAb dX5_init_84 (fun H locs hP hz9 ho9 hS => ?_)
  have hP : va_P D vwCl [(b, .inr (3 + κ, [.int (nI nn), .int (nI pa), .int (nI qa), .int (nI (aft sb pa qa)), .int (nI tt), .int (nI (hs4 (aft sb pa qa) pa &&& (15 ^^^ hs4 sb pa))), .int (nI (hs4 (aft sb pa qa) qa &&& (15 ^^^ hs4 sb qa))), .ref ao] ++ List.replicate κ (.ref ao)))] H := hP
  exact g_vret S hr hlk hS dX5_init_87 ⟨Nat.le_of_ble_eq_true rfl, Nat.le_of_ble_eq_true rfl⟩ (⟨rfl, hP⟩)
