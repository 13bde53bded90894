/-! COMPONENT 1: small methods (by program: gen/comp1.py) -/
set_option maxRecDepth 100000
set_option maxHeartbeats 4000000 in
theorem r0_in (l : Launch) (D : va_G) (dA : Nat → ClassId) (x y z : Int64) : RC l yX0_in cX0_in 6 (some .boolean) 0 0 D dA [.long x, .long y, .long z] (fun _ => True) (fun v9 => v9 = some (.int (b2i (inL x y z)))) := by
  refine RC.of (by decide) (Nat.le_of_ble_eq_true rfl) ?_
  intro p e s m below meth c ls S hr hlk hK hP hl
  have hx := S.1
  have hb := S.2.1
  have hl : lv_has ls 6 [(0, .long x), (2, .long y), (4, .long z)] := hl
  refine lv_lload_n hx hb dX0_in_0 rfl (lv_at hl 0 rfl) ?_
  refine lv_lload_n hx hb dX0_in_1 rfl (lv_at hl 1 rfl) ?_
  refine W.lcmp hx hb dX0_in_2 ?_
  refine lv_if_lt (tgt := 17) hx hb dX0_in_3 (by decide) (fun c_3 => ?_) (fun c_3 => ?_)
  · have c_3 := (lg_cmp_lt _ _).mp c_3
    refine lv_iconst (v := 0) hx hb dX0_in_17 (by decide) ?_
    exact r_zret S hr hlk dX0_in_18 (by decide) (congrArg (fun z : Int32 => some (Value.int z)) (show 0 = b2i (inL x y z) from by simp [inL, b2i, *]))
  · have c_3 := mt (lg_cmp_lt _ _).mpr c_3
    refine lv_lload_n hx hb dX0_in_6 rfl (lv_at hl 0 rfl) ?_
    refine lv_lload hx hb dX0_in_7 (lv_at hl 2 rfl) ?_
    refine W.lcmp hx hb dX0_in_9 ?_
    refine lv_if_gt (tgt := 17) hx hb dX0_in_10 (by decide) (fun c_10 => ?_) (fun c_10 => ?_)
    · have c_10 := (lg_cmp_gt _ _).mp c_10
      refine lv_iconst (v := 0) hx hb dX0_in_17 (by decide) ?_
      exact r_zret S hr hlk dX0_in_18 (by decide) (congrArg (fun z : Int32 => some (Value.int z)) (show 0 = b2i (inL x y z) from by simp [inL, b2i, *]))
    · have c_10 := mt (lg_cmp_gt _ _).mpr c_10
      refine lv_iconst (v := 1) hx hb dX0_in_13 (by decide) ?_
      refine lv_goto (tgt := 18) hx hb dX0_in_14 (by decide) ?_
      exact r_zret S hr hlk dX0_in_18 (by decide) (congrArg (fun z : Int32 => some (Value.int z)) (show 1 = b2i (inL x y z) from by simp [inL, b2i, *]))
set_option maxHeartbeats 4000000 in
theorem r0_isIn (l : Launch) (D : va_G) (dA : Nat → ClassId) (x k : Nat) (hx9 : x < 2 ^ 31) (hk : k < 32) : RC l yX0_isIn cX0_isIn 2 (some .boolean) 0 0 D dA [.int (nI x), .int (nI k)] (fun _ => True) (fun v9 => v9 = some (.int (b2i (x.testBit k)))) := by
  refine RC.of (by decide) (Nat.le_of_ble_eq_true rfl) ?_
  intro p e s m below meth c ls S hr hlk hK hP hl
  have hx := S.1
  have hb := S.2.1
  have hl : lv_has ls 2 [(0, .int (nI x)), (1, .int (nI k))] := hl
  have hh := bit_1 hx9 hk
  refine lv_iload_n hx hb dX0_isIn_0 rfl (lv_at hl 0 rfl) ?_
  refine lv_iload_n hx hb dX0_isIn_1 rfl (lv_at hl 1 rfl) ?_
  refine lv_ishr hx hb dX0_isIn_2 ?_
  refine lv_iconst (v := 1) hx hb dX0_isIn_3 (by decide) ?_
  refine lv_iand hx hb dX0_isIn_4 ?_
  refine lv_iconst (v := 1) hx hb dX0_isIn_5 (by decide) ?_
  refine lv_icmp_ne (tgt := 13) hx hb dX0_isIn_6 (by decide) (fun c_6 => ?_) (fun c_6 => ?_)
  · refine lv_iconst (v := 0) hx hb dX0_isIn_13 (by decide) ?_
    exact r_zret S hr hlk dX0_isIn_14 (by decide) (congrArg (fun z : Int32 => some (Value.int z)) (show 0 = b2i (x.testBit k) from by rw [Bool.eq_false_iff.mpr (fun h9 => c_6 (hh.mpr h9))]; rfl))
  · refine lv_iconst (v := 1) hx hb dX0_isIn_9 (by decide) ?_
    refine lv_goto (tgt := 14) hx hb dX0_isIn_10 (by decide) ?_
    exact r_zret S hr hlk dX0_isIn_14 (by decide) (congrArg (fun z : Int32 => some (Value.int z)) (show 1 = b2i (x.testBit k) from by rw [hh.mp c_6]; rfl))
set_option maxHeartbeats 4000000 in
theorem r0_hasOf (l : Launch) (D : va_G) (dA : Nat → ClassId) (sx pa : Nat) (hs : sx < 65536) (hp : pa < 4) : RC l yX0_hasOf cX0_hasOf 2 (some .int) 0 0 D dA [.int (nI sx), .int (nI pa)] (fun _ => True) (fun v9 => v9 = some (.int (nI (hs4 sx pa)))) := by
  refine RC.of (by decide) (Nat.le_of_ble_eq_true rfl) ?_
  intro p e s m below meth c ls S hr hlk hK hP hl
  have hx := S.1
  have hb := S.2.1
  have hl : lv_has ls 2 [(0, .int (nI sx)), (1, .int (nI pa))] := hl
  refine lv_iload_n hx hb dX0_hasOf_0 rfl (lv_at hl 0 rfl) ?_
  refine lv_iconst (v := 4) hx hb dX0_hasOf_1 (by decide) ?_
  refine lv_iload_n hx hb dX0_hasOf_2 rfl (lv_at hl 1 rfl) ?_
  refine lv_imul hx hb dX0_hasOf_3 ?_
  refine lv_ishr hx hb dX0_hasOf_4 ?_
  refine lv_bipush (v := 15) hx hb dX0_hasOf_5 (by decide) ?_
  refine lv_iand hx hb dX0_hasOf_7 ?_
  exact r_iret S hr hlk dX0_hasOf_8 (congrArg (fun z : Int32 => some (Value.int z)) (show ((nI sx) >>> ((4 * (nI pa)) &&& 31)) &&& 15 = nI (hs4 sx pa) from hs4_eq hs hp))
set_option maxHeartbeats 4000000 in
theorem r0_behind (l : Launch) (D : va_G) (dA : Nat → ClassId) (sx pa qa : Nat) (hs : sx < 65536) (hp : pa < 4) (hq : qa < 4) : RC l yX0_behind cX0_behind 4 (some .int) 1 21 D dA [.int (nI sx), .int (nI pa), .int (nI qa)] (fun _ => True) (fun v9 => v9 = some (.int (nI (aft sx pa qa)))) := by
  refine RC.of (by decide) (Nat.le_of_ble_eq_true rfl) ?_
  intro p e s m below meth c ls S hr hlk hK hP hl
  have hx := S.1
  have hb := S.2.1
  have hl : lv_has ls 4 [(0, .int (nI sx)), (1, .int (nI pa)), (2, .int (nI qa))] := hl
  refine lv_iload_n hx hb dX0_behind_0 rfl (lv_at hl 0 rfl) ?_
  refine lv_iload_n hx hb dX0_behind_1 rfl (lv_at hl 1 rfl) ?_
  refine rc_Si (rest := []) [.int (nI sx), .int (nI pa)] 2 S hK (r0_hasOf l D dA sx pa (by first | assumption | omega | decide) (by first | assumption | omega | decide)) wl_X0_53 wd_X0_X0_hasOf rfl ⟨Nat.le_of_ble_eq_true rfl, Nat.le_of_ble_eq_true rfl⟩ hl.1 (Nat.le_of_ble_eq_true rfl) dX0_behind_2 ⟨Nat.le_refl 0, Nat.le_refl 0⟩ (trivial) ?_ rfl
  refine lv_iload_n hx hb dX0_behind_5 rfl (lv_at hl 0 rfl) ?_
  refine lv_iload_n hx hb dX0_behind_6 rfl (lv_at hl 2 rfl) ?_
  refine rc_Si (rest := [.int (nI (hs4 sx pa))]) [.int (nI sx), .int (nI qa)] 2 S hK (r0_hasOf l D dA sx qa (by first | assumption | omega | decide) (by first | assumption | omega | decide)) wl_X0_53 wd_X0_X0_hasOf rfl ⟨Nat.le_of_ble_eq_true rfl, Nat.le_of_ble_eq_true rfl⟩ hl.1 (Nat.le_of_ble_eq_true rfl) dX0_behind_7 ⟨Nat.le_refl 0, Nat.le_refl 0⟩ (trivial) ?_ rfl
  refine lv_ior hx hb dX0_behind_10 ?_
  refine lv_istore_n (lv' := [(3, .int ((nI (hs4 sx pa)) ||| (nI (hs4 sx qa)))), (0, .int (nI sx)), (1, .int (nI pa)), (2, .int (nI qa))]) hx hb dX0_behind_11 rfl hl (by decide) rfl (fun ls hl => ?_)
  refine lv_iload_n hx hb dX0_behind_12 rfl (lv_at hl 1 rfl) ?_
  refine lv_iload_n hx hb dX0_behind_13 rfl (lv_at hl 0 rfl) ?_
  refine lv_iconst (v := 4) hx hb dX0_behind_14 (by decide) ?_
  refine lv_iload_n hx hb dX0_behind_15 rfl (lv_at hl 2 rfl) ?_
  refine lv_imul hx hb dX0_behind_16 ?_
  refine lv_ishl hx hb dX0_behind_17 ?_
  refine lv_ior hx hb dX0_behind_18 ?_
  refine lv_iload_n hx hb dX0_behind_19 rfl (lv_at hl 0 rfl) ?_
  refine lv_iconst (v := 4) hx hb dX0_behind_20 (by decide) ?_
  refine lv_iload_n hx hb dX0_behind_21 rfl (lv_at hl 3 rfl) ?_
  refine lv_imul hx hb dX0_behind_22 ?_
  refine lv_ishl hx hb dX0_behind_23 ?_
  refine lv_ior hx hb dX0_behind_24 ?_
  exact r_iret S hr hlk dX0_behind_25 (congrArg (fun z : Int32 => some (Value.int z)) (show ((nI sx) ||| (((nI (hs4 sx pa)) ||| (nI (hs4 sx qa))) <<< ((4 * (nI pa)) &&& 31))) ||| (((nI (hs4 sx pa)) ||| (nI (hs4 sx qa))) <<< ((4 * (nI qa)) &&& 31)) = nI (aft sx pa qa) from aft_eq hp hq))
set_option maxHeartbeats 4000000 in
theorem r0_tokensBehind (l : Launch) (D : va_G) (dA : Nat → ClassId) (tt pa qa : Nat) (ht : tt < 256) (hp : pa < 4) (hq : qa < 4) : RC l yX0_tokensBehind cX0_tokensBehind 5 (some .int) 0 0 D dA [.int (nI tt), .int (nI pa), .int (nI qa)] (fun _ => True) (fun v9 => v9 = some (.int (nI (tb8 tt pa qa)))) := by
  refine RC.of (by decide) (Nat.le_of_ble_eq_true rfl) ?_
  intro p e s m below meth c ls S hr hlk hK hP hl
  have hx := S.1
  have hb := S.2.1
  have hl : lv_has ls 5 [(0, .int (nI tt)), (1, .int (nI pa)), (2, .int (nI qa))] := hl
  refine lv_iload_n hx hb dX0_tokensBehind_0 rfl (lv_at hl 0 rfl) ?_
  refine lv_bipush (v := 15) hx hb dX0_tokensBehind_1 (by decide) ?_
  refine lv_iand hx hb dX0_tokensBehind_3 ?_
  refine lv_iconst (v := 1) hx hb dX0_tokensBehind_4 (by decide) ?_
  refine lv_iload_n hx hb dX0_tokensBehind_5 rfl (lv_at hl 1 rfl) ?_
  refine lv_ishl hx hb dX0_tokensBehind_6 ?_
  refine lv_iconst (v := (-1)) hx hb dX0_tokensBehind_7 (by decide) ?_
  refine lv_ixor hx hb dX0_tokensBehind_8 ?_
  refine lv_iand hx hb dX0_tokensBehind_9 ?_
  refine lv_iconst (v := 1) hx hb dX0_tokensBehind_10 (by decide) ?_
  refine lv_iload_n hx hb dX0_tokensBehind_11 rfl (lv_at hl 2 rfl) ?_
  refine lv_ishl hx hb dX0_tokensBehind_12 ?_
  refine lv_ior hx hb dX0_tokensBehind_13 ?_
  refine lv_istore_n (lv' := [(3, .int ((((nI tt) &&& 15) &&& (((1 : Int32) <<< ((nI pa) &&& 31)) ^^^ (-1))) ||| ((1 : Int32) <<< ((nI qa) &&& 31)))), (0, .int (nI tt)), (1, .int (nI pa)), (2, .int (nI qa))]) hx hb dX0_tokensBehind_14 rfl hl (by decide) rfl (fun ls hl => ?_)
  refine lv_iload_n hx hb dX0_tokensBehind_15 rfl (lv_at hl 1 rfl) ?_
  refine lv_iconst (v := 4) hx hb dX0_tokensBehind_16 (by decide) ?_
  refine lv_ishr hx hb dX0_tokensBehind_17 ?_
  refine lv_iconst (v := 1) hx hb dX0_tokensBehind_18 (by decide) ?_
  refine lv_iload_n hx hb dX0_tokensBehind_19 rfl (lv_at hl 3 rfl) ?_
  refine lv_ishl hx hb dX0_tokensBehind_20 ?_
  refine lv_iconst (v := (-1)) hx hb dX0_tokensBehind_21 (by decide) ?_
  refine lv_ixor hx hb dX0_tokensBehind_22 ?_
  refine lv_iand hx hb dX0_tokensBehind_23 ?_
  refine lv_istore (lv' := [(4, .int (((nI tt) >>> ((4 : Int32) &&& 31)) &&& (((1 : Int32) <<< ((nI qa) &&& 31)) ^^^ (-1)))), (3, .int ((((nI tt) &&& 15) &&& (((1 : Int32) <<< ((nI pa) &&& 31)) ^^^ (-1))) ||| ((1 : Int32) <<< ((nI qa) &&& 31)))), (0, .int (nI tt)), (1, .int (nI pa)), (2, .int (nI qa))]) hx hb dX0_tokensBehind_24 hl (by decide) rfl (fun ls hl => ?_)
  refine lv_iload_n hx hb dX0_tokensBehind_26 rfl (lv_at hl 1 rfl) ?_
  refine lv_iload hx hb dX0_tokensBehind_27 (lv_at hl 0 rfl) ?_
  refine lv_iconst (v := 4) hx hb dX0_tokensBehind_29 (by decide) ?_
  refine lv_ishl hx hb dX0_tokensBehind_30 ?_
  refine lv_ior hx hb dX0_tokensBehind_31 ?_
  exact r_iret S hr hlk dX0_tokensBehind_32 (congrArg (fun z : Int32 => some (Value.int z)) (show ((((nI tt) &&& 15) &&& (((1 : Int32) <<< ((nI pa) &&& 31)) ^^^ (-1))) ||| ((1 : Int32) <<< ((nI qa) &&& 31))) ||| ((((nI tt) >>> ((4 : Int32) &&& 31)) &&& (((1 : Int32) <<< ((nI qa) &&& 31)) ^^^ (-1))) <<< ((4 : Int32) &&& 31)) = nI (tb8 tt pa qa) from tb8_eq tt ht pa hp qa hq))
set_option maxHeartbeats 4000000 in
theorem r0_tokensOf (l : Launch) (D : va_G) (dA : Nat → ClassId) (tt r : Nat) (ht : tt < 256) (hr9 : r < 4) : RC l yX0_tokensOf cX0_tokensOf 2 (some .int) 0 0 D dA [.int (nI tt), .int (nI r)] (fun _ => True) (fun v9 => v9 = some (.int (nI (tof r tt)))) := by
  refine RC.of (by decide) (Nat.le_of_ble_eq_true rfl) ?_
  intro p e s m below meth c ls S hr hlk hK hP hl
  have hx := S.1
  have hb := S.2.1
  have hl : lv_has ls 2 [(0, .int (nI tt)), (1, .int (nI r))] := hl
  refine lv_iload_n hx hb dX0_tokensOf_0 rfl (lv_at hl 1 rfl) ?_
  refine lv_iconst (v := 2) hx hb dX0_tokensOf_1 (by decide) ?_
  refine lv_icmp_ne (tgt := 12) hx hb dX0_tokensOf_2 (by decide) (fun c_2 => ?_) (fun c_2 => ?_)
  · have c_2 : ¬ r = 2 := fun h => c_2 (congrArg nI h)
    refine lv_iload_n hx hb dX0_tokensOf_12 rfl (lv_at hl 1 rfl) ?_
    refine lv_iconst (v := 3) hx hb dX0_tokensOf_13 (by decide) ?_
    refine lv_icmp_ne (tgt := 23) hx hb dX0_tokensOf_14 (by decide) (fun c_14 => ?_) (fun c_14 => ?_)
    · have c_14 : ¬ r = 3 := fun h => c_14 (congrArg nI h)
      refine lv_bipush (v := 15) hx hb dX0_tokensOf_23 (by decide) ?_
      exact r_iret S hr hlk dX0_tokensOf_25 (congrArg (fun z : Int32 => some (Value.int z)) (show 15 = nI (tof r tt) from by rw [tof, if_neg c_2, if_neg c_14]; rfl))
    · have c_14 : r = 3 := nI_inj (by omega) (by decide) c_14
      refine lv_iload_n hx hb dX0_tokensOf_17 rfl (lv_at hl 0 rfl) ?_
      refine lv_iconst (v := 4) hx hb dX0_tokensOf_18 (by decide) ?_
      refine lv_ishr hx hb dX0_tokensOf_19 ?_
      refine lv_goto (tgt := 25) hx hb dX0_tokensOf_20 (by decide) ?_
      exact r_iret S hr hlk dX0_tokensOf_25 (congrArg (fun z : Int32 => some (Value.int z)) (show (nI tt) >>> ((4 : Int32) &&& 31) = nI (tof r tt) from by rw [tof, if_neg c_2, if_pos c_14]; exact tof_3 ht))
  · have c_2 : r = 2 := nI_inj (by omega) (by decide) c_2
    refine lv_iload_n hx hb dX0_tokensOf_5 rfl (lv_at hl 0 rfl) ?_
    refine lv_bipush (v := 15) hx hb dX0_tokensOf_6 (by decide) ?_
    refine lv_iand hx hb dX0_tokensOf_8 ?_
    refine lv_goto (tgt := 25) hx hb dX0_tokensOf_9 (by decide) ?_
    exact r_iret S hr hlk dX0_tokensOf_25 (congrArg (fun z : Int32 => some (Value.int z)) (show (nI tt) &&& 15 = nI (tof r tt) from by rw [tof, if_pos c_2]; exact nI_and _ 15))
set_option maxHeartbeats 4000000 in
theorem r0_noRule (l : Launch) (D : va_G) (dA : Nat → ClassId) (v : Int32) : RC l yX0_noRule cX0_noRule 1 (some .boolean) 1 25 D dA [.int v] (fun _ => True) (fun v9 => v9 = some (.int (b2i (!inR v 0 3)))) := by
  refine RC.of (by decide) (Nat.le_of_ble_eq_true rfl) ?_
  intro p e s m below meth c ls S hr hlk hK hP hl
  have hx := S.1
  have hb := S.2.1
  have hl : lv_has ls 1 [(0, .int v)] := hl
  refine lv_iload_n hx hb dX0_noRule_0 rfl (lv_at hl 0 rfl) ?_
  refine lv_i2l hx hb dX0_noRule_1 rfl ?_
  refine lv_lconst (v := 0) hx hb dX0_noRule_2 (by decide) ?_
  refine lv_ldc2 (v := 3) hx hb S.2.2.2.1 (S.2.2.2.2 _ q465) dX0_noRule_3 ?_
  refine rc_Si (rest := []) [.long v.toInt64, .long 0, .long 3] 3 S hK (r0_in l D dA v.toInt64 0 3) wl_X0_49 wd_X0_X0_in rfl ⟨Nat.le_of_ble_eq_true rfl, Nat.le_of_ble_eq_true rfl⟩ hl.1 (Nat.le_of_ble_eq_true rfl) dX0_noRule_6 ⟨Nat.le_refl 0, Nat.le_refl 0⟩ (trivial) ?_ rfl
  refine topi (z := b2i (inR v 0 3)) (congrArg b2i (inL_eq v 0 3)) ?_
  refine lv_if_ne (tgt := 16) hx hb dX0_noRule_9 (by decide) (fun c_9 => ?_) (fun c_9 => ?_)
  · have c_9 := b2i_ne0.mp c_9
    refine lv_iconst (v := 0) hx hb dX0_noRule_16 (by decide) ?_
    exact r_zret S hr hlk dX0_noRule_17 (by decide) (congrArg (fun z : Int32 => some (Value.int z)) (show 0 = b2i (!inR v 0 3) from by rw [c_9]; rfl))
  · have c_9 := b2i_eq0.mp c_9
    refine lv_iconst (v := 1) hx hb dX0_noRule_12 (by decide) ?_
    refine lv_goto (tgt := 17) hx hb dX0_noRule_13 (by decide) ?_
    exact r_zret S hr hlk dX0_noRule_17 (by decide) (congrArg (fun z : Int32 => some (Value.int z)) (show 1 = b2i (!inR v 0 3) from by rw [c_9]; rfl))
set_option maxHeartbeats 4000000 in
theorem r0_noSheet (l : Launch) (D : va_G) (dA : Nat → ClassId) (v : Int32) : RC l yX0_noSheet cX0_noSheet 1 (some .boolean) 1 25 D dA [.int v] (fun _ => True) (fun v9 => v9 = some (.int (b2i (!inR v 0 3)))) := by
  refine RC.of (by decide) (Nat.le_of_ble_eq_true rfl) ?_
  intro p e s m below meth c ls S hr hlk hK hP hl
  have hx := S.1
  have hb := S.2.1
  have hl : lv_has ls 1 [(0, .int v)] := hl
  refine lv_iload_n hx hb dX0_noSheet_0 rfl (lv_at hl 0 rfl) ?_
  refine lv_i2l hx hb dX0_noSheet_1 rfl ?_
  refine lv_lconst (v := 0) hx hb dX0_noSheet_2 (by decide) ?_
  refine lv_ldc2 (v := 3) hx hb S.2.2.2.1 (S.2.2.2.2 _ q465) dX0_noSheet_3 ?_
  refine rc_Si (rest := []) [.long v.toInt64, .long 0, .long 3] 3 S hK (r0_in l D dA v.toInt64 0 3) wl_X0_49 wd_X0_X0_in rfl ⟨Nat.le_of_ble_eq_true rfl, Nat.le_of_ble_eq_true rfl⟩ hl.1 (Nat.le_of_ble_eq_true rfl) dX0_noSheet_6 ⟨Nat.le_refl 0, Nat.le_refl 0⟩ (trivial) ?_ rfl
  refine topi (z := b2i (inR v 0 3)) (congrArg b2i (inL_eq v 0 3)) ?_
  refine lv_if_ne (tgt := 16) hx hb dX0_noSheet_9 (by decide) (fun c_9 => ?_) (fun c_9 => ?_)
  · have c_9 := b2i_ne0.mp c_9
    refine lv_iconst (v := 0) hx hb dX0_noSheet_16 (by decide) ?_
    exact r_zret S hr hlk dX0_noSheet_17 (by decide) (congrArg (fun z : Int32 => some (Value.int z)) (show 0 = b2i (!inR v 0 3) from by rw [c_9]; rfl))
  · have c_9 := b2i_eq0.mp c_9
    refine lv_iconst (v := 1) hx hb dX0_noSheet_12 (by decide) ?_
    refine lv_goto (tgt := 17) hx hb dX0_noSheet_13 (by decide) ?_
    exact r_zret S hr hlk dX0_noSheet_17 (by decide) (congrArg (fun z : Int32 => some (Value.int z)) (show 1 = b2i (!inR v 0 3) from by rw [c_9]; rfl))
set_option maxHeartbeats 4000000 in
theorem r0_noPerson (l : Launch) (D : va_G) (dA : Nat → ClassId) (a : Nat → Nat) (σ : MS) (n : Nat) (hn : n < 5) (h0 : σ.1 0 = nI n) (v : Int32) : RC l yX0_noPerson cX0_noPerson 2 (some .boolean) 1 25 D dA [.ref (a 0), .int v] (fun H => va_P D vwCl (kW dA a σ) H) (fun v9 => v9 = some (.int (b2i (!inP v n)))) := by
  refine RC.of (by decide) (Nat.le_of_ble_eq_true rfl) ?_
  intro p e s m below meth c ls S hr hlk hK hP hl
  have hx := S.1
  have hb := S.2.1
  have hl : lv_has ls 2 [(0, .ref (a 0)), (1, .int v)] := hl
  have hP : va_P D vwCl (kW dA a σ) s.heap := hP
  refine lv_iload_n hx hb dX0_noPerson_0 rfl (lv_at hl 1 rfl) ?_
  refine lv_i2l hx hb dX0_noPerson_1 rfl ?_
  refine lv_lconst (v := 0) hx hb dX0_noPerson_2 (by decide) ?_
  refine lv_aload_n hx hb dX0_noPerson_3 rfl (lv_at hl 0 rfl) ?_
  refine k_get (v := .int (σ.1 0)) S hK hP 0 (by decide) fl_X0_45 rfl dX0_noPerson_4 rfl ?_
  refine topi (z := nI n) (h0) ?_
  refine lv_iconst (v := 1) hx hb dX0_noPerson_7 (by decide) ?_
  refine lv_isub hx hb dX0_noPerson_8 ?_
  refine lv_i2l hx hb dX0_noPerson_9 rfl ?_
  refine rc_Si (rest := []) [.long v.toInt64, .long 0, .long (((nI n) - 1).toInt64)] 3 S hK (r0_in l D dA v.toInt64 0 (((nI n) - 1).toInt64)) wl_X0_49 wd_X0_X0_in rfl ⟨Nat.le_of_ble_eq_true rfl, Nat.le_of_ble_eq_true rfl⟩ hl.1 (Nat.le_of_ble_eq_true rfl) dX0_noPerson_10 ⟨Nat.le_refl 0, Nat.le_refl 0⟩ (trivial) ?_ rfl
  refine topi (z := b2i (inP v n)) ((congrArg b2i (inL_eq v 0 (nI n - 1))).trans (congrArg b2i (inR_P hn))) ?_
  refine lv_if_ne (tgt := 20) hx hb dX0_noPerson_13 (by decide) (fun c_13 => ?_) (fun c_13 => ?_)
  · have c_13 := b2i_ne0.mp c_13
    refine lv_iconst (v := 0) hx hb dX0_noPerson_20 (by decide) ?_
    exact r_zret S hr hlk dX0_noPerson_21 (by decide) (congrArg (fun z : Int32 => some (Value.int z)) (show 0 = b2i (!inP v n) from by rw [c_13]; rfl))
  · have c_13 := b2i_eq0.mp c_13
    refine lv_iconst (v := 1) hx hb dX0_noPerson_16 (by decide) ?_
    refine lv_goto (tgt := 21) hx hb dX0_noPerson_17 (by decide) ?_
    exact r_zret S hr hlk dX0_noPerson_21 (by decide) (congrArg (fun z : Int32 => some (Value.int z)) (show 1 = b2i (!inP v n) from by rw [c_13]; rfl))
set_option maxHeartbeats 4000000 in
theorem r0_all (l : Launch) (D : va_G) (dA : Nat → ClassId) (a : Nat → Nat) (σ : MS) (n : Nat) (hn : n < 5) (h0 : σ.1 0 = nI n) : RC l yX0_all cX0_all 1 (some .int) 0 0 D dA [.ref (a 0)] (fun H => va_P D vwCl (kW dA a σ) H) (fun v9 => v9 = some (.int (nI (al n)))) := by
  refine RC.of (by decide) (Nat.le_of_ble_eq_true rfl) ?_
  intro p e s m below meth c ls S hr hlk hK hP hl
  have hx := S.1
  have hb := S.2.1
  have hl : lv_has ls 1 [(0, .ref (a 0))] := hl
  have hP : va_P D vwCl (kW dA a σ) s.heap := hP
  refine lv_iconst (v := 1) hx hb dX0_all_0 (by decide) ?_
  refine lv_aload_n hx hb dX0_all_1 rfl (lv_at hl 0 rfl) ?_
  refine k_get (v := .int (σ.1 0)) S hK hP 0 (by decide) fl_X0_45 rfl dX0_all_2 rfl ?_
  refine topi (z := nI n) (h0) ?_
  refine lv_ishl hx hb dX0_all_5 ?_
  refine lv_iconst (v := 1) hx hb dX0_all_6 (by decide) ?_
  refine lv_isub hx hb dX0_all_7 ?_
  exact r_iret S hr hlk dX0_all_8 (congrArg (fun z : Int32 => some (Value.int z)) (show ((1 : Int32) <<< ((nI n) &&& 31)) - 1 = nI (al n) from al_eq n hn))
set_option maxHeartbeats 4000000 in
theorem r0_atFirst (l : Launch) (D : va_G) (dA : Nat → ClassId) (a : Nat → Nat) (σ : MS) (n : Nat) (hn : n < 5) (h0 : σ.1 0 = nI n) : RC l yX0_atFirst cX0_atFirst 3 (some .int) 0 0 D dA [.ref (a 0)] (fun H => va_P D vwCl (kW dA a σ) H) (fun v9 => v9 = some (.int (nI (st0 n)))) := by
  refine RC.of (by decide) (Nat.le_of_ble_eq_true rfl) ?_
  intro p e s m below meth c ls S hr hlk hK hP hl
  have hx := S.1
  have hb := S.2.1
  have hl : lv_has ls 3 [(0, .ref (a 0))] := hl
  have hP : va_P D vwCl (kW dA a σ) s.heap := hP
  refine lv_iconst (v := 0) hx hb dX0_atFirst_0 (by decide) ?_
  refine lv_istore_n (lv' := [(1, .int 0), (0, .ref (a 0))]) hx hb dX0_atFirst_1 rfl hl (by decide) rfl (fun ls hl => ?_)
  refine lv_iconst (v := 0) hx hb dX0_atFirst_2 (by decide) ?_
  refine lv_istore_n (lv' := [(2, .int 0), (1, .int 0), (0, .ref (a 0))]) hx hb dX0_atFirst_3 rfl hl (by decide) rfl (fun ls hl => ?_)
  have hloop4 : ∀ (k4 i4 : Nat), i4 + k4 = n → ∀ (ls : Array Slot), lv_has ls 3 [(2, .int (nI i4)), (1, .int (nI (st0 i4))), (0, .ref (a 0))] → W p l e ({ frames := 0, cells := 0, slots := 0, locals := 0 }) s m [.ref (a 0)].toArray below meth c s.heap [] 0 0 (RZ below (fun v9 => v9 = some (.int (nI (st0 n)))) [.ref (a 0)] s) (F0 m 4 ls []) := by
    intro k4
    induction k4 with
    | zero =>
      intro i4 hi4 ls hl
      have hi4 : i4 = n := by omega
      refine lv_iload_n hx hb dX0_atFirst_4 rfl (lv_at hl 0 rfl) ?_
      refine lv_aload_n hx hb dX0_atFirst_5 rfl (lv_at hl 2 rfl) ?_
      refine k_get (v := .int (σ.1 0)) S hK hP 0 (by decide) fl_X0_45 rfl dX0_atFirst_6 rfl ?_
      refine topi (z := nI n) (h0) ?_
      refine lv_icmp_ge (tgt := 26) hx hb dX0_atFirst_9 (by decide) (fun c_9 => ?_) (fun c_9 => absurd (show nI n ≤ nI i4 from nI_le (by omega) (by omega)) c_9)
      refine lv_iload_n hx hb dX0_atFirst_26 rfl (lv_at hl 1 rfl) ?_
      exact r_iret S hr hlk dX0_atFirst_27 (congrArg (fun z : Int32 => some (Value.int z)) (show nI (st0 i4) = nI (st0 n) from by rw [hi4]))
    | succ k4 ih4 =>
      intro i4 hi4 ls hl
      have hlt4 : i4 < n := by omega
      refine lv_iload_n hx hb dX0_atFirst_4 rfl (lv_at hl 0 rfl) ?_
      refine lv_aload_n hx hb dX0_atFirst_5 rfl (lv_at hl 2 rfl) ?_
      refine k_get (v := .int (σ.1 0)) S hK hP 0 (by decide) fl_X0_45 rfl dX0_atFirst_6 rfl ?_
      refine topi (z := nI n) (h0) ?_
      refine lv_icmp_ge (tgt := 26) hx hb dX0_atFirst_9 (by decide) (fun c_9 => absurd c_9 (show ¬ nI n ≤ nI i4 from nI_ge (by omega) (by omega))) (fun c_9 => ?_)
      refine lv_iload_n hx hb dX0_atFirst_12 rfl (lv_at hl 1 rfl) ?_
      refine lv_iconst (v := 1) hx hb dX0_atFirst_13 (by decide) ?_
      refine lv_iconst (v := 5) hx hb dX0_atFirst_14 (by decide) ?_
      refine lv_iload_n hx hb dX0_atFirst_15 rfl (lv_at hl 0 rfl) ?_
      refine lv_imul hx hb dX0_atFirst_16 ?_
      refine lv_ishl hx hb dX0_atFirst_17 ?_
      refine lv_ior hx hb dX0_atFirst_18 ?_
      refine lv_istore_n (lv' := [(1, .int ((nI (st0 i4)) ||| ((1 : Int32) <<< ((5 * (nI i4)) &&& 31)))), (2, .int (nI i4)), (0, .ref (a 0))]) hx hb dX0_atFirst_19 rfl hl (by decide) rfl (fun ls hl => ?_)
      refine lv_iinc (v := nI (i4 + 1)) (lv' := [(2, .int (nI (i4 + 1))), (1, .int ((nI (st0 i4)) ||| ((1 : Int32) <<< ((5 * (nI i4)) &&& 31)))), (0, .ref (a 0))]) hx hb dX0_atFirst_20 hl (k := 1) rfl (nI_1 _) (by decide) rfl (fun ls hl => ?_)
      refine lv_goto (tgt := 4) hx hb dX0_atFirst_23 (by decide) ?_
      have e4_1 : nI (st0 (i4 + 1)) = (nI (st0 i4)) ||| ((1 : Int32) <<< ((5 * (nI i4)) &&& 31)) := by exact (st0_s _ (by omega)).symm
      exact ih4 (i4 + 1) (by omega) ls (by rw [e4_1]; exact lv_sub hl [0, 1, 2] rfl)
  exact hloop4 (n) 0 (by omega) ls (lv_sub hl [0, 1, 2] rfl)
set_option maxHeartbeats 4000000 in
theorem r0_numbersOf (l : Launch) (D : va_G) (dA : Nat → ClassId) (a : Nat → Nat) (σ : MS) (n : Nat) (net : Nat → Nat) (hG : KG σ n net) (sx pa : Nat) (hv : vld n sx) (hp : pa < 4) : RC l yX0_numbersOf cX0_numbersOf 5 (some .int) 1 21 D dA [.ref (a 0), .int (nI sx), .int (nI pa)] (fun H => va_P D vwCl (kW dA a σ) H) (fun v9 => v9 = some (.int (nI (numA net sx pa 4)))) := by
  refine RC.of (by decide) (Nat.le_of_ble_eq_true rfl) ?_
  intro p e s m below meth c ls S hr hlk hK hP hl
  have hx := S.1
  have hb := S.2.1
  have hl : lv_has ls 5 [(0, .ref (a 0)), (1, .int (nI sx)), (2, .int (nI pa))] := hl
  have hP : va_P D vwCl (kW dA a σ) s.heap := hP
  have hn := hG.1
  have hnet := hG.2.2.2
  have hs := hv.1
  have h16 := hs4_lt sx pa
  refine lv_iconst (v := 0) hx hb dX0_numbersOf_0 (by decide) ?_
  refine lv_istore_n (lv' := [(3, .int 0), (0, .ref (a 0)), (1, .int (nI sx)), (2, .int (nI pa))]) hx hb dX0_numbersOf_1 rfl hl (by decide) rfl (fun ls hl => ?_)
  refine lv_iconst (v := 0) hx hb dX0_numbersOf_2 (by decide) ?_
  refine lv_istore (lv' := [(4, .int 0), (3, .int 0), (0, .ref (a 0)), (1, .int (nI sx)), (2, .int (nI pa))]) hx hb dX0_numbersOf_3 hl (by decide) rfl (fun ls hl => ?_)
  have hloop5 : ∀ (k5 i5 : Nat), i5 + k5 = n → ∀ (ls : Array Slot), lv_has ls 5 [(4, .int (nI i5)), (3, .int (nI (numA net sx pa i5))), (0, .ref (a 0)), (1, .int (nI sx)), (2, .int (nI pa))] → W p l e ({ frames := 1, cells := 0, slots := 0, locals := 21 }) s m [.ref (a 0), .int (nI sx), .int (nI pa)].toArray below meth c s.heap [] 0 0 (RZ below (fun v9 => v9 = some (.int (nI (numA net sx pa 4)))) [.ref (a 0), .int (nI sx), .int (nI pa)] s) (F0 m 5 ls []) := by
    intro k5
    induction k5 with
    | zero =>
      intro i5 hi5 ls hl
      have hi5 : i5 = n := by omega
      refine lv_iload hx hb dX0_numbersOf_5 (lv_at hl 0 rfl) ?_
      refine lv_aload_n hx hb dX0_numbersOf_7 rfl (lv_at hl 2 rfl) ?_
      refine k_get (v := .int (σ.1 0)) S hK hP 0 (by decide) fl_X0_45 rfl dX0_numbersOf_8 rfl ?_
      refine topi (z := nI n) (hG.2.1) ?_
      refine lv_icmp_ge (tgt := 47) hx hb dX0_numbersOf_11 (by decide) (fun c_11 => ?_) (fun c_11 => absurd (show nI n ≤ nI i5 from nI_le (by omega) (by omega)) c_11)
      refine lv_iload_n hx hb dX0_numbersOf_47 rfl (lv_at hl 1 rfl) ?_
      exact r_iret S hr hlk dX0_numbersOf_48 (congrArg (fun z : Int32 => some (Value.int z)) (show nI (numA net sx pa i5) = nI (numA net sx pa 4) from by rw [hi5, numA_4 hv hn]))
    | succ k5 ih5 =>
      intro i5 hi5 ls hl
      have hlt5 : i5 < n := by omega
      refine lv_iload hx hb dX0_numbersOf_5 (lv_at hl 0 rfl) ?_
      refine lv_aload_n hx hb dX0_numbersOf_7 rfl (lv_at hl 2 rfl) ?_
      refine k_get (v := .int (σ.1 0)) S hK hP 0 (by decide) fl_X0_45 rfl dX0_numbersOf_8 rfl ?_
      refine topi (z := nI n) (hG.2.1) ?_
      refine lv_icmp_ge (tgt := 47) hx hb dX0_numbersOf_11 (by decide) (fun c_11 => absurd c_11 (show ¬ nI n ≤ nI i5 from nI_ge (by omega) (by omega))) (fun c_11 => ?_)
      refine lv_iload_n hx hb dX0_numbersOf_14 rfl (lv_at hl 1 rfl) ?_
      refine lv_iload_n hx hb dX0_numbersOf_15 rfl (lv_at hl 3 rfl) ?_
      refine lv_iload_n hx hb dX0_numbersOf_16 rfl (lv_at hl 4 rfl) ?_
      refine rc_Si (rest := [.int (nI (numA net sx pa i5))]) [.int (nI sx), .int (nI pa)] 2 S hK (r0_hasOf l D dA sx pa (by first | assumption | omega | decide) (by first | assumption | omega | decide)) wl_X0_53 wd_X0_X0_hasOf rfl ⟨Nat.le_of_ble_eq_true rfl, Nat.le_of_ble_eq_true rfl⟩ hl.1 (Nat.le_of_ble_eq_true rfl) dX0_numbersOf_17 ⟨Nat.le_refl 0, Nat.le_refl 0⟩ (trivial) ?_ rfl
      refine lv_iload hx hb dX0_numbersOf_20 (lv_at hl 0 rfl) ?_
      refine rc_Si (rest := [.int (nI (numA net sx pa i5))]) [.int (nI (hs4 sx pa)), .int (nI i5)] 2 S hK (r0_isIn l D dA (hs4 sx pa) i5 (by first | assumption | omega | decide) (by first | assumption | omega | decide)) wl_X0_57 wd_X0_X0_isIn rfl ⟨Nat.le_of_ble_eq_true rfl, Nat.le_of_ble_eq_true rfl⟩ hl.1 (Nat.le_of_ble_eq_true rfl) dX0_numbersOf_22 ⟨Nat.le_refl 0, Nat.le_refl 0⟩ (trivial) ?_ rfl
      refine lv_if_eq (tgt := 38) hx hb dX0_numbersOf_25 (by decide) (fun c_25 => ?_) (fun c_25 => ?_)
      · have c_25 := b2i_eq0.mp c_25
        refine lv_iconst (v := 0) hx hb dX0_numbersOf_38 (by decide) ?_
        refine lv_ior hx hb dX0_numbersOf_39 ?_
        refine lv_istore_n (lv' := [(3, .int ((nI (numA net sx pa i5)) ||| 0)), (4, .int (nI i5)), (0, .ref (a 0)), (1, .int (nI sx)), (2, .int (nI pa))]) hx hb dX0_numbersOf_40 rfl hl (by decide) rfl (fun ls hl => ?_)
        refine lv_iinc (v := nI (i5 + 1)) (lv' := [(4, .int (nI (i5 + 1))), (3, .int ((nI (numA net sx pa i5)) ||| 0)), (0, .ref (a 0)), (1, .int (nI sx)), (2, .int (nI pa))]) hx hb dX0_numbersOf_41 hl (k := 1) rfl (nI_1 _) (by decide) rfl (fun ls hl => ?_)
        refine lv_goto (tgt := 5) hx hb dX0_numbersOf_44 (by decide) ?_
        have e5_3 : nI (numA net sx pa (i5 + 1)) = (nI (numA net sx pa i5)) ||| 0 := by rw [← num_step (net := net) rfl]; simp [c_25, nI_or]
        exact ih5 (i5 + 1) (by omega) ls (by rw [e5_3]; exact lv_sub hl [0, 1, 2, 3, 4] rfl)
      · have c_25 := b2i_ne0.mp c_25
        refine lv_aload_n hx hb dX0_numbersOf_28 rfl (lv_at hl 2 rfl) ?_
        refine k_get (v := .ref (a 1)) S hK hP 1 (by decide) fl_X0_11 rfl dX0_numbersOf_29 rfl ?_
        refine lv_iload hx hb dX0_numbersOf_32 (lv_at hl 0 rfl) ?_
        refine k_aldn (j := i5) (v := nI (net i5 ||| 2 ^ i5)) S hK hP 1 (by decide) rfl (show i5 < 4 by omega) dX0_numbersOf_34 (hG.2.2.1 i5 (by omega)) ?_
        refine lv_goto (tgt := 39) hx hb dX0_numbersOf_35 (by decide) ?_
        refine lv_ior hx hb dX0_numbersOf_39 ?_
        refine lv_istore_n (lv' := [(3, .int ((nI (numA net sx pa i5)) ||| (nI (net i5 ||| 2 ^ i5)))), (4, .int (nI i5)), (0, .ref (a 0)), (1, .int (nI sx)), (2, .int (nI pa))]) hx hb dX0_numbersOf_40 rfl hl (by decide) rfl (fun ls hl => ?_)
        refine lv_iinc (v := nI (i5 + 1)) (lv' := [(4, .int (nI (i5 + 1))), (3, .int ((nI (numA net sx pa i5)) ||| (nI (net i5 ||| 2 ^ i5)))), (0, .ref (a 0)), (1, .int (nI sx)), (2, .int (nI pa))]) hx hb dX0_numbersOf_41 hl (k := 1) rfl (nI_1 _) (by decide) rfl (fun ls hl => ?_)
        refine lv_goto (tgt := 5) hx hb dX0_numbersOf_44 (by decide) ?_
        have e5_3 : nI (numA net sx pa (i5 + 1)) = (nI (numA net sx pa i5)) ||| (nI (net i5 ||| 2 ^ i5)) := by rw [← num_step (net := net) rfl]; simp [c_25, nI_or]
        exact ih5 (i5 + 1) (by omega) ls (by rw [e5_3]; exact lv_sub hl [0, 1, 2, 3, 4] rfl)
  exact hloop5 (n) 0 (by omega) ls (lv_sub hl [0, 1, 2, 3, 4] rfl)
set_option maxHeartbeats 4000000 in
theorem r0_areExperts (l : Launch) (D : va_G) (dA : Nat → ClassId) (a : Nat → Nat) (σ : MS) (n : Nat) (hn : n < 5) (h0 : σ.1 0 = nI n) (sx : Nat) (hs : sx < 65536) : RC l yX0_areExperts cX0_areExperts 4 (some .boolean) 1 21 D dA [.ref (a 0), .int (nI sx)] (fun H => va_P D vwCl (kW dA a σ) H) (fun v9 => v9 = some (.int (b2i (exB n sx)))) := by
  refine RC.of (by decide) (Nat.le_of_ble_eq_true rfl) ?_
  intro p e s m below meth c ls S hr hlk hK hP hl
  have hx := S.1
  have hb := S.2.1
  have hl : lv_has ls 4 [(0, .ref (a 0)), (1, .int (nI sx))] := hl
  have hP : va_P D vwCl (kW dA a σ) s.heap := hP
  refine lv_iconst (v := 1) hx hb dX0_areExperts_0 (by decide) ?_
  refine lv_istore_n (lv' := [(2, .int 1), (0, .ref (a 0)), (1, .int (nI sx))]) hx hb dX0_areExperts_1 rfl hl (by decide) rfl (fun ls hl => ?_)
  refine lv_iconst (v := 0) hx hb dX0_areExperts_2 (by decide) ?_
  refine lv_istore_n (lv' := [(3, .int 0), (2, .int 1), (0, .ref (a 0)), (1, .int (nI sx))]) hx hb dX0_areExperts_3 rfl hl (by decide) rfl (fun ls hl => ?_)
  have hloop4 : ∀ (k4 i4 : Nat), i4 + k4 = n → ∀ (ls : Array Slot), lv_has ls 4 [(3, .int (nI i4)), (2, .int (b2i (exC n sx i4))), (0, .ref (a 0)), (1, .int (nI sx))] → W p l e ({ frames := 1, cells := 0, slots := 0, locals := 21 }) s m [.ref (a 0), .int (nI sx)].toArray below meth c s.heap [] 0 0 (RZ below (fun v9 => v9 = some (.int (b2i (exB n sx)))) [.ref (a 0), .int (nI sx)] s) (F0 m 4 ls []) := by
    intro k4
    induction k4 with
    | zero =>
      intro i4 hi4 ls hl
      have hi4 : i4 = n := by omega
      refine lv_iload_n hx hb dX0_areExperts_4 rfl (lv_at hl 0 rfl) ?_
      refine lv_aload_n hx hb dX0_areExperts_5 rfl (lv_at hl 2 rfl) ?_
      refine k_get (v := .int (σ.1 0)) S hK hP 0 (by decide) fl_X0_45 rfl dX0_areExperts_6 rfl ?_
      refine topi (z := nI n) (h0) ?_
      refine lv_icmp_ge (tgt := 38) hx hb dX0_areExperts_9 (by decide) (fun c_9 => ?_) (fun c_9 => absurd (show nI n ≤ nI i4 from nI_le (by omega) (by omega)) c_9)
      refine lv_iload_n hx hb dX0_areExperts_38 rfl (lv_at hl 1 rfl) ?_
      exact r_zret S hr hlk dX0_areExperts_39 (b2i_nar _) (congrArg (fun z : Int32 => some (Value.int z)) (show b2i (exC n sx i4) = b2i (exB n sx) from by rw [hi4, exC_n]))
    | succ k4 ih4 =>
      intro i4 hi4 ls hl
      have hlt4 : i4 < n := by omega
      refine lv_iload_n hx hb dX0_areExperts_4 rfl (lv_at hl 0 rfl) ?_
      refine lv_aload_n hx hb dX0_areExperts_5 rfl (lv_at hl 2 rfl) ?_
      refine k_get (v := .int (σ.1 0)) S hK hP 0 (by decide) fl_X0_45 rfl dX0_areExperts_6 rfl ?_
      refine topi (z := nI n) (h0) ?_
      refine lv_icmp_ge (tgt := 38) hx hb dX0_areExperts_9 (by decide) (fun c_9 => absurd c_9 (show ¬ nI n ≤ nI i4 from nI_ge (by omega) (by omega))) (fun c_9 => ?_)
      refine lv_iload_n hx hb dX0_areExperts_12 rfl (lv_at hl 1 rfl) ?_
      refine lv_iload_n hx hb dX0_areExperts_13 rfl (lv_at hl 3 rfl) ?_
      refine lv_iload_n hx hb dX0_areExperts_14 rfl (lv_at hl 0 rfl) ?_
      refine rc_Si (rest := [.int (b2i (exC n sx i4))]) [.int (nI sx), .int (nI i4)] 2 S hK (r0_hasOf l D dA sx i4 (by first | assumption | omega | decide) (by first | assumption | omega | decide)) wl_X0_53 wd_X0_X0_hasOf rfl ⟨Nat.le_of_ble_eq_true rfl, Nat.le_of_ble_eq_true rfl⟩ hl.1 (Nat.le_of_ble_eq_true rfl) dX0_areExperts_15 ⟨Nat.le_refl 0, Nat.le_refl 0⟩ (trivial) ?_ rfl
      refine lv_aload_n hx hb dX0_areExperts_18 rfl (lv_at hl 2 rfl) ?_
      refine rc_Vi (rest := [.int (nI (hs4 sx i4)), .int (b2i (exC n sx i4))]) [] 0 S hK (r0_all l D dA a σ n hn (h0)) wl_X0_61 wd_X0_X0_all rfl ⟨Nat.le_of_ble_eq_true rfl, Nat.le_of_ble_eq_true rfl⟩ (k_recv hK hP) hl.1 (Nat.le_of_ble_eq_true rfl) dX0_areExperts_19 ⟨Nat.le_refl 0, Nat.le_refl 0⟩ (hP) ?_ rfl
      refine lv_icmp_ne (tgt := 29) hx hb dX0_areExperts_22 (by decide) (fun c_22 => ?_) (fun c_22 => ?_)
      · have c_22 : decide (hs4 sx i4 = al n) = false := decide_eq_false (fun h => c_22 (congrArg nI h))
        refine lv_iconst (v := 0) hx hb dX0_areExperts_29 (by decide) ?_
        refine lv_iand hx hb dX0_areExperts_30 ?_
        refine lv_istore_n (lv' := [(2, .int ((b2i (exC n sx i4)) &&& 0)), (3, .int (nI i4)), (0, .ref (a 0)), (1, .int (nI sx))]) hx hb dX0_areExperts_31 rfl hl (by decide) rfl (fun ls hl => ?_)
        refine lv_iinc (v := nI (i4 + 1)) (lv' := [(3, .int (nI (i4 + 1))), (2, .int ((b2i (exC n sx i4)) &&& 0)), (0, .ref (a 0)), (1, .int (nI sx))]) hx hb dX0_areExperts_32 hl (k := 1) rfl (nI_1 _) (by decide) rfl (fun ls hl => ?_)
        refine lv_goto (tgt := 4) hx hb dX0_areExperts_35 (by decide) ?_
        have e4_2 : b2i (exC n sx (i4 + 1)) = (b2i (exC n sx i4)) &&& 0 := by rw [exC, c_22]; exact (b2i_and _ _).symm
        exact ih4 (i4 + 1) (by omega) ls (by rw [e4_2]; exact lv_sub hl [0, 1, 2, 3] rfl)
      · have c_22 : decide (hs4 sx i4 = al n) = true := decide_eq_true (nI_inj (Nat.lt_trans (hs4_lt _ _) (by decide)) (Nat.lt_trans (al_lt n hn) (by decide)) c_22)
        refine lv_iconst (v := 1) hx hb dX0_areExperts_25 (by decide) ?_
        refine lv_goto (tgt := 30) hx hb dX0_areExperts_26 (by decide) ?_
        refine lv_iand hx hb dX0_areExperts_30 ?_
        refine lv_istore_n (lv' := [(2, .int ((b2i (exC n sx i4)) &&& 1)), (3, .int (nI i4)), (0, .ref (a 0)), (1, .int (nI sx))]) hx hb dX0_areExperts_31 rfl hl (by decide) rfl (fun ls hl => ?_)
        refine lv_iinc (v := nI (i4 + 1)) (lv' := [(3, .int (nI (i4 + 1))), (2, .int ((b2i (exC n sx i4)) &&& 1)), (0, .ref (a 0)), (1, .int (nI sx))]) hx hb dX0_areExperts_32 hl (k := 1) rfl (nI_1 _) (by decide) rfl (fun ls hl => ?_)
        refine lv_goto (tgt := 4) hx hb dX0_areExperts_35 (by decide) ?_
        have e4_2 : b2i (exC n sx (i4 + 1)) = (b2i (exC n sx i4)) &&& 1 := by rw [exC, c_22]; exact (b2i_and _ _).symm
        exact ih4 (i4 + 1) (by omega) ls (by rw [e4_2]; exact lv_sub hl [0, 1, 2, 3] rfl)
  exact hloop4 (n) 0 (by omega) ls (lv_sub hl [0, 1, 2, 3] rfl)
