/-! COMPONENT 35: rows of sheets are read (by program: gen/comp35.py) -/
set_option maxRecDepth 100000
set_option maxHeartbeats 4000000 in
theorem r0_cellOf0 (l : Launch) (D : va_G) (dA : Nat → ClassId) (rk L i : Nat) (f : Nat → Int32) (hi : i < L) (hL : L < 2 ^ 31) : RC l yX0_cellOf cX0_cellOf 3 (some .int) 0 0 D dA [.ref rk, .int 0, .int (nI i)] (fun H => va_P D vwCl [(rk, .inl (dA 2, L, .inl f))] H) (fun v9 => v9 = some (.int (f i))) := by
  refine RC.of (by decide) (Nat.le_of_ble_eq_true rfl) ?_
  intro p e s m below meth c ls S hr hlk hK hP hl
  have hx := S.1
  have hb := S.2.1
  have hl : lv_has ls 3 [(0, .ref rk), (1, .int 0), (2, .int (nI i))] := hl
  refine lv_iload_n hx hb dX0_cellOf_0 rfl (lv_at hl 1 rfl) ?_
  refine lv_if_ne (tgt := 13) hx hb dX0_cellOf_1 (by decide) (fun c_1 => absurd (by decide) c_1) (fun c_1 => ?_)
  refine lv_aload_n hx hb dX0_cellOf_4 rfl (lv_at hl 0 rfl) ?_
  refine va_castA S.1 S.2.1 S.2.2.2.1 (S.2.2.2.2 _ q823) hP 0 rfl (va_nm_byte (hK.2 2 (dA 2, .byte) rfl).2) dX0_cellOf_5 ?_
  refine lv_iload_n hx hb dX0_cellOf_8 rfl (lv_at hl 2 rfl) ?_
  refine va_bald S.1 S.2.1 hK hP 0 2 rfl rfl (vp_in_nI (n := i) (N := L) hi hL) dX0_cellOf_9 ?_
  refine topi (z := f i) (by rw [nI_clamp (by omega)]) ?_
  refine lv_goto (tgt := 33) hx hb dX0_cellOf_10 (by decide) ?_
  exact r_iret S hr hlk dX0_cellOf_33 (congrArg (fun z : Int32 => some (Value.int z)) (show f i = f i from rfl))
set_option maxHeartbeats 4000000 in
theorem r0_sizeOf0 (l : Launch) (D : va_G) (dA : Nat → ClassId) (rk L : Nat) (f : Nat → Int32) : RC l yX0_sizeOf cX0_sizeOf 2 (some .int) 0 0 D dA [.ref rk, .int 0] (fun H => va_P D vwCl [(rk, .inl (dA 2, L, .inl f))] H) (fun v9 => v9 = some (.int (nI L))) := by
  refine RC.of (by decide) (Nat.le_of_ble_eq_true rfl) ?_
  intro p e s m below meth c ls S hr hlk hK hP hl
  have hx := S.1
  have hb := S.2.1
  have hl : lv_has ls 2 [(0, .ref rk), (1, .int 0)] := hl
  refine lv_iload_n hx hb dX0_sizeOf_0 rfl (lv_at hl 1 rfl) ?_
  refine lv_if_ne (tgt := 12) hx hb dX0_sizeOf_1 (by decide) (fun c_1 => absurd (by decide) c_1) (fun c_1 => ?_)
  refine lv_aload_n hx hb dX0_sizeOf_4 rfl (lv_at hl 0 rfl) ?_
  refine va_castA S.1 S.2.1 S.2.2.2.1 (S.2.2.2.2 _ q823) hP 0 rfl (va_nm_byte (hK.2 2 (dA 2, .byte) rfl).2) dX0_sizeOf_5 ?_
  refine va_alen (v := nI L) S.1 S.2.1 hK hP 0 2 rfl rfl rfl dX0_sizeOf_8 ?_
  refine lv_goto (tgt := 30) hx hb dX0_sizeOf_9 (by decide) ?_
  exact r_iret S hr hlk dX0_sizeOf_30 (congrArg (fun z : Int32 => some (Value.int z)) (show nI L = nI L from rfl))
set_option maxHeartbeats 4000000 in
theorem r0_cellOf1 (l : Launch) (D : va_G) (dA : Nat → ClassId) (rk L i : Nat) (f : Nat → Int32) (hi : i < L) (hL : L < 2 ^ 31) : RC l yX0_cellOf cX0_cellOf 3 (some .int) 0 0 D dA [.ref rk, .int 1, .int (nI i)] (fun H => va_P D vwCl [(rk, .inl (dA 3, L, .inl f))] H) (fun v9 => v9 = some (.int (f i))) := by
  refine RC.of (by decide) (Nat.le_of_ble_eq_true rfl) ?_
  intro p e s m below meth c ls S hr hlk hK hP hl
  have hx := S.1
  have hb := S.2.1
  have hl : lv_has ls 3 [(0, .ref rk), (1, .int 1), (2, .int (nI i))] := hl
  refine lv_iload_n hx hb dX0_cellOf_0 rfl (lv_at hl 1 rfl) ?_
  refine lv_if_ne (tgt := 13) hx hb dX0_cellOf_1 (by decide) (fun c_1 => ?_) (fun c_1 => absurd (c_1) (by decide))
  refine lv_iload_n hx hb dX0_cellOf_13 rfl (lv_at hl 1 rfl) ?_
  refine lv_iconst (v := 1) hx hb dX0_cellOf_14 (by decide) ?_
  refine lv_icmp_ne (tgt := 27) hx hb dX0_cellOf_15 (by decide) (fun c_15 => absurd (by decide) c_15) (fun c_15 => ?_)
  refine lv_aload_n hx hb dX0_cellOf_18 rfl (lv_at hl 0 rfl) ?_
  refine va_castA S.1 S.2.1 S.2.2.2.1 (S.2.2.2.2 _ q824) hP 0 rfl (va_nm_short (hK.2 3 (dA 3, .short) rfl).2) dX0_cellOf_19 ?_
  refine lv_iload_n hx hb dX0_cellOf_22 rfl (lv_at hl 2 rfl) ?_
  refine va_sald S.1 S.2.1 hK hP 0 3 rfl rfl (vp_in_nI (n := i) (N := L) hi hL) dX0_cellOf_23 ?_
  refine topi (z := f i) (by rw [nI_clamp (by omega)]) ?_
  refine lv_goto (tgt := 33) hx hb dX0_cellOf_24 (by decide) ?_
  exact r_iret S hr hlk dX0_cellOf_33 (congrArg (fun z : Int32 => some (Value.int z)) (show f i = f i from rfl))
set_option maxHeartbeats 4000000 in
theorem r0_sizeOf1 (l : Launch) (D : va_G) (dA : Nat → ClassId) (rk L : Nat) (f : Nat → Int32) : RC l yX0_sizeOf cX0_sizeOf 2 (some .int) 0 0 D dA [.ref rk, .int 1] (fun H => va_P D vwCl [(rk, .inl (dA 3, L, .inl f))] H) (fun v9 => v9 = some (.int (nI L))) := by
  refine RC.of (by decide) (Nat.le_of_ble_eq_true rfl) ?_
  intro p e s m below meth c ls S hr hlk hK hP hl
  have hx := S.1
  have hb := S.2.1
  have hl : lv_has ls 2 [(0, .ref rk), (1, .int 1)] := hl
  refine lv_iload_n hx hb dX0_sizeOf_0 rfl (lv_at hl 1 rfl) ?_
  refine lv_if_ne (tgt := 12) hx hb dX0_sizeOf_1 (by decide) (fun c_1 => ?_) (fun c_1 => absurd (c_1) (by decide))
  refine lv_iload_n hx hb dX0_sizeOf_12 rfl (lv_at hl 1 rfl) ?_
  refine lv_iconst (v := 1) hx hb dX0_sizeOf_13 (by decide) ?_
  refine lv_icmp_ne (tgt := 25) hx hb dX0_sizeOf_14 (by decide) (fun c_14 => absurd (by decide) c_14) (fun c_14 => ?_)
  refine lv_aload_n hx hb dX0_sizeOf_17 rfl (lv_at hl 0 rfl) ?_
  refine va_castA S.1 S.2.1 S.2.2.2.1 (S.2.2.2.2 _ q824) hP 0 rfl (va_nm_short (hK.2 3 (dA 3, .short) rfl).2) dX0_sizeOf_18 ?_
  refine va_alen (v := nI L) S.1 S.2.1 hK hP 0 3 rfl rfl rfl dX0_sizeOf_21 ?_
  refine lv_goto (tgt := 30) hx hb dX0_sizeOf_22 (by decide) ?_
  exact r_iret S hr hlk dX0_sizeOf_30 (congrArg (fun z : Int32 => some (Value.int z)) (show nI L = nI L from rfl))
set_option maxHeartbeats 4000000 in
theorem r0_cellOf2 (l : Launch) (D : va_G) (dA : Nat → ClassId) (rk L i : Nat) (f : Nat → Int32) (hi : i < L) (hL : L < 2 ^ 31) : RC l yX0_cellOf cX0_cellOf 3 (some .int) 0 0 D dA [.ref rk, .int 2, .int (nI i)] (fun H => va_P D vwCl [(rk, .inl (dA 0, L, .inl f))] H) (fun v9 => v9 = some (.int (f i))) := by
  refine RC.of (by decide) (Nat.le_of_ble_eq_true rfl) ?_
  intro p e s m below meth c ls S hr hlk hK hP hl
  have hx := S.1
  have hb := S.2.1
  have hl : lv_has ls 3 [(0, .ref rk), (1, .int 2), (2, .int (nI i))] := hl
  refine lv_iload_n hx hb dX0_cellOf_0 rfl (lv_at hl 1 rfl) ?_
  refine lv_if_ne (tgt := 13) hx hb dX0_cellOf_1 (by decide) (fun c_1 => ?_) (fun c_1 => absurd (c_1) (by decide))
  refine lv_iload_n hx hb dX0_cellOf_13 rfl (lv_at hl 1 rfl) ?_
  refine lv_iconst (v := 1) hx hb dX0_cellOf_14 (by decide) ?_
  refine lv_icmp_ne (tgt := 27) hx hb dX0_cellOf_15 (by decide) (fun c_15 => ?_) (fun c_15 => absurd (c_15) (by decide))
  refine lv_aload_n hx hb dX0_cellOf_27 rfl (lv_at hl 0 rfl) ?_
  refine va_castA S.1 S.2.1 S.2.2.2.1 (S.2.2.2.2 _ q636) hP 0 rfl (va_nm_int (hK.2 0 (dA 0, .int) rfl).2) dX0_cellOf_28 ?_
  refine lv_iload_n hx hb dX0_cellOf_31 rfl (lv_at hl 2 rfl) ?_
  refine va_iald S.1 S.2.1 hK hP 0 0 rfl rfl (vp_in_nI (n := i) (N := L) hi hL) dX0_cellOf_32 ?_
  refine topi (z := f i) (by rw [nI_clamp (by omega)]) ?_
  exact r_iret S hr hlk dX0_cellOf_33 (congrArg (fun z : Int32 => some (Value.int z)) (show f i = f i from rfl))
set_option maxHeartbeats 4000000 in
theorem r0_sizeOf2 (l : Launch) (D : va_G) (dA : Nat → ClassId) (rk L : Nat) (f : Nat → Int32) : RC l yX0_sizeOf cX0_sizeOf 2 (some .int) 0 0 D dA [.ref rk, .int 2] (fun H => va_P D vwCl [(rk, .inl (dA 0, L, .inl f))] H) (fun v9 => v9 = some (.int (nI L))) := by
  refine RC.of (by decide) (Nat.le_of_ble_eq_true rfl) ?_
  intro p e s m below meth c ls S hr hlk hK hP hl
  have hx := S.1
  have hb := S.2.1
  have hl : lv_has ls 2 [(0, .ref rk), (1, .int 2)] := hl
  refine lv_iload_n hx hb dX0_sizeOf_0 rfl (lv_at hl 1 rfl) ?_
  refine lv_if_ne (tgt := 12) hx hb dX0_sizeOf_1 (by decide) (fun c_1 => ?_) (fun c_1 => absurd (c_1) (by decide))
  refine lv_iload_n hx hb dX0_sizeOf_12 rfl (lv_at hl 1 rfl) ?_
  refine lv_iconst (v := 1) hx hb dX0_sizeOf_13 (by decide) ?_
  refine lv_icmp_ne (tgt := 25) hx hb dX0_sizeOf_14 (by decide) (fun c_14 => ?_) (fun c_14 => absurd (c_14) (by decide))
  refine lv_aload_n hx hb dX0_sizeOf_25 rfl (lv_at hl 0 rfl) ?_
  refine va_castA S.1 S.2.1 S.2.2.2.1 (S.2.2.2.2 _ q636) hP 0 rfl (va_nm_int (hK.2 0 (dA 0, .int) rfl).2) dX0_sizeOf_26 ?_
  refine va_alen (v := nI L) S.1 S.2.1 hK hP 0 0 rfl rfl rfl dX0_sizeOf_29 ?_
  exact r_iret S hr hlk dX0_sizeOf_30 (congrArg (fun z : Int32 => some (Value.int z)) (show nI L = nI L from rfl))
