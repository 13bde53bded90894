/-! BOUNDS: cells outside a row, rows of another lane, rows of negative size (by program: gen/mkthrow2.py) -/
set_option maxRecDepth 100000
set_option maxHeartbeats 4000000 in
theorem t0_cellO0 (l : Launch) (hfl : NoTr l) (D : va_G) (dA : Nat → ClassId) (cT : ClassId) (zs zu ze : Nat) (rk L : Nat) (f : Nat → Int32) (hL : L < 2 ^ 31) (iv : Int32) (hout : iv < 0 ∨ L ≤ iv.toNatClampNeg) : TC l yX0_cellOf cX0_cellOf 3 (some .int) 8 10260 3 300 (K7 D dA cT zs zu ze) [.ref rk, .int 0, .int iv] (fun H => TH cT zs zu ze H ∧ va_P D vwCl [(rk, .inl (dA 2, L, .inl f))] H) (fun _ => False) "java/lang/ArrayIndexOutOfBoundsException" := by
  refine TC.of (by decide) (Nat.le_of_ble_eq_true rfl) ?_
  intro p e s m below meth c ls S hr hlk htab hK7 hPre hl
  have hx := S.1
  have hb := S.2.1
  have hK6 := hK7.1
  have hK := hK7.1.1.1
  have hl : lv_has ls 3 [(0, .ref rk), (1, .int 0), (2, .int iv)] := hl
  refine W.adm (fun hadm => ?_)
  refine lv_iload_n hx hb dX0_cellOf_0 rfl (lv_at hl 1 rfl) ?_
  refine lv_if_ne (tgt := 13) hx hb dX0_cellOf_1 (by decide) (fun c_1 => absurd (by decide) c_1) (fun c_1 => ?_)
  refine lv_aload_n hx hb dX0_cellOf_4 rfl (lv_at hl 0 rfl) ?_
  refine va_castA S.1 S.2.1 S.2.2.2.1 (S.2.2.2.2 _ q823) hPre.2 0 rfl (va_nm_byte (hK.2 2 (dA 2, .byte) rfl).2) dX0_cellOf_5 ?_
  refine lv_iload_n hx hb dX0_cellOf_8 rfl (lv_at hl 2 rfl) ?_
  exact tz_msgX (g := F0 m 9 ls []) (B := 300) hx (hfl e hadm) (by decide +kernel) (by decide +kernel) (by decide +kernel) (by decide +kernel) (idx_all S.2.2.2.2 hK6 hPre.1) (fun _ h => by cases h) (fun _ h => by cases h) (by decide) rfl (hl.1.trans S.2.2.1.symm) rfl rfl htab hlk (by decide) (Nat.le_of_ble_eq_true rfl) (by decide) (by decide) (by decide) (fun T hT X => ⟨T, _, hT, X, index_text_modelled iv (arrV (dA 2) L (fun j => .int (f j))).slots.size, (by have := index_text_bytes iv (n := (arrV (dA 2) L (fun j => .int (f j))).slots.size) (by rw [arrV_size]; exact hL); omega), fun target h => X.baloadOut hx (cell := arrV (dA 2) L (fun j => .int (f j))) (by rw [hT]; exact hPre.2 0 _ rfl) ((hK.2 2 (dA 2, .byte) rfl).1 L _) (by rw [arrV_size]; exact hout) (g := F0 m 9 ls [.int iv, .ref rk]) rfl rfl (by rw [hb]; exact dX0_cellOf_9) target h⟩)
set_option maxHeartbeats 4000000 in
theorem t0_setO0 (l : Launch) (hfl : NoTr l) (D : va_G) (dA : Nat → ClassId) (cT : ClassId) (zs zu ze : Nat) (rk L : Nat) (f : Nat → Int32) (hL : L < 2 ^ 31) (iv v : Int32) (hout : iv < 0 ∨ L ≤ iv.toNatClampNeg) : TC l yX0_setIn cX0_setIn 3 none 8 10260 3 300 (K7 D dA cT zs zu ze) [.ref rk, .int iv, .int v] (fun H => TH cT zs zu ze H ∧ va_P D vwCl [(rk, .inl (dA 2, L, .inl f))] H) (fun _ => False) "java/lang/ArrayIndexOutOfBoundsException" := by
  refine TC.of (by decide) (Nat.le_of_ble_eq_true rfl) ?_
  intro p e s m below meth c ls S hr hlk htab hK7 hPre hl
  have hx := S.1
  have hb := S.2.1
  have hK6 := hK7.1
  have hK := hK7.1.1.1
  have hl : lv_has ls 3 [(0, .ref rk), (1, .int iv), (2, .int v)] := hl
  refine W.adm (fun hadm => ?_)
  refine lv_aload_n hx hb dX0_setIn_0 rfl (lv_at hl 0 rfl) ?_
  refine instA S (S.2.2.2.2 _ q823) hPre.2 (va_nm_byte (hK.2 2 (dA 2, .byte) rfl).2) dX0_setIn_1 ?_
  refine lv_if_eq (tgt := 18) hx hb dX0_setIn_4 (by decide) (fun c_1 => absurd c_1 (by decide)) (fun c_1 => ?_)
  refine lv_aload_n hx hb dX0_setIn_7 rfl (lv_at hl 0 rfl) ?_
  refine va_castA S.1 S.2.1 S.2.2.2.1 (S.2.2.2.2 _ q823) hPre.2 0 rfl (va_nm_byte (hK.2 2 (dA 2, .byte) rfl).2) dX0_setIn_8 ?_
  refine lv_iload_n hx hb dX0_setIn_11 rfl (lv_at hl 1 rfl) ?_
  refine lv_iload_n hx hb dX0_setIn_12 rfl (lv_at hl 2 rfl) ?_
  refine lv_i2b hx hb dX0_setIn_13 rfl ?_
  exact tz_msgX (g := F0 m 14 ls []) (B := 300) hx (hfl e hadm) (by decide +kernel) (by decide +kernel) (by decide +kernel) (by decide +kernel) (idx_all S.2.2.2.2 hK6 hPre.1) (fun _ h => by cases h) (fun _ h => by cases h) (by decide) rfl (hl.1.trans S.2.2.1.symm) rfl rfl htab hlk (by decide) (Nat.le_of_ble_eq_true rfl) (by decide) (by decide) (by decide) (fun T hT X => ⟨T, _, hT, X, index_text_modelled iv (arrV (dA 2) L (fun j => .int (f j))).slots.size, (by have := index_text_bytes iv (n := (arrV (dA 2) L (fun j => .int (f j))).slots.size) (by rw [arrV_size]; exact hL); omega), fun target h => X.bastoreOut hx (cell := arrV (dA 2) L (fun j => .int (f j))) (by rw [hT]; exact hPre.2 0 _ rfl) ((hK.2 2 (dA 2, .byte) rfl).1 L _) (by rw [arrV_size]; exact hout) (g := F0 m 14 ls [.int _, .int iv, .ref rk]) rfl rfl (by rw [hb]; exact dX0_setIn_14) target h⟩)
set_option maxHeartbeats 4000000 in
theorem t0_rowN0 (l : Launch) (hfl : NoTr l) (D : va_G) (dA : Nat → ClassId) (cT : ClassId) (zs zu ze : Nat) (nv : Int32) (hn : nv < 0) : TC l yX0_rowOf cX0_rowOf 2 (some (.object "java/lang/Object")) 8 10260 3 300 (K7 D dA cT zs zu ze) [.int 0, .int nv] (TH cT zs zu ze) (fun _ => False) "java/lang/NegativeArraySizeException" := by
  refine TC.of (by decide) (Nat.le_of_ble_eq_true rfl) ?_
  intro p e s m below meth c ls S hr hlk htab hK7 hPre hl
  have hx := S.1
  have hb := S.2.1
  have hK6 := hK7.1
  have hK := hK7.1.1.1
  have hl : lv_has ls 2 [(0, .int 0), (1, .int nv)] := hl
  refine W.adm (fun hadm => ?_)
  refine lv_iload_n hx hb dX0_rowOf_0 rfl (lv_at hl 0 rfl) ?_
  refine lv_if_ne (tgt := 10) hx hb dX0_rowOf_1 (by decide) (fun c_1 => absurd (by decide) c_1) (fun c_1 => ?_)
  refine lv_iload_n hx hb dX0_rowOf_4 rfl (lv_at hl 1 rfl) ?_
  exact tz_msgX (g := F0 m 5 ls []) (B := 300) hx (hfl e hadm) (by decide +kernel) (by decide +kernel) (by decide +kernel) (by decide +kernel) (nas_all S.2.2.2.2 hK6 hPre) (fun _ h => by cases h) (fun _ h => by cases h) (by decide) rfl (hl.1.trans S.2.2.1.symm) rfl rfl htab hlk (by decide) (Nat.le_of_ble_eq_true rfl) (by decide) (by decide) (by decide) (fun T hT X => ⟨T, _, hT, X, negative_text_modelled hn, (by have := negative_text_bytes nv; omega), fun target h => X.newarrayNegative hx (g := F0 m 5 ls [.int nv]) rfl hn rfl (by rw [hb]; exact dX0_rowOf_5) target h⟩)
set_option maxHeartbeats 4000000 in
theorem t0_cellO1 (l : Launch) (hfl : NoTr l) (D : va_G) (dA : Nat → ClassId) (cT : ClassId) (zs zu ze : Nat) (rk L : Nat) (f : Nat → Int32) (hL : L < 2 ^ 31) (iv : Int32) (hout : iv < 0 ∨ L ≤ iv.toNatClampNeg) : TC l yX0_cellOf cX0_cellOf 3 (some .int) 8 10260 3 300 (K7 D dA cT zs zu ze) [.ref rk, .int 1, .int iv] (fun H => TH cT zs zu ze H ∧ va_P D vwCl [(rk, .inl (dA 3, L, .inl f))] H) (fun _ => False) "java/lang/ArrayIndexOutOfBoundsException" := by
  refine TC.of (by decide) (Nat.le_of_ble_eq_true rfl) ?_
  intro p e s m below meth c ls S hr hlk htab hK7 hPre hl
  have hx := S.1
  have hb := S.2.1
  have hK6 := hK7.1
  have hK := hK7.1.1.1
  have hl : lv_has ls 3 [(0, .ref rk), (1, .int 1), (2, .int iv)] := hl
  refine W.adm (fun hadm => ?_)
  refine lv_iload_n hx hb dX0_cellOf_0 rfl (lv_at hl 1 rfl) ?_
  refine lv_if_ne (tgt := 13) hx hb dX0_cellOf_1 (by decide) (fun c_1 => ?_) (fun c_1 => absurd c_1 (by decide))
  refine lv_iload_n hx hb dX0_cellOf_13 rfl (lv_at hl 1 rfl) ?_
  refine lv_iconst (v := 1) hx hb dX0_cellOf_14 (by decide) ?_
  refine lv_icmp_ne (tgt := 27) hx hb dX0_cellOf_15 (by decide) (fun c_2 => absurd (by decide) c_2) (fun c_2 => ?_)
  refine lv_aload_n hx hb dX0_cellOf_18 rfl (lv_at hl 0 rfl) ?_
  refine va_castA S.1 S.2.1 S.2.2.2.1 (S.2.2.2.2 _ q824) hPre.2 0 rfl (va_nm_short (hK.2 3 (dA 3, .short) rfl).2) dX0_cellOf_19 ?_
  refine lv_iload_n hx hb dX0_cellOf_22 rfl (lv_at hl 2 rfl) ?_
  exact tz_msgX (g := F0 m 23 ls []) (B := 300) hx (hfl e hadm) (by decide +kernel) (by decide +kernel) (by decide +kernel) (by decide +kernel) (idx_all S.2.2.2.2 hK6 hPre.1) (fun _ h => by cases h) (fun _ h => by cases h) (by decide) rfl (hl.1.trans S.2.2.1.symm) rfl rfl htab hlk (by decide) (Nat.le_of_ble_eq_true rfl) (by decide) (by decide) (by decide) (fun T hT X => ⟨T, _, hT, X, index_text_modelled iv (arrV (dA 3) L (fun j => .int (f j))).slots.size, (by have := index_text_bytes iv (n := (arrV (dA 3) L (fun j => .int (f j))).slots.size) (by rw [arrV_size]; exact hL); omega), fun target h => X.saloadOut hx (cell := arrV (dA 3) L (fun j => .int (f j))) (by rw [hT]; exact hPre.2 0 _ rfl) ((hK.2 3 (dA 3, .short) rfl).1 L _) (by rw [arrV_size]; exact hout) (g := F0 m 23 ls [.int iv, .ref rk]) rfl rfl (by rw [hb]; exact dX0_cellOf_23) target h⟩)
set_option maxHeartbeats 4000000 in
theorem t0_setO1 (l : Launch) (hfl : NoTr l) (D : va_G) (dA : Nat → ClassId) (cT : ClassId) (zs zu ze : Nat) (rk L : Nat) (f : Nat → Int32) (hL : L < 2 ^ 31) (iv v : Int32) (hout : iv < 0 ∨ L ≤ iv.toNatClampNeg) : TC l yX0_setIn cX0_setIn 3 none 8 10260 3 300 (K7 D dA cT zs zu ze) [.ref rk, .int iv, .int v] (fun H => TH cT zs zu ze H ∧ va_P D vwCl [(rk, .inl (dA 3, L, .inl f))] H) (fun _ => False) "java/lang/ArrayIndexOutOfBoundsException" := by
  refine TC.of (by decide) (Nat.le_of_ble_eq_true rfl) ?_
  intro p e s m below meth c ls S hr hlk htab hK7 hPre hl
  have hx := S.1
  have hb := S.2.1
  have hK6 := hK7.1
  have hK := hK7.1.1.1
  have hl : lv_has ls 3 [(0, .ref rk), (1, .int iv), (2, .int v)] := hl
  refine W.adm (fun hadm => ?_)
  refine lv_aload_n hx hb dX0_setIn_0 rfl (lv_at hl 0 rfl) ?_
  refine va_instNo S.1 S.2.1 S.2.2.2.1 (S.2.2.2.2 _ q823) (hK7.2.1 2 _ rfl) (rowCell hPre.2 (va_nm_short (hK.2 3 (dA 3, .short) rfl).2)) dX0_setIn_1 ?_
  refine lv_if_eq (tgt := 18) hx hb dX0_setIn_4 (by decide) (fun c_1 => ?_) (fun c_1 => absurd (by decide) c_1)
  refine lv_aload_n hx hb dX0_setIn_18 rfl (lv_at hl 0 rfl) ?_
  refine instA S (S.2.2.2.2 _ q824) hPre.2 (va_nm_short (hK.2 3 (dA 3, .short) rfl).2) dX0_setIn_19 ?_
  refine lv_if_eq (tgt := 36) hx hb dX0_setIn_22 (by decide) (fun c_1 => absurd c_1 (by decide)) (fun c_1 => ?_)
  refine lv_aload_n hx hb dX0_setIn_25 rfl (lv_at hl 0 rfl) ?_
  refine va_castA S.1 S.2.1 S.2.2.2.1 (S.2.2.2.2 _ q824) hPre.2 0 rfl (va_nm_short (hK.2 3 (dA 3, .short) rfl).2) dX0_setIn_26 ?_
  refine lv_iload_n hx hb dX0_setIn_29 rfl (lv_at hl 1 rfl) ?_
  refine lv_iload_n hx hb dX0_setIn_30 rfl (lv_at hl 2 rfl) ?_
  refine lv_i2s hx hb dX0_setIn_31 rfl ?_
  exact tz_msgX (g := F0 m 32 ls []) (B := 300) hx (hfl e hadm) (by decide +kernel) (by decide +kernel) (by decide +kernel) (by decide +kernel) (idx_all S.2.2.2.2 hK6 hPre.1) (fun _ h => by cases h) (fun _ h => by cases h) (by decide) rfl (hl.1.trans S.2.2.1.symm) rfl rfl htab hlk (by decide) (Nat.le_of_ble_eq_true rfl) (by decide) (by decide) (by decide) (fun T hT X => ⟨T, _, hT, X, index_text_modelled iv (arrV (dA 3) L (fun j => .int (f j))).slots.size, (by have := index_text_bytes iv (n := (arrV (dA 3) L (fun j => .int (f j))).slots.size) (by rw [arrV_size]; exact hL); omega), fun target h => X.sastoreOut hx (cell := arrV (dA 3) L (fun j => .int (f j))) (by rw [hT]; exact hPre.2 0 _ rfl) ((hK.2 3 (dA 3, .short) rfl).1 L _) (by rw [arrV_size]; exact hout) (g := F0 m 32 ls [.int _, .int iv, .ref rk]) rfl rfl (by rw [hb]; exact dX0_setIn_32) target h⟩)
set_option maxHeartbeats 4000000 in
theorem t0_rowN1 (l : Launch) (hfl : NoTr l) (D : va_G) (dA : Nat → ClassId) (cT : ClassId) (zs zu ze : Nat) (nv : Int32) (hn : nv < 0) : TC l yX0_rowOf cX0_rowOf 2 (some (.object "java/lang/Object")) 8 10260 3 300 (K7 D dA cT zs zu ze) [.int 1, .int nv] (TH cT zs zu ze) (fun _ => False) "java/lang/NegativeArraySizeException" := by
  refine TC.of (by decide) (Nat.le_of_ble_eq_true rfl) ?_
  intro p e s m below meth c ls S hr hlk htab hK7 hPre hl
  have hx := S.1
  have hb := S.2.1
  have hK6 := hK7.1
  have hK := hK7.1.1.1
  have hl : lv_has ls 2 [(0, .int 1), (1, .int nv)] := hl
  refine W.adm (fun hadm => ?_)
  refine lv_iload_n hx hb dX0_rowOf_0 rfl (lv_at hl 0 rfl) ?_
  refine lv_if_ne (tgt := 10) hx hb dX0_rowOf_1 (by decide) (fun c_1 => ?_) (fun c_1 => absurd c_1 (by decide))
  refine lv_iload_n hx hb dX0_rowOf_10 rfl (lv_at hl 0 rfl) ?_
  refine lv_iconst (v := 1) hx hb dX0_rowOf_11 (by decide) ?_
  refine lv_icmp_ne (tgt := 21) hx hb dX0_rowOf_12 (by decide) (fun c_2 => absurd (by decide) c_2) (fun c_2 => ?_)
  refine lv_iload_n hx hb dX0_rowOf_15 rfl (lv_at hl 1 rfl) ?_
  exact tz_msgX (g := F0 m 16 ls []) (B := 300) hx (hfl e hadm) (by decide +kernel) (by decide +kernel) (by decide +kernel) (by decide +kernel) (nas_all S.2.2.2.2 hK6 hPre) (fun _ h => by cases h) (fun _ h => by cases h) (by decide) rfl (hl.1.trans S.2.2.1.symm) rfl rfl htab hlk (by decide) (Nat.le_of_ble_eq_true rfl) (by decide) (by decide) (by decide) (fun T hT X => ⟨T, _, hT, X, negative_text_modelled hn, (by have := negative_text_bytes nv; omega), fun target h => X.newarrayNegative hx (g := F0 m 16 ls [.int nv]) rfl hn rfl (by rw [hb]; exact dX0_rowOf_16) target h⟩)
set_option maxHeartbeats 4000000 in
theorem t0_cellO2 (l : Launch) (hfl : NoTr l) (D : va_G) (dA : Nat → ClassId) (cT : ClassId) (zs zu ze : Nat) (rk L : Nat) (f : Nat → Int32) (hL : L < 2 ^ 31) (iv : Int32) (hout : iv < 0 ∨ L ≤ iv.toNatClampNeg) : TC l yX0_cellOf cX0_cellOf 3 (some .int) 8 10260 3 300 (K7 D dA cT zs zu ze) [.ref rk, .int 2, .int iv] (fun H => TH cT zs zu ze H ∧ va_P D vwCl [(rk, .inl (dA 0, L, .inl f))] H) (fun _ => False) "java/lang/ArrayIndexOutOfBoundsException" := by
  refine TC.of (by decide) (Nat.le_of_ble_eq_true rfl) ?_
  intro p e s m below meth c ls S hr hlk htab hK7 hPre hl
  have hx := S.1
  have hb := S.2.1
  have hK6 := hK7.1
  have hK := hK7.1.1.1
  have hl : lv_has ls 3 [(0, .ref rk), (1, .int 2), (2, .int iv)] := hl
  refine W.adm (fun hadm => ?_)
  refine lv_iload_n hx hb dX0_cellOf_0 rfl (lv_at hl 1 rfl) ?_
  refine lv_if_ne (tgt := 13) hx hb dX0_cellOf_1 (by decide) (fun c_1 => ?_) (fun c_1 => absurd c_1 (by decide))
  refine lv_iload_n hx hb dX0_cellOf_13 rfl (lv_at hl 1 rfl) ?_
  refine lv_iconst (v := 1) hx hb dX0_cellOf_14 (by decide) ?_
  refine lv_icmp_ne (tgt := 27) hx hb dX0_cellOf_15 (by decide) (fun c_2 => ?_) (fun c_2 => absurd c_2 (by decide))
  refine lv_aload_n hx hb dX0_cellOf_27 rfl (lv_at hl 0 rfl) ?_
  refine va_castA S.1 S.2.1 S.2.2.2.1 (S.2.2.2.2 _ q636) hPre.2 0 rfl (va_nm_int (hK.2 0 (dA 0, .int) rfl).2) dX0_cellOf_28 ?_
  refine lv_iload_n hx hb dX0_cellOf_31 rfl (lv_at hl 2 rfl) ?_
  exact tz_msgX (g := F0 m 32 ls []) (B := 300) hx (hfl e hadm) (by decide +kernel) (by decide +kernel) (by decide +kernel) (by decide +kernel) (idx_all S.2.2.2.2 hK6 hPre.1) (fun _ h => by cases h) (fun _ h => by cases h) (by decide) rfl (hl.1.trans S.2.2.1.symm) rfl rfl htab hlk (by decide) (Nat.le_of_ble_eq_true rfl) (by decide) (by decide) (by decide) (fun T hT X => ⟨T, _, hT, X, index_text_modelled iv (arrV (dA 0) L (fun j => .int (f j))).slots.size, (by have := index_text_bytes iv (n := (arrV (dA 0) L (fun j => .int (f j))).slots.size) (by rw [arrV_size]; exact hL); omega), fun target h => X.ialoadOut hx (cell := arrV (dA 0) L (fun j => .int (f j))) (by rw [hT]; exact hPre.2 0 _ rfl) ((hK.2 0 (dA 0, .int) rfl).1 L _) (by rw [arrV_size]; exact hout) (g := F0 m 32 ls [.int iv, .ref rk]) rfl rfl (by rw [hb]; exact dX0_cellOf_32) target h⟩)
set_option maxHeartbeats 4000000 in
theorem t0_setO2 (l : Launch) (hfl : NoTr l) (D : va_G) (dA : Nat → ClassId) (cT : ClassId) (zs zu ze : Nat) (rk L : Nat) (f : Nat → Int32) (hL : L < 2 ^ 31) (iv v : Int32) (hout : iv < 0 ∨ L ≤ iv.toNatClampNeg) : TC l yX0_setIn cX0_setIn 3 none 8 10260 3 300 (K7 D dA cT zs zu ze) [.ref rk, .int iv, .int v] (fun H => TH cT zs zu ze H ∧ va_P D vwCl [(rk, .inl (dA 0, L, .inl f))] H) (fun _ => False) "java/lang/ArrayIndexOutOfBoundsException" := by
  refine TC.of (by decide) (Nat.le_of_ble_eq_true rfl) ?_
  intro p e s m below meth c ls S hr hlk htab hK7 hPre hl
  have hx := S.1
  have hb := S.2.1
  have hK6 := hK7.1
  have hK := hK7.1.1.1
  have hl : lv_has ls 3 [(0, .ref rk), (1, .int iv), (2, .int v)] := hl
  refine W.adm (fun hadm => ?_)
  refine lv_aload_n hx hb dX0_setIn_0 rfl (lv_at hl 0 rfl) ?_
  refine va_instNo S.1 S.2.1 S.2.2.2.1 (S.2.2.2.2 _ q823) (hK7.2.1 4 _ rfl) (rowCell hPre.2 (va_nm_int (hK.2 0 (dA 0, .int) rfl).2)) dX0_setIn_1 ?_
  refine lv_if_eq (tgt := 18) hx hb dX0_setIn_4 (by decide) (fun c_1 => ?_) (fun c_1 => absurd (by decide) c_1)
  refine lv_aload_n hx hb dX0_setIn_18 rfl (lv_at hl 0 rfl) ?_
  refine va_instNo S.1 S.2.1 S.2.2.2.1 (S.2.2.2.2 _ q824) (hK7.2.1 5 _ rfl) (rowCell hPre.2 (va_nm_int (hK.2 0 (dA 0, .int) rfl).2)) dX0_setIn_19 ?_
  refine lv_if_eq (tgt := 36) hx hb dX0_setIn_22 (by decide) (fun c_1 => ?_) (fun c_1 => absurd (by decide) c_1)
  refine lv_aload_n hx hb dX0_setIn_36 rfl (lv_at hl 0 rfl) ?_
  refine va_castA S.1 S.2.1 S.2.2.2.1 (S.2.2.2.2 _ q636) hPre.2 0 rfl (va_nm_int (hK.2 0 (dA 0, .int) rfl).2) dX0_setIn_37 ?_
  refine lv_iload_n hx hb dX0_setIn_40 rfl (lv_at hl 1 rfl) ?_
  refine lv_iload_n hx hb dX0_setIn_41 rfl (lv_at hl 2 rfl) ?_
  exact tz_msgX (g := F0 m 42 ls []) (B := 300) hx (hfl e hadm) (by decide +kernel) (by decide +kernel) (by decide +kernel) (by decide +kernel) (idx_all S.2.2.2.2 hK6 hPre.1) (fun _ h => by cases h) (fun _ h => by cases h) (by decide) rfl (hl.1.trans S.2.2.1.symm) rfl rfl htab hlk (by decide) (Nat.le_of_ble_eq_true rfl) (by decide) (by decide) (by decide) (fun T hT X => ⟨T, _, hT, X, index_text_modelled iv (arrV (dA 0) L (fun j => .int (f j))).slots.size, (by have := index_text_bytes iv (n := (arrV (dA 0) L (fun j => .int (f j))).slots.size) (by rw [arrV_size]; exact hL); omega), fun target h => X.iastoreOut hx (cell := arrV (dA 0) L (fun j => .int (f j))) (by rw [hT]; exact hPre.2 0 _ rfl) ((hK.2 0 (dA 0, .int) rfl).1 L _) (by rw [arrV_size]; exact hout) (g := F0 m 42 ls [.int v, .int iv, .ref rk]) rfl rfl (by rw [hb]; exact dX0_setIn_42) target h⟩)
set_option maxHeartbeats 4000000 in
theorem t0_rowN2 (l : Launch) (hfl : NoTr l) (D : va_G) (dA : Nat → ClassId) (cT : ClassId) (zs zu ze : Nat) (nv : Int32) (hn : nv < 0) : TC l yX0_rowOf cX0_rowOf 2 (some (.object "java/lang/Object")) 8 10260 3 300 (K7 D dA cT zs zu ze) [.int 2, .int nv] (TH cT zs zu ze) (fun _ => False) "java/lang/NegativeArraySizeException" := by
  refine TC.of (by decide) (Nat.le_of_ble_eq_true rfl) ?_
  intro p e s m below meth c ls S hr hlk htab hK7 hPre hl
  have hx := S.1
  have hb := S.2.1
  have hK6 := hK7.1
  have hK := hK7.1.1.1
  have hl : lv_has ls 2 [(0, .int 2), (1, .int nv)] := hl
  refine W.adm (fun hadm => ?_)
  refine lv_iload_n hx hb dX0_rowOf_0 rfl (lv_at hl 0 rfl) ?_
  refine lv_if_ne (tgt := 10) hx hb dX0_rowOf_1 (by decide) (fun c_1 => ?_) (fun c_1 => absurd c_1 (by decide))
  refine lv_iload_n hx hb dX0_rowOf_10 rfl (lv_at hl 0 rfl) ?_
  refine lv_iconst (v := 1) hx hb dX0_rowOf_11 (by decide) ?_
  refine lv_icmp_ne (tgt := 21) hx hb dX0_rowOf_12 (by decide) (fun c_2 => ?_) (fun c_2 => absurd c_2 (by decide))
  refine lv_iload_n hx hb dX0_rowOf_21 rfl (lv_at hl 1 rfl) ?_
  exact tz_msgX (g := F0 m 22 ls []) (B := 300) hx (hfl e hadm) (by decide +kernel) (by decide +kernel) (by decide +kernel) (by decide +kernel) (nas_all S.2.2.2.2 hK6 hPre) (fun _ h => by cases h) (fun _ h => by cases h) (by decide) rfl (hl.1.trans S.2.2.1.symm) rfl rfl htab hlk (by decide) (Nat.le_of_ble_eq_true rfl) (by decide) (by decide) (by decide) (fun T hT X => ⟨T, _, hT, X, negative_text_modelled hn, (by have := negative_text_bytes nv; omega), fun target h => X.newarrayNegative hx (g := F0 m 22 ls [.int nv]) rfl hn rfl (by rw [hb]; exact dX0_rowOf_22) target h⟩)
set_option maxHeartbeats 4000000 in
theorem t0_cellC01 (l : Launch) (hfl : NoTr l) (D : va_G) (dA : Nat → ClassId) (cT : ClassId) (zs zu ze : Nat) (rk L : Nat) (f : Nat → Int32) (iv : Int32) : TC l yX0_cellOf cX0_cellOf 3 (some .int) 8 10260 3 900 (K7 D dA cT zs zu ze) [.ref rk, .int 0, .int iv] (fun H => TH cT zs zu ze H ∧ va_P D vwCl [(rk, .inl (dA 3, L, .inl f))] H) (fun _ => False) "java/lang/ClassCastException" := by
  refine TC.of (by decide) (Nat.le_of_ble_eq_true rfl) ?_
  intro p e s m below meth c ls S hr hlk htab hK7 hPre hl
  have hx := S.1
  have hb := S.2.1
  have hK6 := hK7.1
  have hK := hK7.1.1.1
  have hl : lv_has ls 3 [(0, .ref rk), (1, .int 0), (2, .int iv)] := hl
  refine W.adm (fun hadm => ?_)
  refine lv_iload_n hx hb dX0_cellOf_0 rfl (lv_at hl 1 rfl) ?_
  refine lv_if_ne (tgt := 13) hx hb dX0_cellOf_1 (by decide) (fun c_1 => absurd (by decide) c_1) (fun c_1 => ?_)
  refine lv_aload_n hx hb dX0_cellOf_4 rfl (lv_at hl 0 rfl) ?_
  exact tz_cast S (hfl e hadm) hK7.2.2.1 (hK7.2.1 2 _ rfl) (by decide +kernel) (S.2.2.2.2 _ q823) (cce_all S.2.2.2.2 hK6 hPre.1) (fun _ h => by cases h) (fun _ h => by cases h) (rowCell hPre.2 (va_nm_short (hK.2 3 (dA 3, .short) rfl).2)) hl.1 htab hlk (by decide) (Nat.le_of_ble_eq_true rfl) (by decide) (by decide) dX0_cellOf_5
set_option maxHeartbeats 4000000 in
theorem t0_cellC02 (l : Launch) (hfl : NoTr l) (D : va_G) (dA : Nat → ClassId) (cT : ClassId) (zs zu ze : Nat) (rk L : Nat) (f : Nat → Int32) (iv : Int32) : TC l yX0_cellOf cX0_cellOf 3 (some .int) 8 10260 3 900 (K7 D dA cT zs zu ze) [.ref rk, .int 0, .int iv] (fun H => TH cT zs zu ze H ∧ va_P D vwCl [(rk, .inl (dA 0, L, .inl f))] H) (fun _ => False) "java/lang/ClassCastException" := by
  refine TC.of (by decide) (Nat.le_of_ble_eq_true rfl) ?_
  intro p e s m below meth c ls S hr hlk htab hK7 hPre hl
  have hx := S.1
  have hb := S.2.1
  have hK6 := hK7.1
  have hK := hK7.1.1.1
  have hl : lv_has ls 3 [(0, .ref rk), (1, .int 0), (2, .int iv)] := hl
  refine W.adm (fun hadm => ?_)
  refine lv_iload_n hx hb dX0_cellOf_0 rfl (lv_at hl 1 rfl) ?_
  refine lv_if_ne (tgt := 13) hx hb dX0_cellOf_1 (by decide) (fun c_1 => absurd (by decide) c_1) (fun c_1 => ?_)
  refine lv_aload_n hx hb dX0_cellOf_4 rfl (lv_at hl 0 rfl) ?_
  exact tz_cast S (hfl e hadm) hK7.2.2.1 (hK7.2.1 4 _ rfl) (by decide +kernel) (S.2.2.2.2 _ q823) (cce_all S.2.2.2.2 hK6 hPre.1) (fun _ h => by cases h) (fun _ h => by cases h) (rowCell hPre.2 (va_nm_int (hK.2 0 (dA 0, .int) rfl).2)) hl.1 htab hlk (by decide) (Nat.le_of_ble_eq_true rfl) (by decide) (by decide) dX0_cellOf_5
set_option maxHeartbeats 4000000 in
theorem t0_cellC10 (l : Launch) (hfl : NoTr l) (D : va_G) (dA : Nat → ClassId) (cT : ClassId) (zs zu ze : Nat) (rk L : Nat) (f : Nat → Int32) (iv : Int32) : TC l yX0_cellOf cX0_cellOf 3 (some .int) 8 10260 3 900 (K7 D dA cT zs zu ze) [.ref rk, .int 1, .int iv] (fun H => TH cT zs zu ze H ∧ va_P D vwCl [(rk, .inl (dA 2, L, .inl f))] H) (fun _ => False) "java/lang/ClassCastException" := by
  refine TC.of (by decide) (Nat.le_of_ble_eq_true rfl) ?_
  intro p e s m below meth c ls S hr hlk htab hK7 hPre hl
  have hx := S.1
  have hb := S.2.1
  have hK6 := hK7.1
  have hK := hK7.1.1.1
  have hl : lv_has ls 3 [(0, .ref rk), (1, .int 1), (2, .int iv)] := hl
  refine W.adm (fun hadm => ?_)
  refine lv_iload_n hx hb dX0_cellOf_0 rfl (lv_at hl 1 rfl) ?_
  refine lv_if_ne (tgt := 13) hx hb dX0_cellOf_1 (by decide) (fun c_1 => ?_) (fun c_1 => absurd c_1 (by decide))
  refine lv_iload_n hx hb dX0_cellOf_13 rfl (lv_at hl 1 rfl) ?_
  refine lv_iconst (v := 1) hx hb dX0_cellOf_14 (by decide) ?_
  refine lv_icmp_ne (tgt := 27) hx hb dX0_cellOf_15 (by decide) (fun c_2 => absurd (by decide) c_2) (fun c_2 => ?_)
  refine lv_aload_n hx hb dX0_cellOf_18 rfl (lv_at hl 0 rfl) ?_
  exact tz_cast S (hfl e hadm) hK7.2.2.1 (hK7.2.1 0 _ rfl) (by decide +kernel) (S.2.2.2.2 _ q824) (cce_all S.2.2.2.2 hK6 hPre.1) (fun _ h => by cases h) (fun _ h => by cases h) (rowCell hPre.2 (va_nm_byte (hK.2 2 (dA 2, .byte) rfl).2)) hl.1 htab hlk (by decide) (Nat.le_of_ble_eq_true rfl) (by decide) (by decide) dX0_cellOf_19
set_option maxHeartbeats 4000000 in
theorem t0_cellC12 (l : Launch) (hfl : NoTr l) (D : va_G) (dA : Nat → ClassId) (cT : ClassId) (zs zu ze : Nat) (rk L : Nat) (f : Nat → Int32) (iv : Int32) : TC l yX0_cellOf cX0_cellOf 3 (some .int) 8 10260 3 900 (K7 D dA cT zs zu ze) [.ref rk, .int 1, .int iv] (fun H => TH cT zs zu ze H ∧ va_P D vwCl [(rk, .inl (dA 0, L, .inl f))] H) (fun _ => False) "java/lang/ClassCastException" := by
  refine TC.of (by decide) (Nat.le_of_ble_eq_true rfl) ?_
  intro p e s m below meth c ls S hr hlk htab hK7 hPre hl
  have hx := S.1
  have hb := S.2.1
  have hK6 := hK7.1
  have hK := hK7.1.1.1
  have hl : lv_has ls 3 [(0, .ref rk), (1, .int 1), (2, .int iv)] := hl
  refine W.adm (fun hadm => ?_)
  refine lv_iload_n hx hb dX0_cellOf_0 rfl (lv_at hl 1 rfl) ?_
  refine lv_if_ne (tgt := 13) hx hb dX0_cellOf_1 (by decide) (fun c_1 => ?_) (fun c_1 => absurd c_1 (by decide))
  refine lv_iload_n hx hb dX0_cellOf_13 rfl (lv_at hl 1 rfl) ?_
  refine lv_iconst (v := 1) hx hb dX0_cellOf_14 (by decide) ?_
  refine lv_icmp_ne (tgt := 27) hx hb dX0_cellOf_15 (by decide) (fun c_2 => absurd (by decide) c_2) (fun c_2 => ?_)
  refine lv_aload_n hx hb dX0_cellOf_18 rfl (lv_at hl 0 rfl) ?_
  exact tz_cast S (hfl e hadm) hK7.2.2.1 (hK7.2.1 5 _ rfl) (by decide +kernel) (S.2.2.2.2 _ q824) (cce_all S.2.2.2.2 hK6 hPre.1) (fun _ h => by cases h) (fun _ h => by cases h) (rowCell hPre.2 (va_nm_int (hK.2 0 (dA 0, .int) rfl).2)) hl.1 htab hlk (by decide) (Nat.le_of_ble_eq_true rfl) (by decide) (by decide) dX0_cellOf_19
set_option maxHeartbeats 4000000 in
theorem t0_cellC20 (l : Launch) (hfl : NoTr l) (D : va_G) (dA : Nat → ClassId) (cT : ClassId) (zs zu ze : Nat) (rk L : Nat) (f : Nat → Int32) (iv : Int32) : TC l yX0_cellOf cX0_cellOf 3 (some .int) 8 10260 3 900 (K7 D dA cT zs zu ze) [.ref rk, .int 2, .int iv] (fun H => TH cT zs zu ze H ∧ va_P D vwCl [(rk, .inl (dA 2, L, .inl f))] H) (fun _ => False) "java/lang/ClassCastException" := by
  refine TC.of (by decide) (Nat.le_of_ble_eq_true rfl) ?_
  intro p e s m below meth c ls S hr hlk htab hK7 hPre hl
  have hx := S.1
  have hb := S.2.1
  have hK6 := hK7.1
  have hK := hK7.1.1.1
  have hl : lv_has ls 3 [(0, .ref rk), (1, .int 2), (2, .int iv)] := hl
  refine W.adm (fun hadm => ?_)
  refine lv_iload_n hx hb dX0_cellOf_0 rfl (lv_at hl 1 rfl) ?_
  refine lv_if_ne (tgt := 13) hx hb dX0_cellOf_1 (by decide) (fun c_1 => ?_) (fun c_1 => absurd c_1 (by decide))
  refine lv_iload_n hx hb dX0_cellOf_13 rfl (lv_at hl 1 rfl) ?_
  refine lv_iconst (v := 1) hx hb dX0_cellOf_14 (by decide) ?_
  refine lv_icmp_ne (tgt := 27) hx hb dX0_cellOf_15 (by decide) (fun c_2 => ?_) (fun c_2 => absurd c_2 (by decide))
  refine lv_aload_n hx hb dX0_cellOf_27 rfl (lv_at hl 0 rfl) ?_
  exact tz_cast S (hfl e hadm) hK7.2.2.1 (hK7.2.1 1 _ rfl) (by decide +kernel) (S.2.2.2.2 _ q636) (cce_all S.2.2.2.2 hK6 hPre.1) (fun _ h => by cases h) (fun _ h => by cases h) (rowCell hPre.2 (va_nm_byte (hK.2 2 (dA 2, .byte) rfl).2)) hl.1 htab hlk (by decide) (Nat.le_of_ble_eq_true rfl) (by decide) (by decide) dX0_cellOf_28
set_option maxHeartbeats 4000000 in
theorem t0_cellC21 (l : Launch) (hfl : NoTr l) (D : va_G) (dA : Nat → ClassId) (cT : ClassId) (zs zu ze : Nat) (rk L : Nat) (f : Nat → Int32) (iv : Int32) : TC l yX0_cellOf cX0_cellOf 3 (some .int) 8 10260 3 900 (K7 D dA cT zs zu ze) [.ref rk, .int 2, .int iv] (fun H => TH cT zs zu ze H ∧ va_P D vwCl [(rk, .inl (dA 3, L, .inl f))] H) (fun _ => False) "java/lang/ClassCastException" := by
  refine TC.of (by decide) (Nat.le_of_ble_eq_true rfl) ?_
  intro p e s m below meth c ls S hr hlk htab hK7 hPre hl
  have hx := S.1
  have hb := S.2.1
  have hK6 := hK7.1
  have hK := hK7.1.1.1
  have hl : lv_has ls 3 [(0, .ref rk), (1, .int 2), (2, .int iv)] := hl
  refine W.adm (fun hadm => ?_)
  refine lv_iload_n hx hb dX0_cellOf_0 rfl (lv_at hl 1 rfl) ?_
  refine lv_if_ne (tgt := 13) hx hb dX0_cellOf_1 (by decide) (fun c_1 => ?_) (fun c_1 => absurd c_1 (by decide))
  refine lv_iload_n hx hb dX0_cellOf_13 rfl (lv_at hl 1 rfl) ?_
  refine lv_iconst (v := 1) hx hb dX0_cellOf_14 (by decide) ?_
  refine lv_icmp_ne (tgt := 27) hx hb dX0_cellOf_15 (by decide) (fun c_2 => ?_) (fun c_2 => absurd c_2 (by decide))
  refine lv_aload_n hx hb dX0_cellOf_27 rfl (lv_at hl 0 rfl) ?_
  exact tz_cast S (hfl e hadm) hK7.2.2.1 (hK7.2.1 3 _ rfl) (by decide +kernel) (S.2.2.2.2 _ q636) (cce_all S.2.2.2.2 hK6 hPre.1) (fun _ h => by cases h) (fun _ h => by cases h) (rowCell hPre.2 (va_nm_short (hK.2 3 (dA 3, .short) rfl).2)) hl.1 htab hlk (by decide) (Nat.le_of_ble_eq_true rfl) (by decide) (by decide) dX0_cellOf_28
set_option maxHeartbeats 4000000 in
theorem t0_sizeC01 (l : Launch) (hfl : NoTr l) (D : va_G) (dA : Nat → ClassId) (cT : ClassId) (zs zu ze : Nat) (rk L : Nat) (f : Nat → Int32) : TC l yX0_sizeOf cX0_sizeOf 2 (some .int) 8 10260 3 900 (K7 D dA cT zs zu ze) [.ref rk, .int 0] (fun H => TH cT zs zu ze H ∧ va_P D vwCl [(rk, .inl (dA 3, L, .inl f))] H) (fun _ => False) "java/lang/ClassCastException" := by
  refine TC.of (by decide) (Nat.le_of_ble_eq_true rfl) ?_
  intro p e s m below meth c ls S hr hlk htab hK7 hPre hl
  have hx := S.1
  have hb := S.2.1
  have hK6 := hK7.1
  have hK := hK7.1.1.1
  have hl : lv_has ls 2 [(0, .ref rk), (1, .int 0)] := hl
  refine W.adm (fun hadm => ?_)
  refine lv_iload_n hx hb dX0_sizeOf_0 rfl (lv_at hl 1 rfl) ?_
  refine lv_if_ne (tgt := 12) hx hb dX0_sizeOf_1 (by decide) (fun c_1 => absurd (by decide) c_1) (fun c_1 => ?_)
  refine lv_aload_n hx hb dX0_sizeOf_4 rfl (lv_at hl 0 rfl) ?_
  exact tz_cast S (hfl e hadm) hK7.2.2.1 (hK7.2.1 2 _ rfl) (by decide +kernel) (S.2.2.2.2 _ q823) (cce_all S.2.2.2.2 hK6 hPre.1) (fun _ h => by cases h) (fun _ h => by cases h) (rowCell hPre.2 (va_nm_short (hK.2 3 (dA 3, .short) rfl).2)) hl.1 htab hlk (by decide) (Nat.le_of_ble_eq_true rfl) (by decide) (by decide) dX0_sizeOf_5
set_option maxHeartbeats 4000000 in
theorem t0_sizeC02 (l : Launch) (hfl : NoTr l) (D : va_G) (dA : Nat → ClassId) (cT : ClassId) (zs zu ze : Nat) (rk L : Nat) (f : Nat → Int32) : TC l yX0_sizeOf cX0_sizeOf 2 (some .int) 8 10260 3 900 (K7 D dA cT zs zu ze) [.ref rk, .int 0] (fun H => TH cT zs zu ze H ∧ va_P D vwCl [(rk, .inl (dA 0, L, .inl f))] H) (fun _ => False) "java/lang/ClassCastException" := by
  refine TC.of (by decide) (Nat.le_of_ble_eq_true rfl) ?_
  intro p e s m below meth c ls S hr hlk htab hK7 hPre hl
  have hx := S.1
  have hb := S.2.1
  have hK6 := hK7.1
  have hK := hK7.1.1.1
  have hl : lv_has ls 2 [(0, .ref rk), (1, .int 0)] := hl
  refine W.adm (fun hadm => ?_)
  refine lv_iload_n hx hb dX0_sizeOf_0 rfl (lv_at hl 1 rfl) ?_
  refine lv_if_ne (tgt := 12) hx hb dX0_sizeOf_1 (by decide) (fun c_1 => absurd (by decide) c_1) (fun c_1 => ?_)
  refine lv_aload_n hx hb dX0_sizeOf_4 rfl (lv_at hl 0 rfl) ?_
  exact tz_cast S (hfl e hadm) hK7.2.2.1 (hK7.2.1 4 _ rfl) (by decide +kernel) (S.2.2.2.2 _ q823) (cce_all S.2.2.2.2 hK6 hPre.1) (fun _ h => by cases h) (fun _ h => by cases h) (rowCell hPre.2 (va_nm_int (hK.2 0 (dA 0, .int) rfl).2)) hl.1 htab hlk (by decide) (Nat.le_of_ble_eq_true rfl) (by decide) (by decide) dX0_sizeOf_5
set_option maxHeartbeats 4000000 in
theorem t0_sizeC10 (l : Launch) (hfl : NoTr l) (D : va_G) (dA : Nat → ClassId) (cT : ClassId) (zs zu ze : Nat) (rk L : Nat) (f : Nat → Int32) : TC l yX0_sizeOf cX0_sizeOf 2 (some .int) 8 10260 3 900 (K7 D dA cT zs zu ze) [.ref rk, .int 1] (fun H => TH cT zs zu ze H ∧ va_P D vwCl [(rk, .inl (dA 2, L, .inl f))] H) (fun _ => False) "java/lang/ClassCastException" := by
  refine TC.of (by decide) (Nat.le_of_ble_eq_true rfl) ?_
  intro p e s m below meth c ls S hr hlk htab hK7 hPre hl
  have hx := S.1
  have hb := S.2.1
  have hK6 := hK7.1
  have hK := hK7.1.1.1
  have hl : lv_has ls 2 [(0, .ref rk), (1, .int 1)] := hl
  refine W.adm (fun hadm => ?_)
  refine lv_iload_n hx hb dX0_sizeOf_0 rfl (lv_at hl 1 rfl) ?_
  refine lv_if_ne (tgt := 12) hx hb dX0_sizeOf_1 (by decide) (fun c_1 => ?_) (fun c_1 => absurd c_1 (by decide))
  refine lv_iload_n hx hb dX0_sizeOf_12 rfl (lv_at hl 1 rfl) ?_
  refine lv_iconst (v := 1) hx hb dX0_sizeOf_13 (by decide) ?_
  refine lv_icmp_ne (tgt := 25) hx hb dX0_sizeOf_14 (by decide) (fun c_2 => absurd (by decide) c_2) (fun c_2 => ?_)
  refine lv_aload_n hx hb dX0_sizeOf_17 rfl (lv_at hl 0 rfl) ?_
  exact tz_cast S (hfl e hadm) hK7.2.2.1 (hK7.2.1 0 _ rfl) (by decide +kernel) (S.2.2.2.2 _ q824) (cce_all S.2.2.2.2 hK6 hPre.1) (fun _ h => by cases h) (fun _ h => by cases h) (rowCell hPre.2 (va_nm_byte (hK.2 2 (dA 2, .byte) rfl).2)) hl.1 htab hlk (by decide) (Nat.le_of_ble_eq_true rfl) (by decide) (by decide) dX0_sizeOf_18
set_option maxHeartbeats 4000000 in
theorem t0_sizeC12 (l : Launch) (hfl : NoTr l) (D : va_G) (dA : Nat → ClassId) (cT : ClassId) (zs zu ze : Nat) (rk L : Nat) (f : Nat → Int32) : TC l yX0_sizeOf cX0_sizeOf 2 (some .int) 8 10260 3 900 (K7 D dA cT zs zu ze) [.ref rk, .int 1] (fun H => TH cT zs zu ze H ∧ va_P D vwCl [(rk, .inl (dA 0, L, .inl f))] H) (fun _ => False) "java/lang/ClassCastException" := by
  refine TC.of (by decide) (Nat.le_of_ble_eq_true rfl) ?_
  intro p e s m below meth c ls S hr hlk htab hK7 hPre hl
  have hx := S.1
  have hb := S.2.1
  have hK6 := hK7.1
  have hK := hK7.1.1.1
  have hl : lv_has ls 2 [(0, .ref rk), (1, .int 1)] := hl
  refine W.adm (fun hadm => ?_)
  refine lv_iload_n hx hb dX0_sizeOf_0 rfl (lv_at hl 1 rfl) ?_
  refine lv_if_ne (tgt := 12) hx hb dX0_sizeOf_1 (by decide) (fun c_1 => ?_) (fun c_1 => absurd c_1 (by decide))
  refine lv_iload_n hx hb dX0_sizeOf_12 rfl (lv_at hl 1 rfl) ?_
  refine lv_iconst (v := 1) hx hb dX0_sizeOf_13 (by decide) ?_
  refine lv_icmp_ne (tgt := 25) hx hb dX0_sizeOf_14 (by decide) (fun c_2 => absurd (by decide) c_2) (fun c_2 => ?_)
  refine lv_aload_n hx hb dX0_sizeOf_17 rfl (lv_at hl 0 rfl) ?_
  exact tz_cast S (hfl e hadm) hK7.2.2.1 (hK7.2.1 5 _ rfl) (by decide +kernel) (S.2.2.2.2 _ q824) (cce_all S.2.2.2.2 hK6 hPre.1) (fun _ h => by cases h) (fun _ h => by cases h) (rowCell hPre.2 (va_nm_int (hK.2 0 (dA 0, .int) rfl).2)) hl.1 htab hlk (by decide) (Nat.le_of_ble_eq_true rfl) (by decide) (by decide) dX0_sizeOf_18
set_option maxHeartbeats 4000000 in
theorem t0_sizeC20 (l : Launch) (hfl : NoTr l) (D : va_G) (dA : Nat → ClassId) (cT : ClassId) (zs zu ze : Nat) (rk L : Nat) (f : Nat → Int32) : TC l yX0_sizeOf cX0_sizeOf 2 (some .int) 8 10260 3 900 (K7 D dA cT zs zu ze) [.ref rk, .int 2] (fun H => TH cT zs zu ze H ∧ va_P D vwCl [(rk, .inl (dA 2, L, .inl f))] H) (fun _ => False) "java/lang/ClassCastException" := by
  refine TC.of (by decide) (Nat.le_of_ble_eq_true rfl) ?_
  intro p e s m below meth c ls S hr hlk htab hK7 hPre hl
  have hx := S.1
  have hb := S.2.1
  have hK6 := hK7.1
  have hK := hK7.1.1.1
  have hl : lv_has ls 2 [(0, .ref rk), (1, .int 2)] := hl
  refine W.adm (fun hadm => ?_)
  refine lv_iload_n hx hb dX0_sizeOf_0 rfl (lv_at hl 1 rfl) ?_
  refine lv_if_ne (tgt := 12) hx hb dX0_sizeOf_1 (by decide) (fun c_1 => ?_) (fun c_1 => absurd c_1 (by decide))
  refine lv_iload_n hx hb dX0_sizeOf_12 rfl (lv_at hl 1 rfl) ?_
  refine lv_iconst (v := 1) hx hb dX0_sizeOf_13 (by decide) ?_
  refine lv_icmp_ne (tgt := 25) hx hb dX0_sizeOf_14 (by decide) (fun c_2 => ?_) (fun c_2 => absurd c_2 (by decide))
  refine lv_aload_n hx hb dX0_sizeOf_25 rfl (lv_at hl 0 rfl) ?_
  exact tz_cast S (hfl e hadm) hK7.2.2.1 (hK7.2.1 1 _ rfl) (by decide +kernel) (S.2.2.2.2 _ q636) (cce_all S.2.2.2.2 hK6 hPre.1) (fun _ h => by cases h) (fun _ h => by cases h) (rowCell hPre.2 (va_nm_byte (hK.2 2 (dA 2, .byte) rfl).2)) hl.1 htab hlk (by decide) (Nat.le_of_ble_eq_true rfl) (by decide) (by decide) dX0_sizeOf_26
set_option maxHeartbeats 4000000 in
theorem t0_sizeC21 (l : Launch) (hfl : NoTr l) (D : va_G) (dA : Nat → ClassId) (cT : ClassId) (zs zu ze : Nat) (rk L : Nat) (f : Nat → Int32) : TC l yX0_sizeOf cX0_sizeOf 2 (some .int) 8 10260 3 900 (K7 D dA cT zs zu ze) [.ref rk, .int 2] (fun H => TH cT zs zu ze H ∧ va_P D vwCl [(rk, .inl (dA 3, L, .inl f))] H) (fun _ => False) "java/lang/ClassCastException" := by
  refine TC.of (by decide) (Nat.le_of_ble_eq_true rfl) ?_
  intro p e s m below meth c ls S hr hlk htab hK7 hPre hl
  have hx := S.1
  have hb := S.2.1
  have hK6 := hK7.1
  have hK := hK7.1.1.1
  have hl : lv_has ls 2 [(0, .ref rk), (1, .int 2)] := hl
  refine W.adm (fun hadm => ?_)
  refine lv_iload_n hx hb dX0_sizeOf_0 rfl (lv_at hl 1 rfl) ?_
  refine lv_if_ne (tgt := 12) hx hb dX0_sizeOf_1 (by decide) (fun c_1 => ?_) (fun c_1 => absurd c_1 (by decide))
  refine lv_iload_n hx hb dX0_sizeOf_12 rfl (lv_at hl 1 rfl) ?_
  refine lv_iconst (v := 1) hx hb dX0_sizeOf_13 (by decide) ?_
  refine lv_icmp_ne (tgt := 25) hx hb dX0_sizeOf_14 (by decide) (fun c_2 => ?_) (fun c_2 => absurd c_2 (by decide))
  refine lv_aload_n hx hb dX0_sizeOf_25 rfl (lv_at hl 0 rfl) ?_
  exact tz_cast S (hfl e hadm) hK7.2.2.1 (hK7.2.1 3 _ rfl) (by decide +kernel) (S.2.2.2.2 _ q636) (cce_all S.2.2.2.2 hK6 hPre.1) (fun _ h => by cases h) (fun _ h => by cases h) (rowCell hPre.2 (va_nm_short (hK.2 3 (dA 3, .short) rfl).2)) hl.1 htab hlk (by decide) (Nat.le_of_ble_eq_true rfl) (by decide) (by decide) dX0_sizeOf_26
