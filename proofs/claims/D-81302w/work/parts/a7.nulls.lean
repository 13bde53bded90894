/-! NULLS: cells and sizes of rows that are not there (by program: gen/mkthrow.py) -/
set_option maxRecDepth 100000
set_option maxHeartbeats 4000000 in
theorem t0_cellN1 (l : Launch) (hfl : NoTr l) (D : va_G) (dA : Nat → ClassId) (cT : ClassId) (zs zu ze : Nat) (iv : Int32) : TC l yX0_cellOf cX0_cellOf 3 (some .int) 8 10260 1 8 (K6 D dA cT zs zu ze) [.null, .int 1, .int iv] (TH cT zs zu ze) (fun _ => False) "java/lang/NullPointerException" := by
  refine TC.of (by decide) (Nat.le_of_ble_eq_true rfl) ?_
  intro p e s m below meth c ls S hr hlk htab hK hTH hl
  have hx := S.1
  have hb := S.2.1
  have hl : lv_has ls 3 [(0, .null), (1, .int 1), (2, .int iv)] := hl
  refine W.adm (fun hadm => ?_)
  refine lv_iload_n hx hb dX0_cellOf_0 rfl (lv_at hl 1 rfl) ?_
  refine lv_if_ne (tgt := 13) hx hb dX0_cellOf_1 (by decide) (fun c_1 => ?_) (fun c_1 => absurd c_1 (by decide))
  refine lv_iload_n hx hb dX0_cellOf_13 rfl (lv_at hl 1 rfl) ?_
  refine lv_iconst (v := 1) hx hb dX0_cellOf_14 (by decide) ?_
  refine lv_icmp_ne (tgt := 27) hx hb dX0_cellOf_15 (by decide) (fun c_2 => absurd (by decide) c_2) (fun c_2 => ?_)
  refine lv_aload_nN hx hb dX0_cellOf_18 rfl (lv_at hl 0 rfl) ?_
  refine lv_castN hx hb dX0_cellOf_19 ?_
  refine lv_iload_n hx hb dX0_cellOf_22 rfl (lv_at hl 2 rfl) ?_
  exact tz_npe (g := F0 m 23 ls []) hx (hfl e hadm) (npe_all S.2.2.2.2 hK hTH) (fun _ h => by cases h) (fun _ h => by cases h) rfl (hl.1.trans S.2.2.1.symm) rfl rfl htab hlk (by decide) (Nat.le_of_ble_eq_true rfl) (by decide) (by decide) (fun T _ X target h => X.saloadNull hx (g := F0 m 23 ls [.int iv, .null]) rfl rfl (by rw [hb]; exact dX0_cellOf_23) target h)
set_option maxHeartbeats 4000000 in
theorem t0_cellN2 (l : Launch) (hfl : NoTr l) (D : va_G) (dA : Nat → ClassId) (cT : ClassId) (zs zu ze : Nat) (iv : Int32) : TC l yX0_cellOf cX0_cellOf 3 (some .int) 8 10260 1 8 (K6 D dA cT zs zu ze) [.null, .int 2, .int iv] (TH cT zs zu ze) (fun _ => False) "java/lang/NullPointerException" := by
  refine TC.of (by decide) (Nat.le_of_ble_eq_true rfl) ?_
  intro p e s m below meth c ls S hr hlk htab hK hTH hl
  have hx := S.1
  have hb := S.2.1
  have hl : lv_has ls 3 [(0, .null), (1, .int 2), (2, .int iv)] := hl
  refine W.adm (fun hadm => ?_)
  refine lv_iload_n hx hb dX0_cellOf_0 rfl (lv_at hl 1 rfl) ?_
  refine lv_if_ne (tgt := 13) hx hb dX0_cellOf_1 (by decide) (fun c_1 => ?_) (fun c_1 => absurd c_1 (by decide))
  refine lv_iload_n hx hb dX0_cellOf_13 rfl (lv_at hl 1 rfl) ?_
  refine lv_iconst (v := 1) hx hb dX0_cellOf_14 (by decide) ?_
  refine lv_icmp_ne (tgt := 27) hx hb dX0_cellOf_15 (by decide) (fun c_2 => ?_) (fun c_2 => absurd c_2 (by decide))
  refine lv_aload_nN hx hb dX0_cellOf_27 rfl (lv_at hl 0 rfl) ?_
  refine lv_castN hx hb dX0_cellOf_28 ?_
  refine lv_iload_n hx hb dX0_cellOf_31 rfl (lv_at hl 2 rfl) ?_
  exact tz_npe (g := F0 m 32 ls []) hx (hfl e hadm) (npe_all S.2.2.2.2 hK hTH) (fun _ h => by cases h) (fun _ h => by cases h) rfl (hl.1.trans S.2.2.1.symm) rfl rfl htab hlk (by decide) (Nat.le_of_ble_eq_true rfl) (by decide) (by decide) (fun T _ X target h => X.ialoadNull hx (g := F0 m 32 ls [.int iv, .null]) rfl rfl (by rw [hb]; exact dX0_cellOf_32) target h)
set_option maxHeartbeats 4000000 in
theorem t0_sizeN0 (l : Launch) (hfl : NoTr l) (D : va_G) (dA : Nat → ClassId) (cT : ClassId) (zs zu ze : Nat) : TC l yX0_sizeOf cX0_sizeOf 2 (some .int) 8 10260 1 8 (K6 D dA cT zs zu ze) [.null, .int 0] (TH cT zs zu ze) (fun _ => False) "java/lang/NullPointerException" := by
  refine TC.of (by decide) (Nat.le_of_ble_eq_true rfl) ?_
  intro p e s m below meth c ls S hr hlk htab hK hTH hl
  have hx := S.1
  have hb := S.2.1
  have hl : lv_has ls 2 [(0, .null), (1, .int 0)] := hl
  refine W.adm (fun hadm => ?_)
  refine lv_iload_n hx hb dX0_sizeOf_0 rfl (lv_at hl 1 rfl) ?_
  refine lv_if_ne (tgt := 12) hx hb dX0_sizeOf_1 (by decide) (fun c_1 => absurd (by decide) c_1) (fun c_1 => ?_)
  refine lv_aload_nN hx hb dX0_sizeOf_4 rfl (lv_at hl 0 rfl) ?_
  refine lv_castN hx hb dX0_sizeOf_5 ?_
  exact tz_npe (g := F0 m 8 ls []) hx (hfl e hadm) (npe_all S.2.2.2.2 hK hTH) (fun _ h => by cases h) (fun _ h => by cases h) rfl (hl.1.trans S.2.2.1.symm) rfl rfl htab hlk (by decide) (Nat.le_of_ble_eq_true rfl) (by decide) (by decide) (fun T _ X target h => X.arraylengthNull hx (g := F0 m 8 ls [.null]) rfl rfl (by rw [hb]; exact dX0_sizeOf_8) target h)
set_option maxHeartbeats 4000000 in
theorem t0_sizeN1 (l : Launch) (hfl : NoTr l) (D : va_G) (dA : Nat → ClassId) (cT : ClassId) (zs zu ze : Nat) : TC l yX0_sizeOf cX0_sizeOf 2 (some .int) 8 10260 1 8 (K6 D dA cT zs zu ze) [.null, .int 1] (TH cT zs zu ze) (fun _ => False) "java/lang/NullPointerException" := by
  refine TC.of (by decide) (Nat.le_of_ble_eq_true rfl) ?_
  intro p e s m below meth c ls S hr hlk htab hK hTH hl
  have hx := S.1
  have hb := S.2.1
  have hl : lv_has ls 2 [(0, .null), (1, .int 1)] := hl
  refine W.adm (fun hadm => ?_)
  refine lv_iload_n hx hb dX0_sizeOf_0 rfl (lv_at hl 1 rfl) ?_
  refine lv_if_ne (tgt := 12) hx hb dX0_sizeOf_1 (by decide) (fun c_1 => ?_) (fun c_1 => absurd c_1 (by decide))
  refine lv_iload_n hx hb dX0_sizeOf_12 rfl (lv_at hl 1 rfl) ?_
  refine lv_iconst (v := 1) hx hb dX0_sizeOf_13 (by decide) ?_
  refine lv_icmp_ne (tgt := 25) hx hb dX0_sizeOf_14 (by decide) (fun c_2 => absurd (by decide) c_2) (fun c_2 => ?_)
  refine lv_aload_nN hx hb dX0_sizeOf_17 rfl (lv_at hl 0 rfl) ?_
  refine lv_castN hx hb dX0_sizeOf_18 ?_
  exact tz_npe (g := F0 m 21 ls []) hx (hfl e hadm) (npe_all S.2.2.2.2 hK hTH) (fun _ h => by cases h) (fun _ h => by cases h) rfl (hl.1.trans S.2.2.1.symm) rfl rfl htab hlk (by decide) (Nat.le_of_ble_eq_true rfl) (by decide) (by decide) (fun T _ X target h => X.arraylengthNull hx (g := F0 m 21 ls [.null]) rfl rfl (by rw [hb]; exact dX0_sizeOf_21) target h)
set_option maxHeartbeats 4000000 in
theorem t0_sizeN2 (l : Launch) (hfl : NoTr l) (D : va_G) (dA : Nat → ClassId) (cT : ClassId) (zs zu ze : Nat) : TC l yX0_sizeOf cX0_sizeOf 2 (some .int) 8 10260 1 8 (K6 D dA cT zs zu ze) [.null, .int 2] (TH cT zs zu ze) (fun _ => False) "java/lang/NullPointerException" := by
  refine TC.of (by decide) (Nat.le_of_ble_eq_true rfl) ?_
  intro p e s m below meth c ls S hr hlk htab hK hTH hl
  have hx := S.1
  have hb := S.2.1
  have hl : lv_has ls 2 [(0, .null), (1, .int 2)] := hl
  refine W.adm (fun hadm => ?_)
  refine lv_iload_n hx hb dX0_sizeOf_0 rfl (lv_at hl 1 rfl) ?_
  refine lv_if_ne (tgt := 12) hx hb dX0_sizeOf_1 (by decide) (fun c_1 => ?_) (fun c_1 => absurd c_1 (by decide))
  refine lv_iload_n hx hb dX0_sizeOf_12 rfl (lv_at hl 1 rfl) ?_
  refine lv_iconst (v := 1) hx hb dX0_sizeOf_13 (by decide) ?_
  refine lv_icmp_ne (tgt := 25) hx hb dX0_sizeOf_14 (by decide) (fun c_2 => ?_) (fun c_2 => absurd c_2 (by decide))
  refine lv_aload_nN hx hb dX0_sizeOf_25 rfl (lv_at hl 0 rfl) ?_
  refine lv_castN hx hb dX0_sizeOf_26 ?_
  exact tz_npe (g := F0 m 29 ls []) hx (hfl e hadm) (npe_all S.2.2.2.2 hK hTH) (fun _ h => by cases h) (fun _ h => by cases h) rfl (hl.1.trans S.2.2.1.symm) rfl rfl htab hlk (by decide) (Nat.le_of_ble_eq_true rfl) (by decide) (by decide) (fun T _ X target h => X.arraylengthNull hx (g := F0 m 29 ls [.null]) rfl rfl (by rw [hb]; exact dX0_sizeOf_29) target h)
