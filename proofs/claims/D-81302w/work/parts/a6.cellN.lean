/-! CELLN: a cell of a row that is not there -/
set_option maxRecDepth 100000
theorem npe_all {D : va_G} {dA : Nat → ClassId} {cT : ClassId} {zs zu ze : Nat} {s : State} {args : Array Value} (hts : ∀ w ∈ lw_all, w.before args s = true) (hK : K6 D dA cT zs zu ze s) (hT : TH cT zs zu ze s.heap) : ∀ a ∈ Bundle.npeArmAtoms 8, a.before args s = true := npe_ok hts hK.1.2 hK.2.1 hT.1 hK.2.2 hT.2
set_option maxHeartbeats 4000000 in
theorem t0_cellN0 (l : Launch) (hfl : NoTr l) (D : va_G) (dA : Nat → ClassId) (cT : ClassId) (zs zu ze : Nat) (iv : Int32) : TC l yX0_cellOf cX0_cellOf 3 (some .int) 8 10260 1 8 (K6 D dA cT zs zu ze) [.null, .int 0, .int iv] (TH cT zs zu ze) (fun _ => False) "java/lang/NullPointerException" := by
  refine TC.of (by decide) (Nat.le_of_ble_eq_true rfl) ?_
  intro p e s m below meth c ls S hr hlk htab hK hTH hl
  have hx := S.1
  have hb := S.2.1
  have hl : lv_has ls 3 [(0, .null), (1, .int 0), (2, .int iv)] := hl
  refine W.adm (fun hadm => ?_)
  refine lv_iload_n hx hb dX0_cellOf_0 rfl (lv_at hl 1 rfl) ?_
  refine lv_if_ne (tgt := 13) hx hb dX0_cellOf_1 (by decide) (fun c_1 => absurd (by decide) c_1) (fun c_1 => ?_)
  refine lv_aload_nN hx hb dX0_cellOf_4 rfl (lv_at hl 0 rfl) ?_
  refine lv_castN hx hb dX0_cellOf_5 ?_
  refine lv_iload_n hx hb dX0_cellOf_8 rfl (lv_at hl 2 rfl) ?_
  exact tz_npe (g := F0 m 9 ls []) hx (hfl e hadm) (npe_all S.2.2.2.2 hK hTH) (fun _ h => by cases h) (fun _ h => by cases h) rfl (hl.1.trans S.2.2.1.symm) rfl rfl htab hlk (by decide) (Nat.le_of_ble_eq_true rfl) (by decide) (by decide) (fun T _ X target h => X.baloadNull hx (g := F0 m 9 ls [.int iv, .null]) rfl rfl (by rw [hb]; exact dX0_cellOf_9) target h)
