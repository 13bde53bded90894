/-! COMPONENT 47: a net is read out of a sheet (by program: gen/comp47.py) -/
set_option maxRecDepth 100000
def KA (D : va_G) (dA : Nat → ClassId) (mi zl zf : Nat) (cT : ClassId) (zs zu ze : Nat) (U : State) : Prop := K4 D dA mi zl zf U ∧ K7 D dA cT zs zu ze U
theorem Wm_KA {D : va_G} {dA : Nat → ClassId} {mi zl zf : Nat} {cT : ClassId} {zs zu ze : Nat} : Wm (KA D dA mi zl zf cT zs zu ze) := fun _ _ hW h => ⟨Wm_K4 _ _ hW h.1, Wm_K7 _ _ hW h.2⟩
set_option maxHeartbeats 4000000 in
theorem t3_doneN (l : Launch) (hfl : NoTr l) (D : va_G) (dA : Nat → ClassId) (cT : ClassId) (zs zu ze : Nat) (a : Nat → Nat) (σ : MS) (sh : Shs) (so ro : Nat → Nat) (b k w : Nat) (iv nv : Int32) (hk : k < 4) (hw : w < 3) (hs : sh k = none) : TC l yX3_done cX3_done 1 (some .int) 11 10400 1 8 (K7 D dA cT zs zu ze) [.ref b] (fun H => va_P D vwCl [(b, .inr (8, [.ref (a 0), .int (nI k), .int (nI w), .int iv, .int nv, .ref (a 0)]))] H ∧ va_P D vwCl (kW dA a σ) H ∧ SHT D dA (a 14) sh so ro H ∧ TH cT zs zu ze H) (fun _ => False) "java/lang/NullPointerException" := by
  refine TC.of (by decide) (Nat.le_of_ble_eq_true rfl) ?_
  intro p e s m below meth c ls S hr hlk htab hK7 hPre hl
  have hK2 := hK7.1.1
  have hK := hK2.1
  have hx := S.1
  have hb := S.2.1
  have hl : lv_has ls 1 [(0, .ref b)] := hl
  have hS : va_S (fun _ => False) s.heap s.heap [] := va_S.rf
  obtain ⟨hPb, hP, hSH, hTH⟩ := hPre
  refine lv_aload_n hx hb dX3_done_0 rfl (lv_at hl 0 rfl) ?_
  refine va_get (v := .ref (a 0)) (D := D) (ci := 8) (C := RX3) (T := TX3) (N := 6) S.1 S.2.1 S.2.2.2.2 in_X3 S.2.2.2.1 hK hPb 0 rfl rfl 5 (by decide) (S.2.2.2.2 _ q871) (fun _ h9 => h9) rfl dX3_done_1 ?_
  refine lv_aload_n hx hb dX3_done_4 rfl (lv_at hl 0 rfl) ?_
  refine va_get (v := .ref (a 0)) (D := D) (ci := 8) (C := RX3) (T := TX3) (N := 6) S.1 S.2.1 S.2.2.2.2 in_X3 S.2.2.2.1 hK hPb 0 rfl rfl 5 (by decide) (S.2.2.2.2 _ q871) (fun _ h9 => h9) rfl dX3_done_5 ?_
  refine lv_aload_n hx hb dX3_done_8 rfl (lv_at hl 0 rfl) ?_
  refine va_get (v := .int (nI k)) (D := D) (ci := 8) (C := RX3) (T := TX3) (N := 6) S.1 S.2.1 S.2.2.2.2 in_X3 S.2.2.2.1 hK hPb 0 rfl rfl 1 (by decide) (S.2.2.2.2 _ q867) (fun _ h9 => h9) rfl dX3_done_9 ?_
  refine rc2_VN (b := a 0) (C := RX0) (rest := [.ref (a 0)]) [.int (nI k)] 1 S hK2 (RC.k2 (r0_rowIn l D dA a σ sh so ro k hk)) q846 q60 (hK2.2.1 _ q921 rfl) q845 qs27 (by decide +kernel) rfl ⟨Nat.le_of_ble_eq_true rfl, Nat.le_of_ble_eq_true rfl⟩ (k_recv hK hP) hl.1 (Nat.le_of_ble_eq_true rfl) dX3_done_12 ⟨Nat.le_of_ble_eq_true rfl, Nat.le_of_ble_eq_true rfl⟩ ⟨hP, hSH⟩ (fun v9 hv9 => ?_) rfl
  subst hv9
  refine W.eq (g2 := F0 m 15 ls [shV sh ro k, .ref (a 0)]) rfl ?_
  refine lv_aload_n hx hb dX3_done_15 rfl (lv_at hl 0 rfl) ?_
  refine va_get (v := .int (nI w)) (D := D) (ci := 8) (C := RX3) (T := TX3) (N := 6) S.1 S.2.1 S.2.2.2.2 in_X3 S.2.2.2.1 hK hPb 0 rfl rfl 2 (by decide) (S.2.2.2.2 _ q868) (fun _ h9 => h9) rfl dX3_done_16 ?_
  refine lv_aload_n hx hb dX3_done_19 rfl (lv_at hl 0 rfl) ?_
  refine va_get (v := .int iv) (D := D) (ci := 8) (C := RX3) (T := TX3) (N := 6) S.1 S.2.1 S.2.2.2.2 in_X3 S.2.2.2.1 hK hPb 0 rfl rfl 3 (by decide) (S.2.2.2.2 _ q869) (fun _ h9 => h9) rfl dX3_done_20 ?_
  refine lv_aload_n hx hb dX3_done_23 rfl (lv_at hl 0 rfl) ?_
  refine va_get (v := .int nv) (D := D) (ci := 8) (C := RX3) (T := TX3) (N := 6) S.1 S.2.1 S.2.2.2.2 in_X3 S.2.2.2.1 hK hPb 0 rfl rfl 4 (by decide) (S.2.2.2.2 _ q870) (fun _ h9 => h9) rfl dX3_done_24 ?_
  rw [show shV sh ro k = .null by unfold shV; rw [hs]; rfl]
  refine tc_SN (rest := [.ref (a 0)]) [.null, .int (nI w), .int iv, .int nv] 4 S Wm_K7 hK7 hS (fun q h => h) (t0_cellsN l hfl D dA cT zs zu ze w hw iv nv) q924 q60 (hK2.2.1 _ q922 rfl) q923 (by decide +kernel) rfl ⟨Nat.le_of_ble_eq_true rfl, Nat.le_of_ble_eq_true rfl⟩ hl.1 (Nat.le_of_ble_eq_true rfl) dX3_done_27 ⟨Nat.le_of_ble_eq_true rfl, Nat.le_of_ble_eq_true rfl⟩ hTH (fun x9 H locs hx9 hz9 ho9 hS => ?_) rfl
  exact WT.leave rfl rfl rfl htab hlk hx9 hS ⟨Nat.le_of_ble_eq_true rfl, Nat.le_of_ble_eq_true rfl⟩
set_option maxHeartbeats 4000000 in
theorem t3_doneC (l : Launch) (hfl : NoTr l) (D : va_G) (dA : Nat → ClassId) (cT : ClassId) (zs zu ze : Nat) (a : Nat → Nat) (σ : MS) (sh : Shs) (so ro : Nat → Nat) (b k w : Nat) (iv nv : Int32) (hk : k < 4) (hw : w < 3) (u L : Nat) (f : Nat → Int32) (hs : sh k = some (u, L, f)) (hwu : u ≠ w) : TC l yX3_done cX3_done 1 (some .int) 11 10400 3 900 (K7 D dA cT zs zu ze) [.ref b] (fun H => va_P D vwCl [(b, .inr (8, [.ref (a 0), .int (nI k), .int (nI w), .int iv, .int nv, .ref (a 0)]))] H ∧ va_P D vwCl (kW dA a σ) H ∧ SHT D dA (a 14) sh so ro H ∧ TH cT zs zu ze H) (fun _ => False) "java/lang/ClassCastException" := by
  refine TC.of (by decide) (Nat.le_of_ble_eq_true rfl) ?_
  intro p e s m below meth c ls S hr hlk htab hK7 hPre hl
  have hK2 := hK7.1.1
  have hK := hK2.1
  have hx := S.1
  have hb := S.2.1
  have hl : lv_has ls 1 [(0, .ref b)] := hl
  have hS : va_S (fun _ => False) s.heap s.heap [] := va_S.rf
  obtain ⟨hPb, hP, hSH, hTH⟩ := hPre
  refine lv_aload_n hx hb dX3_done_0 rfl (lv_at hl 0 rfl) ?_
  refine va_get (v := .ref (a 0)) (D := D) (ci := 8) (C := RX3) (T := TX3) (N := 6) S.1 S.2.1 S.2.2.2.2 in_X3 S.2.2.2.1 hK hPb 0 rfl rfl 5 (by decide) (S.2.2.2.2 _ q871) (fun _ h9 => h9) rfl dX3_done_1 ?_
  refine lv_aload_n hx hb dX3_done_4 rfl (lv_at hl 0 rfl) ?_
  refine va_get (v := .ref (a 0)) (D := D) (ci := 8) (C := RX3) (T := TX3) (N := 6) S.1 S.2.1 S.2.2.2.2 in_X3 S.2.2.2.1 hK hPb 0 rfl rfl 5 (by decide) (S.2.2.2.2 _ q871) (fun _ h9 => h9) rfl dX3_done_5 ?_
  refine lv_aload_n hx hb dX3_done_8 rfl (lv_at hl 0 rfl) ?_
  refine va_get (v := .int (nI k)) (D := D) (ci := 8) (C := RX3) (T := TX3) (N := 6) S.1 S.2.1 S.2.2.2.2 in_X3 S.2.2.2.1 hK hPb 0 rfl rfl 1 (by decide) (S.2.2.2.2 _ q867) (fun _ h9 => h9) rfl dX3_done_9 ?_
  refine rc2_VN (b := a 0) (C := RX0) (rest := [.ref (a 0)]) [.int (nI k)] 1 S hK2 (RC.k2 (r0_rowIn l D dA a σ sh so ro k hk)) q846 q60 (hK2.2.1 _ q921 rfl) q845 qs27 (by decide +kernel) rfl ⟨Nat.le_of_ble_eq_true rfl, Nat.le_of_ble_eq_true rfl⟩ (k_recv hK hP) hl.1 (Nat.le_of_ble_eq_true rfl) dX3_done_12 ⟨Nat.le_of_ble_eq_true rfl, Nat.le_of_ble_eq_true rfl⟩ ⟨hP, hSH⟩ (fun v9 hv9 => ?_) rfl
  subst hv9
  refine W.eq (g2 := F0 m 15 ls [shV sh ro k, .ref (a 0)]) rfl ?_
  refine lv_aload_n hx hb dX3_done_15 rfl (lv_at hl 0 rfl) ?_
  refine va_get (v := .int (nI w)) (D := D) (ci := 8) (C := RX3) (T := TX3) (N := 6) S.1 S.2.1 S.2.2.2.2 in_X3 S.2.2.2.1 hK hPb 0 rfl rfl 2 (by decide) (S.2.2.2.2 _ q868) (fun _ h9 => h9) rfl dX3_done_16 ?_
  refine lv_aload_n hx hb dX3_done_19 rfl (lv_at hl 0 rfl) ?_
  refine va_get (v := .int iv) (D := D) (ci := 8) (C := RX3) (T := TX3) (N := 6) S.1 S.2.1 S.2.2.2.2 in_X3 S.2.2.2.1 hK hPb 0 rfl rfl 3 (by decide) (S.2.2.2.2 _ q869) (fun _ h9 => h9) rfl dX3_done_20 ?_
  refine lv_aload_n hx hb dX3_done_23 rfl (lv_at hl 0 rfl) ?_
  refine va_get (v := .int nv) (D := D) (ci := 8) (C := RX3) (T := TX3) (N := 6) S.1 S.2.1 S.2.2.2.2 in_X3 S.2.2.2.1 hK hPb 0 rfl rfl 4 (by decide) (S.2.2.2.2 _ q870) (fun _ h9 => h9) rfl dX3_done_24 ?_
  rw [show shV sh ro k = .ref (ro k) by unfold shV; rw [hs]; rfl]
  have hA1 := hSH.2 k hk u L f hs
  refine tc_SN (rest := [.ref (a 0)]) [.ref (ro k), .int (nI w), .int iv, .int nv] 4 S Wm_K7 hK7 hS (fun q h => h) (t0_cellsC l hfl D dA cT zs zu ze w u (ro k) L hw hA1.1 hwu f iv nv) q924 q60 (hK2.2.1 _ q922 rfl) q923 (by decide +kernel) rfl ⟨Nat.le_of_ble_eq_true rfl, Nat.le_of_ble_eq_true rfl⟩ hl.1 (Nat.le_of_ble_eq_true rfl) dX3_done_27 ⟨Nat.le_of_ble_eq_true rfl, Nat.le_of_ble_eq_true rfl⟩ ⟨hTH, hA1.2.2.2⟩ (fun x9 H locs hx9 hz9 ho9 hS => ?_) rfl
  exact WT.leave rfl rfl rfl htab hlk hx9 hS ⟨Nat.le_of_ble_eq_true rfl, Nat.le_of_ble_eq_true rfl⟩
set_option maxHeartbeats 4000000 in
theorem t3_doneS (l : Launch) (hfl : NoTr l) (D : va_G) (dA : Nat → ClassId) (cT : ClassId) (zs zu ze : Nat) (a : Nat → Nat) (σ : MS) (sh : Shs) (so ro : Nat → Nat) (b k w : Nat) (iv nv : Int32) (hk : k < 4) (hw : w < 3) (L : Nat) (f : Nat → Int32) (hs : sh k = some (w, L, f)) (hn : nv < 0) : TC l yX3_done cX3_done 1 (some .int) 11 10400 3 300 (K7 D dA cT zs zu ze) [.ref b] (fun H => va_P D vwCl [(b, .inr (8, [.ref (a 0), .int (nI k), .int (nI w), .int iv, .int nv, .ref (a 0)]))] H ∧ va_P D vwCl (kW dA a σ) H ∧ SHT D dA (a 14) sh so ro H ∧ TH cT zs zu ze H) (fun _ => False) "java/lang/NegativeArraySizeException" := by
  refine TC.of (by decide) (Nat.le_of_ble_eq_true rfl) ?_
  intro p e s m below meth c ls S hr hlk htab hK7 hPre hl
  have hK2 := hK7.1.1
  have hK := hK2.1
  have hx := S.1
  have hb := S.2.1
  have hl : lv_has ls 1 [(0, .ref b)] := hl
  have hS : va_S (fun _ => False) s.heap s.heap [] := va_S.rf
  obtain ⟨hPb, hP, hSH, hTH⟩ := hPre
  refine lv_aload_n hx hb dX3_done_0 rfl (lv_at hl 0 rfl) ?_
  refine va_get (v := .ref (a 0)) (D := D) (ci := 8) (C := RX3) (T := TX3) (N := 6) S.1 S.2.1 S.2.2.2.2 in_X3 S.2.2.2.1 hK hPb 0 rfl rfl 5 (by decide) (S.2.2.2.2 _ q871) (fun _ h9 => h9) rfl dX3_done_1 ?_
  refine lv_aload_n hx hb dX3_done_4 rfl (lv_at hl 0 rfl) ?_
  refine va_get (v := .ref (a 0)) (D := D) (ci := 8) (C := RX3) (T := TX3) (N := 6) S.1 S.2.1 S.2.2.2.2 in_X3 S.2.2.2.1 hK hPb 0 rfl rfl 5 (by decide) (S.2.2.2.2 _ q871) (fun _ h9 => h9) rfl dX3_done_5 ?_
  refine lv_aload_n hx hb dX3_done_8 rfl (lv_at hl 0 rfl) ?_
  refine va_get (v := .int (nI k)) (D := D) (ci := 8) (C := RX3) (T := TX3) (N := 6) S.1 S.2.1 S.2.2.2.2 in_X3 S.2.2.2.1 hK hPb 0 rfl rfl 1 (by decide) (S.2.2.2.2 _ q867) (fun _ h9 => h9) rfl dX3_done_9 ?_
  refine rc2_VN (b := a 0) (C := RX0) (rest := [.ref (a 0)]) [.int (nI k)] 1 S hK2 (RC.k2 (r0_rowIn l D dA a σ sh so ro k hk)) q846 q60 (hK2.2.1 _ q921 rfl) q845 qs27 (by decide +kernel) rfl ⟨Nat.le_of_ble_eq_true rfl, Nat.le_of_ble_eq_true rfl⟩ (k_recv hK hP) hl.1 (Nat.le_of_ble_eq_true rfl) dX3_done_12 ⟨Nat.le_of_ble_eq_true rfl, Nat.le_of_ble_eq_true rfl⟩ ⟨hP, hSH⟩ (fun v9 hv9 => ?_) rfl
  subst hv9
  refine W.eq (g2 := F0 m 15 ls [shV sh ro k, .ref (a 0)]) rfl ?_
  refine lv_aload_n hx hb dX3_done_15 rfl (lv_at hl 0 rfl) ?_
  refine va_get (v := .int (nI w)) (D := D) (ci := 8) (C := RX3) (T := TX3) (N := 6) S.1 S.2.1 S.2.2.2.2 in_X3 S.2.2.2.1 hK hPb 0 rfl rfl 2 (by decide) (S.2.2.2.2 _ q868) (fun _ h9 => h9) rfl dX3_done_16 ?_
  refine lv_aload_n hx hb dX3_done_19 rfl (lv_at hl 0 rfl) ?_
  refine va_get (v := .int iv) (D := D) (ci := 8) (C := RX3) (T := TX3) (N := 6) S.1 S.2.1 S.2.2.2.2 in_X3 S.2.2.2.1 hK hPb 0 rfl rfl 3 (by decide) (S.2.2.2.2 _ q869) (fun _ h9 => h9) rfl dX3_done_20 ?_
  refine lv_aload_n hx hb dX3_done_23 rfl (lv_at hl 0 rfl) ?_
  refine va_get (v := .int nv) (D := D) (ci := 8) (C := RX3) (T := TX3) (N := 6) S.1 S.2.1 S.2.2.2.2 in_X3 S.2.2.2.1 hK hPb 0 rfl rfl 4 (by decide) (S.2.2.2.2 _ q870) (fun _ h9 => h9) rfl dX3_done_24 ?_
  rw [show shV sh ro k = .ref (ro k) by unfold shV; rw [hs]; rfl]
  have hA1 := hSH.2 k hk w L f hs
  refine tc_SN (rest := [.ref (a 0)]) [.ref (ro k), .int (nI w), .int iv, .int nv] 4 S Wm_K7 hK7 hS (fun q h => h) (t0_cellsS l hfl D dA cT zs zu ze w (ro k) L hw f iv nv hn) q924 q60 (hK2.2.1 _ q922 rfl) q923 (by decide +kernel) rfl ⟨Nat.le_of_ble_eq_true rfl, Nat.le_of_ble_eq_true rfl⟩ hl.1 (Nat.le_of_ble_eq_true rfl) dX3_done_27 ⟨Nat.le_of_ble_eq_true rfl, Nat.le_of_ble_eq_true rfl⟩ ⟨hTH, hA1.2.2.2⟩ (fun x9 H locs hx9 hz9 ho9 hS => ?_) rfl
  exact WT.leave rfl rfl rfl htab hlk hx9 hS ⟨Nat.le_of_ble_eq_true rfl, Nat.le_of_ble_eq_true rfl⟩
set_option maxHeartbeats 4000000 in
theorem t3_doneI (l : Launch) (hfl : NoTr l) (D : va_G) (dA : Nat → ClassId) (cT : ClassId) (zs zu ze : Nat) (a : Nat → Nat) (σ : MS) (sh : Shs) (so ro : Nat → Nat) (b k w : Nat) (iv nv : Int32) (hk : k < 4) (hw : w < 3) (L : Nat) (f : Nat → Int32) (hs : sh k = some (w, L, f)) (N : Nat) (hN : N < 2 ^ 31) (hnv : nv = nI N) (hbad : N < 61 → ¬ iv < 0 → ¬ (nI L - nI N < iv) → False) : TC l yX3_done cX3_done 1 (some .int) 11 10400 2 67 (K7 D dA cT zs zu ze) [.ref b] (fun H => va_P D vwCl [(b, .inr (8, [.ref (a 0), .int (nI k), .int (nI w), .int iv, .int nv, .ref (a 0)]))] H ∧ va_P D vwCl (kW dA a σ) H ∧ SHT D dA (a 14) sh so ro H ∧ TH cT zs zu ze H) (fun _ => False) "java/lang/IndexOutOfBoundsException" := by
  refine TC.of (by decide) (Nat.le_of_ble_eq_true rfl) ?_
  intro p e s m below meth c ls S hr hlk htab hK7 hPre hl
  have hK2 := hK7.1.1
  have hK := hK2.1
  have hx := S.1
  have hb := S.2.1
  have hl : lv_has ls 1 [(0, .ref b)] := hl
  have hS : va_S (fun _ => False) s.heap s.heap [] := va_S.rf
  obtain ⟨hPb, hP, hSH, hTH⟩ := hPre
  refine lv_aload_n hx hb dX3_done_0 rfl (lv_at hl 0 rfl) ?_
  refine va_get (v := .ref (a 0)) (D := D) (ci := 8) (C := RX3) (T := TX3) (N := 6) S.1 S.2.1 S.2.2.2.2 in_X3 S.2.2.2.1 hK hPb 0 rfl rfl 5 (by decide) (S.2.2.2.2 _ q871) (fun _ h9 => h9) rfl dX3_done_1 ?_
  refine lv_aload_n hx hb dX3_done_4 rfl (lv_at hl 0 rfl) ?_
  refine va_get (v := .ref (a 0)) (D := D) (ci := 8) (C := RX3) (T := TX3) (N := 6) S.1 S.2.1 S.2.2.2.2 in_X3 S.2.2.2.1 hK hPb 0 rfl rfl 5 (by decide) (S.2.2.2.2 _ q871) (fun _ h9 => h9) rfl dX3_done_5 ?_
  refine lv_aload_n hx hb dX3_done_8 rfl (lv_at hl 0 rfl) ?_
  refine va_get (v := .int (nI k)) (D := D) (ci := 8) (C := RX3) (T := TX3) (N := 6) S.1 S.2.1 S.2.2.2.2 in_X3 S.2.2.2.1 hK hPb 0 rfl rfl 1 (by decide) (S.2.2.2.2 _ q867) (fun _ h9 => h9) rfl dX3_done_9 ?_
  refine rc2_VN (b := a 0) (C := RX0) (rest := [.ref (a 0)]) [.int (nI k)] 1 S hK2 (RC.k2 (r0_rowIn l D dA a σ sh so ro k hk)) q846 q60 (hK2.2.1 _ q921 rfl) q845 qs27 (by decide +kernel) rfl ⟨Nat.le_of_ble_eq_true rfl, Nat.le_of_ble_eq_true rfl⟩ (k_recv hK hP) hl.1 (Nat.le_of_ble_eq_true rfl) dX3_done_12 ⟨Nat.le_of_ble_eq_true rfl, Nat.le_of_ble_eq_true rfl⟩ ⟨hP, hSH⟩ (fun v9 hv9 => ?_) rfl
  subst hv9
  refine W.eq (g2 := F0 m 15 ls [shV sh ro k, .ref (a 0)]) rfl ?_
  refine lv_aload_n hx hb dX3_done_15 rfl (lv_at hl 0 rfl) ?_
  refine va_get (v := .int (nI w)) (D := D) (ci := 8) (C := RX3) (T := TX3) (N := 6) S.1 S.2.1 S.2.2.2.2 in_X3 S.2.2.2.1 hK hPb 0 rfl rfl 2 (by decide) (S.2.2.2.2 _ q868) (fun _ h9 => h9) rfl dX3_done_16 ?_
  refine lv_aload_n hx hb dX3_done_19 rfl (lv_at hl 0 rfl) ?_
  refine va_get (v := .int iv) (D := D) (ci := 8) (C := RX3) (T := TX3) (N := 6) S.1 S.2.1 S.2.2.2.2 in_X3 S.2.2.2.1 hK hPb 0 rfl rfl 3 (by decide) (S.2.2.2.2 _ q869) (fun _ h9 => h9) rfl dX3_done_20 ?_
  refine lv_aload_n hx hb dX3_done_23 rfl (lv_at hl 0 rfl) ?_
  refine va_get (v := .int nv) (D := D) (ci := 8) (C := RX3) (T := TX3) (N := 6) S.1 S.2.1 S.2.2.2.2 in_X3 S.2.2.2.1 hK hPb 0 rfl rfl 4 (by decide) (S.2.2.2.2 _ q870) (fun _ h9 => h9) rfl dX3_done_24 ?_
  subst hnv
  rw [show shV sh ro k = .ref (ro k) by unfold shV; rw [hs]; rfl]
  have hA1 := hSH.2 k hk w L f hs
  refine tc_SN (rest := [.ref (a 0)]) [.ref (ro k), .int (nI w), .int iv, .int (nI N)] 4 S Wm_K7 hK7 hS (fun q h => h) (t0_cellsI l hfl D dA cT zs zu ze w (ro k) L N hw f iv hN hbad) q924 q60 (hK2.2.1 _ q922 rfl) q923 (by decide +kernel) rfl ⟨Nat.le_of_ble_eq_true rfl, Nat.le_of_ble_eq_true rfl⟩ hl.1 (Nat.le_of_ble_eq_true rfl) dX3_done_27 ⟨Nat.le_of_ble_eq_true rfl, Nat.le_of_ble_eq_true rfl⟩ ⟨hTH, hA1.2.2.2⟩ (fun x9 H locs hx9 hz9 ho9 hS => ?_) rfl
  exact WT.leave rfl rfl rfl htab hlk hx9 hS ⟨Nat.le_of_ble_eq_true rfl, Nat.le_of_ble_eq_true rfl⟩
set_option maxHeartbeats 4000000 in
theorem g3_done (l : Launch) (D : va_G) (dA : Nat → ClassId) (mi zl zf : Nat) (cT : ClassId) (zs zu ze : Nat) (a : Nat → Nat) (hI : kInj a) (σ : MS) (sh : Shs) (so ro : Nat → Nat) (n nc : Nat) (net cp cq : Nat → Nat) (ed cap : Nat) (mc : Int32) (f9 : Nat → Option Nat) (rg : Nat → Nat) (hG : KG σ n net) (hcq : ∀ j, j < nc → cp j < n ∧ cq j < n) (hcap : cap = 0 ∨ cap = 10 ∨ cap = 15) (sz : Nat) (hCA : CAp a ed nc rg zl sz) (hrA : ∀ j, j < nc → ¬ kAd a (rg j)) (b k w L i N : Nat) (f : Nat → Int32) (iv nv : Int32) (hk : k < 4) (hw : w < 3) (hL : L ≤ 60) (hs : sh k = some (w, L, f)) (hiv : iv = nI i) (hnv : nv = nI N) (hiN : i + N ≤ L) : GC l yX3_done cX3_done 1 (some .int) 5 200 4 128 (KA D dA mi zl zf cT zs zu ze) [.ref b] (fun H => va_P D vwCl [(b, .inr (8, [.ref (a 0), .int (nI k), .int (nI w), .int iv, .int nv, .ref (a 0)]))] H ∧ va_P D vwCl (kW dA a σ) H ∧ SHT D dA (a 14) sh so ro H ∧ DY D dA a n nc cp cq ed cap mc f9 rg H ∧ sz ≤ H.size) (fun q => kAd a q ∨ (q = a 3 ∨ (q = ed ∨ sz ≤ q))) (fun v9 H => NRc D dA a σ n nc net cp cq ed cap mc f9 rg (fun j => f (i + j)) N v9 H) := by
  refine GC.of (by decide) (Nat.le_of_ble_eq_true rfl) ?_
  intro p e s m below meth c ls S hr hlk hnm hKA hPre hl
  have hK7 := hKA.2
  have hK2 := hK7.1.1
  have hK := hK2.1
  have hx := S.1
  have hb := S.2.1
  have hl : lv_has ls 1 [(0, .ref b)] := hl
  have hS : va_S (fun q => kAd a q ∨ (q = a 3 ∨ (q = ed ∨ sz ≤ q))) s.heap s.heap [] := va_S.rf
  obtain ⟨hPb, hP, hSH, hDY, hsz⟩ := hPre
  subst hiv; subst hnv
  refine lv_aload_n hx hb dX3_done_0 rfl (lv_at hl 0 rfl) ?_
  refine va_get (v := .ref (a 0)) (D := D) (ci := 8) (C := RX3) (T := TX3) (N := 6) S.1 S.2.1 S.2.2.2.2 in_X3 S.2.2.2.1 hK hPb 0 rfl rfl 5 (by decide) (S.2.2.2.2 _ q871) (fun _ h9 => h9) rfl dX3_done_1 ?_
  refine lv_aload_n hx hb dX3_done_4 rfl (lv_at hl 0 rfl) ?_
  refine va_get (v := .ref (a 0)) (D := D) (ci := 8) (C := RX3) (T := TX3) (N := 6) S.1 S.2.1 S.2.2.2.2 in_X3 S.2.2.2.1 hK hPb 0 rfl rfl 5 (by decide) (S.2.2.2.2 _ q871) (fun _ h9 => h9) rfl dX3_done_5 ?_
  refine lv_aload_n hx hb dX3_done_8 rfl (lv_at hl 0 rfl) ?_
  refine va_get (v := .int (nI k)) (D := D) (ci := 8) (C := RX3) (T := TX3) (N := 6) S.1 S.2.1 S.2.2.2.2 in_X3 S.2.2.2.1 hK hPb 0 rfl rfl 1 (by decide) (S.2.2.2.2 _ q867) (fun _ h9 => h9) rfl dX3_done_9 ?_
  refine rc2_VN (b := a 0) (C := RX0) (rest := [.ref (a 0)]) [.int (nI k)] 1 S hK2 (RC.k2 (r0_rowIn l D dA a σ sh so ro k hk)) q846 q60 (hK2.2.1 _ q921 rfl) q845 qs27 (by decide +kernel) rfl ⟨Nat.le_of_ble_eq_true rfl, Nat.le_of_ble_eq_true rfl⟩ (k_recv hK hP) hl.1 (Nat.le_of_ble_eq_true rfl) dX3_done_12 ⟨Nat.le_of_ble_eq_true rfl, Nat.le_of_ble_eq_true rfl⟩ ⟨hP, hSH⟩ (fun v9 hv9 => ?_) rfl
  subst hv9
  refine W.eq (g2 := F0 m 15 ls [shV sh ro k, .ref (a 0)]) rfl ?_
  refine lv_aload_n hx hb dX3_done_15 rfl (lv_at hl 0 rfl) ?_
  refine va_get (v := .int (nI w)) (D := D) (ci := 8) (C := RX3) (T := TX3) (N := 6) S.1 S.2.1 S.2.2.2.2 in_X3 S.2.2.2.1 hK hPb 0 rfl rfl 2 (by decide) (S.2.2.2.2 _ q868) (fun _ h9 => h9) rfl dX3_done_16 ?_
  refine lv_aload_n hx hb dX3_done_19 rfl (lv_at hl 0 rfl) ?_
  refine va_get (v := .int (nI i)) (D := D) (ci := 8) (C := RX3) (T := TX3) (N := 6) S.1 S.2.1 S.2.2.2.2 in_X3 S.2.2.2.1 hK hPb 0 rfl rfl 3 (by decide) (S.2.2.2.2 _ q869) (fun _ h9 => h9) rfl dX3_done_20 ?_
  refine lv_aload_n hx hb dX3_done_23 rfl (lv_at hl 0 rfl) ?_
  refine va_get (v := .int (nI N)) (D := D) (ci := 8) (C := RX3) (T := TX3) (N := 6) S.1 S.2.1 S.2.2.2.2 in_X3 S.2.2.2.1 hK hPb 0 rfl rfl 4 (by decide) (S.2.2.2.2 _ q870) (fun _ h9 => h9) rfl dX3_done_24 ?_
  rw [show shV sh ro k = .ref (ro k) by unfold shV; rw [hs]; rfl]
  have hA1 := hSH.2 k hk w L f hs
  refine gc_SN (rest := [.ref (a 0)]) [.ref (ro k), .int (nI w), .int (nI i), .int (nI N)] 4 S Wm_K7 hK7 hS (fun q h => Or.inr (Or.inr (Or.inr (Nat.le_trans hsz h)))) (g0_cellsOf l D dA cT zs zu ze w (ro k) L i N s.heap.size hw f hL hiN) q924 q60 (hK2.2.1 _ q922 rfl) q923 (by decide +kernel) rfl ⟨Nat.le_of_ble_eq_true rfl, Nat.le_of_ble_eq_true rfl⟩ hl.1 (Nat.le_of_ble_eq_true rfl) dX3_done_27 ⟨Nat.le_of_ble_eq_true rfl, Nat.le_of_ble_eq_true rfl⟩ ⟨rfl, hA1.2.2.2⟩ (fun v9 H locs hp9 hz9 ho9 hS => ?_) rfl
  obtain ⟨y, xs, rfl, hys, hPy, hxs⟩ := hp9
  refine W.eq (g2 := F0 m 30 ls [.ref y, .ref (a 0)]) rfl ?_
  have hne : ∀ q, q < sz → ¬ (fun q => s.heap.size ≤ q) q := fun q h z => by have z : s.heap.size ≤ q := z; omega
  have hP := kW_fr hI hP ho9 (fun q h => hne q (hCA.2.2.2.2.1 q h).1)
  have hDY := hDY.fr ho9 (hne _ hCA.1) (fun _ => hne _ hCA.2.1) (fun j hj => hne _ (hCA.2.2.2.1 j hj).1)
  have hyH : y < H.size := one_lt hPy
  refine gc_VN (b := a 0) (C := RX0) (rest := []) [.ref y] 1 S Wm_K4 hKA.1 hS (fun q h => by rcases h with h | (h | h | h) | h; exact Or.inl h; exact Or.inr (Or.inl h); exact Or.inr (Or.inr (Or.inl h)); (exact Or.inr (Or.inr (Or.inr (by omega)))); (exact Or.inr (Or.inr (Or.inr (by have h : q = y := h; omega))))) (g0_newNet l D dA mi zl zf a hI σ n nc cp cq ed cap mc f9 rg net hG hcq hcap H.size (hCA.up (by omega)) hrA y N xs (by omega) ⟨hyH, fun h => by have := (hCA.2.2.2.2.1 _ h).1; omega, by have := hCA.1; omega, by have := hCA.2.1; omega, fun j hj => by have := (hCA.2.2.2.1 j hj).1; omega⟩) q946 q60 (hK2.2.1 _ q943 rfl) q945 qs29 (by decide +kernel) rfl ⟨Nat.le_of_ble_eq_true rfl, Nat.le_of_ble_eq_true rfl⟩ (k_recv hK hP) hl.1 (Nat.le_of_ble_eq_true rfl) dX3_done_30 ⟨Nat.le_of_ble_eq_true rfl, Nat.le_of_ble_eq_true rfl⟩ ⟨hP, hDY, hPy, Nat.le_refl _⟩ (fun v9 H locs hp9 hz9 ho9 hS => ?_) rfl
  have hp : NRc D dA a σ n nc net cp cq ed cap mc f9 rg xs N v9 H := hp9
  have hp := hp.c hxs
  obtain ⟨z, rfl⟩ : ∃ z : Int32, v9 = some (.int z) := by rcases hp with ⟨ct, -, -, h, -⟩ | ⟨-, mp, hh, σ1, f3, -, h, -⟩; exact ⟨_, h⟩; exact ⟨_, h⟩
  refine W.eq (g2 := F0 m 33 ls [.int z]) rfl ?_
  exact g_iret S hr hlk hS dX3_done_33 ⟨Nat.le_of_ble_eq_true rfl, Nat.le_of_ble_eq_true rfl⟩ hp
set_option maxHeartbeats 8000000 in
theorem g0_net (l : Launch) (hfl : NoTr l) (D : va_G) (dA : Nat → ClassId) (mi zl zf : Nat) (cT : ClassId) (zs zu ze : Nat) (a : Nat → Nat) (hI : kInj a) (σ σr : MS) (sh : Shs) (so ro : Nat → Nat) (n nc : Nat) (net cp cq : Nat → Nat) (ed cap : Nat) (mc : Int32) (f9 : Nat → Option Nat) (rg : Nat → Nat) (hG : KG σ n net) (hcq : ∀ j, j < nc → cp j < n ∧ cq j < n) (hcap : cap = 0 ∨ cap = 10 ∨ cap = 15) (sz : Nat) (hCA : CAp a ed nc rg zl sz) (hrA : ∀ j, j < nc → ¬ kAd a (rg j)) (hSA : SAp a sh so ro zs sz) (hS3 : a 14 ≠ a 3 ∧ a 14 ≠ ed ∧ ∀ k, k < 4 → sh k ≠ none → so k ≠ a 3 ∧ so k ≠ ed ∧ ro k ≠ a 3 ∧ ro k ≠ ed) (hRS : RSh σr sh) (lo : Nat → Nat) (hlo : ∀ k, k < 4 → lo k ≤ 60 ∧ σr.2.1 3 k = nI (lo k)) (v u iv nv : Int32) : GC l yX0_net cX0_net 5 (some .int) 15 10600 5 910 (KA D dA mi zl zf cT zs zu ze) [.ref (a 0), .int v, .int u, .int iv, .int nv] (fun H => va_P D vwCl (kW dA a σ) H ∧ SHT D dA (a 14) sh so ro H ∧ DY D dA a n nc cp cq ed cap mc f9 rg H ∧ TH cT zs zu ze H ∧ sz ≤ H.size) (fun q => kAd a q ∨ (q = a 3 ∨ (q = ed ∨ sz ≤ q))) (fun v9 H => SHT D dA (a 14) sh so ro H ∧ ((∃ r9, spNetQ (σr.2.1 2) lo v u iv nv = some r9 ∧ v9 = some (.int r9.1) ∧ va_P D vwCl (kW dA a (σ.i 13 r9.2)) H ∧ DY D dA a n nc cp cq ed cap mc f9 rg H) ∨ (spNetQ (σr.2.1 2) lo v u iv nv = none ∧ NRc D dA a (σ.i 13 0) n nc net cp cq ed cap mc f9 rg (fun j => σr.2.1 4 (60 * v.toNatClampNeg + iv.toNatClampNeg + j)) nv.toNatClampNeg v9 H))) := by
  refine GC.of (by decide) (Nat.le_of_ble_eq_true rfl) ?_
  intro p e s m below meth c ls S hr hlk hnm hKA hPre hl
  have hK7 := hKA.2
  have hK2 := hK7.1.1
  have hK := hK2.1
  have hx := S.1
  have hb := S.2.1
  have hl : lv_has ls 5 [(0, .ref (a 0)), (1, .int v), (2, .int u), (3, .int iv), (4, .int nv)] := hl
  have hS : va_S (fun q => kAd a q ∨ (q = a 3 ∨ (q = ed ∨ sz ≤ q))) s.heap s.heap [] := va_S.rf
  obtain ⟨hP, hSH, hDY, hTH, hsz⟩ := hPre
  have hsz0 := hsz
  have hdk : ∀ q, kAd a q → q ≠ a 3 ∧ q ≠ ed := fun q h => (hCA.2.2.2.2.1 q h).2
  refine lv_iload_n hx hb dX0_net_0 rfl (lv_at hl 1 rfl) ?_
  refine rc_Si (rest := []) [.int v] 1 S hK (r0_noSheet l D dA v) wl_X0_274 wd_X0_X0_noSheet rfl ⟨Nat.le_of_ble_eq_true rfl, Nat.le_of_ble_eq_true rfl⟩ hl.1 (Nat.le_of_ble_eq_true rfl) dX0_net_1 ⟨Nat.le_of_ble_eq_true rfl, Nat.le_of_ble_eq_true rfl⟩ trivial ?_ rfl
  refine lv_if_eq (tgt := 13) hx hb dX0_net_4 (by decide) (fun c_4 => ?_) (fun c_4 => ?_)
  · have c_4 : inR v 0 3 = true := by have := b2i_eq0.mp c_4; simpa using this
    have c4n : ¬ inR v 0 3 = false := by rw [c_4]; decide
    refine lv_iload_n hx hb dX0_net_13 rfl (lv_at hl 2 rfl) ?_
    refine lv_i2l hx hb dX0_net_14 rfl ?_
    refine lv_lconst (v := 0) hx hb dX0_net_15 (by decide) ?_
    refine lv_ldc2 (v := 2) hx hb S.2.2.2.1 (S.2.2.2.2 _ q749) dX0_net_16 ?_
    refine rc_Si (rest := []) [.long (Int32.toInt64 u), .long 0, .long 2] 3 S hK (r0_in l D dA (Int32.toInt64 u) 0 2) wl_X0_49 wd_X0_X0_in rfl ⟨Nat.le_of_ble_eq_true rfl, Nat.le_of_ble_eq_true rfl⟩ hl.1 (Nat.le_of_ble_eq_true rfl) dX0_net_19 ⟨Nat.le_of_ble_eq_true rfl, Nat.le_of_ble_eq_true rfl⟩ trivial ?_ rfl
    refine topi (z := b2i (inR u 0 2)) (congrArg b2i (inL_02 u)) ?_
    refine lv_if_eq (tgt := 44) hx hb dX0_net_22 (by decide) (fun c_22 => ?_) (fun c_22 => ?_)
    · have c_22 : inR u 0 2 = false := b2i_eq0.mp c_22
      refine lv_aload_n hx hb dX0_net_44 rfl (lv_at hl 0 rfl) ?_
      refine lv_bipush (v := (-2)) hx hb dX0_net_45 (by decide) ?_
      refine gc_V (rest := []) [.int (-2)] 1 S Wm_K2 hK2 hS (fun q h => Or.inl h) (KC2.gc (KC.k2 (k0_refused l D dA a hI σ (fun _ => True) kStb_T (-2)))) wl_X0_277 wd_X0_X0_refused rfl ⟨Nat.le_of_ble_eq_true rfl, Nat.le_of_ble_eq_true rfl⟩ (k_recv hK hP) hl.1 (Nat.le_of_ble_eq_true rfl) dX0_net_47 ⟨Nat.le_of_ble_eq_true rfl, Nat.le_of_ble_eq_true rfl⟩ ⟨hP, trivial⟩ (fun v9 H locs hp9 hz9 ho9 hS => ?_) rfl
      obtain ⟨σ9, ⟨rfl, rfl⟩, hP⟩ := hp9
      have hSH := hSH.kad hSA ho9
      refine W.eq (g2 := F0 m 50 ls [.int (-2)]) rfl ?_
      have hDY := hDY.fr ho9 (fun h => (hdk _ h).1 rfl) (fun _ h => (hdk _ h).2 rfl) (fun j hj => hrA j hj)
      exact g_iret S hr hlk hS dX0_net_50 ⟨Nat.le_of_ble_eq_true rfl, Nat.le_of_ble_eq_true rfl⟩ ⟨hSH, Or.inl ⟨((-2), 0), by unfold spNetQ; rw [if_neg c4n, if_pos c_22], rfl, hP, hDY⟩⟩
    · have c_22 : inR u 0 2 = true := b2i_ne0.mp c_22
      obtain ⟨w, hw9, rfl⟩ := inR_some (k := 2) (by decide) c_22
      have hw3 : w < 3 := by omega
      obtain ⟨ka, hka9, rfl⟩ := inR_some (k := 3) (by decide) c_4
      have hka4 : ka < 4 := by omega
      have hin : inR (nI ka) 0 3 = true := inR_nI (k := 3) (by omega) (by decide)
      have hcl : (nI ka).toNatClampNeg = ka := nI_clamp (by omega)
      refine g_new (C := RX3) (T := TX3) (N := 6) (ci := 8) (fs := [.null, .int 0, .int 0, .int 0, .int 0, .null]) S in_X3 tyX3 tyX3_ok q858 q859 q66 hK hS (fun q h => Or.inr (Or.inr (Or.inr (Nat.le_trans hsz0 h)))) rfl (by decide) (Nat.le_of_ble_eq_true rfl) (Nat.le_of_ble_eq_true rfl) dX0_net_25 (fun g9 H hg9 hPg hz1 ho1 hS => ?_)
      have ho1f : ∀ q, q < s.heap.size → ¬ (fun _ : Nat => False) q → H[q]? = s.heap[q]? := fun q h _ => ho1 q h
      have hP := kW_hi hI hSA hP ho1f (fun _ h => h.elim)
      have hSH := hSH.hi hSA ho1f (fun _ h => h.elim)
      have hTH := hTH.hi hSA ho1f (fun _ h => h.elim)
      have hDY := hDY.fr ho1f id (fun _ => id) (fun _ _ => id)
      have hg9s : sz ≤ g9 := by omega
      refine lv_dup hx hb dX0_net_28 rfl ?_
      refine lv_aload_n hx hb dX0_net_29 rfl (lv_at hl 0 rfl) ?_
      refine lv_iload_n hx hb dX0_net_30 rfl (lv_at hl 1 rfl) ?_
      refine lv_iload_n hx hb dX0_net_31 rfl (lv_at hl 2 rfl) ?_
      refine lv_iload_n hx hb dX0_net_32 rfl (lv_at hl 3 rfl) ?_
      refine lv_iload hx hb dX0_net_33 (lv_at hl 4 rfl) ?_
      refine gc_I (rest := [.ref g9]) [.ref (a 0), .int (nI ka), .int (nI w), .int iv, .int nv] 5 S Wm_K2 hK2 hS (fun q h => Or.inr (Or.inr (Or.inr (by have h : q = g9 := h; omega)))) (g3_init l D dA g9 (a 0) .null (.int 0) (.int 0) (.int 0) (.int 0) .null (nI ka) (nI w) iv nv) q862 q66 q860 q861 rfl (by decide +kernel : yX3_init.cls ≠ "java/lang/invoke/MethodHandle" ∧ yX3_init.cls ≠ "java/lang/invoke/VarHandle" ∧ (parseMethodDescriptor yX3_init.desc).map (fun d => d.parameters.length) = some 5) rfl ⟨Nat.le_of_ble_eq_true rfl, Nat.le_of_ble_eq_true rfl⟩ hl.1 (Nat.le_of_ble_eq_true rfl) dX0_net_35 ⟨Nat.le_of_ble_eq_true rfl, Nat.le_of_ble_eq_true rfl⟩ hPg (fun v9 H locs hp9 hz9 ho9 hS => ?_) rfl
      obtain ⟨rfl, hPg⟩ := hp9
      refine W.eq (g2 := F0 m 38 ls [.ref g9]) rfl ?_
      have hA9 : ∀ q, (fun q => q = g9) q → sz ≤ q := fun q h => by have h : q = g9 := h; omega
      have hne9 : ∀ q, q < sz → ¬ (fun q => q = g9) q := fun q h z => by have z : q = g9 := z; omega
      have hP := kW_hi hI hSA hP ho9 hA9
      have hSH := hSH.hi hSA ho9 hA9
      have hTH := hTH.hi hSA ho9 hA9
      have hDY := hDY.fr ho9 (hne9 _ hCA.1) (fun _ => hne9 _ hCA.2.1) (fun j hj => hne9 _ (hCA.2.2.2.1 j hj).1)
      have hbk : ¬ kAd a g9 := fun h => by have := hSA.1.2.2.1 _ h; omega
      have hszH : sz ≤ H.size := by omega
      cases hs : sh ka with
      | none =>
        refine gcw_U (x := ⟨"CallRounds$Reading", "tried", "()I"⟩) (owner := "CallRounds$Act") (C := RX3) (rest := []) [] 0 S Wm_K7 hK7 hS (fun q h => Or.inl h) (tA_triedN (FR := 14) (LC := 10500) (MC := 3) (MS := 900) hI Wm_K7 (fun _ h => h) (C := RX3) (T := TX3) (N := 6) (ci := 8) rfl in_X3 rfl (by decide) (b := g9) (fs := [.ref (a 0), .int (nI ka), .int (nI w), .int iv, .int nv, .ref (a 0)]) rfl hbk q918 q919 q66 q920 ⟨by decide, by decide⟩ ⟨by decide, by decide⟩ ⟨by decide, by decide⟩ (A := kAd a) (Ad := fun _ => False) (fun q h => h) (fun q h => h.elim) (Ph := fun H' => SHT D dA (a 14) sh so ro H' ∧ TH cT zs zu ze H') (fun H0 H1 h1 h2 hz h3 h4 => ⟨h2, h1, h4.1.kad hSA h3, h4.2.fr h3 hSA.1.2.2.2.2.1⟩) (t3_doneN l hfl D dA cT zs zu ze a (σ.i 13 0) sh so ro g9 ka w iv nv hka4 hw3 hs) (fun _ _ h => h) id) q886 q887 q889 q890 q65 q891 (dl_abs hK2 q888) (by decide +kernel) rfl ⟨Nat.le_of_ble_eq_true rfl, Nat.le_of_ble_eq_true rfl⟩ (va_recv hK hPg (ci := 8) (q0 := 0) rfl rfl) hl.1 (Nat.le_of_ble_eq_true rfl) dX0_net_38 ⟨Nat.le_of_ble_eq_true rfl, Nat.le_of_ble_eq_true rfl⟩ ⟨hPg, hP, hSH, hTH⟩ (fun v9 H2 locs hp9 hz9 ho9 hS => ?_) rfl
        obtain ⟨rfl, hP⟩ := hp9
        refine W.eq (g2 := F0 m 41 ls [.int ((-10) - 1)]) rfl ?_
        have hSH := hSH.kad hSA ho9
        have hDY := hDY.fr ho9 (fun h => (hdk _ h).1 rfl) (fun _ h => (hdk _ h).2 rfl) (fun j hj => hrA j hj)
        refine lv_goto (tgt := 50) hx hb dX0_net_41 (by decide) ?_
        exact g_iret S hr hlk hS dX0_net_50 ⟨Nat.le_of_ble_eq_true rfl, Nat.le_of_ble_eq_true rfl⟩ ⟨hSH, Or.inl ⟨((-10) - 1, 1), by rw [spNet_in hka4 hw3, if_neg (fun h => h.1 ((hRS ka hka4).1 hs)), if_pos ((hRS ka hka4).1 hs)]; rfl, rfl, hP, hDY⟩⟩
      | some q =>
        obtain ⟨w2, L, f⟩ := q
        have hRk := (hRS ka hka4).2 w2 L f hs
        have hla : ¬ σr.2.1 2 ka = -9 := (by rw [hRk.2.2.1]; exact nI_n9 (by have := hRk.1; omega))
        by_cases hww : w2 = w
        · subst hww
          have hloL : lo ka = L := (nI_eq (by have := (hlo ka hka4).1; omega) (by have := hRk.2.1; omega)).mp ((hlo ka hka4).2.symm.trans hRk.2.2.2.1)
          rcases netQ (iv := iv) (nv := nv) (lo := lo) hka4 hw3 hla hRk.2.2.1 (hlo ka hka4).1 with ⟨hneg, hq⟩ | ⟨N, hN, hnv, hq, hbad⟩ | ⟨i, N, hiv, hnv, hq, hiN⟩
          · refine gcw_U (x := ⟨"CallRounds$Reading", "tried", "()I"⟩) (owner := "CallRounds$Act") (C := RX3) (rest := []) [] 0 S Wm_K7 hK7 hS (fun q h => Or.inl h) (tA_triedS (FR := 14) (LC := 10500) (MC := 3) (MS := 900) hI Wm_K7 (fun _ h => h) (C := RX3) (T := TX3) (N := 6) (ci := 8) rfl in_X3 rfl (by decide) (b := g9) (fs := [.ref (a 0), .int (nI ka), .int (nI w2), .int iv, .int nv, .ref (a 0)]) rfl hbk q918 q919 q66 q920 ⟨by decide, by decide⟩ ⟨by decide, by decide⟩ ⟨by decide, by decide⟩ (A := kAd a) (Ad := fun _ => False) (fun q h => h) (fun q h => h.elim) (Ph := fun H' => SHT D dA (a 14) sh so ro H' ∧ TH cT zs zu ze H') (fun H0 H1 h1 h2 hz h3 h4 => ⟨h2, h1, h4.1.kad hSA h3, h4.2.fr h3 hSA.1.2.2.2.2.1⟩) (t3_doneS l hfl D dA cT zs zu ze a (σ.i 13 0) sh so ro g9 ka w2 iv nv hka4 hw3 L f hs hneg) (fun _ _ h => h) id) q886 q887 q889 q890 q65 q891 (dl_abs hK2 q888) (by decide +kernel) rfl ⟨Nat.le_of_ble_eq_true rfl, Nat.le_of_ble_eq_true rfl⟩ (va_recv hK hPg (ci := 8) (q0 := 0) rfl rfl) hl.1 (Nat.le_of_ble_eq_true rfl) dX0_net_38 ⟨Nat.le_of_ble_eq_true rfl, Nat.le_of_ble_eq_true rfl⟩ ⟨hPg, hP, hSH, hTH⟩ (fun v9 H2 locs hp9 hz9 ho9 hS => ?_) rfl
            obtain ⟨rfl, hP⟩ := hp9
            refine W.eq (g2 := F0 m 41 ls [.int ((-10) - 4)]) rfl ?_
            have hSH := hSH.kad hSA ho9
            have hDY := hDY.fr ho9 (fun h => (hdk _ h).1 rfl) (fun _ h => (hdk _ h).2 rfl) (fun j hj => hrA j hj)
            refine lv_goto (tgt := 50) hx hb dX0_net_41 (by decide) ?_
            exact g_iret S hr hlk hS dX0_net_50 ⟨Nat.le_of_ble_eq_true rfl, Nat.le_of_ble_eq_true rfl⟩ ⟨hSH, Or.inl ⟨((-10) - 4, 4), (by rw [hq]; rfl), rfl, hP, hDY⟩⟩
          · rw [hloL] at hbad
            refine gcw_U (x := ⟨"CallRounds$Reading", "tried", "()I"⟩) (owner := "CallRounds$Act") (C := RX3) (rest := []) [] 0 S Wm_K7 hK7 hS (fun q h => Or.inl h) (tA_triedI (FR := 14) (LC := 10500) (MC := 3) (MS := 900) hI Wm_K7 (fun _ h => h) (C := RX3) (T := TX3) (N := 6) (ci := 8) rfl in_X3 rfl (by decide) (b := g9) (fs := [.ref (a 0), .int (nI ka), .int (nI w2), .int iv, .int nv, .ref (a 0)]) rfl hbk q918 q919 q66 q920 ⟨by decide, by decide⟩ ⟨by decide, by decide⟩ ⟨by decide, by decide⟩ (A := kAd a) (Ad := fun _ => False) (fun q h => h) (fun q h => h.elim) (Ph := fun H' => SHT D dA (a 14) sh so ro H' ∧ TH cT zs zu ze H') (fun H0 H1 h1 h2 hz h3 h4 => ⟨h2, h1, h4.1.kad hSA h3, h4.2.fr h3 hSA.1.2.2.2.2.1⟩) (t3_doneI l hfl D dA cT zs zu ze a (σ.i 13 0) sh so ro g9 ka w2 iv nv hka4 hw3 L f hs N hN hnv hbad) (fun _ _ h => h) id) q886 q887 q889 q890 q65 q891 (dl_abs hK2 q888) (by decide +kernel) rfl ⟨Nat.le_of_ble_eq_true rfl, Nat.le_of_ble_eq_true rfl⟩ (va_recv hK hPg (ci := 8) (q0 := 0) rfl rfl) hl.1 (Nat.le_of_ble_eq_true rfl) dX0_net_38 ⟨Nat.le_of_ble_eq_true rfl, Nat.le_of_ble_eq_true rfl⟩ ⟨hPg, hP, hSH, hTH⟩ (fun v9 H2 locs hp9 hz9 ho9 hS => ?_) rfl
            obtain ⟨rfl, hP⟩ := hp9
            refine W.eq (g2 := F0 m 41 ls [.int ((-10) - 3)]) rfl ?_
            have hSH := hSH.kad hSA ho9
            have hDY := hDY.fr ho9 (fun h => (hdk _ h).1 rfl) (fun _ h => (hdk _ h).2 rfl) (fun j hj => hrA j hj)
            refine lv_goto (tgt := 50) hx hb dX0_net_41 (by decide) ?_
            exact g_iret S hr hlk hS dX0_net_50 ⟨Nat.le_of_ble_eq_true rfl, Nat.le_of_ble_eq_true rfl⟩ ⟨hSH, Or.inl ⟨((-10) - 3, 3), (by rw [hq]; rfl), rfl, hP, hDY⟩⟩
          · rw [hloL] at hiN
            refine gcw_U (x := ⟨"CallRounds$Reading", "tried", "()I"⟩) (owner := "CallRounds$Act") (C := RX3) (rest := []) [] 0 S Wm_KA hKA hS (fun q h => h) (gA_tried (FR := 14) (LC := 10500) (MC := 4) (MS := 900) hI Wm_KA (fun _ h => h.2) (C := RX3) (T := TX3) (N := 6) (ci := 8) rfl in_X3 rfl (by decide) (b := g9) (fs := [.ref (a 0), .int (nI ka), .int (nI w2), .int iv, .int nv, .ref (a 0)]) rfl hbk q918 q919 q66 q920 ⟨by decide, by decide⟩ ⟨by decide, by decide⟩ ⟨by decide, by decide⟩ (A := fun q => kAd a q ∨ (q = a 3 ∨ (q = ed ∨ sz ≤ q))) (Ad := fun q => kAd a q ∨ (q = a 3 ∨ (q = ed ∨ sz ≤ q))) (fun q h => Or.inl h) (fun q h => h) (Ph := fun H' => SHT D dA (a 14) sh so ro H' ∧ DY D dA a n nc cp cq ed cap mc f9 rg H' ∧ sz ≤ H'.size) (fun H0 H1 h1 h2 hz h3 h4 => ⟨h2, h1, h4.1.kad hSA h3, h4.2.1.fr h3 (fun h => (hdk _ h).1 rfl) (fun _ h => (hdk _ h).2 rfl) (fun j hj => hrA j hj), by rw [hz]; exact h4.2.2⟩) (g3_done l D dA mi zl zf cT zs zu ze a hI (σ.i 13 0) sh so ro n nc net cp cq ed cap mc f9 rg hG.i13 hcq hcap sz hCA hrA g9 ka w2 L i N f iv nv hka4 hw3 hRk.2.1 hs hiv hnv hiN) (fun v H h => by rcases h with ⟨ct, -, -, h, -⟩ | ⟨-, mp, hh, σ1, f3, -, h, -⟩; exact ⟨_, h⟩; exact ⟨_, h⟩)) q886 q887 q889 q890 q65 q891 (dl_abs hK2 q888) (by decide +kernel) rfl ⟨Nat.le_of_ble_eq_true rfl, Nat.le_of_ble_eq_true rfl⟩ (va_recv hK hPg (ci := 8) (q0 := 0) rfl rfl) hl.1 (Nat.le_of_ble_eq_true rfl) dX0_net_38 ⟨Nat.le_of_ble_eq_true rfl, Nat.le_of_ble_eq_true rfl⟩ ⟨hPg, hP, hSH, hDY, hszH⟩ (fun v9 H2 locs hp9 hz9 ho9 hS => ?_) rfl
            obtain ⟨z, rfl⟩ : ∃ z : Int32, v9 = some (.int z) := by rcases hp9 with ⟨ct, -, -, h, -⟩ | ⟨-, mp, hh, σ1, f3, -, h, -⟩; exact ⟨_, h⟩; exact ⟨_, h⟩
            refine W.eq (g2 := F0 m 41 ls [.int z]) rfl ?_
            have hSH := hSH.fr ho9 (fun z => by rcases z with z | z | z | z; exact hSA.1.2.1 z; exact hS3.1 z; exact hS3.2.1 z; (have := hSA.1.1; omega)) (fun k hk e => ⟨fun z => by rcases z with z | z | z | z; exact (hSA.2.1 k hk e).2.2.1 z; exact (hS3.2.2 k hk e).1 z; exact (hS3.2.2 k hk e).2.1 z; (have := (hSA.2.1 k hk e).1; omega), fun z => by rcases z with z | z | z | z; exact (hSA.2.1 k hk e).2.2.2.1 z; exact (hS3.2.2 k hk e).2.2.1 z; exact (hS3.2.2 k hk e).2.2.2 z; (have := (hSA.2.1 k hk e).2.1; omega)⟩)
            refine lv_goto (tgt := 50) hx hb dX0_net_41 (by decide) ?_
            refine g_iret S hr hlk hS dX0_net_50 ⟨Nat.le_of_ble_eq_true rfl, Nat.le_of_ble_eq_true rfl⟩ ⟨hSH, Or.inr ⟨hq, ?_⟩⟩
            rw [hcl, hiv, hnv, nI_clamp (by have := hRk.2.1; omega), nI_clamp (by have := hRk.2.1; omega)]
            exact NRc.c hp9 (fun j hj => by rw [Nat.add_assoc]; exact (hRk.2.2.2.2.1 _ (by omega)).symm)
        · refine gcw_U (x := ⟨"CallRounds$Reading", "tried", "()I"⟩) (owner := "CallRounds$Act") (C := RX3) (rest := []) [] 0 S Wm_K7 hK7 hS (fun q h => Or.inl h) (tA_triedC (FR := 14) (LC := 10500) (MC := 3) (MS := 900) hI Wm_K7 (fun _ h => h) (C := RX3) (T := TX3) (N := 6) (ci := 8) rfl in_X3 rfl (by decide) (b := g9) (fs := [.ref (a 0), .int (nI ka), .int (nI w), .int iv, .int nv, .ref (a 0)]) rfl hbk q918 q919 q66 q920 ⟨by decide, by decide⟩ ⟨by decide, by decide⟩ ⟨by decide, by decide⟩ (A := kAd a) (Ad := fun _ => False) (fun q h => h) (fun q h => h.elim) (Ph := fun H' => SHT D dA (a 14) sh so ro H' ∧ TH cT zs zu ze H') (fun H0 H1 h1 h2 hz h3 h4 => ⟨h2, h1, h4.1.kad hSA h3, h4.2.fr h3 hSA.1.2.2.2.2.1⟩) (t3_doneC l hfl D dA cT zs zu ze a (σ.i 13 0) sh so ro g9 ka w iv nv hka4 hw3 w2 L f hs hww) (fun _ _ h => h) id) q886 q887 q889 q890 q65 q891 (dl_abs hK2 q888) (by decide +kernel) rfl ⟨Nat.le_of_ble_eq_true rfl, Nat.le_of_ble_eq_true rfl⟩ (va_recv hK hPg (ci := 8) (q0 := 0) rfl rfl) hl.1 (Nat.le_of_ble_eq_true rfl) dX0_net_38 ⟨Nat.le_of_ble_eq_true rfl, Nat.le_of_ble_eq_true rfl⟩ ⟨hPg, hP, hSH, hTH⟩ (fun v9 H2 locs hp9 hz9 ho9 hS => ?_) rfl
          obtain ⟨rfl, hP⟩ := hp9
          refine W.eq (g2 := F0 m 41 ls [.int ((-10) - 2)]) rfl ?_
          have hSH := hSH.kad hSA ho9
          have hDY := hDY.fr ho9 (fun h => (hdk _ h).1 rfl) (fun _ h => (hdk _ h).2 rfl) (fun j hj => hrA j hj)
          refine lv_goto (tgt := 50) hx hb dX0_net_41 (by decide) ?_
          exact g_iret S hr hlk hS dX0_net_50 ⟨Nat.le_of_ble_eq_true rfl, Nat.le_of_ble_eq_true rfl⟩ ⟨hSH, Or.inl ⟨((-10) - 2, 2), by rw [spNet_in hka4 hw3, if_pos ⟨hla, by rw [hRk.2.2.1]; exact fun h => hww ((nI_eq (by have := hRk.1; omega) (by omega)).mp h)⟩]; rfl, rfl, hP, hDY⟩⟩
  · have c_4 : inR v 0 3 = false := by have := b2i_ne0.mp c_4; simpa using this
    refine lv_aload_n hx hb dX0_net_7 rfl (lv_at hl 0 rfl) ?_
    refine lv_iconst (v := (-1)) hx hb dX0_net_8 (by decide) ?_
    refine gc_V (rest := []) [.int (-1)] 1 S Wm_K2 hK2 hS (fun q h => Or.inl h) (KC2.gc (KC.k2 (k0_refused l D dA a hI σ (fun _ => True) kStb_T (-1)))) wl_X0_277 wd_X0_X0_refused rfl ⟨Nat.le_of_ble_eq_true rfl, Nat.le_of_ble_eq_true rfl⟩ (k_recv hK hP) hl.1 (Nat.le_of_ble_eq_true rfl) dX0_net_9 ⟨Nat.le_of_ble_eq_true rfl, Nat.le_of_ble_eq_true rfl⟩ ⟨hP, trivial⟩ (fun v9 H locs hp9 hz9 ho9 hS => ?_) rfl
    obtain ⟨σ9, ⟨rfl, rfl⟩, hP⟩ := hp9
    have hSH := hSH.kad hSA ho9
    refine W.eq (g2 := F0 m 12 ls [.int (-1)]) rfl ?_
    have hDY := hDY.fr ho9 (fun h => (hdk _ h).1 rfl) (fun _ h => (hdk _ h).2 rfl) (fun j hj => hrA j hj)
    exact g_iret S hr hlk hS dX0_net_12 ⟨Nat.le_of_ble_eq_true rfl, Nat.le_of_ble_eq_true rfl⟩ ⟨hSH, Or.inl ⟨((-1), 0), by unfold spNetQ; rw [if_pos c_4], rfl, hP, hDY⟩⟩
