/-! COMPONENT 4: the list is read (by program: gen/comp4.py) -/
set_option maxRecDepth 100000
set_option maxHeartbeats 4000000 in
theorem rj_isEmpty (l : Launch) (D : va_G) (dA : Nat → ClassId) (b ed cap : Nat) (mc : Int32) (nc : Nat) (f : Nat → Option Nat) (hcap : cap < 2 ^ 31) (hnc : nc < 2 ^ 31) : RC l yJ2_isEmpty cJ2_isEmpty 1 (some .boolean) 0 0 D dA [.ref b] (fun H => va_P D vwCl (LW dA b ed cap mc nc f) H) (fun v9 => v9 = some (.int (b2i (decide (nc = 0))))) := by
  refine RC.of (by decide) (Nat.le_of_ble_eq_true rfl) ?_
  intro p e s m below meth c ls S hr hlk hK hP hl
  have hx := S.1
  have hb := S.2.1
  have hl : lv_has ls 1 [(0, .ref b)] := hl
  refine lv_aload_n hx hb dJ2_isEmpty_0 rfl (lv_at hl 0 rfl) ?_
  refine l_get (v := .int (nI nc)) S hK hP 0 rfl 2 (by decide) fl_J2_48 rfl dJ2_isEmpty_1 rfl ?_
  refine lv_if_ne (tgt := 11) hx hb dJ2_isEmpty_4 (by decide) (fun c_4 => ?_) (fun c_4 => ?_)
  · have c_4 : ¬ nc = 0 := fun h => c_4 (congrArg nI h)
    refine lv_iconst (v := 0) hx hb dJ2_isEmpty_11 (by decide) ?_
    exact r_zret S hr hlk dJ2_isEmpty_12 (by decide) (congrArg (fun z : Int32 => some (Value.int z)) (show 0 = b2i (decide (nc = 0)) from by simp [b2i, c_4]))
  · have c_4 : nc = 0 := nI_inj hnc (by decide) c_4
    refine lv_iconst (v := 1) hx hb dJ2_isEmpty_7 (by decide) ?_
    refine lv_goto (tgt := 12) hx hb dJ2_isEmpty_8 (by decide) ?_
    exact r_zret S hr hlk dJ2_isEmpty_12 (by decide) (congrArg (fun z : Int32 => some (Value.int z)) (show 1 = b2i (decide (nc = 0)) from by simp [b2i, c_4]))
set_option maxHeartbeats 4000000 in
theorem rj_size (l : Launch) (D : va_G) (dA : Nat → ClassId) (b ed cap : Nat) (mc : Int32) (nc : Nat) (f : Nat → Option Nat) (hcap : cap < 2 ^ 31) : RC l yJ2_size cJ2_size 1 (some .int) 0 0 D dA [.ref b] (fun H => va_P D vwCl (LW dA b ed cap mc nc f) H) (fun v9 => v9 = some (.int (nI nc))) := by
  refine RC.of (by decide) (Nat.le_of_ble_eq_true rfl) ?_
  intro p e s m below meth c ls S hr hlk hK hP hl
  have hx := S.1
  have hb := S.2.1
  have hl : lv_has ls 1 [(0, .ref b)] := hl
  refine lv_aload_n hx hb dJ2_size_0 rfl (lv_at hl 0 rfl) ?_
  refine l_get (v := .int (nI nc)) S hK hP 0 rfl 2 (by decide) fl_J2_48 rfl dJ2_size_1 rfl ?_
  exact r_iret S hr hlk dJ2_size_4 (congrArg (fun z : Int32 => some (Value.int z)) (show nI nc = nI nc from rfl))
set_option maxHeartbeats 4000000 in
theorem rj_check (l : Launch) (D : va_G) (dA : Nat → ClassId) (i n : Nat) (hi : i < n) (hn : n < 2 ^ 31) : RC l yJ15_checkIndex cJ15_checkIndex 3 (some .int) 0 0 D dA [.int (nI i), .int (nI n), .null] (fun _ => True) (fun v9 => v9 = some (.int (nI i))) := by
  refine RC.of (by decide) (Nat.le_of_ble_eq_true rfl) ?_
  intro p e s m below meth c ls S hr hlk hK hP hl
  have hx := S.1
  have hb := S.2.1
  have hl : lv_has ls 3 [(0, .int (nI i)), (1, .int (nI n)), (2, .null)] := hl
  refine lv_iload_n hx hb dJ15_checkIndex_0 rfl (lv_at hl 0 rfl) ?_
  refine lv_if_lt (tgt := 9) hx hb dJ15_checkIndex_1 (by decide) (fun c_1 => absurd c_1 (nI_pos (by omega))) (fun c_1 => ?_)
  refine lv_iload_n hx hb dJ15_checkIndex_4 rfl (lv_at hl 0 rfl) ?_
  refine lv_iload_n hx hb dJ15_checkIndex_5 rfl (lv_at hl 1 rfl) ?_
  refine lv_icmp_lt (tgt := 16) hx hb dJ15_checkIndex_6 (by decide) (fun c_6 => ?_) (fun c_6 => absurd (nI_lt hi hn) c_6)
  refine lv_iload_n hx hb dJ15_checkIndex_16 rfl (lv_at hl 0 rfl) ?_
  exact r_iret S hr hlk dJ15_checkIndex_17 (congrArg (fun z : Int32 => some (Value.int z)) (show nI i = nI i from rfl))
set_option maxHeartbeats 4000000 in
theorem rj_ckI (l : Launch) (D : va_G) (dA : Nat → ClassId) (i n : Nat) (hi : i < n) (hn : n < 2 ^ 31) : RC l yJ14_checkIndex cJ14_checkIndex 2 (some .int) 1 22 D dA [.int (nI i), .int (nI n)] (fun _ => True) (fun v9 => v9 = some (.int (nI i))) := by
  refine RC.of (by decide) (Nat.le_of_ble_eq_true rfl) ?_
  intro p e s m below meth c ls S hr hlk hK hP hl
  have hx := S.1
  have hb := S.2.1
  have hl : lv_has ls 2 [(0, .int (nI i)), (1, .int (nI n))] := hl
  refine lv_iload_n hx hb dJ14_checkIndex_0 rfl (lv_at hl 0 rfl) ?_
  refine lv_iload_n hx hb dJ14_checkIndex_1 rfl (lv_at hl 1 rfl) ?_
  refine lv_null hx hb dJ14_checkIndex_2 ?_
  refine rc_Si (rest := []) [.int (nI i), .int (nI n), .null] 3 S hK (rj_check l D dA i n (by omega) (by omega)) wl_J14_105 wd_J14_J15_checkIndex rfl ⟨Nat.le_of_ble_eq_true rfl, Nat.le_of_ble_eq_true rfl⟩ hl.1 (Nat.le_of_ble_eq_true rfl) dJ14_checkIndex_3 ⟨Nat.le_refl 0, Nat.le_refl 0⟩ (trivial) ?_ rfl
  exact r_iret S hr hlk dJ14_checkIndex_6 (congrArg (fun z : Int32 => some (Value.int z)) (show nI i = nI i from rfl))
set_option maxHeartbeats 4000000 in
theorem rj_elem (l : Launch) (D : va_G) (dA : Nat → ClassId) (b ed cap : Nat) (mc : Int32) (nc : Nat) (f : Nat → Option Nat) (hcap : cap < 2 ^ 31) (i g : Nat) (hi : i < cap) (hg : f i = some g) : RC l yJ2_elementData cJ2_elementData 2 (some (.object "java/lang/Object")) 0 0 D dA [.ref b, .int (nI i)] (fun H => va_P D vwCl (LW dA b ed cap mc nc f) H) (fun v9 => v9 = some (.ref g)) := by
  refine RC.of (by decide) (Nat.le_of_ble_eq_true rfl) ?_
  intro p e s m below meth c ls S hr hlk hK hP hl
  have hx := S.1
  have hb := S.2.1
  have hl : lv_has ls 2 [(0, .ref b), (1, .int (nI i))] := hl
  refine lv_aload_n hx hb dJ2_elementData_0 rfl (lv_at hl 0 rfl) ?_
  refine l_get (v := .ref ed) S hK hP 0 rfl 1 (by decide) fl_J2_9 rfl dJ2_elementData_1 rfl ?_
  refine lv_iload_n hx hb dJ2_elementData_4 rfl (lv_at hl 1 rfl) ?_
  refine va_aldq (ws := LW dA b ed cap mc nc f) S.1 S.2.1 hK hP 1 5 (LW_1 (by omega)) rfl (vp_in_nI (show i < cap by omega) hcap) dJ2_elementData_5 ?_
  refine topv (z := .ref g) (by rw [nI_clamp (by omega), hg]; rfl) ?_
  exact r_aret S hr (by first | exact Or.inl ⟨_, rfl⟩ | exact Or.inr ⟨_, rfl⟩) hlk dJ2_elementData_6 (Or.inr ⟨_, rfl⟩) (rfl)
set_option maxHeartbeats 4000000 in
theorem rj_get (l : Launch) (D : va_G) (dA : Nat → ClassId) (b ed cap : Nat) (mc : Int32) (nc : Nat) (f : Nat → Option Nat) (hcap : cap < 2 ^ 31) (hnc : nc ≤ cap) (i g : Nat) (hi : i < nc) (hg : f i = some g) : RC l yJ2_get cJ2_get 2 (some (.object "java/lang/Object")) 2 43 D dA [.ref b, .int (nI i)] (fun H => va_P D vwCl (LW dA b ed cap mc nc f) H) (fun v9 => v9 = some (.ref g)) := by
  refine RC.of (by decide) (Nat.le_of_ble_eq_true rfl) ?_
  intro p e s m below meth c ls S hr hlk hK hP hl
  have hx := S.1
  have hb := S.2.1
  have hl : lv_has ls 2 [(0, .ref b), (1, .int (nI i))] := hl
  refine lv_iload_n hx hb dJ2_get_0 rfl (lv_at hl 1 rfl) ?_
  refine lv_aload_n hx hb dJ2_get_1 rfl (lv_at hl 0 rfl) ?_
  refine l_get (v := .int (nI nc)) S hK hP 0 rfl 2 (by decide) fl_J2_48 rfl dJ2_get_2 rfl ?_
  refine rc_Si (rest := []) [.int (nI i), .int (nI nc)] 2 S hK (rj_ckI l D dA i nc (by omega) (by omega)) wl_J2_118 wd_J2_J14_checkIndex rfl ⟨Nat.le_of_ble_eq_true rfl, Nat.le_of_ble_eq_true rfl⟩ hl.1 (Nat.le_of_ble_eq_true rfl) dJ2_get_5 ⟨Nat.le_refl 0, Nat.le_refl 0⟩ (trivial) ?_ rfl
  refine lv_pop hx hb dJ2_get_8 rfl ?_
  refine lv_aload_n hx hb dJ2_get_9 rfl (lv_at hl 0 rfl) ?_
  refine lv_iload_n hx hb dJ2_get_10 rfl (lv_at hl 1 rfl) ?_
  refine rc_Vr (rest := []) [.int (nI i)] 1 S hK (rj_elem l D dA b ed cap mc nc f hcap i g (by omega) hg) wl_J2_123 wd_J2_J2_elementData rfl ⟨Nat.le_of_ble_eq_true rfl, Nat.le_of_ble_eq_true rfl⟩ (va_recv hK hP (ci := 2) (q0 := 0) rfl rfl) hl.1 (Nat.le_of_ble_eq_true rfl) dJ2_get_11 ⟨Nat.le_refl 0, Nat.le_refl 0⟩ hP ?_ rfl
  exact r_aret S hr (by first | exact Or.inl ⟨_, rfl⟩ | exact Or.inr ⟨_, rfl⟩) hlk dJ2_get_14 (Or.inr ⟨_, rfl⟩) (rfl)
