/-! MODEL 3: what writes trace, fault, calls, sheets (by program: gen/model3.py) -/
set_option maxRecDepth 100000
set_option maxHeartbeats 4000000 in
theorem m1_fails (l : Launch) (D : va_G) (dA : Nat → ClassId) (a : Nat → Nat) (hI : mInj a) (σ : MS) (k : Int32) : MC l yX1_fails cX1_fails 2 (some .int) 0 0 D dA a [.ref (a 0), .int k] σ (fun v9 σ9 => v9 = some (.int ((-10) - k)) ∧ σ9 = σ.i 0 k) := by
  refine MC.of (by decide) (Nat.le_of_ble_eq_true rfl) ?_
  intro p e s m below meth c ls S hr hlk hK hM hl
  have hx := S.1
  have hb := S.2.1
  have hl : lv_has ls 2 [(0, .ref (a 0)), (1, .int k)] := hl
  refine lv_aload_n hx hb dX1_fails_0 rfl (lv_at hl 0 rfl) ?_
  refine lv_iload_n hx hb dX1_fails_1 rfl (lv_at hl 1 rfl) ?_
  refine m_put hI S hK hM 0 (by decide) rfl fl_X1_72 rfl rfl (by decide +kernel) dX1_fails_2 (fun H locs hM => ?_)
  refine lv_bipush (v := (-10)) hx hb dX1_fails_5 (by decide) ?_
  refine lv_iload_n hx hb dX1_fails_7 rfl (lv_at hl 1 rfl) ?_
  refine lv_isub hx hb dX1_fails_8 ?_
  exact m_iret S hr hlk hM dX1_fails_9 (⟨congrArg (fun z : Int32 => some (Value.int z)) (show (-10) - k = (-10) - k from rfl), rfl⟩)
set_option maxHeartbeats 4000000 in
theorem m1_lost (l : Launch) (D : va_G) (dA : Nat → ClassId) (a : Nat → Nat) (hI : mInj a) (σ : MS) (k : Int32) : MC l yX1_lost cX1_lost 2 (some .long) 0 0 D dA a [.ref (a 0), .int k] σ (fun v9 σ9 => v9 = some (.long (-9223372036854775808)) ∧ σ9 = σ.i 0 k) := by
  refine MC.of (by decide) (Nat.le_of_ble_eq_true rfl) ?_
  intro p e s m below meth c ls S hr hlk hK hM hl
  have hx := S.1
  have hb := S.2.1
  have hl : lv_has ls 2 [(0, .ref (a 0)), (1, .int k)] := hl
  refine lv_aload_n hx hb dX1_lost_0 rfl (lv_at hl 0 rfl) ?_
  refine lv_iload_n hx hb dX1_lost_1 rfl (lv_at hl 1 rfl) ?_
  refine m_put hI S hK hM 0 (by decide) rfl fl_X1_72 rfl rfl (by decide +kernel) dX1_lost_2 (fun H locs hM => ?_)
  refine lv_ldc2 (v := (-9223372036854775808)) hx hb S.2.2.2.1 (S.2.2.2.2 _ q1367) dX1_lost_5 ?_
  exact m_lret S hr hlk hM dX1_lost_8 (⟨congrArg (fun z : Int64 => some (Value.long z)) (show (-9223372036854775808) = (-9223372036854775808) from rfl), rfl⟩)
set_option maxHeartbeats 4000000 in
theorem m1_begins (l : Launch) (D : va_G) (dA : Nat → ClassId) (a : Nat → Nat) (hI : mInj a) (σ : MS) (k : Int32) : MC l yX1_begins cX1_begins 2 none 0 0 D dA a [.ref (a 0), .int k] σ (fun v9 σ9 => v9 = none ∧ σ9 = σ.i 1 (tr31 (σ.1 1) k)) := by
  refine MC.of (by decide) (Nat.le_of_ble_eq_true rfl) ?_
  intro p e s m below meth c ls S hr hlk hK hM hl
  have hx := S.1
  have hb := S.2.1
  have hl : lv_has ls 2 [(0, .ref (a 0)), (1, .int k)] := hl
  refine lv_aload_n hx hb dX1_begins_0 rfl (lv_at hl 0 rfl) ?_
  refine lv_bipush (v := 31) hx hb dX1_begins_1 (by decide) ?_
  refine lv_aload_n hx hb dX1_begins_3 rfl (lv_at hl 0 rfl) ?_
  refine m_get (v := .int (σ.1 1)) S hK hM.1 1 (by decide) fl_X1_230 rfl dX1_begins_4 rfl ?_
  refine lv_imul hx hb dX1_begins_7 ?_
  refine lv_iload_n hx hb dX1_begins_8 rfl (lv_at hl 1 rfl) ?_
  refine lv_iadd hx hb dX1_begins_9 ?_
  refine m_put hI S hK hM 1 (by decide) rfl fl_X1_230 rfl rfl (by decide +kernel) dX1_begins_10 (fun H locs hM => ?_)
  exact m_vret S hr hlk hM dX1_begins_13 (⟨rfl, rfl⟩)
set_option maxHeartbeats 4000000 in
theorem m1_lookAt (l : Launch) (D : va_G) (dA : Nat → ClassId) (a : Nat → Nat) (hI : mInj a) (σ : MS) (b : Nat) (x y : Int32) : MC l yX1_lookAt cX1_lookAt 4 none 0 0 D dA a [.ref (a 0), .ref b, .int x, .int y] σ (fun v9 σ9 => v9 = none ∧ σ9 = (((σ.i 17 (σ.1 17 + 1)).r b).i 22 x).i 23 y) := by
  refine MC.of (by decide) (Nat.le_of_ble_eq_true rfl) ?_
  intro p e s m below meth c ls S hr hlk hK hM hl
  have hx := S.1
  have hb := S.2.1
  have hl : lv_has ls 4 [(0, .ref (a 0)), (1, .ref b), (2, .int x), (3, .int y)] := hl
  refine lv_aload_n hx hb dX1_lookAt_0 rfl (lv_at hl 0 rfl) ?_
  refine lv_dup hx hb dX1_lookAt_1 rfl ?_
  refine m_get (v := .int (σ.1 17)) S hK hM.1 17 (by decide) fl_X1_161 rfl dX1_lookAt_2 rfl ?_
  refine lv_iconst (v := 1) hx hb dX1_lookAt_5 (by decide) ?_
  refine lv_iadd hx hb dX1_lookAt_6 ?_
  refine m_put hI S hK hM 17 (by decide) rfl fl_X1_161 rfl rfl (by decide +kernel) dX1_lookAt_7 (fun H locs hM => ?_)
  refine lv_aload_n hx hb dX1_lookAt_10 rfl (lv_at hl 0 rfl) ?_
  refine lv_aload_n hx hb dX1_lookAt_11 rfl (lv_at hl 1 rfl) ?_
  refine m_putr hI S hK hM fl_X1_57 dX1_lookAt_12 (fun H locs hM => ?_)
  refine lv_aload_n hx hb dX1_lookAt_15 rfl (lv_at hl 0 rfl) ?_
  refine lv_iload_n hx hb dX1_lookAt_16 rfl (lv_at hl 2 rfl) ?_
  refine m_put hI S hK hM 22 (by decide) rfl fl_X1_164 rfl rfl (by decide +kernel) dX1_lookAt_17 (fun H locs hM => ?_)
  refine lv_aload_n hx hb dX1_lookAt_20 rfl (lv_at hl 0 rfl) ?_
  refine lv_iload_n hx hb dX1_lookAt_21 rfl (lv_at hl 3 rfl) ?_
  refine m_put hI S hK hM 23 (by decide) rfl fl_X1_178 rfl rfl (by decide +kernel) dX1_lookAt_22 (fun H locs hM => ?_)
  exact m_vret S hr hlk hM dX1_lookAt_25 (⟨rfl, rfl⟩)
set_option maxHeartbeats 4000000 in
theorem r1_trace (l : Launch) (D : va_G) (dA : Nat → ClassId) (a : Nat → Nat) (σ : MS)  : RC l yX1_trace cX1_trace 1 (some .int) 0 0 D dA [.ref (a 0)] (fun H => va_P D vwCl (mW dA a σ) H) (fun v9 => v9 = some (.int (σ.1 1))) := by
  refine RC.of (by decide) (Nat.le_of_ble_eq_true rfl) ?_
  intro p e s m below meth c ls S hr hlk hK hP hl
  have hx := S.1
  have hb := S.2.1
  have hl : lv_has ls 1 [(0, .ref (a 0))] := hl
  have hP : va_P D vwCl (mW dA a σ) s.heap := hP
  refine lv_aload_n hx hb dX1_trace_0 rfl (lv_at hl 0 rfl) ?_
  refine m_get (v := .int (σ.1 1)) S hK hP 1 (by decide) fl_X1_230 rfl dX1_trace_1 rfl ?_
  exact r_iret S hr hlk dX1_trace_4 (congrArg (fun z : Int32 => some (Value.int z)) (show σ.1 1 = σ.1 1 from rfl))
set_option maxHeartbeats 4000000 in
theorem r1_fault (l : Launch) (D : va_G) (dA : Nat → ClassId) (a : Nat → Nat) (σ : MS)  : RC l yX1_fault cX1_fault 1 (some .int) 0 0 D dA [.ref (a 0)] (fun H => va_P D vwCl (mW dA a σ) H) (fun v9 => v9 = some (.int (σ.1 0))) := by
  refine RC.of (by decide) (Nat.le_of_ble_eq_true rfl) ?_
  intro p e s m below meth c ls S hr hlk hK hP hl
  have hx := S.1
  have hb := S.2.1
  have hl : lv_has ls 1 [(0, .ref (a 0))] := hl
  have hP : va_P D vwCl (mW dA a σ) s.heap := hP
  refine lv_aload_n hx hb dX1_fault_0 rfl (lv_at hl 0 rfl) ?_
  refine m_get (v := .int (σ.1 0)) S hK hP 0 (by decide) fl_X1_72 rfl dX1_fault_1 rfl ?_
  exact r_iret S hr hlk dX1_fault_4 (congrArg (fun z : Int32 => some (Value.int z)) (show σ.1 0 = σ.1 0 from rfl))
set_option maxHeartbeats 4000000 in
theorem m1_back (l : Launch) (D : va_G) (dA : Nat → ClassId) (a : Nat → Nat) (hI : mInj a) (σ : MS) (n : Nat) (net : Nat → Nat) (nc : Nat) (cp cq : Nat → Nat) (hG : MG σ n net nc cp cq) : MC l yX1_back cX1_back 1 (some .int) 0 0 D dA a [.ref (a 0)] σ (fun v9 σ9 => v9 = some (.int (spBack nc)) ∧ σ9 = if nc = 0 then σ else σ.i 9 (nI (nc - 1))) := by
  refine MC.of (by decide) (Nat.le_of_ble_eq_true rfl) ?_
  intro p e s m below meth c ls S hr hlk hK hM hl
  have hx := S.1
  have hb := S.2.1
  have hl : lv_has ls 1 [(0, .ref (a 0))] := hl
  have hn := hG.1
  have hnc := hG.2.2.2.1
  refine lv_aload_n hx hb dX1_back_0 rfl (lv_at hl 0 rfl) ?_
  refine m_get (v := .int (σ.1 9)) S hK hM.1 9 (by decide) fl_X1_103 rfl dX1_back_1 rfl ?_
  refine topi (z := nI nc) (hG.2.2.2.2.1) ?_
  refine lv_if_ne (tgt := 10) hx hb dX1_back_4 (by decide) (fun c_4 => ?_) (fun c_4 => ?_)
  · have c_4 : ¬ nc = 0 := fun h => c_4 (congrArg nI h)
    have e9 : nI nc - 1 = nI (nc - 1) := pk_sub (a := nc) (b := 1) (by omega)
    refine lv_aload_n hx hb dX1_back_10 rfl (lv_at hl 0 rfl) ?_
    refine lv_dup hx hb dX1_back_11 rfl ?_
    refine m_get (v := .int (σ.1 9)) S hK hM.1 9 (by decide) fl_X1_103 rfl dX1_back_12 rfl ?_
    refine topi (z := nI nc) (hG.2.2.2.2.1) ?_
    refine lv_iconst (v := 1) hx hb dX1_back_15 (by decide) ?_
    refine lv_isub hx hb dX1_back_16 ?_
    refine topi (z := nI (nc - 1)) (e9) ?_
    refine m_put hI S hK hM 9 (by decide) rfl fl_X1_103 rfl rfl (by decide +kernel) dX1_back_17 (fun H locs hM => ?_)
    refine lv_aload_n hx hb dX1_back_20 rfl (lv_at hl 0 rfl) ?_
    refine m_get (v := .int (nI (nc - 1))) S hK hM.1 9 (by decide) fl_X1_103 rfl dX1_back_21 rfl ?_
    exact m_iret S hr hlk hM dX1_back_24 (⟨congrArg (fun z : Int32 => some (Value.int z)) (show nI (nc - 1) = spBack nc from by simp [spBack, c_4]), by simp [c_4]⟩)
  · have c_4 : nc = 0 := nI_inj (by omega) (by decide) c_4
    refine lv_bipush (v := (-3)) hx hb dX1_back_7 (by decide) ?_
    exact m_iret S hr hlk hM dX1_back_9 (⟨congrArg (fun z : Int32 => some (Value.int z)) (show (-3) = spBack nc from by simp [spBack, c_4]), by simp [c_4]⟩)
set_option maxHeartbeats 4000000 in
theorem m1_call (l : Launch) (D : va_G) (dA : Nat → ClassId) (a : Nat → Nat) (hI : mInj a) (σ : MS) (n : Nat) (net : Nat → Nat) (nc : Nat) (cp cq : Nat → Nat) (hG : MG σ n net nc cp cq) (v w : Int32) : MC l yX1_call cX1_call 3 (some .int) 3 67 D dA a [.ref (a 0), .int v, .int w] σ (fun v9 σ9 => v9 = some (.int (spCall n net nc (stAt n cp cq nc) v w)) ∧ σ9 = if spCall n net nc (stAt n cp cq nc) v w < 0 then σ else mCallS σ nc v w) := by
  refine MC.of (by decide) (Nat.le_of_ble_eq_true rfl) ?_
  intro p e s m below meth c ls S hr hlk hK hM hl
  have hx := S.1
  have hb := S.2.1
  have hl : lv_has ls 3 [(0, .ref (a 0)), (1, .int v), (2, .int w)] := hl
  have hn := hG.1
  have hnc := hG.2.2.2.1
  have hst : stAt n cp cq nc < 65536 := stAt_lt hn nc (fun i hi => ⟨by have := (hG.2.2.2.2.2 i (by omega)).2.2; omega, by have := (hG.2.2.2.2.2 i (by omega)).2.2; omega⟩)
  refine lv_aload_n hx hb dX1_call_0 rfl (lv_at hl 0 rfl) ?_
  refine lv_iload_n hx hb dX1_call_1 rfl (lv_at hl 1 rfl) ?_
  refine rc_Vi (rest := []) [.int v] 1 S hK (r1_isPerson l D dA a σ n (hG.2.1) v) wl_X1_125 wd_X1_X1_isPerson rfl ⟨Nat.le_of_ble_eq_true rfl, Nat.le_of_ble_eq_true rfl⟩ (m_recv hK hM.1) hl.1 (Nat.le_of_ble_eq_true rfl) dX1_call_2 ⟨Nat.le_refl 0, Nat.le_refl 0⟩ (hM.1) ?_ rfl
  refine lv_if_eq (tgt := 16) hx hb dX1_call_5 (by decide) (fun c_5 => ?_) (fun c_5 => ?_)
  · have c_5 := b2i_eq0.mp c_5
    refine lv_iconst (v := (-1)) hx hb dX1_call_16 (by decide) ?_
    exact m_iret S hr hlk hM dX1_call_17 (⟨congrArg (fun z : Int32 => some (Value.int z)) (show (-1) = spCall n net nc (stAt n cp cq nc) v w from by simp [spCall, *]), by rw [if_pos (by simp [spCall, *])]⟩)
  · have c_5 := b2i_ne0.mp c_5
    refine lv_aload_n hx hb dX1_call_8 rfl (lv_at hl 0 rfl) ?_
    refine lv_iload_n hx hb dX1_call_9 rfl (lv_at hl 2 rfl) ?_
    refine rc_Vi (rest := []) [.int w] 1 S hK (r1_isPerson l D dA a σ n (hG.2.1) w) wl_X1_125 wd_X1_X1_isPerson rfl ⟨Nat.le_of_ble_eq_true rfl, Nat.le_of_ble_eq_true rfl⟩ (m_recv hK hM.1) hl.1 (Nat.le_of_ble_eq_true rfl) dX1_call_10 ⟨Nat.le_refl 0, Nat.le_refl 0⟩ (hM.1) ?_ rfl
    refine lv_if_ne (tgt := 18) hx hb dX1_call_13 (by decide) (fun c_13 => ?_) (fun c_13 => ?_)
    · have c_13 := b2i_ne0.mp c_13
      obtain ⟨pa, hpa, rfl⟩ := inP_some (by omega) c_5
      have hpa4 : pa < 4 := by omega
      obtain ⟨qa, hqa, rfl⟩ := inP_some (by omega) c_13
      have hqa4 : qa < 4 := by omega
      have hnum : numA net (stAt n cp cq nc) pa 4 < 16 := numA_lt (fun q hq => (hG.2.2.1 q hq).2) 4 (by omega)
      have hib : (inP (nI pa) n && inP (nI qa) n) = true := by rw [inP_nI hpa (by omega), inP_nI hqa (by omega)]; rfl
      refine lv_iload_n hx hb dX1_call_18 rfl (lv_at hl 1 rfl) ?_
      refine lv_iload_n hx hb dX1_call_19 rfl (lv_at hl 2 rfl) ?_
      refine lv_icmp_ne (tgt := 26) hx hb dX1_call_20 (by decide) (fun c_20 => ?_) (fun c_20 => ?_)
      · refine lv_aload_n hx hb dX1_call_26 rfl (lv_at hl 0 rfl) ?_
        refine m_get (v := .ref (a 6)) S hK hM.1 6 (by decide) fl_X1_19 rfl dX1_call_27 rfl ?_
        refine lv_aload_n hx hb dX1_call_30 rfl (lv_at hl 0 rfl) ?_
        refine lv_aload_n hx hb dX1_call_31 rfl (lv_at hl 0 rfl) ?_
        refine m_get (v := .int (σ.1 9)) S hK hM.1 9 (by decide) fl_X1_103 rfl dX1_call_32 rfl ?_
        refine topi (z := nI nc) (hG.2.2.2.2.1) ?_
        refine rc_Vi (rest := [.ref (a 6)]) [.int (nI nc)] 1 S hK (r1_stateAt l D dA a σ n net nc cp cq hG nc (by first | assumption | omega | decide)) wl_X1_128 wd_X1_X1_stateAt rfl ⟨Nat.le_of_ble_eq_true rfl, Nat.le_of_ble_eq_true rfl⟩ (m_recv hK hM.1) hl.1 (Nat.le_of_ble_eq_true rfl) dX1_call_35 ⟨Nat.le_refl 0, Nat.le_refl 0⟩ (hM.1) ?_ rfl
        refine lv_iload_n hx hb dX1_call_38 rfl (lv_at hl 1 rfl) ?_
        refine rc_Si (rest := []) [.ref (a 6), .int (nI (stAt n cp cq nc)), .int (nI pa)] 3 S hK (r1_numbersOf l D dA (a 6) (σ.2.1 6) net (stAt n cp cq nc) pa (fun q hq => (hG.2.2.1 q hq).1) (by first | assumption | omega | decide) (by first | assumption | omega | decide)) wl_X1_131 wd_X1_X1_numbersOf rfl ⟨Nat.le_of_ble_eq_true rfl, Nat.le_of_ble_eq_true rfl⟩ hl.1 (Nat.le_of_ble_eq_true rfl) dX1_call_39 ⟨Nat.le_refl 0, Nat.le_refl 0⟩ (m_cell hM.1 6 (by decide) rfl) ?_ rfl
        refine lv_iload_n hx hb dX1_call_42 rfl (lv_at hl 2 rfl) ?_
        refine rc_Si (rest := []) [.int (nI (numA net (stAt n cp cq nc) pa 4)), .int (nI qa)] 2 S hK (r1_has l D dA (numA net (stAt n cp cq nc) pa 4) qa (by first | assumption | omega | decide) (by first | assumption | omega | decide)) wl_X1_106 wd_X1_X1_has rfl ⟨Nat.le_of_ble_eq_true rfl, Nat.le_of_ble_eq_true rfl⟩ hl.1 (Nat.le_of_ble_eq_true rfl) dX1_call_43 ⟨Nat.le_refl 0, Nat.le_refl 0⟩ (trivial) ?_ rfl
        refine lv_if_ne (tgt := 52) hx hb dX1_call_46 (by decide) (fun c_46 => ?_) (fun c_46 => ?_)
        · have c_46 := b2i_ne0.mp c_46
          refine lv_aload_n hx hb dX1_call_52 rfl (lv_at hl 0 rfl) ?_
          refine m_get (v := .int (σ.1 9)) S hK hM.1 9 (by decide) fl_X1_103 rfl dX1_call_53 rfl ?_
          refine topi (z := nI nc) (hG.2.2.2.2.1) ?_
          refine lv_bipush (v := 12) hx hb dX1_call_56 (by decide) ?_
          refine lv_icmp_ne (tgt := 64) hx hb dX1_call_58 (by decide) (fun c_58 => ?_) (fun c_58 => ?_)
          · have c_58 : ¬ nc = 12 := fun h => c_58 (congrArg nI h)
            refine lv_aload_n hx hb dX1_call_64 rfl (lv_at hl 0 rfl) ?_
            refine m_get (v := .ref (a 10)) S hK hM.1 10 (by decide) fl_X1_25 rfl dX1_call_65 rfl ?_
            refine lv_aload_n hx hb dX1_call_68 rfl (lv_at hl 0 rfl) ?_
            refine m_get (v := .int (σ.1 9)) S hK hM.1 9 (by decide) fl_X1_103 rfl dX1_call_69 rfl ?_
            refine topi (z := nI nc) (hG.2.2.2.2.1) ?_
            refine lv_iload_n hx hb dX1_call_72 rfl (lv_at hl 1 rfl) ?_
            refine m_astn (j := nc) hI S hK hM 10 (by decide) rfl (show nc < 12 by omega) dX1_call_73 (fun H locs hM => ?_)
            refine lv_aload_n hx hb dX1_call_74 rfl (lv_at hl 0 rfl) ?_
            refine m_get (v := .ref (a 11)) S hK hM.1 11 (by decide) fl_X1_28 rfl dX1_call_75 rfl ?_
            refine lv_aload_n hx hb dX1_call_78 rfl (lv_at hl 0 rfl) ?_
            refine m_get (v := .int (σ.1 9)) S hK hM.1 9 (by decide) fl_X1_103 rfl dX1_call_79 rfl ?_
            refine topi (z := nI nc) (hG.2.2.2.2.1) ?_
            refine lv_iload_n hx hb dX1_call_82 rfl (lv_at hl 2 rfl) ?_
            refine m_astn (j := nc) hI S hK hM 11 (by decide) rfl (show nc < 12 by omega) dX1_call_83 (fun H locs hM => ?_)
            have hM : MB D dA a ((σ.b 10 (upd (σ.2.1 10) nc (nI pa))).b 11 (upd (σ.2.1 11) nc (nI qa))) s.heap H locs := hM
            refine lv_aload_n hx hb dX1_call_84 rfl (lv_at hl 0 rfl) ?_
            refine lv_dup hx hb dX1_call_85 rfl ?_
            refine m_get (v := .int (σ.1 9)) S hK hM.1 9 (by decide) fl_X1_103 rfl dX1_call_86 rfl ?_
            refine topi (z := nI nc) (hG.2.2.2.2.1) ?_
            refine lv_iconst (v := 1) hx hb dX1_call_89 (by decide) ?_
            refine lv_iadd hx hb dX1_call_90 ?_
            refine topi (z := nI (nc + 1)) (nI_1 nc) ?_
            refine m_put hI S hK hM 9 (by decide) rfl fl_X1_103 rfl rfl (by decide +kernel) dX1_call_91 (fun H locs hM => ?_)
            refine lv_aload_n hx hb dX1_call_94 rfl (lv_at hl 0 rfl) ?_
            refine m_get (v := .int (nI (nc + 1))) S hK hM.1 9 (by decide) fl_X1_103 rfl dX1_call_95 rfl ?_
            refine lv_iconst (v := 1) hx hb dX1_call_98 (by decide) ?_
            refine lv_isub hx hb dX1_call_99 ?_
            refine topi (z := nI nc) (nI_pred nc) ?_
            exact m_iret S hr hlk hM dX1_call_100 (⟨congrArg (fun z : Int32 => some (Value.int z)) (show nI nc = spCall n net nc (stAt n cp cq nc) (nI pa) (nI qa) from by rw [spCall, hib, if_neg (by decide), if_neg c_20, nI_clamp (by omega), nI_clamp (by omega), if_neg (by rw [c_46]; decide), if_neg c_58]), by rw [if_neg (by rw [spCall, hib, if_neg (by decide), if_neg c_20, nI_clamp (by omega), nI_clamp (by omega), if_neg (by rw [c_46]; decide), if_neg c_58]; exact nI_pos (by omega))]; rfl⟩)
          · have c_58 : nc = 12 := nI_inj (by omega) (by decide) c_58
            refine lv_bipush (v := (-4)) hx hb dX1_call_61 (by decide) ?_
            exact m_iret S hr hlk hM dX1_call_63 (⟨congrArg (fun z : Int32 => some (Value.int z)) (show (-4) = spCall n net nc (stAt n cp cq nc) (nI pa) (nI qa) from by rw [spCall, hib, if_neg (by decide), if_neg c_20, nI_clamp (by omega), nI_clamp (by omega), if_neg (by rw [c_46]; decide), if_pos c_58]), by rw [if_pos (by rw [spCall, hib, if_neg (by decide), if_neg c_20, nI_clamp (by omega), nI_clamp (by omega), if_neg (by rw [c_46]; decide), if_pos c_58]; decide)]⟩)
        · have c_46 := b2i_eq0.mp c_46
          refine lv_bipush (v := (-3)) hx hb dX1_call_49 (by decide) ?_
          exact m_iret S hr hlk hM dX1_call_51 (⟨congrArg (fun z : Int32 => some (Value.int z)) (show (-3) = spCall n net nc (stAt n cp cq nc) (nI pa) (nI qa) from by rw [spCall, hib, if_neg (by decide), if_neg c_20, nI_clamp (by omega), nI_clamp (by omega), if_pos c_46]), by rw [if_pos (by rw [spCall, hib, if_neg (by decide), if_neg c_20, nI_clamp (by omega), nI_clamp (by omega), if_pos c_46]; decide)]⟩)
      · refine lv_bipush (v := (-2)) hx hb dX1_call_23 (by decide) ?_
        exact m_iret S hr hlk hM dX1_call_25 (⟨congrArg (fun z : Int32 => some (Value.int z)) (show (-2) = spCall n net nc (stAt n cp cq nc) (nI pa) (nI qa) from by rw [spCall, hib, if_neg (by decide), if_pos c_20]), by rw [if_pos (by rw [spCall, hib, if_neg (by decide), if_pos c_20]; decide)]⟩)
    · have c_13 := b2i_eq0.mp c_13
      refine lv_iconst (v := (-1)) hx hb dX1_call_16 (by decide) ?_
      exact m_iret S hr hlk hM dX1_call_17 (⟨congrArg (fun z : Int32 => some (Value.int z)) (show (-1) = spCall n net nc (stAt n cp cq nc) v w from by simp [spCall, *]), by rw [if_pos (by simp [spCall, *])]⟩)
set_option maxHeartbeats 4000000 in
theorem m1_tell (l : Launch) (D : va_G) (dA : Nat → ClassId) (a : Nat → Nat) (hI : mInj a) (σ : MS) (n : Nat) (net : Nat → Nat) (nc : Nat) (cp cq : Nat → Nat) (hG : MG σ n net nc cp cq) (v : Int32) : MC l yX1_tell cX1_tell 4 (some .int) 5 112 D dA a [.ref (a 0), .int v] σ (fun v9 σ9 => v9 = some (.int ((spTell n nc cp cq (σ.1 1) v).1)) ∧ σ9 = if inP v nc then σ.i 1 (spTell n nc cp cq (σ.1 1) v).2 else σ) := by
  refine MC.of (by decide) (Nat.le_of_ble_eq_true rfl) ?_
  intro p e s m below meth c ls S hr hlk hK hM hl
  have hx := S.1
  have hb := S.2.1
  have hl : lv_has ls 4 [(0, .ref (a 0)), (1, .int v)] := hl
  have hn := hG.1
  have hnc := hG.2.2.2.1
  refine lv_aload_n hx hb dX1_tell_0 rfl (lv_at hl 0 rfl) ?_
  refine lv_iload_n hx hb dX1_tell_1 rfl (lv_at hl 1 rfl) ?_
  refine rc_Vi (rest := []) [.int v] 1 S hK (r1_isCall l D dA a σ nc (hG.2.2.2.2.1) v) wl_X1_144 wd_X1_X1_isCall rfl ⟨Nat.le_of_ble_eq_true rfl, Nat.le_of_ble_eq_true rfl⟩ (m_recv hK hM.1) hl.1 (Nat.le_of_ble_eq_true rfl) dX1_tell_2 ⟨Nat.le_refl 0, Nat.le_refl 0⟩ (hM.1) ?_ rfl
  refine lv_if_ne (tgt := 10) hx hb dX1_tell_5 (by decide) (fun c_5 => ?_) (fun c_5 => ?_)
  · have c_5 := b2i_ne0.mp c_5
    obtain ⟨j, hj, rfl⟩ := inP_some (by omega) c_5
    have hcj := hG.2.2.2.2.2 j hj
    have hlr : ∀ w, lrnt n cp cq j w < 65536 := fun w => Nat.lt_trans (lrnt_lt n cp cq j w) (by decide)
    have hlp := hlr (cp j)
    have hlq := hlr (cq j)
    refine lv_bipush (v := 10) hx hb dX1_tell_10 (by decide) ?_
    refine lv_aload_n hx hb dX1_tell_12 rfl (lv_at hl 0 rfl) ?_
    refine m_get (v := .ref (a 10)) S hK hM.1 10 (by decide) fl_X1_25 rfl dX1_tell_13 rfl ?_
    refine lv_iload_n hx hb dX1_tell_16 rfl (lv_at hl 1 rfl) ?_
    refine m_aldn (j := j) (v := nI (cp j)) S hK hM.1 10 (by decide) rfl (show j < 12 by omega) dX1_tell_17 ((hG.2.2.2.2.2 j (by omega)).1) ?_
    refine lv_imul hx hb dX1_tell_18 ?_
    refine lv_aload_n hx hb dX1_tell_19 rfl (lv_at hl 0 rfl) ?_
    refine m_get (v := .ref (a 11)) S hK hM.1 11 (by decide) fl_X1_28 rfl dX1_tell_20 rfl ?_
    refine lv_iload_n hx hb dX1_tell_23 rfl (lv_at hl 1 rfl) ?_
    refine m_aldn (j := j) (v := nI (cq j)) S hK hM.1 11 (by decide) rfl (show j < 12 by omega) dX1_tell_24 ((hG.2.2.2.2.2 j (by omega)).2.1) ?_
    refine lv_iadd hx hb dX1_tell_25 ?_
    refine lv_istore_n (lv' := [(2, .int ((10 * (nI (cp j))) + (nI (cq j)))), (0, .ref (a 0)), (1, .int (nI j))]) hx hb dX1_tell_26 rfl hl (by decide) rfl (fun ls hl => ?_)
    refine lv_bipush (v := 100) hx hb dX1_tell_27 (by decide) ?_
    refine lv_aload_n hx hb dX1_tell_29 rfl (lv_at hl 1 rfl) ?_
    refine lv_iload_n hx hb dX1_tell_30 rfl (lv_at hl 2 rfl) ?_
    refine lv_aload_n hx hb dX1_tell_31 rfl (lv_at hl 1 rfl) ?_
    refine m_get (v := .ref (a 10)) S hK hM.1 10 (by decide) fl_X1_25 rfl dX1_tell_32 rfl ?_
    refine lv_iload_n hx hb dX1_tell_35 rfl (lv_at hl 2 rfl) ?_
    refine m_aldn (j := j) (v := nI (cp j)) S hK hM.1 10 (by decide) rfl (show j < 12 by omega) dX1_tell_36 ((hG.2.2.2.2.2 j (by omega)).1) ?_
    refine rc_Vi (rest := [.int 100]) [.int (nI j), .int (nI (cp j))] 2 S hK (r1_learnt l D dA a σ n net nc cp cq hG j (cp j) (by first | assumption | omega | decide) (by first | assumption | omega | decide)) wl_X1_138 wd_X1_X1_learnt rfl ⟨Nat.le_of_ble_eq_true rfl, Nat.le_of_ble_eq_true rfl⟩ (m_recv hK hM.1) hl.1 (Nat.le_of_ble_eq_true rfl) dX1_tell_37 ⟨Nat.le_refl 0, Nat.le_refl 0⟩ (hM.1) ?_ rfl
    refine rc_Si (rest := [.int 100]) [.int (nI (lrnt n cp cq j (cp j)))] 1 S hK (r1_bitsOf l D dA (lrnt n cp cq j (cp j)) (by first | assumption | omega | decide)) wl_X1_141 wd_X1_X1_bitsOf rfl ⟨Nat.le_of_ble_eq_true rfl, Nat.le_of_ble_eq_true rfl⟩ hl.1 (Nat.le_of_ble_eq_true rfl) dX1_tell_40 ⟨Nat.le_refl 0, Nat.le_refl 0⟩ (trivial) ?_ rfl
    refine lv_aload_n hx hb dX1_tell_43 rfl (lv_at hl 1 rfl) ?_
    refine lv_iload_n hx hb dX1_tell_44 rfl (lv_at hl 2 rfl) ?_
    refine lv_aload_n hx hb dX1_tell_45 rfl (lv_at hl 1 rfl) ?_
    refine m_get (v := .ref (a 11)) S hK hM.1 11 (by decide) fl_X1_28 rfl dX1_tell_46 rfl ?_
    refine lv_iload_n hx hb dX1_tell_49 rfl (lv_at hl 2 rfl) ?_
    refine m_aldn (j := j) (v := nI (cq j)) S hK hM.1 11 (by decide) rfl (show j < 12 by omega) dX1_tell_50 ((hG.2.2.2.2.2 j (by omega)).2.1) ?_
    refine rc_Vi (rest := [.int (nI (bts (lrnt n cp cq j (cp j)) 16)), .int 100]) [.int (nI j), .int (nI (cq j))] 2 S hK (r1_learnt l D dA a σ n net nc cp cq hG j (cq j) (by first | assumption | omega | decide) (by first | assumption | omega | decide)) wl_X1_138 wd_X1_X1_learnt rfl ⟨Nat.le_of_ble_eq_true rfl, Nat.le_of_ble_eq_true rfl⟩ (m_recv hK hM.1) hl.1 (Nat.le_of_ble_eq_true rfl) dX1_tell_51 ⟨Nat.le_refl 0, Nat.le_refl 0⟩ (hM.1) ?_ rfl
    refine rc_Si (rest := [.int (nI (bts (lrnt n cp cq j (cp j)) 16)), .int 100]) [.int (nI (lrnt n cp cq j (cq j)))] 1 S hK (r1_bitsOf l D dA (lrnt n cp cq j (cq j)) (by first | assumption | omega | decide)) wl_X1_141 wd_X1_X1_bitsOf rfl ⟨Nat.le_of_ble_eq_true rfl, Nat.le_of_ble_eq_true rfl⟩ hl.1 (Nat.le_of_ble_eq_true rfl) dX1_tell_54 ⟨Nat.le_refl 0, Nat.le_refl 0⟩ (trivial) ?_ rfl
    refine lv_iadd hx hb dX1_tell_57 ?_
    refine topi (z := nI (nws n cp cq j)) (nI_add _ _) ?_
    refine lv_imul hx hb dX1_tell_58 ?_
    refine lv_istore_n (lv' := [(3, .int (100 * (nI (nws n cp cq j)))), (2, .int ((10 * (nI (cp j))) + (nI (cq j)))), (0, .ref (a 0)), (1, .int (nI j))]) hx hb dX1_tell_59 rfl hl (by decide) rfl (fun ls hl => ?_)
    refine lv_aload_n hx hb dX1_tell_60 rfl (lv_at hl 2 rfl) ?_
    refine lv_iload_n hx hb dX1_tell_61 rfl (lv_at hl 3 rfl) ?_
    refine rc_Vi (rest := []) [.int (nI j)] 1 S hK (r1_kindOf l D dA a σ n net nc cp cq hG j (by first | assumption | omega | decide)) wl_X1_147 wd_X1_X1_kindOf rfl ⟨Nat.le_of_ble_eq_true rfl, Nat.le_of_ble_eq_true rfl⟩ (m_recv hK hM.1) hl.1 (Nat.le_of_ble_eq_true rfl) dX1_tell_62 ⟨Nat.le_refl 0, Nat.le_refl 0⟩ (hM.1) ?_ rfl
    by_cases c_65_1 : knd n cp cq j = 1
    · refine lv_lookup (off := 27) (tgt := 92) hx hb dX1_tell_65 (by decide) (by rw [c_65_1]; rfl) (by decide) ?_
      refine lv_aload_n hx hb dX1_tell_92 rfl (lv_at hl 2 rfl) ?_
      refine lv_iconst (v := 2) hx hb dX1_tell_93 (by decide) ?_
      refine mc_Vv (rest := []) [.int 2] 1 S hK hM (m1_begins l D dA a hI σ 2) wl_X1_233 wd_X1_X1_begins rfl ⟨Nat.le_of_ble_eq_true rfl, Nat.le_of_ble_eq_true rfl⟩ hl.1 (Nat.le_of_ble_eq_true rfl) dX1_tell_94 ⟨Nat.le_refl 0, Nat.le_refl 0⟩ (fun H locs hM => ?_) rfl
      refine lv_aload_n hx hb dX1_tell_97 rfl (lv_at hl 2 rfl) ?_
      refine lv_iconst (v := 1) hx hb dX1_tell_98 (by decide) ?_
      refine mc_Vv (rest := []) [.int 1] 1 S hK hM (m1_begins l D dA a hI (σ.i 1 (tr31 (σ.1 1) 2)) 1) wl_X1_233 wd_X1_X1_begins rfl ⟨Nat.le_of_ble_eq_true rfl, Nat.le_of_ble_eq_true rfl⟩ hl.1 (Nat.le_of_ble_eq_true rfl) dX1_tell_99 ⟨Nat.le_refl 0, Nat.le_refl 0⟩ (fun H locs hM => ?_) rfl
      refine lv_iload_n hx hb dX1_tell_102 rfl (lv_at hl 1 rfl) ?_
      refine lv_iload_n hx hb dX1_tell_103 rfl (lv_at hl 0 rfl) ?_
      refine lv_iadd hx hb dX1_tell_104 ?_
      exact m_iret S hr hlk hM dX1_tell_105 (⟨congrArg (fun z : Int32 => some (Value.int z)) (show ((10 * (nI (cp j))) + (nI (cq j))) + (100 * (nI (nws n cp cq j))) = (spTell n nc cp cq (σ.1 1) (nI j)).1 from by simp [spTell, inP_nI hj (by omega), nI_clamp (show j < 2 ^ 31 by omega), *]), by simp [spTell, MS_ii, MS_i1, inP_nI hj (by omega), nI_clamp (show j < 2 ^ 31 by omega), *]⟩)
    by_cases c_65_2 : knd n cp cq j = 2
    · refine lv_lookup (off := 41) (tgt := 106) hx hb dX1_tell_65 (by decide) (by rw [c_65_2]; rfl) (by decide) ?_
      refine lv_aload_n hx hb dX1_tell_106 rfl (lv_at hl 2 rfl) ?_
      refine lv_iconst (v := 3) hx hb dX1_tell_107 (by decide) ?_
      refine mc_Vv (rest := []) [.int 3] 1 S hK hM (m1_begins l D dA a hI σ 3) wl_X1_233 wd_X1_X1_begins rfl ⟨Nat.le_of_ble_eq_true rfl, Nat.le_of_ble_eq_true rfl⟩ hl.1 (Nat.le_of_ble_eq_true rfl) dX1_tell_108 ⟨Nat.le_refl 0, Nat.le_refl 0⟩ (fun H locs hM => ?_) rfl
      refine lv_aload_n hx hb dX1_tell_111 rfl (lv_at hl 2 rfl) ?_
      refine lv_iconst (v := 2) hx hb dX1_tell_112 (by decide) ?_
      refine mc_Vv (rest := []) [.int 2] 1 S hK hM (m1_begins l D dA a hI (σ.i 1 (tr31 (σ.1 1) 3)) 2) wl_X1_233 wd_X1_X1_begins rfl ⟨Nat.le_of_ble_eq_true rfl, Nat.le_of_ble_eq_true rfl⟩ hl.1 (Nat.le_of_ble_eq_true rfl) dX1_tell_113 ⟨Nat.le_refl 0, Nat.le_refl 0⟩ (fun H locs hM => ?_) rfl
      refine lv_aload_n hx hb dX1_tell_116 rfl (lv_at hl 2 rfl) ?_
      refine lv_iconst (v := 1) hx hb dX1_tell_117 (by decide) ?_
      refine mc_Vv (rest := []) [.int 1] 1 S hK hM (m1_begins l D dA a hI ((σ.i 1 (tr31 (σ.1 1) 3)).i 1 (tr31 (tr31 (σ.1 1) 3) 2)) 1) wl_X1_233 wd_X1_X1_begins rfl ⟨Nat.le_of_ble_eq_true rfl, Nat.le_of_ble_eq_true rfl⟩ hl.1 (Nat.le_of_ble_eq_true rfl) dX1_tell_118 ⟨Nat.le_refl 0, Nat.le_refl 0⟩ (fun H locs hM => ?_) rfl
      refine lv_aload_n hx hb dX1_tell_121 rfl (lv_at hl 2 rfl) ?_
      refine lv_iconst (v := 1) hx hb dX1_tell_122 (by decide) ?_
      refine mc_Vv (rest := []) [.int 1] 1 S hK hM (m1_begins l D dA a hI (((σ.i 1 (tr31 (σ.1 1) 3)).i 1 (tr31 (tr31 (σ.1 1) 3) 2)).i 1 (tr31 (tr31 (tr31 (σ.1 1) 3) 2) 1)) 1) wl_X1_233 wd_X1_X1_begins rfl ⟨Nat.le_of_ble_eq_true rfl, Nat.le_of_ble_eq_true rfl⟩ hl.1 (Nat.le_of_ble_eq_true rfl) dX1_tell_123 ⟨Nat.le_refl 0, Nat.le_refl 0⟩ (fun H locs hM => ?_) rfl
      refine lv_iconst (v := 2) hx hb dX1_tell_126 (by decide) ?_
      refine lv_iload_n hx hb dX1_tell_127 rfl (lv_at hl 1 rfl) ?_
      refine lv_imul hx hb dX1_tell_128 ?_
      refine lv_iload_n hx hb dX1_tell_129 rfl (lv_at hl 0 rfl) ?_
      refine lv_iadd hx hb dX1_tell_130 ?_
      exact m_iret S hr hlk hM dX1_tell_131 (⟨congrArg (fun z : Int32 => some (Value.int z)) (show (2 * ((10 * (nI (cp j))) + (nI (cq j)))) + (100 * (nI (nws n cp cq j))) = (spTell n nc cp cq (σ.1 1) (nI j)).1 from by simp [spTell, inP_nI hj (by omega), nI_clamp (show j < 2 ^ 31 by omega), *]), by simp [spTell, MS_ii, MS_i1, inP_nI hj (by omega), nI_clamp (show j < 2 ^ 31 by omega), *]⟩)
    refine lv_lookup (off := 67) (tgt := 132) hx hb dX1_tell_65 (by decide) ((lv_osw (k := 1) (fun h9 => c_65_1 (nI_inj (Nat.lt_trans (knd_lt n cp cq j) (by decide)) (by decide) h9)) rfl).trans ((lv_osw (k := 2) (fun h9 => c_65_2 (nI_inj (Nat.lt_trans (knd_lt n cp cq j) (by decide)) (by decide) h9)) rfl).trans (rfl))) (by decide) ?_
    refine lv_aload_n hx hb dX1_tell_132 rfl (lv_at hl 2 rfl) ?_
    refine lv_iconst (v := 1) hx hb dX1_tell_133 (by decide) ?_
    refine mc_Vv (rest := []) [.int 1] 1 S hK hM (m1_begins l D dA a hI σ 1) wl_X1_233 wd_X1_X1_begins rfl ⟨Nat.le_of_ble_eq_true rfl, Nat.le_of_ble_eq_true rfl⟩ hl.1 (Nat.le_of_ble_eq_true rfl) dX1_tell_134 ⟨Nat.le_refl 0, Nat.le_refl 0⟩ (fun H locs hM => ?_) rfl
    refine lv_iload_n hx hb dX1_tell_137 rfl (lv_at hl 1 rfl) ?_
    exact m_iret S hr hlk hM dX1_tell_138 (⟨congrArg (fun z : Int32 => some (Value.int z)) (show (10 * (nI (cp j))) + (nI (cq j)) = (spTell n nc cp cq (σ.1 1) (nI j)).1 from by simp [spTell, inP_nI hj (by omega), nI_clamp (show j < 2 ^ 31 by omega), *]), by simp [spTell, MS_ii, MS_i1, inP_nI hj (by omega), nI_clamp (show j < 2 ^ 31 by omega), *]⟩)
  · have c_5 := b2i_eq0.mp c_5
    refine lv_iconst (v := (-1)) hx hb dX1_tell_8 (by decide) ?_
    exact m_iret S hr hlk hM dX1_tell_9 (⟨congrArg (fun z : Int32 => some (Value.int z)) (show (-1) = (spTell n nc cp cq (σ.1 1) v).1 from by simp [spTell, *]), by simp [c_5]⟩)
set_option maxHeartbeats 4000000 in
theorem m1_log (l : Launch) (D : va_G) (dA : Nat → ClassId) (a : Nat → Nat) (hI : mInj a) (σ : MS) (n : Nat) (net : Nat → Nat) (nc : Nat) (cp cq : Nat → Nat) (hG : MG σ n net nc cp cq) (v : Int32) : MC l yX1_log cX1_log 3 (some .int) 5 112 D dA a [.ref (a 0), .int v] σ (fun v9 σ9 => v9 = some (.int ((spLog n nc cp cq (σ.1 1) v).1)) ∧ σ9 = if inP v nc then σ.i 1 (spLog n nc cp cq (σ.1 1) v).2 else σ) := by
  refine MC.of (by decide) (Nat.le_of_ble_eq_true rfl) ?_
  intro p e s m below meth c ls S hr hlk hK hM hl
  have hx := S.1
  have hb := S.2.1
  have hl : lv_has ls 3 [(0, .ref (a 0)), (1, .int v)] := hl
  have hn := hG.1
  have hnc := hG.2.2.2.1
  refine lv_aload_n hx hb dX1_log_0 rfl (lv_at hl 0 rfl) ?_
  refine lv_iload_n hx hb dX1_log_1 rfl (lv_at hl 1 rfl) ?_
  refine rc_Vi (rest := []) [.int v] 1 S hK (r1_isCall l D dA a σ nc (hG.2.2.2.2.1) v) wl_X1_144 wd_X1_X1_isCall rfl ⟨Nat.le_of_ble_eq_true rfl, Nat.le_of_ble_eq_true rfl⟩ (m_recv hK hM.1) hl.1 (Nat.le_of_ble_eq_true rfl) dX1_log_2 ⟨Nat.le_refl 0, Nat.le_refl 0⟩ (hM.1) ?_ rfl
  refine lv_if_ne (tgt := 10) hx hb dX1_log_5 (by decide) (fun c_5 => ?_) (fun c_5 => ?_)
  · have c_5 := b2i_ne0.mp c_5
    obtain ⟨j, hj, rfl⟩ := inP_some (by omega) c_5
    have hcj := hG.2.2.2.2.2 j hj
    refine lv_aload_n hx hb dX1_log_10 rfl (lv_at hl 0 rfl) ?_
    refine lv_iload_n hx hb dX1_log_11 rfl (lv_at hl 1 rfl) ?_
    refine rc_Vi (rest := []) [.int (nI j)] 1 S hK (r1_kindOf l D dA a σ n net nc cp cq hG j (by first | assumption | omega | decide)) wl_X1_147 wd_X1_X1_kindOf rfl ⟨Nat.le_of_ble_eq_true rfl, Nat.le_of_ble_eq_true rfl⟩ (m_recv hK hM.1) hl.1 (Nat.le_of_ble_eq_true rfl) dX1_log_12 ⟨Nat.le_refl 0, Nat.le_refl 0⟩ (hM.1) ?_ rfl
    refine lv_iconst (v := 2) hx hb dX1_log_15 (by decide) ?_
    refine lv_icmp_ne (tgt := 23) hx hb dX1_log_16 (by decide) (fun c_16 => ?_) (fun c_16 => ?_)
    · have c_16 : ¬ knd n cp cq j = 2 := fun h => c_16 (congrArg nI h)
      refine lv_iconst (v := 0) hx hb dX1_log_23 (by decide) ?_
      refine lv_istore_n (lv' := [(2, .int 0), (0, .ref (a 0)), (1, .int (nI j))]) hx hb dX1_log_24 rfl hl (by decide) rfl (fun ls hl => ?_)
      refine lv_aload_n hx hb dX1_log_25 rfl (lv_at hl 1 rfl) ?_
      refine lv_iload_n hx hb dX1_log_26 rfl (lv_at hl 0 rfl) ?_
      refine lv_if_eq (tgt := 34) hx hb dX1_log_27 (by decide) (fun c_27 => ?_) (fun c_27 => absurd (rfl) c_27)
      refine lv_iconst (v := 4) hx hb dX1_log_34 (by decide) ?_
      refine mc_Vv (rest := []) [.int 4] 1 S hK hM (m1_begins l D dA a hI σ 4) wl_X1_233 wd_X1_X1_begins rfl ⟨Nat.le_of_ble_eq_true rfl, Nat.le_of_ble_eq_true rfl⟩ hl.1 (Nat.le_of_ble_eq_true rfl) dX1_log_35 ⟨Nat.le_refl 0, Nat.le_refl 0⟩ (fun H locs hM => ?_) rfl
      refine lv_iload_n hx hb dX1_log_38 rfl (lv_at hl 0 rfl) ?_
      refine lv_if_eq (tgt := 47) hx hb dX1_log_39 (by decide) (fun c_39 => ?_) (fun c_39 => absurd (rfl) c_39)
      refine lv_iload_n hx hb dX1_log_47 rfl (lv_at hl 2 rfl) ?_
      exact m_iret S hr hlk hM dX1_log_48 (⟨congrArg (fun z : Int32 => some (Value.int z)) (show nI j = (spLog n nc cp cq (σ.1 1) (nI j)).1 from by simp [spLog, inP_nI hj (by omega), nI_clamp (show j < 2 ^ 31 by omega), *]), by simp [spLog, MS_ii, MS_i1, inP_nI hj (by omega), nI_clamp (show j < 2 ^ 31 by omega), *]⟩)
    · have c_16 : knd n cp cq j = 2 := nI_inj (Nat.lt_trans (knd_lt n cp cq j) (by decide)) (by decide) c_16
      refine lv_iconst (v := 1) hx hb dX1_log_19 (by decide) ?_
      refine lv_goto (tgt := 24) hx hb dX1_log_20 (by decide) ?_
      refine lv_istore_n (lv' := [(2, .int 1), (0, .ref (a 0)), (1, .int (nI j))]) hx hb dX1_log_24 rfl hl (by decide) rfl (fun ls hl => ?_)
      refine lv_aload_n hx hb dX1_log_25 rfl (lv_at hl 1 rfl) ?_
      refine lv_iload_n hx hb dX1_log_26 rfl (lv_at hl 0 rfl) ?_
      refine lv_if_eq (tgt := 34) hx hb dX1_log_27 (by decide) (fun c_27 => absurd c_27 (by decide)) (fun c_27 => ?_)
      refine lv_iconst (v := 5) hx hb dX1_log_30 (by decide) ?_
      refine lv_goto (tgt := 35) hx hb dX1_log_31 (by decide) ?_
      refine mc_Vv (rest := []) [.int 5] 1 S hK hM (m1_begins l D dA a hI σ 5) wl_X1_233 wd_X1_X1_begins rfl ⟨Nat.le_of_ble_eq_true rfl, Nat.le_of_ble_eq_true rfl⟩ hl.1 (Nat.le_of_ble_eq_true rfl) dX1_log_35 ⟨Nat.le_refl 0, Nat.le_refl 0⟩ (fun H locs hM => ?_) rfl
      refine lv_iload_n hx hb dX1_log_38 rfl (lv_at hl 0 rfl) ?_
      refine lv_if_eq (tgt := 47) hx hb dX1_log_39 (by decide) (fun c_39 => absurd c_39 (by decide)) (fun c_39 => ?_)
      refine lv_bipush (v := 70) hx hb dX1_log_42 (by decide) ?_
      refine lv_goto (tgt := 48) hx hb dX1_log_44 (by decide) ?_
      exact m_iret S hr hlk hM dX1_log_48 (⟨congrArg (fun z : Int32 => some (Value.int z)) (show 70 = (spLog n nc cp cq (σ.1 1) (nI j)).1 from by simp [spLog, inP_nI hj (by omega), nI_clamp (show j < 2 ^ 31 by omega), *]), by simp [spLog, MS_ii, MS_i1, inP_nI hj (by omega), nI_clamp (show j < 2 ^ 31 by omega), *]⟩)
  · have c_5 := b2i_eq0.mp c_5
    refine lv_iconst (v := (-1)) hx hb dX1_log_8 (by decide) ?_
    exact m_iret S hr hlk hM dX1_log_9 (⟨congrArg (fun z : Int32 => some (Value.int z)) (show (-1) = (spLog n nc cp cq (σ.1 1) v).1 from by simp [spLog, *]), by simp [c_5]⟩)
set_option maxHeartbeats 4000000 in
theorem m1_as (l : Launch) (D : va_G) (dA : Nat → ClassId) (a : Nat → Nat) (hI : mInj a) (σ : MS) (n : Nat) (net : Nat → Nat) (nc : Nat) (cp cq : Nat → Nat) (hG : MG σ n net nc cp cq) (v w : Int32) : MC l yX1_as cX1_as 3 (some .int) 5 112 D dA a [.ref (a 0), .int v, .int w] σ (fun v9 σ9 => v9 = some (.int ((spAs n nc cp cq v w).1)) ∧ σ9 = σ.i 0 (spAs n nc cp cq v w).2) := by
  refine MC.of (by decide) (Nat.le_of_ble_eq_true rfl) ?_
  intro p e s m below meth c ls S hr hlk hK hM hl
  have hx := S.1
  have hb := S.2.1
  have hl : lv_has ls 3 [(0, .ref (a 0)), (1, .int v), (2, .int w)] := hl
  have hn := hG.1
  have hnc := hG.2.2.2.1
  refine lv_aload_n hx hb dX1_as_0 rfl (lv_at hl 0 rfl) ?_
  refine lv_iconst (v := 0) hx hb dX1_as_1 (by decide) ?_
  refine m_put hI S hK hM 0 (by decide) rfl fl_X1_72 rfl rfl (by decide +kernel) dX1_as_2 (fun H locs hM => ?_)
  refine lv_aload_n hx hb dX1_as_5 rfl (lv_at hl 0 rfl) ?_
  refine lv_iload_n hx hb dX1_as_6 rfl (lv_at hl 1 rfl) ?_
  refine rc_Vi (rest := []) [.int v] 1 S hK (r1_isCall l D dA a (σ.i 0 0) nc (hG.2.2.2.2.1) v) wl_X1_144 wd_X1_X1_isCall rfl ⟨Nat.le_of_ble_eq_true rfl, Nat.le_of_ble_eq_true rfl⟩ (m_recv hK hM.1) hl.1 (Nat.le_of_ble_eq_true rfl) dX1_as_7 ⟨Nat.le_refl 0, Nat.le_refl 0⟩ (hM.1) ?_ rfl
  refine lv_if_ne (tgt := 15) hx hb dX1_as_10 (by decide) (fun c_10 => ?_) (fun c_10 => ?_)
  · have c_10 := b2i_ne0.mp c_10
    obtain ⟨j, hj, rfl⟩ := inP_some (by omega) c_10
    have hcj := hG.2.2.2.2.2 j hj
    refine lv_iload_n hx hb dX1_as_15 rfl (lv_at hl 2 rfl) ?_
    refine lv_iconst (v := 0) hx hb dX1_as_16 (by decide) ?_
    refine lv_iconst (v := 2) hx hb dX1_as_17 (by decide) ?_
    refine rc_Si (rest := []) [.int w, .int 0, .int 2] 3 S hK (r1_isIn l D dA w 0 2) wl_X1_78 wd_X1_X1_isIn rfl ⟨Nat.le_of_ble_eq_true rfl, Nat.le_of_ble_eq_true rfl⟩ hl.1 (Nat.le_of_ble_eq_true rfl) dX1_as_18 ⟨Nat.le_refl 0, Nat.le_refl 0⟩ (trivial) ?_ rfl
    refine lv_if_ne (tgt := 27) hx hb dX1_as_21 (by decide) (fun c_21 => ?_) (fun c_21 => ?_)
    · have c_21 := b2i_ne0.mp c_21
      refine lv_aload_n hx hb dX1_as_27 rfl (lv_at hl 0 rfl) ?_
      refine lv_iload_n hx hb dX1_as_28 rfl (lv_at hl 1 rfl) ?_
      refine rc_Vi (rest := []) [.int (nI j)] 1 S hK (r1_kindOf l D dA a (σ.i 0 0) n net nc cp cq hG j (by first | assumption | omega | decide)) wl_X1_147 wd_X1_X1_kindOf rfl ⟨Nat.le_of_ble_eq_true rfl, Nat.le_of_ble_eq_true rfl⟩ (m_recv hK hM.1) hl.1 (Nat.le_of_ble_eq_true rfl) dX1_as_29 ⟨Nat.le_refl 0, Nat.le_refl 0⟩ (hM.1) ?_ rfl
      refine lv_iload_n hx hb dX1_as_32 rfl (lv_at hl 2 rfl) ?_
      refine lv_icmp_lt (tgt := 40) hx hb dX1_as_33 (by decide) (fun c_33 => ?_) (fun c_33 => ?_)
      · refine lv_aload_n hx hb dX1_as_40 rfl (lv_at hl 0 rfl) ?_
        refine lv_iconst (v := 2) hx hb dX1_as_41 (by decide) ?_
        refine mc_Vi (rest := []) [.int 2] 1 S hK hM (m1_fails l D dA a hI (σ.i 0 0) 2) wl_X1_92 wd_X1_X1_fails rfl ⟨Nat.le_of_ble_eq_true rfl, Nat.le_of_ble_eq_true rfl⟩ hl.1 (Nat.le_of_ble_eq_true rfl) dX1_as_42 ⟨Nat.le_refl 0, Nat.le_refl 0⟩ (fun H locs hM => ?_) rfl
        exact m_iret S hr hlk hM dX1_as_45 (⟨congrArg (fun z : Int32 => some (Value.int z)) (show (-10) - 2 = (spAs n nc cp cq (nI j) w).1 from by simp [spAs, inP_nI hj (by omega), nI_clamp (show j < 2 ^ 31 by omega), *]), by simp [spAs, MS_ii, MS_i1, inP_nI hj (by omega), nI_clamp (show j < 2 ^ 31 by omega), *]⟩)
      · refine lv_iconst (v := 1) hx hb dX1_as_36 (by decide) ?_
        refine lv_goto (tgt := 45) hx hb dX1_as_37 (by decide) ?_
        exact m_iret S hr hlk hM dX1_as_45 (⟨congrArg (fun z : Int32 => some (Value.int z)) (show 1 = (spAs n nc cp cq (nI j) w).1 from by simp [spAs, inP_nI hj (by omega), nI_clamp (show j < 2 ^ 31 by omega), *]), by simp [spAs, MS_ii, MS_i1, inP_nI hj (by omega), nI_clamp (show j < 2 ^ 31 by omega), *]⟩)
    · have c_21 := b2i_eq0.mp c_21
      refine lv_bipush (v := (-2)) hx hb dX1_as_24 (by decide) ?_
      exact m_iret S hr hlk hM dX1_as_26 (⟨congrArg (fun z : Int32 => some (Value.int z)) (show (-2) = (spAs n nc cp cq (nI j) w).1 from by simp [spAs, inP_nI hj (by omega), nI_clamp (show j < 2 ^ 31 by omega), *]), by simp [spAs, MS_ii, MS_i1, inP_nI hj (by omega), nI_clamp (show j < 2 ^ 31 by omega), *]⟩)
  · have c_10 := b2i_eq0.mp c_10
    refine lv_iconst (v := (-1)) hx hb dX1_as_13 (by decide) ?_
    exact m_iret S hr hlk hM dX1_as_14 (⟨congrArg (fun z : Int32 => some (Value.int z)) (show (-1) = (spAs n nc cp cq v w).1 from by simp [spAs, *]), by simp [spAs, *]⟩)
set_option maxHeartbeats 4000000 in
theorem m1_sheet (l : Launch) (D : va_G) (dA : Nat → ClassId) (a : Nat → Nat) (hI : mInj a) (σ : MS) (k w z : Int32) : MC l yX1_sheet cX1_sheet 5 (some .int) 2 42 D dA a [.ref (a 0), .int k, .int w, .int z] σ (fun v9 σ9 => v9 = some (.int ((mSheet σ k w z).1)) ∧ σ9 = (mSheet σ k w z).2) := by
  refine MC.of (by decide) (Nat.le_of_ble_eq_true rfl) ?_
  intro p e s m below meth c ls S hr hlk hK hM hl
  have hx := S.1
  have hb := S.2.1
  have hl : lv_has ls 5 [(0, .ref (a 0)), (1, .int k), (2, .int w), (3, .int z)] := hl
  refine lv_aload_n hx hb dX1_sheet_0 rfl (lv_at hl 0 rfl) ?_
  refine lv_iconst (v := 0) hx hb dX1_sheet_1 (by decide) ?_
  refine m_put hI S hK hM 0 (by decide) rfl fl_X1_72 rfl rfl (by decide +kernel) dX1_sheet_2 (fun H locs hM => ?_)
  refine lv_iload_n hx hb dX1_sheet_5 rfl (lv_at hl 1 rfl) ?_
  refine rc_Si (rest := []) [.int k] 1 S hK (r1_isSheet l D dA k) wl_X1_85 wd_X1_X1_isSheet rfl ⟨Nat.le_of_ble_eq_true rfl, Nat.le_of_ble_eq_true rfl⟩ hl.1 (Nat.le_of_ble_eq_true rfl) dX1_sheet_6 ⟨Nat.le_refl 0, Nat.le_refl 0⟩ (trivial) ?_ rfl
  refine lv_if_ne (tgt := 14) hx hb dX1_sheet_9 (by decide) (fun c_9 => ?_) (fun c_9 => ?_)
  · have c_9 := b2i_ne0.mp c_9
    obtain ⟨ka, hka9, rfl⟩ := inR_some (k := 3) (by decide) c_9
    have hka4 : ka < 4 := by omega
    refine lv_iload_n hx hb dX1_sheet_14 rfl (lv_at hl 2 rfl) ?_
    refine rc_Si (rest := []) [.int w] 1 S hK (r1_isLane l D dA w) wl_X1_89 wd_X1_X1_isLane rfl ⟨Nat.le_of_ble_eq_true rfl, Nat.le_of_ble_eq_true rfl⟩ hl.1 (Nat.le_of_ble_eq_true rfl) dX1_sheet_15 ⟨Nat.le_refl 0, Nat.le_refl 0⟩ (trivial) ?_ rfl
    refine lv_if_eq (tgt := 27) hx hb dX1_sheet_18 (by decide) (fun c_18 => ?_) (fun c_18 => ?_)
    · have c_18 := b2i_eq0.mp c_18
      refine lv_bipush (v := (-2)) hx hb dX1_sheet_27 (by decide) ?_
      exact m_iret S hr hlk hM dX1_sheet_29 (⟨congrArg (fun z : Int32 => some (Value.int z)) (show (-2) = (mSheet σ (nI ka) w z).1 from by simp [mSheet, show inR (nI ka) 0 3 = true from inR_nI (k := 3) (by omega) (by decide), nI_clamp (show ka < 2 ^ 31 by omega), *]), by simp [mSheet, MS_ii, MS_i1, show inR (nI ka) 0 3 = true from inR_nI (k := 3) (by omega) (by decide), nI_clamp (show ka < 2 ^ 31 by omega), *]⟩)
    · have c_18 := b2i_ne0.mp c_18
      refine lv_iload_n hx hb dX1_sheet_21 rfl (lv_at hl 3 rfl) ?_
      refine lv_bipush (v := 60) hx hb dX1_sheet_22 (by decide) ?_
      refine lv_icmp_le (tgt := 30) hx hb dX1_sheet_24 (by decide) (fun c_24 => ?_) (fun c_24 => ?_)
      · refine lv_iload_n hx hb dX1_sheet_30 rfl (lv_at hl 3 rfl) ?_
        refine lv_if_ge (tgt := 40) hx hb dX1_sheet_31 (by decide) (fun c_31 => ?_) (fun c_31 => ?_)
        · refine lv_aload_n hx hb dX1_sheet_40 rfl (lv_at hl 0 rfl) ?_
          refine m_get (v := .ref (a 2)) S hK hM.1 2 (by decide) fl_X1_9 rfl dX1_sheet_41 rfl ?_
          refine lv_iload_n hx hb dX1_sheet_44 rfl (lv_at hl 1 rfl) ?_
          refine lv_iload_n hx hb dX1_sheet_45 rfl (lv_at hl 2 rfl) ?_
          refine m_astn (j := ka) hI S hK hM 2 (by decide) rfl (show ka < 4 by omega) dX1_sheet_46 (fun H locs hM => ?_)
          have hM : MB D dA a ((σ.i 0 0).b 2 (upd (σ.2.1 2) ka w)) s.heap H locs := hM
          refine lv_aload_n hx hb dX1_sheet_47 rfl (lv_at hl 0 rfl) ?_
          refine m_get (v := .ref (a 3)) S hK hM.1 3 (by decide) fl_X1_13 rfl dX1_sheet_48 rfl ?_
          refine lv_iload_n hx hb dX1_sheet_51 rfl (lv_at hl 1 rfl) ?_
          refine lv_iload_n hx hb dX1_sheet_52 rfl (lv_at hl 3 rfl) ?_
          refine m_astn (j := ka) hI S hK hM 3 (by decide) rfl (show ka < 4 by omega) dX1_sheet_53 (fun H locs hM => ?_)
          have hM : MB D dA a (((σ.i 0 0).b 2 (upd (σ.2.1 2) ka w)).b 3 (upd (σ.2.1 3) ka z)) s.heap H locs := hM
          refine lv_iconst (v := 0) hx hb dX1_sheet_54 (by decide) ?_
          refine lv_istore (lv' := [(4, .int 0), (0, .ref (a 0)), (1, .int (nI ka)), (2, .int w), (3, .int z)]) hx hb dX1_sheet_55 hl (by decide) rfl (fun ls hl => ?_)
          have hM : MB D dA a ((((σ.i 0 0).b 2 (upd (σ.2.1 2) ka w)).b 3 (upd (σ.2.1 3) ka z)).b 4 (clrA (σ.2.1 4) (60 * ka) 0)) s.heap H locs := by rw [show ((((σ.i 0 0).b 2 (upd (σ.2.1 2) ka w)).b 3 (upd (σ.2.1 3) ka z)).b 4 (clrA (σ.2.1 4) (60 * ka) 0)) = (((σ.i 0 0).b 2 (upd (σ.2.1 2) ka w)).b 3 (upd (σ.2.1 3) ka z)) from MS_idb _ 4]; exact hM
          have hloop57 : ∀ (k57 i57 : Nat), i57 + k57 = 60 → ∀ (H : Heap) (locs : List Loc), MB D dA a ((((σ.i 0 0).b 2 (upd (σ.2.1 2) ka w)).b 3 (upd (σ.2.1 3) ka z)).b 4 (clrA (σ.2.1 4) (60 * ka) i57)) s.heap H locs → ∀ (ls : Array Slot), lv_has ls 5 [(4, .int (nI i57)), (0, .ref (a 0)), (1, .int (nI ka)), (2, .int w), (3, .int z)] → W p l e ({ frames := 2, cells := 0, slots := 0, locals := 42 }) s m [.ref (a 0), .int (nI ka), .int w, .int z].toArray below meth c H locs 0 0 (MZ below D dA a (fun v9 σ9 => v9 = some (.int ((mSheet σ (nI ka) w z).1)) ∧ σ9 = (mSheet σ (nI ka) w z).2) [.ref (a 0), .int (nI ka), .int w, .int z] s) (F0 m 57 ls []) := by
            intro k57
            induction k57 with
            | zero =>
              intro i57 hi57 H locs hM ls hl
              have hi57 : i57 = 60 := by omega
              refine lv_iload hx hb dX1_sheet_57 (lv_at hl 0 rfl) ?_
              refine lv_bipush (v := 60) hx hb dX1_sheet_59 (by decide) ?_
              refine lv_icmp_ge (tgt := 83) hx hb dX1_sheet_61 (by decide) (fun c_61 => ?_) (fun c_61 => absurd (show nI 60 ≤ nI i57 from nI_le (by omega) (by omega)) c_61)
              refine lv_iconst (v := 1) hx hb dX1_sheet_83 (by decide) ?_
              exact m_iret S hr hlk hM dX1_sheet_84 (⟨congrArg (fun z : Int32 => some (Value.int z)) (show 1 = (mSheet σ (nI ka) w z).1 from by simp [mSheet, show inR (nI ka) 0 3 = true from inR_nI (k := 3) (by omega) (by decide), nI_clamp (show ka < 2 ^ 31 by omega), *]), by simp [mSheet, MS_ii, MS_i1, show inR (nI ka) 0 3 = true from inR_nI (k := 3) (by omega) (by decide), nI_clamp (show ka < 2 ^ 31 by omega), *]⟩)
            | succ k57 ih57 =>
              intro i57 hi57 H locs hM ls hl
              have hlt57 : i57 < 60 := by omega
              refine lv_iload hx hb dX1_sheet_57 (lv_at hl 0 rfl) ?_
              refine lv_bipush (v := 60) hx hb dX1_sheet_59 (by decide) ?_
              refine lv_icmp_ge (tgt := 83) hx hb dX1_sheet_61 (by decide) (fun c_61 => absurd c_61 (show ¬ nI 60 ≤ nI i57 from nI_ge (by omega) (by omega))) (fun c_61 => ?_)
              refine lv_aload_n hx hb dX1_sheet_64 rfl (lv_at hl 1 rfl) ?_
              refine m_get (v := .ref (a 4)) S hK hM.1 4 (by decide) fl_X1_16 rfl dX1_sheet_65 rfl ?_
              refine lv_bipush (v := 60) hx hb dX1_sheet_68 (by decide) ?_
              refine lv_iload_n hx hb dX1_sheet_70 rfl (lv_at hl 2 rfl) ?_
              refine lv_imul hx hb dX1_sheet_71 ?_
              refine lv_iload hx hb dX1_sheet_72 (lv_at hl 0 rfl) ?_
              refine lv_iadd hx hb dX1_sheet_74 ?_
              refine topi (z := nI (60 * ka + i57)) (i60) ?_
              refine lv_iconst (v := 0) hx hb dX1_sheet_75 (by decide) ?_
              refine m_astn (j := 60 * ka + i57) hI S hK hM 4 (by decide) rfl (show 60 * ka + i57 < 240 by omega) dX1_sheet_76 (fun H locs hM => ?_)
              have hM : MB D dA a (((((σ.i 0 0).b 2 (upd (σ.2.1 2) ka w)).b 3 (upd (σ.2.1 3) ka z)).b 4 (clrA (σ.2.1 4) (60 * ka) i57)).b 4 (upd (clrA (σ.2.1 4) (60 * ka) i57) (60 * ka + i57) 0)) s.heap H locs := hM
              refine lv_iinc (v := nI (i57 + 1)) (lv' := [(4, .int (nI (i57 + 1))), (0, .ref (a 0)), (1, .int (nI ka)), (2, .int w), (3, .int z)]) hx hb dX1_sheet_77 hl (k := 0) rfl (nI_1 _) (by decide) rfl (fun ls hl => ?_)
              refine lv_goto (tgt := 57) hx hb dX1_sheet_80 (by decide) ?_
              have hM : MB D dA a ((((σ.i 0 0).b 2 (upd (σ.2.1 2) ka w)).b 3 (upd (σ.2.1 3) ka z)).b 4 (clrA (σ.2.1 4) (60 * ka) (i57 + 1))) s.heap H locs := by rw [show ((((σ.i 0 0).b 2 (upd (σ.2.1 2) ka w)).b 3 (upd (σ.2.1 3) ka z)).b 4 (clrA (σ.2.1 4) (60 * ka) (i57 + 1))) = (((((σ.i 0 0).b 2 (upd (σ.2.1 2) ka w)).b 3 (upd (σ.2.1 3) ka z)).b 4 (clrA (σ.2.1 4) (60 * ka) i57)).b 4 (upd (clrA (σ.2.1 4) (60 * ka) i57) (60 * ka + i57) 0)) from (MS_bb _ _ _ _).symm]; exact hM
              exact ih57 (i57 + 1) (by omega) _ _ hM ls (lv_sub hl [0, 1, 2, 3, 4] rfl)
          exact hloop57 (60) 0 (by omega) _ _ hM ls (lv_sub hl [0, 1, 2, 3, 4] rfl)
        · refine lv_aload_n hx hb dX1_sheet_34 rfl (lv_at hl 0 rfl) ?_
          refine lv_iconst (v := 4) hx hb dX1_sheet_35 (by decide) ?_
          refine mc_Vi (rest := []) [.int 4] 1 S hK hM (m1_fails l D dA a hI (σ.i 0 0) 4) wl_X1_92 wd_X1_X1_fails rfl ⟨Nat.le_of_ble_eq_true rfl, Nat.le_of_ble_eq_true rfl⟩ hl.1 (Nat.le_of_ble_eq_true rfl) dX1_sheet_36 ⟨Nat.le_refl 0, Nat.le_refl 0⟩ (fun H locs hM => ?_) rfl
          exact m_iret S hr hlk hM dX1_sheet_39 (⟨congrArg (fun z : Int32 => some (Value.int z)) (show (-10) - 4 = (mSheet σ (nI ka) w z).1 from by simp [mSheet, show inR (nI ka) 0 3 = true from inR_nI (k := 3) (by omega) (by decide), nI_clamp (show ka < 2 ^ 31 by omega), *]), by simp [mSheet, MS_ii, MS_i1, show inR (nI ka) 0 3 = true from inR_nI (k := 3) (by omega) (by decide), nI_clamp (show ka < 2 ^ 31 by omega), *]⟩)
      · refine lv_bipush (v := (-2)) hx hb dX1_sheet_27 (by decide) ?_
        exact m_iret S hr hlk hM dX1_sheet_29 (⟨congrArg (fun z : Int32 => some (Value.int z)) (show (-2) = (mSheet σ (nI ka) w z).1 from by simp [mSheet, show inR (nI ka) 0 3 = true from inR_nI (k := 3) (by omega) (by decide), nI_clamp (show ka < 2 ^ 31 by omega), *]), by simp [mSheet, MS_ii, MS_i1, show inR (nI ka) 0 3 = true from inR_nI (k := 3) (by omega) (by decide), nI_clamp (show ka < 2 ^ 31 by omega), *]⟩)
  · have c_9 := b2i_eq0.mp c_9
    refine lv_iconst (v := (-1)) hx hb dX1_sheet_12 (by decide) ?_
    exact m_iret S hr hlk hM dX1_sheet_13 (⟨congrArg (fun z : Int32 => some (Value.int z)) (show (-1) = (mSheet σ k w z).1 from by simp [mSheet, *]), by simp [mSheet, *]⟩)
set_option maxHeartbeats 4000000 in
theorem m1_lose (l : Launch) (D : va_G) (dA : Nat → ClassId) (a : Nat → Nat) (hI : mInj a) (σ : MS) (k : Int32) : MC l yX1_lose cX1_lose 3 (some .int) 2 42 D dA a [.ref (a 0), .int k] σ (fun v9 σ9 => v9 = some (.int ((mLose σ k).1)) ∧ σ9 = (mLose σ k).2) := by
  refine MC.of (by decide) (Nat.le_of_ble_eq_true rfl) ?_
  intro p e s m below meth c ls S hr hlk hK hM hl
  have hx := S.1
  have hb := S.2.1
  have hl : lv_has ls 3 [(0, .ref (a 0)), (1, .int k)] := hl
  refine lv_iload_n hx hb dX1_lose_0 rfl (lv_at hl 1 rfl) ?_
  refine rc_Si (rest := []) [.int k] 1 S hK (r1_isSheet l D dA k) wl_X1_85 wd_X1_X1_isSheet rfl ⟨Nat.le_of_ble_eq_true rfl, Nat.le_of_ble_eq_true rfl⟩ hl.1 (Nat.le_of_ble_eq_true rfl) dX1_lose_1 ⟨Nat.le_refl 0, Nat.le_refl 0⟩ (trivial) ?_ rfl
  refine lv_if_ne (tgt := 9) hx hb dX1_lose_4 (by decide) (fun c_4 => ?_) (fun c_4 => ?_)
  · have c_4 := b2i_ne0.mp c_4
    obtain ⟨ka, hka9, rfl⟩ := inR_some (k := 3) (by decide) c_4
    have hka4 : ka < 4 := by omega
    refine lv_aload_n hx hb dX1_lose_9 rfl (lv_at hl 0 rfl) ?_
    refine m_get (v := .ref (a 2)) S hK hM.1 2 (by decide) fl_X1_9 rfl dX1_lose_10 rfl ?_
    refine lv_iload_n hx hb dX1_lose_13 rfl (lv_at hl 1 rfl) ?_
    refine m_aldn (j := ka) (v := (σ.2.1 2) ka) S hK hM.1 2 (by decide) rfl (show ka < 4 by omega) dX1_lose_14 (rfl) ?_
    refine lv_bipush (v := (-9)) hx hb dX1_lose_15 (by decide) ?_
    refine lv_icmp_ne (tgt := 24) hx hb dX1_lose_17 (by decide) (fun c_17 => ?_) (fun c_17 => ?_)
    · refine lv_iconst (v := 1) hx hb dX1_lose_24 (by decide) ?_
      refine lv_istore_n (lv' := [(2, .int 1), (0, .ref (a 0)), (1, .int (nI ka))]) hx hb dX1_lose_25 rfl hl (by decide) rfl (fun ls hl => ?_)
      refine lv_aload_n hx hb dX1_lose_26 rfl (lv_at hl 1 rfl) ?_
      refine m_get (v := .ref (a 2)) S hK hM.1 2 (by decide) fl_X1_9 rfl dX1_lose_27 rfl ?_
      refine lv_iload_n hx hb dX1_lose_30 rfl (lv_at hl 2 rfl) ?_
      refine lv_bipush (v := (-9)) hx hb dX1_lose_31 (by decide) ?_
      refine m_astn (j := ka) hI S hK hM 2 (by decide) rfl (show ka < 4 by omega) dX1_lose_33 (fun H locs hM => ?_)
      refine lv_iload_n hx hb dX1_lose_34 rfl (lv_at hl 0 rfl) ?_
      exact m_iret S hr hlk hM dX1_lose_35 (⟨congrArg (fun z : Int32 => some (Value.int z)) (show 1 = (mLose σ (nI ka)).1 from by simp [mLose, show inR (nI ka) 0 3 = true from inR_nI (k := 3) (by omega) (by decide), nI_clamp (show ka < 2 ^ 31 by omega), *]), by simp [mLose, show inR (nI ka) 0 3 = true from inR_nI (k := 3) (by omega) (by decide), nI_clamp (show ka < 2 ^ 31 by omega), *]⟩)
    · refine lv_iconst (v := 0) hx hb dX1_lose_20 (by decide) ?_
      refine lv_goto (tgt := 25) hx hb dX1_lose_21 (by decide) ?_
      refine lv_istore_n (lv' := [(2, .int 0), (0, .ref (a 0)), (1, .int (nI ka))]) hx hb dX1_lose_25 rfl hl (by decide) rfl (fun ls hl => ?_)
      refine lv_aload_n hx hb dX1_lose_26 rfl (lv_at hl 1 rfl) ?_
      refine m_get (v := .ref (a 2)) S hK hM.1 2 (by decide) fl_X1_9 rfl dX1_lose_27 rfl ?_
      refine lv_iload_n hx hb dX1_lose_30 rfl (lv_at hl 2 rfl) ?_
      refine lv_bipush (v := (-9)) hx hb dX1_lose_31 (by decide) ?_
      refine m_astn (j := ka) hI S hK hM 2 (by decide) rfl (show ka < 4 by omega) dX1_lose_33 (fun H locs hM => ?_)
      refine lv_iload_n hx hb dX1_lose_34 rfl (lv_at hl 0 rfl) ?_
      exact m_iret S hr hlk hM dX1_lose_35 (⟨congrArg (fun z : Int32 => some (Value.int z)) (show 0 = (mLose σ (nI ka)).1 from by simp [mLose, show inR (nI ka) 0 3 = true from inR_nI (k := 3) (by omega) (by decide), nI_clamp (show ka < 2 ^ 31 by omega), *]), by simp [mLose, show inR (nI ka) 0 3 = true from inR_nI (k := 3) (by omega) (by decide), nI_clamp (show ka < 2 ^ 31 by omega), *]⟩)
  · have c_4 := b2i_eq0.mp c_4
    refine lv_iconst (v := (-1)) hx hb dX1_lose_7 (by decide) ?_
    exact m_iret S hr hlk hM dX1_lose_8 (⟨congrArg (fun z : Int32 => some (Value.int z)) (show (-1) = (mLose σ k).1 from by simp [mLose, *]), by simp [mLose, *]⟩)
set_option maxHeartbeats 4000000 in
theorem m1_put (l : Launch) (D : va_G) (dA : Nat → ClassId) (a : Nat → Nat) (hI : mInj a) (σ : MS) (lo : Nat → Nat) (hlo : ∀ k, k < 4 → lo k ≤ 60 ∧ σ.2.1 3 k = nI (lo k)) (k i v : Int32) : MC l yX1_put cX1_put 4 (some .int) 2 42 D dA a [.ref (a 0), .int k, .int i, .int v] σ (fun v9 σ9 => v9 = some (.int ((mPut σ k i v).1)) ∧ σ9 = (mPut σ k i v).2) := by
  refine MC.of (by decide) (Nat.le_of_ble_eq_true rfl) ?_
  intro p e s m below meth c ls S hr hlk hK hM hl
  have hx := S.1
  have hb := S.2.1
  have hl : lv_has ls 4 [(0, .ref (a 0)), (1, .int k), (2, .int i), (3, .int v)] := hl
  refine lv_aload_n hx hb dX1_put_0 rfl (lv_at hl 0 rfl) ?_
  refine lv_iconst (v := 0) hx hb dX1_put_1 (by decide) ?_
  refine m_put hI S hK hM 0 (by decide) rfl fl_X1_72 rfl rfl (by decide +kernel) dX1_put_2 (fun H locs hM => ?_)
  refine lv_iload_n hx hb dX1_put_5 rfl (lv_at hl 1 rfl) ?_
  refine rc_Si (rest := []) [.int k] 1 S hK (r1_isSheet l D dA k) wl_X1_85 wd_X1_X1_isSheet rfl ⟨Nat.le_of_ble_eq_true rfl, Nat.le_of_ble_eq_true rfl⟩ hl.1 (Nat.le_of_ble_eq_true rfl) dX1_put_6 ⟨Nat.le_refl 0, Nat.le_refl 0⟩ (trivial) ?_ rfl
  refine lv_if_ne (tgt := 14) hx hb dX1_put_9 (by decide) (fun c_9 => ?_) (fun c_9 => ?_)
  · have c_9 := b2i_ne0.mp c_9
    obtain ⟨ka, hka9, rfl⟩ := inR_some (k := 3) (by decide) c_9
    have hka4 : ka < 4 := by omega
    refine lv_aload_n hx hb dX1_put_14 rfl (lv_at hl 0 rfl) ?_
    refine m_get (v := .ref (a 2)) S hK hM.1 2 (by decide) fl_X1_9 rfl dX1_put_15 rfl ?_
    refine lv_iload_n hx hb dX1_put_18 rfl (lv_at hl 1 rfl) ?_
    refine m_aldn (j := ka) (v := (σ.2.1 2) ka) S hK hM.1 2 (by decide) rfl (show ka < 4 by omega) dX1_put_19 (rfl) ?_
    refine lv_bipush (v := (-9)) hx hb dX1_put_20 (by decide) ?_
    refine lv_icmp_ne (tgt := 31) hx hb dX1_put_22 (by decide) (fun c_22 => ?_) (fun c_22 => ?_)
    · refine lv_iload_n hx hb dX1_put_31 rfl (lv_at hl 2 rfl) ?_
      refine lv_iconst (v := 0) hx hb dX1_put_32 (by decide) ?_
      refine lv_aload_n hx hb dX1_put_33 rfl (lv_at hl 0 rfl) ?_
      refine m_get (v := .ref (a 3)) S hK hM.1 3 (by decide) fl_X1_13 rfl dX1_put_34 rfl ?_
      refine lv_iload_n hx hb dX1_put_37 rfl (lv_at hl 1 rfl) ?_
      refine m_aldn (j := ka) (v := (σ.2.1 3) ka) S hK hM.1 3 (by decide) rfl (show ka < 4 by omega) dX1_put_38 (rfl) ?_
      refine lv_iconst (v := 1) hx hb dX1_put_39 (by decide) ?_
      refine lv_isub hx hb dX1_put_40 ?_
      refine rc_Si (rest := []) [.int i, .int 0, .int (((σ.2.1 3) ka) - 1)] 3 S hK (r1_isIn l D dA i 0 (((σ.2.1 3) ka) - 1)) wl_X1_78 wd_X1_X1_isIn rfl ⟨Nat.le_of_ble_eq_true rfl, Nat.le_of_ble_eq_true rfl⟩ hl.1 (Nat.le_of_ble_eq_true rfl) dX1_put_41 ⟨Nat.le_refl 0, Nat.le_refl 0⟩ (trivial) ?_ rfl
      refine lv_if_ne (tgt := 53) hx hb dX1_put_44 (by decide) (fun c_44 => ?_) (fun c_44 => ?_)
      · have c_44 := b2i_ne0.mp c_44
        rw [(hlo ka hka4).2] at c_44
        obtain ⟨j, hj, rfl⟩ := inR_sub (hlo ka hka4).1 c_44
        have hlk9 := (hlo ka hka4).1
        refine lv_aload_n hx hb dX1_put_53 rfl (lv_at hl 0 rfl) ?_
        refine m_get (v := .ref (a 4)) S hK hM.1 4 (by decide) fl_X1_16 rfl dX1_put_54 rfl ?_
        refine lv_bipush (v := 60) hx hb dX1_put_57 (by decide) ?_
        refine lv_iload_n hx hb dX1_put_59 rfl (lv_at hl 1 rfl) ?_
        refine lv_imul hx hb dX1_put_60 ?_
        refine lv_iload_n hx hb dX1_put_61 rfl (lv_at hl 2 rfl) ?_
        refine lv_iadd hx hb dX1_put_62 ?_
        refine topi (z := nI (60 * ka + j)) (i60) ?_
        refine lv_aload_n hx hb dX1_put_63 rfl (lv_at hl 0 rfl) ?_
        refine m_get (v := .ref (a 2)) S hK hM.1 2 (by decide) fl_X1_9 rfl dX1_put_64 rfl ?_
        refine lv_iload_n hx hb dX1_put_67 rfl (lv_at hl 1 rfl) ?_
        refine m_aldn (j := ka) (v := (σ.2.1 2) ka) S hK hM.1 2 (by decide) rfl (show ka < 4 by omega) dX1_put_68 (rfl) ?_
        refine lv_if_ne (tgt := 77) hx hb dX1_put_69 (by decide) (fun c_69 => ?_) (fun c_69 => ?_)
        · refine lv_aload_n hx hb dX1_put_77 rfl (lv_at hl 0 rfl) ?_
          refine m_get (v := .ref (a 2)) S hK hM.1 2 (by decide) fl_X1_9 rfl dX1_put_78 rfl ?_
          refine lv_iload_n hx hb dX1_put_81 rfl (lv_at hl 1 rfl) ?_
          refine m_aldn (j := ka) (v := (σ.2.1 2) ka) S hK hM.1 2 (by decide) rfl (show ka < 4 by omega) dX1_put_82 (rfl) ?_
          refine lv_iconst (v := 1) hx hb dX1_put_83 (by decide) ?_
          refine lv_icmp_ne (tgt := 92) hx hb dX1_put_84 (by decide) (fun c_84 => ?_) (fun c_84 => ?_)
          · refine lv_iload_n hx hb dX1_put_92 rfl (lv_at hl 3 rfl) ?_
            refine m_astn (j := 60 * ka + j) hI S hK hM 4 (by decide) rfl (show 60 * ka + j < 240 by omega) dX1_put_93 (fun H locs hM => ?_)
            have hM : MB D dA a ((σ.i 0 0).b 4 (upd (σ.2.1 4) (60 * ka + j) v)) s.heap H locs := hM
            refine lv_iconst (v := 1) hx hb dX1_put_94 (by decide) ?_
            exact m_iret S hr hlk hM dX1_put_95 (⟨congrArg (fun z : Int32 => some (Value.int z)) (show 1 = (mPut σ (nI ka) (nI j) v).1 from by simp [mPut, show inR (nI ka) 0 3 = true from inR_nI (k := 3) (by omega) (by decide), nI_clamp (show ka < 2 ^ 31 by omega), (hlo ka hka4).2, inR_subN hlk9 hj, nI_clamp (show j < 2 ^ 31 by omega), *]), by simp [mPut, laneV, show inR (nI ka) 0 3 = true from inR_nI (k := 3) (by omega) (by decide), nI_clamp (show ka < 2 ^ 31 by omega), (hlo ka hka4).2, inR_subN hlk9 hj, nI_clamp (show j < 2 ^ 31 by omega), *]⟩)
          · refine lv_iload_n hx hb dX1_put_87 rfl (lv_at hl 3 rfl) ?_
            refine lv_i2s hx hb dX1_put_88 rfl ?_
            refine lv_goto (tgt := 93) hx hb dX1_put_89 (by decide) ?_
            refine m_astn (j := 60 * ka + j) hI S hK hM 4 (by decide) rfl (show 60 * ka + j < 240 by omega) dX1_put_93 (fun H locs hM => ?_)
            have hM : MB D dA a ((σ.i 0 0).b 4 (upd (σ.2.1 4) (60 * ka + j) v.toInt16.toInt32)) s.heap H locs := hM
            refine lv_iconst (v := 1) hx hb dX1_put_94 (by decide) ?_
            exact m_iret S hr hlk hM dX1_put_95 (⟨congrArg (fun z : Int32 => some (Value.int z)) (show 1 = (mPut σ (nI ka) (nI j) v).1 from by simp [mPut, show inR (nI ka) 0 3 = true from inR_nI (k := 3) (by omega) (by decide), nI_clamp (show ka < 2 ^ 31 by omega), (hlo ka hka4).2, inR_subN hlk9 hj, nI_clamp (show j < 2 ^ 31 by omega), *]), by simp [mPut, laneV, show inR (nI ka) 0 3 = true from inR_nI (k := 3) (by omega) (by decide), nI_clamp (show ka < 2 ^ 31 by omega), (hlo ka hka4).2, inR_subN hlk9 hj, nI_clamp (show j < 2 ^ 31 by omega), *]⟩)
        · refine lv_iload_n hx hb dX1_put_72 rfl (lv_at hl 3 rfl) ?_
          refine lv_i2b hx hb dX1_put_73 rfl ?_
          refine lv_goto (tgt := 93) hx hb dX1_put_74 (by decide) ?_
          refine m_astn (j := 60 * ka + j) hI S hK hM 4 (by decide) rfl (show 60 * ka + j < 240 by omega) dX1_put_93 (fun H locs hM => ?_)
          have hM : MB D dA a ((σ.i 0 0).b 4 (upd (σ.2.1 4) (60 * ka + j) v.toInt8.toInt32)) s.heap H locs := hM
          refine lv_iconst (v := 1) hx hb dX1_put_94 (by decide) ?_
          exact m_iret S hr hlk hM dX1_put_95 (⟨congrArg (fun z : Int32 => some (Value.int z)) (show 1 = (mPut σ (nI ka) (nI j) v).1 from by simp [mPut, show inR (nI ka) 0 3 = true from inR_nI (k := 3) (by omega) (by decide), nI_clamp (show ka < 2 ^ 31 by omega), (hlo ka hka4).2, inR_subN hlk9 hj, nI_clamp (show j < 2 ^ 31 by omega), *]), by simp [mPut, laneV, show inR (nI ka) 0 3 = true from inR_nI (k := 3) (by omega) (by decide), nI_clamp (show ka < 2 ^ 31 by omega), (hlo ka hka4).2, inR_subN hlk9 hj, nI_clamp (show j < 2 ^ 31 by omega), *]⟩)
      · have c_44 := b2i_eq0.mp c_44
        rw [(hlo ka hka4).2] at c_44
        refine lv_aload_n hx hb dX1_put_47 rfl (lv_at hl 0 rfl) ?_
        refine lv_iconst (v := 3) hx hb dX1_put_48 (by decide) ?_
        refine mc_Vi (rest := []) [.int 3] 1 S hK hM (m1_fails l D dA a hI (σ.i 0 0) 3) wl_X1_92 wd_X1_X1_fails rfl ⟨Nat.le_of_ble_eq_true rfl, Nat.le_of_ble_eq_true rfl⟩ hl.1 (Nat.le_of_ble_eq_true rfl) dX1_put_49 ⟨Nat.le_refl 0, Nat.le_refl 0⟩ (fun H locs hM => ?_) rfl
        exact m_iret S hr hlk hM dX1_put_52 (⟨congrArg (fun z : Int32 => some (Value.int z)) (show (-10) - 3 = (mPut σ (nI ka) i v).1 from by simp [mPut, show inR (nI ka) 0 3 = true from inR_nI (k := 3) (by omega) (by decide), nI_clamp (show ka < 2 ^ 31 by omega), *]), by simp [mPut, MS_ii, MS_i1, show inR (nI ka) 0 3 = true from inR_nI (k := 3) (by omega) (by decide), nI_clamp (show ka < 2 ^ 31 by omega), *]⟩)
    · refine lv_aload_n hx hb dX1_put_25 rfl (lv_at hl 0 rfl) ?_
      refine lv_iconst (v := 1) hx hb dX1_put_26 (by decide) ?_
      refine mc_Vi (rest := []) [.int 1] 1 S hK hM (m1_fails l D dA a hI (σ.i 0 0) 1) wl_X1_92 wd_X1_X1_fails rfl ⟨Nat.le_of_ble_eq_true rfl, Nat.le_of_ble_eq_true rfl⟩ hl.1 (Nat.le_of_ble_eq_true rfl) dX1_put_27 ⟨Nat.le_refl 0, Nat.le_refl 0⟩ (fun H locs hM => ?_) rfl
      exact m_iret S hr hlk hM dX1_put_30 (⟨congrArg (fun z : Int32 => some (Value.int z)) (show (-10) - 1 = (mPut σ (nI ka) i v).1 from by simp [mPut, show inR (nI ka) 0 3 = true from inR_nI (k := 3) (by omega) (by decide), nI_clamp (show ka < 2 ^ 31 by omega), *]), by simp [mPut, MS_ii, MS_i1, show inR (nI ka) 0 3 = true from inR_nI (k := 3) (by omega) (by decide), nI_clamp (show ka < 2 ^ 31 by omega), *]⟩)
  · have c_9 := b2i_eq0.mp c_9
    refine lv_iconst (v := (-1)) hx hb dX1_put_12 (by decide) ?_
    exact m_iret S hr hlk hM dX1_put_13 (⟨congrArg (fun z : Int32 => some (Value.int z)) (show (-1) = (mPut σ k i v).1 from by simp [mPut, *]), by simp [mPut, *]⟩)
set_option maxHeartbeats 4000000 in
theorem m1_cell (l : Launch) (D : va_G) (dA : Nat → ClassId) (a : Nat → Nat) (hI : mInj a) (σ : MS) (lo : Nat → Nat) (hlo : ∀ k, k < 4 → lo k ≤ 60 ∧ σ.2.1 3 k = nI (lo k)) (k i w : Int32) : MC l yX1_cell cX1_cell 4 (some .long) 2 42 D dA a [.ref (a 0), .int k, .int i, .int w] σ (fun v9 σ9 => v9 = some (.long ((mCell σ k i w).1)) ∧ σ9 = σ.i 0 (mCell σ k i w).2) := by
  refine MC.of (by decide) (Nat.le_of_ble_eq_true rfl) ?_
  intro p e s m below meth c ls S hr hlk hK hM hl
  have hx := S.1
  have hb := S.2.1
  have hl : lv_has ls 4 [(0, .ref (a 0)), (1, .int k), (2, .int i), (3, .int w)] := hl
  refine lv_aload_n hx hb dX1_cell_0 rfl (lv_at hl 0 rfl) ?_
  refine lv_iconst (v := 0) hx hb dX1_cell_1 (by decide) ?_
  refine m_put hI S hK hM 0 (by decide) rfl fl_X1_72 rfl rfl (by decide +kernel) dX1_cell_2 (fun H locs hM => ?_)
  refine lv_iload_n hx hb dX1_cell_5 rfl (lv_at hl 1 rfl) ?_
  refine rc_Si (rest := []) [.int k] 1 S hK (r1_isSheet l D dA k) wl_X1_85 wd_X1_X1_isSheet rfl ⟨Nat.le_of_ble_eq_true rfl, Nat.le_of_ble_eq_true rfl⟩ hl.1 (Nat.le_of_ble_eq_true rfl) dX1_cell_6 ⟨Nat.le_refl 0, Nat.le_refl 0⟩ (trivial) ?_ rfl
  refine lv_if_eq (tgt := 19) hx hb dX1_cell_9 (by decide) (fun c_9 => ?_) (fun c_9 => ?_)
  · have c_9 := b2i_eq0.mp c_9
    refine lv_ldc2 (v := (-9223372036854775808)) hx hb S.2.2.2.1 (S.2.2.2.2 _ q1367) dX1_cell_19 ?_
    exact m_lret S hr hlk hM dX1_cell_22 (⟨congrArg (fun z : Int64 => some (Value.long z)) (show (-9223372036854775808) = (mCell σ k i w).1 from by simp [mCell, *]), by simp [mCell, *]⟩)
  · have c_9 := b2i_ne0.mp c_9
    refine lv_iload_n hx hb dX1_cell_12 rfl (lv_at hl 3 rfl) ?_
    refine rc_Si (rest := []) [.int w] 1 S hK (r1_isLane l D dA w) wl_X1_89 wd_X1_X1_isLane rfl ⟨Nat.le_of_ble_eq_true rfl, Nat.le_of_ble_eq_true rfl⟩ hl.1 (Nat.le_of_ble_eq_true rfl) dX1_cell_13 ⟨Nat.le_refl 0, Nat.le_refl 0⟩ (trivial) ?_ rfl
    refine lv_if_ne (tgt := 23) hx hb dX1_cell_16 (by decide) (fun c_16 => ?_) (fun c_16 => ?_)
    · have c_16 := b2i_ne0.mp c_16
      obtain ⟨ka, hka9, rfl⟩ := inR_some (k := 3) (by decide) c_9
      have hka4 : ka < 4 := by omega
      refine lv_aload_n hx hb dX1_cell_23 rfl (lv_at hl 0 rfl) ?_
      refine m_get (v := .ref (a 2)) S hK hM.1 2 (by decide) fl_X1_9 rfl dX1_cell_24 rfl ?_
      refine lv_iload_n hx hb dX1_cell_27 rfl (lv_at hl 1 rfl) ?_
      refine m_aldn (j := ka) (v := (σ.2.1 2) ka) S hK hM.1 2 (by decide) rfl (show ka < 4 by omega) dX1_cell_28 (rfl) ?_
      refine lv_bipush (v := (-9)) hx hb dX1_cell_29 (by decide) ?_
      refine lv_icmp_eq (tgt := 50) hx hb dX1_cell_31 (by decide) (fun c_31 => ?_) (fun c_31 => ?_)
      · refine lv_aload_n hx hb dX1_cell_50 rfl (lv_at hl 0 rfl) ?_
        refine m_get (v := .ref (a 2)) S hK hM.1 2 (by decide) fl_X1_9 rfl dX1_cell_51 rfl ?_
        refine lv_iload_n hx hb dX1_cell_54 rfl (lv_at hl 1 rfl) ?_
        refine m_aldn (j := ka) (v := (σ.2.1 2) ka) S hK hM.1 2 (by decide) rfl (show ka < 4 by omega) dX1_cell_55 (rfl) ?_
        refine lv_bipush (v := (-9)) hx hb dX1_cell_56 (by decide) ?_
        refine lv_icmp_ne (tgt := 67) hx hb dX1_cell_58 (by decide) (fun c_58 => absurd (c_31) c_58) (fun c_58 => ?_)
        refine lv_aload_n hx hb dX1_cell_61 rfl (lv_at hl 0 rfl) ?_
        refine lv_iconst (v := 1) hx hb dX1_cell_62 (by decide) ?_
        refine mc_Vl (rest := []) [.int 1] 1 S hK hM (m1_lost l D dA a hI (σ.i 0 0) 1) wl_X1_226 wd_X1_X1_lost rfl ⟨Nat.le_of_ble_eq_true rfl, Nat.le_of_ble_eq_true rfl⟩ hl.1 (Nat.le_of_ble_eq_true rfl) dX1_cell_63 ⟨Nat.le_refl 0, Nat.le_refl 0⟩ (fun H locs hM => ?_) rfl
        exact m_lret S hr hlk hM dX1_cell_66 (⟨congrArg (fun z : Int64 => some (Value.long z)) (show (-9223372036854775808) = (mCell σ (nI ka) i w).1 from by simp [mCell, show inR (nI ka) 0 3 = true from inR_nI (k := 3) (by omega) (by decide), nI_clamp (show ka < 2 ^ 31 by omega), *]), by simp [mCell, MS_ii, MS_i1, show inR (nI ka) 0 3 = true from inR_nI (k := 3) (by omega) (by decide), nI_clamp (show ka < 2 ^ 31 by omega), *]⟩)
      · refine lv_aload_n hx hb dX1_cell_34 rfl (lv_at hl 0 rfl) ?_
        refine m_get (v := .ref (a 2)) S hK hM.1 2 (by decide) fl_X1_9 rfl dX1_cell_35 rfl ?_
        refine lv_iload_n hx hb dX1_cell_38 rfl (lv_at hl 1 rfl) ?_
        refine m_aldn (j := ka) (v := (σ.2.1 2) ka) S hK hM.1 2 (by decide) rfl (show ka < 4 by omega) dX1_cell_39 (rfl) ?_
        refine lv_iload_n hx hb dX1_cell_40 rfl (lv_at hl 3 rfl) ?_
        refine lv_icmp_eq (tgt := 50) hx hb dX1_cell_41 (by decide) (fun c_41 => ?_) (fun c_41 => ?_)
        · have c_31w : ¬ w = -9 := c_41 ▸ c_31
          refine lv_aload_n hx hb dX1_cell_50 rfl (lv_at hl 0 rfl) ?_
          refine m_get (v := .ref (a 2)) S hK hM.1 2 (by decide) fl_X1_9 rfl dX1_cell_51 rfl ?_
          refine lv_iload_n hx hb dX1_cell_54 rfl (lv_at hl 1 rfl) ?_
          refine m_aldn (j := ka) (v := (σ.2.1 2) ka) S hK hM.1 2 (by decide) rfl (show ka < 4 by omega) dX1_cell_55 (rfl) ?_
          refine lv_bipush (v := (-9)) hx hb dX1_cell_56 (by decide) ?_
          refine lv_icmp_ne (tgt := 67) hx hb dX1_cell_58 (by decide) (fun c_58 => ?_) (fun c_58 => absurd (c_58) (c_31))
          refine lv_iload_n hx hb dX1_cell_67 rfl (lv_at hl 2 rfl) ?_
          refine lv_iconst (v := 0) hx hb dX1_cell_68 (by decide) ?_
          refine lv_aload_n hx hb dX1_cell_69 rfl (lv_at hl 0 rfl) ?_
          refine m_get (v := .ref (a 3)) S hK hM.1 3 (by decide) fl_X1_13 rfl dX1_cell_70 rfl ?_
          refine lv_iload_n hx hb dX1_cell_73 rfl (lv_at hl 1 rfl) ?_
          refine m_aldn (j := ka) (v := (σ.2.1 3) ka) S hK hM.1 3 (by decide) rfl (show ka < 4 by omega) dX1_cell_74 (rfl) ?_
          refine lv_iconst (v := 1) hx hb dX1_cell_75 (by decide) ?_
          refine lv_isub hx hb dX1_cell_76 ?_
          refine rc_Si (rest := []) [.int i, .int 0, .int (((σ.2.1 3) ka) - 1)] 3 S hK (r1_isIn l D dA i 0 (((σ.2.1 3) ka) - 1)) wl_X1_78 wd_X1_X1_isIn rfl ⟨Nat.le_of_ble_eq_true rfl, Nat.le_of_ble_eq_true rfl⟩ hl.1 (Nat.le_of_ble_eq_true rfl) dX1_cell_77 ⟨Nat.le_refl 0, Nat.le_refl 0⟩ (trivial) ?_ rfl
          refine lv_if_ne (tgt := 89) hx hb dX1_cell_80 (by decide) (fun c_80 => ?_) (fun c_80 => ?_)
          · have c_80 := b2i_ne0.mp c_80
            rw [(hlo ka hka4).2] at c_80
            obtain ⟨j, hj, rfl⟩ := inR_sub (hlo ka hka4).1 c_80
            have hlk9 := (hlo ka hka4).1
            refine lv_aload_n hx hb dX1_cell_89 rfl (lv_at hl 0 rfl) ?_
            refine m_get (v := .ref (a 4)) S hK hM.1 4 (by decide) fl_X1_16 rfl dX1_cell_90 rfl ?_
            refine lv_bipush (v := 60) hx hb dX1_cell_93 (by decide) ?_
            refine lv_iload_n hx hb dX1_cell_95 rfl (lv_at hl 1 rfl) ?_
            refine lv_imul hx hb dX1_cell_96 ?_
            refine lv_iload_n hx hb dX1_cell_97 rfl (lv_at hl 2 rfl) ?_
            refine lv_iadd hx hb dX1_cell_98 ?_
            refine topi (z := nI (60 * ka + j)) (i60) ?_
            refine m_aldn (j := 60 * ka + j) (v := (σ.2.1 4) (60 * ka + j)) S hK hM.1 4 (by decide) rfl (show 60 * ka + j < 240 by omega) dX1_cell_99 (rfl) ?_
            refine lv_i2l hx hb dX1_cell_100 rfl ?_
            exact m_lret S hr hlk hM dX1_cell_101 (⟨congrArg (fun z : Int64 => some (Value.long z)) (show ((σ.2.1 4) (60 * ka + j)).toInt64 = (mCell σ (nI ka) (nI j) w).1 from by simp [mCell, show inR (nI ka) 0 3 = true from inR_nI (k := 3) (by omega) (by decide), nI_clamp (show ka < 2 ^ 31 by omega), (hlo ka hka4).2, inR_subN hlk9 hj, nI_clamp (show j < 2 ^ 31 by omega), *]), by simp [mCell, show inR (nI ka) 0 3 = true from inR_nI (k := 3) (by omega) (by decide), nI_clamp (show ka < 2 ^ 31 by omega), (hlo ka hka4).2, inR_subN hlk9 hj, nI_clamp (show j < 2 ^ 31 by omega), *]⟩)
          · have c_80 := b2i_eq0.mp c_80
            rw [(hlo ka hka4).2] at c_80
            refine lv_aload_n hx hb dX1_cell_83 rfl (lv_at hl 0 rfl) ?_
            refine lv_iconst (v := 3) hx hb dX1_cell_84 (by decide) ?_
            refine mc_Vl (rest := []) [.int 3] 1 S hK hM (m1_lost l D dA a hI (σ.i 0 0) 3) wl_X1_226 wd_X1_X1_lost rfl ⟨Nat.le_of_ble_eq_true rfl, Nat.le_of_ble_eq_true rfl⟩ hl.1 (Nat.le_of_ble_eq_true rfl) dX1_cell_85 ⟨Nat.le_refl 0, Nat.le_refl 0⟩ (fun H locs hM => ?_) rfl
            exact m_lret S hr hlk hM dX1_cell_88 (⟨congrArg (fun z : Int64 => some (Value.long z)) (show (-9223372036854775808) = (mCell σ (nI ka) i w).1 from by simp [mCell, show inR (nI ka) 0 3 = true from inR_nI (k := 3) (by omega) (by decide), nI_clamp (show ka < 2 ^ 31 by omega), *]), by simp [mCell, MS_ii, MS_i1, show inR (nI ka) 0 3 = true from inR_nI (k := 3) (by omega) (by decide), nI_clamp (show ka < 2 ^ 31 by omega), *]⟩)
        · refine lv_aload_n hx hb dX1_cell_44 rfl (lv_at hl 0 rfl) ?_
          refine lv_iconst (v := 2) hx hb dX1_cell_45 (by decide) ?_
          refine mc_Vl (rest := []) [.int 2] 1 S hK hM (m1_lost l D dA a hI (σ.i 0 0) 2) wl_X1_226 wd_X1_X1_lost rfl ⟨Nat.le_of_ble_eq_true rfl, Nat.le_of_ble_eq_true rfl⟩ hl.1 (Nat.le_of_ble_eq_true rfl) dX1_cell_46 ⟨Nat.le_refl 0, Nat.le_refl 0⟩ (fun H locs hM => ?_) rfl
          exact m_lret S hr hlk hM dX1_cell_49 (⟨congrArg (fun z : Int64 => some (Value.long z)) (show (-9223372036854775808) = (mCell σ (nI ka) i w).1 from by simp [mCell, show inR (nI ka) 0 3 = true from inR_nI (k := 3) (by omega) (by decide), nI_clamp (show ka < 2 ^ 31 by omega), *]), by simp [mCell, MS_ii, MS_i1, show inR (nI ka) 0 3 = true from inR_nI (k := 3) (by omega) (by decide), nI_clamp (show ka < 2 ^ 31 by omega), *]⟩)
    · have c_16 := b2i_eq0.mp c_16
      refine lv_ldc2 (v := (-9223372036854775808)) hx hb S.2.2.2.1 (S.2.2.2.2 _ q1367) dX1_cell_19 ?_
      exact m_lret S hr hlk hM dX1_cell_22 (⟨congrArg (fun z : Int64 => some (Value.long z)) (show (-9223372036854775808) = (mCell σ k i w).1 from by simp [mCell, *]), by simp [mCell, *]⟩)
set_option maxHeartbeats 4000000 in
theorem r1_many (l : Launch) (D : va_G) (dA : Nat → ClassId) (a : Nat → Nat) (σ : MS) (n : Nat) (net : Nat → Nat) (nc : Nat) (cp cq : Nat → Nat) (hG : MG σ n net nc cp cq) (w : Int32) : RC l yX1_many cX1_many 5 (some .int) 3 67 D dA [.ref (a 0), .int w] (fun H => va_P D vwCl (mW dA a σ) H) (fun v9 => v9 = some (.int (spMany n net nc (stAt n cp cq nc) w))) := by
  refine RC.of (by decide) (Nat.le_of_ble_eq_true rfl) ?_
  intro p e s m below meth c ls S hr hlk hK hP hl
  have hx := S.1
  have hb := S.2.1
  have hl : lv_has ls 5 [(0, .ref (a 0)), (1, .int w)] := hl
  have hP : va_P D vwCl (mW dA a σ) s.heap := hP
  have hn := hG.1
  have hnc := hG.2.2.2.1
  have hst : stAt n cp cq nc < 65536 := stAt_lt hn nc (fun i hi => ⟨by have := (hG.2.2.2.2.2 i (by omega)).2.2; omega, by have := (hG.2.2.2.2.2 i (by omega)).2.2; omega⟩)
  refine lv_iconst (v := 0) hx hb dX1_many_0 (by decide) ?_
  refine lv_istore_n (lv' := [(2, .int 0), (0, .ref (a 0)), (1, .int w)]) hx hb dX1_many_1 rfl hl (by decide) rfl (fun ls hl => ?_)
  refine lv_iconst (v := 0) hx hb dX1_many_2 (by decide) ?_
  refine lv_istore_n (lv' := [(3, .int 0), (2, .int 0), (0, .ref (a 0)), (1, .int w)]) hx hb dX1_many_3 rfl hl (by decide) rfl (fun ls hl => ?_)
  refine lv_iconst (v := 0) hx hb dX1_many_4 (by decide) ?_
  refine lv_istore (lv' := [(4, .int 0), (3, .int 0), (2, .int 0), (0, .ref (a 0)), (1, .int w)]) hx hb dX1_many_5 hl (by decide) rfl (fun ls hl => ?_)
  have hloop7 : ∀ (k7 i7 : Nat), i7 + k7 = n → ∀ (ls : Array Slot), lv_has ls 5 [(4, .int (nI i7)), (3, .int (nI (numN net i7))), (2, .int (nI (expN n (stAt n cp cq nc) i7))), (0, .ref (a 0)), (1, .int w)] → W p l e ({ frames := 3, cells := 0, slots := 0, locals := 67 }) s m [.ref (a 0), .int w].toArray below meth c s.heap [] 0 0 (RZ below (fun v9 => v9 = some (.int (spMany n net nc (stAt n cp cq nc) w))) [.ref (a 0), .int w] s) (F0 m 7 ls []) := by
    intro k7
    induction k7 with
    | zero =>
      intro i7 hi7 ls hl
      have hi7 : i7 = n := by omega
      refine lv_iload hx hb dX1_many_7 (lv_at hl 0 rfl) ?_
      refine lv_aload_n hx hb dX1_many_9 rfl (lv_at hl 3 rfl) ?_
      refine m_get (v := .int (σ.1 5)) S hK hP 5 (by decide) fl_X1_82 rfl dX1_many_10 rfl ?_
      refine topi (z := nI n) (hG.2.1) ?_
      refine lv_icmp_ge (tgt := 67) hx hb dX1_many_13 (by decide) (fun c_13 => ?_) (fun c_13 => absurd (show nI n ≤ nI i7 from nI_le (by omega) (by omega)) c_13)
      refine lv_iload_n hx hb dX1_many_67 rfl (lv_at hl 4 rfl) ?_
      by_cases c_68_0 : w = 0
      · refine lv_tableIn (off := 32) (tgt := 100) hx hb dX1_many_68 (by rw [c_68_0]; decide) (by rw [c_68_0]; decide) (by rw [c_68_0]; rfl) (by decide) ?_
        refine lv_aload_n hx hb dX1_many_100 rfl (lv_at hl 3 rfl) ?_
        refine m_get (v := .int (σ.1 5)) S hK hP 5 (by decide) fl_X1_82 rfl dX1_many_101 rfl ?_
        refine topi (z := nI n) (hG.2.1) ?_
        exact r_iret S hr hlk dX1_many_104 (congrArg (fun z : Int32 => some (Value.int z)) (show nI n = spMany n net nc (stAt n cp cq nc) w from by simp [spMany, *]))
      by_cases c_68_1 : w = 1
      · refine lv_tableIn (off := 37) (tgt := 105) hx hb dX1_many_68 (by rw [c_68_1]; decide) (by rw [c_68_1]; decide) (by rw [c_68_1]; rfl) (by decide) ?_
        refine lv_aload_n hx hb dX1_many_105 rfl (lv_at hl 3 rfl) ?_
        refine m_get (v := .int (σ.1 9)) S hK hP 9 (by decide) fl_X1_103 rfl dX1_many_106 rfl ?_
        refine topi (z := nI nc) (hG.2.2.2.2.1) ?_
        exact r_iret S hr hlk dX1_many_109 (congrArg (fun z : Int32 => some (Value.int z)) (show nI nc = spMany n net nc (stAt n cp cq nc) w from by simp [spMany, *]))
      by_cases c_68_2 : w = 2
      · refine lv_tableIn (off := 42) (tgt := 110) hx hb dX1_many_68 (by rw [c_68_2]; decide) (by rw [c_68_2]; decide) (by rw [c_68_2]; rfl) (by decide) ?_
        refine lv_iload_n hx hb dX1_many_110 rfl (lv_at hl 2 rfl) ?_
        exact r_iret S hr hlk dX1_many_111 (congrArg (fun z : Int32 => some (Value.int z)) (show nI (expN n (stAt n cp cq nc) i7) = spMany n net nc (stAt n cp cq nc) w from by simp [spMany, *]))
      by_cases c_68_3 : w = 3
      · refine lv_tableIn (off := 44) (tgt := 112) hx hb dX1_many_68 (by rw [c_68_3]; decide) (by rw [c_68_3]; decide) (by rw [c_68_3]; rfl) (by decide) ?_
        refine lv_iload_n hx hb dX1_many_112 rfl (lv_at hl 1 rfl) ?_
        exact r_iret S hr hlk dX1_many_113 (congrArg (fun z : Int32 => some (Value.int z)) (show nI (numN net i7) = spMany n net nc (stAt n cp cq nc) w from by simp [spMany, *]))
      refine lv_tableOut (tgt := 114) hx hb dX1_many_68 (sw_out0_3 c_68_0 c_68_1 c_68_2 c_68_3) (by decide) ?_
      refine lv_bipush (v := (-2)) hx hb dX1_many_114 (by decide) ?_
      exact r_iret S hr hlk dX1_many_116 (congrArg (fun z : Int32 => some (Value.int z)) (show (-2) = spMany n net nc (stAt n cp cq nc) w from by simp [spMany, *]))
    | succ k7 ih7 =>
      intro i7 hi7 ls hl
      have hlt7 : i7 < n := by omega
      have hnb : net i7 < 65536 := Nat.lt_trans (hG.2.2.1 i7 (by omega)).2 (by decide)
      refine lv_iload hx hb dX1_many_7 (lv_at hl 0 rfl) ?_
      refine lv_aload_n hx hb dX1_many_9 rfl (lv_at hl 3 rfl) ?_
      refine m_get (v := .int (σ.1 5)) S hK hP 5 (by decide) fl_X1_82 rfl dX1_many_10 rfl ?_
      refine topi (z := nI n) (hG.2.1) ?_
      refine lv_icmp_ge (tgt := 67) hx hb dX1_many_13 (by decide) (fun c_13 => absurd c_13 (show ¬ nI n ≤ nI i7 from nI_ge (by omega) (by omega))) (fun c_13 => ?_)
      refine lv_iload_n hx hb dX1_many_16 rfl (lv_at hl 2 rfl) ?_
      refine lv_aload_n hx hb dX1_many_17 rfl (lv_at hl 3 rfl) ?_
      refine lv_aload_n hx hb dX1_many_18 rfl (lv_at hl 3 rfl) ?_
      refine m_get (v := .int (σ.1 9)) S hK hP 9 (by decide) fl_X1_103 rfl dX1_many_19 rfl ?_
      refine topi (z := nI nc) (hG.2.2.2.2.1) ?_
      refine rc_Vi (rest := [.int (nI (expN n (stAt n cp cq nc) i7))]) [.int (nI nc)] 1 S hK (r1_stateAt l D dA a σ n net nc cp cq hG nc (by first | assumption | omega | decide)) wl_X1_128 wd_X1_X1_stateAt rfl ⟨Nat.le_of_ble_eq_true rfl, Nat.le_of_ble_eq_true rfl⟩ (m_recv hK hP) hl.1 (Nat.le_of_ble_eq_true rfl) dX1_many_22 ⟨Nat.le_refl 0, Nat.le_refl 0⟩ (hP) ?_ rfl
      refine lv_iload hx hb dX1_many_25 (lv_at hl 0 rfl) ?_
      refine rc_Si (rest := [.int (nI (expN n (stAt n cp cq nc) i7))]) [.int (nI (stAt n cp cq nc)), .int (nI i7)] 2 S hK (r1_of l D dA (stAt n cp cq nc) i7 (by first | assumption | omega | decide) (by first | assumption | omega | decide)) wl_X1_110 wd_X1_X1_of rfl ⟨Nat.le_of_ble_eq_true rfl, Nat.le_of_ble_eq_true rfl⟩ hl.1 (Nat.le_of_ble_eq_true rfl) dX1_many_27 ⟨Nat.le_refl 0, Nat.le_refl 0⟩ (trivial) ?_ rfl
      refine lv_iconst (v := 1) hx hb dX1_many_30 (by decide) ?_
      refine lv_aload_n hx hb dX1_many_31 rfl (lv_at hl 3 rfl) ?_
      refine m_get (v := .int (σ.1 5)) S hK hP 5 (by decide) fl_X1_82 rfl dX1_many_32 rfl ?_
      refine topi (z := nI n) (hG.2.1) ?_
      refine lv_ishl hx hb dX1_many_35 ?_
      refine lv_iconst (v := 1) hx hb dX1_many_36 (by decide) ?_
      refine lv_isub hx hb dX1_many_37 ?_
      refine topi (z := nI (al n)) (al_eq n hn) ?_
      refine lv_icmp_ne (tgt := 45) hx hb dX1_many_38 (by decide) (fun c_38 => ?_) (fun c_38 => ?_)
      · have c_38 : ¬ hs4 (stAt n cp cq nc) i7 = al n := fun h => c_38 (congrArg nI h)
        refine lv_iconst (v := 0) hx hb dX1_many_45 (by decide) ?_
        refine lv_iadd hx hb dX1_many_46 ?_
        refine lv_istore_n (lv' := [(2, .int ((nI (expN n (stAt n cp cq nc) i7)) + 0)), (4, .int (nI i7)), (3, .int (nI (numN net i7))), (0, .ref (a 0)), (1, .int w)]) hx hb dX1_many_47 rfl hl (by decide) rfl (fun ls hl => ?_)
        refine lv_iload_n hx hb dX1_many_48 rfl (lv_at hl 2 rfl) ?_
        refine lv_aload_n hx hb dX1_many_49 rfl (lv_at hl 3 rfl) ?_
        refine m_get (v := .ref (a 6)) S hK hP 6 (by decide) fl_X1_19 rfl dX1_many_50 rfl ?_
        refine lv_iload hx hb dX1_many_53 (lv_at hl 1 rfl) ?_
        refine m_aldn (j := i7) (v := nI (net i7)) S hK hP 6 (by decide) rfl (show i7 < 4 by omega) dX1_many_55 ((hG.2.2.1 i7 (by omega)).1) ?_
        refine rc_Si (rest := [.int (nI (numN net i7))]) [.int (nI (net i7))] 1 S hK (r1_bitsOf l D dA (net i7) (by first | assumption | omega | decide)) wl_X1_141 wd_X1_X1_bitsOf rfl ⟨Nat.le_of_ble_eq_true rfl, Nat.le_of_ble_eq_true rfl⟩ hl.1 (Nat.le_of_ble_eq_true rfl) dX1_many_56 ⟨Nat.le_refl 0, Nat.le_refl 0⟩ (trivial) ?_ rfl
        refine lv_iadd hx hb dX1_many_59 ?_
        refine lv_istore_n (lv' := [(3, .int ((nI (numN net i7)) + (nI (bts (net i7) 16)))), (2, .int ((nI (expN n (stAt n cp cq nc) i7)) + 0)), (4, .int (nI i7)), (0, .ref (a 0)), (1, .int w)]) hx hb dX1_many_60 rfl hl (by decide) rfl (fun ls hl => ?_)
        refine lv_iinc (v := nI (i7 + 1)) (lv' := [(4, .int (nI (i7 + 1))), (3, .int ((nI (numN net i7)) + (nI (bts (net i7) 16)))), (2, .int ((nI (expN n (stAt n cp cq nc) i7)) + 0)), (0, .ref (a 0)), (1, .int w)]) hx hb dX1_many_61 hl (k := 2) rfl (nI_1 _) (by decide) rfl (fun ls hl => ?_)
        refine lv_goto (tgt := 7) hx hb dX1_many_64 (by decide) ?_
        have e7_3 : nI (numN net (i7 + 1)) = (nI (numN net i7)) + (nI (bts (net i7) 16)) := by exact (nI_add _ _).symm
        have e7_2 : nI (expN n (stAt n cp cq nc) (i7 + 1)) = (nI (expN n (stAt n cp cq nc) i7)) + 0 := by rw [expN]; simp only [c_38, if_true, if_false]; exact (nI_add _ _).symm
        exact ih7 (i7 + 1) (by omega) ls (by rw [e7_3, e7_2]; exact lv_sub hl [0, 1, 2, 3, 4] rfl)
      · have c_38 : hs4 (stAt n cp cq nc) i7 = al n := nI_inj (Nat.lt_trans (hs4_lt _ _) (by decide)) (Nat.lt_trans (al_lt n hn) (by decide)) c_38
        refine lv_iconst (v := 1) hx hb dX1_many_41 (by decide) ?_
        refine lv_goto (tgt := 46) hx hb dX1_many_42 (by decide) ?_
        refine lv_iadd hx hb dX1_many_46 ?_
        refine lv_istore_n (lv' := [(2, .int ((nI (expN n (stAt n cp cq nc) i7)) + 1)), (4, .int (nI i7)), (3, .int (nI (numN net i7))), (0, .ref (a 0)), (1, .int w)]) hx hb dX1_many_47 rfl hl (by decide) rfl (fun ls hl => ?_)
        refine lv_iload_n hx hb dX1_many_48 rfl (lv_at hl 2 rfl) ?_
        refine lv_aload_n hx hb dX1_many_49 rfl (lv_at hl 3 rfl) ?_
        refine m_get (v := .ref (a 6)) S hK hP 6 (by decide) fl_X1_19 rfl dX1_many_50 rfl ?_
        refine lv_iload hx hb dX1_many_53 (lv_at hl 1 rfl) ?_
        refine m_aldn (j := i7) (v := nI (net i7)) S hK hP 6 (by decide) rfl (show i7 < 4 by omega) dX1_many_55 ((hG.2.2.1 i7 (by omega)).1) ?_
        refine rc_Si (rest := [.int (nI (numN net i7))]) [.int (nI (net i7))] 1 S hK (r1_bitsOf l D dA (net i7) (by first | assumption | omega | decide)) wl_X1_141 wd_X1_X1_bitsOf rfl ⟨Nat.le_of_ble_eq_true rfl, Nat.le_of_ble_eq_true rfl⟩ hl.1 (Nat.le_of_ble_eq_true rfl) dX1_many_56 ⟨Nat.le_refl 0, Nat.le_refl 0⟩ (trivial) ?_ rfl
        refine lv_iadd hx hb dX1_many_59 ?_
        refine lv_istore_n (lv' := [(3, .int ((nI (numN net i7)) + (nI (bts (net i7) 16)))), (2, .int ((nI (expN n (stAt n cp cq nc) i7)) + 1)), (4, .int (nI i7)), (0, .ref (a 0)), (1, .int w)]) hx hb dX1_many_60 rfl hl (by decide) rfl (fun ls hl => ?_)
        refine lv_iinc (v := nI (i7 + 1)) (lv' := [(4, .int (nI (i7 + 1))), (3, .int ((nI (numN net i7)) + (nI (bts (net i7) 16)))), (2, .int ((nI (expN n (stAt n cp cq nc) i7)) + 1)), (0, .ref (a 0)), (1, .int w)]) hx hb dX1_many_61 hl (k := 2) rfl (nI_1 _) (by decide) rfl (fun ls hl => ?_)
        refine lv_goto (tgt := 7) hx hb dX1_many_64 (by decide) ?_
        have e7_3 : nI (numN net (i7 + 1)) = (nI (numN net i7)) + (nI (bts (net i7) 16)) := by exact (nI_add _ _).symm
        have e7_2 : nI (expN n (stAt n cp cq nc) (i7 + 1)) = (nI (expN n (stAt n cp cq nc) i7)) + 1 := by rw [expN]; simp only [c_38, if_true, if_false]; exact (nI_add _ _).symm
        exact ih7 (i7 + 1) (by omega) ls (by rw [e7_3, e7_2]; exact lv_sub hl [0, 1, 2, 3, 4] rfl)
  exact hloop7 (n) 0 (by omega) ls (lv_sub hl [0, 1, 2, 3, 4] rfl)
