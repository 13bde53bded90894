/-! COMPONENT 42: a ring is taken as one of a kind (by program: gen/comp42.py) -/
set_option maxRecDepth 100000
set_option maxHeartbeats 4000000 in
theorem r13_done00 (l : Launch) (D : va_G) (dA : Nat → ClassId) (t ao rg j : Nat) (fs : List Value) (h0 : fs[0]? = some (.int (nI j))) (hj : j < 2 ^ 31) : RC2 l yX13_done cX13_done 2 (some .int) 0 0 D dA [.ref t] (fun H => va_P D vwCl [(t, .inr (10, [.ref ao, .ref rg, .int 0, .ref ao]))] H ∧ va_P D vwCl [(rg, .inr (3 + 0, fs))] H) (fun v9 => v9 = some (.int 1)) := by
  refine RC2.of (by decide) (Nat.le_of_ble_eq_true rfl) ?_
  intro p e s m below meth c ls S hr hlk hK2 hPre hl
  have hK := hK2.1
  have hx := S.1
  have hb := S.2.1
  have hl : lv_has ls 2 [(0, .ref t)] := hl
  refine lv_aload_n hx hb dX13_done_0 rfl (lv_at hl 0 rfl) ?_
  refine va_get (v := .int 0) (D := D) (ci := 10) (C := RX13) (T := TX13) (N := 4) S.1 S.2.1 S.2.2.2.2 in_X13 S.2.2.2.1 hK hPre.1 0 rfl rfl 2 (by decide) (S.2.2.2.2 _ q1145) (fun _ h9 => h9) rfl dX13_done_1 ?_
  refine lv_if_ne (tgt := 17) hx hb dX13_done_4 (by decide) (fun c_1 => absurd (by decide) c_1) (fun c_1 => ?_)
  refine lv_aload_n hx hb dX13_done_7 rfl (lv_at hl 0 rfl) ?_
  refine va_get (v := .ref rg) (D := D) (ci := 10) (C := RX13) (T := TX13) (N := 4) S.1 S.2.1 S.2.2.2.2 in_X13 S.2.2.2.1 hK hPre.1 0 rfl rfl 1 (by decide) (S.2.2.2.2 _ q1144) (fun _ h9 => h9) rfl dX13_done_8 ?_
  refine g_get (κ := 0) (v := .int (nI j)) S hK (by decide) hPre.2 0 (by decide) q269 dX13_done_11 h0 ?_
  refine lv_goto (tgt := 48) hx hb dX13_done_14 (by decide) ?_
  refine lv_istore_n (lv' := [(1, .int (nI j)), (0, .ref t)]) hx hb dX13_done_48 rfl hl (by decide) rfl (fun ls hl => ?_)
  refine lv_iload_n hx hb dX13_done_49 rfl (lv_at hl 0 rfl) ?_
  refine lv_if_ge (tgt := 57) hx hb dX13_done_50 (by decide) (fun c_3 => ?_) (fun c_3 => absurd (nI_pos' hj) c_3)
  refine lv_iconst (v := 1) hx hb dX13_done_57 (by decide) ?_
  exact r_iret S hr hlk dX13_done_58 rfl
set_option maxHeartbeats 4000000 in
theorem r13_done10 (l : Launch) (D : va_G) (dA : Nat → ClassId) (t ao rg j : Nat) (fs : List Value) (h0 : fs[0]? = some (.int (nI j))) (hj : j < 2 ^ 31) : RC2 l yX13_done cX13_done 2 (some .int) 0 0 D dA [.ref t] (fun H => va_P D vwCl [(t, .inr (10, [.ref ao, .ref rg, .int 0, .ref ao]))] H ∧ va_P D vwCl [(rg, .inr (3 + 1, fs))] H) (fun v9 => v9 = some (.int 1)) := by
  refine RC2.of (by decide) (Nat.le_of_ble_eq_true rfl) ?_
  intro p e s m below meth c ls S hr hlk hK2 hPre hl
  have hK := hK2.1
  have hx := S.1
  have hb := S.2.1
  have hl : lv_has ls 2 [(0, .ref t)] := hl
  refine lv_aload_n hx hb dX13_done_0 rfl (lv_at hl 0 rfl) ?_
  refine va_get (v := .int 0) (D := D) (ci := 10) (C := RX13) (T := TX13) (N := 4) S.1 S.2.1 S.2.2.2.2 in_X13 S.2.2.2.1 hK hPre.1 0 rfl rfl 2 (by decide) (S.2.2.2.2 _ q1145) (fun _ h9 => h9) rfl dX13_done_1 ?_
  refine lv_if_ne (tgt := 17) hx hb dX13_done_4 (by decide) (fun c_1 => absurd (by decide) c_1) (fun c_1 => ?_)
  refine lv_aload_n hx hb dX13_done_7 rfl (lv_at hl 0 rfl) ?_
  refine va_get (v := .ref rg) (D := D) (ci := 10) (C := RX13) (T := TX13) (N := 4) S.1 S.2.1 S.2.2.2.2 in_X13 S.2.2.2.1 hK hPre.1 0 rfl rfl 1 (by decide) (S.2.2.2.2 _ q1144) (fun _ h9 => h9) rfl dX13_done_8 ?_
  refine g_get (κ := 1) (v := .int (nI j)) S hK (by decide) hPre.2 0 (by decide) q269 dX13_done_11 h0 ?_
  refine lv_goto (tgt := 48) hx hb dX13_done_14 (by decide) ?_
  refine lv_istore_n (lv' := [(1, .int (nI j)), (0, .ref t)]) hx hb dX13_done_48 rfl hl (by decide) rfl (fun ls hl => ?_)
  refine lv_iload_n hx hb dX13_done_49 rfl (lv_at hl 0 rfl) ?_
  refine lv_if_ge (tgt := 57) hx hb dX13_done_50 (by decide) (fun c_3 => ?_) (fun c_3 => absurd (nI_pos' hj) c_3)
  refine lv_iconst (v := 1) hx hb dX13_done_57 (by decide) ?_
  exact r_iret S hr hlk dX13_done_58 rfl
set_option maxHeartbeats 4000000 in
theorem r13_done20 (l : Launch) (D : va_G) (dA : Nat → ClassId) (t ao rg j : Nat) (fs : List Value) (h0 : fs[0]? = some (.int (nI j))) (hj : j < 2 ^ 31) : RC2 l yX13_done cX13_done 2 (some .int) 0 0 D dA [.ref t] (fun H => va_P D vwCl [(t, .inr (10, [.ref ao, .ref rg, .int 0, .ref ao]))] H ∧ va_P D vwCl [(rg, .inr (3 + 2, fs))] H) (fun v9 => v9 = some (.int 1)) := by
  refine RC2.of (by decide) (Nat.le_of_ble_eq_true rfl) ?_
  intro p e s m below meth c ls S hr hlk hK2 hPre hl
  have hK := hK2.1
  have hx := S.1
  have hb := S.2.1
  have hl : lv_has ls 2 [(0, .ref t)] := hl
  refine lv_aload_n hx hb dX13_done_0 rfl (lv_at hl 0 rfl) ?_
  refine va_get (v := .int 0) (D := D) (ci := 10) (C := RX13) (T := TX13) (N := 4) S.1 S.2.1 S.2.2.2.2 in_X13 S.2.2.2.1 hK hPre.1 0 rfl rfl 2 (by decide) (S.2.2.2.2 _ q1145) (fun _ h9 => h9) rfl dX13_done_1 ?_
  refine lv_if_ne (tgt := 17) hx hb dX13_done_4 (by decide) (fun c_1 => absurd (by decide) c_1) (fun c_1 => ?_)
  refine lv_aload_n hx hb dX13_done_7 rfl (lv_at hl 0 rfl) ?_
  refine va_get (v := .ref rg) (D := D) (ci := 10) (C := RX13) (T := TX13) (N := 4) S.1 S.2.1 S.2.2.2.2 in_X13 S.2.2.2.1 hK hPre.1 0 rfl rfl 1 (by decide) (S.2.2.2.2 _ q1144) (fun _ h9 => h9) rfl dX13_done_8 ?_
  refine g_get (κ := 2) (v := .int (nI j)) S hK (by decide) hPre.2 0 (by decide) q269 dX13_done_11 h0 ?_
  refine lv_goto (tgt := 48) hx hb dX13_done_14 (by decide) ?_
  refine lv_istore_n (lv' := [(1, .int (nI j)), (0, .ref t)]) hx hb dX13_done_48 rfl hl (by decide) rfl (fun ls hl => ?_)
  refine lv_iload_n hx hb dX13_done_49 rfl (lv_at hl 0 rfl) ?_
  refine lv_if_ge (tgt := 57) hx hb dX13_done_50 (by decide) (fun c_3 => ?_) (fun c_3 => absurd (nI_pos' hj) c_3)
  refine lv_iconst (v := 1) hx hb dX13_done_57 (by decide) ?_
  exact r_iret S hr hlk dX13_done_58 rfl
set_option maxHeartbeats 4000000 in
theorem r13_done11 (l : Launch) (D : va_G) (dA : Nat → ClassId) (t ao rg j : Nat) (fs : List Value) (h0 : fs[0]? = some (.int (nI j))) (hj : j < 2 ^ 31) : RC2 l yX13_done cX13_done 2 (some .int) 0 0 D dA [.ref t] (fun H => va_P D vwCl [(t, .inr (10, [.ref ao, .ref rg, .int 1, .ref ao]))] H ∧ va_P D vwCl [(rg, .inr (3 + 1, fs))] H) (fun v9 => v9 = some (.int 1)) := by
  refine RC2.of (by decide) (Nat.le_of_ble_eq_true rfl) ?_
  intro p e s m below meth c ls S hr hlk hK2 hPre hl
  have hK := hK2.1
  have hx := S.1
  have hb := S.2.1
  have hl : lv_has ls 2 [(0, .ref t)] := hl
  refine lv_aload_n hx hb dX13_done_0 rfl (lv_at hl 0 rfl) ?_
  refine va_get (v := .int 1) (D := D) (ci := 10) (C := RX13) (T := TX13) (N := 4) S.1 S.2.1 S.2.2.2.2 in_X13 S.2.2.2.1 hK hPre.1 0 rfl rfl 2 (by decide) (S.2.2.2.2 _ q1145) (fun _ h9 => h9) rfl dX13_done_1 ?_
  refine lv_if_ne (tgt := 17) hx hb dX13_done_4 (by decide) (fun c_1 => ?_) (fun c_1 => absurd c_1 (by decide))
  refine lv_aload_n hx hb dX13_done_17 rfl (lv_at hl 0 rfl) ?_
  refine va_get (v := .int 1) (D := D) (ci := 10) (C := RX13) (T := TX13) (N := 4) S.1 S.2.1 S.2.2.2.2 in_X13 S.2.2.2.1 hK hPre.1 0 rfl rfl 2 (by decide) (S.2.2.2.2 _ q1145) (fun _ h9 => h9) rfl dX13_done_18 ?_
  refine lv_iconst (v := 1) hx hb dX13_done_21 (by decide) ?_
  refine lv_icmp_ne (tgt := 38) hx hb dX13_done_22 (by decide) (fun c_2 => absurd (by decide) c_2) (fun c_2 => ?_)
  refine lv_aload_n hx hb dX13_done_25 rfl (lv_at hl 0 rfl) ?_
  refine va_get (v := .ref rg) (D := D) (ci := 10) (C := RX13) (T := TX13) (N := 4) S.1 S.2.1 S.2.2.2.2 in_X13 S.2.2.2.1 hK hPre.1 0 rfl rfl 1 (by decide) (S.2.2.2.2 _ q1144) (fun _ h9 => h9) rfl dX13_done_26 ?_
  refine va_castS S.1 S.2.1 S.2.2.2.1 (S.2.2.2.2 _ q1001) (hK.1 (3 + 1) (RX6, TX6, 9) rfl).2 (va_recv hK hPre.2 (ci := 3 + 1) (q0 := 0) rfl rfl) dX13_done_29 ?_
  refine va_get (v := .int (nI j)) (D := D) (ci := 3 + 1) (C := RX6) (T := TX6) (N := 9) S.1 S.2.1 S.2.2.2.2 in_X6 S.2.2.2.1 hK hPre.2 0 rfl rfl 0 (by decide) (S.2.2.2.2 _ q270) (fun x9 h9 => u_same (S.2.2.2.2 _ q271) x9 h9) h0 dX13_done_32 ?_
  refine lv_goto (tgt := 48) hx hb dX13_done_35 (by decide) ?_
  refine lv_istore_n (lv' := [(1, .int (nI j)), (0, .ref t)]) hx hb dX13_done_48 rfl hl (by decide) rfl (fun ls hl => ?_)
  refine lv_iload_n hx hb dX13_done_49 rfl (lv_at hl 0 rfl) ?_
  refine lv_if_ge (tgt := 57) hx hb dX13_done_50 (by decide) (fun c_3 => ?_) (fun c_3 => absurd (nI_pos' hj) c_3)
  refine lv_iconst (v := 1) hx hb dX13_done_57 (by decide) ?_
  exact r_iret S hr hlk dX13_done_58 rfl
set_option maxHeartbeats 4000000 in
theorem r13_done21 (l : Launch) (D : va_G) (dA : Nat → ClassId) (t ao rg j : Nat) (fs : List Value) (h0 : fs[0]? = some (.int (nI j))) (hj : j < 2 ^ 31) : RC2 l yX13_done cX13_done 2 (some .int) 0 0 D dA [.ref t] (fun H => va_P D vwCl [(t, .inr (10, [.ref ao, .ref rg, .int 1, .ref ao]))] H ∧ va_P D vwCl [(rg, .inr (3 + 2, fs))] H) (fun v9 => v9 = some (.int 1)) := by
  refine RC2.of (by decide) (Nat.le_of_ble_eq_true rfl) ?_
  intro p e s m below meth c ls S hr hlk hK2 hPre hl
  have hK := hK2.1
  have hx := S.1
  have hb := S.2.1
  have hl : lv_has ls 2 [(0, .ref t)] := hl
  refine lv_aload_n hx hb dX13_done_0 rfl (lv_at hl 0 rfl) ?_
  refine va_get (v := .int 1) (D := D) (ci := 10) (C := RX13) (T := TX13) (N := 4) S.1 S.2.1 S.2.2.2.2 in_X13 S.2.2.2.1 hK hPre.1 0 rfl rfl 2 (by decide) (S.2.2.2.2 _ q1145) (fun _ h9 => h9) rfl dX13_done_1 ?_
  refine lv_if_ne (tgt := 17) hx hb dX13_done_4 (by decide) (fun c_1 => ?_) (fun c_1 => absurd c_1 (by decide))
  refine lv_aload_n hx hb dX13_done_17 rfl (lv_at hl 0 rfl) ?_
  refine va_get (v := .int 1) (D := D) (ci := 10) (C := RX13) (T := TX13) (N := 4) S.1 S.2.1 S.2.2.2.2 in_X13 S.2.2.2.1 hK hPre.1 0 rfl rfl 2 (by decide) (S.2.2.2.2 _ q1145) (fun _ h9 => h9) rfl dX13_done_18 ?_
  refine lv_iconst (v := 1) hx hb dX13_done_21 (by decide) ?_
  refine lv_icmp_ne (tgt := 38) hx hb dX13_done_22 (by decide) (fun c_2 => absurd (by decide) c_2) (fun c_2 => ?_)
  refine lv_aload_n hx hb dX13_done_25 rfl (lv_at hl 0 rfl) ?_
  refine va_get (v := .ref rg) (D := D) (ci := 10) (C := RX13) (T := TX13) (N := 4) S.1 S.2.1 S.2.2.2.2 in_X13 S.2.2.2.1 hK hPre.1 0 rfl rfl 1 (by decide) (S.2.2.2.2 _ q1144) (fun _ h9 => h9) rfl dX13_done_26 ?_
  refine va_castY S.1 S.2.1 S.2.2.2.1 (S.2.2.2.2 _ q1001) (hK2.2.1 _ q1548 rfl) (va_recv hK hPre.2 (ci := 3 + 2) (q0 := 0) rfl rfl) dX13_done_29 ?_
  refine va_get (v := .int (nI j)) (D := D) (ci := 3 + 2) (C := RX7) (T := TX7) (N := 10) S.1 S.2.1 S.2.2.2.2 in_X7 S.2.2.2.1 hK hPre.2 0 rfl rfl 0 (by decide) (S.2.2.2.2 _ q270) (fun x9 h9 => u_same (S.2.2.2.2 _ q271) x9 h9) h0 dX13_done_32 ?_
  refine lv_goto (tgt := 48) hx hb dX13_done_35 (by decide) ?_
  refine lv_istore_n (lv' := [(1, .int (nI j)), (0, .ref t)]) hx hb dX13_done_48 rfl hl (by decide) rfl (fun ls hl => ?_)
  refine lv_iload_n hx hb dX13_done_49 rfl (lv_at hl 0 rfl) ?_
  refine lv_if_ge (tgt := 57) hx hb dX13_done_50 (by decide) (fun c_3 => ?_) (fun c_3 => absurd (nI_pos' hj) c_3)
  refine lv_iconst (v := 1) hx hb dX13_done_57 (by decide) ?_
  exact r_iret S hr hlk dX13_done_58 rfl
set_option maxHeartbeats 4000000 in
theorem r13_done22 (l : Launch) (D : va_G) (dA : Nat → ClassId) (t ao rg j : Nat) (fs : List Value) (h0 : fs[0]? = some (.int (nI j))) (hj : j < 2 ^ 31) : RC2 l yX13_done cX13_done 2 (some .int) 0 0 D dA [.ref t] (fun H => va_P D vwCl [(t, .inr (10, [.ref ao, .ref rg, .int 2, .ref ao]))] H ∧ va_P D vwCl [(rg, .inr (3 + 2, fs))] H) (fun v9 => v9 = some (.int 1)) := by
  refine RC2.of (by decide) (Nat.le_of_ble_eq_true rfl) ?_
  intro p e s m below meth c ls S hr hlk hK2 hPre hl
  have hK := hK2.1
  have hx := S.1
  have hb := S.2.1
  have hl : lv_has ls 2 [(0, .ref t)] := hl
  refine lv_aload_n hx hb dX13_done_0 rfl (lv_at hl 0 rfl) ?_
  refine va_get (v := .int 2) (D := D) (ci := 10) (C := RX13) (T := TX13) (N := 4) S.1 S.2.1 S.2.2.2.2 in_X13 S.2.2.2.1 hK hPre.1 0 rfl rfl 2 (by decide) (S.2.2.2.2 _ q1145) (fun _ h9 => h9) rfl dX13_done_1 ?_
  refine lv_if_ne (tgt := 17) hx hb dX13_done_4 (by decide) (fun c_1 => ?_) (fun c_1 => absurd c_1 (by decide))
  refine lv_aload_n hx hb dX13_done_17 rfl (lv_at hl 0 rfl) ?_
  refine va_get (v := .int 2) (D := D) (ci := 10) (C := RX13) (T := TX13) (N := 4) S.1 S.2.1 S.2.2.2.2 in_X13 S.2.2.2.1 hK hPre.1 0 rfl rfl 2 (by decide) (S.2.2.2.2 _ q1145) (fun _ h9 => h9) rfl dX13_done_18 ?_
  refine lv_iconst (v := 1) hx hb dX13_done_21 (by decide) ?_
  refine lv_icmp_ne (tgt := 38) hx hb dX13_done_22 (by decide) (fun c_2 => ?_) (fun c_2 => absurd c_2 (by decide))
  refine lv_aload_n hx hb dX13_done_38 rfl (lv_at hl 0 rfl) ?_
  refine va_get (v := .ref rg) (D := D) (ci := 10) (C := RX13) (T := TX13) (N := 4) S.1 S.2.1 S.2.2.2.2 in_X13 S.2.2.2.1 hK hPre.1 0 rfl rfl 1 (by decide) (S.2.2.2.2 _ q1144) (fun _ h9 => h9) rfl dX13_done_39 ?_
  refine va_castS S.1 S.2.1 S.2.2.2.1 (S.2.2.2.2 _ q1002) (hK.1 (3 + 2) (RX7, TX7, 10) rfl).2 (va_recv hK hPre.2 (ci := 3 + 2) (q0 := 0) rfl rfl) dX13_done_42 ?_
  refine va_get (v := .int (nI j)) (D := D) (ci := 3 + 2) (C := RX7) (T := TX7) (N := 10) S.1 S.2.1 S.2.2.2.2 in_X7 S.2.2.2.1 hK hPre.2 0 rfl rfl 0 (by decide) (S.2.2.2.2 _ q272) (fun x9 h9 => u_same (S.2.2.2.2 _ q273) x9 h9) h0 dX13_done_45 ?_
  refine lv_istore_n (lv' := [(1, .int (nI j)), (0, .ref t)]) hx hb dX13_done_48 rfl hl (by decide) rfl (fun ls hl => ?_)
  refine lv_iload_n hx hb dX13_done_49 rfl (lv_at hl 0 rfl) ?_
  refine lv_if_ge (tgt := 57) hx hb dX13_done_50 (by decide) (fun c_3 => ?_) (fun c_3 => absurd (nI_pos' hj) c_3)
  refine lv_iconst (v := 1) hx hb dX13_done_57 (by decide) ?_
  exact r_iret S hr hlk dX13_done_58 rfl
set_option maxHeartbeats 4000000 in
theorem t13_done01 (l : Launch) (hfl : NoTr l) (D : va_G) (dA : Nat → ClassId) (cT : ClassId) (zs zu ze : Nat) (t ao rg : Nat) (fs : List Value) : TC l yX13_done cX13_done 2 (some .int) 9 10300 3 900 (K7 D dA cT zs zu ze) [.ref t] (fun H => TH cT zs zu ze H ∧ va_P D vwCl [(t, .inr (10, [.ref ao, .ref rg, .int 1, .ref ao]))] H ∧ va_P D vwCl [(rg, .inr (3 + 0, fs))] H) (fun _ => False) "java/lang/ClassCastException" := by
  refine TC.of (by decide) (Nat.le_of_ble_eq_true rfl) ?_
  intro p e s m below meth c ls S hr hlk htab hK7 hPre hl
  have hK2 := hK7.1.1
  have hK := hK2.1
  have hx := S.1
  have hb := S.2.1
  have hl : lv_has ls 2 [(0, .ref t)] := hl
  refine W.adm (fun hadm => ?_)
  refine lv_aload_n hx hb dX13_done_0 rfl (lv_at hl 0 rfl) ?_
  refine va_get (v := .int 1) (D := D) (ci := 10) (C := RX13) (T := TX13) (N := 4) S.1 S.2.1 S.2.2.2.2 in_X13 S.2.2.2.1 hK hPre.2.1 0 rfl rfl 2 (by decide) (S.2.2.2.2 _ q1145) (fun _ h9 => h9) rfl dX13_done_1 ?_
  refine lv_if_ne (tgt := 17) hx hb dX13_done_4 (by decide) (fun c_1 => ?_) (fun c_1 => absurd c_1 (by decide))
  refine lv_aload_n hx hb dX13_done_17 rfl (lv_at hl 0 rfl) ?_
  refine va_get (v := .int 1) (D := D) (ci := 10) (C := RX13) (T := TX13) (N := 4) S.1 S.2.1 S.2.2.2.2 in_X13 S.2.2.2.1 hK hPre.2.1 0 rfl rfl 2 (by decide) (S.2.2.2.2 _ q1145) (fun _ h9 => h9) rfl dX13_done_18 ?_
  refine lv_iconst (v := 1) hx hb dX13_done_21 (by decide) ?_
  refine lv_icmp_ne (tgt := 38) hx hb dX13_done_22 (by decide) (fun c_2 => absurd (by decide) c_2) (fun c_2 => ?_)
  refine lv_aload_n hx hb dX13_done_25 rfl (lv_at hl 0 rfl) ?_
  refine va_get (v := .ref rg) (D := D) (ci := 10) (C := RX13) (T := TX13) (N := 4) S.1 S.2.1 S.2.2.2.2 in_X13 S.2.2.2.1 hK hPre.2.1 0 rfl rfl 1 (by decide) (S.2.2.2.2 _ q1144) (fun _ h9 => h9) rfl dX13_done_26 ?_
  exact tz_cast S (hfl e hadm) hK7.2.2.1 (hK7.2.1 20 _ rfl) (by decide +kernel) (S.2.2.2.2 _ q1001) (cce_all S.2.2.2.2 hK7.1 hPre.1) (fun _ h => by cases h) (fun _ h => by cases h) (va_recv hK hPre.2.2 (ci := 3 + 0) (q0 := 0) rfl rfl) hl.1 htab hlk (by decide) (Nat.le_of_ble_eq_true rfl) (by decide) (by decide) dX13_done_29
set_option maxHeartbeats 4000000 in
theorem t13_done02 (l : Launch) (hfl : NoTr l) (D : va_G) (dA : Nat → ClassId) (cT : ClassId) (zs zu ze : Nat) (t ao rg : Nat) (fs : List Value) : TC l yX13_done cX13_done 2 (some .int) 9 10300 3 900 (K7 D dA cT zs zu ze) [.ref t] (fun H => TH cT zs zu ze H ∧ va_P D vwCl [(t, .inr (10, [.ref ao, .ref rg, .int 2, .ref ao]))] H ∧ va_P D vwCl [(rg, .inr (3 + 0, fs))] H) (fun _ => False) "java/lang/ClassCastException" := by
  refine TC.of (by decide) (Nat.le_of_ble_eq_true rfl) ?_
  intro p e s m below meth c ls S hr hlk htab hK7 hPre hl
  have hK2 := hK7.1.1
  have hK := hK2.1
  have hx := S.1
  have hb := S.2.1
  have hl : lv_has ls 2 [(0, .ref t)] := hl
  refine W.adm (fun hadm => ?_)
  refine lv_aload_n hx hb dX13_done_0 rfl (lv_at hl 0 rfl) ?_
  refine va_get (v := .int 2) (D := D) (ci := 10) (C := RX13) (T := TX13) (N := 4) S.1 S.2.1 S.2.2.2.2 in_X13 S.2.2.2.1 hK hPre.2.1 0 rfl rfl 2 (by decide) (S.2.2.2.2 _ q1145) (fun _ h9 => h9) rfl dX13_done_1 ?_
  refine lv_if_ne (tgt := 17) hx hb dX13_done_4 (by decide) (fun c_1 => ?_) (fun c_1 => absurd c_1 (by decide))
  refine lv_aload_n hx hb dX13_done_17 rfl (lv_at hl 0 rfl) ?_
  refine va_get (v := .int 2) (D := D) (ci := 10) (C := RX13) (T := TX13) (N := 4) S.1 S.2.1 S.2.2.2.2 in_X13 S.2.2.2.1 hK hPre.2.1 0 rfl rfl 2 (by decide) (S.2.2.2.2 _ q1145) (fun _ h9 => h9) rfl dX13_done_18 ?_
  refine lv_iconst (v := 1) hx hb dX13_done_21 (by decide) ?_
  refine lv_icmp_ne (tgt := 38) hx hb dX13_done_22 (by decide) (fun c_2 => ?_) (fun c_2 => absurd c_2 (by decide))
  refine lv_aload_n hx hb dX13_done_38 rfl (lv_at hl 0 rfl) ?_
  refine va_get (v := .ref rg) (D := D) (ci := 10) (C := RX13) (T := TX13) (N := 4) S.1 S.2.1 S.2.2.2.2 in_X13 S.2.2.2.1 hK hPre.2.1 0 rfl rfl 1 (by decide) (S.2.2.2.2 _ q1144) (fun _ h9 => h9) rfl dX13_done_39 ?_
  exact tz_cast S (hfl e hadm) hK7.2.2.1 (hK7.2.1 21 _ rfl) (by decide +kernel) (S.2.2.2.2 _ q1002) (cce_all S.2.2.2.2 hK7.1 hPre.1) (fun _ h => by cases h) (fun _ h => by cases h) (va_recv hK hPre.2.2 (ci := 3 + 0) (q0 := 0) rfl rfl) hl.1 htab hlk (by decide) (Nat.le_of_ble_eq_true rfl) (by decide) (by decide) dX13_done_42
set_option maxHeartbeats 4000000 in
theorem t13_done12 (l : Launch) (hfl : NoTr l) (D : va_G) (dA : Nat → ClassId) (cT : ClassId) (zs zu ze : Nat) (t ao rg : Nat) (fs : List Value) : TC l yX13_done cX13_done 2 (some .int) 9 10300 3 900 (K7 D dA cT zs zu ze) [.ref t] (fun H => TH cT zs zu ze H ∧ va_P D vwCl [(t, .inr (10, [.ref ao, .ref rg, .int 2, .ref ao]))] H ∧ va_P D vwCl [(rg, .inr (3 + 1, fs))] H) (fun _ => False) "java/lang/ClassCastException" := by
  refine TC.of (by decide) (Nat.le_of_ble_eq_true rfl) ?_
  intro p e s m below meth c ls S hr hlk htab hK7 hPre hl
  have hK2 := hK7.1.1
  have hK := hK2.1
  have hx := S.1
  have hb := S.2.1
  have hl : lv_has ls 2 [(0, .ref t)] := hl
  refine W.adm (fun hadm => ?_)
  refine lv_aload_n hx hb dX13_done_0 rfl (lv_at hl 0 rfl) ?_
  refine va_get (v := .int 2) (D := D) (ci := 10) (C := RX13) (T := TX13) (N := 4) S.1 S.2.1 S.2.2.2.2 in_X13 S.2.2.2.1 hK hPre.2.1 0 rfl rfl 2 (by decide) (S.2.2.2.2 _ q1145) (fun _ h9 => h9) rfl dX13_done_1 ?_
  refine lv_if_ne (tgt := 17) hx hb dX13_done_4 (by decide) (fun c_1 => ?_) (fun c_1 => absurd c_1 (by decide))
  refine lv_aload_n hx hb dX13_done_17 rfl (lv_at hl 0 rfl) ?_
  refine va_get (v := .int 2) (D := D) (ci := 10) (C := RX13) (T := TX13) (N := 4) S.1 S.2.1 S.2.2.2.2 in_X13 S.2.2.2.1 hK hPre.2.1 0 rfl rfl 2 (by decide) (S.2.2.2.2 _ q1145) (fun _ h9 => h9) rfl dX13_done_18 ?_
  refine lv_iconst (v := 1) hx hb dX13_done_21 (by decide) ?_
  refine lv_icmp_ne (tgt := 38) hx hb dX13_done_22 (by decide) (fun c_2 => ?_) (fun c_2 => absurd c_2 (by decide))
  refine lv_aload_n hx hb dX13_done_38 rfl (lv_at hl 0 rfl) ?_
  refine va_get (v := .ref rg) (D := D) (ci := 10) (C := RX13) (T := TX13) (N := 4) S.1 S.2.1 S.2.2.2.2 in_X13 S.2.2.2.1 hK hPre.2.1 0 rfl rfl 1 (by decide) (S.2.2.2.2 _ q1144) (fun _ h9 => h9) rfl dX13_done_39 ?_
  exact tz_cast S (hfl e hadm) hK7.2.2.1 (hK7.2.1 22 _ rfl) (by decide +kernel) (S.2.2.2.2 _ q1002) (cce_all S.2.2.2.2 hK7.1 hPre.1) (fun _ h => by cases h) (fun _ h => by cases h) (va_recv hK hPre.2.2 (ci := 3 + 1) (q0 := 0) rfl rfl) hl.1 htab hlk (by decide) (Nat.le_of_ble_eq_true rfl) (by decide) (by decide) dX13_done_42
theorem r13_done (l : Launch) (D : va_G) (dA : Nat → ClassId) (t ao rg j κ w : Nat) (hκ : κ < 3) (hw : w ≤ κ) (fs : List Value) (h0 : fs[0]? = some (.int (nI j))) (hj : j < 2 ^ 31) : RC2 l yX13_done cX13_done 2 (some .int) 0 0 D dA [.ref t] (fun H => va_P D vwCl [(t, .inr (10, [.ref ao, .ref rg, .int (nI w), .ref ao]))] H ∧ va_P D vwCl [(rg, .inr (3 + κ, fs))] H) (fun v9 => v9 = some (.int 1)) := by
  match κ, w, hκ, hw with
  | 0, 0, _, _ => exact r13_done00 l D dA t ao rg j fs h0 hj
  | 1, 0, _, _ => exact r13_done10 l D dA t ao rg j fs h0 hj
  | 2, 0, _, _ => exact r13_done20 l D dA t ao rg j fs h0 hj
  | 1, 1, _, _ => exact r13_done11 l D dA t ao rg j fs h0 hj
  | 2, 1, _, _ => exact r13_done21 l D dA t ao rg j fs h0 hj
  | 2, 2, _, _ => exact r13_done22 l D dA t ao rg j fs h0 hj
theorem t13_done (l : Launch) (hfl : NoTr l) (D : va_G) (dA : Nat → ClassId) (cT : ClassId) (zs zu ze : Nat) (t ao rg κ w : Nat) (hw : w < 3) (hκ : κ < w) (fs : List Value) : TC l yX13_done cX13_done 2 (some .int) 9 10300 3 900 (K7 D dA cT zs zu ze) [.ref t] (fun H => TH cT zs zu ze H ∧ va_P D vwCl [(t, .inr (10, [.ref ao, .ref rg, .int (nI w), .ref ao]))] H ∧ va_P D vwCl [(rg, .inr (3 + κ, fs))] H) (fun _ => False) "java/lang/ClassCastException" := by
  have h9 : (κ = 0 ∧ w = 1) ∨ (κ = 0 ∧ w = 2) ∨ (κ = 1 ∧ w = 2) := by omega
  rcases h9 with ⟨rfl, rfl⟩ | ⟨rfl, rfl⟩ | ⟨rfl, rfl⟩
  · exact t13_done01 l hfl D dA cT zs zu ze t ao rg fs
  · exact t13_done02 l hfl D dA cT zs zu ze t ao rg fs
  · exact t13_done12 l hfl D dA cT zs zu ze t ao rg fs
