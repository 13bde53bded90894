/-! COMPONENT 25: a ring answers (by program: gen/comp25.py) -/
set_option maxRecDepth 100000
set_option maxHeartbeats 4000000 in
theorem r5_kind (l : Launch) (D : va_G) (dA : Nat → ClassId) (b : Nat) : RC l yX5_kind cX5_kind 1 (some .int) 0 0 D dA [.ref b] (fun _ => True) (fun v9 => v9 = some (.int 0)) := by
  refine RC.of (by decide) (Nat.le_of_ble_eq_true rfl) ?_
  intro p e s m below meth c ls S hr hlk hK hP hl
  have hx := S.1
  have hb := S.2.1
  have hl : lv_has ls 1 [(0, .ref b)] := hl
  refine lv_iconst (v := 0) hx hb dX5_kind_0 (by decide) ?_
  exact r_iret S hr hlk dX5_kind_1 (congrArg (fun z : Int32 => some (Value.int z)) (show 0 = 0 from rfl))
set_option maxHeartbeats 4000000 in
theorem r6_kind (l : Launch) (D : va_G) (dA : Nat → ClassId) (b : Nat) : RC l yX6_kind cX6_kind 1 (some .int) 0 0 D dA [.ref b] (fun _ => True) (fun v9 => v9 = some (.int 1)) := by
  refine RC.of (by decide) (Nat.le_of_ble_eq_true rfl) ?_
  intro p e s m below meth c ls S hr hlk hK hP hl
  have hx := S.1
  have hb := S.2.1
  have hl : lv_has ls 1 [(0, .ref b)] := hl
  refine lv_iconst (v := 1) hx hb dX6_kind_0 (by decide) ?_
  exact r_iret S hr hlk dX6_kind_1 (congrArg (fun z : Int32 => some (Value.int z)) (show 1 = 1 from rfl))
set_option maxHeartbeats 4000000 in
theorem r7_kind (l : Launch) (D : va_G) (dA : Nat → ClassId) (b : Nat) : RC l yX7_kind cX7_kind 1 (some .int) 0 0 D dA [.ref b] (fun _ => True) (fun v9 => v9 = some (.int 2)) := by
  refine RC.of (by decide) (Nat.le_of_ble_eq_true rfl) ?_
  intro p e s m below meth c ls S hr hlk hK hP hl
  have hx := S.1
  have hb := S.2.1
  have hl : lv_has ls 1 [(0, .ref b)] := hl
  refine lv_iconst (v := 2) hx hb dX7_kind_0 (by decide) ?_
  exact r_iret S hr hlk dX7_kind_1 (congrArg (fun z : Int32 => some (Value.int z)) (show 2 = 2 from rfl))
set_option maxHeartbeats 4000000 in
theorem r5_number (l : Launch) (D : va_G) (dA : Nat → ClassId) (a : Nat → Nat) (n : Nat) (cp cq : Nat → Nat) (b j : Nat) (κ : Nat) (hκ : κ < 3)  : RC2 l yX5_number cX5_number 1 (some .int) 0 0 D dA [.ref b] (fun H => va_P D vwCl [(b, .inr (3 + κ, rgF (a 0) n cp cq j))] H) (fun v9 => v9 = some (.int (nI j))) := by
  refine RC2.of (by decide) (Nat.le_of_ble_eq_true rfl) ?_
  intro p e s m below meth c ls S hr hlk hK2 hR hl
  have hK := hK2.1
  have hx := S.1
  have hb := S.2.1
  have hl : lv_has ls 1 [(0, .ref b)] := hl
  refine lv_aload_n hx hb dX5_number_0 rfl (lv_at hl 0 rfl) ?_
  refine g_get (v := .int (nI j)) (κ := κ) S hK hκ hR 0 (by decide) fl_X5_15 dX5_number_1 rfl ?_
  exact r_iret S hr hlk dX5_number_4 (congrArg (fun z : Int32 => some (Value.int z)) (show nI j = nI j from rfl))
set_option maxHeartbeats 4000000 in
theorem r5_learnt (l : Launch) (D : va_G) (dA : Nat → ClassId) (a : Nat → Nat) (n : Nat) (cp cq : Nat → Nat) (b j : Nat) (κ : Nat) (hκ : κ < 3)  : RC2 l yX5_learnt cX5_learnt 1 (some .int) 1 20 D dA [.ref b] (fun H => va_P D vwCl [(b, .inr (3 + κ, rgF (a 0) n cp cq j))] H) (fun v9 => v9 = some (.int (nI (nws n cp cq j)))) := by
  refine RC2.of (by decide) (Nat.le_of_ble_eq_true rfl) ?_
  intro p e s m below meth c ls S hr hlk hK2 hR hl
  have hK := hK2.1
  have hx := S.1
  have hb := S.2.1
  have hl : lv_has ls 1 [(0, .ref b)] := hl
  have hl1 := lrnt_lt n cp cq j (cp j)
  have hl2 := lrnt_lt n cp cq j (cq j)
  refine lv_aload_n hx hb dX5_learnt_0 rfl (lv_at hl 0 rfl) ?_
  refine g_get (v := .int (nI (lrnt n cp cq j (cp j)))) (κ := κ) S hK hκ hR 5 (by decide) fl_X5_39 dX5_learnt_1 rfl ?_
  refine rc_Si (rest := []) [.int (nI (lrnt n cp cq j (cp j)))] 1 S hK (rj_bitCount l D dA (lrnt n cp cq j (cp j)) (by first | assumption | omega | decide)) wl_X5_45 wd_X5_J18_bitCount rfl ⟨Nat.le_of_ble_eq_true rfl, Nat.le_of_ble_eq_true rfl⟩ hl.1 (Nat.le_of_ble_eq_true rfl) dX5_learnt_4 ⟨Nat.le_refl 0, Nat.le_refl 0⟩ (trivial) ?_ rfl
  refine lv_aload_n hx hb dX5_learnt_7 rfl (lv_at hl 0 rfl) ?_
  refine g_get (v := .int (nI (lrnt n cp cq j (cq j)))) (κ := κ) S hK hκ hR 6 (by decide) fl_X5_42 dX5_learnt_8 rfl ?_
  refine rc_Si (rest := [.int (nI (bts (lrnt n cp cq j (cp j)) 16))]) [.int (nI (lrnt n cp cq j (cq j)))] 1 S hK (rj_bitCount l D dA (lrnt n cp cq j (cq j)) (by first | assumption | omega | decide)) wl_X5_45 wd_X5_J18_bitCount rfl ⟨Nat.le_of_ble_eq_true rfl, Nat.le_of_ble_eq_true rfl⟩ hl.1 (Nat.le_of_ble_eq_true rfl) dX5_learnt_11 ⟨Nat.le_refl 0, Nat.le_refl 0⟩ (trivial) ?_ rfl
  refine lv_iadd hx hb dX5_learnt_14 ?_
  exact r_iret S hr hlk dX5_learnt_15 (congrArg (fun z : Int32 => some (Value.int z)) (show (nI (bts (lrnt n cp cq j (cp j)) 16)) + (nI (bts (lrnt n cp cq j (cq j)) 16)) = nI (nws n cp cq j) from nI_add _ _))
set_option maxHeartbeats 4000000 in
theorem r5_tells0 (l : Launch) (D : va_G) (dA : Nat → ClassId) (a : Nat → Nat) (n : Nat) (cp cq : Nat → Nat) (b j : Nat) (hk : knd n cp cq j = 0) (wv : Int32) : RC2 l yX5_tells cX5_tells 2 (some .int) 1 20 D dA [.ref b, .int wv] (fun H => va_P D vwCl [(b, .inr (3, rgF (a 0) n cp cq j))] H) (fun v9 => v9 = some (.int (spOfC n cp cq j wv))) := by
  refine RC2.of (by decide) (Nat.le_of_ble_eq_true rfl) ?_
  intro p e s m below meth c ls S hr hlk hK2 hR hl
  have hK := hK2.1
  have hx := S.1
  have hb := S.2.1
  have hl : lv_has ls 2 [(0, .ref b), (1, .int wv)] := hl
  refine lv_iload_n hx hb dX5_tells_0 rfl (lv_at hl 1 rfl) ?_
  refine lv_if_ne (tgt := 11) hx hb dX5_tells_1 (by decide) (fun c_1 => ?_) (fun c_1 => ?_)
  · refine lv_iload_n hx hb dX5_tells_11 rfl (lv_at hl 1 rfl) ?_
    refine lv_iconst (v := 1) hx hb dX5_tells_12 (by decide) ?_
    refine lv_icmp_ne (tgt := 23) hx hb dX5_tells_13 (by decide) (fun c_13 => ?_) (fun c_13 => ?_)
    · refine lv_iload_n hx hb dX5_tells_23 rfl (lv_at hl 1 rfl) ?_
      refine lv_iconst (v := 2) hx hb dX5_tells_24 (by decide) ?_
      refine lv_icmp_ne (tgt := 35) hx hb dX5_tells_25 (by decide) (fun c_25 => ?_) (fun c_25 => ?_)
      · refine lv_iload_n hx hb dX5_tells_35 rfl (lv_at hl 1 rfl) ?_
        refine lv_iconst (v := 3) hx hb dX5_tells_36 (by decide) ?_
        refine lv_icmp_ne (tgt := 47) hx hb dX5_tells_37 (by decide) (fun c_37 => ?_) (fun c_37 => ?_)
        · refine lv_iload_n hx hb dX5_tells_47 rfl (lv_at hl 1 rfl) ?_
          refine lv_iconst (v := 4) hx hb dX5_tells_48 (by decide) ?_
          refine lv_icmp_ne (tgt := 59) hx hb dX5_tells_49 (by decide) (fun c_49 => ?_) (fun c_49 => ?_)
          · refine lv_bipush (v := (-2)) hx hb dX5_tells_59 (by decide) ?_
            exact r_iret S hr hlk dX5_tells_61 (congrArg (fun z : Int32 => some (Value.int z)) (show (-2) = spOfC n cp cq j wv from by simp [spOfC, *]))
          · refine lv_aload_n hx hb dX5_tells_52 rfl (lv_at hl 0 rfl) ?_
            refine g_get (v := .int (nI (lrnt n cp cq j (cq j)))) (κ := 0) S hK (by decide) hR 6 (by decide) fl_X5_42 dX5_tells_53 rfl ?_
            refine lv_goto (tgt := 61) hx hb dX5_tells_56 (by decide) ?_
            exact r_iret S hr hlk dX5_tells_61 (congrArg (fun z : Int32 => some (Value.int z)) (show nI (lrnt n cp cq j (cq j)) = spOfC n cp cq j wv from by simp [spOfC, *]))
        · refine lv_aload_n hx hb dX5_tells_40 rfl (lv_at hl 0 rfl) ?_
          refine g_get (v := .int (nI (lrnt n cp cq j (cp j)))) (κ := 0) S hK (by decide) hR 5 (by decide) fl_X5_39 dX5_tells_41 rfl ?_
          refine lv_goto (tgt := 61) hx hb dX5_tells_44 (by decide) ?_
          exact r_iret S hr hlk dX5_tells_61 (congrArg (fun z : Int32 => some (Value.int z)) (show nI (lrnt n cp cq j (cp j)) = spOfC n cp cq j wv from by simp [spOfC, *]))
      · refine lv_aload_n hx hb dX5_tells_28 rfl (lv_at hl 0 rfl) ?_
        refine g_get (v := .int (nI (cq j))) (κ := 0) S hK (by decide) hR 2 (by decide) fl_X5_22 dX5_tells_29 rfl ?_
        refine lv_goto (tgt := 61) hx hb dX5_tells_32 (by decide) ?_
        exact r_iret S hr hlk dX5_tells_61 (congrArg (fun z : Int32 => some (Value.int z)) (show nI (cq j) = spOfC n cp cq j wv from by simp [spOfC, *]))
    · refine lv_aload_n hx hb dX5_tells_16 rfl (lv_at hl 0 rfl) ?_
      refine g_get (v := .int (nI (cp j))) (κ := 0) S hK (by decide) hR 1 (by decide) fl_X5_19 dX5_tells_17 rfl ?_
      refine lv_goto (tgt := 61) hx hb dX5_tells_20 (by decide) ?_
      exact r_iret S hr hlk dX5_tells_61 (congrArg (fun z : Int32 => some (Value.int z)) (show nI (cp j) = spOfC n cp cq j wv from by simp [spOfC, *]))
  · refine lv_aload_n hx hb dX5_tells_4 rfl (lv_at hl 0 rfl) ?_
    refine rc2_U (x := yX5_kind) (rest := []) [] 0 S hK2 (RC.k2 (r5_kind l D dA b)) (lw_U q425 q428 q427 q426 q82 q435) (dl_code S.2.2.2.2 q426 q435) (by decide +kernel) rfl ⟨Nat.le_of_ble_eq_true rfl, Nat.le_of_ble_eq_true rfl⟩ (va_recv hK hR (ci := 3) (q0 := 0) rfl rfl) hl.1 (Nat.le_of_ble_eq_true rfl) dX5_tells_5 ⟨Nat.le_refl 0, Nat.le_refl 0⟩ (trivial) (fun v9 hv9 => ?_) rfl
    subst hv9
    refine W.eq (g2 := F0 m 8 ls [.int 0]) rfl ?_
    refine lv_goto (tgt := 61) hx hb dX5_tells_8 (by decide) ?_
    exact r_iret S hr hlk dX5_tells_61 (congrArg (fun z : Int32 => some (Value.int z)) (show 0 = spOfC n cp cq j wv from by simp [spOfC, *]; rfl))
set_option maxHeartbeats 4000000 in
theorem r5_tells1 (l : Launch) (D : va_G) (dA : Nat → ClassId) (a : Nat → Nat) (n : Nat) (cp cq : Nat → Nat) (b j : Nat) (hk : knd n cp cq j = 1) (wv : Int32) : RC2 l yX5_tells cX5_tells 2 (some .int) 1 20 D dA [.ref b, .int wv] (fun H => va_P D vwCl [(b, .inr (4, rgF (a 0) n cp cq j))] H) (fun v9 => v9 = some (.int (spOfC n cp cq j wv))) := by
  refine RC2.of (by decide) (Nat.le_of_ble_eq_true rfl) ?_
  intro p e s m below meth c ls S hr hlk hK2 hR hl
  have hK := hK2.1
  have hx := S.1
  have hb := S.2.1
  have hl : lv_has ls 2 [(0, .ref b), (1, .int wv)] := hl
  refine lv_iload_n hx hb dX5_tells_0 rfl (lv_at hl 1 rfl) ?_
  refine lv_if_ne (tgt := 11) hx hb dX5_tells_1 (by decide) (fun c_1 => ?_) (fun c_1 => ?_)
  · refine lv_iload_n hx hb dX5_tells_11 rfl (lv_at hl 1 rfl) ?_
    refine lv_iconst (v := 1) hx hb dX5_tells_12 (by decide) ?_
    refine lv_icmp_ne (tgt := 23) hx hb dX5_tells_13 (by decide) (fun c_13 => ?_) (fun c_13 => ?_)
    · refine lv_iload_n hx hb dX5_tells_23 rfl (lv_at hl 1 rfl) ?_
      refine lv_iconst (v := 2) hx hb dX5_tells_24 (by decide) ?_
      refine lv_icmp_ne (tgt := 35) hx hb dX5_tells_25 (by decide) (fun c_25 => ?_) (fun c_25 => ?_)
      · refine lv_iload_n hx hb dX5_tells_35 rfl (lv_at hl 1 rfl) ?_
        refine lv_iconst (v := 3) hx hb dX5_tells_36 (by decide) ?_
        refine lv_icmp_ne (tgt := 47) hx hb dX5_tells_37 (by decide) (fun c_37 => ?_) (fun c_37 => ?_)
        · refine lv_iload_n hx hb dX5_tells_47 rfl (lv_at hl 1 rfl) ?_
          refine lv_iconst (v := 4) hx hb dX5_tells_48 (by decide) ?_
          refine lv_icmp_ne (tgt := 59) hx hb dX5_tells_49 (by decide) (fun c_49 => ?_) (fun c_49 => ?_)
          · refine lv_bipush (v := (-2)) hx hb dX5_tells_59 (by decide) ?_
            exact r_iret S hr hlk dX5_tells_61 (congrArg (fun z : Int32 => some (Value.int z)) (show (-2) = spOfC n cp cq j wv from by simp [spOfC, *]))
          · refine lv_aload_n hx hb dX5_tells_52 rfl (lv_at hl 0 rfl) ?_
            refine g_get (v := .int (nI (lrnt n cp cq j (cq j)))) (κ := 1) S hK (by decide) hR 6 (by decide) fl_X5_42 dX5_tells_53 rfl ?_
            refine lv_goto (tgt := 61) hx hb dX5_tells_56 (by decide) ?_
            exact r_iret S hr hlk dX5_tells_61 (congrArg (fun z : Int32 => some (Value.int z)) (show nI (lrnt n cp cq j (cq j)) = spOfC n cp cq j wv from by simp [spOfC, *]))
        · refine lv_aload_n hx hb dX5_tells_40 rfl (lv_at hl 0 rfl) ?_
          refine g_get (v := .int (nI (lrnt n cp cq j (cp j)))) (κ := 1) S hK (by decide) hR 5 (by decide) fl_X5_39 dX5_tells_41 rfl ?_
          refine lv_goto (tgt := 61) hx hb dX5_tells_44 (by decide) ?_
          exact r_iret S hr hlk dX5_tells_61 (congrArg (fun z : Int32 => some (Value.int z)) (show nI (lrnt n cp cq j (cp j)) = spOfC n cp cq j wv from by simp [spOfC, *]))
      · refine lv_aload_n hx hb dX5_tells_28 rfl (lv_at hl 0 rfl) ?_
        refine g_get (v := .int (nI (cq j))) (κ := 1) S hK (by decide) hR 2 (by decide) fl_X5_22 dX5_tells_29 rfl ?_
        refine lv_goto (tgt := 61) hx hb dX5_tells_32 (by decide) ?_
        exact r_iret S hr hlk dX5_tells_61 (congrArg (fun z : Int32 => some (Value.int z)) (show nI (cq j) = spOfC n cp cq j wv from by simp [spOfC, *]))
    · refine lv_aload_n hx hb dX5_tells_16 rfl (lv_at hl 0 rfl) ?_
      refine g_get (v := .int (nI (cp j))) (κ := 1) S hK (by decide) hR 1 (by decide) fl_X5_19 dX5_tells_17 rfl ?_
      refine lv_goto (tgt := 61) hx hb dX5_tells_20 (by decide) ?_
      exact r_iret S hr hlk dX5_tells_61 (congrArg (fun z : Int32 => some (Value.int z)) (show nI (cp j) = spOfC n cp cq j wv from by simp [spOfC, *]))
  · refine lv_aload_n hx hb dX5_tells_4 rfl (lv_at hl 0 rfl) ?_
    refine rc2_U (x := yX5_kind) (rest := []) [] 0 S hK2 (RC.k2 (r6_kind l D dA b)) (lw_U q425 q428 q429 q430 q83 q431) (dl_code S.2.2.2.2 q426 q435) (by decide +kernel) rfl ⟨Nat.le_of_ble_eq_true rfl, Nat.le_of_ble_eq_true rfl⟩ (va_recv hK hR (ci := 4) (q0 := 0) rfl rfl) hl.1 (Nat.le_of_ble_eq_true rfl) dX5_tells_5 ⟨Nat.le_refl 0, Nat.le_refl 0⟩ (trivial) (fun v9 hv9 => ?_) rfl
    subst hv9
    refine W.eq (g2 := F0 m 8 ls [.int 1]) rfl ?_
    refine lv_goto (tgt := 61) hx hb dX5_tells_8 (by decide) ?_
    exact r_iret S hr hlk dX5_tells_61 (congrArg (fun z : Int32 => some (Value.int z)) (show 1 = spOfC n cp cq j wv from by simp [spOfC, *]; rfl))
set_option maxHeartbeats 4000000 in
theorem r5_tells2 (l : Launch) (D : va_G) (dA : Nat → ClassId) (a : Nat → Nat) (n : Nat) (cp cq : Nat → Nat) (b j : Nat) (hk : knd n cp cq j = 2) (wv : Int32) : RC2 l yX5_tells cX5_tells 2 (some .int) 1 20 D dA [.ref b, .int wv] (fun H => va_P D vwCl [(b, .inr (5, rgF (a 0) n cp cq j))] H) (fun v9 => v9 = some (.int (spOfC n cp cq j wv))) := by
  refine RC2.of (by decide) (Nat.le_of_ble_eq_true rfl) ?_
  intro p e s m below meth c ls S hr hlk hK2 hR hl
  have hK := hK2.1
  have hx := S.1
  have hb := S.2.1
  have hl : lv_has ls 2 [(0, .ref b), (1, .int wv)] := hl
  refine lv_iload_n hx hb dX5_tells_0 rfl (lv_at hl 1 rfl) ?_
  refine lv_if_ne (tgt := 11) hx hb dX5_tells_1 (by decide) (fun c_1 => ?_) (fun c_1 => ?_)
  · refine lv_iload_n hx hb dX5_tells_11 rfl (lv_at hl 1 rfl) ?_
    refine lv_iconst (v := 1) hx hb dX5_tells_12 (by decide) ?_
    refine lv_icmp_ne (tgt := 23) hx hb dX5_tells_13 (by decide) (fun c_13 => ?_) (fun c_13 => ?_)
    · refine lv_iload_n hx hb dX5_tells_23 rfl (lv_at hl 1 rfl) ?_
      refine lv_iconst (v := 2) hx hb dX5_tells_24 (by decide) ?_
      refine lv_icmp_ne (tgt := 35) hx hb dX5_tells_25 (by decide) (fun c_25 => ?_) (fun c_25 => ?_)
      · refine lv_iload_n hx hb dX5_tells_35 rfl (lv_at hl 1 rfl) ?_
        refine lv_iconst (v := 3) hx hb dX5_tells_36 (by decide) ?_
        refine lv_icmp_ne (tgt := 47) hx hb dX5_tells_37 (by decide) (fun c_37 => ?_) (fun c_37 => ?_)
        · refine lv_iload_n hx hb dX5_tells_47 rfl (lv_at hl 1 rfl) ?_
          refine lv_iconst (v := 4) hx hb dX5_tells_48 (by decide) ?_
          refine lv_icmp_ne (tgt := 59) hx hb dX5_tells_49 (by decide) (fun c_49 => ?_) (fun c_49 => ?_)
          · refine lv_bipush (v := (-2)) hx hb dX5_tells_59 (by decide) ?_
            exact r_iret S hr hlk dX5_tells_61 (congrArg (fun z : Int32 => some (Value.int z)) (show (-2) = spOfC n cp cq j wv from by simp [spOfC, *]))
          · refine lv_aload_n hx hb dX5_tells_52 rfl (lv_at hl 0 rfl) ?_
            refine g_get (v := .int (nI (lrnt n cp cq j (cq j)))) (κ := 2) S hK (by decide) hR 6 (by decide) fl_X5_42 dX5_tells_53 rfl ?_
            refine lv_goto (tgt := 61) hx hb dX5_tells_56 (by decide) ?_
            exact r_iret S hr hlk dX5_tells_61 (congrArg (fun z : Int32 => some (Value.int z)) (show nI (lrnt n cp cq j (cq j)) = spOfC n cp cq j wv from by simp [spOfC, *]))
        · refine lv_aload_n hx hb dX5_tells_40 rfl (lv_at hl 0 rfl) ?_
          refine g_get (v := .int (nI (lrnt n cp cq j (cp j)))) (κ := 2) S hK (by decide) hR 5 (by decide) fl_X5_39 dX5_tells_41 rfl ?_
          refine lv_goto (tgt := 61) hx hb dX5_tells_44 (by decide) ?_
          exact r_iret S hr hlk dX5_tells_61 (congrArg (fun z : Int32 => some (Value.int z)) (show nI (lrnt n cp cq j (cp j)) = spOfC n cp cq j wv from by simp [spOfC, *]))
      · refine lv_aload_n hx hb dX5_tells_28 rfl (lv_at hl 0 rfl) ?_
        refine g_get (v := .int (nI (cq j))) (κ := 2) S hK (by decide) hR 2 (by decide) fl_X5_22 dX5_tells_29 rfl ?_
        refine lv_goto (tgt := 61) hx hb dX5_tells_32 (by decide) ?_
        exact r_iret S hr hlk dX5_tells_61 (congrArg (fun z : Int32 => some (Value.int z)) (show nI (cq j) = spOfC n cp cq j wv from by simp [spOfC, *]))
    · refine lv_aload_n hx hb dX5_tells_16 rfl (lv_at hl 0 rfl) ?_
      refine g_get (v := .int (nI (cp j))) (κ := 2) S hK (by decide) hR 1 (by decide) fl_X5_19 dX5_tells_17 rfl ?_
      refine lv_goto (tgt := 61) hx hb dX5_tells_20 (by decide) ?_
      exact r_iret S hr hlk dX5_tells_61 (congrArg (fun z : Int32 => some (Value.int z)) (show nI (cp j) = spOfC n cp cq j wv from by simp [spOfC, *]))
  · refine lv_aload_n hx hb dX5_tells_4 rfl (lv_at hl 0 rfl) ?_
    refine rc2_U (x := yX5_kind) (rest := []) [] 0 S hK2 (RC.k2 (r7_kind l D dA b)) (lw_U q425 q428 q432 q433 q84 q434) (dl_code S.2.2.2.2 q426 q435) (by decide +kernel) rfl ⟨Nat.le_of_ble_eq_true rfl, Nat.le_of_ble_eq_true rfl⟩ (va_recv hK hR (ci := 5) (q0 := 0) rfl rfl) hl.1 (Nat.le_of_ble_eq_true rfl) dX5_tells_5 ⟨Nat.le_refl 0, Nat.le_refl 0⟩ (trivial) (fun v9 hv9 => ?_) rfl
    subst hv9
    refine W.eq (g2 := F0 m 8 ls [.int 2]) rfl ?_
    refine lv_goto (tgt := 61) hx hb dX5_tells_8 (by decide) ?_
    exact r_iret S hr hlk dX5_tells_61 (congrArg (fun z : Int32 => some (Value.int z)) (show 2 = spOfC n cp cq j wv from by simp [spOfC, *]; rfl))
set_option maxHeartbeats 4000000 in
theorem k5_traced (l : Launch) (D : va_G) (dA : Nat → ClassId) (a : Nat → Nat) (hI : kInj a) (σ : MS) (Ph : Heap → Prop) (hSt : kStb a Ph) (n : Nat) (cp cq : Nat → Nat) (b j : Nat) (κ : Nat) (hκ : κ < 3) (hRf : ∀ H, Ph H → va_P D vwCl [(b, .inr (3 + κ, rgF (a 0) n cp cq j))] H) (v : Int32) : KC2 l yX5_tracedBy cX5_tracedBy 2 (some .int) 0 0 D dA a [.ref b, .int v] σ Ph (fun v9 σ9 => v9 = some (.int 0) ∧ σ9 = σ.i 2 (tr31 (σ.1 2) v)) := by
  refine KC2.of (by decide) (Nat.le_of_ble_eq_true rfl) ?_
  intro p e s m below meth c ls S hr hlk hK2 hM hPh hl
  have hK := hK2.1
  have hx := S.1
  have hb := S.2.1
  have hl : lv_has ls 2 [(0, .ref b), (1, .int v)] := hl
  refine lv_aload_n hx hb dX5_tracedBy_0 rfl (lv_at hl 0 rfl) ?_
  have hR := hRf _ (hSt.at hM hPh)
  refine g_get (v := .ref (a 0)) (κ := κ) S hK hκ hR 7 (by decide) fl_X5_3 dX5_tracedBy_1 rfl ?_
  refine lv_bipush (v := 31) hx hb dX5_tracedBy_4 (by decide) ?_
  refine lv_aload_n hx hb dX5_tracedBy_6 rfl (lv_at hl 0 rfl) ?_
  have hR := hRf _ (hSt.at hM hPh)
  refine g_get (v := .ref (a 0)) (κ := κ) S hK hκ hR 7 (by decide) fl_X5_3 dX5_tracedBy_7 rfl ?_
  refine k_getN (v := .int (σ.1 2)) S hK hM.1 2 (by decide) (hK2.2.1 _ q137 rfl) rfl dX5_tracedBy_10 rfl ?_
  refine lv_imul hx hb dX5_tracedBy_13 ?_
  refine lv_iload_n hx hb dX5_tracedBy_14 rfl (lv_at hl 1 rfl) ?_
  refine lv_iadd hx hb dX5_tracedBy_15 ?_
  refine k_putN hI S hK hM 2 (by decide) rfl (hK2.2.1 _ q137 rfl) rfl rfl (by decide +kernel) dX5_tracedBy_16 (fun H locs hM => ?_)
  refine lv_iconst (v := 0) hx hb dX5_tracedBy_19 (by decide) ?_
  exact k_iret S hr hlk hM dX5_tracedBy_20 (⟨congrArg (fun z : Int32 => some (Value.int z)) (show 0 = 0 from rfl), rfl⟩)
set_option maxHeartbeats 4000000 in
theorem k5_said0 (l : Launch) (D : va_G) (dA : Nat → ClassId) (a : Nat → Nat) (hI : kInj a) (σ : MS) (Ph : Heap → Prop) (hSt : kStb a Ph) (n : Nat) (cp cq : Nat → Nat) (b j : Nat) (hRf : ∀ H, Ph H → va_P D vwCl [(b, .inr (3, rgF (a 0) n cp cq j))] H)  : KC2 l yX5_said cX5_said 1 (some .int) 1 21 D dA a [.ref b] σ Ph (fun v9 σ9 => v9 = some (.int (10 * nI (cp j) + nI (cq j))) ∧ σ9 = (σ.i 2 (tr31 (σ.1 2) 1))) := by
  refine KC2.of (by decide) (Nat.le_of_ble_eq_true rfl) ?_
  intro p e s m below meth c ls S hr hlk hK2 hM hPh hl
  have hK := hK2.1
  have hx := S.1
  have hb := S.2.1
  have hl : lv_has ls 1 [(0, .ref b)] := hl
  refine lv_aload_n hx hb dX5_said_0 rfl (lv_at hl 0 rfl) ?_
  refine lv_iconst (v := 1) hx hb dX5_said_1 (by decide) ?_
  have hR := hRf _ (hSt.at hM hPh)
  refine kc2_U (x := yX5_tracedBy) (rest := []) [.int 1] 1 S hK2 hM (k5_traced l D dA a hI σ Ph hSt n cp cq b j 0 (by decide) hRf 1) (lw_U q1087 q1541 q1543 q1057 q82 q1058) (dl_code S.2.2.2.2 q1057 q1058) (by decide +kernel) rfl ⟨Nat.le_of_ble_eq_true rfl, Nat.le_of_ble_eq_true rfl⟩ (va_recv hK hR (ci := 3) (q0 := 0) rfl rfl) hl.1 (Nat.le_of_ble_eq_true rfl) dX5_said_2 ⟨Nat.le_refl 0, Nat.le_refl 0⟩ (hSt.at hM hPh) (fun v9 σ2 H locs hq hM => ?_) rfl
  obtain ⟨rfl, rfl⟩ := hq
  refine W.eq (g2 := F0 m 5 ls [.int 0]) rfl ?_
  refine lv_bipush (v := 10) hx hb dX5_said_5 (by decide) ?_
  refine lv_aload_n hx hb dX5_said_7 rfl (lv_at hl 0 rfl) ?_
  have hR := hRf _ (hSt.at hM hPh)
  refine g_get (v := .int (nI (cp j))) (κ := 0) S hK (by decide) hR 1 (by decide) fl_X5_19 dX5_said_8 rfl ?_
  refine lv_imul hx hb dX5_said_11 ?_
  refine lv_iadd hx hb dX5_said_12 ?_
  refine lv_aload_n hx hb dX5_said_13 rfl (lv_at hl 0 rfl) ?_
  have hR := hRf _ (hSt.at hM hPh)
  refine g_get (v := .int (nI (cq j))) (κ := 0) S hK (by decide) hR 2 (by decide) fl_X5_22 dX5_said_14 rfl ?_
  refine lv_iadd hx hb dX5_said_17 ?_
  exact k_iret S hr hlk hM dX5_said_18 (⟨congrArg (fun z : Int32 => some (Value.int z)) (show (0 + (10 * (nI (cp j)))) + (nI (cq j)) = 10 * nI (cp j) + nI (cq j) from by rw [Int32.zero_add]), rfl⟩)
set_option maxHeartbeats 4000000 in
theorem k5_said1 (l : Launch) (D : va_G) (dA : Nat → ClassId) (a : Nat → Nat) (hI : kInj a) (σ : MS) (Ph : Heap → Prop) (hSt : kStb a Ph) (n : Nat) (cp cq : Nat → Nat) (b j : Nat) (hRf : ∀ H, Ph H → va_P D vwCl [(b, .inr (4, rgF (a 0) n cp cq j))] H)  : KC2 l yX5_said cX5_said 1 (some .int) 1 21 D dA a [.ref b] σ Ph (fun v9 σ9 => v9 = some (.int (10 * nI (cp j) + nI (cq j))) ∧ σ9 = (σ.i 2 (tr31 (σ.1 2) 1))) := by
  refine KC2.of (by decide) (Nat.le_of_ble_eq_true rfl) ?_
  intro p e s m below meth c ls S hr hlk hK2 hM hPh hl
  have hK := hK2.1
  have hx := S.1
  have hb := S.2.1
  have hl : lv_has ls 1 [(0, .ref b)] := hl
  refine lv_aload_n hx hb dX5_said_0 rfl (lv_at hl 0 rfl) ?_
  refine lv_iconst (v := 1) hx hb dX5_said_1 (by decide) ?_
  have hR := hRf _ (hSt.at hM hPh)
  refine kc2_U (x := yX5_tracedBy) (rest := []) [.int 1] 1 S hK2 hM (k5_traced l D dA a hI σ Ph hSt n cp cq b j 1 (by decide) hRf 1) (lw_U q1087 q1541 q1542 q1057 q82 q1058) (dl_code S.2.2.2.2 q1057 q1058) (by decide +kernel) rfl ⟨Nat.le_of_ble_eq_true rfl, Nat.le_of_ble_eq_true rfl⟩ (va_recv hK hR (ci := 4) (q0 := 0) rfl rfl) hl.1 (Nat.le_of_ble_eq_true rfl) dX5_said_2 ⟨Nat.le_refl 0, Nat.le_refl 0⟩ (hSt.at hM hPh) (fun v9 σ2 H locs hq hM => ?_) rfl
  obtain ⟨rfl, rfl⟩ := hq
  refine W.eq (g2 := F0 m 5 ls [.int 0]) rfl ?_
  refine lv_bipush (v := 10) hx hb dX5_said_5 (by decide) ?_
  refine lv_aload_n hx hb dX5_said_7 rfl (lv_at hl 0 rfl) ?_
  have hR := hRf _ (hSt.at hM hPh)
  refine g_get (v := .int (nI (cp j))) (κ := 1) S hK (by decide) hR 1 (by decide) fl_X5_19 dX5_said_8 rfl ?_
  refine lv_imul hx hb dX5_said_11 ?_
  refine lv_iadd hx hb dX5_said_12 ?_
  refine lv_aload_n hx hb dX5_said_13 rfl (lv_at hl 0 rfl) ?_
  have hR := hRf _ (hSt.at hM hPh)
  refine g_get (v := .int (nI (cq j))) (κ := 1) S hK (by decide) hR 2 (by decide) fl_X5_22 dX5_said_14 rfl ?_
  refine lv_iadd hx hb dX5_said_17 ?_
  exact k_iret S hr hlk hM dX5_said_18 (⟨congrArg (fun z : Int32 => some (Value.int z)) (show (0 + (10 * (nI (cp j)))) + (nI (cq j)) = 10 * nI (cp j) + nI (cq j) from by rw [Int32.zero_add]), rfl⟩)
set_option maxHeartbeats 4000000 in
theorem k5_said2 (l : Launch) (D : va_G) (dA : Nat → ClassId) (a : Nat → Nat) (hI : kInj a) (σ : MS) (Ph : Heap → Prop) (hSt : kStb a Ph) (n : Nat) (cp cq : Nat → Nat) (b j : Nat) (hRf : ∀ H, Ph H → va_P D vwCl [(b, .inr (5, rgF (a 0) n cp cq j))] H)  : KC2 l yX5_said cX5_said 1 (some .int) 1 21 D dA a [.ref b] σ Ph (fun v9 σ9 => v9 = some (.int (10 * nI (cp j) + nI (cq j))) ∧ σ9 = (σ.i 2 (tr31 (σ.1 2) 1))) := by
  refine KC2.of (by decide) (Nat.le_of_ble_eq_true rfl) ?_
  intro p e s m below meth c ls S hr hlk hK2 hM hPh hl
  have hK := hK2.1
  have hx := S.1
  have hb := S.2.1
  have hl : lv_has ls 1 [(0, .ref b)] := hl
  refine lv_aload_n hx hb dX5_said_0 rfl (lv_at hl 0 rfl) ?_
  refine lv_iconst (v := 1) hx hb dX5_said_1 (by decide) ?_
  have hR := hRf _ (hSt.at hM hPh)
  refine kc2_U (x := yX5_tracedBy) (rest := []) [.int 1] 1 S hK2 hM (k5_traced l D dA a hI σ Ph hSt n cp cq b j 2 (by decide) hRf 1) (lw_U q1087 q1541 q1544 q1057 q82 q1058) (dl_code S.2.2.2.2 q1057 q1058) (by decide +kernel) rfl ⟨Nat.le_of_ble_eq_true rfl, Nat.le_of_ble_eq_true rfl⟩ (va_recv hK hR (ci := 5) (q0 := 0) rfl rfl) hl.1 (Nat.le_of_ble_eq_true rfl) dX5_said_2 ⟨Nat.le_refl 0, Nat.le_refl 0⟩ (hSt.at hM hPh) (fun v9 σ2 H locs hq hM => ?_) rfl
  obtain ⟨rfl, rfl⟩ := hq
  refine W.eq (g2 := F0 m 5 ls [.int 0]) rfl ?_
  refine lv_bipush (v := 10) hx hb dX5_said_5 (by decide) ?_
  refine lv_aload_n hx hb dX5_said_7 rfl (lv_at hl 0 rfl) ?_
  have hR := hRf _ (hSt.at hM hPh)
  refine g_get (v := .int (nI (cp j))) (κ := 2) S hK (by decide) hR 1 (by decide) fl_X5_19 dX5_said_8 rfl ?_
  refine lv_imul hx hb dX5_said_11 ?_
  refine lv_iadd hx hb dX5_said_12 ?_
  refine lv_aload_n hx hb dX5_said_13 rfl (lv_at hl 0 rfl) ?_
  have hR := hRf _ (hSt.at hM hPh)
  refine g_get (v := .int (nI (cq j))) (κ := 2) S hK (by decide) hR 2 (by decide) fl_X5_22 dX5_said_14 rfl ?_
  refine lv_iadd hx hb dX5_said_17 ?_
  exact k_iret S hr hlk hM dX5_said_18 (⟨congrArg (fun z : Int32 => some (Value.int z)) (show (0 + (10 * (nI (cp j)))) + (nI (cq j)) = 10 * nI (cp j) + nI (cq j) from by rw [Int32.zero_add]), rfl⟩)
set_option maxHeartbeats 4000000 in
theorem k6_said1 (l : Launch) (D : va_G) (dA : Nat → ClassId) (a : Nat → Nat) (hI : kInj a) (σ : MS) (Ph : Heap → Prop) (hSt : kStb a Ph) (n : Nat) (cp cq : Nat → Nat) (b j : Nat) (hRf : ∀ H, Ph H → va_P D vwCl [(b, .inr (4, rgF (a 0) n cp cq j))] H)  : KC2 l yX6_said cX6_said 1 (some .int) 2 41 D dA a [.ref b] σ Ph (fun v9 σ9 => v9 = some (.int (10 * nI (cp j) + nI (cq j) + 100 * nI (nws n cp cq j))) ∧ σ9 = ((σ.i 2 (tr31 (σ.1 2) 2)).i 2 (tr31 (tr31 (σ.1 2) 2) 1))) := by
  refine KC2.of (by decide) (Nat.le_of_ble_eq_true rfl) ?_
  intro p e s m below meth c ls S hr hlk hK2 hM hPh hl
  have hK := hK2.1
  have hx := S.1
  have hb := S.2.1
  have hl : lv_has ls 1 [(0, .ref b)] := hl
  refine lv_aload_n hx hb dX6_said_0 rfl (lv_at hl 0 rfl) ?_
  refine lv_iconst (v := 2) hx hb dX6_said_1 (by decide) ?_
  have hR := hRf _ (hSt.at hM hPh)
  refine kc2_U (x := ⟨"CallRounds$News", "tracedBy", "(I)I"⟩) (rest := []) [.int 2] 1 S hK2 hM (k5_traced l D dA a hI σ Ph hSt n cp cq b j 1 (by decide) hRf 2) (lw_U q1052 q1053 q1055 q1057 q82 q1058) (dl_code S.2.2.2.2 q1057 q1058) (by decide +kernel) rfl ⟨Nat.le_of_ble_eq_true rfl, Nat.le_of_ble_eq_true rfl⟩ (va_recv hK hR (ci := 4) (q0 := 0) rfl rfl) hl.1 (Nat.le_of_ble_eq_true rfl) dX6_said_2 ⟨Nat.le_refl 0, Nat.le_refl 0⟩ (hSt.at hM hPh) (fun v9 σ2 H locs hq hM => ?_) rfl
  obtain ⟨rfl, rfl⟩ := hq
  refine W.eq (g2 := F0 m 5 ls [.int 0]) rfl ?_
  refine lv_aload_n hx hb dX6_said_5 rfl (lv_at hl 0 rfl) ?_
  have hR := hRf _ (hSt.at hM hPh)
  refine kc2_SU  (rest := [.int 0]) [] 0 S hK2 hM (k5_said1 l D dA a hI (σ.i 2 (tr31 (σ.1 2) 2)) Ph hSt n cp cq b j hRf) (hK.1 4 (RX6, TX6, 9) rfl).2 (lw_SUp q1059 q1048 q342 q1046 q82 q1086) (by decide +kernel) rfl ⟨Nat.le_of_ble_eq_true rfl, Nat.le_of_ble_eq_true rfl⟩ (va_recv hK hR (ci := 4) (q0 := 0) rfl rfl) hl.1 (Nat.le_of_ble_eq_true rfl) dX6_said_6 ⟨Nat.le_refl 0, Nat.le_refl 0⟩ (hSt.at hM hPh) (fun v9 σ6 H locs hq hM => ?_) rfl
  obtain ⟨rfl, rfl⟩ := hq
  refine W.eq (g2 := F0 m 9 ls [.int (10 * nI (cp j) + nI (cq j)), .int 0]) rfl ?_
  refine lv_iadd hx hb dX6_said_9 ?_
  refine lv_bipush (v := 100) hx hb dX6_said_10 (by decide) ?_
  refine lv_aload_n hx hb dX6_said_12 rfl (lv_at hl 0 rfl) ?_
  have hR := hRf _ (hSt.at hM hPh)
  refine rc2_U (x := ⟨"CallRounds$News", "learnt", "()I"⟩) (rest := [.int 100, .int (0 + (10 * nI (cp j) + nI (cq j)))]) [] 0 S hK2 (r5_learnt l D dA a n cp cq b j 1 (by decide)) (lw_U q1060 q1061 q1063 q1065 q82 q1066) (dl_code S.2.2.2.2 q1065 q1066) (by decide +kernel) rfl ⟨Nat.le_of_ble_eq_true rfl, Nat.le_of_ble_eq_true rfl⟩ (va_recv hK hR (ci := 4) (q0 := 0) rfl rfl) hl.1 (Nat.le_of_ble_eq_true rfl) dX6_said_13 ⟨Nat.le_refl 0, Nat.le_refl 0⟩ (hR) (fun v9 hv9 => ?_) rfl
  subst hv9
  refine W.eq (g2 := F0 m 16 ls [.int (nI (nws n cp cq j)), .int 100, .int (0 + (10 * nI (cp j) + nI (cq j)))]) rfl ?_
  refine lv_imul hx hb dX6_said_16 ?_
  refine lv_iadd hx hb dX6_said_17 ?_
  exact k_iret S hr hlk hM dX6_said_18 (⟨congrArg (fun z : Int32 => some (Value.int z)) (show (0 + (10 * nI (cp j) + nI (cq j))) + (100 * (nI (nws n cp cq j))) = 10 * nI (cp j) + nI (cq j) + 100 * nI (nws n cp cq j) from by rw [Int32.zero_add]), rfl⟩)
set_option maxHeartbeats 4000000 in
theorem k6_said2 (l : Launch) (D : va_G) (dA : Nat → ClassId) (a : Nat → Nat) (hI : kInj a) (σ : MS) (Ph : Heap → Prop) (hSt : kStb a Ph) (n : Nat) (cp cq : Nat → Nat) (b j : Nat) (hRf : ∀ H, Ph H → va_P D vwCl [(b, .inr (5, rgF (a 0) n cp cq j))] H)  : KC2 l yX6_said cX6_said 1 (some .int) 2 41 D dA a [.ref b] σ Ph (fun v9 σ9 => v9 = some (.int (10 * nI (cp j) + nI (cq j) + 100 * nI (nws n cp cq j))) ∧ σ9 = ((σ.i 2 (tr31 (σ.1 2) 2)).i 2 (tr31 (tr31 (σ.1 2) 2) 1))) := by
  refine KC2.of (by decide) (Nat.le_of_ble_eq_true rfl) ?_
  intro p e s m below meth c ls S hr hlk hK2 hM hPh hl
  have hK := hK2.1
  have hx := S.1
  have hb := S.2.1
  have hl : lv_has ls 1 [(0, .ref b)] := hl
  refine lv_aload_n hx hb dX6_said_0 rfl (lv_at hl 0 rfl) ?_
  refine lv_iconst (v := 2) hx hb dX6_said_1 (by decide) ?_
  have hR := hRf _ (hSt.at hM hPh)
  refine kc2_U (x := ⟨"CallRounds$News", "tracedBy", "(I)I"⟩) (rest := []) [.int 2] 1 S hK2 hM (k5_traced l D dA a hI σ Ph hSt n cp cq b j 2 (by decide) hRf 2) (lw_U q1052 q1053 q1056 q1057 q82 q1058) (dl_code S.2.2.2.2 q1057 q1058) (by decide +kernel) rfl ⟨Nat.le_of_ble_eq_true rfl, Nat.le_of_ble_eq_true rfl⟩ (va_recv hK hR (ci := 5) (q0 := 0) rfl rfl) hl.1 (Nat.le_of_ble_eq_true rfl) dX6_said_2 ⟨Nat.le_refl 0, Nat.le_refl 0⟩ (hSt.at hM hPh) (fun v9 σ2 H locs hq hM => ?_) rfl
  obtain ⟨rfl, rfl⟩ := hq
  refine W.eq (g2 := F0 m 5 ls [.int 0]) rfl ?_
  refine lv_aload_n hx hb dX6_said_5 rfl (lv_at hl 0 rfl) ?_
  have hR := hRf _ (hSt.at hM hPh)
  refine kc2_SU  (rest := [.int 0]) [] 0 S hK2 hM (k5_said2 l D dA a hI (σ.i 2 (tr31 (σ.1 2) 2)) Ph hSt n cp cq b j hRf) (hK.1 5 (RX7, TX7, 10) rfl).2 (lw_SUp q1059 q1048 q342 q1046 q82 q1086) (by decide +kernel) rfl ⟨Nat.le_of_ble_eq_true rfl, Nat.le_of_ble_eq_true rfl⟩ (va_recv hK hR (ci := 5) (q0 := 0) rfl rfl) hl.1 (Nat.le_of_ble_eq_true rfl) dX6_said_6 ⟨Nat.le_refl 0, Nat.le_refl 0⟩ (hSt.at hM hPh) (fun v9 σ6 H locs hq hM => ?_) rfl
  obtain ⟨rfl, rfl⟩ := hq
  refine W.eq (g2 := F0 m 9 ls [.int (10 * nI (cp j) + nI (cq j)), .int 0]) rfl ?_
  refine lv_iadd hx hb dX6_said_9 ?_
  refine lv_bipush (v := 100) hx hb dX6_said_10 (by decide) ?_
  refine lv_aload_n hx hb dX6_said_12 rfl (lv_at hl 0 rfl) ?_
  have hR := hRf _ (hSt.at hM hPh)
  refine rc2_U (x := ⟨"CallRounds$News", "learnt", "()I"⟩) (rest := [.int 100, .int (0 + (10 * nI (cp j) + nI (cq j)))]) [] 0 S hK2 (r5_learnt l D dA a n cp cq b j 2 (by decide)) (lw_U q1060 q1061 q1064 q1065 q82 q1066) (dl_code S.2.2.2.2 q1065 q1066) (by decide +kernel) rfl ⟨Nat.le_of_ble_eq_true rfl, Nat.le_of_ble_eq_true rfl⟩ (va_recv hK hR (ci := 5) (q0 := 0) rfl rfl) hl.1 (Nat.le_of_ble_eq_true rfl) dX6_said_13 ⟨Nat.le_refl 0, Nat.le_refl 0⟩ (hR) (fun v9 hv9 => ?_) rfl
  subst hv9
  refine W.eq (g2 := F0 m 16 ls [.int (nI (nws n cp cq j)), .int 100, .int (0 + (10 * nI (cp j) + nI (cq j)))]) rfl ?_
  refine lv_imul hx hb dX6_said_16 ?_
  refine lv_iadd hx hb dX6_said_17 ?_
  exact k_iret S hr hlk hM dX6_said_18 (⟨congrArg (fun z : Int32 => some (Value.int z)) (show (0 + (10 * nI (cp j) + nI (cq j))) + (100 * (nI (nws n cp cq j))) = 10 * nI (cp j) + nI (cq j) + 100 * nI (nws n cp cq j) from by rw [Int32.zero_add]), rfl⟩)
set_option maxHeartbeats 4000000 in
theorem k6_plain2 (l : Launch) (D : va_G) (dA : Nat → ClassId) (a : Nat → Nat) (hI : kInj a) (σ : MS) (Ph : Heap → Prop) (hSt : kStb a Ph) (n : Nat) (cp cq : Nat → Nat) (b j : Nat) (hRf : ∀ H, Ph H → va_P D vwCl [(b, .inr (5, rgF (a 0) n cp cq j))] H)  : KC2 l yX6_plainly cX6_plainly 1 (some .int) 2 41 D dA a [.ref b] σ Ph (fun v9 σ9 => v9 = some (.int (10 * nI (cp j) + nI (cq j))) ∧ σ9 = (σ.i 2 (tr31 (σ.1 2) 1))) := by
  refine KC2.of (by decide) (Nat.le_of_ble_eq_true rfl) ?_
  intro p e s m below meth c ls S hr hlk hK2 hM hPh hl
  have hK := hK2.1
  have hx := S.1
  have hb := S.2.1
  have hl : lv_has ls 1 [(0, .ref b)] := hl
  refine lv_aload_n hx hb dX6_plainly_0 rfl (lv_at hl 0 rfl) ?_
  have hR := hRf _ (hSt.at hM hPh)
  refine kc2_SU  (rest := []) [] 0 S hK2 hM (k5_said2 l D dA a hI σ Ph hSt n cp cq b j hRf) (hK.1 5 (RX7, TX7, 10) rfl).2 (lw_SUp q1059 q1048 q342 q1046 q82 q1086) (by decide +kernel) rfl ⟨Nat.le_of_ble_eq_true rfl, Nat.le_of_ble_eq_true rfl⟩ (va_recv hK hR (ci := 5) (q0 := 0) rfl rfl) hl.1 (Nat.le_of_ble_eq_true rfl) dX6_plainly_1 ⟨Nat.le_refl 0, Nat.le_refl 0⟩ (hSt.at hM hPh) (fun v9 σ1 H locs hq hM => ?_) rfl
  obtain ⟨rfl, rfl⟩ := hq
  refine W.eq (g2 := F0 m 4 ls [.int (10 * nI (cp j) + nI (cq j))]) rfl ?_
  exact k_iret S hr hlk hM dX6_plainly_4 (⟨congrArg (fun z : Int32 => some (Value.int z)) (show 10 * nI (cp j) + nI (cq j) = 10 * nI (cp j) + nI (cq j) from rfl), rfl⟩)
set_option maxHeartbeats 4000000 in
theorem k7_said2 (l : Launch) (D : va_G) (dA : Nat → ClassId) (a : Nat → Nat) (hI : kInj a) (σ : MS) (Ph : Heap → Prop) (hSt : kStb a Ph) (n : Nat) (cp cq : Nat → Nat) (b j : Nat) (hRf : ∀ H, Ph H → va_P D vwCl [(b, .inr (5, rgF (a 0) n cp cq j))] H)  : KC2 l yX7_said cX7_said 1 (some .int) 3 61 D dA a [.ref b] σ Ph (fun v9 σ9 => v9 = some (.int (2 * (10 * nI (cp j) + nI (cq j)) + 100 * nI (nws n cp cq j))) ∧ σ9 = ((((σ.i 2 (tr31 (σ.1 2) 3)).i 2 (tr31 (tr31 (σ.1 2) 3) 2)).i 2 (tr31 (tr31 (tr31 (σ.1 2) 3) 2) 1)).i 2 (tr31 (tr31 (tr31 (tr31 (σ.1 2) 3) 2) 1) 1))) := by
  refine KC2.of (by decide) (Nat.le_of_ble_eq_true rfl) ?_
  intro p e s m below meth c ls S hr hlk hK2 hM hPh hl
  have hK := hK2.1
  have hx := S.1
  have hb := S.2.1
  have hl : lv_has ls 1 [(0, .ref b)] := hl
  refine lv_aload_n hx hb dX7_said_0 rfl (lv_at hl 0 rfl) ?_
  refine lv_iconst (v := 3) hx hb dX7_said_1 (by decide) ?_
  have hR := hRf _ (hSt.at hM hPh)
  refine kc2_U (x := ⟨"CallRounds$Whole", "tracedBy", "(I)I"⟩) (rest := []) [.int 3] 1 S hK2 hM (k5_traced l D dA a hI σ Ph hSt n cp cq b j 2 (by decide) hRf 3) (lw_U q1076 q1077 q1078 q1057 q82 q1058) (dl_code S.2.2.2.2 q1057 q1058) (by decide +kernel) rfl ⟨Nat.le_of_ble_eq_true rfl, Nat.le_of_ble_eq_true rfl⟩ (va_recv hK hR (ci := 5) (q0 := 0) rfl rfl) hl.1 (Nat.le_of_ble_eq_true rfl) dX7_said_2 ⟨Nat.le_refl 0, Nat.le_refl 0⟩ (hSt.at hM hPh) (fun v9 σ2 H locs hq hM => ?_) rfl
  obtain ⟨rfl, rfl⟩ := hq
  refine W.eq (g2 := F0 m 5 ls [.int 0]) rfl ?_
  refine lv_aload_n hx hb dX7_said_5 rfl (lv_at hl 0 rfl) ?_
  have hR := hRf _ (hSt.at hM hPh)
  refine kc2_SU  (rest := [.int 0]) [] 0 S hK2 hM (k6_said2 l D dA a hI (σ.i 2 (tr31 (σ.1 2) 3)) Ph hSt n cp cq b j hRf) (hK.1 5 (RX7, TX7, 10) rfl).2 (lw_SUp q1079 q1540 q329 q1050 q83 q1051) (by decide +kernel) rfl ⟨Nat.le_of_ble_eq_true rfl, Nat.le_of_ble_eq_true rfl⟩ (va_recv hK hR (ci := 5) (q0 := 0) rfl rfl) hl.1 (Nat.le_of_ble_eq_true rfl) dX7_said_6 ⟨Nat.le_refl 0, Nat.le_refl 0⟩ (hSt.at hM hPh) (fun v9 σ6 H locs hq hM => ?_) rfl
  obtain ⟨rfl, rfl⟩ := hq
  refine W.eq (g2 := F0 m 9 ls [.int (10 * nI (cp j) + nI (cq j) + 100 * nI (nws n cp cq j)), .int 0]) rfl ?_
  refine lv_iadd hx hb dX7_said_9 ?_
  refine lv_aload_n hx hb dX7_said_10 rfl (lv_at hl 0 rfl) ?_
  have hR := hRf _ (hSt.at hM hPh)
  refine kc2_U (x := ⟨"CallRounds$Whole", "plainly", "()I"⟩) (rest := [.int (0 + (10 * nI (cp j) + nI (cq j) + 100 * nI (nws n cp cq j)))]) [] 0 S hK2 hM (k6_plain2 l D dA a hI (((σ.i 2 (tr31 (σ.1 2) 3)).i 2 (tr31 (tr31 (σ.1 2) 3) 2)).i 2 (tr31 (tr31 (tr31 (σ.1 2) 3) 2) 1)) Ph hSt n cp cq b j hRf) (lw_U q1080 q1081 q1083 q1084 q83 q1085) (dl_code S.2.2.2.2 q1084 q1085) (by decide +kernel) rfl ⟨Nat.le_of_ble_eq_true rfl, Nat.le_of_ble_eq_true rfl⟩ (va_recv hK hR (ci := 5) (q0 := 0) rfl rfl) hl.1 (Nat.le_of_ble_eq_true rfl) dX7_said_11 ⟨Nat.le_refl 0, Nat.le_refl 0⟩ (hSt.at hM hPh) (fun v9 σ11 H locs hq hM => ?_) rfl
  obtain ⟨rfl, rfl⟩ := hq
  refine W.eq (g2 := F0 m 14 ls [.int (10 * nI (cp j) + nI (cq j)), .int (0 + (10 * nI (cp j) + nI (cq j) + 100 * nI (nws n cp cq j)))]) rfl ?_
  refine lv_iadd hx hb dX7_said_14 ?_
  exact k_iret S hr hlk hM dX7_said_15 (⟨congrArg (fun z : Int32 => some (Value.int z)) (show (0 + (10 * nI (cp j) + nI (cq j) + 100 * nI (nws n cp cq j))) + (10 * nI (cp j) + nI (cq j)) = 2 * (10 * nI (cp j) + nI (cq j)) + 100 * nI (nws n cp cq j) from by rw [Int32.zero_add, Int32.mul_comm 2 _, show (2 : Int32) = 1 + 1 from rfl, Int32.mul_add, Int32.mul_one]; ac_rfl), rfl⟩)
set_option maxHeartbeats 4000000 in
theorem k7_logged2 (l : Launch) (D : va_G) (dA : Nat → ClassId) (a : Nat → Nat) (hI : kInj a) (σ : MS) (Ph : Heap → Prop) (hSt : kStb a Ph) (n : Nat) (cp cq : Nat → Nat) (b j : Nat) (hRf : ∀ H, Ph H → va_P D vwCl [(b, .inr (5, rgF (a 0) n cp cq j))] H)  : KC2 l yX7_logged cX7_logged 1 (some .int) 1 21 D dA a [.ref b] σ Ph (fun v9 σ9 => v9 = some (.int 70) ∧ σ9 = (σ.i 2 (tr31 (σ.1 2) 5))) := by
  refine KC2.of (by decide) (Nat.le_of_ble_eq_true rfl) ?_
  intro p e s m below meth c ls S hr hlk hK2 hM hPh hl
  have hK := hK2.1
  have hx := S.1
  have hb := S.2.1
  have hl : lv_has ls 1 [(0, .ref b)] := hl
  refine lv_aload_n hx hb dX7_logged_0 rfl (lv_at hl 0 rfl) ?_
  refine lv_iconst (v := 5) hx hb dX7_logged_1 (by decide) ?_
  have hR := hRf _ (hSt.at hM hPh)
  refine kc2_U (x := ⟨"CallRounds$Whole", "tracedBy", "(I)I"⟩) (rest := []) [.int 5] 1 S hK2 hM (k5_traced l D dA a hI σ Ph hSt n cp cq b j 2 (by decide) hRf 5) (lw_U q1076 q1077 q1078 q1057 q82 q1058) (dl_code S.2.2.2.2 q1057 q1058) (by decide +kernel) rfl ⟨Nat.le_of_ble_eq_true rfl, Nat.le_of_ble_eq_true rfl⟩ (va_recv hK hR (ci := 5) (q0 := 0) rfl rfl) hl.1 (Nat.le_of_ble_eq_true rfl) dX7_logged_2 ⟨Nat.le_refl 0, Nat.le_refl 0⟩ (hSt.at hM hPh) (fun v9 σ2 H locs hq hM => ?_) rfl
  obtain ⟨rfl, rfl⟩ := hq
  refine W.eq (g2 := F0 m 5 ls [.int 0]) rfl ?_
  refine lv_bipush (v := 70) hx hb dX7_logged_5 (by decide) ?_
  refine lv_iadd hx hb dX7_logged_7 ?_
  exact k_iret S hr hlk hM dX7_logged_8 (⟨congrArg (fun z : Int32 => some (Value.int z)) (show 0 + 70 = 70 from by rfl), rfl⟩)
