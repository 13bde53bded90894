/-! COMPONENT 5: what is now (by program: gen/comp5.py) -/
set_option maxRecDepth 100000
set_option maxHeartbeats 4000000 in
theorem r0_secretsNow (l : Launch) (D : va_G) (dA : Nat → ClassId) (a : Nat → Nat) (σ : MS) (n nc : Nat) (cp cq : Nat → Nat) (ed cap : Nat) (mc : Int32) (f : Nat → Option Nat) (rg : Nat → Nat) (hn : n < 5) (h0 : σ.1 0 = nI n) : RC2 l yX0_secretsNow cX0_secretsNow 1 (some .int) 3 64 D dA [.ref (a 0)] (fun H => va_P D vwCl (kW dA a σ) H ∧ DY D dA a n nc cp cq ed cap mc f rg H) (fun v9 => v9 = some (.int (nI (stAt n cp cq nc)))) := by
  refine RC2.of (by decide) (Nat.le_of_ble_eq_true rfl) ?_
  intro p e s m below meth c ls S hr hlk hK2 hP9 hl
  have hx := S.1
  have hb := S.2.1
  have hl : lv_has ls 1 [(0, .ref (a 0))] := hl
  have hK := hK2.1
  have hP := hP9.1
  have hDY := hP9.2
  refine lv_aload_n hx hb dX0_secretsNow_0 rfl (lv_at hl 0 rfl) ?_
  refine k_get (v := .ref (a 3)) S hK hP 3 (by decide) fl_X0_18 rfl dX0_secretsNow_1 rfl ?_
  refine rc_Fr (X := .int (b2i (decide (nc = 0)))) (rest := []) [] 0 S hK (hK.1 2 (RJ2, TJ2, 3) rfl).2 (hK2.2.fw (C := RJ2) (x := ⟨"java/util/List", "isEmpty", "()Z"⟩) (y := yJ2_isEmpty) (by simp [fxI]) q207 q205 q203) (rj_isEmpty l D dA (a 3) ed cap mc nc f hDY.2.2.1 (Nat.lt_of_le_of_lt hDY.2.1 hDY.2.2.1)) (lw_F q200 q204 q206 q63 q208) (by decide +kernel) rfl ⟨Nat.le_of_ble_eq_true rfl, Nat.le_of_ble_eq_true rfl⟩ (va_recv hK hDY.1 (ci := 2) (q0 := 0) rfl rfl) hl.1 (Nat.le_of_ble_eq_true rfl) dX0_secretsNow_4 ⟨Nat.le_refl 0, Nat.le_refl 0⟩ hDY.1 ?_ rfl
  refine lv_if_eq (tgt := 19) hx hb dX0_secretsNow_9 (by decide) (fun c_9 => ?_) (fun c_9 => ?_)
  · have c_9 := b2i_eq0.mp c_9
    have c_9 : ¬ nc = 0 := of_decide_eq_false c_9
    refine lv_aload_n hx hb dX0_secretsNow_19 rfl (lv_at hl 0 rfl) ?_
    refine k_get (v := .ref (a 3)) S hK hP 3 (by decide) fl_X0_18 rfl dX0_secretsNow_20 rfl ?_
    refine lv_aload_n hx hb dX0_secretsNow_23 rfl (lv_at hl 0 rfl) ?_
    refine k_get (v := .ref (a 3)) S hK hP 3 (by decide) fl_X0_18 rfl dX0_secretsNow_24 rfl ?_
    refine rc_Fr (X := .int (nI nc)) (rest := [.ref (a 3)]) [] 0 S hK (hK.1 2 (RJ2, TJ2, 3) rfl).2 (hK2.2.fw (C := RJ2) (x := ⟨"java/util/List", "size", "()I"⟩) (y := yJ2_size) (by simp [fxI]) q220 q218 q203) (rj_size l D dA (a 3) ed cap mc nc f hDY.2.2.1) (lw_F q214 q217 q219 q63 q221) (by decide +kernel) rfl ⟨Nat.le_of_ble_eq_true rfl, Nat.le_of_ble_eq_true rfl⟩ (va_recv hK hDY.1 (ci := 2) (q0 := 0) rfl rfl) hl.1 (Nat.le_of_ble_eq_true rfl) dX0_secretsNow_27 ⟨Nat.le_refl 0, Nat.le_refl 0⟩ hDY.1 ?_ rfl
    refine lv_iconst (v := 1) hx hb dX0_secretsNow_32 (by decide) ?_
    refine lv_isub hx hb dX0_secretsNow_33 ?_
    refine topi (z := nI (nc - 1)) (pk_sub (b := 1) (by omega)) ?_
    refine rc_Fr (X := .ref (rg (nc - 1))) (rest := []) [.int (nI (nc - 1))] 1 S hK (hK.1 2 (RJ2, TJ2, 3) rfl).2 (hK2.2.fw (C := RJ2) (x := ⟨"java/util/List", "get", "(I)Ljava/lang/Object;"⟩) (y := yJ2_get) (by simp [fxI]) q229 q227 q203) (rj_get l D dA (a 3) ed cap mc nc f hDY.2.2.1 hDY.2.1 (nc - 1) (rg (nc - 1)) (by omega) (hDY.2.2.2 _ (by omega)).1) (lw_F q223 q226 q228 q63 q230) (by decide +kernel) rfl ⟨Nat.le_of_ble_eq_true rfl, Nat.le_of_ble_eq_true rfl⟩ (va_recv hK hDY.1 (ci := 2) (q0 := 0) rfl rfl) hl.1 (Nat.le_of_ble_eq_true rfl) dX0_secretsNow_34 ⟨Nat.le_refl 0, Nat.le_refl 0⟩ hDY.1 ?_ rfl
    refine g_cast S hK2 (knd_lt n cp cq (nc - 1)) (hDY.2.2.2 (nc - 1) (by omega)).2 q241 dX0_secretsNow_39 ?_
    refine g_get (v := .int (nI (stAt n cp cq ((nc - 1) + 1)))) S hK (knd_lt n cp cq (nc - 1)) (hDY.2.2.2 (nc - 1) (by omega)).2 3 (by decide) fl_X0_83 dX0_secretsNow_42 rfl ?_
    exact r_iret S hr hlk dX0_secretsNow_45 (congrArg (fun z : Int32 => some (Value.int z)) (show nI (stAt n cp cq ((nc - 1) + 1)) = nI (stAt n cp cq nc) from by rw [show nc - 1 + 1 = nc by omega]))
  · have c_9 := b2i_ne0.mp c_9
    have c_9 : nc = 0 := of_decide_eq_true c_9
    refine lv_aload_n hx hb dX0_secretsNow_12 rfl (lv_at hl 0 rfl) ?_
    refine rc_Vi (rest := []) [] 0 S hK (r0_atFirst l D dA a σ n hn (h0)) wl_X0_71 wd_X0_X0_atFirst rfl ⟨Nat.le_of_ble_eq_true rfl, Nat.le_of_ble_eq_true rfl⟩ (k_recv hK hP) hl.1 (Nat.le_of_ble_eq_true rfl) dX0_secretsNow_13 ⟨Nat.le_refl 0, Nat.le_refl 0⟩ (hP) ?_ rfl
    refine lv_goto (tgt := 45) hx hb dX0_secretsNow_16 (by decide) ?_
    exact r_iret S hr hlk dX0_secretsNow_45 (congrArg (fun z : Int32 => some (Value.int z)) (show nI (st0 n) = nI (stAt n cp cq nc) from by rw [c_9]; rfl))
set_option maxHeartbeats 4000000 in
theorem r0_tokensNow (l : Launch) (D : va_G) (dA : Nat → ClassId) (a : Nat → Nat) (σ : MS) (n nc : Nat) (cp cq : Nat → Nat) (ed cap : Nat) (mc : Int32) (f : Nat → Option Nat) (rg : Nat → Nat) (hn : n < 5) (h0 : σ.1 0 = nI n) : RC2 l yX0_tokensNow cX0_tokensNow 1 (some .int) 3 64 D dA [.ref (a 0)] (fun H => va_P D vwCl (kW dA a σ) H ∧ DY D dA a n nc cp cq ed cap mc f rg H) (fun v9 => v9 = some (.int (nI (tk8 cp cq nc)))) := by
  refine RC2.of (by decide) (Nat.le_of_ble_eq_true rfl) ?_
  intro p e s m below meth c ls S hr hlk hK2 hP9 hl
  have hx := S.1
  have hb := S.2.1
  have hl : lv_has ls 1 [(0, .ref (a 0))] := hl
  have hK := hK2.1
  have hP := hP9.1
  have hDY := hP9.2
  refine lv_aload_n hx hb dX0_tokensNow_0 rfl (lv_at hl 0 rfl) ?_
  refine k_get (v := .ref (a 3)) S hK hP 3 (by decide) fl_X0_18 rfl dX0_tokensNow_1 rfl ?_
  refine rc_Fr (X := .int (b2i (decide (nc = 0)))) (rest := []) [] 0 S hK (hK.1 2 (RJ2, TJ2, 3) rfl).2 (hK2.2.fw (C := RJ2) (x := ⟨"java/util/List", "isEmpty", "()Z"⟩) (y := yJ2_isEmpty) (by simp [fxI]) q207 q205 q203) (rj_isEmpty l D dA (a 3) ed cap mc nc f hDY.2.2.1 (Nat.lt_of_le_of_lt hDY.2.1 hDY.2.2.1)) (lw_F q200 q204 q206 q63 q208) (by decide +kernel) rfl ⟨Nat.le_of_ble_eq_true rfl, Nat.le_of_ble_eq_true rfl⟩ (va_recv hK hDY.1 (ci := 2) (q0 := 0) rfl rfl) hl.1 (Nat.le_of_ble_eq_true rfl) dX0_tokensNow_4 ⟨Nat.le_refl 0, Nat.le_refl 0⟩ hDY.1 ?_ rfl
  refine lv_if_eq (tgt := 18) hx hb dX0_tokensNow_9 (by decide) (fun c_9 => ?_) (fun c_9 => ?_)
  · have c_9 := b2i_eq0.mp c_9
    have c_9 : ¬ nc = 0 := of_decide_eq_false c_9
    refine lv_aload_n hx hb dX0_tokensNow_18 rfl (lv_at hl 0 rfl) ?_
    refine k_get (v := .ref (a 3)) S hK hP 3 (by decide) fl_X0_18 rfl dX0_tokensNow_19 rfl ?_
    refine lv_aload_n hx hb dX0_tokensNow_22 rfl (lv_at hl 0 rfl) ?_
    refine k_get (v := .ref (a 3)) S hK hP 3 (by decide) fl_X0_18 rfl dX0_tokensNow_23 rfl ?_
    refine rc_Fr (X := .int (nI nc)) (rest := [.ref (a 3)]) [] 0 S hK (hK.1 2 (RJ2, TJ2, 3) rfl).2 (hK2.2.fw (C := RJ2) (x := ⟨"java/util/List", "size", "()I"⟩) (y := yJ2_size) (by simp [fxI]) q220 q218 q203) (rj_size l D dA (a 3) ed cap mc nc f hDY.2.2.1) (lw_F q214 q217 q219 q63 q221) (by decide +kernel) rfl ⟨Nat.le_of_ble_eq_true rfl, Nat.le_of_ble_eq_true rfl⟩ (va_recv hK hDY.1 (ci := 2) (q0 := 0) rfl rfl) hl.1 (Nat.le_of_ble_eq_true rfl) dX0_tokensNow_26 ⟨Nat.le_refl 0, Nat.le_refl 0⟩ hDY.1 ?_ rfl
    refine lv_iconst (v := 1) hx hb dX0_tokensNow_31 (by decide) ?_
    refine lv_isub hx hb dX0_tokensNow_32 ?_
    refine topi (z := nI (nc - 1)) (pk_sub (b := 1) (by omega)) ?_
    refine rc_Fr (X := .ref (rg (nc - 1))) (rest := []) [.int (nI (nc - 1))] 1 S hK (hK.1 2 (RJ2, TJ2, 3) rfl).2 (hK2.2.fw (C := RJ2) (x := ⟨"java/util/List", "get", "(I)Ljava/lang/Object;"⟩) (y := yJ2_get) (by simp [fxI]) q229 q227 q203) (rj_get l D dA (a 3) ed cap mc nc f hDY.2.2.1 hDY.2.1 (nc - 1) (rg (nc - 1)) (by omega) (hDY.2.2.2 _ (by omega)).1) (lw_F q223 q226 q228 q63 q230) (by decide +kernel) rfl ⟨Nat.le_of_ble_eq_true rfl, Nat.le_of_ble_eq_true rfl⟩ (va_recv hK hDY.1 (ci := 2) (q0 := 0) rfl rfl) hl.1 (Nat.le_of_ble_eq_true rfl) dX0_tokensNow_33 ⟨Nat.le_refl 0, Nat.le_refl 0⟩ hDY.1 ?_ rfl
    refine g_cast S hK2 (knd_lt n cp cq (nc - 1)) (hDY.2.2.2 (nc - 1) (by omega)).2 q241 dX0_tokensNow_38 ?_
    refine g_get (v := .int (nI (tk8 cp cq ((nc - 1) + 1)))) S hK (knd_lt n cp cq (nc - 1)) (hDY.2.2.2 (nc - 1) (by omega)).2 4 (by decide) fl_X0_86 dX0_tokensNow_41 rfl ?_
    exact r_iret S hr hlk dX0_tokensNow_44 (congrArg (fun z : Int32 => some (Value.int z)) (show nI (tk8 cp cq ((nc - 1) + 1)) = nI (tk8 cp cq nc) from by rw [show nc - 1 + 1 = nc by omega]))
  · have c_9 := b2i_ne0.mp c_9
    have c_9 : nc = 0 := of_decide_eq_true c_9
    refine lv_sipush (v := 255) hx hb dX0_tokensNow_12 (by decide) ?_
    refine lv_goto (tgt := 44) hx hb dX0_tokensNow_15 (by decide) ?_
    exact r_iret S hr hlk dX0_tokensNow_44 (congrArg (fun z : Int32 => some (Value.int z)) (show 255 = nI (tk8 cp cq nc) from by rw [c_9]; rfl))
