/-! COMPONENT 26: of a call; a call tells (by program: gen/comp26.py) -/
set_option maxRecDepth 100000
theorem inR_Q {v : Int32} {n : Nat} (hn : n < 2 ^ 31) : inR v 0 (nI n - 1) = inP v n := by
  unfold inR inP
  by_cases h : v < 0
  · rw [decide_eq_true h]; rfl
  · rw [decide_eq_false h]
    obtain ⟨j, hj, rfl⟩ := nI_of h
    congr 1
    cases n with
    | zero =>
      have h1 : (nI 0 - 1 : Int32) < nI j := by
        rw [Int32.lt_iff_toInt_lt, nI_toInt hj]
        have : (nI 0 - 1).toInt = -1 := by decide
        rw [this]; omega
      rw [decide_eq_true h1]
      simp only [Bool.not_true]
      symm
      rw [Bool.not_eq_false']
      exact decide_eq_true (nI_le (Nat.zero_le _) hj)
    | succ n =>
      rw [nI_pred]
      by_cases h2 : n < j
      · rw [decide_eq_true (nI_lt h2 hj), decide_eq_true (nI_le (show n + 1 ≤ j by omega) hj)]
      · rw [decide_eq_false (nI_nlt (by omega) (by omega)), decide_eq_false (nI_ge (show j < n + 1 by omega) (by omega))]
theorem i_i {σ : MS} {k : Nat} {x y : Int32} : (σ.i k x).i k y = σ.i k y := by
  unfold MS.i
  refine Prod.ext (funext fun j => ?_) rfl
  by_cases h : j = k
  · simp [va_up, h]
  · simp [va_up, h]
theorem i_self {σ : MS} {k : Nat} : σ.i k (σ.1 k) = σ := by
  unfold MS.i
  refine Prod.ext (funext fun j => ?_) rfl
  by_cases h : j = k
  · simp [va_up, h]
  · simp [va_up, h]
set_option maxHeartbeats 4000000 in
theorem r0_noRing (l : Launch) (D : va_G) (dA : Nat → ClassId) (a : Nat → Nat) (σ : MS) (n nc : Nat) (cp cq : Nat → Nat) (ed cap : Nat) (mc : Int32) (f : Nat → Option Nat) (rg : Nat → Nat) (v : Int32) : RC2 l yX0_noRing cX0_noRing 2 (some .boolean) 1 25 D dA [.ref (a 0), .int v] (fun H => va_P D vwCl (kW dA a σ) H ∧ DY D dA a n nc cp cq ed cap mc f rg H) (fun v9 => v9 = some (.int (b2i (!inP v nc)))) := by
  refine RC2.of (by decide) (Nat.le_of_ble_eq_true rfl) ?_
  intro p e s m below meth c ls S hr hlk hK2 hP9 hl
  have hx := S.1
  have hb := S.2.1
  have hl : lv_has ls 2 [(0, .ref (a 0)), (1, .int v)] := hl
  have hK := hK2.1
  have hP := hP9.1
  have hDY := hP9.2
  have hnc31 : nc < 2 ^ 31 := Nat.lt_of_le_of_lt hDY.2.1 hDY.2.2.1
  refine lv_iload_n hx hb dX0_noRing_0 rfl (lv_at hl 1 rfl) ?_
  refine lv_i2l hx hb dX0_noRing_1 rfl ?_
  refine lv_lconst (v := 0) hx hb dX0_noRing_2 (by decide) ?_
  refine lv_aload_n hx hb dX0_noRing_3 rfl (lv_at hl 0 rfl) ?_
  refine k_get (v := .ref (a 3)) S hK hP 3 (by decide) fl_X0_18 rfl dX0_noRing_4 rfl ?_
  refine rc_Fr (X := .int (nI nc)) (rest := [.long 0, .long v.toInt64]) [] 0 S hK (hK.1 2 (RJ2, TJ2, 3) rfl).2 (hK2.2.fw (C := RJ2) (x := ⟨"java/util/List", "size", "()I"⟩) (y := yJ2_size) (by simp [fxI]) q220 q218 q203) (rj_size l D dA (a 3) ed cap mc nc f hDY.2.2.1) (lw_F q214 q217 q219 q63 q221) (by decide +kernel) rfl ⟨Nat.le_of_ble_eq_true rfl, Nat.le_of_ble_eq_true rfl⟩ (va_recv hK hDY.1 (ci := 2) (q0 := 0) rfl rfl) hl.1 (Nat.le_of_ble_eq_true rfl) dX0_noRing_7 ⟨Nat.le_refl 0, Nat.le_refl 0⟩ hDY.1 ?_ rfl
  refine lv_iconst (v := 1) hx hb dX0_noRing_12 (by decide) ?_
  refine lv_isub hx hb dX0_noRing_13 ?_
  refine lv_i2l hx hb dX0_noRing_14 rfl ?_
  refine rc_Si (rest := []) [.long v.toInt64, .long 0, .long (((nI nc) - 1).toInt64)] 3 S hK (r0_in l D dA v.toInt64 0 (((nI nc) - 1).toInt64)) wl_X0_49 wd_X0_X0_in rfl ⟨Nat.le_of_ble_eq_true rfl, Nat.le_of_ble_eq_true rfl⟩ hl.1 (Nat.le_of_ble_eq_true rfl) dX0_noRing_15 ⟨Nat.le_refl 0, Nat.le_refl 0⟩ (trivial) ?_ rfl
  refine topi (z := b2i (inP v nc)) ((congrArg b2i (inL_eq v 0 (nI nc - 1))).trans (congrArg b2i (inR_Q hnc31))) ?_
  refine lv_if_ne (tgt := 25) hx hb dX0_noRing_18 (by decide) (fun c_18 => ?_) (fun c_18 => ?_)
  · have c_18 := b2i_ne0.mp c_18
    refine lv_iconst (v := 0) hx hb dX0_noRing_25 (by decide) ?_
    exact r_zret S hr hlk dX0_noRing_26 (by decide) (congrArg (fun z : Int32 => some (Value.int z)) (show 0 = b2i (!inP v nc) from by rw [c_18]; rfl))
  · have c_18 := b2i_eq0.mp c_18
    refine lv_iconst (v := 1) hx hb dX0_noRing_21 (by decide) ?_
    refine lv_goto (tgt := 26) hx hb dX0_noRing_22 (by decide) ?_
    exact r_zret S hr hlk dX0_noRing_26 (by decide) (congrArg (fun z : Int32 => some (Value.int z)) (show 1 = b2i (!inP v nc) from by rw [c_18]; rfl))
set_option maxHeartbeats 4000000 in
theorem r0_ofCall (l : Launch) (D : va_G) (dA : Nat → ClassId) (a : Nat → Nat) (σ : MS) (n nc : Nat) (cp cq : Nat → Nat) (ed cap : Nat) (mc : Int32) (f : Nat → Option Nat) (rg : Nat → Nat) (v wv : Int32) : RC2 l yX0_ofCall cX0_ofCall 3 (some .int) 3 64 D dA [.ref (a 0), .int v, .int wv] (fun H => va_P D vwCl (kW dA a σ) H ∧ DY D dA a n nc cp cq ed cap mc f rg H) (fun v9 => v9 = some (.int (spOfCall n nc cp cq v wv))) := by
  refine RC2.of (by decide) (Nat.le_of_ble_eq_true rfl) ?_
  intro p e s m below meth c ls S hr hlk hK2 hP9 hl
  have hx := S.1
  have hb := S.2.1
  have hl : lv_has ls 3 [(0, .ref (a 0)), (1, .int v), (2, .int wv)] := hl
  have hK := hK2.1
  have hP := hP9.1
  have hDY := hP9.2
  have hnc31 : nc < 2 ^ 31 := Nat.lt_of_le_of_lt hDY.2.1 hDY.2.2.1
  refine lv_iload_n hx hb dX0_ofCall_0 rfl (lv_at hl 1 rfl) ?_
  refine lv_i2l hx hb dX0_ofCall_1 rfl ?_
  refine lv_lconst (v := 0) hx hb dX0_ofCall_2 (by decide) ?_
  refine lv_aload_n hx hb dX0_ofCall_3 rfl (lv_at hl 0 rfl) ?_
  refine k_get (v := .ref (a 3)) S hK hP 3 (by decide) fl_X0_18 rfl dX0_ofCall_4 rfl ?_
  refine rc_Fr (X := .int (nI nc)) (rest := [.long 0, .long v.toInt64]) [] 0 S hK (hK.1 2 (RJ2, TJ2, 3) rfl).2 (hK2.2.fw (C := RJ2) (x := ⟨"java/util/List", "size", "()I"⟩) (y := yJ2_size) (by simp [fxI]) q220 q218 q203) (rj_size l D dA (a 3) ed cap mc nc f hDY.2.2.1) (lw_F q214 q217 q219 q63 q221) (by decide +kernel) rfl ⟨Nat.le_of_ble_eq_true rfl, Nat.le_of_ble_eq_true rfl⟩ (va_recv hK hDY.1 (ci := 2) (q0 := 0) rfl rfl) hl.1 (Nat.le_of_ble_eq_true rfl) dX0_ofCall_7 ⟨Nat.le_refl 0, Nat.le_refl 0⟩ hDY.1 ?_ rfl
  refine lv_iconst (v := 1) hx hb dX0_ofCall_12 (by decide) ?_
  refine lv_isub hx hb dX0_ofCall_13 ?_
  refine lv_i2l hx hb dX0_ofCall_14 rfl ?_
  refine rc_Si (rest := []) [.long v.toInt64, .long 0, .long (((nI nc) - 1).toInt64)] 3 S hK (r0_in l D dA v.toInt64 0 (((nI nc) - 1).toInt64)) wl_X0_49 wd_X0_X0_in rfl ⟨Nat.le_of_ble_eq_true rfl, Nat.le_of_ble_eq_true rfl⟩ hl.1 (Nat.le_of_ble_eq_true rfl) dX0_ofCall_15 ⟨Nat.le_refl 0, Nat.le_refl 0⟩ (trivial) ?_ rfl
  refine topi (z := b2i (inP v nc)) ((congrArg b2i (inL_eq v 0 (nI nc - 1))).trans (congrArg b2i (inR_Q hnc31))) ?_
  refine lv_if_eq (tgt := 41) hx hb dX0_ofCall_18 (by decide) (fun c_18 => ?_) (fun c_18 => ?_)
  · have c_18 := b2i_eq0.mp c_18
    have c_18 : inP v nc = false := by simpa using c_18
    refine lv_iconst (v := (-1)) hx hb dX0_ofCall_41 (by decide) ?_
    exact r_iret S hr hlk dX0_ofCall_42 (congrArg (fun z : Int32 => some (Value.int z)) (show (-1) = spOfCall n nc cp cq v wv from by simp [spOfCall, *]))
  · have c_18 := b2i_ne0.mp c_18
    have c_18 : inP v nc = true := by simpa using c_18
    obtain ⟨jv, hjv, rfl⟩ := inP_some hnc31 c_18
    have hcl := nI_clamp (show jv < 2 ^ 31 by omega)
    have hin9 := inP_nI hjv hnc31
    refine lv_aload_n hx hb dX0_ofCall_21 rfl (lv_at hl 0 rfl) ?_
    refine k_get (v := .ref (a 3)) S hK hP 3 (by decide) fl_X0_18 rfl dX0_ofCall_22 rfl ?_
    refine lv_iload_n hx hb dX0_ofCall_25 rfl (lv_at hl 1 rfl) ?_
    refine rc_Fr (X := .ref (rg jv)) (rest := []) [.int (nI jv)] 1 S hK (hK.1 2 (RJ2, TJ2, 3) rfl).2 (hK2.2.fw (C := RJ2) (x := ⟨"java/util/List", "get", "(I)Ljava/lang/Object;"⟩) (y := yJ2_get) (by simp [fxI]) q229 q227 q203) (rj_get l D dA (a 3) ed cap mc nc f hDY.2.2.1 hDY.2.1 jv (rg jv) (by omega) (hDY.2.2.2 _ (by omega)).1) (lw_F q223 q226 q228 q63 q230) (by decide +kernel) rfl ⟨Nat.le_of_ble_eq_true rfl, Nat.le_of_ble_eq_true rfl⟩ (va_recv hK hDY.1 (ci := 2) (q0 := 0) rfl rfl) hl.1 (Nat.le_of_ble_eq_true rfl) dX0_ofCall_26 ⟨Nat.le_refl 0, Nat.le_refl 0⟩ hDY.1 ?_ rfl
    refine g_cast S hK2 (knd_lt n cp cq jv) (hDY.2.2.2 jv (by omega)).2 q241 dX0_ofCall_31 ?_
    refine lv_iload_n hx hb dX0_ofCall_34 rfl (lv_at hl 2 rfl) ?_
    have hR := (hDY.2.2.2 jv (by omega)).2
    have hk3 := knd_lt n cp cq jv
    rcases (show knd n cp cq jv = 0 ∨ knd n cp cq jv = 1 ∨ knd n cp cq jv = 2 by omega) with hk | hk | hk
    · unfold rgW at hR
      rw [hk] at hR
      refine rc2_U (x := yX5_tells) (rest := []) [.int wv] 1 S hK2 (r5_tells0 l D dA a n cp cq (rg jv) jv hk wv) (lw_U q418 q421 q420 q419 q82 q424) (dl_code S.2.2.2.2 q419 q424) (by decide +kernel) rfl ⟨Nat.le_of_ble_eq_true rfl, Nat.le_of_ble_eq_true rfl⟩ (va_recv hK hR (ci := 3) (q0 := 0) rfl rfl) hl.1 (Nat.le_of_ble_eq_true rfl) dX0_ofCall_35 ⟨Nat.le_refl 0, Nat.le_refl 0⟩ (hR) (fun v9 hv9 => ?_) rfl
      subst hv9
      refine W.eq (g2 := F0 m 38 ls [.int (spOfC n cp cq jv wv)]) rfl ?_
      refine lv_goto (tgt := 42) hx hb dX0_ofCall_38 (by decide) ?_
      exact r_iret S hr hlk dX0_ofCall_42 (congrArg (fun z : Int32 => some (Value.int z)) (show spOfC n cp cq jv wv = spOfCall n nc cp cq (nI jv) wv from by unfold spOfCall; rw [if_pos hin9, hcl]))
    · unfold rgW at hR
      rw [hk] at hR
      refine rc2_U (x := yX5_tells) (rest := []) [.int wv] 1 S hK2 (r5_tells1 l D dA a n cp cq (rg jv) jv hk wv) (lw_U q418 q421 q422 q419 q82 q424) (dl_code S.2.2.2.2 q419 q424) (by decide +kernel) rfl ⟨Nat.le_of_ble_eq_true rfl, Nat.le_of_ble_eq_true rfl⟩ (va_recv hK hR (ci := 4) (q0 := 0) rfl rfl) hl.1 (Nat.le_of_ble_eq_true rfl) dX0_ofCall_35 ⟨Nat.le_refl 0, Nat.le_refl 0⟩ (hR) (fun v9 hv9 => ?_) rfl
      subst hv9
      refine W.eq (g2 := F0 m 38 ls [.int (spOfC n cp cq jv wv)]) rfl ?_
      refine lv_goto (tgt := 42) hx hb dX0_ofCall_38 (by decide) ?_
      exact r_iret S hr hlk dX0_ofCall_42 (congrArg (fun z : Int32 => some (Value.int z)) (show spOfC n cp cq jv wv = spOfCall n nc cp cq (nI jv) wv from by unfold spOfCall; rw [if_pos hin9, hcl]))
    · unfold rgW at hR
      rw [hk] at hR
      refine rc2_U (x := yX5_tells) (rest := []) [.int wv] 1 S hK2 (r5_tells2 l D dA a n cp cq (rg jv) jv hk wv) (lw_U q418 q421 q423 q419 q82 q424) (dl_code S.2.2.2.2 q419 q424) (by decide +kernel) rfl ⟨Nat.le_of_ble_eq_true rfl, Nat.le_of_ble_eq_true rfl⟩ (va_recv hK hR (ci := 5) (q0 := 0) rfl rfl) hl.1 (Nat.le_of_ble_eq_true rfl) dX0_ofCall_35 ⟨Nat.le_refl 0, Nat.le_refl 0⟩ (hR) (fun v9 hv9 => ?_) rfl
      subst hv9
      refine W.eq (g2 := F0 m 38 ls [.int (spOfC n cp cq jv wv)]) rfl ?_
      refine lv_goto (tgt := 42) hx hb dX0_ofCall_38 (by decide) ?_
      exact r_iret S hr hlk dX0_ofCall_42 (congrArg (fun z : Int32 => some (Value.int z)) (show spOfC n cp cq jv wv = spOfCall n nc cp cq (nI jv) wv from by unfold spOfCall; rw [if_pos hin9, hcl]))
set_option maxHeartbeats 4000000 in
theorem k0_tell (l : Launch) (D : va_G) (dA : Nat → ClassId) (a : Nat → Nat) (hI : kInj a) (σ : MS) (Ph : Heap → Prop) (hSt : kStb a Ph) (n nc : Nat) (cp cq : Nat → Nat) (ed cap : Nat) (mc : Int32) (f : Nat → Option Nat) (rg : Nat → Nat) (hDYf : ∀ H, Ph H → DY D dA a n nc cp cq ed cap mc f rg H) (v : Int32) : KC2 l yX0_tell cX0_tell 2 (some .int) 4 81 D dA a [.ref (a 0), .int v] σ Ph (fun v9 σ9 => v9 = some (.int (spTell n nc cp cq (σ.1 2) v).1) ∧ σ9 = σ.i 2 (spTell n nc cp cq (σ.1 2) v).2) := by
  refine KC2.of (by decide) (Nat.le_of_ble_eq_true rfl) ?_
  intro p e s m below meth c ls S hr hlk hK2 hM hPh hl
  have hK := hK2.1
  have hx := S.1
  have hb := S.2.1
  have hl : lv_has ls 2 [(0, .ref (a 0)), (1, .int v)] := hl
  have hDY := hDYf _ hPh
  have hnc31 : nc < 2 ^ 31 := Nat.lt_of_le_of_lt hDY.2.1 hDY.2.2.1
  refine lv_aload_n hx hb dX0_tell_0 rfl (lv_at hl 0 rfl) ?_
  refine lv_iload_n hx hb dX0_tell_1 rfl (lv_at hl 1 rfl) ?_
  have hDY := hDYf _ (hSt.at hM hPh)
  refine rc2_V (rest := []) [.int v] 1 S hK2 (r0_noRing l D dA a σ n nc cp cq ed cap mc f rg v) wl_X0_340 wd_X0_X0_noRing rfl ⟨Nat.le_of_ble_eq_true rfl, Nat.le_of_ble_eq_true rfl⟩ (k_recv hK hM.1) hl.1 (Nat.le_of_ble_eq_true rfl) dX0_tell_2 ⟨Nat.le_refl 0, Nat.le_refl 0⟩ ⟨hM.1, hDY⟩ (fun v9 hv9 => ?_) rfl
  subst hv9
  refine W.eq (g2 := F0 m 5 ls [.int (b2i (!inP v nc))]) rfl ?_
  refine lv_if_eq (tgt := 12) hx hb dX0_tell_5 (by decide) (fun c_5 => ?_) (fun c_5 => ?_)
  · have c_5 := b2i_eq0.mp c_5
    have c_5 : inP v nc = true := by simpa using c_5
    obtain ⟨jv, hjv, rfl⟩ := inP_some hnc31 c_5
    have hcl := nI_clamp (show jv < 2 ^ 31 by omega)
    have hin9 := inP_nI hjv hnc31
    refine lv_aload_n hx hb dX0_tell_12 rfl (lv_at hl 0 rfl) ?_
    refine k_get (v := .ref (a 3)) S hK hM.1 3 (by decide) fl_X0_18 rfl dX0_tell_13 rfl ?_
    refine lv_iload_n hx hb dX0_tell_16 rfl (lv_at hl 1 rfl) ?_
    have hDY := hDYf _ (hSt.at hM hPh)
    refine rc_Fr (X := .ref (rg jv)) (rest := []) [.int (nI jv)] 1 S hK (hK.1 2 (RJ2, TJ2, 3) rfl).2 (hK2.2.fw (C := RJ2) (x := ⟨"java/util/List", "get", "(I)Ljava/lang/Object;"⟩) (y := yJ2_get) (by simp [fxI]) q229 q227 q203) (rj_get l D dA (a 3) ed cap mc nc f hDY.2.2.1 hDY.2.1 jv (rg jv) (by omega) (hDY.2.2.2 _ (by omega)).1) (lw_F q223 q226 q228 q63 q230) (by decide +kernel) rfl ⟨Nat.le_of_ble_eq_true rfl, Nat.le_of_ble_eq_true rfl⟩ (va_recv hK hDY.1 (ci := 2) (q0 := 0) rfl rfl) hl.1 (Nat.le_of_ble_eq_true rfl) dX0_tell_17 ⟨Nat.le_refl 0, Nat.le_refl 0⟩ hDY.1 ?_ rfl
    have hDY := hDYf _ (hSt.at hM hPh)
    refine g_cast S hK2 (knd_lt n cp cq jv) (hDY.2.2.2 jv (by omega)).2 q241 dX0_tell_22 ?_
    have hDY := hDYf _ (hSt.at hM hPh)
    have hR := (hDY.2.2.2 jv (by omega)).2
    have hk3 := knd_lt n cp cq jv
    rcases (show knd n cp cq jv = 0 ∨ knd n cp cq jv = 1 ∨ knd n cp cq jv = 2 by omega) with hk | hk | hk
    · unfold rgW at hR
      rw [hk] at hR
      refine kc2_U (x := yX5_said) (rest := []) [] 0 S hK2 hM (k5_said0 l D dA a hI σ Ph hSt n cp cq (rg jv) jv (fun H9 h9 => by have hR9 := ((hDYf _ h9).2.2.2 jv (by omega)).2; unfold rgW at hR9; rw [hk] at hR9; exact hR9)) (lw_U q1045 q1048 q1047 q1046 q82 q1086) (dl_code S.2.2.2.2 q1046 q1086) (by decide +kernel) rfl ⟨Nat.le_of_ble_eq_true rfl, Nat.le_of_ble_eq_true rfl⟩ (va_recv hK hR (ci := 3) (q0 := 0) rfl rfl) hl.1 (Nat.le_of_ble_eq_true rfl) dX0_tell_25 ⟨Nat.le_refl 0, Nat.le_refl 0⟩ (hSt.at hM hPh) (fun v9 σ25 H locs hq hM => ?_) rfl
      obtain ⟨rfl, rfl⟩ := hq
      refine W.eq (g2 := F0 m 28 ls [.int (10 * nI (cp jv) + nI (cq jv))]) rfl ?_
      exact k_iret S hr hlk hM dX0_tell_28 (⟨by simp [spTell, hin9, hcl, hk], by simp [spTell, hin9, hcl, hk, i_i]⟩)
    · unfold rgW at hR
      rw [hk] at hR
      refine kc2_U (x := yX5_said) (rest := []) [] 0 S hK2 hM (k6_said1 l D dA a hI σ Ph hSt n cp cq (rg jv) jv (fun H9 h9 => by have hR9 := ((hDYf _ h9).2.2.2 jv (by omega)).2; unfold rgW at hR9; rw [hk] at hR9; exact hR9)) (lw_U q1045 q1048 q1049 q1050 q83 q1051) (dl_code S.2.2.2.2 q1046 q1086) (by decide +kernel) rfl ⟨Nat.le_of_ble_eq_true rfl, Nat.le_of_ble_eq_true rfl⟩ (va_recv hK hR (ci := 4) (q0 := 0) rfl rfl) hl.1 (Nat.le_of_ble_eq_true rfl) dX0_tell_25 ⟨Nat.le_refl 0, Nat.le_refl 0⟩ (hSt.at hM hPh) (fun v9 σ25 H locs hq hM => ?_) rfl
      obtain ⟨rfl, rfl⟩ := hq
      refine W.eq (g2 := F0 m 28 ls [.int (10 * nI (cp jv) + nI (cq jv) + 100 * nI (nws n cp cq jv))]) rfl ?_
      exact k_iret S hr hlk hM dX0_tell_28 (⟨by simp [spTell, hin9, hcl, hk], by simp [spTell, hin9, hcl, hk, i_i]⟩)
    · unfold rgW at hR
      rw [hk] at hR
      refine kc2_U (x := yX5_said) (rest := []) [] 0 S hK2 hM (k7_said2 l D dA a hI σ Ph hSt n cp cq (rg jv) jv (fun H9 h9 => by have hR9 := ((hDYf _ h9).2.2.2 jv (by omega)).2; unfold rgW at hR9; rw [hk] at hR9; exact hR9)) (lw_U q1045 q1048 q1073 q1074 q84 q1075) (dl_code S.2.2.2.2 q1046 q1086) (by decide +kernel) rfl ⟨Nat.le_of_ble_eq_true rfl, Nat.le_of_ble_eq_true rfl⟩ (va_recv hK hR (ci := 5) (q0 := 0) rfl rfl) hl.1 (Nat.le_of_ble_eq_true rfl) dX0_tell_25 ⟨Nat.le_refl 0, Nat.le_refl 0⟩ (hSt.at hM hPh) (fun v9 σ25 H locs hq hM => ?_) rfl
      obtain ⟨rfl, rfl⟩ := hq
      refine W.eq (g2 := F0 m 28 ls [.int (2 * (10 * nI (cp jv) + nI (cq jv)) + 100 * nI (nws n cp cq jv))]) rfl ?_
      exact k_iret S hr hlk hM dX0_tell_28 (⟨by simp [spTell, hin9, hcl, hk], by simp [spTell, hin9, hcl, hk, i_i]⟩)
  · have c_5 := b2i_ne0.mp c_5
    have c_5 : inP v nc = false := by simpa using c_5
    refine lv_iconst (v := (-1)) hx hb dX0_tell_8 (by decide) ?_
    refine lv_goto (tgt := 28) hx hb dX0_tell_9 (by decide) ?_
    exact k_iret S hr hlk hM dX0_tell_28 (⟨by simp [spTell, *], by simp [spTell, *, i_self]⟩)
