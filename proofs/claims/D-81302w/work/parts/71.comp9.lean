/-! COMPONENT 9: runs (by program: gen/comp9.py) -/
set_option maxRecDepth 100000
set_option maxHeartbeats 4000000 in
theorem k0_runs (l : Launch) (D : va_G) (dA : Nat → ClassId) (a : Nat → Nat) (hI : kInj a) (σ : MS) (Ph : Heap → Prop) (hSt : kStb a Ph) (n nc : Nat) (cp cq : Nat → Nat) (ed cap : Nat) (mc : Int32) (f : Nat → Option Nat) (rg : Nat → Nat) (hDYf : ∀ H, Ph H → DY D dA a n nc cp cq ed cap mc f rg H) (net : Nat → Nat) (hG : KG σ n net) (hcq : ∀ j, j < nc → cp j < n ∧ cq j < n) (T : Nat) (hSN : SNc σ T) (hT : T < 2 ^ 30) (rv wv : Int32) : KC2 l yX0_runs cX0_runs 4 (some .long) 21 682 D dA a [.ref (a 0), .int rv, .int wv] σ Ph (fun v9 σ9 => v9 = some (.long (spRuns n net (stAt n cp cq nc) (fun r => tkN n r cp cq nc) rv wv)) ∧ PTc σ σ9 T) := by
  refine KC2.of (by decide) (Nat.le_of_ble_eq_true rfl) ?_
  intro p e s m below meth c ls S hr hlk hK2 hM hPh hl
  have hK := hK2.1
  have hx := S.1
  have hb := S.2.1
  have hl : lv_has ls 4 [(0, .ref (a 0)), (1, .int rv), (2, .int wv)] := hl
  have hn := hG.1
  have h0 := hG.2.1
  have hnet := hG.2.2.2
  have hc4 : ∀ j, j < nc → cp j < 4 ∧ cq j < 4 := fun j hj => ⟨by have := (hcq j hj).1; omega, by have := (hcq j hj).2; omega⟩
  have hv : vld n (stAt n cp cq nc) := vld_stAt hn nc hcq
  have hs := hv.1
  have ht8 : (tk8 cp cq nc) < 256 := tk8_lt nc hc4
  refine lv_iload_n hx hb dX0_runs_0 rfl (lv_at hl 1 rfl) ?_
  refine rc_Si (rest := []) [.int rv] 1 S hK (r0_noRule l D dA rv) wl_X0_157 wd_X0_X0_noRule rfl ⟨Nat.le_of_ble_eq_true rfl, Nat.le_of_ble_eq_true rfl⟩ hl.1 (Nat.le_of_ble_eq_true rfl) dX0_runs_1 ⟨Nat.le_refl 0, Nat.le_refl 0⟩ (trivial) ?_ rfl
  refine lv_if_ne (tgt := 24) hx hb dX0_runs_4 (by decide) (fun c_4 => ?_) (fun c_4 => ?_)
  · have c_4 := b2i_ne0.mp c_4
    have c_4 : inR rv 0 3 = false := by simpa using c_4
    refine lv_ldc2 (v := (-9223372036854775808)) hx hb S.2.2.2.1 (S.2.2.2.2 _ q477) dX0_runs_24 ?_
    exact k_lret S hr hlk hM dX0_runs_27 (⟨(congrArg (fun z : Int64 => some (Value.long z)) (by simp [spRuns, *])), PTc.rf hSN⟩)
  · have c_4 := b2i_eq0.mp c_4
    have c_4 : inR rv 0 3 = true := by simpa using c_4
    refine lv_iload_n hx hb dX0_runs_7 rfl (lv_at hl 2 rfl) ?_
    refine lv_i2l hx hb dX0_runs_8 rfl ?_
    refine lv_lconst (v := 0) hx hb dX0_runs_9 (by decide) ?_
    refine lv_lconst (v := 1) hx hb dX0_runs_10 (by decide) ?_
    refine rc_Si (rest := []) [.long wv.toInt64, .long 0, .long 1] 3 S hK (r0_in l D dA wv.toInt64 0 1) wl_X0_49 wd_X0_X0_in rfl ⟨Nat.le_of_ble_eq_true rfl, Nat.le_of_ble_eq_true rfl⟩ hl.1 (Nat.le_of_ble_eq_true rfl) dX0_runs_11 ⟨Nat.le_refl 0, Nat.le_refl 0⟩ (trivial) ?_ rfl
    refine topi (z := b2i (inR wv 0 1)) (congrArg b2i (inL_eq wv 0 1)) ?_
    refine lv_if_eq (tgt := 24) hx hb dX0_runs_14 (by decide) (fun c_14 => ?_) (fun c_14 => ?_)
    · have c_14 := b2i_eq0.mp c_14
      refine lv_ldc2 (v := (-9223372036854775808)) hx hb S.2.2.2.1 (S.2.2.2.2 _ q477) dX0_runs_24 ?_
      exact k_lret S hr hlk hM dX0_runs_27 (⟨(congrArg (fun z : Int64 => some (Value.long z)) (by simp [spRuns, *])), PTc.rf hSN⟩)
    · have c_14 := b2i_ne0.mp c_14
      refine lv_aload_n hx hb dX0_runs_17 rfl (lv_at hl 0 rfl) ?_
      refine k_get (v := .int (σ.1 0)) S hK hM.1 0 (by decide) fl_X0_45 rfl dX0_runs_18 rfl ?_
      refine topi (z := nI n) (h0) ?_
      refine lv_if_ne (tgt := 28) hx hb dX0_runs_21 (by decide) (fun c_21 => ?_) (fun c_21 => ?_)
      · have c_21 : ¬ n = 0 := fun h => c_21 (congrArg nI h)
        obtain ⟨r, hr9, rfl⟩ := inR_some (k := 3) (by decide) c_4
        have hr4 : r < 4 := by omega
        refine lv_aload_n hx hb dX0_runs_28 rfl (lv_at hl 0 rfl) ?_
        refine lv_iload_n hx hb dX0_runs_29 rfl (lv_at hl 1 rfl) ?_
        refine kc2_V (rest := []) [.int (nI r)] 1 S hK2 hM (k0_layNow l D dA a hI σ Ph hSt n nc cp cq ed cap mc f rg hDYf net hG hcq T hSN hT r (by omega) (by omega)) wl_X0_189 wd_X0_X0_layNow rfl ⟨Nat.le_of_ble_eq_true rfl, Nat.le_of_ble_eq_true rfl⟩ hl.1 (Nat.le_of_ble_eq_true rfl) dX0_runs_30 ⟨Nat.le_refl 0, Nat.le_refl 0⟩ (hSt.at hM hPh) (fun v σ30 H locs hq hM => ?_) rfl
        obtain ⟨rfl, hFR, hLP⟩ := hq
        refine W.eq (g2 := F0 m 33 ls [.int (nI (sOf r (stAt n cp cq nc) (tk8 cp cq nc)))]) rfl ?_
        have hvo := val_ok (net := net) (r := r) (t := tkN n r cp cq nc) hn hv (mu_vld (by omega) hv)
        have hsl := sOf_lt (r := r) (s := (stAt n cp cq nc)) ht8
        refine lv_istore_n (lv' := [(3, .int (nI (sOf r (stAt n cp cq nc) (tk8 cp cq nc)))), (0, .ref (a 0)), (1, .int (nI r)), (2, .int wv)]) hx hb dX0_runs_33 rfl hl (by decide) rfl (fun ls hl => ?_)
        refine lv_iload_n hx hb dX0_runs_34 rfl (lv_at hl 3 rfl) ?_
        refine lv_if_ne (tgt := 47) hx hb dX0_runs_35 (by decide) (fun c_35 => ?_) (fun c_35 => ?_)
        · refine lv_aload_n hx hb dX0_runs_47 rfl (lv_at hl 1 rfl) ?_
          refine k_get (v := .ref (a 6)) S hK hM.1 6 (by decide) fl_X0_30 rfl dX0_runs_48 rfl ?_
          refine lv_iload_n hx hb dX0_runs_51 rfl (lv_at hl 0 rfl) ?_
          refine k_lldn (j := sOf r (stAt n cp cq nc) (tk8 cp cq nc)) (v := lN (val net n r (stAt n cp cq nc) (tkN n r cp cq nc)).2.1) S hK hM.1 6 (by decide) rfl (hsl) dX0_runs_52 (hLP.2.1) ?_
          exact k_lret S hr hlk hM dX0_runs_53 (⟨(congrArg (fun z : Int64 => some (Value.long z)) (by simp [spRuns, vNow, show inR 0 0 1 = true from (by decide), show inR (nI r) 0 3 = true from inR_nI (k := 3) (show r ≤ 3 by omega) (by decide), nI_clamp (show r < 2 ^ 31 by omega), c_14, c_21, c_35])), PTc.lay hSN hFR⟩)
        · refine lv_aload_n hx hb dX0_runs_38 rfl (lv_at hl 1 rfl) ?_
          refine k_get (v := .ref (a 5)) S hK hM.1 5 (by decide) fl_X0_26 rfl dX0_runs_39 rfl ?_
          refine lv_iload_n hx hb dX0_runs_42 rfl (lv_at hl 0 rfl) ?_
          refine k_lldn (j := sOf r (stAt n cp cq nc) (tk8 cp cq nc)) (v := lN (val net n r (stAt n cp cq nc) (tkN n r cp cq nc)).1) S hK hM.1 5 (by decide) rfl (hsl) dX0_runs_43 (hLP.1) ?_
          refine lv_goto (tgt := 53) hx hb dX0_runs_44 (by decide) ?_
          exact k_lret S hr hlk hM dX0_runs_53 (⟨(congrArg (fun z : Int64 => some (Value.long z)) (by simp [spRuns, vNow, show inR 0 0 1 = true from (by decide), show inR (nI r) 0 3 = true from inR_nI (k := 3) (show r ≤ 3 by omega) (by decide), nI_clamp (show r < 2 ^ 31 by omega), c_14, c_21, c_35])), PTc.lay hSN hFR⟩)
      · have c_21 : n = 0 := nI_inj (by omega) (by decide) c_21
        refine lv_ldc2 (v := (-9223372036854775808)) hx hb S.2.2.2.1 (S.2.2.2.2 _ q477) dX0_runs_24 ?_
        exact k_lret S hr hlk hM dX0_runs_27 (⟨(congrArg (fun z : Int64 => some (Value.long z)) (by simp [spRuns, *])), PTc.rf hSN⟩)
set_option maxHeartbeats 4000000 in
theorem k0_calls (l : Launch) (D : va_G) (dA : Nat → ClassId) (a : Nat → Nat) (hI : kInj a) (σ : MS) (Ph : Heap → Prop) (hSt : kStb a Ph) (n nc : Nat) (cp cq : Nat → Nat) (ed cap : Nat) (mc : Int32) (f : Nat → Option Nat) (rg : Nat → Nat) (hDYf : ∀ H, Ph H → DY D dA a n nc cp cq ed cap mc f rg H) (net : Nat → Nat) (hG : KG σ n net) (hcq : ∀ j, j < nc → cp j < n ∧ cq j < n) (T : Nat) (hSN : SNc σ T) (hT : T < 2 ^ 30) (rv wv : Int32) : KC2 l yX0_calls cX0_calls 4 (some .int) 21 682 D dA a [.ref (a 0), .int rv, .int wv] σ Ph (fun v9 σ9 => v9 = some (.int (spCalls n net (stAt n cp cq nc) (fun r => tkN n r cp cq nc) rv wv)) ∧ PTc σ σ9 T) := by
  refine KC2.of (by decide) (Nat.le_of_ble_eq_true rfl) ?_
  intro p e s m below meth c ls S hr hlk hK2 hM hPh hl
  have hK := hK2.1
  have hx := S.1
  have hb := S.2.1
  have hl : lv_has ls 4 [(0, .ref (a 0)), (1, .int rv), (2, .int wv)] := hl
  have hn := hG.1
  have h0 := hG.2.1
  have hnet := hG.2.2.2
  have hc4 : ∀ j, j < nc → cp j < 4 ∧ cq j < 4 := fun j hj => ⟨by have := (hcq j hj).1; omega, by have := (hcq j hj).2; omega⟩
  have hv : vld n (stAt n cp cq nc) := vld_stAt hn nc hcq
  have hs := hv.1
  have ht8 : (tk8 cp cq nc) < 256 := tk8_lt nc hc4
  refine lv_iload_n hx hb dX0_calls_0 rfl (lv_at hl 1 rfl) ?_
  refine rc_Si (rest := []) [.int rv] 1 S hK (r0_noRule l D dA rv) wl_X0_157 wd_X0_X0_noRule rfl ⟨Nat.le_of_ble_eq_true rfl, Nat.le_of_ble_eq_true rfl⟩ hl.1 (Nat.le_of_ble_eq_true rfl) dX0_calls_1 ⟨Nat.le_refl 0, Nat.le_refl 0⟩ (trivial) ?_ rfl
  refine lv_if_eq (tgt := 9) hx hb dX0_calls_4 (by decide) (fun c_4 => ?_) (fun c_4 => ?_)
  · have c_4 := b2i_eq0.mp c_4
    have c_4 : inR rv 0 3 = true := by simpa using c_4
    refine lv_iload_n hx hb dX0_calls_9 rfl (lv_at hl 2 rfl) ?_
    refine lv_i2l hx hb dX0_calls_10 rfl ?_
    refine lv_lconst (v := 0) hx hb dX0_calls_11 (by decide) ?_
    refine lv_lconst (v := 1) hx hb dX0_calls_12 (by decide) ?_
    refine rc_Si (rest := []) [.long wv.toInt64, .long 0, .long 1] 3 S hK (r0_in l D dA wv.toInt64 0 1) wl_X0_49 wd_X0_X0_in rfl ⟨Nat.le_of_ble_eq_true rfl, Nat.le_of_ble_eq_true rfl⟩ hl.1 (Nat.le_of_ble_eq_true rfl) dX0_calls_13 ⟨Nat.le_refl 0, Nat.le_refl 0⟩ (trivial) ?_ rfl
    refine topi (z := b2i (inR wv 0 1)) (congrArg b2i (inL_eq wv 0 1)) ?_
    refine lv_if_ne (tgt := 22) hx hb dX0_calls_16 (by decide) (fun c_16 => ?_) (fun c_16 => ?_)
    · have c_16 := b2i_ne0.mp c_16
      refine lv_aload_n hx hb dX0_calls_22 rfl (lv_at hl 0 rfl) ?_
      refine k_get (v := .int (σ.1 0)) S hK hM.1 0 (by decide) fl_X0_45 rfl dX0_calls_23 rfl ?_
      refine topi (z := nI n) (h0) ?_
      refine lv_if_ne (tgt := 32) hx hb dX0_calls_26 (by decide) (fun c_26 => ?_) (fun c_26 => ?_)
      · have c_26 : ¬ n = 0 := fun h => c_26 (congrArg nI h)
        obtain ⟨r, hr9, rfl⟩ := inR_some (k := 3) (by decide) c_4
        have hr4 : r < 4 := by omega
        refine lv_aload_n hx hb dX0_calls_32 rfl (lv_at hl 0 rfl) ?_
        refine lv_iload_n hx hb dX0_calls_33 rfl (lv_at hl 1 rfl) ?_
        refine kc2_V (rest := []) [.int (nI r)] 1 S hK2 hM (k0_layNow l D dA a hI σ Ph hSt n nc cp cq ed cap mc f rg hDYf net hG hcq T hSN hT r (by omega) (by omega)) wl_X0_189 wd_X0_X0_layNow rfl ⟨Nat.le_of_ble_eq_true rfl, Nat.le_of_ble_eq_true rfl⟩ hl.1 (Nat.le_of_ble_eq_true rfl) dX0_calls_34 ⟨Nat.le_refl 0, Nat.le_refl 0⟩ (hSt.at hM hPh) (fun v σ34 H locs hq hM => ?_) rfl
        obtain ⟨rfl, hFR, hLP⟩ := hq
        refine W.eq (g2 := F0 m 37 ls [.int (nI (sOf r (stAt n cp cq nc) (tk8 cp cq nc)))]) rfl ?_
        have hvo := val_ok (net := net) (r := r) (t := tkN n r cp cq nc) hn hv (mu_vld (by omega) hv)
        have hsl := sOf_lt (r := r) (s := (stAt n cp cq nc)) ht8
        refine lv_istore_n (lv' := [(3, .int (nI (sOf r (stAt n cp cq nc) (tk8 cp cq nc)))), (0, .ref (a 0)), (1, .int (nI r)), (2, .int wv)]) hx hb dX0_calls_37 rfl hl (by decide) rfl (fun ls hl => ?_)
        refine lv_aload_n hx hb dX0_calls_38 rfl (lv_at hl 1 rfl) ?_
        refine k_get (v := .ref (a 6)) S hK hM.1 6 (by decide) fl_X0_30 rfl dX0_calls_39 rfl ?_
        refine lv_iload_n hx hb dX0_calls_42 rfl (lv_at hl 0 rfl) ?_
        refine k_lldn (j := sOf r (stAt n cp cq nc) (tk8 cp cq nc)) (v := lN (val net n r (stAt n cp cq nc) (tkN n r cp cq nc)).2.1) S hK hM.1 6 (by decide) rfl (hsl) dX0_calls_43 (hLP.2.1) ?_
        refine lv_lconst (v := 0) hx hb dX0_calls_44 (by decide) ?_
        refine W.lcmp hx hb dX0_calls_45 ?_
        refine lv_if_ne (tgt := 54) hx hb dX0_calls_46 (by decide) (fun c_46 => ?_) (fun c_46 => ?_)
        · have c_46 := mt (lg_cmp_eq _ _).mpr c_46
          have c_46 : ¬ (val net n r (stAt n cp cq nc) (tkN n r cp cq nc)).2.1 = 0 := fun h9 => c_46 ((lN_0 (Nat.lt_of_le_of_lt (Nat.le_trans hvo.1.2.1 hvo.1.1) (by decide))).mpr h9)
          have hm9 : ¬ (val net n r (stAt n cp cq nc) (tkN n r cp cq nc)).2.2.2 = 0 := by have := (hvo.1.2.2.2 c_46).2.1; omega
          refine lv_iload_n hx hb dX0_calls_54 rfl (lv_at hl 3 rfl) ?_
          refine lv_if_ne (tgt := 67) hx hb dX0_calls_55 (by decide) (fun c_55 => ?_) (fun c_55 => ?_)
          · refine lv_aload_n hx hb dX0_calls_67 rfl (lv_at hl 1 rfl) ?_
            refine k_get (v := .ref (a 8)) S hK hM.1 8 (by decide) fl_X0_36 rfl dX0_calls_68 rfl ?_
            refine lv_iload_n hx hb dX0_calls_71 rfl (lv_at hl 0 rfl) ?_
            refine k_aldn (j := sOf r (stAt n cp cq nc) (tk8 cp cq nc)) (v := mC (val net n r (stAt n cp cq nc) (tkN n r cp cq nc)).2.2.2) S hK hM.1 8 (by decide) rfl (hsl) dX0_calls_72 (hLP.2.2.2) ?_
            refine topi (z := nI (val net n r (stAt n cp cq nc) (tkN n r cp cq nc)).2.2.2 - 1) (mC_pos hm9) ?_
            exact k_iret S hr hlk hM dX0_calls_73 (⟨(congrArg (fun z : Int32 => some (Value.int z)) (by simp [spCalls, vNow, show inR 0 0 1 = true from (by decide), show inR (nI r) 0 3 = true from inR_nI (k := 3) (show r ≤ 3 by omega) (by decide), nI_clamp (show r < 2 ^ 31 by omega), c_16, c_26, c_46, c_55])), PTc.lay hSN hFR⟩)
          · refine lv_aload_n hx hb dX0_calls_58 rfl (lv_at hl 1 rfl) ?_
            refine k_get (v := .ref (a 7)) S hK hM.1 7 (by decide) fl_X0_33 rfl dX0_calls_59 rfl ?_
            refine lv_iload_n hx hb dX0_calls_62 rfl (lv_at hl 0 rfl) ?_
            refine k_aldn (j := sOf r (stAt n cp cq nc) (tk8 cp cq nc)) (v := nI (val net n r (stAt n cp cq nc) (tkN n r cp cq nc)).2.2.1) S hK hM.1 7 (by decide) rfl (hsl) dX0_calls_63 (hLP.2.2.1) ?_
            refine lv_goto (tgt := 73) hx hb dX0_calls_64 (by decide) ?_
            exact k_iret S hr hlk hM dX0_calls_73 (⟨(congrArg (fun z : Int32 => some (Value.int z)) (by simp [spCalls, vNow, show inR 0 0 1 = true from (by decide), show inR (nI r) 0 3 = true from inR_nI (k := 3) (show r ≤ 3 by omega) (by decide), nI_clamp (show r < 2 ^ 31 by omega), c_16, c_26, c_46, c_55])), PTc.lay hSN hFR⟩)
        · have c_46 := (lg_cmp_eq _ _).mp c_46
          have c_46 : (val net n r (stAt n cp cq nc) (tkN n r cp cq nc)).2.1 = 0 := (lN_0 (Nat.lt_of_le_of_lt (Nat.le_trans hvo.1.2.1 hvo.1.1) (by decide))).mp c_46
          refine lv_bipush (v := (-9)) hx hb dX0_calls_49 (by decide) ?_
          refine lv_goto (tgt := 73) hx hb dX0_calls_51 (by decide) ?_
          exact k_iret S hr hlk hM dX0_calls_73 (⟨(congrArg (fun z : Int32 => some (Value.int z)) (by simp [spCalls, vNow, show inR 0 0 1 = true from (by decide), show inR (nI r) 0 3 = true from inR_nI (k := 3) (show r ≤ 3 by omega) (by decide), nI_clamp (show r < 2 ^ 31 by omega), c_16, c_26, c_46])), PTc.lay hSN hFR⟩)
      · have c_26 : n = 0 := nI_inj (by omega) (by decide) c_26
        refine lv_bipush (v := (-3)) hx hb dX0_calls_29 (by decide) ?_
        exact k_iret S hr hlk hM dX0_calls_31 (⟨(congrArg (fun z : Int32 => some (Value.int z)) (by simp [spCalls, *])), PTc.rf hSN⟩)
    · have c_16 := b2i_eq0.mp c_16
      refine lv_bipush (v := (-2)) hx hb dX0_calls_19 (by decide) ?_
      exact k_iret S hr hlk hM dX0_calls_21 (⟨(congrArg (fun z : Int32 => some (Value.int z)) (by simp [spCalls, *])), PTc.rf hSN⟩)
  · have c_4 := b2i_ne0.mp c_4
    have c_4 : inR rv 0 3 = false := by simpa using c_4
    refine lv_iconst (v := (-1)) hx hb dX0_calls_7 (by decide) ?_
    exact k_iret S hr hlk hM dX0_calls_8 (⟨(congrArg (fun z : Int32 => some (Value.int z)) (by simp [spCalls, *])), PTc.rf hSN⟩)
