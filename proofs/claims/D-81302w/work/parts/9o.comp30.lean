/-! COMPONENT 30: bridge, mend (by program: gen/comp30.py) -/
set_option maxRecDepth 100000
set_option maxHeartbeats 4000000 in
theorem g8_init9 (l : Launch) (D : va_G) (dA : Nat → ClassId) (b ao : Nat) (y0 : Value) : GC l yX8_init cX8_init 2 none 1 30 0 0 (K2 D dA) [.ref b, .ref ao] (fun H => va_P D vwCl [(b, .inr (11, [y0, .ref ao]))] H) (fun q => q = b) (fun v9 H => v9 = none ∧ va_P D vwCl [(b, .inr (11, [.ref ao, .ref ao]))] H) := by
  refine GC.of (by decide) (Nat.le_of_ble_eq_true rfl) ?_
  intro p e s m below meth c ls S hr hlk hnm hK2 hPre hl
  have hK := hK2.1
  have hx := S.1
  have hb := S.2.1
  have hl : lv_has ls 2 [(0, .ref b), (1, .ref ao)] := hl
  have hS : va_S (fun q => q = b) s.heap s.heap [] := va_S.rf
  have hP := hPre
  have hAb : (fun q => q = b) b := rfl
  refine lv_aload_n hx hb dX8_init_0 rfl (lv_at hl 0 rfl) ?_
  refine lv_aload_n hx hb dX8_init_1 rfl (lv_at hl 1 rfl) ?_
  refine s9_p0 (ao := ao) S hK hP q573 (hnm.trans rfl) hS hAb dX8_init_2 (fun H locs hP hS => ?_)
  refine lv_aload_n hx hb dX8_init_5 rfl (lv_at hl 0 rfl) ?_
  refine W.objInit (rest := []) S.1 S.2.1 S.2.2.2.1 (S.2.2.2.2 _ q571) (S.2.2.2.2 _ q100) (S.2.2.2.2 _ q101) rfl (hl.1.trans S.2.2.1.symm) rfl dX8_init_6 (Nat.le_of_ble_eq_true rfl) (Nat.le_of_ble_eq_true rfl) ?_
  refine W.eq (g2 := F0 m 9 ls []) rfl ?_
  exact g_vret S hr hlk hS dX8_init_9 ⟨Nat.le_of_ble_eq_true rfl, Nat.le_of_ble_eq_true rfl⟩ (⟨rfl, hP⟩)
set_option maxHeartbeats 4000000 in
theorem g8_init10 (l : Launch) (D : va_G) (dA : Nat → ClassId) (b ao : Nat) (y0 x1 : Value) : GC l yX8_init cX8_init 2 none 1 30 0 0 (K2 D dA) [.ref b, .ref ao] (fun H => va_P D vwCl [(b, .inr (12, [y0, x1, .ref ao]))] H) (fun q => q = b) (fun v9 H => v9 = none ∧ va_P D vwCl [(b, .inr (12, [.ref ao, x1, .ref ao]))] H) := by
  refine GC.of (by decide) (Nat.le_of_ble_eq_true rfl) ?_
  intro p e s m below meth c ls S hr hlk hnm hK2 hPre hl
  have hK := hK2.1
  have hx := S.1
  have hb := S.2.1
  have hl : lv_has ls 2 [(0, .ref b), (1, .ref ao)] := hl
  have hS : va_S (fun q => q = b) s.heap s.heap [] := va_S.rf
  have hP := hPre
  have hAb : (fun q => q = b) b := rfl
  refine lv_aload_n hx hb dX8_init_0 rfl (lv_at hl 0 rfl) ?_
  refine lv_aload_n hx hb dX8_init_1 rfl (lv_at hl 1 rfl) ?_
  refine s10_p0 (ao := ao) S hK hP q573 (hnm.trans rfl) hS hAb dX8_init_2 (fun H locs hP hS => ?_)
  refine lv_aload_n hx hb dX8_init_5 rfl (lv_at hl 0 rfl) ?_
  refine W.objInit (rest := []) S.1 S.2.1 S.2.2.2.1 (S.2.2.2.2 _ q571) (S.2.2.2.2 _ q100) (S.2.2.2.2 _ q101) rfl (hl.1.trans S.2.2.1.symm) rfl dX8_init_6 (Nat.le_of_ble_eq_true rfl) (Nat.le_of_ble_eq_true rfl) ?_
  refine W.eq (g2 := F0 m 9 ls []) rfl ?_
  exact g_vret S hr hlk hS dX8_init_9 ⟨Nat.le_of_ble_eq_true rfl, Nat.le_of_ble_eq_true rfl⟩ (⟨rfl, hP⟩)
set_option maxHeartbeats 4000000 in
theorem g9_init (l : Launch) (D : va_G) (dA : Nat → ClassId) (b ao : Nat) (x0 x1 : Value) : GC l yX9_init cX9_init 2 none 2 51 0 0 (K2 D dA) [.ref b, .ref ao] (fun H => va_P D vwCl [(b, .inr (11, [x0, x1]))] H) (fun q => q = b) (fun v9 H => v9 = none ∧ va_P D vwCl [(b, .inr (11, [.ref ao, .ref ao]))] H) := by
  refine GC.of (by decide) (Nat.le_of_ble_eq_true rfl) ?_
  intro p e s m below meth c ls S hr hlk hnm hK2 hPre hl
  have hK := hK2.1
  have hx := S.1
  have hb := S.2.1
  have hl : lv_has ls 2 [(0, .ref b), (1, .ref ao)] := hl
  have hS : va_S (fun q => q = b) s.heap s.heap [] := va_S.rf
  have hP := hPre
  have hAb : (fun q => q = b) b := rfl
  refine lv_aload_n hx hb dX9_init_0 rfl (lv_at hl 0 rfl) ?_
  refine lv_aload_n hx hb dX9_init_1 rfl (lv_at hl 1 rfl) ?_
  refine s9_p1 (ao := ao) S hK hP q572 (hnm.trans rfl) hS hAb dX9_init_2 (fun H locs y0 hP hS => ?_)
  refine lv_aload_n hx hb dX9_init_5 rfl (lv_at hl 0 rfl) ?_
  refine lv_aload_n hx hb dX9_init_6 rfl (lv_at hl 1 rfl) ?_
  refine gc_IN (rest := []) [.ref ao] 1 S Wm_K2 hK2 hS (fun q h => h) (g8_init9 l D dA b ao y0) q570 q87 (hK2.2.1 _ q568 rfl) q569 rfl (by decide +kernel : yX8_init.cls ≠ "java/lang/invoke/MethodHandle" ∧ yX8_init.cls ≠ "java/lang/invoke/VarHandle" ∧ (parseMethodDescriptor yX8_init.desc).map (fun d => d.parameters.length) = some 1) rfl ⟨Nat.le_of_ble_eq_true rfl, Nat.le_of_ble_eq_true rfl⟩ hl.1 (Nat.le_of_ble_eq_true rfl) dX9_init_7 ⟨Nat.le_of_ble_eq_true rfl, Nat.le_of_ble_eq_true rfl⟩ (hP) (fun v9 H locs hp9 hz9 ho9 hS => ?_) rfl
  obtain ⟨rfl, hP⟩ := hp9
  refine W.eq (g2 := F0 m 10 ls []) rfl ?_
  exact g_vret S hr hlk hS dX9_init_10 ⟨Nat.le_of_ble_eq_true rfl, Nat.le_of_ble_eq_true rfl⟩ (⟨rfl, hP⟩)
set_option maxHeartbeats 4000000 in
theorem g10_init (l : Launch) (D : va_G) (dA : Nat → ClassId) (b ao : Nat) (x0 x1 x2 : Value) (v : Int32) : GC l yX10_init cX10_init 3 none 2 51 0 0 (K2 D dA) [.ref b, .ref ao, .int v] (fun H => va_P D vwCl [(b, .inr (12, [x0, x1, x2]))] H) (fun q => q = b) (fun v9 H => v9 = none ∧ va_P D vwCl [(b, .inr (12, [.ref ao, .int v, .ref ao]))] H) := by
  refine GC.of (by decide) (Nat.le_of_ble_eq_true rfl) ?_
  intro p e s m below meth c ls S hr hlk hnm hK2 hPre hl
  have hK := hK2.1
  have hx := S.1
  have hb := S.2.1
  have hl : lv_has ls 3 [(0, .ref b), (1, .ref ao), (2, .int v)] := hl
  have hS : va_S (fun q => q = b) s.heap s.heap [] := va_S.rf
  have hP := hPre
  have hAb : (fun q => q = b) b := rfl
  refine lv_aload_n hx hb dX10_init_0 rfl (lv_at hl 0 rfl) ?_
  refine lv_aload_n hx hb dX10_init_1 rfl (lv_at hl 1 rfl) ?_
  refine s10_p2 (ao := ao) S hK hP q612 (hnm.trans rfl) hS hAb dX10_init_2 (fun H locs y0 hP hS => ?_)
  refine lv_aload_n hx hb dX10_init_5 rfl (lv_at hl 0 rfl) ?_
  refine lv_aload_n hx hb dX10_init_6 rfl (lv_at hl 1 rfl) ?_
  refine gc_IN (rest := []) [.ref ao] 1 S Wm_K2 hK2 hS (fun q h => h) (g8_init10 l D dA b ao y0 x1) q570 q87 (hK2.2.1 _ q610 rfl) q569 rfl (by decide +kernel : yX8_init.cls ≠ "java/lang/invoke/MethodHandle" ∧ yX8_init.cls ≠ "java/lang/invoke/VarHandle" ∧ (parseMethodDescriptor yX8_init.desc).map (fun d => d.parameters.length) = some 1) rfl ⟨Nat.le_of_ble_eq_true rfl, Nat.le_of_ble_eq_true rfl⟩ hl.1 (Nat.le_of_ble_eq_true rfl) dX10_init_7 ⟨Nat.le_of_ble_eq_true rfl, Nat.le_of_ble_eq_true rfl⟩ (hP) (fun v9 H locs hp9 hz9 ho9 hS => ?_) rfl
  obtain ⟨rfl, hP⟩ := hp9
  refine W.eq (g2 := F0 m 10 ls []) rfl ?_
  refine lv_aload_n hx hb dX10_init_10 rfl (lv_at hl 0 rfl) ?_
  refine lv_iload_n hx hb dX10_init_11 rfl (lv_at hl 2 rfl) ?_
  refine s10_p1 S hK hP q611 (hnm.trans rfl) hS hAb dX10_init_12 (fun H locs hP hS => ?_)
  exact g_vret S hr hlk hS dX10_init_15 ⟨Nat.le_of_ble_eq_true rfl, Nat.le_of_ble_eq_true rfl⟩ (⟨rfl, hP⟩)
set_option maxHeartbeats 4000000 in
theorem g0_bridge (l : Launch) (D : va_G) (dA : Nat → ClassId) (a : Nat → Nat) (hI : kInj a) (σ : MS) (n : Nat) (net : Nat → Nat) (hG : KG σ n net) (T : Nat) (hSN : SNc σ T) (hT : T < 2 ^ 29) (sz : Nat) (hkA : ∀ q, kAd a q → q < sz) (kv : Int32) : GC l yX0_bridge cX0_bridge 2 (some .int) 5 116 1 2 (K2 D dA) [.ref (a 0), .int kv] (fun H => va_P D vwCl (kW dA a σ) H ∧ sz ≤ H.size) (fun q => kAd a q ∨ sz ≤ q) (fun v9 H => v9 = some (.int (spBridge n net kv)) ∧ ∃ σ9, PTc σ σ9 T ∧ va_P D vwCl (kW dA a σ9) H) := by
  refine GC.of (by decide) (Nat.le_of_ble_eq_true rfl) ?_
  intro p e s m below meth c ls S hr hlk hnm hK2 hPre hl
  have hK := hK2.1
  have hx := S.1
  have hb := S.2.1
  have hl : lv_has ls 2 [(0, .ref (a 0)), (1, .int kv)] := hl
  have hS : va_S (fun q => kAd a q ∨ sz ≤ q) s.heap s.heap [] := va_S.rf
  obtain ⟨hP, hsz⟩ := hPre
  have hn := hG.1
  have h0 := hG.2.1
  have hnet := hG.2.2.2
  refine lv_iload_n hx hb dX0_bridge_0 rfl (lv_at hl 1 rfl) ?_
  refine lv_i2l hx hb dX0_bridge_1 rfl ?_
  refine lv_ldc2 (v := (-1)) hx hb S.2.2.2.1 (S.2.2.2.2 _ q561) dX0_bridge_2 ?_
  refine lv_ldc2 (v := 11) hx hb S.2.2.2.1 (S.2.2.2.2 _ q562) dX0_bridge_5 ?_
  refine rc_Si (rest := []) [.long kv.toInt64, .long (-1), .long 11] 3 S hK (r0_in l D dA kv.toInt64 (-1) 11) wl_X0_49 wd_X0_X0_in rfl ⟨Nat.le_of_ble_eq_true rfl, Nat.le_of_ble_eq_true rfl⟩ hl.1 (Nat.le_of_ble_eq_true rfl) dX0_bridge_8 ⟨Nat.le_of_ble_eq_true rfl, Nat.le_of_ble_eq_true rfl⟩ (trivial) ?_ rfl
  refine topi (z := b2i (inR kv (-1) 11)) (congrArg b2i (inL_eq kv (-1) 11)) ?_
  refine lv_if_ne (tgt := 16) hx hb dX0_bridge_11 (by decide) (fun c_11 => ?_) (fun c_11 => ?_)
  · have c_11 := b2i_ne0.mp c_11
    have hkv : inR kv (-1) 11 = true := c_11
    refine lv_aload_n hx hb dX0_bridge_16 rfl (lv_at hl 0 rfl) ?_
    refine k_get (v := .int (σ.1 0)) S hK hP 0 (by decide) fl_X0_45 rfl dX0_bridge_17 rfl ?_
    refine topi (z := nI n) (h0) ?_
    refine lv_if_eq (tgt := 30) hx hb dX0_bridge_20 (by decide) (fun c_20 => ?_) (fun c_20 => ?_)
    · have c_20 : n = 0 := nI_inj (by omega) (by decide) c_20
      refine lv_bipush (v := (-3)) hx hb dX0_bridge_30 (by decide) ?_
      refine lv_goto (tgt := 47) hx hb dX0_bridge_32 (by decide) ?_
      exact g_iret S hr hlk hS dX0_bridge_47 ⟨Nat.le_of_ble_eq_true rfl, Nat.le_of_ble_eq_true rfl⟩ (⟨by first | (simp [spBridge, *]; done) | (simp [spBridge, jnB, *]; done), ⟨σ, PTc.rf hSN, hP⟩⟩)
    · have c_20 : ¬ n = 0 := fun h => c_20 (congrArg nI h)
      refine lv_aload_n hx hb dX0_bridge_23 rfl (lv_at hl 0 rfl) ?_
      refine rc_Vi (rest := []) [] 0 S hK (r0_isJoined l D dA a σ n net hG (by first | assumption | omega | decide)) wl_X0_228 wd_X0_X0_isJoined rfl ⟨Nat.le_of_ble_eq_true rfl, Nat.le_of_ble_eq_true rfl⟩ (k_recv hK hP) hl.1 (Nat.le_of_ble_eq_true rfl) dX0_bridge_24 ⟨Nat.le_of_ble_eq_true rfl, Nat.le_of_ble_eq_true rfl⟩ (hP) ?_ rfl
      refine lv_if_ne (tgt := 35) hx hb dX0_bridge_27 (by decide) (fun c_27 => ?_) (fun c_27 => ?_)
      · have c_27 := b2i_ne0.mp c_27
        refine g_new (C := RX9) (T := TX9) (N := 2) (ci := 11) (fs := [.null, .null]) S in_X9 tyX9 tyX9_ok q563 q564 q88 hK hS (fun q h => Or.inr (Nat.le_trans hsz h)) rfl (by decide) (Nat.le_of_ble_eq_true rfl) (Nat.le_of_ble_eq_true rfl) dX0_bridge_35 (fun g9 H hg9 hPg hz1 ho1 hS => ?_)
        have hgs : sz ≤ g9 := by rw [hg9]; exact hsz
        refine lv_dup hx hb dX0_bridge_38 rfl ?_
        refine lv_aload_n hx hb dX0_bridge_39 rfl (lv_at hl 0 rfl) ?_
        refine gc_IN (rest := [.ref g9]) [.ref (a 0)] 1 S Wm_K2 hK2 hS (fun q h => Or.inr (by rw [show q = g9 from h]; exact hgs)) (g9_init l D dA g9 (a 0) .null .null) q567 q88 (hK2.2.1 _ q565 rfl) q566 rfl (by decide +kernel : yX9_init.cls ≠ "java/lang/invoke/MethodHandle" ∧ yX9_init.cls ≠ "java/lang/invoke/VarHandle" ∧ (parseMethodDescriptor yX9_init.desc).map (fun d => d.parameters.length) = some 1) rfl ⟨Nat.le_of_ble_eq_true rfl, Nat.le_of_ble_eq_true rfl⟩ hl.1 (Nat.le_of_ble_eq_true rfl) dX0_bridge_40 ⟨Nat.le_of_ble_eq_true rfl, Nat.le_of_ble_eq_true rfl⟩ (hPg) (fun v9 H locs hp9 hz9 ho9 hS => ?_) rfl
        obtain ⟨rfl, hPg⟩ := hp9
        refine W.eq (g2 := F0 m 43 ls [.ref g9]) rfl ?_
        have hng : ¬ kAd a g9 := fun h => absurd (hkA g9 h) (Nat.not_lt.2 hgs)
        have hP := kW_fr (A := fun q => q = g9) hI hP (fun q h h9 => (ho9 q (by omega) h9).trans (ho1 q h)) (fun q h h9 => hng (by rw [← show q = g9 from h9]; exact h))
        refine lv_iload_n hx hb dX0_bridge_43 rfl (lv_at hl 1 rfl) ?_
        refine gc_U (x := ⟨"CallRounds$Bridges", "tells", "(I)I"⟩) (rest := []) [.int kv] 1 S Wm_K2 hK2 hS (fun q h => Or.inl h) (KC2.gc (k9_tells l D dA a hI σ (fun H => va_P D vwCl [(g9, .inr (11, [.ref (a 0), .ref (a 0)]))] H) (ring_stb hng) g9 n net hG (fun _ h => h) T hSN hT kv hkv)) (lw_U q579 q580 q582 q583 q87 q584) (dl_code S.2.2.2.2 q583 q584) (by decide +kernel) rfl ⟨Nat.le_of_ble_eq_true rfl, Nat.le_of_ble_eq_true rfl⟩ (va_recv hK hPg (ci := 11) (q0 := 0) rfl rfl) hl.1 (Nat.le_of_ble_eq_true rfl) dX0_bridge_44 ⟨Nat.le_of_ble_eq_true rfl, Nat.le_of_ble_eq_true rfl⟩ ⟨hP, hPg⟩ (fun v9 H locs hp9 hz9 ho9 hS => ?_) rfl
        obtain ⟨σ9, ⟨rfl, hPT⟩, hP⟩ := hp9
        refine W.eq (g2 := F0 m 47 ls [.int (spSearch (inN n (brB net n)) kv)]) rfl ?_
        exact g_iret S hr hlk hS dX0_bridge_47 ⟨Nat.le_of_ble_eq_true rfl, Nat.le_of_ble_eq_true rfl⟩ (⟨by simp [spBridge, *], σ9, hPT, hP⟩)
      · have c_27 := b2i_eq0.mp c_27
        refine lv_bipush (v := (-3)) hx hb dX0_bridge_30 (by decide) ?_
        refine lv_goto (tgt := 47) hx hb dX0_bridge_32 (by decide) ?_
        exact g_iret S hr hlk hS dX0_bridge_47 ⟨Nat.le_of_ble_eq_true rfl, Nat.le_of_ble_eq_true rfl⟩ (⟨by first | (simp [spBridge, *]; done) | (simp [spBridge, jnB, *]; done), ⟨σ, PTc.rf hSN, hP⟩⟩)
  · have c_11 := b2i_eq0.mp c_11
    have c_11 : inR kv (-1) 11 = false := c_11
    refine lv_iconst (v := (-1)) hx hb dX0_bridge_14 (by decide) ?_
    exact g_iret S hr hlk hS dX0_bridge_15 ⟨Nat.le_of_ble_eq_true rfl, Nat.le_of_ble_eq_true rfl⟩ (⟨by simp [spBridge, *], ⟨σ, PTc.rf hSN, hP⟩⟩)
set_option maxHeartbeats 4000000 in
theorem g0_mend (l : Launch) (D : va_G) (dA : Nat → ClassId) (a : Nat → Nat) (hI : kInj a) (σ : MS) (n : Nat) (net : Nat → Nat) (hG : KG σ n net) (T : Nat) (hSN : SNc σ T) (hT : T < 2 ^ 29) (sz : Nat) (hkA : ∀ q, kAd a q → q < sz) (rv kv : Int32) : GC l yX0_mend cX0_mend 3 (some .int) 23 730 1 3 (K2 D dA) [.ref (a 0), .int rv, .int kv] (fun H => va_P D vwCl (kW dA a σ) H ∧ sz ≤ H.size) (fun q => kAd a q ∨ sz ≤ q) (fun v9 H => v9 = some (.int (spMend n net rv kv)) ∧ ∃ σ9, PTc σ σ9 T ∧ va_P D vwCl (kW dA a σ9) H) := by
  refine GC.of (by decide) (Nat.le_of_ble_eq_true rfl) ?_
  intro p e s m below meth c ls S hr hlk hnm hK2 hPre hl
  have hK := hK2.1
  have hx := S.1
  have hb := S.2.1
  have hl : lv_has ls 3 [(0, .ref (a 0)), (1, .int rv), (2, .int kv)] := hl
  have hS : va_S (fun q => kAd a q ∨ sz ≤ q) s.heap s.heap [] := va_S.rf
  obtain ⟨hP, hsz⟩ := hPre
  have hn := hG.1
  have h0 := hG.2.1
  have hnet := hG.2.2.2
  refine lv_iload_n hx hb dX0_mend_0 rfl (lv_at hl 1 rfl) ?_
  refine rc_Si (rest := []) [.int rv] 1 S hK (r0_noRule l D dA rv) wl_X0_157 wd_X0_X0_noRule rfl ⟨Nat.le_of_ble_eq_true rfl, Nat.le_of_ble_eq_true rfl⟩ hl.1 (Nat.le_of_ble_eq_true rfl) dX0_mend_1 ⟨Nat.le_of_ble_eq_true rfl, Nat.le_of_ble_eq_true rfl⟩ (trivial) ?_ rfl
  refine lv_if_ne (tgt := 21) hx hb dX0_mend_4 (by decide) (fun c_4 => ?_) (fun c_4 => ?_)
  · have c_4 := b2i_ne0.mp c_4
    have c_4 : inR rv 0 3 = false := by simpa using c_4
    refine lv_iconst (v := (-1)) hx hb dX0_mend_21 (by decide) ?_
    exact g_iret S hr hlk hS dX0_mend_22 ⟨Nat.le_of_ble_eq_true rfl, Nat.le_of_ble_eq_true rfl⟩ (⟨by simp [spMend, *], ⟨σ, PTc.rf hSN, hP⟩⟩)
  · have c_4 := b2i_eq0.mp c_4
    have c_4 : inR rv 0 3 = true := by simpa using c_4
    refine lv_iload_n hx hb dX0_mend_7 rfl (lv_at hl 2 rfl) ?_
    refine lv_i2l hx hb dX0_mend_8 rfl ?_
    refine lv_ldc2 (v := (-1)) hx hb S.2.2.2.1 (S.2.2.2.2 _ q561) dX0_mend_9 ?_
    refine lv_ldc2 (v := 11) hx hb S.2.2.2.1 (S.2.2.2.2 _ q562) dX0_mend_12 ?_
    refine rc_Si (rest := []) [.long kv.toInt64, .long (-1), .long 11] 3 S hK (r0_in l D dA kv.toInt64 (-1) 11) wl_X0_49 wd_X0_X0_in rfl ⟨Nat.le_of_ble_eq_true rfl, Nat.le_of_ble_eq_true rfl⟩ hl.1 (Nat.le_of_ble_eq_true rfl) dX0_mend_15 ⟨Nat.le_of_ble_eq_true rfl, Nat.le_of_ble_eq_true rfl⟩ (trivial) ?_ rfl
    refine topi (z := b2i (inR kv (-1) 11)) (congrArg b2i (inL_eq kv (-1) 11)) ?_
    refine lv_if_ne (tgt := 23) hx hb dX0_mend_18 (by decide) (fun c_18 => ?_) (fun c_18 => ?_)
    · have c_18 := b2i_ne0.mp c_18
      have hkv : inR kv (-1) 11 = true := c_18
      refine lv_aload_n hx hb dX0_mend_23 rfl (lv_at hl 0 rfl) ?_
      refine k_get (v := .int (σ.1 0)) S hK hP 0 (by decide) fl_X0_45 rfl dX0_mend_24 rfl ?_
      refine topi (z := nI n) (h0) ?_
      refine lv_if_ne (tgt := 35) hx hb dX0_mend_27 (by decide) (fun c_27 => ?_) (fun c_27 => ?_)
      · have c_27 : ¬ n = 0 := fun h => c_27 (congrArg nI h)
        obtain ⟨r, hr9, rfl⟩ := inR_some (k := 3) (by decide) c_4
        have hr4 : r < 4 := by omega
        have hrx : (nI r).toNatClampNeg = r := nI_clamp (by omega)
        have hry := inR_nI (k := 3) (show r ≤ 3 by omega) (by decide)
        refine g_new (C := RX10) (T := TX10) (N := 3) (ci := 12) (fs := [.null, .int 0, .null]) S in_X10 tyX10 tyX10_ok q605 q606 q89 hK hS (fun q h => Or.inr (Nat.le_trans hsz h)) rfl (by decide) (Nat.le_of_ble_eq_true rfl) (Nat.le_of_ble_eq_true rfl) dX0_mend_35 (fun g9 H hg9 hPg hz1 ho1 hS => ?_)
        have hgs : sz ≤ g9 := by rw [hg9]; exact hsz
        refine lv_dup hx hb dX0_mend_38 rfl ?_
        refine lv_aload_n hx hb dX0_mend_39 rfl (lv_at hl 0 rfl) ?_
        refine lv_iload_n hx hb dX0_mend_40 rfl (lv_at hl 1 rfl) ?_
        refine gc_I (rest := [.ref g9]) [.ref (a 0), .int (nI r)] 2 S Wm_K2 hK2 hS (fun q h => Or.inr (by rw [show q = g9 from h]; exact hgs)) (g10_init l D dA g9 (a 0) .null (.int 0) .null (nI r)) q609 q89 q607 q608 rfl (by decide +kernel : yX10_init.cls ≠ "java/lang/invoke/MethodHandle" ∧ yX10_init.cls ≠ "java/lang/invoke/VarHandle" ∧ (parseMethodDescriptor yX10_init.desc).map (fun d => d.parameters.length) = some 2) rfl ⟨Nat.le_of_ble_eq_true rfl, Nat.le_of_ble_eq_true rfl⟩ hl.1 (Nat.le_of_ble_eq_true rfl) dX0_mend_41 ⟨Nat.le_of_ble_eq_true rfl, Nat.le_of_ble_eq_true rfl⟩ (hPg) (fun v9 H locs hp9 hz9 ho9 hS => ?_) rfl
        obtain ⟨rfl, hPg⟩ := hp9
        refine W.eq (g2 := F0 m 44 ls [.ref g9]) rfl ?_
        have hng : ¬ kAd a g9 := fun h => absurd (hkA g9 h) (Nat.not_lt.2 hgs)
        have hP := kW_fr (A := fun q => q = g9) hI hP (fun q h h9 => (ho9 q (by omega) h9).trans (ho1 q h)) (fun q h h9 => hng (by rw [← show q = g9 from h9]; exact h))
        refine lv_iload_n hx hb dX0_mend_44 rfl (lv_at hl 2 rfl) ?_
        refine gc_U (x := ⟨"CallRounds$Mends", "tells", "(I)I"⟩) (rest := []) [.int kv] 1 S Wm_K2 hK2 hS (fun q h => Or.inl h) (KC2.gc (k10_tells l D dA a hI σ (fun H => va_P D vwCl [(g9, .inr (12, [.ref (a 0), .int (nI r), .ref (a 0)]))] H) (ring_stb hng) g9 n net hG r hr4 (fun _ h => h) T hSN hT kv hkv)) (lw_U q619 q620 q621 q583 q87 q584) (dl_code S.2.2.2.2 q583 q584) (by decide +kernel) rfl ⟨Nat.le_of_ble_eq_true rfl, Nat.le_of_ble_eq_true rfl⟩ (va_recv hK hPg (ci := 12) (q0 := 0) rfl rfl) hl.1 (Nat.le_of_ble_eq_true rfl) dX0_mend_45 ⟨Nat.le_of_ble_eq_true rfl, Nat.le_of_ble_eq_true rfl⟩ ⟨hP, hPg⟩ (fun v9 H locs hp9 hz9 ho9 hS => ?_) rfl
        obtain ⟨σ9, ⟨rfl, hPT⟩, hP⟩ := hp9
        refine W.eq (g2 := F0 m 48 ls [.int (spSearch (inN n (meB net n r)) kv)]) rfl ?_
        exact g_iret S hr hlk hS dX0_mend_48 ⟨Nat.le_of_ble_eq_true rfl, Nat.le_of_ble_eq_true rfl⟩ (⟨by unfold spMend; rw [hrx, if_neg (by rw [show inR (nI r) 0 3 = true from hry]; decide), if_neg (by rw [hkv]; decide), if_neg c_27], σ9, hPT, hP⟩)
      · have c_27 : n = 0 := nI_inj (by omega) (by decide) c_27
        refine lv_bipush (v := (-3)) hx hb dX0_mend_30 (by decide) ?_
        refine lv_goto (tgt := 48) hx hb dX0_mend_32 (by decide) ?_
        exact g_iret S hr hlk hS dX0_mend_48 ⟨Nat.le_of_ble_eq_true rfl, Nat.le_of_ble_eq_true rfl⟩ (⟨by simp [spMend, *], ⟨σ, PTc.rf hSN, hP⟩⟩)
    · have c_18 := b2i_eq0.mp c_18
      have c_18 : inR kv (-1) 11 = false := c_18
      refine lv_iconst (v := (-1)) hx hb dX0_mend_21 (by decide) ?_
      exact g_iret S hr hlk hS dX0_mend_22 ⟨Nat.le_of_ble_eq_true rfl, Nat.le_of_ble_eq_true rfl⟩ (⟨by simp [spMend, *], ⟨σ, PTc.rf hSN, hP⟩⟩)
