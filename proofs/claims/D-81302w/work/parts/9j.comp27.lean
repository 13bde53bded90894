/-! COMPONENT 27: a call is logged (by program: gen/comp27.py) -/
set_option maxRecDepth 100000
theorem ring_stb {D : va_G} {a : Nat → Nat} {b ci : Nat} {fs : List Value} (hb : ¬ kAd a b) : kStb a (fun H => va_P D vwCl [(b, .inr (ci, fs))] H) := fun _ _ _ h hS => va_P.keep h hS (one_A hb)
set_option maxHeartbeats 4000000 in
theorem g14_logged0 (l : Launch) (D : va_G) (dA : Nat → ClassId) (a : Nat → Nat) (hI : kInj a) (σ : MS) (n : Nat) (cp cq : Nat → Nat) (b j : Nat) (hb9 : ¬ kAd a b) : GN l yX14_logged cX14_logged 1 (some .int) 1 21 0 0 (K2 D dA) [.ref b] (fun H => va_P D vwCl (kW dA a σ) H ∧ va_P D vwCl [(b, .inr (3, rgF (a 0) n cp cq j))] H) (kAd a) (fun v9 H => v9 = some (.int (nI j)) ∧ va_P D vwCl (kW dA a (σ.i 2 (tr31 (σ.1 2) 4))) H) := by
  refine GN.of (Nat.le_of_ble_eq_true rfl) ?_
  intro p e s m below meth c ls S hr hlk hnm hK2 hPre hl
  have hK := hK2.1
  have hx := S.1
  have hb := S.2.1
  have hl : lv_has ls 1 [(0, .ref b)] := hl
  have hS : va_S (kAd a) s.heap s.heap [] := va_S.rf
  obtain ⟨hP, hR⟩ := hPre
  refine lv_aload_n hx hb dX14_logged_0 rfl (lv_at hl 0 rfl) ?_
  refine lv_iconst (v := 4) hx hb dX14_logged_1 (by decide) ?_
  refine gc_F (rest := []) [.int 4] 1 S (hK.1 3 (RX5, TX5, 8) rfl).2 (hK2.2.fw (C := RX5) (x := ⟨"CallRounds$Logged", "tracedBy", "(I)I"⟩) (y := yX5_tracedBy) (by simp [fxI]) q1108 q1111 q1109) Wm_K2 hK2 hS (fun q h => h) (KC2.gc (k5_traced l D dA a hI σ (fun H => va_P D vwCl [(b, .inr (3, rgF (a 0) n cp cq j))] H) (ring_stb hb9) n cp cq b j 0 (by decide) (fun _ h => h) 4)) (lw_F q1103 q1110 q1057 q82 q1058) (by decide +kernel) rfl ⟨Nat.le_of_ble_eq_true rfl, Nat.le_of_ble_eq_true rfl⟩ (va_recv hK hR (ci := 3) (q0 := 0) rfl rfl) hl.1 (Nat.le_of_ble_eq_true rfl) dX14_logged_2 ⟨Nat.le_of_ble_eq_true rfl, Nat.le_of_ble_eq_true rfl⟩ ⟨hP, hR⟩ (fun v9 H locs hp9 hz9 ho9 hS => ?_) rfl
  obtain ⟨σ9, ⟨rfl, rfl⟩, hP⟩ := hp9
  have hR : va_P D vwCl [(b, .inr (3, rgF (a 0) n cp cq j))] H := hR.fr ho9 (one_A hb9)
  refine W.eq (g2 := F0 m 7 ls [.int 0]) rfl ?_
  refine lv_aload_n hx hb dX14_logged_7 rfl (lv_at hl 0 rfl) ?_
  refine rc2_F (rest := [.int 0]) [] 0 S hK2 (r5_number l D dA a n cp cq b j 0 (by decide)) (hK.1 3 (RX5, TX5, 8) rfl).2 (hK2.2.fw (C := RX5) (x := ⟨"CallRounds$Logged", "number", "()I"⟩) (y := yX5_number) (by simp [fxI]) q1122 q1125 q1109) (lw_F q1116 q1124 q1121 q82 q1123) (by decide +kernel) rfl ⟨Nat.le_of_ble_eq_true rfl, Nat.le_of_ble_eq_true rfl⟩ (va_recv hK hR (ci := 3) (q0 := 0) rfl rfl) hl.1 (Nat.le_of_ble_eq_true rfl) dX14_logged_8 ⟨Nat.le_of_ble_eq_true rfl, Nat.le_of_ble_eq_true rfl⟩ hR (fun v9 hv9 => ?_) rfl
  subst hv9
  refine W.eq (g2 := F0 m 13 ls [.int (nI j), .int 0]) rfl ?_
  refine lv_iadd hx hb dX14_logged_13 ?_
  exact g_iret S hr hlk hS dX14_logged_14 ⟨Nat.le_of_ble_eq_true rfl, Nat.le_of_ble_eq_true rfl⟩ (⟨by rw [Int32.zero_add], hP⟩)
set_option maxHeartbeats 4000000 in
theorem g14_logged1 (l : Launch) (D : va_G) (dA : Nat → ClassId) (a : Nat → Nat) (hI : kInj a) (σ : MS) (n : Nat) (cp cq : Nat → Nat) (b j : Nat) (hb9 : ¬ kAd a b) : GN l yX14_logged cX14_logged 1 (some .int) 1 21 0 0 (K2 D dA) [.ref b] (fun H => va_P D vwCl (kW dA a σ) H ∧ va_P D vwCl [(b, .inr (4, rgF (a 0) n cp cq j))] H) (kAd a) (fun v9 H => v9 = some (.int (nI j)) ∧ va_P D vwCl (kW dA a (σ.i 2 (tr31 (σ.1 2) 4))) H) := by
  refine GN.of (Nat.le_of_ble_eq_true rfl) ?_
  intro p e s m below meth c ls S hr hlk hnm hK2 hPre hl
  have hK := hK2.1
  have hx := S.1
  have hb := S.2.1
  have hl : lv_has ls 1 [(0, .ref b)] := hl
  have hS : va_S (kAd a) s.heap s.heap [] := va_S.rf
  obtain ⟨hP, hR⟩ := hPre
  refine lv_aload_n hx hb dX14_logged_0 rfl (lv_at hl 0 rfl) ?_
  refine lv_iconst (v := 4) hx hb dX14_logged_1 (by decide) ?_
  refine gc_F (rest := []) [.int 4] 1 S (hK.1 4 (RX6, TX6, 9) rfl).2 (hK2.2.fw (C := RX6) (x := ⟨"CallRounds$Logged", "tracedBy", "(I)I"⟩) (y := yX5_tracedBy) (by simp [fxI]) q1108 q1107 q1097) Wm_K2 hK2 hS (fun q h => h) (KC2.gc (k5_traced l D dA a hI σ (fun H => va_P D vwCl [(b, .inr (4, rgF (a 0) n cp cq j))] H) (ring_stb hb9) n cp cq b j 1 (by decide) (fun _ h => h) 4)) (lw_F q1103 q1106 q1057 q82 q1058) (by decide +kernel) rfl ⟨Nat.le_of_ble_eq_true rfl, Nat.le_of_ble_eq_true rfl⟩ (va_recv hK hR (ci := 4) (q0 := 0) rfl rfl) hl.1 (Nat.le_of_ble_eq_true rfl) dX14_logged_2 ⟨Nat.le_of_ble_eq_true rfl, Nat.le_of_ble_eq_true rfl⟩ ⟨hP, hR⟩ (fun v9 H locs hp9 hz9 ho9 hS => ?_) rfl
  obtain ⟨σ9, ⟨rfl, rfl⟩, hP⟩ := hp9
  have hR : va_P D vwCl [(b, .inr (4, rgF (a 0) n cp cq j))] H := hR.fr ho9 (one_A hb9)
  refine W.eq (g2 := F0 m 7 ls [.int 0]) rfl ?_
  refine lv_aload_n hx hb dX14_logged_7 rfl (lv_at hl 0 rfl) ?_
  refine rc2_F (rest := [.int 0]) [] 0 S hK2 (r5_number l D dA a n cp cq b j 1 (by decide)) (hK.1 4 (RX6, TX6, 9) rfl).2 (hK2.2.fw (C := RX6) (x := ⟨"CallRounds$Logged", "number", "()I"⟩) (y := yX5_number) (by simp [fxI]) q1122 q1120 q1097) (lw_F q1116 q1119 q1121 q82 q1123) (by decide +kernel) rfl ⟨Nat.le_of_ble_eq_true rfl, Nat.le_of_ble_eq_true rfl⟩ (va_recv hK hR (ci := 4) (q0 := 0) rfl rfl) hl.1 (Nat.le_of_ble_eq_true rfl) dX14_logged_8 ⟨Nat.le_of_ble_eq_true rfl, Nat.le_of_ble_eq_true rfl⟩ hR (fun v9 hv9 => ?_) rfl
  subst hv9
  refine W.eq (g2 := F0 m 13 ls [.int (nI j), .int 0]) rfl ?_
  refine lv_iadd hx hb dX14_logged_13 ?_
  exact g_iret S hr hlk hS dX14_logged_14 ⟨Nat.le_of_ble_eq_true rfl, Nat.le_of_ble_eq_true rfl⟩ (⟨by rw [Int32.zero_add], hP⟩)
set_option maxHeartbeats 4000000 in
theorem g0_log (l : Launch) (D : va_G) (dA : Nat → ClassId) (a : Nat → Nat) (hI : kInj a) (σ : MS) (n nc : Nat) (cp cq : Nat → Nat) (ed cap : Nat) (mc : Int32) (f : Nat → Option Nat) (rg : Nat → Nat) (hrA : ∀ j, j < nc → ¬ kAd a (rg j)) (v : Int32) : GC l yX0_log cX0_log 3 (some .int) 3 64 0 0 (K5 D dA) [.ref (a 0), .int v] (fun H => va_P D vwCl (kW dA a σ) H ∧ DY D dA a n nc cp cq ed cap mc f rg H) (kAd a) (fun v9 H => v9 = some (.int (spLog n nc cp cq (σ.1 2) v).1) ∧ va_P D vwCl (kW dA a (σ.i 2 (spLog n nc cp cq (σ.1 2) v).2)) H) := by
  refine GC.of (by decide) (Nat.le_of_ble_eq_true rfl) ?_
  intro p e s m below meth c ls S hr hlk hnm hK5 hPre hl
  have hK2 := hK5.1
  have hK := hK2.1
  have hx := S.1
  have hb := S.2.1
  have hl : lv_has ls 3 [(0, .ref (a 0)), (1, .int v)] := hl
  have hS : va_S (kAd a) s.heap s.heap [] := va_S.rf
  obtain ⟨hP, hDY⟩ := hPre
  have hnc31 : nc < 2 ^ 31 := Nat.lt_of_le_of_lt hDY.2.1 hDY.2.2.1
  refine lv_aload_n hx hb dX0_log_0 rfl (lv_at hl 0 rfl) ?_
  refine lv_iload_n hx hb dX0_log_1 rfl (lv_at hl 1 rfl) ?_
  refine rc2_V (rest := []) [.int v] 1 S hK2 (r0_noRing l D dA a σ n nc cp cq ed cap mc f rg v) wl_X0_340 wd_X0_X0_noRing rfl ⟨Nat.le_of_ble_eq_true rfl, Nat.le_of_ble_eq_true rfl⟩ (k_recv hK hP) hl.1 (Nat.le_of_ble_eq_true rfl) dX0_log_2 ⟨Nat.le_of_ble_eq_true rfl, Nat.le_of_ble_eq_true rfl⟩ ⟨hP, hDY⟩ (fun v9 hv9 => ?_) rfl
  subst hv9
  refine W.eq (g2 := F0 m 5 ls [.int (b2i (!inP v nc))]) rfl ?_
  refine lv_if_eq (tgt := 10) hx hb dX0_log_5 (by decide) (fun c_5 => ?_) (fun c_5 => ?_)
  · have c_5 := b2i_eq0.mp c_5
    have c_5 : inP v nc = true := by simpa using c_5
    obtain ⟨jv, hjv, rfl⟩ := inP_some hnc31 c_5
    have hcl := nI_clamp (show jv < 2 ^ 31 by omega)
    have hin9 := inP_nI hjv hnc31
    refine lv_aload_n hx hb dX0_log_10 rfl (lv_at hl 0 rfl) ?_
    refine k_get (v := .ref (a 3)) S hK hP 3 (by decide) fl_X0_18 rfl dX0_log_11 rfl ?_
    refine lv_iload_n hx hb dX0_log_14 rfl (lv_at hl 1 rfl) ?_
    refine rc_Fr (X := .ref (rg jv)) (rest := []) [.int (nI jv)] 1 S hK (hK.1 2 (RJ2, TJ2, 3) rfl).2 (hK2.2.fw (C := RJ2) (x := ⟨"java/util/List", "get", "(I)Ljava/lang/Object;"⟩) (y := yJ2_get) (by simp [fxI]) q229 q227 q203) (rj_get l D dA (a 3) ed cap mc nc f hDY.2.2.1 hDY.2.1 jv (rg jv) (by omega) (hDY.2.2.2 _ (by omega)).1) (lw_F q223 q226 q228 q63 q230) (by decide +kernel) rfl ⟨Nat.le_of_ble_eq_true rfl, Nat.le_of_ble_eq_true rfl⟩ (va_recv hK hDY.1 (ci := 2) (q0 := 0) rfl rfl) hl.1 (Nat.le_of_ble_eq_true rfl) dX0_log_15 ⟨Nat.le_of_ble_eq_true rfl, Nat.le_of_ble_eq_true rfl⟩ hDY.1 ?_ rfl
    have hR := (hDY.2.2.2 jv (by omega)).2
    have hk3 := knd_lt n cp cq jv
    have hb9 := hrA jv (by omega)
    rcases (show knd n cp cq jv = 0 ∨ knd n cp cq jv = 1 ∨ knd n cp cq jv = 2 by omega) with hk | hk | hk
    · unfold rgW at hR
      rw [hk] at hR
      refine va_castY S.1 S.2.1 S.2.2.2.1 (S.2.2.2.2 _ q1092) (hK2.2.1 _ q1109 rfl) (va_recv hK hR (ci := 3) (q0 := 0) rfl rfl) dX0_log_20 ?_
      refine lv_astore_n (lv' := [(2, .ref (rg jv)), (0, .ref (a 0)), (1, .int (nI jv))]) hx hb dX0_log_23 rfl hl (by decide) rfl (fun ls hl => ?_)
      refine lv_aload_n hx hb dX0_log_24 rfl (lv_at hl 0 rfl) ?_
      refine gc_FD (rest := []) [] 0 S (hK.1 3 (RX5, TX5, 8) rfl).2 hK5.2.1 (hK2.2.fw (C := RX5) (x := ⟨"CallRounds$Logged", "logged", "()I"⟩) (y := yX14_logged) (by simp [fxI]) q1100 q1128 q1109) Wm_K2 hK2 hS (fun q h => h) (by decide) (g14_logged0 l D dA a hI σ n cp cq (rg jv) jv hb9) q1094 q1099 q1101 (by decide +kernel) rfl ⟨Nat.le_of_ble_eq_true rfl, Nat.le_of_ble_eq_true rfl⟩ (va_recv hK hR (ci := 3) (q0 := 0) rfl rfl) hl.1 (Nat.le_of_ble_eq_true rfl) dX0_log_25 ⟨Nat.le_of_ble_eq_true rfl, Nat.le_of_ble_eq_true rfl⟩ ⟨hP, hR⟩ (fun v9 H locs hp9 hz9 ho9 hS => ?_) rfl
      obtain ⟨rfl, hP⟩ := hp9
      refine W.eq (g2 := F0 m 30 ls [.int (nI jv)]) rfl ?_
      exact g_iret S hr hlk hS dX0_log_30 ⟨Nat.le_of_ble_eq_true rfl, Nat.le_of_ble_eq_true rfl⟩ (⟨by simp [spLog, hin9, hcl, hk], by rw [show (spLog n nc cp cq (σ.1 2) (nI jv)).2 = tr31 (σ.1 2) 4 by simp [spLog, hin9, hcl, hk]]; exact hP⟩)
    · unfold rgW at hR
      rw [hk] at hR
      refine va_castY S.1 S.2.1 S.2.2.2.1 (S.2.2.2.2 _ q1092) (hK2.2.1 _ q1097 rfl) (va_recv hK hR (ci := 4) (q0 := 0) rfl rfl) dX0_log_20 ?_
      refine lv_astore_n (lv' := [(2, .ref (rg jv)), (0, .ref (a 0)), (1, .int (nI jv))]) hx hb dX0_log_23 rfl hl (by decide) rfl (fun ls hl => ?_)
      refine lv_aload_n hx hb dX0_log_24 rfl (lv_at hl 0 rfl) ?_
      refine gc_FD (rest := []) [] 0 S (hK.1 4 (RX6, TX6, 9) rfl).2 hK5.2.2 (hK2.2.fw (C := RX6) (x := ⟨"CallRounds$Logged", "logged", "()I"⟩) (y := yX14_logged) (by simp [fxI]) q1100 q1098 q1097) Wm_K2 hK2 hS (fun q h => h) (by decide) (g14_logged1 l D dA a hI σ n cp cq (rg jv) jv hb9) q1094 q1099 q1101 (by decide +kernel) rfl ⟨Nat.le_of_ble_eq_true rfl, Nat.le_of_ble_eq_true rfl⟩ (va_recv hK hR (ci := 4) (q0 := 0) rfl rfl) hl.1 (Nat.le_of_ble_eq_true rfl) dX0_log_25 ⟨Nat.le_of_ble_eq_true rfl, Nat.le_of_ble_eq_true rfl⟩ ⟨hP, hR⟩ (fun v9 H locs hp9 hz9 ho9 hS => ?_) rfl
      obtain ⟨rfl, hP⟩ := hp9
      refine W.eq (g2 := F0 m 30 ls [.int (nI jv)]) rfl ?_
      exact g_iret S hr hlk hS dX0_log_30 ⟨Nat.le_of_ble_eq_true rfl, Nat.le_of_ble_eq_true rfl⟩ (⟨by simp [spLog, hin9, hcl, hk], by rw [show (spLog n nc cp cq (σ.1 2) (nI jv)).2 = tr31 (σ.1 2) 4 by simp [spLog, hin9, hcl, hk]]; exact hP⟩)
    · unfold rgW at hR
      rw [hk] at hR
      refine va_castY S.1 S.2.1 S.2.2.2.1 (S.2.2.2.2 _ q1092) (hK2.2.1 _ q1112 rfl) (va_recv hK hR (ci := 5) (q0 := 0) rfl rfl) dX0_log_20 ?_
      refine lv_astore_n (lv' := [(2, .ref (rg jv)), (0, .ref (a 0)), (1, .int (nI jv))]) hx hb dX0_log_23 rfl hl (by decide) rfl (fun ls hl => ?_)
      refine lv_aload_n hx hb dX0_log_24 rfl (lv_at hl 0 rfl) ?_
      refine gc_F (rest := []) [] 0 S (hK.1 5 (RX7, TX7, 10) rfl).2 (hK2.2.fw (C := RX7) (x := ⟨"CallRounds$Logged", "logged", "()I"⟩) (y := yX7_logged) (by simp [fxI]) q1132 q1130 q1112) Wm_K2 hK2 hS (fun q h => h) (KC2.gc (k7_logged2 l D dA a hI σ (fun H => va_P D vwCl [(rg jv, .inr (5, rgF (a 0) n cp cq jv))] H) (ring_stb hb9) n cp cq (rg jv) jv (fun _ h => h))) (lw_F q1094 q1129 q1131 q84 q1133) (by decide +kernel) rfl ⟨Nat.le_of_ble_eq_true rfl, Nat.le_of_ble_eq_true rfl⟩ (va_recv hK hR (ci := 5) (q0 := 0) rfl rfl) hl.1 (Nat.le_of_ble_eq_true rfl) dX0_log_25 ⟨Nat.le_of_ble_eq_true rfl, Nat.le_of_ble_eq_true rfl⟩ ⟨hP, hR⟩ (fun v9 H locs hp9 hz9 ho9 hS => ?_) rfl
      obtain ⟨σ9, ⟨rfl, rfl⟩, hP⟩ := hp9
      refine W.eq (g2 := F0 m 30 ls [.int 70]) rfl ?_
      exact g_iret S hr hlk hS dX0_log_30 ⟨Nat.le_of_ble_eq_true rfl, Nat.le_of_ble_eq_true rfl⟩ (⟨by simp [spLog, hin9, hcl, hk], by rw [show (spLog n nc cp cq (σ.1 2) (nI jv)).2 = tr31 (σ.1 2) 5 by simp [spLog, hin9, hcl, hk]]; exact hP⟩)
  · have c_5 := b2i_ne0.mp c_5
    have c_5 : inP v nc = false := by simpa using c_5
    refine lv_iconst (v := (-1)) hx hb dX0_log_8 (by decide) ?_
    exact g_iret S hr hlk hS dX0_log_9 ⟨Nat.le_of_ble_eq_true rfl, Nat.le_of_ble_eq_true rfl⟩ (⟨by simp [spLog, *], by rw [show (spLog n nc cp cq (σ.1 2) v).2 = σ.1 2 by simp [spLog, *], i_self]; exact hP⟩)
