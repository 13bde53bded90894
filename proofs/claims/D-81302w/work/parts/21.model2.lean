/-! MODEL 2: states, tokens, kinds, rules (by program: gen/model2.py) -/
set_option maxRecDepth 100000
set_option maxHeartbeats 4000000 in
theorem r1_stateAt (l : Launch) (D : va_G) (dA : Nat → ClassId) (a : Nat → Nat) (σ : MS) (n : Nat) (net : Nat → Nat) (nc : Nat) (cp cq : Nat → Nat) (hG : MG σ n net nc cp cq) (mn : Nat) (hmn : mn ≤ nc) : RC l yX1_stateAt cX1_stateAt 4 (some .int) 2 44 D dA [.ref (a 0), .int (nI mn)] (fun H => va_P D vwCl (mW dA a σ) H) (fun v9 => v9 = some (.int (nI (stAt n cp cq mn)))) := by
  refine RC.of (by decide) (Nat.le_of_ble_eq_true rfl) ?_
  intro p e s m below meth c ls S hr hlk hK hP hl
  have hx := S.1
  have hb := S.2.1
  have hl : lv_has ls 4 [(0, .ref (a 0)), (1, .int (nI mn))] := hl
  have hP : va_P D vwCl (mW dA a σ) s.heap := hP
  have hn := hG.1
  have hnc := hG.2.2.2.1
  refine lv_aload_n hx hb dX1_stateAt_0 rfl (lv_at hl 0 rfl) ?_
  refine lv_aload_n hx hb dX1_stateAt_1 rfl (lv_at hl 0 rfl) ?_
  refine m_get (v := .int (σ.1 5)) S hK hP 5 (by decide) fl_X1_82 rfl dX1_stateAt_2 rfl ?_
  refine topi (z := nI n) (hG.2.1) ?_
  refine rc_Vi (rest := []) [.int (nI n)] 1 S hK (r1_startOf l D dA (a 0) n (by first | assumption | omega | decide)) wl_X1_114 wd_X1_X1_startOf rfl ⟨Nat.le_of_ble_eq_true rfl, Nat.le_of_ble_eq_true rfl⟩ (m_recv hK hP) hl.1 (Nat.le_of_ble_eq_true rfl) dX1_stateAt_5 ⟨Nat.le_refl 0, Nat.le_refl 0⟩ (trivial) ?_ rfl
  refine lv_istore_n (lv' := [(2, .int (nI (st0 n))), (0, .ref (a 0)), (1, .int (nI mn))]) hx hb dX1_stateAt_8 rfl hl (by decide) rfl (fun ls hl => ?_)
  refine lv_iconst (v := 0) hx hb dX1_stateAt_9 (by decide) ?_
  refine lv_istore_n (lv' := [(3, .int 0), (2, .int (nI (st0 n))), (0, .ref (a 0)), (1, .int (nI mn))]) hx hb dX1_stateAt_10 rfl hl (by decide) rfl (fun ls hl => ?_)
  have hloop11 : ∀ (k11 i11 : Nat), i11 + k11 = mn → ∀ (ls : Array Slot), lv_has ls 4 [(3, .int (nI i11)), (2, .int (nI (stAt n cp cq i11))), (0, .ref (a 0)), (1, .int (nI mn))] → W p l e ({ frames := 2, cells := 0, slots := 0, locals := 44 }) s m [.ref (a 0), .int (nI mn)].toArray below meth c s.heap [] 0 0 (RZ below (fun v9 => v9 = some (.int (nI (stAt n cp cq mn)))) [.ref (a 0), .int (nI mn)] s) (F0 m 11 ls []) := by
    intro k11
    induction k11 with
    | zero =>
      intro i11 hi11 ls hl
      have hi11 : i11 = mn := by omega
      refine lv_iload_n hx hb dX1_stateAt_11 rfl (lv_at hl 0 rfl) ?_
      refine lv_iload_n hx hb dX1_stateAt_12 rfl (lv_at hl 3 rfl) ?_
      refine lv_icmp_ge (tgt := 39) hx hb dX1_stateAt_13 (by decide) (fun c_13 => ?_) (fun c_13 => absurd (show nI mn ≤ nI i11 from nI_le (by omega) (by omega)) c_13)
      refine lv_iload_n hx hb dX1_stateAt_39 rfl (lv_at hl 1 rfl) ?_
      exact r_iret S hr hlk dX1_stateAt_40 (congrArg (fun z : Int32 => some (Value.int z)) (show nI (stAt n cp cq i11) = nI (stAt n cp cq mn) from by rw [hi11]))
    | succ k11 ih11 =>
      intro i11 hi11 ls hl
      have hlt11 : i11 < mn := by omega
      have hs9 : stAt n cp cq i11 < 65536 := stAt_lt hn i11 (fun j hj => ⟨by have := (hG.2.2.2.2.2 j (by omega)).2.2; omega, by have := (hG.2.2.2.2.2 j (by omega)).2.2; omega⟩)
      have hcq := hG.2.2.2.2.2 i11 (by omega)
      refine lv_iload_n hx hb dX1_stateAt_11 rfl (lv_at hl 0 rfl) ?_
      refine lv_iload_n hx hb dX1_stateAt_12 rfl (lv_at hl 3 rfl) ?_
      refine lv_icmp_ge (tgt := 39) hx hb dX1_stateAt_13 (by decide) (fun c_13 => absurd c_13 (show ¬ nI mn ≤ nI i11 from nI_ge (by omega) (by omega))) (fun c_13 => ?_)
      refine lv_iload_n hx hb dX1_stateAt_16 rfl (lv_at hl 1 rfl) ?_
      refine lv_aload_n hx hb dX1_stateAt_17 rfl (lv_at hl 2 rfl) ?_
      refine m_get (v := .ref (a 10)) S hK hP 10 (by decide) fl_X1_25 rfl dX1_stateAt_18 rfl ?_
      refine lv_iload_n hx hb dX1_stateAt_21 rfl (lv_at hl 0 rfl) ?_
      refine m_aldn (j := i11) (v := nI (cp i11)) S hK hP 10 (by decide) rfl (show i11 < 12 by omega) dX1_stateAt_22 ((hG.2.2.2.2.2 i11 (by omega)).1) ?_
      refine lv_aload_n hx hb dX1_stateAt_23 rfl (lv_at hl 2 rfl) ?_
      refine m_get (v := .ref (a 11)) S hK hP 11 (by decide) fl_X1_28 rfl dX1_stateAt_24 rfl ?_
      refine lv_iload_n hx hb dX1_stateAt_27 rfl (lv_at hl 0 rfl) ?_
      refine m_aldn (j := i11) (v := nI (cq i11)) S hK hP 11 (by decide) rfl (show i11 < 12 by omega) dX1_stateAt_28 ((hG.2.2.2.2.2 i11 (by omega)).2.1) ?_
      refine rc_Si (rest := []) [.int (nI (stAt n cp cq i11)), .int (nI (cp i11)), .int (nI (cq i11))] 3 S hK (r1_afterCall l D dA (stAt n cp cq i11) (cp i11) (cq i11) (by first | assumption | omega | decide) (by first | assumption | omega | decide) (by first | assumption | omega | decide)) wl_X1_117 wd_X1_X1_afterCall rfl ⟨Nat.le_of_ble_eq_true rfl, Nat.le_of_ble_eq_true rfl⟩ hl.1 (Nat.le_of_ble_eq_true rfl) dX1_stateAt_29 ⟨Nat.le_refl 0, Nat.le_refl 0⟩ (trivial) ?_ rfl
      refine lv_istore_n (lv' := [(2, .int (nI (aft (stAt n cp cq i11) (cp i11) (cq i11)))), (3, .int (nI i11)), (0, .ref (a 0)), (1, .int (nI mn))]) hx hb dX1_stateAt_32 rfl hl (by decide) rfl (fun ls hl => ?_)
      refine lv_iinc (v := nI (i11 + 1)) (lv' := [(3, .int (nI (i11 + 1))), (2, .int (nI (aft (stAt n cp cq i11) (cp i11) (cq i11)))), (0, .ref (a 0)), (1, .int (nI mn))]) hx hb dX1_stateAt_33 hl (k := 1) rfl (nI_1 _) (by decide) rfl (fun ls hl => ?_)
      refine lv_goto (tgt := 11) hx hb dX1_stateAt_36 (by decide) ?_
      have e11_2 : nI (stAt n cp cq (i11 + 1)) = nI (aft (stAt n cp cq i11) (cp i11) (cq i11)) := by rfl
      exact ih11 (i11 + 1) (by omega) ls (by rw [e11_2]; exact lv_sub hl [0, 1, 2, 3] rfl)
  exact hloop11 (mn) 0 (by omega) ls (lv_sub hl [0, 1, 2, 3] rfl)
set_option maxHeartbeats 4000000 in
theorem r1_tokensNow (l : Launch) (D : va_G) (dA : Nat → ClassId) (a : Nat → Nat) (σ : MS) (n : Nat) (net : Nat → Nat) (nc : Nat) (cp cq : Nat → Nat) (hG : MG σ n net nc cp cq) (r : Nat) (hr4 : r < 4) : RC l yX1_tokensNow cX1_tokensNow 4 (some .int) 1 23 D dA [.ref (a 0), .int (nI r)] (fun H => va_P D vwCl (mW dA a σ) H) (fun v9 => v9 = some (.int (nI (tkN n r cp cq nc)))) := by
  refine RC.of (by decide) (Nat.le_of_ble_eq_true rfl) ?_
  intro p e s m below meth c ls S hr hlk hK hP hl
  have hx := S.1
  have hb := S.2.1
  have hl : lv_has ls 4 [(0, .ref (a 0)), (1, .int (nI r))] := hl
  have hP : va_P D vwCl (mW dA a σ) s.heap := hP
  have hn := hG.1
  have hnc := hG.2.2.2.1
  refine lv_iconst (v := 1) hx hb dX1_tokensNow_0 (by decide) ?_
  refine lv_aload_n hx hb dX1_tokensNow_1 rfl (lv_at hl 0 rfl) ?_
  refine m_get (v := .int (σ.1 5)) S hK hP 5 (by decide) fl_X1_82 rfl dX1_tokensNow_2 rfl ?_
  refine topi (z := nI n) (hG.2.1) ?_
  refine lv_ishl hx hb dX1_tokensNow_5 ?_
  refine lv_iconst (v := 1) hx hb dX1_tokensNow_6 (by decide) ?_
  refine lv_isub hx hb dX1_tokensNow_7 ?_
  refine topi (z := nI (al n)) (al_eq n hn) ?_
  refine lv_istore_n (lv' := [(2, .int (nI (al n))), (0, .ref (a 0)), (1, .int (nI r))]) hx hb dX1_tokensNow_8 rfl hl (by decide) rfl (fun ls hl => ?_)
  refine lv_iconst (v := 0) hx hb dX1_tokensNow_9 (by decide) ?_
  refine lv_istore_n (lv' := [(3, .int 0), (2, .int (nI (al n))), (0, .ref (a 0)), (1, .int (nI r))]) hx hb dX1_tokensNow_10 rfl hl (by decide) rfl (fun ls hl => ?_)
  have hloop11 : ∀ (k11 i11 : Nat), i11 + k11 = nc → ∀ (ls : Array Slot), lv_has ls 4 [(3, .int (nI i11)), (2, .int (nI (tkN n r cp cq i11))), (0, .ref (a 0)), (1, .int (nI r))] → W p l e ({ frames := 1, cells := 0, slots := 0, locals := 23 }) s m [.ref (a 0), .int (nI r)].toArray below meth c s.heap [] 0 0 (RZ below (fun v9 => v9 = some (.int (nI (tkN n r cp cq nc)))) [.ref (a 0), .int (nI r)] s) (F0 m 11 ls []) := by
    intro k11
    induction k11 with
    | zero =>
      intro i11 hi11 ls hl
      have hi11 : i11 = nc := by omega
      refine lv_iload_n hx hb dX1_tokensNow_11 rfl (lv_at hl 0 rfl) ?_
      refine lv_aload_n hx hb dX1_tokensNow_12 rfl (lv_at hl 2 rfl) ?_
      refine m_get (v := .int (σ.1 9)) S hK hP 9 (by decide) fl_X1_103 rfl dX1_tokensNow_13 rfl ?_
      refine topi (z := nI nc) (hG.2.2.2.2.1) ?_
      refine lv_icmp_ge (tgt := 43) hx hb dX1_tokensNow_16 (by decide) (fun c_16 => ?_) (fun c_16 => absurd (show nI nc ≤ nI i11 from nI_le (by omega) (by omega)) c_16)
      refine lv_iload_n hx hb dX1_tokensNow_43 rfl (lv_at hl 1 rfl) ?_
      exact r_iret S hr hlk dX1_tokensNow_44 (congrArg (fun z : Int32 => some (Value.int z)) (show nI (tkN n r cp cq i11) = nI (tkN n r cp cq nc) from by rw [hi11]))
    | succ k11 ih11 =>
      intro i11 hi11 ls hl
      have hlt11 : i11 < nc := by omega
      have hs9 : tkN n r cp cq i11 < 16 := tkN_lt hn i11 (fun j hj => by have := (hG.2.2.2.2.2 j (by omega)).2.2; omega)
      have hcq := hG.2.2.2.2.2 i11 (by omega)
      refine lv_iload_n hx hb dX1_tokensNow_11 rfl (lv_at hl 0 rfl) ?_
      refine lv_aload_n hx hb dX1_tokensNow_12 rfl (lv_at hl 2 rfl) ?_
      refine m_get (v := .int (σ.1 9)) S hK hP 9 (by decide) fl_X1_103 rfl dX1_tokensNow_13 rfl ?_
      refine topi (z := nI nc) (hG.2.2.2.2.1) ?_
      refine lv_icmp_ge (tgt := 43) hx hb dX1_tokensNow_16 (by decide) (fun c_16 => absurd c_16 (show ¬ nI nc ≤ nI i11 from nI_ge (by omega) (by omega))) (fun c_16 => ?_)
      refine lv_iload_n hx hb dX1_tokensNow_19 rfl (lv_at hl 1 rfl) ?_
      refine lv_iload_n hx hb dX1_tokensNow_20 rfl (lv_at hl 3 rfl) ?_
      refine lv_aload_n hx hb dX1_tokensNow_21 rfl (lv_at hl 2 rfl) ?_
      refine m_get (v := .ref (a 10)) S hK hP 10 (by decide) fl_X1_25 rfl dX1_tokensNow_22 rfl ?_
      refine lv_iload_n hx hb dX1_tokensNow_25 rfl (lv_at hl 0 rfl) ?_
      refine m_aldn (j := i11) (v := nI (cp i11)) S hK hP 10 (by decide) rfl (show i11 < 12 by omega) dX1_tokensNow_26 ((hG.2.2.2.2.2 i11 (by omega)).1) ?_
      refine lv_aload_n hx hb dX1_tokensNow_27 rfl (lv_at hl 2 rfl) ?_
      refine m_get (v := .ref (a 11)) S hK hP 11 (by decide) fl_X1_28 rfl dX1_tokensNow_28 rfl ?_
      refine lv_iload_n hx hb dX1_tokensNow_31 rfl (lv_at hl 0 rfl) ?_
      refine m_aldn (j := i11) (v := nI (cq i11)) S hK hP 11 (by decide) rfl (show i11 < 12 by omega) dX1_tokensNow_32 ((hG.2.2.2.2.2 i11 (by omega)).2.1) ?_
      refine rc_Si (rest := []) [.int (nI (tkN n r cp cq i11)), .int (nI r), .int (nI (cp i11)), .int (nI (cq i11))] 4 S hK (r1_tokensAfter l D dA (tkN n r cp cq i11) r (cp i11) (cq i11) (by first | assumption | omega | decide) (by first | assumption | omega | decide) (by first | assumption | omega | decide) (by first | assumption | omega | decide)) wl_X1_121 wd_X1_X1_tokensAfter rfl ⟨Nat.le_of_ble_eq_true rfl, Nat.le_of_ble_eq_true rfl⟩ hl.1 (Nat.le_of_ble_eq_true rfl) dX1_tokensNow_33 ⟨Nat.le_refl 0, Nat.le_refl 0⟩ (trivial) ?_ rfl
      refine lv_istore_n (lv' := [(2, .int (nI (tkA r (tkN n r cp cq i11) (cp i11) (cq i11)))), (3, .int (nI i11)), (0, .ref (a 0)), (1, .int (nI r))]) hx hb dX1_tokensNow_36 rfl hl (by decide) rfl (fun ls hl => ?_)
      refine lv_iinc (v := nI (i11 + 1)) (lv' := [(3, .int (nI (i11 + 1))), (2, .int (nI (tkA r (tkN n r cp cq i11) (cp i11) (cq i11)))), (0, .ref (a 0)), (1, .int (nI r))]) hx hb dX1_tokensNow_37 hl (k := 1) rfl (nI_1 _) (by decide) rfl (fun ls hl => ?_)
      refine lv_goto (tgt := 11) hx hb dX1_tokensNow_40 (by decide) ?_
      have e11_2 : nI (tkN n r cp cq (i11 + 1)) = nI (tkA r (tkN n r cp cq i11) (cp i11) (cq i11)) := by rfl
      exact ih11 (i11 + 1) (by omega) ls (by rw [e11_2]; exact lv_sub hl [0, 1, 2, 3] rfl)
  exact hloop11 (nc) 0 (by omega) ls (lv_sub hl [0, 1, 2, 3] rfl)
set_option maxHeartbeats 4000000 in
theorem r1_isPerson (l : Launch) (D : va_G) (dA : Nat → ClassId) (a : Nat → Nat) (σ : MS) (n : Nat) (hn : σ.1 5 = nI n) (v : Int32) : RC l yX1_isPerson cX1_isPerson 2 (some .boolean) 0 0 D dA [.ref (a 0), .int v] (fun H => va_P D vwCl (mW dA a σ) H) (fun v9 => v9 = some (.int (b2i (inP v n)))) := by
  refine RC.of (by decide) (Nat.le_of_ble_eq_true rfl) ?_
  intro p e s m below meth c ls S hr hlk hK hP hl
  have hx := S.1
  have hb := S.2.1
  have hl : lv_has ls 2 [(0, .ref (a 0)), (1, .int v)] := hl
  have hP : va_P D vwCl (mW dA a σ) s.heap := hP
  refine lv_iload_n hx hb dX1_isPerson_0 rfl (lv_at hl 1 rfl) ?_
  refine lv_if_lt (tgt := 16) hx hb dX1_isPerson_1 (by decide) (fun c_1 => ?_) (fun c_1 => ?_)
  · refine lv_iconst (v := 0) hx hb dX1_isPerson_16 (by decide) ?_
    exact r_zret S hr hlk dX1_isPerson_17 (by decide) (congrArg (fun z : Int32 => some (Value.int z)) (show 0 = b2i (inP v n) from by simp [inP, b2i, *]))
  · refine lv_iload_n hx hb dX1_isPerson_4 rfl (lv_at hl 1 rfl) ?_
    refine lv_aload_n hx hb dX1_isPerson_5 rfl (lv_at hl 0 rfl) ?_
    refine m_get (v := .int (σ.1 5)) S hK hP 5 (by decide) fl_X1_82 rfl dX1_isPerson_6 rfl ?_
    refine topi (z := nI n) (hn) ?_
    refine lv_icmp_ge (tgt := 16) hx hb dX1_isPerson_9 (by decide) (fun c_9 => ?_) (fun c_9 => ?_)
    · refine lv_iconst (v := 0) hx hb dX1_isPerson_16 (by decide) ?_
      exact r_zret S hr hlk dX1_isPerson_17 (by decide) (congrArg (fun z : Int32 => some (Value.int z)) (show 0 = b2i (inP v n) from by simp [inP, b2i, *]))
    · refine lv_iconst (v := 1) hx hb dX1_isPerson_12 (by decide) ?_
      refine lv_goto (tgt := 17) hx hb dX1_isPerson_13 (by decide) ?_
      exact r_zret S hr hlk dX1_isPerson_17 (by decide) (congrArg (fun z : Int32 => some (Value.int z)) (show 1 = b2i (inP v n) from by simp [inP, b2i, *]))
set_option maxHeartbeats 4000000 in
theorem r1_isCall (l : Launch) (D : va_G) (dA : Nat → ClassId) (a : Nat → Nat) (σ : MS) (n : Nat) (hn : σ.1 9 = nI n) (v : Int32) : RC l yX1_isCall cX1_isCall 2 (some .boolean) 0 0 D dA [.ref (a 0), .int v] (fun H => va_P D vwCl (mW dA a σ) H) (fun v9 => v9 = some (.int (b2i (inP v n)))) := by
  refine RC.of (by decide) (Nat.le_of_ble_eq_true rfl) ?_
  intro p e s m below meth c ls S hr hlk hK hP hl
  have hx := S.1
  have hb := S.2.1
  have hl : lv_has ls 2 [(0, .ref (a 0)), (1, .int v)] := hl
  have hP : va_P D vwCl (mW dA a σ) s.heap := hP
  refine lv_iload_n hx hb dX1_isCall_0 rfl (lv_at hl 1 rfl) ?_
  refine lv_if_lt (tgt := 16) hx hb dX1_isCall_1 (by decide) (fun c_1 => ?_) (fun c_1 => ?_)
  · refine lv_iconst (v := 0) hx hb dX1_isCall_16 (by decide) ?_
    exact r_zret S hr hlk dX1_isCall_17 (by decide) (congrArg (fun z : Int32 => some (Value.int z)) (show 0 = b2i (inP v n) from by simp [inP, b2i, *]))
  · refine lv_iload_n hx hb dX1_isCall_4 rfl (lv_at hl 1 rfl) ?_
    refine lv_aload_n hx hb dX1_isCall_5 rfl (lv_at hl 0 rfl) ?_
    refine m_get (v := .int (σ.1 9)) S hK hP 9 (by decide) fl_X1_103 rfl dX1_isCall_6 rfl ?_
    refine topi (z := nI n) (hn) ?_
    refine lv_icmp_ge (tgt := 16) hx hb dX1_isCall_9 (by decide) (fun c_9 => ?_) (fun c_9 => ?_)
    · refine lv_iconst (v := 0) hx hb dX1_isCall_16 (by decide) ?_
      exact r_zret S hr hlk dX1_isCall_17 (by decide) (congrArg (fun z : Int32 => some (Value.int z)) (show 0 = b2i (inP v n) from by simp [inP, b2i, *]))
    · refine lv_iconst (v := 1) hx hb dX1_isCall_12 (by decide) ?_
      refine lv_goto (tgt := 17) hx hb dX1_isCall_13 (by decide) ?_
      exact r_zret S hr hlk dX1_isCall_17 (by decide) (congrArg (fun z : Int32 => some (Value.int z)) (show 1 = b2i (inP v n) from by simp [inP, b2i, *]))
set_option maxHeartbeats 4000000 in
theorem r1_learnt (l : Launch) (D : va_G) (dA : Nat → ClassId) (a : Nat → Nat) (σ : MS) (n : Nat) (net : Nat → Nat) (nc : Nat) (cp cq : Nat → Nat) (hG : MG σ n net nc cp cq) (j who : Nat) (hj : j < nc) (hw : who < 4) : RC l yX1_learnt cX1_learnt 3 (some .int) 3 67 D dA [.ref (a 0), .int (nI j), .int (nI who)] (fun H => va_P D vwCl (mW dA a σ) H) (fun v9 => v9 = some (.int (nI (lrnt n cp cq j who)))) := by
  refine RC.of (by decide) (Nat.le_of_ble_eq_true rfl) ?_
  intro p e s m below meth c ls S hr hlk hK hP hl
  have hx := S.1
  have hb := S.2.1
  have hl : lv_has ls 3 [(0, .ref (a 0)), (1, .int (nI j)), (2, .int (nI who))] := hl
  have hP : va_P D vwCl (mW dA a σ) s.heap := hP
  have hn := hG.1
  have hnc := hG.2.2.2.1
  have hst : ∀ k, k ≤ nc → stAt n cp cq k < 65536 := fun k hk => stAt_lt hn k (fun i hi => ⟨by have := (hG.2.2.2.2.2 i (by omega)).2.2; omega, by have := (hG.2.2.2.2.2 i (by omega)).2.2; omega⟩)
  have hst0 := hst j (by omega)
  have hst1 := hst (j + 1) (by omega)
  refine lv_aload_n hx hb dX1_learnt_0 rfl (lv_at hl 0 rfl) ?_
  refine lv_iload_n hx hb dX1_learnt_1 rfl (lv_at hl 1 rfl) ?_
  refine lv_iconst (v := 1) hx hb dX1_learnt_2 (by decide) ?_
  refine lv_iadd hx hb dX1_learnt_3 ?_
  refine topi (z := nI (j + 1)) (nI_1 j) ?_
  refine rc_Vi (rest := []) [.int (nI (j + 1))] 1 S hK (r1_stateAt l D dA a σ n net nc cp cq hG (j + 1) (by first | assumption | omega | decide)) wl_X1_128 wd_X1_X1_stateAt rfl ⟨Nat.le_of_ble_eq_true rfl, Nat.le_of_ble_eq_true rfl⟩ (m_recv hK hP) hl.1 (Nat.le_of_ble_eq_true rfl) dX1_learnt_4 ⟨Nat.le_refl 0, Nat.le_refl 0⟩ (hP) ?_ rfl
  refine lv_iload_n hx hb dX1_learnt_7 rfl (lv_at hl 2 rfl) ?_
  refine rc_Si (rest := []) [.int (nI (stAt n cp cq (j + 1))), .int (nI who)] 2 S hK (r1_of l D dA (stAt n cp cq (j + 1)) who (by first | assumption | omega | decide) (by first | assumption | omega | decide)) wl_X1_110 wd_X1_X1_of rfl ⟨Nat.le_of_ble_eq_true rfl, Nat.le_of_ble_eq_true rfl⟩ hl.1 (Nat.le_of_ble_eq_true rfl) dX1_learnt_8 ⟨Nat.le_refl 0, Nat.le_refl 0⟩ (trivial) ?_ rfl
  refine lv_aload_n hx hb dX1_learnt_11 rfl (lv_at hl 0 rfl) ?_
  refine lv_iload_n hx hb dX1_learnt_12 rfl (lv_at hl 1 rfl) ?_
  refine rc_Vi (rest := [.int (nI (hs4 (stAt n cp cq (j + 1)) who))]) [.int (nI j)] 1 S hK (r1_stateAt l D dA a σ n net nc cp cq hG j (by first | assumption | omega | decide)) wl_X1_128 wd_X1_X1_stateAt rfl ⟨Nat.le_of_ble_eq_true rfl, Nat.le_of_ble_eq_true rfl⟩ (m_recv hK hP) hl.1 (Nat.le_of_ble_eq_true rfl) dX1_learnt_13 ⟨Nat.le_refl 0, Nat.le_refl 0⟩ (hP) ?_ rfl
  refine lv_iload_n hx hb dX1_learnt_16 rfl (lv_at hl 2 rfl) ?_
  refine rc_Si (rest := [.int (nI (hs4 (stAt n cp cq (j + 1)) who))]) [.int (nI (stAt n cp cq j)), .int (nI who)] 2 S hK (r1_of l D dA (stAt n cp cq j) who (by first | assumption | omega | decide) (by first | assumption | omega | decide)) wl_X1_110 wd_X1_X1_of rfl ⟨Nat.le_of_ble_eq_true rfl, Nat.le_of_ble_eq_true rfl⟩ hl.1 (Nat.le_of_ble_eq_true rfl) dX1_learnt_17 ⟨Nat.le_refl 0, Nat.le_refl 0⟩ (trivial) ?_ rfl
  refine lv_iconst (v := (-1)) hx hb dX1_learnt_20 (by decide) ?_
  refine lv_ixor hx hb dX1_learnt_21 ?_
  refine lv_iand hx hb dX1_learnt_22 ?_
  exact r_iret S hr hlk dX1_learnt_23 (congrArg (fun z : Int32 => some (Value.int z)) (show (nI (hs4 (stAt n cp cq (j + 1)) who)) &&& ((nI (hs4 (stAt n cp cq j) who)) ^^^ (-1)) = nI (lrnt n cp cq j who) from andn_eq _ (hs4_lt _ _) _ (hs4_lt _ _)))
set_option maxHeartbeats 4000000 in
theorem r1_kindOf (l : Launch) (D : va_G) (dA : Nat → ClassId) (a : Nat → Nat) (σ : MS) (n : Nat) (net : Nat → Nat) (nc : Nat) (cp cq : Nat → Nat) (hG : MG σ n net nc cp cq) (j : Nat) (hj : j < nc) : RC l yX1_kindOf cX1_kindOf 4 (some .int) 4 89 D dA [.ref (a 0), .int (nI j)] (fun H => va_P D vwCl (mW dA a σ) H) (fun v9 => v9 = some (.int (nI (knd n cp cq j)))) := by
  refine RC.of (by decide) (Nat.le_of_ble_eq_true rfl) ?_
  intro p e s m below meth c ls S hr hlk hK hP hl
  have hx := S.1
  have hb := S.2.1
  have hl : lv_has ls 4 [(0, .ref (a 0)), (1, .int (nI j))] := hl
  have hP : va_P D vwCl (mW dA a σ) s.heap := hP
  have hn := hG.1
  have hnc := hG.2.2.2.1
  have hlr : ∀ w, lrnt n cp cq j w < 65536 := fun w => Nat.lt_trans (lrnt_lt n cp cq j w) (by decide)
  have hlp := hlr (cp j)
  have hlq := hlr (cq j)
  have hcj := hG.2.2.2.2.2 j (by omega)
  have hst1 : stAt n cp cq (j + 1) < 65536 := stAt_lt hn (j + 1) (fun i hi => ⟨by have := (hG.2.2.2.2.2 i (by omega)).2.2; omega, by have := (hG.2.2.2.2.2 i (by omega)).2.2; omega⟩)
  refine lv_aload_n hx hb dX1_kindOf_0 rfl (lv_at hl 0 rfl) ?_
  refine lv_iload_n hx hb dX1_kindOf_1 rfl (lv_at hl 1 rfl) ?_
  refine lv_aload_n hx hb dX1_kindOf_2 rfl (lv_at hl 0 rfl) ?_
  refine m_get (v := .ref (a 10)) S hK hP 10 (by decide) fl_X1_25 rfl dX1_kindOf_3 rfl ?_
  refine lv_iload_n hx hb dX1_kindOf_6 rfl (lv_at hl 1 rfl) ?_
  refine m_aldn (j := j) (v := nI (cp j)) S hK hP 10 (by decide) rfl (show j < 12 by omega) dX1_kindOf_7 ((hG.2.2.2.2.2 j (by omega)).1) ?_
  refine rc_Vi (rest := []) [.int (nI j), .int (nI (cp j))] 2 S hK (r1_learnt l D dA a σ n net nc cp cq hG j (cp j) (by first | assumption | omega | decide) (by first | assumption | omega | decide)) wl_X1_138 wd_X1_X1_learnt rfl ⟨Nat.le_of_ble_eq_true rfl, Nat.le_of_ble_eq_true rfl⟩ (m_recv hK hP) hl.1 (Nat.le_of_ble_eq_true rfl) dX1_kindOf_8 ⟨Nat.le_refl 0, Nat.le_refl 0⟩ (hP) ?_ rfl
  refine rc_Si (rest := []) [.int (nI (lrnt n cp cq j (cp j)))] 1 S hK (r1_bitsOf l D dA (lrnt n cp cq j (cp j)) (by first | assumption | omega | decide)) wl_X1_141 wd_X1_X1_bitsOf rfl ⟨Nat.le_of_ble_eq_true rfl, Nat.le_of_ble_eq_true rfl⟩ hl.1 (Nat.le_of_ble_eq_true rfl) dX1_kindOf_11 ⟨Nat.le_refl 0, Nat.le_refl 0⟩ (trivial) ?_ rfl
  refine lv_aload_n hx hb dX1_kindOf_14 rfl (lv_at hl 0 rfl) ?_
  refine lv_iload_n hx hb dX1_kindOf_15 rfl (lv_at hl 1 rfl) ?_
  refine lv_aload_n hx hb dX1_kindOf_16 rfl (lv_at hl 0 rfl) ?_
  refine m_get (v := .ref (a 11)) S hK hP 11 (by decide) fl_X1_28 rfl dX1_kindOf_17 rfl ?_
  refine lv_iload_n hx hb dX1_kindOf_20 rfl (lv_at hl 1 rfl) ?_
  refine m_aldn (j := j) (v := nI (cq j)) S hK hP 11 (by decide) rfl (show j < 12 by omega) dX1_kindOf_21 ((hG.2.2.2.2.2 j (by omega)).2.1) ?_
  refine rc_Vi (rest := [.int (nI (bts (lrnt n cp cq j (cp j)) 16))]) [.int (nI j), .int (nI (cq j))] 2 S hK (r1_learnt l D dA a σ n net nc cp cq hG j (cq j) (by first | assumption | omega | decide) (by first | assumption | omega | decide)) wl_X1_138 wd_X1_X1_learnt rfl ⟨Nat.le_of_ble_eq_true rfl, Nat.le_of_ble_eq_true rfl⟩ (m_recv hK hP) hl.1 (Nat.le_of_ble_eq_true rfl) dX1_kindOf_22 ⟨Nat.le_refl 0, Nat.le_refl 0⟩ (hP) ?_ rfl
  refine rc_Si (rest := [.int (nI (bts (lrnt n cp cq j (cp j)) 16))]) [.int (nI (lrnt n cp cq j (cq j)))] 1 S hK (r1_bitsOf l D dA (lrnt n cp cq j (cq j)) (by first | assumption | omega | decide)) wl_X1_141 wd_X1_X1_bitsOf rfl ⟨Nat.le_of_ble_eq_true rfl, Nat.le_of_ble_eq_true rfl⟩ hl.1 (Nat.le_of_ble_eq_true rfl) dX1_kindOf_25 ⟨Nat.le_refl 0, Nat.le_refl 0⟩ (trivial) ?_ rfl
  refine lv_iadd hx hb dX1_kindOf_28 ?_
  refine topi (z := nI (nws n cp cq j)) (nI_add _ _) ?_
  refine lv_istore_n (lv' := [(2, .int (nI (nws n cp cq j))), (0, .ref (a 0)), (1, .int (nI j))]) hx hb dX1_kindOf_29 rfl hl (by decide) rfl (fun ls hl => ?_)
  refine lv_aload_n hx hb dX1_kindOf_30 rfl (lv_at hl 1 rfl) ?_
  refine lv_iload_n hx hb dX1_kindOf_31 rfl (lv_at hl 2 rfl) ?_
  refine lv_iconst (v := 1) hx hb dX1_kindOf_32 (by decide) ?_
  refine lv_iadd hx hb dX1_kindOf_33 ?_
  refine topi (z := nI (j + 1)) (nI_1 j) ?_
  refine rc_Vi (rest := []) [.int (nI (j + 1))] 1 S hK (r1_stateAt l D dA a σ n net nc cp cq hG (j + 1) (by first | assumption | omega | decide)) wl_X1_128 wd_X1_X1_stateAt rfl ⟨Nat.le_of_ble_eq_true rfl, Nat.le_of_ble_eq_true rfl⟩ (m_recv hK hP) hl.1 (Nat.le_of_ble_eq_true rfl) dX1_kindOf_34 ⟨Nat.le_refl 0, Nat.le_refl 0⟩ (hP) ?_ rfl
  refine lv_aload_n hx hb dX1_kindOf_37 rfl (lv_at hl 1 rfl) ?_
  refine m_get (v := .ref (a 10)) S hK hP 10 (by decide) fl_X1_25 rfl dX1_kindOf_38 rfl ?_
  refine lv_iload_n hx hb dX1_kindOf_41 rfl (lv_at hl 2 rfl) ?_
  refine m_aldn (j := j) (v := nI (cp j)) S hK hP 10 (by decide) rfl (show j < 12 by omega) dX1_kindOf_42 ((hG.2.2.2.2.2 j (by omega)).1) ?_
  refine rc_Si (rest := []) [.int (nI (stAt n cp cq (j + 1))), .int (nI (cp j))] 2 S hK (r1_of l D dA (stAt n cp cq (j + 1)) (cp j) (by first | assumption | omega | decide) (by first | assumption | omega | decide)) wl_X1_110 wd_X1_X1_of rfl ⟨Nat.le_of_ble_eq_true rfl, Nat.le_of_ble_eq_true rfl⟩ hl.1 (Nat.le_of_ble_eq_true rfl) dX1_kindOf_43 ⟨Nat.le_refl 0, Nat.le_refl 0⟩ (trivial) ?_ rfl
  refine lv_iconst (v := 1) hx hb dX1_kindOf_46 (by decide) ?_
  refine lv_aload_n hx hb dX1_kindOf_47 rfl (lv_at hl 1 rfl) ?_
  refine m_get (v := .int (σ.1 5)) S hK hP 5 (by decide) fl_X1_82 rfl dX1_kindOf_48 rfl ?_
  refine topi (z := nI n) (hG.2.1) ?_
  refine lv_ishl hx hb dX1_kindOf_51 ?_
  refine lv_iconst (v := 1) hx hb dX1_kindOf_52 (by decide) ?_
  refine lv_isub hx hb dX1_kindOf_53 ?_
  refine topi (z := nI (al n)) (al_eq n hn) ?_
  refine lv_icmp_ne (tgt := 61) hx hb dX1_kindOf_54 (by decide) (fun c_54 => ?_) (fun c_54 => ?_)
  · have c_54 : ¬ hs4 (stAt n cp cq (j + 1)) (cp j) = al n := fun h => c_54 (congrArg nI h)
    refine lv_iconst (v := 0) hx hb dX1_kindOf_61 (by decide) ?_
    refine lv_istore_n (lv' := [(3, .int 0), (2, .int (nI (nws n cp cq j))), (0, .ref (a 0)), (1, .int (nI j))]) hx hb dX1_kindOf_62 rfl hl (by decide) rfl (fun ls hl => ?_)
    refine lv_iload_n hx hb dX1_kindOf_63 rfl (lv_at hl 1 rfl) ?_
    refine lv_if_ne (tgt := 71) hx hb dX1_kindOf_64 (by decide) (fun c_64 => ?_) (fun c_64 => ?_)
    · have c_64 : ¬ nws n cp cq j = 0 := fun h => c_64 (congrArg nI h)
      refine lv_iload_n hx hb dX1_kindOf_71 rfl (lv_at hl 0 rfl) ?_
      refine lv_if_eq (tgt := 79) hx hb dX1_kindOf_72 (by decide) (fun c_72 => ?_) (fun c_72 => absurd (rfl) c_72)
      refine lv_iconst (v := 1) hx hb dX1_kindOf_79 (by decide) ?_
      exact r_iret S hr hlk dX1_kindOf_80 (congrArg (fun z : Int32 => some (Value.int z)) (show 1 = nI (knd n cp cq j) from by simp [knd, *] <;> rfl))
    · have c_64 : nws n cp cq j = 0 := nI_inj (Nat.lt_of_le_of_lt (nws_le n cp cq j) (by decide)) (by decide) c_64
      refine lv_iconst (v := 0) hx hb dX1_kindOf_67 (by decide) ?_
      refine lv_goto (tgt := 80) hx hb dX1_kindOf_68 (by decide) ?_
      exact r_iret S hr hlk dX1_kindOf_80 (congrArg (fun z : Int32 => some (Value.int z)) (show 0 = nI (knd n cp cq j) from by simp [knd, *] <;> rfl))
  · have c_54 : hs4 (stAt n cp cq (j + 1)) (cp j) = al n := nI_inj (Nat.lt_trans (hs4_lt _ _) (by decide)) (Nat.lt_trans (al_lt n hn) (by decide)) c_54
    refine lv_iconst (v := 1) hx hb dX1_kindOf_57 (by decide) ?_
    refine lv_goto (tgt := 62) hx hb dX1_kindOf_58 (by decide) ?_
    refine lv_istore_n (lv' := [(3, .int 1), (2, .int (nI (nws n cp cq j))), (0, .ref (a 0)), (1, .int (nI j))]) hx hb dX1_kindOf_62 rfl hl (by decide) rfl (fun ls hl => ?_)
    refine lv_iload_n hx hb dX1_kindOf_63 rfl (lv_at hl 1 rfl) ?_
    refine lv_if_ne (tgt := 71) hx hb dX1_kindOf_64 (by decide) (fun c_64 => ?_) (fun c_64 => ?_)
    · have c_64 : ¬ nws n cp cq j = 0 := fun h => c_64 (congrArg nI h)
      refine lv_iload_n hx hb dX1_kindOf_71 rfl (lv_at hl 0 rfl) ?_
      refine lv_if_eq (tgt := 79) hx hb dX1_kindOf_72 (by decide) (fun c_72 => absurd c_72 (by decide)) (fun c_72 => ?_)
      refine lv_iconst (v := 2) hx hb dX1_kindOf_75 (by decide) ?_
      refine lv_goto (tgt := 80) hx hb dX1_kindOf_76 (by decide) ?_
      exact r_iret S hr hlk dX1_kindOf_80 (congrArg (fun z : Int32 => some (Value.int z)) (show 2 = nI (knd n cp cq j) from by simp [knd, *] <;> rfl))
    · have c_64 : nws n cp cq j = 0 := nI_inj (Nat.lt_of_le_of_lt (nws_le n cp cq j) (by decide)) (by decide) c_64
      refine lv_iconst (v := 0) hx hb dX1_kindOf_67 (by decide) ?_
      refine lv_goto (tgt := 80) hx hb dX1_kindOf_68 (by decide) ?_
      exact r_iret S hr hlk dX1_kindOf_80 (congrArg (fun z : Int32 => some (Value.int z)) (show 0 = nI (knd n cp cq j) from by simp [knd, *] <;> rfl))
set_option maxHeartbeats 4000000 in
theorem r1_mayRing (l : Launch) (D : va_G) (dA : Nat → ClassId) (b : Nat) (f : Nat → Int32) (net : Nat → Nat) (r sx tx pa qa : Nat) (hf : ∀ q, q < 4 → f q = nI (net q)) (hnet : ∀ q, q < 4 → net q < 16) (hr4 : r < 4) (hs : sx < 65536) (ht : tx < 16) (hp : pa < 4) (hq : qa < 4) : RC l yX1_mayRing cX1_mayRing 6 (some .boolean) 2 45 D dA [.ref b, .int (nI r), .int (nI sx), .int (nI tx), .int (nI pa), .int (nI qa)] (fun H => H[b]? = some (vp_cell (dA 0) (4, .inl f))) (fun v9 => v9 = some (.int (b2i (mayB net r sx tx pa qa)))) := by
  refine RC.of (by decide) (Nat.le_of_ble_eq_true rfl) ?_
  intro p e s m below meth c ls S hr hlk hK hP hl
  have hx := S.1
  have hb := S.2.1
  have hl : lv_has ls 6 [(0, .ref b), (1, .int (nI r)), (2, .int (nI sx)), (3, .int (nI tx)), (4, .int (nI pa)), (5, .int (nI qa))] := hl
  have hnum : numA net sx pa 4 < 16 := numA_lt hnet 4 (by omega)
  have hh1 := hs4_lt sx pa
  have hh2 := hs4_lt sx qa
  refine lv_iload hx hb dX1_mayRing_0 (lv_at hl 4 rfl) ?_
  refine lv_iload hx hb dX1_mayRing_2 (lv_at hl 5 rfl) ?_
  refine lv_icmp_eq (tgt := 22) hx hb dX1_mayRing_4 (by decide) (fun c_4 => ?_) (fun c_4 => ?_)
  · have c_4 : pa = qa := nI_inj (by omega) (by omega) c_4
    refine lv_iconst (v := 0) hx hb dX1_mayRing_22 (by decide) ?_
    exact r_zret S hr hlk dX1_mayRing_23 (by decide) (congrArg (fun z : Int32 => some (Value.int z)) (show 0 = b2i (mayB net r sx tx pa qa) from by simp [mayB, b2i, *]))
  · have c_4 : ¬ pa = qa := fun h => c_4 (congrArg nI h)
    refine lv_aload_n hx hb dX1_mayRing_7 rfl (lv_at hl 0 rfl) ?_
    refine lv_iload_n hx hb dX1_mayRing_8 rfl (lv_at hl 2 rfl) ?_
    refine lv_iload hx hb dX1_mayRing_9 (lv_at hl 4 rfl) ?_
    refine rc_Si (rest := []) [.ref b, .int (nI sx), .int (nI pa)] 3 S hK (r1_numbersOf l D dA b f net sx pa (hf) (by first | assumption | omega | decide) (by first | assumption | omega | decide)) wl_X1_131 wd_X1_X1_numbersOf rfl ⟨Nat.le_of_ble_eq_true rfl, Nat.le_of_ble_eq_true rfl⟩ hl.1 (Nat.le_of_ble_eq_true rfl) dX1_mayRing_11 ⟨Nat.le_refl 0, Nat.le_refl 0⟩ (hP) ?_ rfl
    refine lv_iload hx hb dX1_mayRing_14 (lv_at hl 5 rfl) ?_
    refine rc_Si (rest := []) [.int (nI (numA net sx pa 4)), .int (nI qa)] 2 S hK (r1_has l D dA (numA net sx pa 4) qa (by first | assumption | omega | decide) (by first | assumption | omega | decide)) wl_X1_106 wd_X1_X1_has rfl ⟨Nat.le_of_ble_eq_true rfl, Nat.le_of_ble_eq_true rfl⟩ hl.1 (Nat.le_of_ble_eq_true rfl) dX1_mayRing_16 ⟨Nat.le_refl 0, Nat.le_refl 0⟩ (trivial) ?_ rfl
    refine lv_if_ne (tgt := 24) hx hb dX1_mayRing_19 (by decide) (fun c_19 => ?_) (fun c_19 => ?_)
    · have c_19 := b2i_ne0.mp c_19
      refine lv_iload_n hx hb dX1_mayRing_24 rfl (lv_at hl 1 rfl) ?_
      refine lv_iconst (v := 1) hx hb dX1_mayRing_25 (by decide) ?_
      refine lv_icmp_ne (tgt := 49) hx hb dX1_mayRing_26 (by decide) (fun c_26 => ?_) (fun c_26 => ?_)
      · have c_26 : ¬ r = 1 := fun h => c_26 (congrArg nI h)
        refine lv_iload_n hx hb dX1_mayRing_49 rfl (lv_at hl 2 rfl) ?_
        refine lv_iload hx hb dX1_mayRing_50 (lv_at hl 4 rfl) ?_
        refine rc_Si (rest := []) [.int (nI sx), .int (nI pa)] 2 S hK (r1_of l D dA sx pa (by first | assumption | omega | decide) (by first | assumption | omega | decide)) wl_X1_110 wd_X1_X1_of rfl ⟨Nat.le_of_ble_eq_true rfl, Nat.le_of_ble_eq_true rfl⟩ hl.1 (Nat.le_of_ble_eq_true rfl) dX1_mayRing_52 ⟨Nat.le_refl 0, Nat.le_refl 0⟩ (trivial) ?_ rfl
        refine lv_iload_n hx hb dX1_mayRing_55 rfl (lv_at hl 2 rfl) ?_
        refine lv_iload hx hb dX1_mayRing_56 (lv_at hl 5 rfl) ?_
        refine rc_Si (rest := [.int (nI (hs4 sx pa))]) [.int (nI sx), .int (nI qa)] 2 S hK (r1_of l D dA sx qa (by first | assumption | omega | decide) (by first | assumption | omega | decide)) wl_X1_110 wd_X1_X1_of rfl ⟨Nat.le_of_ble_eq_true rfl, Nat.le_of_ble_eq_true rfl⟩ hl.1 (Nat.le_of_ble_eq_true rfl) dX1_mayRing_58 ⟨Nat.le_refl 0, Nat.le_refl 0⟩ (trivial) ?_ rfl
        refine lv_icmp_eq (tgt := 81) hx hb dX1_mayRing_61 (by decide) (fun c_61 => ?_) (fun c_61 => ?_)
        · have c_61 : hs4 sx pa = hs4 sx qa := nI_inj (by omega) (by omega) c_61
          refine lv_iconst (v := 0) hx hb dX1_mayRing_81 (by decide) ?_
          exact r_zret S hr hlk dX1_mayRing_82 (by decide) (congrArg (fun z : Int32 => some (Value.int z)) (show 0 = b2i (mayB net r sx tx pa qa) from by simp [mayB, b2i, *]))
        · have c_61 : ¬ hs4 sx pa = hs4 sx qa := fun h => c_61 (congrArg nI h)
          refine lv_iload_n hx hb dX1_mayRing_64 rfl (lv_at hl 1 rfl) ?_
          refine lv_if_eq (tgt := 77) hx hb dX1_mayRing_65 (by decide) (fun c_65 => ?_) (fun c_65 => ?_)
          · have c_65 : r = 0 := nI_inj (by omega) (by decide) c_65
            refine lv_iconst (v := 1) hx hb dX1_mayRing_77 (by decide) ?_
            refine lv_goto (tgt := 82) hx hb dX1_mayRing_78 (by decide) ?_
            exact r_zret S hr hlk dX1_mayRing_82 (by decide) (congrArg (fun z : Int32 => some (Value.int z)) (show 1 = b2i (mayB net r sx tx pa qa) from by simp [mayB, b2i, *]))
          · have c_65 : ¬ r = 0 := fun h => c_65 (congrArg nI h)
            refine lv_iload_n hx hb dX1_mayRing_68 rfl (lv_at hl 3 rfl) ?_
            refine lv_iload hx hb dX1_mayRing_69 (lv_at hl 4 rfl) ?_
            refine rc_Si (rest := []) [.int (nI tx), .int (nI pa)] 2 S hK (r1_has l D dA tx pa (by first | assumption | omega | decide) (by first | assumption | omega | decide)) wl_X1_106 wd_X1_X1_has rfl ⟨Nat.le_of_ble_eq_true rfl, Nat.le_of_ble_eq_true rfl⟩ hl.1 (Nat.le_of_ble_eq_true rfl) dX1_mayRing_71 ⟨Nat.le_refl 0, Nat.le_refl 0⟩ (trivial) ?_ rfl
            refine lv_if_eq (tgt := 81) hx hb dX1_mayRing_74 (by decide) (fun c_74 => ?_) (fun c_74 => ?_)
            · have c_74 := b2i_eq0.mp c_74
              refine lv_iconst (v := 0) hx hb dX1_mayRing_81 (by decide) ?_
              exact r_zret S hr hlk dX1_mayRing_82 (by decide) (congrArg (fun z : Int32 => some (Value.int z)) (show 0 = b2i (mayB net r sx tx pa qa) from by simp [mayB, b2i, *]))
            · have c_74 := b2i_ne0.mp c_74
              refine lv_iconst (v := 1) hx hb dX1_mayRing_77 (by decide) ?_
              refine lv_goto (tgt := 82) hx hb dX1_mayRing_78 (by decide) ?_
              exact r_zret S hr hlk dX1_mayRing_82 (by decide) (congrArg (fun z : Int32 => some (Value.int z)) (show 1 = b2i (mayB net r sx tx pa qa) from by simp [mayB, b2i, *]))
      · have c_26 : r = 1 := nI_inj (by omega) (by decide) c_26
        refine lv_iload_n hx hb dX1_mayRing_29 rfl (lv_at hl 2 rfl) ?_
        refine lv_iload hx hb dX1_mayRing_30 (lv_at hl 4 rfl) ?_
        refine rc_Si (rest := []) [.int (nI sx), .int (nI pa)] 2 S hK (r1_of l D dA sx pa (by first | assumption | omega | decide) (by first | assumption | omega | decide)) wl_X1_110 wd_X1_X1_of rfl ⟨Nat.le_of_ble_eq_true rfl, Nat.le_of_ble_eq_true rfl⟩ hl.1 (Nat.le_of_ble_eq_true rfl) dX1_mayRing_32 ⟨Nat.le_refl 0, Nat.le_refl 0⟩ (trivial) ?_ rfl
        refine lv_iload hx hb dX1_mayRing_35 (lv_at hl 5 rfl) ?_
        refine rc_Si (rest := []) [.int (nI (hs4 sx pa)), .int (nI qa)] 2 S hK (r1_has l D dA (hs4 sx pa) qa (by first | assumption | omega | decide) (by first | assumption | omega | decide)) wl_X1_106 wd_X1_X1_has rfl ⟨Nat.le_of_ble_eq_true rfl, Nat.le_of_ble_eq_true rfl⟩ hl.1 (Nat.le_of_ble_eq_true rfl) dX1_mayRing_37 ⟨Nat.le_refl 0, Nat.le_refl 0⟩ (trivial) ?_ rfl
        refine lv_if_ne (tgt := 47) hx hb dX1_mayRing_40 (by decide) (fun c_40 => ?_) (fun c_40 => ?_)
        · have c_40 := b2i_ne0.mp c_40
          refine lv_iconst (v := 0) hx hb dX1_mayRing_47 (by decide) ?_
          exact r_zret S hr hlk dX1_mayRing_48 (by decide) (congrArg (fun z : Int32 => some (Value.int z)) (show 0 = b2i (mayB net r sx tx pa qa) from by simp [mayB, b2i, *]))
        · have c_40 := b2i_eq0.mp c_40
          refine lv_iconst (v := 1) hx hb dX1_mayRing_43 (by decide) ?_
          refine lv_goto (tgt := 48) hx hb dX1_mayRing_44 (by decide) ?_
          exact r_zret S hr hlk dX1_mayRing_48 (by decide) (congrArg (fun z : Int32 => some (Value.int z)) (show 1 = b2i (mayB net r sx tx pa qa) from by simp [mayB, b2i, *]))
    · have c_19 := b2i_eq0.mp c_19
      refine lv_iconst (v := 0) hx hb dX1_mayRing_22 (by decide) ?_
      exact r_zret S hr hlk dX1_mayRing_23 (by decide) (congrArg (fun z : Int32 => some (Value.int z)) (show 0 = b2i (mayB net r sx tx pa qa) from by simp [mayB, b2i, *]))
set_option maxHeartbeats 4000000 in
theorem r1_ofPerson (l : Launch) (D : va_G) (dA : Nat → ClassId) (a : Nat → Nat) (σ : MS) (n : Nat) (net : Nat → Nat) (nc : Nat) (cp cq : Nat → Nat) (hG : MG σ n net nc cp cq) (v w : Int32) : RC l yX1_ofPerson cX1_ofPerson 4 (some .int) 3 67 D dA [.ref (a 0), .int v, .int w] (fun H => va_P D vwCl (mW dA a σ) H) (fun v9 => v9 = some (.int (spOfPerson n net (stAt n cp cq nc) (tkN n 2 cp cq nc) (tkN n 3 cp cq nc) v w))) := by
  refine RC.of (by decide) (Nat.le_of_ble_eq_true rfl) ?_
  intro p e s m below meth c ls S hr hlk hK hP hl
  have hx := S.1
  have hb := S.2.1
  have hl : lv_has ls 4 [(0, .ref (a 0)), (1, .int v), (2, .int w)] := hl
  have hP : va_P D vwCl (mW dA a σ) s.heap := hP
  have hn := hG.1
  have hnc := hG.2.2.2.1
  have hst : stAt n cp cq nc < 65536 := stAt_lt hn nc (fun i hi => ⟨by have := (hG.2.2.2.2.2 i (by omega)).2.2; omega, by have := (hG.2.2.2.2.2 i (by omega)).2.2; omega⟩)
  have htk : ∀ r, tkN n r cp cq nc < 16 := fun r => tkN_lt hn nc (fun j hj => by have := (hG.2.2.2.2.2 j (by omega)).2.2; omega)
  have ht2 := htk 2
  have ht3 := htk 3
  refine lv_aload_n hx hb dX1_ofPerson_0 rfl (lv_at hl 0 rfl) ?_
  refine lv_iload_n hx hb dX1_ofPerson_1 rfl (lv_at hl 1 rfl) ?_
  refine rc_Vi (rest := []) [.int v] 1 S hK (r1_isPerson l D dA a σ n (hG.2.1) v) wl_X1_125 wd_X1_X1_isPerson rfl ⟨Nat.le_of_ble_eq_true rfl, Nat.le_of_ble_eq_true rfl⟩ (m_recv hK hP) hl.1 (Nat.le_of_ble_eq_true rfl) dX1_ofPerson_2 ⟨Nat.le_refl 0, Nat.le_refl 0⟩ (hP) ?_ rfl
  refine lv_if_ne (tgt := 10) hx hb dX1_ofPerson_5 (by decide) (fun c_5 => ?_) (fun c_5 => ?_)
  · have c_5 := b2i_ne0.mp c_5
    obtain ⟨pa, hpa, rfl⟩ := inP_some (by omega) c_5
    have hpa4 : pa < 4 := by omega
    refine lv_aload_n hx hb dX1_ofPerson_10 rfl (lv_at hl 0 rfl) ?_
    refine lv_aload_n hx hb dX1_ofPerson_11 rfl (lv_at hl 0 rfl) ?_
    refine m_get (v := .int (σ.1 9)) S hK hP 9 (by decide) fl_X1_103 rfl dX1_ofPerson_12 rfl ?_
    refine topi (z := nI nc) (hG.2.2.2.2.1) ?_
    refine rc_Vi (rest := []) [.int (nI nc)] 1 S hK (r1_stateAt l D dA a σ n net nc cp cq hG nc (by first | assumption | omega | decide)) wl_X1_128 wd_X1_X1_stateAt rfl ⟨Nat.le_of_ble_eq_true rfl, Nat.le_of_ble_eq_true rfl⟩ (m_recv hK hP) hl.1 (Nat.le_of_ble_eq_true rfl) dX1_ofPerson_15 ⟨Nat.le_refl 0, Nat.le_refl 0⟩ (hP) ?_ rfl
    refine lv_istore_n (lv' := [(3, .int (nI (stAt n cp cq nc))), (0, .ref (a 0)), (1, .int (nI pa)), (2, .int w)]) hx hb dX1_ofPerson_18 rfl hl (by decide) rfl (fun ls hl => ?_)
    refine lv_iload_n hx hb dX1_ofPerson_19 rfl (lv_at hl 3 rfl) ?_
    by_cases c_20_0 : w = 0
    · refine lv_tableIn (off := 40) (tgt := 60) hx hb dX1_ofPerson_20 (by rw [c_20_0]; decide) (by rw [c_20_0]; decide) (by rw [c_20_0]; rfl) (by decide) ?_
      refine lv_iload_n hx hb dX1_ofPerson_60 rfl (lv_at hl 0 rfl) ?_
      refine lv_iload_n hx hb dX1_ofPerson_61 rfl (lv_at hl 2 rfl) ?_
      refine rc_Si (rest := []) [.int (nI (stAt n cp cq nc)), .int (nI pa)] 2 S hK (r1_of l D dA (stAt n cp cq nc) pa (by first | assumption | omega | decide) (by first | assumption | omega | decide)) wl_X1_110 wd_X1_X1_of rfl ⟨Nat.le_of_ble_eq_true rfl, Nat.le_of_ble_eq_true rfl⟩ hl.1 (Nat.le_of_ble_eq_true rfl) dX1_ofPerson_62 ⟨Nat.le_refl 0, Nat.le_refl 0⟩ (trivial) ?_ rfl
      exact r_iret S hr hlk dX1_ofPerson_65 (congrArg (fun z : Int32 => some (Value.int z)) (show nI (hs4 (stAt n cp cq nc) pa) = spOfPerson n net (stAt n cp cq nc) (tkN n 2 cp cq nc) (tkN n 3 cp cq nc) (nI pa) w from by simp [spOfPerson, spOfP, inP_nI hpa (Nat.lt_trans hn (by decide)), nI_clamp (show pa < 2 ^ 31 by omega), *]))
    by_cases c_20_1 : w = 1
    · refine lv_tableIn (off := 46) (tgt := 66) hx hb dX1_ofPerson_20 (by rw [c_20_1]; decide) (by rw [c_20_1]; decide) (by rw [c_20_1]; rfl) (by decide) ?_
      refine lv_aload_n hx hb dX1_ofPerson_66 rfl (lv_at hl 1 rfl) ?_
      refine m_get (v := .ref (a 6)) S hK hP 6 (by decide) fl_X1_19 rfl dX1_ofPerson_67 rfl ?_
      refine lv_iload_n hx hb dX1_ofPerson_70 rfl (lv_at hl 0 rfl) ?_
      refine lv_iload_n hx hb dX1_ofPerson_71 rfl (lv_at hl 2 rfl) ?_
      refine rc_Si (rest := []) [.ref (a 6), .int (nI (stAt n cp cq nc)), .int (nI pa)] 3 S hK (r1_numbersOf l D dA (a 6) (σ.2.1 6) net (stAt n cp cq nc) pa (fun q hq => (hG.2.2.1 q hq).1) (by first | assumption | omega | decide) (by first | assumption | omega | decide)) wl_X1_131 wd_X1_X1_numbersOf rfl ⟨Nat.le_of_ble_eq_true rfl, Nat.le_of_ble_eq_true rfl⟩ hl.1 (Nat.le_of_ble_eq_true rfl) dX1_ofPerson_72 ⟨Nat.le_refl 0, Nat.le_refl 0⟩ (m_cell hP 6 (by decide) rfl) ?_ rfl
      exact r_iret S hr hlk dX1_ofPerson_75 (congrArg (fun z : Int32 => some (Value.int z)) (show nI (numA net (stAt n cp cq nc) pa 4) = spOfPerson n net (stAt n cp cq nc) (tkN n 2 cp cq nc) (tkN n 3 cp cq nc) (nI pa) w from by simp [spOfPerson, spOfP, inP_nI hpa (Nat.lt_trans hn (by decide)), nI_clamp (show pa < 2 ^ 31 by omega), *]))
    by_cases c_20_2 : w = 2
    · refine lv_tableIn (off := 56) (tgt := 76) hx hb dX1_ofPerson_20 (by rw [c_20_2]; decide) (by rw [c_20_2]; decide) (by rw [c_20_2]; rfl) (by decide) ?_
      refine lv_aload_n hx hb dX1_ofPerson_76 rfl (lv_at hl 1 rfl) ?_
      refine m_get (v := .ref (a 6)) S hK hP 6 (by decide) fl_X1_19 rfl dX1_ofPerson_77 rfl ?_
      refine lv_iload_n hx hb dX1_ofPerson_80 rfl (lv_at hl 2 rfl) ?_
      refine m_aldn (j := pa) (v := nI (net pa)) S hK hP 6 (by decide) rfl (show pa < 4 by omega) dX1_ofPerson_81 ((hG.2.2.1 pa (by omega)).1) ?_
      refine lv_iconst (v := 1) hx hb dX1_ofPerson_82 (by decide) ?_
      refine lv_iload_n hx hb dX1_ofPerson_83 rfl (lv_at hl 2 rfl) ?_
      refine lv_ishl hx hb dX1_ofPerson_84 ?_
      refine topi (z := nI (2 ^ pa)) (shl1 _ (by omega)) ?_
      refine lv_ior hx hb dX1_ofPerson_85 ?_
      refine topi (z := nI (net pa ||| 2 ^ pa)) (nI_or _ _) ?_
      exact r_iret S hr hlk dX1_ofPerson_86 (congrArg (fun z : Int32 => some (Value.int z)) (show nI (net pa ||| 2 ^ pa) = spOfPerson n net (stAt n cp cq nc) (tkN n 2 cp cq nc) (tkN n 3 cp cq nc) (nI pa) w from by simp [spOfPerson, spOfP, inP_nI hpa (Nat.lt_trans hn (by decide)), nI_clamp (show pa < 2 ^ 31 by omega), *]))
    by_cases c_20_3 : w = 3
    · refine lv_tableIn (off := 67) (tgt := 87) hx hb dX1_ofPerson_20 (by rw [c_20_3]; decide) (by rw [c_20_3]; decide) (by rw [c_20_3]; rfl) (by decide) ?_
      refine lv_iload_n hx hb dX1_ofPerson_87 rfl (lv_at hl 0 rfl) ?_
      refine lv_iload_n hx hb dX1_ofPerson_88 rfl (lv_at hl 2 rfl) ?_
      refine rc_Si (rest := []) [.int (nI (stAt n cp cq nc)), .int (nI pa)] 2 S hK (r1_of l D dA (stAt n cp cq nc) pa (by first | assumption | omega | decide) (by first | assumption | omega | decide)) wl_X1_110 wd_X1_X1_of rfl ⟨Nat.le_of_ble_eq_true rfl, Nat.le_of_ble_eq_true rfl⟩ hl.1 (Nat.le_of_ble_eq_true rfl) dX1_ofPerson_89 ⟨Nat.le_refl 0, Nat.le_refl 0⟩ (trivial) ?_ rfl
      refine lv_iconst (v := 1) hx hb dX1_ofPerson_92 (by decide) ?_
      refine lv_aload_n hx hb dX1_ofPerson_93 rfl (lv_at hl 1 rfl) ?_
      refine m_get (v := .int (σ.1 5)) S hK hP 5 (by decide) fl_X1_82 rfl dX1_ofPerson_94 rfl ?_
      refine topi (z := nI n) (hG.2.1) ?_
      refine lv_ishl hx hb dX1_ofPerson_97 ?_
      refine lv_iconst (v := 1) hx hb dX1_ofPerson_98 (by decide) ?_
      refine lv_isub hx hb dX1_ofPerson_99 ?_
      refine topi (z := nI (al n)) (al_eq n hn) ?_
      refine lv_icmp_ne (tgt := 107) hx hb dX1_ofPerson_100 (by decide) (fun c_100 => ?_) (fun c_100 => ?_)
      · have c_100 : ¬ hs4 (stAt n cp cq nc) pa = al n := fun h => c_100 (congrArg nI h)
        refine lv_iconst (v := 0) hx hb dX1_ofPerson_107 (by decide) ?_
        exact r_iret S hr hlk dX1_ofPerson_108 (congrArg (fun z : Int32 => some (Value.int z)) (show 0 = spOfPerson n net (stAt n cp cq nc) (tkN n 2 cp cq nc) (tkN n 3 cp cq nc) (nI pa) w from by simp [spOfPerson, spOfP, inP_nI hpa (Nat.lt_trans hn (by decide)), nI_clamp (show pa < 2 ^ 31 by omega), *]))
      · have c_100 : hs4 (stAt n cp cq nc) pa = al n := nI_inj (Nat.lt_trans (hs4_lt _ _) (by decide)) (Nat.lt_trans (al_lt n hn) (by decide)) c_100
        refine lv_iconst (v := 1) hx hb dX1_ofPerson_103 (by decide) ?_
        refine lv_goto (tgt := 108) hx hb dX1_ofPerson_104 (by decide) ?_
        exact r_iret S hr hlk dX1_ofPerson_108 (congrArg (fun z : Int32 => some (Value.int z)) (show 1 = spOfPerson n net (stAt n cp cq nc) (tkN n 2 cp cq nc) (tkN n 3 cp cq nc) (nI pa) w from by simp [spOfPerson, spOfP, inP_nI hpa (Nat.lt_trans hn (by decide)), nI_clamp (show pa < 2 ^ 31 by omega), *]))
    by_cases c_20_4 : w = 4
    · refine lv_tableIn (off := 89) (tgt := 109) hx hb dX1_ofPerson_20 (by rw [c_20_4]; decide) (by rw [c_20_4]; decide) (by rw [c_20_4]; rfl) (by decide) ?_
      refine lv_aload_n hx hb dX1_ofPerson_109 rfl (lv_at hl 1 rfl) ?_
      refine lv_iconst (v := 2) hx hb dX1_ofPerson_110 (by decide) ?_
      refine rc_Vi (rest := []) [.int 2] 1 S hK (r1_tokensNow l D dA a σ n net nc cp cq hG 2 (by first | assumption | omega | decide)) wl_X1_135 wd_X1_X1_tokensNow rfl ⟨Nat.le_of_ble_eq_true rfl, Nat.le_of_ble_eq_true rfl⟩ (m_recv hK hP) hl.1 (Nat.le_of_ble_eq_true rfl) dX1_ofPerson_111 ⟨Nat.le_refl 0, Nat.le_refl 0⟩ (hP) ?_ rfl
      refine lv_iload_n hx hb dX1_ofPerson_114 rfl (lv_at hl 2 rfl) ?_
      refine lv_ishr hx hb dX1_ofPerson_115 ?_
      refine lv_iconst (v := 1) hx hb dX1_ofPerson_116 (by decide) ?_
      refine lv_iand hx hb dX1_ofPerson_117 ?_
      refine topi (z := nI (tkN n 2 cp cq nc >>> pa &&& 1)) (bit_eq (by omega) (by omega)) ?_
      exact r_iret S hr hlk dX1_ofPerson_118 (congrArg (fun z : Int32 => some (Value.int z)) (show nI (tkN n 2 cp cq nc >>> pa &&& 1) = spOfPerson n net (stAt n cp cq nc) (tkN n 2 cp cq nc) (tkN n 3 cp cq nc) (nI pa) w from by simp [spOfPerson, spOfP, inP_nI hpa (Nat.lt_trans hn (by decide)), nI_clamp (show pa < 2 ^ 31 by omega), *]))
    by_cases c_20_5 : w = 5
    · refine lv_tableIn (off := 99) (tgt := 119) hx hb dX1_ofPerson_20 (by rw [c_20_5]; decide) (by rw [c_20_5]; decide) (by rw [c_20_5]; rfl) (by decide) ?_
      refine lv_aload_n hx hb dX1_ofPerson_119 rfl (lv_at hl 1 rfl) ?_
      refine lv_iconst (v := 3) hx hb dX1_ofPerson_120 (by decide) ?_
      refine rc_Vi (rest := []) [.int 3] 1 S hK (r1_tokensNow l D dA a σ n net nc cp cq hG 3 (by first | assumption | omega | decide)) wl_X1_135 wd_X1_X1_tokensNow rfl ⟨Nat.le_of_ble_eq_true rfl, Nat.le_of_ble_eq_true rfl⟩ (m_recv hK hP) hl.1 (Nat.le_of_ble_eq_true rfl) dX1_ofPerson_121 ⟨Nat.le_refl 0, Nat.le_refl 0⟩ (hP) ?_ rfl
      refine lv_iload_n hx hb dX1_ofPerson_124 rfl (lv_at hl 2 rfl) ?_
      refine lv_ishr hx hb dX1_ofPerson_125 ?_
      refine lv_iconst (v := 1) hx hb dX1_ofPerson_126 (by decide) ?_
      refine lv_iand hx hb dX1_ofPerson_127 ?_
      refine topi (z := nI (tkN n 3 cp cq nc >>> pa &&& 1)) (bit_eq (by omega) (by omega)) ?_
      exact r_iret S hr hlk dX1_ofPerson_128 (congrArg (fun z : Int32 => some (Value.int z)) (show nI (tkN n 3 cp cq nc >>> pa &&& 1) = spOfPerson n net (stAt n cp cq nc) (tkN n 2 cp cq nc) (tkN n 3 cp cq nc) (nI pa) w from by simp [spOfPerson, spOfP, inP_nI hpa (Nat.lt_trans hn (by decide)), nI_clamp (show pa < 2 ^ 31 by omega), *]))
    refine lv_tableOut (tgt := 129) hx hb dX1_ofPerson_20 (sw_out0_5 c_20_0 c_20_1 c_20_2 c_20_3 c_20_4 c_20_5) (by decide) ?_
    refine lv_bipush (v := (-2)) hx hb dX1_ofPerson_129 (by decide) ?_
    exact r_iret S hr hlk dX1_ofPerson_131 (congrArg (fun z : Int32 => some (Value.int z)) (show (-2) = spOfPerson n net (stAt n cp cq nc) (tkN n 2 cp cq nc) (tkN n 3 cp cq nc) (nI pa) w from by simp [spOfPerson, spOfP, inP_nI hpa (Nat.lt_trans hn (by decide)), nI_clamp (show pa < 2 ^ 31 by omega), *]))
  · have c_5 := b2i_eq0.mp c_5
    refine lv_iconst (v := (-1)) hx hb dX1_ofPerson_8 (by decide) ?_
    exact r_iret S hr hlk dX1_ofPerson_9 (congrArg (fun z : Int32 => some (Value.int z)) (show (-1) = spOfPerson n net (stAt n cp cq nc) (tkN n 2 cp cq nc) (tkN n 3 cp cq nc) v w from by simp [spOfPerson, c_5]))
set_option maxHeartbeats 4000000 in
theorem r1_ofCall (l : Launch) (D : va_G) (dA : Nat → ClassId) (a : Nat → Nat) (σ : MS) (n : Nat) (net : Nat → Nat) (nc : Nat) (cp cq : Nat → Nat) (hG : MG σ n net nc cp cq) (v w : Int32) : RC l yX1_ofCall cX1_ofCall 3 (some .int) 5 112 D dA [.ref (a 0), .int v, .int w] (fun H => va_P D vwCl (mW dA a σ) H) (fun v9 => v9 = some (.int (spOfCall n nc cp cq v w))) := by
  refine RC.of (by decide) (Nat.le_of_ble_eq_true rfl) ?_
  intro p e s m below meth c ls S hr hlk hK hP hl
  have hx := S.1
  have hb := S.2.1
  have hl : lv_has ls 3 [(0, .ref (a 0)), (1, .int v), (2, .int w)] := hl
  have hP : va_P D vwCl (mW dA a σ) s.heap := hP
  have hn := hG.1
  have hnc := hG.2.2.2.1
  refine lv_aload_n hx hb dX1_ofCall_0 rfl (lv_at hl 0 rfl) ?_
  refine lv_iload_n hx hb dX1_ofCall_1 rfl (lv_at hl 1 rfl) ?_
  refine rc_Vi (rest := []) [.int v] 1 S hK (r1_isCall l D dA a σ nc (hG.2.2.2.2.1) v) wl_X1_144 wd_X1_X1_isCall rfl ⟨Nat.le_of_ble_eq_true rfl, Nat.le_of_ble_eq_true rfl⟩ (m_recv hK hP) hl.1 (Nat.le_of_ble_eq_true rfl) dX1_ofCall_2 ⟨Nat.le_refl 0, Nat.le_refl 0⟩ (hP) ?_ rfl
  refine lv_if_ne (tgt := 10) hx hb dX1_ofCall_5 (by decide) (fun c_5 => ?_) (fun c_5 => ?_)
  · have c_5 := b2i_ne0.mp c_5
    obtain ⟨j, hj, rfl⟩ := inP_some (by omega) c_5
    have hcj := hG.2.2.2.2.2 j hj
    refine lv_iload_n hx hb dX1_ofCall_10 rfl (lv_at hl 2 rfl) ?_
    by_cases c_11_0 : w = 0
    · refine lv_tableIn (off := 33) (tgt := 44) hx hb dX1_ofCall_11 (by rw [c_11_0]; decide) (by rw [c_11_0]; decide) (by rw [c_11_0]; rfl) (by decide) ?_
      refine lv_aload_n hx hb dX1_ofCall_44 rfl (lv_at hl 0 rfl) ?_
      refine lv_iload_n hx hb dX1_ofCall_45 rfl (lv_at hl 1 rfl) ?_
      refine rc_Vi (rest := []) [.int (nI j)] 1 S hK (r1_kindOf l D dA a σ n net nc cp cq hG j (by first | assumption | omega | decide)) wl_X1_147 wd_X1_X1_kindOf rfl ⟨Nat.le_of_ble_eq_true rfl, Nat.le_of_ble_eq_true rfl⟩ (m_recv hK hP) hl.1 (Nat.le_of_ble_eq_true rfl) dX1_ofCall_46 ⟨Nat.le_refl 0, Nat.le_refl 0⟩ (hP) ?_ rfl
      exact r_iret S hr hlk dX1_ofCall_49 (congrArg (fun z : Int32 => some (Value.int z)) (show nI (knd n cp cq j) = spOfCall n nc cp cq (nI j) w from by simp [spOfCall, spOfC, inP_nI hj (by omega), nI_clamp (show j < 2 ^ 31 by omega), *]))
    by_cases c_11_1 : w = 1
    · refine lv_tableIn (off := 39) (tgt := 50) hx hb dX1_ofCall_11 (by rw [c_11_1]; decide) (by rw [c_11_1]; decide) (by rw [c_11_1]; rfl) (by decide) ?_
      refine lv_aload_n hx hb dX1_ofCall_50 rfl (lv_at hl 0 rfl) ?_
      refine m_get (v := .ref (a 10)) S hK hP 10 (by decide) fl_X1_25 rfl dX1_ofCall_51 rfl ?_
      refine lv_iload_n hx hb dX1_ofCall_54 rfl (lv_at hl 1 rfl) ?_
      refine m_aldn (j := j) (v := nI (cp j)) S hK hP 10 (by decide) rfl (show j < 12 by omega) dX1_ofCall_55 ((hG.2.2.2.2.2 j (by omega)).1) ?_
      exact r_iret S hr hlk dX1_ofCall_56 (congrArg (fun z : Int32 => some (Value.int z)) (show nI (cp j) = spOfCall n nc cp cq (nI j) w from by simp [spOfCall, spOfC, inP_nI hj (by omega), nI_clamp (show j < 2 ^ 31 by omega), *]))
    by_cases c_11_2 : w = 2
    · refine lv_tableIn (off := 46) (tgt := 57) hx hb dX1_ofCall_11 (by rw [c_11_2]; decide) (by rw [c_11_2]; decide) (by rw [c_11_2]; rfl) (by decide) ?_
      refine lv_aload_n hx hb dX1_ofCall_57 rfl (lv_at hl 0 rfl) ?_
      refine m_get (v := .ref (a 11)) S hK hP 11 (by decide) fl_X1_28 rfl dX1_ofCall_58 rfl ?_
      refine lv_iload_n hx hb dX1_ofCall_61 rfl (lv_at hl 1 rfl) ?_
      refine m_aldn (j := j) (v := nI (cq j)) S hK hP 11 (by decide) rfl (show j < 12 by omega) dX1_ofCall_62 ((hG.2.2.2.2.2 j (by omega)).2.1) ?_
      exact r_iret S hr hlk dX1_ofCall_63 (congrArg (fun z : Int32 => some (Value.int z)) (show nI (cq j) = spOfCall n nc cp cq (nI j) w from by simp [spOfCall, spOfC, inP_nI hj (by omega), nI_clamp (show j < 2 ^ 31 by omega), *]))
    by_cases c_11_3 : w = 3
    · refine lv_tableIn (off := 53) (tgt := 64) hx hb dX1_ofCall_11 (by rw [c_11_3]; decide) (by rw [c_11_3]; decide) (by rw [c_11_3]; rfl) (by decide) ?_
      refine lv_aload_n hx hb dX1_ofCall_64 rfl (lv_at hl 0 rfl) ?_
      refine lv_iload_n hx hb dX1_ofCall_65 rfl (lv_at hl 1 rfl) ?_
      refine lv_aload_n hx hb dX1_ofCall_66 rfl (lv_at hl 0 rfl) ?_
      refine m_get (v := .ref (a 10)) S hK hP 10 (by decide) fl_X1_25 rfl dX1_ofCall_67 rfl ?_
      refine lv_iload_n hx hb dX1_ofCall_70 rfl (lv_at hl 1 rfl) ?_
      refine m_aldn (j := j) (v := nI (cp j)) S hK hP 10 (by decide) rfl (show j < 12 by omega) dX1_ofCall_71 ((hG.2.2.2.2.2 j (by omega)).1) ?_
      refine rc_Vi (rest := []) [.int (nI j), .int (nI (cp j))] 2 S hK (r1_learnt l D dA a σ n net nc cp cq hG j (cp j) (by first | assumption | omega | decide) (by first | assumption | omega | decide)) wl_X1_138 wd_X1_X1_learnt rfl ⟨Nat.le_of_ble_eq_true rfl, Nat.le_of_ble_eq_true rfl⟩ (m_recv hK hP) hl.1 (Nat.le_of_ble_eq_true rfl) dX1_ofCall_72 ⟨Nat.le_refl 0, Nat.le_refl 0⟩ (hP) ?_ rfl
      exact r_iret S hr hlk dX1_ofCall_75 (congrArg (fun z : Int32 => some (Value.int z)) (show nI (lrnt n cp cq j (cp j)) = spOfCall n nc cp cq (nI j) w from by simp [spOfCall, spOfC, inP_nI hj (by omega), nI_clamp (show j < 2 ^ 31 by omega), *]))
    by_cases c_11_4 : w = 4
    · refine lv_tableIn (off := 65) (tgt := 76) hx hb dX1_ofCall_11 (by rw [c_11_4]; decide) (by rw [c_11_4]; decide) (by rw [c_11_4]; rfl) (by decide) ?_
      refine lv_aload_n hx hb dX1_ofCall_76 rfl (lv_at hl 0 rfl) ?_
      refine lv_iload_n hx hb dX1_ofCall_77 rfl (lv_at hl 1 rfl) ?_
      refine lv_aload_n hx hb dX1_ofCall_78 rfl (lv_at hl 0 rfl) ?_
      refine m_get (v := .ref (a 11)) S hK hP 11 (by decide) fl_X1_28 rfl dX1_ofCall_79 rfl ?_
      refine lv_iload_n hx hb dX1_ofCall_82 rfl (lv_at hl 1 rfl) ?_
      refine m_aldn (j := j) (v := nI (cq j)) S hK hP 11 (by decide) rfl (show j < 12 by omega) dX1_ofCall_83 ((hG.2.2.2.2.2 j (by omega)).2.1) ?_
      refine rc_Vi (rest := []) [.int (nI j), .int (nI (cq j))] 2 S hK (r1_learnt l D dA a σ n net nc cp cq hG j (cq j) (by first | assumption | omega | decide) (by first | assumption | omega | decide)) wl_X1_138 wd_X1_X1_learnt rfl ⟨Nat.le_of_ble_eq_true rfl, Nat.le_of_ble_eq_true rfl⟩ (m_recv hK hP) hl.1 (Nat.le_of_ble_eq_true rfl) dX1_ofCall_84 ⟨Nat.le_refl 0, Nat.le_refl 0⟩ (hP) ?_ rfl
      exact r_iret S hr hlk dX1_ofCall_87 (congrArg (fun z : Int32 => some (Value.int z)) (show nI (lrnt n cp cq j (cq j)) = spOfCall n nc cp cq (nI j) w from by simp [spOfCall, spOfC, inP_nI hj (by omega), nI_clamp (show j < 2 ^ 31 by omega), *]))
    refine lv_tableOut (tgt := 88) hx hb dX1_ofCall_11 (sw_out0_4 c_11_0 c_11_1 c_11_2 c_11_3 c_11_4) (by decide) ?_
    refine lv_bipush (v := (-2)) hx hb dX1_ofCall_88 (by decide) ?_
    exact r_iret S hr hlk dX1_ofCall_90 (congrArg (fun z : Int32 => some (Value.int z)) (show (-2) = spOfCall n nc cp cq (nI j) w from by simp [spOfCall, spOfC, inP_nI hj (by omega), nI_clamp (show j < 2 ^ 31 by omega), *]))
  · have c_5 := b2i_eq0.mp c_5
    refine lv_iconst (v := (-1)) hx hb dX1_ofCall_8 (by decide) ?_
    exact r_iret S hr hlk dX1_ofCall_9 (congrArg (fun z : Int32 => some (Value.int z)) (show (-1) = spOfCall n nc cp cq v w from by simp [spOfCall, c_5]))
set_option maxHeartbeats 4000000 in
theorem r1_may (l : Launch) (D : va_G) (dA : Nat → ClassId) (a : Nat → Nat) (σ : MS) (n : Nat) (net : Nat → Nat) (nc : Nat) (cp cq : Nat → Nat) (hG : MG σ n net nc cp cq) (rv v : Int32) : RC l yX1_may cX1_may 5 (some .int) 3 70 D dA [.ref (a 0), .int rv, .int v] (fun H => va_P D vwCl (mW dA a σ) H) (fun v9 => v9 = some (.int (spMay n net (stAt n cp cq nc) (fun r => tkN n r cp cq nc) rv v))) := by
  refine RC.of (by decide) (Nat.le_of_ble_eq_true rfl) ?_
  intro p e s m below meth c ls S hr hlk hK hP hl
  have hx := S.1
  have hb := S.2.1
  have hl : lv_has ls 5 [(0, .ref (a 0)), (1, .int rv), (2, .int v)] := hl
  have hP : va_P D vwCl (mW dA a σ) s.heap := hP
  have hn := hG.1
  have hnc := hG.2.2.2.1
  have hst : stAt n cp cq nc < 65536 := stAt_lt hn nc (fun i hi => ⟨by have := (hG.2.2.2.2.2 i (by omega)).2.2; omega, by have := (hG.2.2.2.2.2 i (by omega)).2.2; omega⟩)
  have htk : ∀ r, tkN n r cp cq nc < 16 := fun r => tkN_lt hn nc (fun j hj => by have := (hG.2.2.2.2.2 j (by omega)).2.2; omega)
  refine lv_iload_n hx hb dX1_may_0 rfl (lv_at hl 1 rfl) ?_
  refine rc_Si (rest := []) [.int rv] 1 S hK (r1_isRule l D dA rv) wl_X1_150 wd_X1_X1_isRule rfl ⟨Nat.le_of_ble_eq_true rfl, Nat.le_of_ble_eq_true rfl⟩ hl.1 (Nat.le_of_ble_eq_true rfl) dX1_may_1 ⟨Nat.le_refl 0, Nat.le_refl 0⟩ (trivial) ?_ rfl
  refine lv_if_eq (tgt := 15) hx hb dX1_may_4 (by decide) (fun c_4 => ?_) (fun c_4 => ?_)
  · have c_4 := b2i_eq0.mp c_4
    refine lv_iconst (v := (-1)) hx hb dX1_may_15 (by decide) ?_
    exact r_iret S hr hlk dX1_may_16 (congrArg (fun z : Int32 => some (Value.int z)) (show (-1) = spMay n net (stAt n cp cq nc) (fun r => tkN n r cp cq nc) rv v from by simp [spMay, *]))
  · have c_4 := b2i_ne0.mp c_4
    refine lv_aload_n hx hb dX1_may_7 rfl (lv_at hl 0 rfl) ?_
    refine lv_iload_n hx hb dX1_may_8 rfl (lv_at hl 2 rfl) ?_
    refine rc_Vi (rest := []) [.int v] 1 S hK (r1_isPerson l D dA a σ n (hG.2.1) v) wl_X1_125 wd_X1_X1_isPerson rfl ⟨Nat.le_of_ble_eq_true rfl, Nat.le_of_ble_eq_true rfl⟩ (m_recv hK hP) hl.1 (Nat.le_of_ble_eq_true rfl) dX1_may_9 ⟨Nat.le_refl 0, Nat.le_refl 0⟩ (hP) ?_ rfl
    refine lv_if_ne (tgt := 17) hx hb dX1_may_12 (by decide) (fun c_12 => ?_) (fun c_12 => ?_)
    · have c_12 := b2i_ne0.mp c_12
      obtain ⟨r, hr9, rfl⟩ := inR_some (k := 3) (by decide) c_4
      have hr4 : r < 4 := by omega
      obtain ⟨pa, hpa, rfl⟩ := inP_some (by omega) c_12
      have hpa4 : pa < 4 := by omega
      have htr := htk r
      refine lv_iconst (v := 0) hx hb dX1_may_17 (by decide) ?_
      refine lv_istore_n (lv' := [(3, .int 0), (0, .ref (a 0)), (1, .int (nI r)), (2, .int (nI pa))]) hx hb dX1_may_18 rfl hl (by decide) rfl (fun ls hl => ?_)
      refine lv_iconst (v := 0) hx hb dX1_may_19 (by decide) ?_
      refine lv_istore (lv' := [(4, .int 0), (3, .int 0), (0, .ref (a 0)), (1, .int (nI r)), (2, .int (nI pa))]) hx hb dX1_may_20 hl (by decide) rfl (fun ls hl => ?_)
      have hloop22 : ∀ (k22 i22 : Nat), i22 + k22 = n → ∀ (ls : Array Slot), lv_has ls 5 [(4, .int (nI i22)), (3, .int (nI (mayS net r (stAt n cp cq nc) (tkN n r cp cq nc) pa i22))), (0, .ref (a 0)), (1, .int (nI r)), (2, .int (nI pa))] → W p l e ({ frames := 3, cells := 0, slots := 0, locals := 70 }) s m [.ref (a 0), .int (nI r), .int (nI pa)].toArray below meth c s.heap [] 0 0 (RZ below (fun v9 => v9 = some (.int (spMay n net (stAt n cp cq nc) (fun r => tkN n r cp cq nc) (nI r) (nI pa)))) [.ref (a 0), .int (nI r), .int (nI pa)] s) (F0 m 22 ls []) := by
        intro k22
        induction k22 with
        | zero =>
          intro i22 hi22 ls hl
          have hi22 : i22 = n := by omega
          refine lv_iload hx hb dX1_may_22 (lv_at hl 0 rfl) ?_
          refine lv_aload_n hx hb dX1_may_24 rfl (lv_at hl 2 rfl) ?_
          refine m_get (v := .int (σ.1 5)) S hK hP 5 (by decide) fl_X1_82 rfl dX1_may_25 rfl ?_
          refine topi (z := nI n) (hG.2.1) ?_
          refine lv_icmp_ge (tgt := 75) hx hb dX1_may_28 (by decide) (fun c_28 => ?_) (fun c_28 => absurd (show nI n ≤ nI i22 from nI_le (by omega) (by omega)) c_28)
          refine lv_iload_n hx hb dX1_may_75 rfl (lv_at hl 1 rfl) ?_
          exact r_iret S hr hlk dX1_may_76 (congrArg (fun z : Int32 => some (Value.int z)) (show nI (mayS net r (stAt n cp cq nc) (tkN n r cp cq nc) pa i22) = spMay n net (stAt n cp cq nc) (fun r => tkN n r cp cq nc) (nI r) (nI pa) from by rw [hi22]; simp [spMay, show inR (nI r) 0 3 = true from inR_nI (k := 3) (show r ≤ 3 by omega) (by decide), inR_nI (k := 3) (show r ≤ 3 by omega) (by decide), inP_nI hpa (Nat.lt_trans hn (by decide)), nI_clamp (show r < 2 ^ 31 by omega), nI_clamp (show pa < 2 ^ 31 by omega)]))
        | succ k22 ih22 =>
          intro i22 hi22 ls hl
          have hlt22 : i22 < n := by omega
          refine lv_iload hx hb dX1_may_22 (lv_at hl 0 rfl) ?_
          refine lv_aload_n hx hb dX1_may_24 rfl (lv_at hl 2 rfl) ?_
          refine m_get (v := .int (σ.1 5)) S hK hP 5 (by decide) fl_X1_82 rfl dX1_may_25 rfl ?_
          refine topi (z := nI n) (hG.2.1) ?_
          refine lv_icmp_ge (tgt := 75) hx hb dX1_may_28 (by decide) (fun c_28 => absurd c_28 (show ¬ nI n ≤ nI i22 from nI_ge (by omega) (by omega))) (fun c_28 => ?_)
          refine lv_iload_n hx hb dX1_may_31 rfl (lv_at hl 1 rfl) ?_
          refine lv_aload_n hx hb dX1_may_32 rfl (lv_at hl 2 rfl) ?_
          refine m_get (v := .ref (a 6)) S hK hP 6 (by decide) fl_X1_19 rfl dX1_may_33 rfl ?_
          refine lv_iload_n hx hb dX1_may_36 rfl (lv_at hl 3 rfl) ?_
          refine lv_aload_n hx hb dX1_may_37 rfl (lv_at hl 2 rfl) ?_
          refine lv_aload_n hx hb dX1_may_38 rfl (lv_at hl 2 rfl) ?_
          refine m_get (v := .int (σ.1 9)) S hK hP 9 (by decide) fl_X1_103 rfl dX1_may_39 rfl ?_
          refine topi (z := nI nc) (hG.2.2.2.2.1) ?_
          refine rc_Vi (rest := [.int (nI r), .ref (a 6), .int (nI (mayS net r (stAt n cp cq nc) (tkN n r cp cq nc) pa i22))]) [.int (nI nc)] 1 S hK (r1_stateAt l D dA a σ n net nc cp cq hG nc (by first | assumption | omega | decide)) wl_X1_128 wd_X1_X1_stateAt rfl ⟨Nat.le_of_ble_eq_true rfl, Nat.le_of_ble_eq_true rfl⟩ (m_recv hK hP) hl.1 (Nat.le_of_ble_eq_true rfl) dX1_may_42 ⟨Nat.le_refl 0, Nat.le_refl 0⟩ (hP) ?_ rfl
          refine lv_aload_n hx hb dX1_may_45 rfl (lv_at hl 2 rfl) ?_
          refine lv_iload_n hx hb dX1_may_46 rfl (lv_at hl 3 rfl) ?_
          refine rc_Vi (rest := [.int (nI (stAt n cp cq nc)), .int (nI r), .ref (a 6), .int (nI (mayS net r (stAt n cp cq nc) (tkN n r cp cq nc) pa i22))]) [.int (nI r)] 1 S hK (r1_tokensNow l D dA a σ n net nc cp cq hG r (by first | assumption | omega | decide)) wl_X1_135 wd_X1_X1_tokensNow rfl ⟨Nat.le_of_ble_eq_true rfl, Nat.le_of_ble_eq_true rfl⟩ (m_recv hK hP) hl.1 (Nat.le_of_ble_eq_true rfl) dX1_may_47 ⟨Nat.le_refl 0, Nat.le_refl 0⟩ (hP) ?_ rfl
          refine lv_iload_n hx hb dX1_may_50 rfl (lv_at hl 4 rfl) ?_
          refine lv_iload hx hb dX1_may_51 (lv_at hl 0 rfl) ?_
          refine rc_Si (rest := [.int (nI (mayS net r (stAt n cp cq nc) (tkN n r cp cq nc) pa i22))]) [.ref (a 6), .int (nI r), .int (nI (stAt n cp cq nc)), .int (nI (tkN n r cp cq nc)), .int (nI pa), .int (nI i22)] 6 S hK (r1_mayRing l D dA (a 6) (σ.2.1 6) net r (stAt n cp cq nc) (tkN n r cp cq nc) pa i22 (fun q hq => (hG.2.2.1 q hq).1) (fun q hq => (hG.2.2.1 q hq).2) (by first | assumption | omega | decide) (by first | assumption | omega | decide) (by first | assumption | omega | decide) (by first | assumption | omega | decide) (by first | assumption | omega | decide)) wl_X1_153 wd_X1_X1_mayRing rfl ⟨Nat.le_of_ble_eq_true rfl, Nat.le_of_ble_eq_true rfl⟩ hl.1 (Nat.le_of_ble_eq_true rfl) dX1_may_53 ⟨Nat.le_refl 0, Nat.le_refl 0⟩ (m_cell hP 6 (by decide) rfl) ?_ rfl
          refine lv_if_eq (tgt := 66) hx hb dX1_may_56 (by decide) (fun c_56 => ?_) (fun c_56 => ?_)
          · have c_56 := b2i_eq0.mp c_56
            refine lv_iconst (v := 0) hx hb dX1_may_66 (by decide) ?_
            refine lv_ior hx hb dX1_may_67 ?_
            refine lv_istore_n (lv' := [(3, .int ((nI (mayS net r (stAt n cp cq nc) (tkN n r cp cq nc) pa i22)) ||| 0)), (4, .int (nI i22)), (0, .ref (a 0)), (1, .int (nI r)), (2, .int (nI pa))]) hx hb dX1_may_68 rfl hl (by decide) rfl (fun ls hl => ?_)
            refine lv_iinc (v := nI (i22 + 1)) (lv' := [(4, .int (nI (i22 + 1))), (3, .int ((nI (mayS net r (stAt n cp cq nc) (tkN n r cp cq nc) pa i22)) ||| 0)), (0, .ref (a 0)), (1, .int (nI r)), (2, .int (nI pa))]) hx hb dX1_may_69 hl (k := 1) rfl (nI_1 _) (by decide) rfl (fun ls hl => ?_)
            refine lv_goto (tgt := 22) hx hb dX1_may_72 (by decide) ?_
            have e22_3 : nI (mayS net r (stAt n cp cq nc) (tkN n r cp cq nc) pa (i22 + 1)) = (nI (mayS net r (stAt n cp cq nc) (tkN n r cp cq nc) pa i22)) ||| 0 := by rw [mayS, c_56]; exact (nI_or _ _).symm
            exact ih22 (i22 + 1) (by omega) ls (by rw [e22_3]; exact lv_sub hl [0, 1, 2, 3, 4] rfl)
          · have c_56 := b2i_ne0.mp c_56
            refine lv_iconst (v := 1) hx hb dX1_may_59 (by decide) ?_
            refine lv_iload hx hb dX1_may_60 (lv_at hl 0 rfl) ?_
            refine lv_ishl hx hb dX1_may_62 ?_
            refine lv_goto (tgt := 67) hx hb dX1_may_63 (by decide) ?_
            refine topi (z := nI (2 ^ i22)) (shl1 _ (by omega)) ?_
            refine lv_ior hx hb dX1_may_67 ?_
            refine lv_istore_n (lv' := [(3, .int ((nI (mayS net r (stAt n cp cq nc) (tkN n r cp cq nc) pa i22)) ||| (nI (2 ^ i22)))), (4, .int (nI i22)), (0, .ref (a 0)), (1, .int (nI r)), (2, .int (nI pa))]) hx hb dX1_may_68 rfl hl (by decide) rfl (fun ls hl => ?_)
            refine lv_iinc (v := nI (i22 + 1)) (lv' := [(4, .int (nI (i22 + 1))), (3, .int ((nI (mayS net r (stAt n cp cq nc) (tkN n r cp cq nc) pa i22)) ||| (nI (2 ^ i22)))), (0, .ref (a 0)), (1, .int (nI r)), (2, .int (nI pa))]) hx hb dX1_may_69 hl (k := 1) rfl (nI_1 _) (by decide) rfl (fun ls hl => ?_)
            refine lv_goto (tgt := 22) hx hb dX1_may_72 (by decide) ?_
            have e22_3 : nI (mayS net r (stAt n cp cq nc) (tkN n r cp cq nc) pa (i22 + 1)) = (nI (mayS net r (stAt n cp cq nc) (tkN n r cp cq nc) pa i22)) ||| (nI (2 ^ i22)) := by rw [mayS, c_56]; exact (nI_or _ _).symm
            exact ih22 (i22 + 1) (by omega) ls (by rw [e22_3]; exact lv_sub hl [0, 1, 2, 3, 4] rfl)
      exact hloop22 (n) 0 (by omega) ls (lv_sub hl [0, 1, 2, 3, 4] rfl)
    · have c_12 := b2i_eq0.mp c_12
      refine lv_iconst (v := (-1)) hx hb dX1_may_15 (by decide) ?_
      exact r_iret S hr hlk dX1_may_16 (congrArg (fun z : Int32 => some (Value.int z)) (show (-1) = spMay n net (stAt n cp cq nc) (fun r => tkN n r cp cq nc) rv v from by simp [spMay, *]))
