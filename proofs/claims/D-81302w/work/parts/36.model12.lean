/-! MODEL 12: alike, sure, known, end (by program: gen/model12.py) -/
set_option maxRecDepth 100000
set_option maxHeartbeats 4000000 in
theorem m1_layAlike (l : Launch) (D : va_G) (dA : Nat → ClassId) (a : Nat → Nat) (hI : mInj a) (σ : MS) (n : Nat) (net : Nat → Nat) (nc : Nat) (cp cq : Nat → Nat) (hG : MG σ n net nc cp cq) (hnc4 : nc ≤ 4) (pa : Nat) (hpa : pa < 4) : MC l yX1_layAlike cX1_layAlike 5 none 3 70 D dA a [.ref (a 0), .int (nI pa)] σ (fun v9 σ9 => v9 = none ∧ RWm σ σ9 ∧ σ9.1 26 = nI (cN (akB n net nc cp cq pa) (16 ^ nc)) ∧ σ9.1 27 = nI (akS n net nc cp cq pa  (16 ^ nc))) := by
  refine MC.of (by decide) (Nat.le_of_ble_eq_true rfl) ?_
  intro p e s m below meth c ls S hr hlk hK hM hl
  have hx := S.1
  have hb := S.2.1
  have hl : lv_has ls 5 [(0, .ref (a 0)), (1, .int (nI pa))] := hl
  have hn := hG.1
  have hnc := hG.2.2.2.1
  have hnet : ∀ q, q < 4 → net q < 16 := fun q hq => (hG.2.2.1 q hq).2
  have hGw := hG
  obtain ⟨N9, hN9⟩ : ∃ N9, N9 = 16 ^ nc := ⟨_, rfl⟩
  have hN1 : (1 : Int32) <<< ((4 * nI nc) &&& 31) = nI N9 := by rw [hN9]; exact (all16 nc (by omega)).1
  have hN2 : N9 ≤ 65536 := by rw [hN9]; exact (all16 nc (by omega)).2
  refine lv_aload_n hx hb dX1_layAlike_0 rfl (lv_at hl 0 rfl) ?_
  refine lv_iconst (v := 0) hx hb dX1_layAlike_1 (by decide) ?_
  refine m_put hI S hK hM 26 (by decide) rfl fl_X1_197 rfl rfl (by decide +kernel) dX1_layAlike_2 (fun H locs hM => ?_)
  refine lv_aload_n hx hb dX1_layAlike_5 rfl (lv_at hl 0 rfl) ?_
  refine lv_ldc (v := 65535) hx hb S.2.2.2.1 (S.2.2.2.2 _ q1383) dX1_layAlike_6 ?_
  refine m_put hI S hK hM 27 (by decide) rfl fl_X1_200 rfl rfl (by decide +kernel) dX1_layAlike_8 (fun H locs hM => ?_)
  refine lv_iconst (v := 1) hx hb dX1_layAlike_11 (by decide) ?_
  refine lv_iconst (v := 4) hx hb dX1_layAlike_12 (by decide) ?_
  refine lv_aload_n hx hb dX1_layAlike_13 rfl (lv_at hl 0 rfl) ?_
  have hGw := hG.pu (RWm.i26 (x := 0) (y := 65535) (RWm.rf (σ := σ))).pu
  refine m_get (v := .int (σ.1 9)) S hK hM.1 9 (by decide) fl_X1_103 rfl dX1_layAlike_14 rfl ?_
  refine topi (z := nI nc) (hGw.2.2.2.2.1) ?_
  refine lv_imul hx hb dX1_layAlike_17 ?_
  refine lv_ishl hx hb dX1_layAlike_18 ?_
  refine topi (z := nI N9) (hN1) ?_
  refine lv_istore_n (lv' := [(2, .int (nI N9)), (0, .ref (a 0)), (1, .int (nI pa))]) hx hb dX1_layAlike_19 rfl hl (by decide) rfl (fun ls hl => ?_)
  refine lv_iconst (v := 0) hx hb dX1_layAlike_20 (by decide) ?_
  refine lv_istore_n (lv' := [(3, .int 0), (2, .int (nI N9)), (0, .ref (a 0)), (1, .int (nI pa))]) hx hb dX1_layAlike_21 rfl hl (by decide) rfl (fun ls hl => ?_)
  have hloop22 : ∀ (k22 i22 : Nat), i22 + k22 = N9 → ∀ (ω22 : MS) (H : Heap) (locs : List Loc), MB D dA a ω22 s.heap H locs → (RWm σ ω22 ∧ ω22.1 26 = nI (cN (akB n net nc cp cq pa) i22) ∧ ω22.1 27 = nI (akS n net nc cp cq pa  i22)) → ∀ (ls : Array Slot), lv_has ls 5 [(3, .int (nI i22)), (2, .int (nI N9)), (0, .ref (a 0)), (1, .int (nI pa))] → W p l e ({ frames := 3, cells := 0, slots := 0, locals := 70 }) s m [.ref (a 0), .int (nI pa)].toArray below meth c H locs 0 0 (MZ below D dA a (fun v9 σ9 => v9 = none ∧ RWm σ σ9 ∧ σ9.1 26 = nI (cN (akB n net nc cp cq pa) (16 ^ nc)) ∧ σ9.1 27 = nI (akS n net nc cp cq pa  (16 ^ nc))) [.ref (a 0), .int (nI pa)] s) (F0 m 22 ls []) := by
    intro k22
    induction k22 with
    | zero =>
      intro i22 hi22 ω22 H locs hM hw22 ls hl
      have hi22 : i22 = N9 := by omega
      refine lv_iload_n hx hb dX1_layAlike_22 rfl (lv_at hl 0 rfl) ?_
      refine lv_iload_n hx hb dX1_layAlike_23 rfl (lv_at hl 1 rfl) ?_
      refine lv_icmp_ge (tgt := 74) hx hb dX1_layAlike_24 (by decide) (fun c_24 => ?_) (fun c_24 => absurd (show nI N9 ≤ nI i22 from nI_le (by omega) (by omega)) c_24)
      exact m_vret S hr hlk hM dX1_layAlike_74 (⟨rfl, hw22.1, by rw [← hN9, ← hi22]; exact hw22.2.1, by rw [← hN9, ← hi22]; exact hw22.2.2⟩)
    | succ k22 ih22 =>
      intro i22 hi22 ω22 H locs hM hw22 ls hl
      have hlt22 : i22 < N9 := by omega
      have hGw := hG.pu hw22.1.pu
      refine lv_iload_n hx hb dX1_layAlike_22 rfl (lv_at hl 0 rfl) ?_
      refine lv_iload_n hx hb dX1_layAlike_23 rfl (lv_at hl 1 rfl) ?_
      refine lv_icmp_ge (tgt := 74) hx hb dX1_layAlike_24 (by decide) (fun c_24 => absurd c_24 (show ¬ nI N9 ≤ nI i22 from nI_ge (by omega) (by omega))) (fun c_24 => ?_)
      refine lv_aload_n hx hb dX1_layAlike_27 rfl (lv_at hl 2 rfl) ?_
      refine lv_iload_n hx hb dX1_layAlike_28 rfl (lv_at hl 0 rfl) ?_
      refine mc_V (rest := []) [.int (nI i22)] 1 S hK hM (m1_layRow l D dA a hI ω22 n net nc cp cq hGw (by omega) i22 (by omega)) wl_X1_203 wd_X1_X1_layRow rfl ⟨Nat.le_of_ble_eq_true rfl, Nat.le_of_ble_eq_true rfl⟩ hl.1 (Nat.le_of_ble_eq_true rfl) dX1_layAlike_29 ⟨Nat.le_refl 0, Nat.le_refl 0⟩ (fun v σ29 H locs hq hM => ?_) rfl
      obtain ⟨hRW, hsg, hq⟩ := hq
      have h26 : σ29.1 26 = nI (cN (akB n net nc cp cq pa) i22) := (congrFun hsg 26).trans hw22.2.1
      have h27 : σ29.1 27 = nI (akS n net nc cp cq pa  i22) := (congrFun hsg 27).trans hw22.2.2
      rcases hq with ⟨hra, rfl⟩ | ⟨hra, rfl, hrow⟩
      · have hgb : (akB n net nc cp cq pa) i22 = false := by rw [akB, hra]; rfl
        refine W.eq (g2 := F0 m 32 ls [.int (-1)]) rfl ?_
        refine lv_istore (lv' := [(4, .int (-1)), (3, .int (nI i22)), (2, .int (nI N9)), (0, .ref (a 0)), (1, .int (nI pa))]) hx hb dX1_layAlike_32 hl (by decide) rfl (fun ls hl => ?_)
        refine lv_iload hx hb dX1_layAlike_34 (lv_at hl 0 rfl) ?_
        refine lv_if_lt (tgt := 68) hx hb dX1_layAlike_36 (by decide) (fun c_36 => ?_) (fun c_36 => absurd (by decide) c_36)
        refine lv_iinc (v := nI (i22 + 1)) (lv' := [(3, .int (nI (i22 + 1))), (4, .int (-1)), (2, .int (nI N9)), (0, .ref (a 0)), (1, .int (nI pa))]) hx hb dX1_layAlike_68 hl (k := 1) rfl (nI_1 _) (by decide) rfl (fun ls hl => ?_)
        refine lv_goto (tgt := 22) hx hb dX1_layAlike_71 (by decide) ?_
        exact ih22 (i22 + 1) (by omega) _ _ _ hM (⟨hw22.1.tr hRW, h26.trans (congrArg nI (cN_f hgb)).symm, h27.trans (by rw [akS, if_neg (by rw [hgb]; decide)])⟩) ls (lv_sub hl [0, 2, 3, 4] rfl)
      refine W.eq (g2 := F0 m 32 ls [.int (nI (stAt n (rwP i22) (rwQ i22) nc))]) rfl ?_
      have hGw := hGw.pu hRW.pu
      have hs9 : stAt n (rwP i22) (rwQ i22) nc < 65536 := stAt_lt hn nc (fun j _ => ⟨rwP_lt i22 j, rwQ_lt i22 j⟩)
      refine lv_istore (lv' := [(4, .int (nI (stAt n (rwP i22) (rwQ i22) nc))), (3, .int (nI i22)), (2, .int (nI N9)), (0, .ref (a 0)), (1, .int (nI pa))]) hx hb dX1_layAlike_32 hl (by decide) rfl (fun ls hl => ?_)
      refine lv_iload hx hb dX1_layAlike_34 (lv_at hl 0 rfl) ?_
      refine lv_if_lt (tgt := 68) hx hb dX1_layAlike_36 (by decide) (fun c_36 => absurd c_36 (show ¬ nI (stAt n (rwP i22) (rwQ i22) nc) < nI 0 from nI_nlt (Nat.zero_le _) (by omega))) (fun c_36 => ?_)
      refine lv_aload_n hx hb dX1_layAlike_39 rfl (lv_at hl 3 rfl) ?_
      refine lv_iload_n hx hb dX1_layAlike_40 rfl (lv_at hl 4 rfl) ?_
      refine rc_Vi (rest := []) [.int (nI pa)] 1 S hK (r1_seesAlike l D dA a σ29 n net nc cp cq hGw (by omega) (rwP i22) (rwQ i22) (fun j hj => ⟨(hrow j hj).1, (hrow j hj).2, rwP_lt _ _, rwQ_lt _ _⟩) pa hpa) wl_X1_206 wd_X1_X1_seesAlike rfl ⟨Nat.le_of_ble_eq_true rfl, Nat.le_of_ble_eq_true rfl⟩ (m_recv hK hM.1) hl.1 (Nat.le_of_ble_eq_true rfl) dX1_layAlike_41 ⟨Nat.le_refl 0, Nat.le_refl 0⟩ (hM.1) ?_ rfl
      refine lv_if_eq (tgt := 68) hx hb dX1_layAlike_44 (by decide) (fun c_44 => ?_) (fun c_44 => ?_)
      · have c_44 := b2i_eq0.mp c_44
        have hgb : (akB n net nc cp cq pa) i22 = false := by rw [akB, c_44, Bool.and_false]
        refine lv_iinc (v := nI (i22 + 1)) (lv' := [(3, .int (nI (i22 + 1))), (4, .int (nI (stAt n (rwP i22) (rwQ i22) nc))), (2, .int (nI N9)), (0, .ref (a 0)), (1, .int (nI pa))]) hx hb dX1_layAlike_68 hl (k := 1) rfl (nI_1 _) (by decide) rfl (fun ls hl => ?_)
        refine lv_goto (tgt := 22) hx hb dX1_layAlike_71 (by decide) ?_
        exact ih22 (i22 + 1) (by omega) _ _ _ hM (⟨hw22.1.tr hRW, h26.trans (congrArg nI (cN_f hgb)).symm, h27.trans (by rw [akS, if_neg (by rw [hgb]; decide)])⟩) ls (lv_sub hl [0, 2, 3, 4] rfl)
      · have c_44 := b2i_ne0.mp c_44
        have hgb : (akB n net nc cp cq pa) i22 = true := by rw [akB, hra, c_44]; rfl
        refine lv_aload_n hx hb dX1_layAlike_47 rfl (lv_at hl 3 rfl) ?_
        refine lv_dup hx hb dX1_layAlike_48 rfl ?_
        refine m_get (v := .int (σ29.1 26)) S hK hM.1 26 (by decide) fl_X1_197 rfl dX1_layAlike_49 rfl ?_
        refine topi (z := nI (cN (akB n net nc cp cq pa) i22)) (h26) ?_
        refine lv_iconst (v := 1) hx hb dX1_layAlike_52 (by decide) ?_
        refine lv_iadd hx hb dX1_layAlike_53 ?_
        refine topi (z := nI (cN (akB n net nc cp cq pa) (i22 + 1))) (by rw [cN_t hgb]; exact nI_1 _) ?_
        refine m_put hI S hK hM 26 (by decide) rfl fl_X1_197 rfl rfl (by decide +kernel) dX1_layAlike_54 (fun H locs hM => ?_)
        refine lv_aload_n hx hb dX1_layAlike_57 rfl (lv_at hl 3 rfl) ?_
        refine lv_dup hx hb dX1_layAlike_58 rfl ?_
        refine m_get (v := .int (σ29.1 27)) S hK hM.1 27 (by decide) fl_X1_200 rfl dX1_layAlike_59 rfl ?_
        refine topi (z := nI (akS n net nc cp cq pa  i22)) (h27) ?_
        refine lv_iload hx hb dX1_layAlike_62 (lv_at hl 0 rfl) ?_
        refine lv_iand hx hb dX1_layAlike_64 ?_
        refine topi (z := nI (akS n net nc cp cq pa  (i22 + 1))) (by rw [akS, if_pos hgb]; exact nI_and _ _) ?_
        refine m_put hI S hK hM 27 (by decide) rfl fl_X1_200 rfl rfl (by decide +kernel) dX1_layAlike_65 (fun H locs hM => ?_)
        refine lv_iinc (v := nI (i22 + 1)) (lv' := [(3, .int (nI (i22 + 1))), (4, .int (nI (stAt n (rwP i22) (rwQ i22) nc))), (2, .int (nI N9)), (0, .ref (a 0)), (1, .int (nI pa))]) hx hb dX1_layAlike_68 hl (k := 1) rfl (nI_1 _) (by decide) rfl (fun ls hl => ?_)
        refine lv_goto (tgt := 22) hx hb dX1_layAlike_71 (by decide) ?_
        exact ih22 (i22 + 1) (by omega) _ _ _ hM (⟨(hw22.1.tr hRW).i26, rfl, rfl⟩) ls (lv_sub hl [0, 2, 3, 4] rfl)
  exact hloop22 (N9) 0 (by omega) _ _ _ hM (⟨RWm.i26 RWm.rf, rfl, rfl⟩) ls (lv_sub hl [0, 1, 2, 3] rfl)
set_option maxHeartbeats 4000000 in
theorem m1_alike (l : Launch) (D : va_G) (dA : Nat → ClassId) (a : Nat → Nat) (hI : mInj a) (σ : MS) (n : Nat) (net : Nat → Nat) (nc : Nat) (cp cq : Nat → Nat) (hG : MG σ n net nc cp cq) (v : Int32) : MC l yX1_alike cX1_alike 2 (some .int) 4 94 D dA a [.ref (a 0), .int v] σ (fun v9 σ9 => v9 = some (.int (spAlike n net nc cp cq v)) ∧ RWm σ σ9) := by
  refine MC.of (by decide) (Nat.le_of_ble_eq_true rfl) ?_
  intro p e s m below meth c ls S hr hlk hK hM hl
  have hx := S.1
  have hb := S.2.1
  have hl : lv_has ls 2 [(0, .ref (a 0)), (1, .int v)] := hl
  have hn := hG.1
  have hnc := hG.2.2.2.1
  have hGw := hG
  refine lv_aload_n hx hb dX1_alike_0 rfl (lv_at hl 0 rfl) ?_
  refine lv_iload_n hx hb dX1_alike_1 rfl (lv_at hl 1 rfl) ?_
  refine rc_Vi (rest := []) [.int v] 1 S hK (r1_isPerson l D dA a σ n (hG.2.1) v) wl_X1_125 wd_X1_X1_isPerson rfl ⟨Nat.le_of_ble_eq_true rfl, Nat.le_of_ble_eq_true rfl⟩ (m_recv hK hM.1) hl.1 (Nat.le_of_ble_eq_true rfl) dX1_alike_2 ⟨Nat.le_refl 0, Nat.le_refl 0⟩ (hM.1) ?_ rfl
  refine lv_if_ne (tgt := 10) hx hb dX1_alike_5 (by decide) (fun c_5 => ?_) (fun c_5 => ?_)
  · have c_5 := b2i_ne0.mp c_5
    obtain ⟨pa, hpa, rfl⟩ := inP_some (by omega) c_5
    have hpa4 : pa < 4 := by omega
    refine lv_aload_n hx hb dX1_alike_10 rfl (lv_at hl 0 rfl) ?_
    refine m_get (v := .int (σ.1 9)) S hK hM.1 9 (by decide) fl_X1_103 rfl dX1_alike_11 rfl ?_
    refine topi (z := nI nc) (hGw.2.2.2.2.1) ?_
    refine lv_iconst (v := 4) hx hb dX1_alike_14 (by decide) ?_
    refine lv_icmp_le (tgt := 21) hx hb dX1_alike_15 (by decide) (fun c_15 => ?_) (fun c_15 => ?_)
    · have c_15 : nc ≤ 4 := Nat.le_of_not_lt (fun h => nI_ge h (by omega) c_15)
      refine lv_aload_n hx hb dX1_alike_21 rfl (lv_at hl 0 rfl) ?_
      refine lv_iload_n hx hb dX1_alike_22 rfl (lv_at hl 1 rfl) ?_
      refine mc_V (rest := []) [.int (nI pa)] 1 S hK hM (m1_layAlike l D dA a hI σ n net nc cp cq hG (by omega) pa (by omega)) wl_X1_209 wd_X1_X1_layAlike rfl ⟨Nat.le_of_ble_eq_true rfl, Nat.le_of_ble_eq_true rfl⟩ hl.1 (Nat.le_of_ble_eq_true rfl) dX1_alike_23 ⟨Nat.le_refl 0, Nat.le_refl 0⟩ (fun v σ23 H locs hq hM => ?_) rfl
      obtain ⟨rfl, hRW, h26, h27⟩ := hq
      refine W.eq (g2 := F0 m 26 ls []) rfl ?_
      have hGw := hG.pu hRW.pu
      have hak := akS_lt (n := n) (net := net) (nc := nc) (cp := cp) (cq := cq) (pa := pa) (16 ^ nc)
      refine lv_aload_n hx hb dX1_alike_26 rfl (lv_at hl 0 rfl) ?_
      refine m_get (v := .int (σ23.1 26)) S hK hM.1 26 (by decide) fl_X1_197 rfl dX1_alike_27 rfl ?_
      refine topi (z := nI (cN (akB n net nc cp cq pa) (16 ^ nc))) (h26) ?_
      exact m_iret S hr hlk hM dX1_alike_30 (⟨(congrArg (fun z : Int32 => some (Value.int z)) (by simp [spAlike, inP_nI hpa (show n < 2 ^ 31 by omega), nI_clamp (show pa < 2 ^ 31 by omega), show ¬ 4 < nc from (by omega)])), hRW⟩)
    · have c_15 : 4 < nc := Nat.lt_of_not_le (fun h => c_15 (nI_le h (by decide)))
      refine lv_bipush (v := (-3)) hx hb dX1_alike_18 (by decide) ?_
      exact m_iret S hr hlk hM dX1_alike_20 (⟨(congrArg (fun z : Int32 => some (Value.int z)) (by simp [spAlike, inP_nI hpa (show n < 2 ^ 31 by omega), nI_clamp (show pa < 2 ^ 31 by omega), show 4 < nc from (by omega)])), RWm.rf⟩)
  · have c_5 := b2i_eq0.mp c_5
    refine lv_iconst (v := (-1)) hx hb dX1_alike_8 (by decide) ?_
    exact m_iret S hr hlk hM dX1_alike_9 (⟨(congrArg (fun z : Int32 => some (Value.int z)) (by simp [spAlike, *])), RWm.rf⟩)
set_option maxHeartbeats 4000000 in
theorem m1_sure (l : Launch) (D : va_G) (dA : Nat → ClassId) (a : Nat → Nat) (hI : mInj a) (σ : MS) (n : Nat) (net : Nat → Nat) (nc : Nat) (cp cq : Nat → Nat) (hG : MG σ n net nc cp cq) (v w z : Int32) : MC l yX1_sure cX1_sure 4 (some .int) 4 94 D dA a [.ref (a 0), .int v, .int w, .int z] σ (fun v9 σ9 => v9 = some (.int (spSure n net nc cp cq v w z)) ∧ RWm σ σ9) := by
  refine MC.of (by decide) (Nat.le_of_ble_eq_true rfl) ?_
  intro p e s m below meth c ls S hr hlk hK hM hl
  have hx := S.1
  have hb := S.2.1
  have hl : lv_has ls 4 [(0, .ref (a 0)), (1, .int v), (2, .int w), (3, .int z)] := hl
  have hn := hG.1
  have hnc := hG.2.2.2.1
  have hGw := hG
  refine lv_aload_n hx hb dX1_sure_0 rfl (lv_at hl 0 rfl) ?_
  refine lv_iload_n hx hb dX1_sure_1 rfl (lv_at hl 1 rfl) ?_
  refine rc_Vi (rest := []) [.int v] 1 S hK (r1_isPerson l D dA a σ n (hG.2.1) v) wl_X1_125 wd_X1_X1_isPerson rfl ⟨Nat.le_of_ble_eq_true rfl, Nat.le_of_ble_eq_true rfl⟩ (m_recv hK hM.1) hl.1 (Nat.le_of_ble_eq_true rfl) dX1_sure_2 ⟨Nat.le_refl 0, Nat.le_refl 0⟩ (hM.1) ?_ rfl
  refine lv_if_eq (tgt := 24) hx hb dX1_sure_5 (by decide) (fun c_5 => ?_) (fun c_5 => ?_)
  · have c_5 := b2i_eq0.mp c_5
    refine lv_iconst (v := (-1)) hx hb dX1_sure_24 (by decide) ?_
    exact m_iret S hr hlk hM dX1_sure_25 (⟨(congrArg (fun z : Int32 => some (Value.int z)) (by simp [spSure, *])), RWm.rf⟩)
  · have c_5 := b2i_ne0.mp c_5
    refine lv_aload_n hx hb dX1_sure_8 rfl (lv_at hl 0 rfl) ?_
    refine lv_iload_n hx hb dX1_sure_9 rfl (lv_at hl 2 rfl) ?_
    refine rc_Vi (rest := []) [.int w] 1 S hK (r1_isPerson l D dA a σ n (hG.2.1) w) wl_X1_125 wd_X1_X1_isPerson rfl ⟨Nat.le_of_ble_eq_true rfl, Nat.le_of_ble_eq_true rfl⟩ (m_recv hK hM.1) hl.1 (Nat.le_of_ble_eq_true rfl) dX1_sure_10 ⟨Nat.le_refl 0, Nat.le_refl 0⟩ (hM.1) ?_ rfl
    refine lv_if_eq (tgt := 24) hx hb dX1_sure_13 (by decide) (fun c_13 => ?_) (fun c_13 => ?_)
    · have c_13 := b2i_eq0.mp c_13
      refine lv_iconst (v := (-1)) hx hb dX1_sure_24 (by decide) ?_
      exact m_iret S hr hlk hM dX1_sure_25 (⟨(congrArg (fun z : Int32 => some (Value.int z)) (by simp [spSure, *])), RWm.rf⟩)
    · have c_13 := b2i_ne0.mp c_13
      refine lv_aload_n hx hb dX1_sure_16 rfl (lv_at hl 0 rfl) ?_
      refine lv_iload_n hx hb dX1_sure_17 rfl (lv_at hl 3 rfl) ?_
      refine rc_Vi (rest := []) [.int z] 1 S hK (r1_isPerson l D dA a σ n (hG.2.1) z) wl_X1_125 wd_X1_X1_isPerson rfl ⟨Nat.le_of_ble_eq_true rfl, Nat.le_of_ble_eq_true rfl⟩ (m_recv hK hM.1) hl.1 (Nat.le_of_ble_eq_true rfl) dX1_sure_18 ⟨Nat.le_refl 0, Nat.le_refl 0⟩ (hM.1) ?_ rfl
      refine lv_if_ne (tgt := 26) hx hb dX1_sure_21 (by decide) (fun c_21 => ?_) (fun c_21 => ?_)
      · have c_21 := b2i_ne0.mp c_21
        obtain ⟨pa, hpa, rfl⟩ := inP_some (by omega) c_5
        have hpa4 : pa < 4 := by omega
        obtain ⟨qa, hqa, rfl⟩ := inP_some (by omega) c_13
        have hqa4 : qa < 4 := by omega
        obtain ⟨za, hza, rfl⟩ := inP_some (by omega) c_21
        have hza4 : za < 4 := by omega
        refine lv_aload_n hx hb dX1_sure_26 rfl (lv_at hl 0 rfl) ?_
        refine m_get (v := .int (σ.1 9)) S hK hM.1 9 (by decide) fl_X1_103 rfl dX1_sure_27 rfl ?_
        refine topi (z := nI nc) (hGw.2.2.2.2.1) ?_
        refine lv_iconst (v := 4) hx hb dX1_sure_30 (by decide) ?_
        refine lv_icmp_le (tgt := 37) hx hb dX1_sure_31 (by decide) (fun c_31 => ?_) (fun c_31 => ?_)
        · have c_31 : nc ≤ 4 := Nat.le_of_not_lt (fun h => nI_ge h (by omega) c_31)
          refine lv_aload_n hx hb dX1_sure_37 rfl (lv_at hl 0 rfl) ?_
          refine lv_iload_n hx hb dX1_sure_38 rfl (lv_at hl 1 rfl) ?_
          refine mc_V (rest := []) [.int (nI pa)] 1 S hK hM (m1_layAlike l D dA a hI σ n net nc cp cq hG (by omega) pa (by omega)) wl_X1_209 wd_X1_X1_layAlike rfl ⟨Nat.le_of_ble_eq_true rfl, Nat.le_of_ble_eq_true rfl⟩ hl.1 (Nat.le_of_ble_eq_true rfl) dX1_sure_39 ⟨Nat.le_refl 0, Nat.le_refl 0⟩ (fun v σ39 H locs hq hM => ?_) rfl
          obtain ⟨rfl, hRW, h26, h27⟩ := hq
          refine W.eq (g2 := F0 m 42 ls []) rfl ?_
          have hGw := hG.pu hRW.pu
          have hak := akS_lt (n := n) (net := net) (nc := nc) (cp := cp) (cq := cq) (pa := pa) (16 ^ nc)
          refine lv_aload_n hx hb dX1_sure_42 rfl (lv_at hl 0 rfl) ?_
          refine m_get (v := .int (σ39.1 27)) S hK hM.1 27 (by decide) fl_X1_200 rfl dX1_sure_43 rfl ?_
          refine topi (z := nI (akS n net nc cp cq pa  (16 ^ nc))) (h27) ?_
          refine lv_iload_n hx hb dX1_sure_46 rfl (lv_at hl 2 rfl) ?_
          refine rc_Si (rest := []) [.int (nI (akS n net nc cp cq pa  (16 ^ nc))), .int (nI qa)] 2 S hK (r1_of l D dA (akS n net nc cp cq pa  (16 ^ nc)) qa (by first | assumption | omega | decide) (by first | assumption | omega | decide)) wl_X1_110 wd_X1_X1_of rfl ⟨Nat.le_of_ble_eq_true rfl, Nat.le_of_ble_eq_true rfl⟩ hl.1 (Nat.le_of_ble_eq_true rfl) dX1_sure_47 ⟨Nat.le_refl 0, Nat.le_refl 0⟩ (trivial) ?_ rfl
          have hb9 := hs4_lt (akS n net nc cp cq pa  (16 ^ nc)) qa
          refine lv_iload_n hx hb dX1_sure_50 rfl (lv_at hl 3 rfl) ?_
          refine lv_ishr hx hb dX1_sure_51 ?_
          refine lv_iconst (v := 1) hx hb dX1_sure_52 (by decide) ?_
          refine lv_iand hx hb dX1_sure_53 ?_
          refine topi (z := nI (hs4 (akS n net nc cp cq pa  (16 ^ nc)) qa >>> za &&& 1)) (bit_eq (by omega) (by omega)) ?_
          exact m_iret S hr hlk hM dX1_sure_54 (⟨(congrArg (fun z : Int32 => some (Value.int z)) (by simp [spSure, inP_nI hpa (show n < 2 ^ 31 by omega), nI_clamp (show pa < 2 ^ 31 by omega), inP_nI hqa (show n < 2 ^ 31 by omega), nI_clamp (show qa < 2 ^ 31 by omega), inP_nI hza (show n < 2 ^ 31 by omega), nI_clamp (show za < 2 ^ 31 by omega), show ¬ 4 < nc from (by omega)])), hRW⟩)
        · have c_31 : 4 < nc := Nat.lt_of_not_le (fun h => c_31 (nI_le h (by decide)))
          refine lv_bipush (v := (-3)) hx hb dX1_sure_34 (by decide) ?_
          exact m_iret S hr hlk hM dX1_sure_36 (⟨(congrArg (fun z : Int32 => some (Value.int z)) (by simp [spSure, inP_nI hpa (show n < 2 ^ 31 by omega), nI_clamp (show pa < 2 ^ 31 by omega), inP_nI hqa (show n < 2 ^ 31 by omega), nI_clamp (show qa < 2 ^ 31 by omega), inP_nI hza (show n < 2 ^ 31 by omega), nI_clamp (show za < 2 ^ 31 by omega), show 4 < nc from (by omega)])), RWm.rf⟩)
      · have c_21 := b2i_eq0.mp c_21
        refine lv_iconst (v := (-1)) hx hb dX1_sure_24 (by decide) ?_
        exact m_iret S hr hlk hM dX1_sure_25 (⟨(congrArg (fun z : Int32 => some (Value.int z)) (by simp [spSure, *])), RWm.rf⟩)
set_option maxHeartbeats 4000000 in
theorem m1_known (l : Launch) (D : va_G) (dA : Nat → ClassId) (a : Nat → Nat) (hI : mInj a) (σ : MS) (n : Nat) (net : Nat → Nat) (nc : Nat) (cp cq : Nat → Nat) (hG : MG σ n net nc cp cq) (v w : Int32) : MC l yX1_known cX1_known 3 (some .int) 4 94 D dA a [.ref (a 0), .int v, .int w] σ (fun v9 σ9 => v9 = some (.int (spKnown n net nc cp cq v w)) ∧ RWm σ σ9) := by
  refine MC.of (by decide) (Nat.le_of_ble_eq_true rfl) ?_
  intro p e s m below meth c ls S hr hlk hK hM hl
  have hx := S.1
  have hb := S.2.1
  have hl : lv_has ls 3 [(0, .ref (a 0)), (1, .int v), (2, .int w)] := hl
  have hn := hG.1
  have hnc := hG.2.2.2.1
  have hGw := hG
  refine lv_aload_n hx hb dX1_known_0 rfl (lv_at hl 0 rfl) ?_
  refine lv_iload_n hx hb dX1_known_1 rfl (lv_at hl 1 rfl) ?_
  refine rc_Vi (rest := []) [.int v] 1 S hK (r1_isPerson l D dA a σ n (hG.2.1) v) wl_X1_125 wd_X1_X1_isPerson rfl ⟨Nat.le_of_ble_eq_true rfl, Nat.le_of_ble_eq_true rfl⟩ (m_recv hK hM.1) hl.1 (Nat.le_of_ble_eq_true rfl) dX1_known_2 ⟨Nat.le_refl 0, Nat.le_refl 0⟩ (hM.1) ?_ rfl
  refine lv_if_eq (tgt := 16) hx hb dX1_known_5 (by decide) (fun c_5 => ?_) (fun c_5 => ?_)
  · have c_5 := b2i_eq0.mp c_5
    refine lv_iconst (v := (-1)) hx hb dX1_known_16 (by decide) ?_
    exact m_iret S hr hlk hM dX1_known_17 (⟨(congrArg (fun z : Int32 => some (Value.int z)) (by simp [spKnown, *])), RWm.rf⟩)
  · have c_5 := b2i_ne0.mp c_5
    refine lv_aload_n hx hb dX1_known_8 rfl (lv_at hl 0 rfl) ?_
    refine lv_iload_n hx hb dX1_known_9 rfl (lv_at hl 2 rfl) ?_
    refine rc_Vi (rest := []) [.int w] 1 S hK (r1_isPerson l D dA a σ n (hG.2.1) w) wl_X1_125 wd_X1_X1_isPerson rfl ⟨Nat.le_of_ble_eq_true rfl, Nat.le_of_ble_eq_true rfl⟩ (m_recv hK hM.1) hl.1 (Nat.le_of_ble_eq_true rfl) dX1_known_10 ⟨Nat.le_refl 0, Nat.le_refl 0⟩ (hM.1) ?_ rfl
    refine lv_if_ne (tgt := 18) hx hb dX1_known_13 (by decide) (fun c_13 => ?_) (fun c_13 => ?_)
    · have c_13 := b2i_ne0.mp c_13
      obtain ⟨pa, hpa, rfl⟩ := inP_some (by omega) c_5
      have hpa4 : pa < 4 := by omega
      obtain ⟨qa, hqa, rfl⟩ := inP_some (by omega) c_13
      have hqa4 : qa < 4 := by omega
      refine lv_aload_n hx hb dX1_known_18 rfl (lv_at hl 0 rfl) ?_
      refine m_get (v := .int (σ.1 9)) S hK hM.1 9 (by decide) fl_X1_103 rfl dX1_known_19 rfl ?_
      refine topi (z := nI nc) (hGw.2.2.2.2.1) ?_
      refine lv_iconst (v := 4) hx hb dX1_known_22 (by decide) ?_
      refine lv_icmp_le (tgt := 29) hx hb dX1_known_23 (by decide) (fun c_23 => ?_) (fun c_23 => ?_)
      · have c_23 : nc ≤ 4 := Nat.le_of_not_lt (fun h => nI_ge h (by omega) c_23)
        refine lv_aload_n hx hb dX1_known_29 rfl (lv_at hl 0 rfl) ?_
        refine lv_iload_n hx hb dX1_known_30 rfl (lv_at hl 1 rfl) ?_
        refine mc_V (rest := []) [.int (nI pa)] 1 S hK hM (m1_layAlike l D dA a hI σ n net nc cp cq hG (by omega) pa (by omega)) wl_X1_209 wd_X1_X1_layAlike rfl ⟨Nat.le_of_ble_eq_true rfl, Nat.le_of_ble_eq_true rfl⟩ hl.1 (Nat.le_of_ble_eq_true rfl) dX1_known_31 ⟨Nat.le_refl 0, Nat.le_refl 0⟩ (fun v σ31 H locs hq hM => ?_) rfl
        obtain ⟨rfl, hRW, h26, h27⟩ := hq
        refine W.eq (g2 := F0 m 34 ls []) rfl ?_
        have hGw := hG.pu hRW.pu
        have hak := akS_lt (n := n) (net := net) (nc := nc) (cp := cp) (cq := cq) (pa := pa) (16 ^ nc)
        refine lv_aload_n hx hb dX1_known_34 rfl (lv_at hl 0 rfl) ?_
        refine m_get (v := .int (σ31.1 27)) S hK hM.1 27 (by decide) fl_X1_200 rfl dX1_known_35 rfl ?_
        refine topi (z := nI (akS n net nc cp cq pa  (16 ^ nc))) (h27) ?_
        refine lv_iload_n hx hb dX1_known_38 rfl (lv_at hl 2 rfl) ?_
        refine rc_Si (rest := []) [.int (nI (akS n net nc cp cq pa  (16 ^ nc))), .int (nI qa)] 2 S hK (r1_of l D dA (akS n net nc cp cq pa  (16 ^ nc)) qa (by first | assumption | omega | decide) (by first | assumption | omega | decide)) wl_X1_110 wd_X1_X1_of rfl ⟨Nat.le_of_ble_eq_true rfl, Nat.le_of_ble_eq_true rfl⟩ hl.1 (Nat.le_of_ble_eq_true rfl) dX1_known_39 ⟨Nat.le_refl 0, Nat.le_refl 0⟩ (trivial) ?_ rfl
        exact m_iret S hr hlk hM dX1_known_42 (⟨(congrArg (fun z : Int32 => some (Value.int z)) (by simp [spKnown, inP_nI hpa (show n < 2 ^ 31 by omega), nI_clamp (show pa < 2 ^ 31 by omega), inP_nI hqa (show n < 2 ^ 31 by omega), nI_clamp (show qa < 2 ^ 31 by omega), show ¬ 4 < nc from (by omega)])), hRW⟩)
      · have c_23 : 4 < nc := Nat.lt_of_not_le (fun h => c_23 (nI_le h (by decide)))
        refine lv_bipush (v := (-3)) hx hb dX1_known_26 (by decide) ?_
        exact m_iret S hr hlk hM dX1_known_28 (⟨(congrArg (fun z : Int32 => some (Value.int z)) (by simp [spKnown, inP_nI hpa (show n < 2 ^ 31 by omega), nI_clamp (show pa < 2 ^ 31 by omega), inP_nI hqa (show n < 2 ^ 31 by omega), nI_clamp (show qa < 2 ^ 31 by omega), show 4 < nc from (by omega)])), RWm.rf⟩)
    · have c_13 := b2i_eq0.mp c_13
      refine lv_iconst (v := (-1)) hx hb dX1_known_16 (by decide) ?_
      exact m_iret S hr hlk hM dX1_known_17 (⟨(congrArg (fun z : Int32 => some (Value.int z)) (by simp [spKnown, *])), RWm.rf⟩)
set_option maxHeartbeats 4000000 in
theorem m1_end (l : Launch) (D : va_G) (dA : Nat → ClassId) (a : Nat → Nat) (hI : mInj a) (σ : MS) (n : Nat) (net : Nat → Nat) (nc : Nat) (cp cq : Nat → Nat) (hG : MG σ n net nc cp cq) (v : Int32) : MC l yX1_end cX1_end 2 (some .int) 4 94 D dA a [.ref (a 0), .int v] σ (fun v9 σ9 => v9 = some (.int (spEnd n net nc cp cq v)) ∧ RWm σ σ9) := by
  refine MC.of (by decide) (Nat.le_of_ble_eq_true rfl) ?_
  intro p e s m below meth c ls S hr hlk hK hM hl
  have hx := S.1
  have hb := S.2.1
  have hl : lv_has ls 2 [(0, .ref (a 0)), (1, .int v)] := hl
  have hn := hG.1
  have hnc := hG.2.2.2.1
  have hGw := hG
  refine lv_aload_n hx hb dX1_end_0 rfl (lv_at hl 0 rfl) ?_
  refine lv_iload_n hx hb dX1_end_1 rfl (lv_at hl 1 rfl) ?_
  refine rc_Vi (rest := []) [.int v] 1 S hK (r1_isPerson l D dA a σ n (hG.2.1) v) wl_X1_125 wd_X1_X1_isPerson rfl ⟨Nat.le_of_ble_eq_true rfl, Nat.le_of_ble_eq_true rfl⟩ (m_recv hK hM.1) hl.1 (Nat.le_of_ble_eq_true rfl) dX1_end_2 ⟨Nat.le_refl 0, Nat.le_refl 0⟩ (hM.1) ?_ rfl
  refine lv_if_ne (tgt := 10) hx hb dX1_end_5 (by decide) (fun c_5 => ?_) (fun c_5 => ?_)
  · have c_5 := b2i_ne0.mp c_5
    obtain ⟨pa, hpa, rfl⟩ := inP_some (by omega) c_5
    have hpa4 : pa < 4 := by omega
    refine lv_aload_n hx hb dX1_end_10 rfl (lv_at hl 0 rfl) ?_
    refine m_get (v := .int (σ.1 9)) S hK hM.1 9 (by decide) fl_X1_103 rfl dX1_end_11 rfl ?_
    refine topi (z := nI nc) (hGw.2.2.2.2.1) ?_
    refine lv_iconst (v := 4) hx hb dX1_end_14 (by decide) ?_
    refine lv_icmp_le (tgt := 21) hx hb dX1_end_15 (by decide) (fun c_15 => ?_) (fun c_15 => ?_)
    · have c_15 : nc ≤ 4 := Nat.le_of_not_lt (fun h => nI_ge h (by omega) c_15)
      refine lv_aload_n hx hb dX1_end_21 rfl (lv_at hl 0 rfl) ?_
      refine lv_iload_n hx hb dX1_end_22 rfl (lv_at hl 1 rfl) ?_
      refine mc_V (rest := []) [.int (nI pa)] 1 S hK hM (m1_layAlike l D dA a hI σ n net nc cp cq hG (by omega) pa (by omega)) wl_X1_209 wd_X1_X1_layAlike rfl ⟨Nat.le_of_ble_eq_true rfl, Nat.le_of_ble_eq_true rfl⟩ hl.1 (Nat.le_of_ble_eq_true rfl) dX1_end_23 ⟨Nat.le_refl 0, Nat.le_refl 0⟩ (fun v σ23 H locs hq hM => ?_) rfl
      obtain ⟨rfl, hRW, h26, h27⟩ := hq
      refine W.eq (g2 := F0 m 26 ls []) rfl ?_
      have hGw := hG.pu hRW.pu
      have hak := akS_lt (n := n) (net := net) (nc := nc) (cp := cp) (cq := cq) (pa := pa) (16 ^ nc)
      refine lv_aload_n hx hb dX1_end_26 rfl (lv_at hl 0 rfl) ?_
      refine lv_aload_n hx hb dX1_end_27 rfl (lv_at hl 0 rfl) ?_
      refine m_get (v := .int (σ23.1 27)) S hK hM.1 27 (by decide) fl_X1_200 rfl dX1_end_28 rfl ?_
      refine topi (z := nI (akS n net nc cp cq pa  (16 ^ nc))) (h27) ?_
      refine lv_aload_n hx hb dX1_end_31 rfl (lv_at hl 0 rfl) ?_
      refine m_get (v := .int (σ23.1 5)) S hK hM.1 5 (by decide) fl_X1_82 rfl dX1_end_32 rfl ?_
      refine topi (z := nI n) (hGw.2.1) ?_
      refine rc_Vi (rest := []) [.int (nI (akS n net nc cp cq pa  (16 ^ nc))), .int (nI n)] 2 S hK (r1_areExperts l D dA (a 0) (akS n net nc cp cq pa  (16 ^ nc)) n (by first | assumption | omega | decide) (by first | assumption | omega | decide)) wl_X1_167 wd_X1_X1_areExperts rfl ⟨Nat.le_of_ble_eq_true rfl, Nat.le_of_ble_eq_true rfl⟩ (m_recv hK hM.1) hl.1 (Nat.le_of_ble_eq_true rfl) dX1_end_35 ⟨Nat.le_refl 0, Nat.le_refl 0⟩ (trivial) ?_ rfl
      refine lv_if_eq (tgt := 45) hx hb dX1_end_38 (by decide) (fun c_38 => ?_) (fun c_38 => ?_)
      · have c_38 := b2i_eq0.mp c_38
        refine lv_iconst (v := 0) hx hb dX1_end_45 (by decide) ?_
        exact m_iret S hr hlk hM dX1_end_46 (⟨(congrArg (fun z : Int32 => some (Value.int z)) (by simp [spEnd, inP_nI hpa (show n < 2 ^ 31 by omega), nI_clamp (show pa < 2 ^ 31 by omega), show ¬ 4 < nc from (by omega), c_38, b2i])), hRW⟩)
      · have c_38 := b2i_ne0.mp c_38
        refine lv_iconst (v := 1) hx hb dX1_end_41 (by decide) ?_
        refine lv_goto (tgt := 46) hx hb dX1_end_42 (by decide) ?_
        exact m_iret S hr hlk hM dX1_end_46 (⟨(congrArg (fun z : Int32 => some (Value.int z)) (by simp [spEnd, inP_nI hpa (show n < 2 ^ 31 by omega), nI_clamp (show pa < 2 ^ 31 by omega), show ¬ 4 < nc from (by omega), c_38, b2i])), hRW⟩)
    · have c_15 : 4 < nc := Nat.lt_of_not_le (fun h => c_15 (nI_le h (by decide)))
      refine lv_bipush (v := (-3)) hx hb dX1_end_18 (by decide) ?_
      exact m_iret S hr hlk hM dX1_end_20 (⟨(congrArg (fun z : Int32 => some (Value.int z)) (by simp [spEnd, inP_nI hpa (show n < 2 ^ 31 by omega), nI_clamp (show pa < 2 ^ 31 by omega), show 4 < nc from (by omega)])), RWm.rf⟩)
  · have c_5 := b2i_eq0.mp c_5
    refine lv_iconst (v := (-1)) hx hb dX1_end_8 (by decide) ?_
    exact m_iret S hr hlk hM dX1_end_9 (⟨(congrArg (fun z : Int32 => some (Value.int z)) (by simp [spEnd, *])), RWm.rf⟩)
