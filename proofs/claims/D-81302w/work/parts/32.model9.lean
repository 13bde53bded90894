/-! MODEL 9: bridge (by program: gen/model9.py) -/
set_option maxRecDepth 100000
set_option maxHeartbeats 4000000 in
theorem m1_layOther (l : Launch) (D : va_G) (dA : Nat → ClassId) (a : Nat → Nat) (hI : mInj a) (σ : MS) (n : Nat) (net : Nat → Nat) (nc : Nat) (cp cq : Nat → Nat) (hG : MG σ n net nc cp cq) (pa qa : Nat) (hpa : pa < 4) (hqa : qa < 4) : MC l yX1_layOther cX1_layOther 4 none 0 0 D dA a [.ref (a 0), .int (nI pa), .int (nI qa)] σ (fun v9 σ9 => v9 = none ∧ BRm σ σ9 ∧ ∀ k, k < 4 → σ9.2.1 28 k = nI (ntX net pa qa k)) := by
  refine MC.of (by decide) (Nat.le_of_ble_eq_true rfl) ?_
  intro p e s m below meth c ls S hr hlk hK hM hl
  have hx := S.1
  have hb := S.2.1
  have hl : lv_has ls 4 [(0, .ref (a 0)), (1, .int (nI pa)), (2, .int (nI qa))] := hl
  have hn := hG.1
  have hnc := hG.2.2.2.1
  have hnet : ∀ q, q < 4 → net q < 16 := fun q hq => (hG.2.2.1 q hq).2
  refine lv_iconst (v := 0) hx hb dX1_layOther_0 (by decide) ?_
  refine lv_istore_n (lv' := [(3, .int 0), (0, .ref (a 0)), (1, .int (nI pa)), (2, .int (nI qa))]) hx hb dX1_layOther_1 rfl hl (by decide) rfl (fun ls hl => ?_)
  have hloop2 : ∀ (k2 i2 : Nat), i2 + k2 = 4 → ∀ (ω2 : MS) (H : Heap) (locs : List Loc), MB D dA a ω2 s.heap H locs → (BRm σ ω2 ∧ ∀ k, k < i2 → ω2.2.1 28 k = nI (net k)) → ∀ (ls : Array Slot), lv_has ls 4 [(3, .int (nI i2)), (0, .ref (a 0)), (1, .int (nI pa)), (2, .int (nI qa))] → W p l e ({ frames := 0, cells := 0, slots := 0, locals := 0 }) s m [.ref (a 0), .int (nI pa), .int (nI qa)].toArray below meth c H locs 0 0 (MZ below D dA a (fun v9 σ9 => v9 = none ∧ BRm σ σ9 ∧ ∀ k, k < 4 → σ9.2.1 28 k = nI (ntX net pa qa k)) [.ref (a 0), .int (nI pa), .int (nI qa)] s) (F0 m 2 ls []) := by
    intro k2
    induction k2 with
    | zero =>
      intro i2 hi2 ω2 H locs hM hw2 ls hl
      have hi2 : i2 = 4 := by omega
      have hGw := hG.pu hw2.1.1
      refine lv_iload_n hx hb dX1_layOther_2 rfl (lv_at hl 0 rfl) ?_
      refine lv_iconst (v := 4) hx hb dX1_layOther_3 (by decide) ?_
      refine lv_icmp_ge (tgt := 25) hx hb dX1_layOther_4 (by decide) (fun c_4 => ?_) (fun c_4 => absurd (show nI 4 ≤ nI i2 from nI_le (by omega) (by omega)) c_4)
      refine lv_aload_n hx hb dX1_layOther_25 rfl (lv_at hl 1 rfl) ?_
      refine m_get (v := .ref (a 28)) S hK hM.1 28 (by decide) fl_X1_66 rfl dX1_layOther_26 rfl ?_
      refine lv_iload_n hx hb dX1_layOther_29 rfl (lv_at hl 2 rfl) ?_
      refine lv_dup2_11 hx hb dX1_layOther_30 rfl rfl ?_
      refine m_aldn (j := pa) (v := nI (net pa)) S hK hM.1 28 (by decide) rfl (show pa < 4 by omega) dX1_layOther_31 (hw2.2 pa (by omega)) ?_
      refine lv_iconst (v := 1) hx hb dX1_layOther_32 (by decide) ?_
      refine lv_iload_n hx hb dX1_layOther_33 rfl (lv_at hl 3 rfl) ?_
      refine lv_ishl hx hb dX1_layOther_34 ?_
      refine topi (z := nI (2 ^ qa)) (shl1 _ (by omega)) ?_
      refine lv_ixor hx hb dX1_layOther_35 ?_
      refine topi (z := nI (net pa ^^^ 2 ^ qa)) (nI_xor _ _) ?_
      refine m_astn (j := pa) hI S hK hM 28 (by decide) rfl (show pa < 4 by omega) dX1_layOther_36 (fun H locs hM => ?_)
      exact m_vret S hr hlk hM dX1_layOther_37 (⟨rfl, hw2.1.b28 (fun x => upd16 (xor16 (hnet pa hpa) (pw16 hqa)) (hw2.1.2.2.2 x)), fun k hk => by
      by_cases h9 : k = pa
      · subst h9; rw [ntX, if_pos rfl]; exact pk_us
      · rw [ntX, if_neg h9]; exact (pk_un h9).trans (hw2.2 k (by omega))⟩)
    | succ k2 ih2 =>
      intro i2 hi2 ω2 H locs hM hw2 ls hl
      have hlt2 : i2 < 4 := by omega
      have hGw := hG.pu hw2.1.1
      refine lv_iload_n hx hb dX1_layOther_2 rfl (lv_at hl 0 rfl) ?_
      refine lv_iconst (v := 4) hx hb dX1_layOther_3 (by decide) ?_
      refine lv_icmp_ge (tgt := 25) hx hb dX1_layOther_4 (by decide) (fun c_4 => absurd c_4 (show ¬ nI 4 ≤ nI i2 from nI_ge (by omega) (by omega))) (fun c_4 => ?_)
      refine lv_aload_n hx hb dX1_layOther_7 rfl (lv_at hl 1 rfl) ?_
      refine m_get (v := .ref (a 28)) S hK hM.1 28 (by decide) fl_X1_66 rfl dX1_layOther_8 rfl ?_
      refine lv_iload_n hx hb dX1_layOther_11 rfl (lv_at hl 0 rfl) ?_
      refine lv_aload_n hx hb dX1_layOther_12 rfl (lv_at hl 1 rfl) ?_
      refine m_get (v := .ref (a 6)) S hK hM.1 6 (by decide) fl_X1_19 rfl dX1_layOther_13 rfl ?_
      refine lv_iload_n hx hb dX1_layOther_16 rfl (lv_at hl 0 rfl) ?_
      refine m_aldn (j := i2) (v := nI (net i2)) S hK hM.1 6 (by decide) rfl (show i2 < 4 by omega) dX1_layOther_17 ((hGw.2.2.1 _ (by omega)).1) ?_
      refine m_astn (j := i2) hI S hK hM 28 (by decide) rfl (show i2 < 4 by omega) dX1_layOther_18 (fun H locs hM => ?_)
      refine lv_iinc (v := nI (i2 + 1)) (lv' := [(3, .int (nI (i2 + 1))), (0, .ref (a 0)), (1, .int (nI pa)), (2, .int (nI qa))]) hx hb dX1_layOther_19 hl (k := 0) rfl (nI_1 _) (by decide) rfl (fun ls hl => ?_)
      refine lv_goto (tgt := 2) hx hb dX1_layOther_22 (by decide) ?_
      exact ih2 (i2 + 1) (by omega) _ _ _ hM (⟨hw2.1.b28 (fun x => upd16 (hnet i2 (by omega)) (hw2.1.2.2.2 x)), fun k hk => (by by_cases h9 : k = i2; (subst h9; exact pk_us); exact (pk_un h9).trans (hw2.2 k (by omega)))⟩) ls (lv_sub hl [0, 1, 2, 3] rfl)
  exact hloop2 (4) 0 (by omega) _ _ _ hM (⟨BRm.rf, fun k hk => absurd hk (Nat.not_lt_zero k)⟩) ls (lv_sub hl [0, 1, 2, 3] rfl)
set_option maxHeartbeats 4000000 in
theorem m1_bridge (l : Launch) (D : va_G) (dA : Nat → ClassId) (a : Nat → Nat) (hI : mInj a) (σ : MS) (n : Nat) (net : Nat → Nat) (nc : Nat) (cp cq : Nat → Nat) (hG : MG σ n net nc cp cq) (T : Nat) (hSN : SNm σ T) (hT : T < 2 ^ 30) (kv : Int32) : MC l yX1_bridge cX1_bridge 5 (some .int) 2 46 D dA a [.ref (a 0), .int kv] σ (fun v9 σ9 => v9 = some (.int (spBridge n net kv)) ∧ PTm σ σ9 T) := by
  refine MC.of (by decide) (Nat.le_of_ble_eq_true rfl) ?_
  intro p e s m below meth c ls S hr hlk hK hM hl
  have hx := S.1
  have hb := S.2.1
  have hl : lv_has ls 5 [(0, .ref (a 0)), (1, .int kv)] := hl
  have hn := hG.1
  have hnc := hG.2.2.2.1
  have hnet : ∀ q, q < 4 → net q < 16 := fun q hq => (hG.2.2.1 q hq).2
  have hGw := hG
  refine lv_iload_n hx hb dX1_bridge_0 rfl (lv_at hl 1 rfl) ?_
  refine lv_iconst (v := (-1)) hx hb dX1_bridge_1 (by decide) ?_
  refine lv_bipush (v := 11) hx hb dX1_bridge_2 (by decide) ?_
  refine rc_Si (rest := []) [.int kv, .int (-1), .int 11] 3 S hK (r1_isIn l D dA kv (-1) 11) wl_X1_78 wd_X1_X1_isIn rfl ⟨Nat.le_of_ble_eq_true rfl, Nat.le_of_ble_eq_true rfl⟩ hl.1 (Nat.le_of_ble_eq_true rfl) dX1_bridge_4 ⟨Nat.le_refl 0, Nat.le_refl 0⟩ (trivial) ?_ rfl
  refine lv_if_ne (tgt := 12) hx hb dX1_bridge_7 (by decide) (fun c_7 => ?_) (fun c_7 => ?_)
  · have c_7 := b2i_ne0.mp c_7
    refine lv_aload_n hx hb dX1_bridge_12 rfl (lv_at hl 0 rfl) ?_
    refine m_get (v := .ref (a 6)) S hK hM.1 6 (by decide) fl_X1_19 rfl dX1_bridge_13 rfl ?_
    refine lv_aload_n hx hb dX1_bridge_16 rfl (lv_at hl 0 rfl) ?_
    refine m_get (v := .int (σ.1 5)) S hK hM.1 5 (by decide) fl_X1_82 rfl dX1_bridge_17 rfl ?_
    refine topi (z := nI n) (hGw.2.1) ?_
    refine rc_Si (rest := []) [.ref (a 6), .int (nI n)] 2 S hK (r1_isJoined l D dA (a 6) _ net n (fun q hq9 => (hGw.2.2.1 q (Nat.lt_of_lt_of_le hq9 (by omega))).1) (fun q hq9 => (hGw.2.2.1 q (Nat.lt_of_lt_of_le hq9 (by omega))).2) (by omega)) wl_X1_213 wd_X1_X1_isJoined rfl ⟨Nat.le_of_ble_eq_true rfl, Nat.le_of_ble_eq_true rfl⟩ hl.1 (Nat.le_of_ble_eq_true rfl) dX1_bridge_20 ⟨Nat.le_refl 0, Nat.le_refl 0⟩ (m_cell hM.1 6 (by decide) rfl) ?_ rfl
    refine lv_if_ne (tgt := 29) hx hb dX1_bridge_23 (by decide) (fun c_23 => ?_) (fun c_23 => ?_)
    · have c_23 := b2i_ne0.mp c_23
      refine lv_iconst (v := 0) hx hb dX1_bridge_29 (by decide) ?_
      refine lv_istore_n (lv' := [(2, .int 0), (0, .ref (a 0)), (1, .int kv)]) hx hb dX1_bridge_30 rfl hl (by decide) rfl (fun ls hl => ?_)
      refine lv_iconst (v := 0) hx hb dX1_bridge_31 (by decide) ?_
      refine lv_istore_n (lv' := [(3, .int 0), (2, .int 0), (0, .ref (a 0)), (1, .int kv)]) hx hb dX1_bridge_32 rfl hl (by decide) rfl (fun ls hl => ?_)
      have hloop33 : ∀ (k33 i33 : Nat), i33 + k33 = n → bstF (kthB (inN n (brB net n)) kv) 16 0 = bstF (kthB (inN n (brB net n)) kv) (16 - 4 * i33) (4 * i33) → ∀ (ω33 : MS) (H : Heap) (locs : List Loc), MB D dA a ω33 s.heap H locs → BRm σ ω33 → ∀ (ls : Array Slot), lv_has ls 5 [(3, .int (nI i33)), (2, .int (nI (cN (inN n (brB net n)) (4 * i33)))), (0, .ref (a 0)), (1, .int kv)] → W p l e ({ frames := 2, cells := 0, slots := 0, locals := 46 }) s m [.ref (a 0), .int kv].toArray below meth c H locs 0 0 (MZ below D dA a (fun v9 σ9 => v9 = some (.int (spBridge n net kv)) ∧ PTm σ σ9 T) [.ref (a 0), .int kv] s) (F0 m 33 ls []) := by
        intro k33
        induction k33 with
        | zero =>
          intro i33 hi33 hinv33 ω33 H locs hM hw33 ls hl
          have hi33 : i33 = n := by omega
          have hGw := hG.pu hw33.1
          refine lv_iload_n hx hb dX1_bridge_33 rfl (lv_at hl 0 rfl) ?_
          refine lv_aload_n hx hb dX1_bridge_34 rfl (lv_at hl 2 rfl) ?_
          refine m_get (v := .int (ω33.1 5)) S hK hM.1 5 (by decide) fl_X1_82 rfl dX1_bridge_35 rfl ?_
          refine topi (z := nI n) (hGw.2.1) ?_
          refine lv_icmp_ge (tgt := 125) hx hb dX1_bridge_38 (by decide) (fun c_38 => ?_) (fun c_38 => absurd (show nI n ≤ nI i33 from nI_le (by omega) (by omega)) c_38)
          refine lv_iload_n hx hb dX1_bridge_125 rfl (lv_at hl 3 rfl) ?_
          refine lv_iconst (v := (-1)) hx hb dX1_bridge_126 (by decide) ?_
          refine lv_icmp_ne (tgt := 134) hx hb dX1_bridge_127 (by decide) (fun c_127 => ?_) (fun c_127 => ?_)
          · refine lv_bipush (v := (-9)) hx hb dX1_bridge_134 (by decide) ?_
            exact m_iret S hr hlk hM dX1_bridge_136 (⟨(congrArg (fun z : Int32 => some (Value.int z)) (by rw [spBridge, if_neg (by rw [c_7]; decide), if_neg (by rw [c_23]; decide)]; exact sp_none c_127 (hinv33.trans (by rw [hi33]; exact bst_all)))), hw33.pt hSN⟩)
          · refine lv_iload_n hx hb dX1_bridge_130 rfl (lv_at hl 1 rfl) ?_
            refine lv_goto (tgt := 136) hx hb dX1_bridge_131 (by decide) ?_
            exact m_iret S hr hlk hM dX1_bridge_136 (⟨(congrArg (fun z : Int32 => some (Value.int z)) (by rw [spBridge, if_neg (by rw [c_7]; decide), if_neg (by rw [c_23]; decide), hi33, ← cN_all hn]; exact sp_count c_127)), hw33.pt hSN⟩)
        | succ k33 ih33 =>
          intro i33 hi33 hinv33 ω33 H locs hM hw33 ls hl
          have hlt33 : i33 < n := by omega
          have hGw := hG.pu hw33.1
          refine lv_iload_n hx hb dX1_bridge_33 rfl (lv_at hl 0 rfl) ?_
          refine lv_aload_n hx hb dX1_bridge_34 rfl (lv_at hl 2 rfl) ?_
          refine m_get (v := .int (ω33.1 5)) S hK hM.1 5 (by decide) fl_X1_82 rfl dX1_bridge_35 rfl ?_
          refine topi (z := nI n) (hGw.2.1) ?_
          refine lv_icmp_ge (tgt := 125) hx hb dX1_bridge_38 (by decide) (fun c_38 => absurd c_38 (show ¬ nI n ≤ nI i33 from nI_ge (by omega) (by omega))) (fun c_38 => ?_)
          refine lv_iconst (v := 0) hx hb dX1_bridge_41 (by decide) ?_
          refine lv_istore (lv' := [(4, .int 0), (3, .int (nI i33)), (2, .int (nI (cN (inN n (brB net n)) (4 * i33)))), (0, .ref (a 0)), (1, .int kv)]) hx hb dX1_bridge_42 hl (by decide) rfl (fun ls hl => ?_)
          have hloop44 : ∀ (k44 i44 : Nat), i44 + k44 = n → bstF (kthB (inN n (brB net n)) kv) 16 0 = bstF (kthB (inN n (brB net n)) kv) (16 - (4 * i33 + i44)) (4 * i33 + i44) → ∀ (ω44 : MS) (H : Heap) (locs : List Loc), MB D dA a ω44 s.heap H locs → BRm σ ω44 → ∀ (ls : Array Slot), lv_has ls 5 [(4, .int (nI i44)), (3, .int (nI i33)), (2, .int (nI (cN (inN n (brB net n)) (4 * i33 + i44)))), (0, .ref (a 0)), (1, .int kv)] → W p l e ({ frames := 2, cells := 0, slots := 0, locals := 46 }) s m [.ref (a 0), .int kv].toArray below meth c H locs 0 0 (MZ below D dA a (fun v9 σ9 => v9 = some (.int (spBridge n net kv)) ∧ PTm σ σ9 T) [.ref (a 0), .int kv] s) (F0 m 44 ls []) := by
            intro k44
            induction k44 with
            | zero =>
              intro i44 hi44 hinv44 ω44 H locs hM hw44 ls hl
              have hi44 : i44 = n := by omega
              have hGw := hG.pu hw44.1
              refine lv_iload hx hb dX1_bridge_44 (lv_at hl 0 rfl) ?_
              refine lv_aload_n hx hb dX1_bridge_46 rfl (lv_at hl 3 rfl) ?_
              refine m_get (v := .int (ω44.1 5)) S hK hM.1 5 (by decide) fl_X1_82 rfl dX1_bridge_47 rfl ?_
              refine topi (z := nI n) (hGw.2.1) ?_
              refine lv_icmp_ge (tgt := 119) hx hb dX1_bridge_50 (by decide) (fun c_50 => ?_) (fun c_50 => absurd (show nI n ≤ nI i44 from nI_le (by omega) (by omega)) c_50)
              refine lv_iinc (v := nI (i33 + 1)) (lv' := [(3, .int (nI (i33 + 1))), (4, .int (nI i44)), (2, .int (nI (cN (inN n (brB net n)) (4 * i33 + i44)))), (0, .ref (a 0)), (1, .int kv)]) hx hb dX1_bridge_119 hl (k := 1) rfl (nI_1 _) (by decide) rfl (fun ls hl => ?_)
              refine lv_goto (tgt := 33) hx hb dX1_bridge_122 (by decide) ?_
              have e33_2 : nI (cN (inN n (brB net n)) (4 * (i33 + 1))) = nI (cN (inN n (brB net n)) (4 * i33 + i44)) := by rw [hi44]; exact congrArg nI (cN_row hn)
              exact ih33 (i33 + 1) (by omega) (hinv44.trans (by rw [hi44]; exact bst_row hn (by omega))) _ _ _ hM (hw44) ls (by rw [e33_2]; exact lv_sub hl [0, 2, 3, 4] rfl)
            | succ k44 ih44 =>
              intro i44 hi44 hinv44 ω44 H locs hM hw44 ls hl
              have hlt44 : i44 < n := by omega
              have hGw := hG.pu hw44.1
              have hb9 := hnet i33 (by omega)
              refine lv_iload hx hb dX1_bridge_44 (lv_at hl 0 rfl) ?_
              refine lv_aload_n hx hb dX1_bridge_46 rfl (lv_at hl 3 rfl) ?_
              refine m_get (v := .int (ω44.1 5)) S hK hM.1 5 (by decide) fl_X1_82 rfl dX1_bridge_47 rfl ?_
              refine topi (z := nI n) (hGw.2.1) ?_
              refine lv_icmp_ge (tgt := 119) hx hb dX1_bridge_50 (by decide) (fun c_50 => absurd c_50 (show ¬ nI n ≤ nI i44 from nI_ge (by omega) (by omega))) (fun c_50 => ?_)
              refine lv_iload_n hx hb dX1_bridge_53 rfl (lv_at hl 1 rfl) ?_
              refine lv_iload hx hb dX1_bridge_54 (lv_at hl 0 rfl) ?_
              refine lv_icmp_eq (tgt := 113) hx hb dX1_bridge_56 (by decide) (fun c_56 => ?_) (fun c_56 => ?_)
              · have c_56 : i33 = i44 := nI_inj (by omega) (by omega) c_56
                have hgb : (inN n (brB net n)) (4 * i33 + i44) = false := by rw [inN_in hlt33 hlt44 hn]; simp [brB, *]
                have hkt : kthB (inN n (brB net n)) kv (4 * i33 + i44) = false := kth_f hgb
                refine lv_iinc (v := nI (i44 + 1)) (lv' := [(4, .int (nI (i44 + 1))), (3, .int (nI i33)), (2, .int (nI (cN (inN n (brB net n)) (4 * i33 + i44)))), (0, .ref (a 0)), (1, .int kv)]) hx hb dX1_bridge_113 hl (k := 0) rfl (nI_1 _) (by decide) rfl (fun ls hl => ?_)
                refine lv_goto (tgt := 44) hx hb dX1_bridge_116 (by decide) ?_
                have e44_2 : nI (cN (inN n (brB net n)) (4 * i33 + (i44 + 1))) = nI (cN (inN n (brB net n)) (4 * i33 + i44)) := by exact congrArg nI (cN_f hgb)
                exact ih44 (i44 + 1) (by omega) (hinv44.trans (bst_step hkt (by omega))) _ _ _ hM (hw44) ls (by rw [e44_2]; exact lv_sub hl [0, 1, 2, 3, 4] rfl)
              · have c_56 : ¬ i33 = i44 := fun h => c_56 (congrArg nI h)
                refine lv_aload_n hx hb dX1_bridge_59 rfl (lv_at hl 3 rfl) ?_
                refine m_get (v := .ref (a 6)) S hK hM.1 6 (by decide) fl_X1_19 rfl dX1_bridge_60 rfl ?_
                refine lv_iload_n hx hb dX1_bridge_63 rfl (lv_at hl 1 rfl) ?_
                refine m_aldn (j := i33) (v := nI (net i33)) S hK hM.1 6 (by decide) rfl (show i33 < 4 by omega) dX1_bridge_64 ((hGw.2.2.1 _ (by omega)).1) ?_
                refine lv_iload hx hb dX1_bridge_65 (lv_at hl 0 rfl) ?_
                refine rc_Si (rest := []) [.int (nI (net i33)), .int (nI i44)] 2 S hK (r1_has l D dA (net i33) i44 (by first | assumption | omega | decide) (by first | assumption | omega | decide)) wl_X1_106 wd_X1_X1_has rfl ⟨Nat.le_of_ble_eq_true rfl, Nat.le_of_ble_eq_true rfl⟩ hl.1 (Nat.le_of_ble_eq_true rfl) dX1_bridge_67 ⟨Nat.le_refl 0, Nat.le_refl 0⟩ (trivial) ?_ rfl
                refine lv_if_ne (tgt := 76) hx hb dX1_bridge_70 (by decide) (fun c_70 => ?_) (fun c_70 => ?_)
                · have c_70 := b2i_ne0.mp c_70
                  refine lv_aload_n hx hb dX1_bridge_76 rfl (lv_at hl 3 rfl) ?_
                  refine lv_iload_n hx hb dX1_bridge_77 rfl (lv_at hl 1 rfl) ?_
                  refine lv_iload hx hb dX1_bridge_78 (lv_at hl 0 rfl) ?_
                  refine mc_V (rest := []) [.int (nI i33), .int (nI i44)] 2 S hK hM (m1_layOther l D dA a hI ω44 n net nc cp cq hGw i33 i44 (by omega) (by omega)) wl_X1_217 wd_X1_X1_layOther rfl ⟨Nat.le_of_ble_eq_true rfl, Nat.le_of_ble_eq_true rfl⟩ hl.1 (Nat.le_of_ble_eq_true rfl) dX1_bridge_80 ⟨Nat.le_refl 0, Nat.le_refl 0⟩ (fun v σ80 H locs hq hM => ?_) rfl
                  obtain ⟨rfl, hBR, hOt⟩ := hq
                  refine W.eq (g2 := F0 m 83 ls []) rfl ?_
                  have hGw := hGw.pu hBR.1
                  refine lv_aload_n hx hb dX1_bridge_83 rfl (lv_at hl 3 rfl) ?_
                  refine m_get (v := .ref (a 28)) S hK hM.1 28 (by decide) fl_X1_66 rfl dX1_bridge_84 rfl ?_
                  refine lv_aload_n hx hb dX1_bridge_87 rfl (lv_at hl 3 rfl) ?_
                  refine m_get (v := .int (σ80.1 5)) S hK hM.1 5 (by decide) fl_X1_82 rfl dX1_bridge_88 rfl ?_
                  refine topi (z := nI n) (hGw.2.1) ?_
                  refine rc_Si (rest := []) [.ref (a 28), .int (nI n)] 2 S hK (r1_isJoined l D dA (a 28) _ (ntX net i33 i44) n (fun q hq9 => (hOt q (Nat.lt_of_lt_of_le hq9 (by omega)))) (fun q hq9 => (ntX_lt hnet (by omega) q (Nat.lt_of_lt_of_le hq9 (by omega)))) (by omega)) wl_X1_213 wd_X1_X1_isJoined rfl ⟨Nat.le_of_ble_eq_true rfl, Nat.le_of_ble_eq_true rfl⟩ hl.1 (Nat.le_of_ble_eq_true rfl) dX1_bridge_91 ⟨Nat.le_refl 0, Nat.le_refl 0⟩ (m_cell hM.1 28 (by decide) rfl) ?_ rfl
                  refine lv_if_ne (tgt := 113) hx hb dX1_bridge_94 (by decide) (fun c_94 => ?_) (fun c_94 => ?_)
                  · have c_94 := b2i_ne0.mp c_94
                    have hgb : (inN n (brB net n)) (4 * i33 + i44) = false := by rw [inN_in hlt33 hlt44 hn]; simp [brB, *]
                    have hkt : kthB (inN n (brB net n)) kv (4 * i33 + i44) = false := kth_f hgb
                    refine lv_iinc (v := nI (i44 + 1)) (lv' := [(4, .int (nI (i44 + 1))), (3, .int (nI i33)), (2, .int (nI (cN (inN n (brB net n)) (4 * i33 + i44)))), (0, .ref (a 0)), (1, .int kv)]) hx hb dX1_bridge_113 hl (k := 0) rfl (nI_1 _) (by decide) rfl (fun ls hl => ?_)
                    refine lv_goto (tgt := 44) hx hb dX1_bridge_116 (by decide) ?_
                    have e44_2 : nI (cN (inN n (brB net n)) (4 * i33 + (i44 + 1))) = nI (cN (inN n (brB net n)) (4 * i33 + i44)) := by exact congrArg nI (cN_f hgb)
                    exact ih44 (i44 + 1) (by omega) (hinv44.trans (bst_step hkt (by omega))) _ _ _ hM (hw44.tr hBR) ls (by rw [e44_2]; exact lv_sub hl [0, 1, 2, 3, 4] rfl)
                  · have c_94 := b2i_eq0.mp c_94
                    have hgb : (inN n (brB net n)) (4 * i33 + i44) = true := by rw [inN_in hlt33 hlt44 hn]; simp [brB, *]
                    refine lv_iload_n hx hb dX1_bridge_97 rfl (lv_at hl 2 rfl) ?_
                    refine lv_iload_n hx hb dX1_bridge_98 rfl (lv_at hl 4 rfl) ?_
                    refine lv_icmp_ne (tgt := 110) hx hb dX1_bridge_99 (by decide) (fun c_99 => ?_) (fun c_99 => ?_)
                    · have hkt : kthB (inN n (brB net n)) kv (4 * i33 + i44) = false := kth_n c_99
                      refine lv_iinc (v := nI ((cN (inN n (brB net n)) (4 * i33 + i44)) + 1)) (lv' := [(2, .int (nI ((cN (inN n (brB net n)) (4 * i33 + i44)) + 1))), (4, .int (nI i44)), (3, .int (nI i33)), (0, .ref (a 0)), (1, .int kv)]) hx hb dX1_bridge_110 hl (k := 2) rfl (nI_1 _) (by decide) rfl (fun ls hl => ?_)
                      refine lv_iinc (v := nI (i44 + 1)) (lv' := [(4, .int (nI (i44 + 1))), (2, .int (nI ((cN (inN n (brB net n)) (4 * i33 + i44)) + 1))), (3, .int (nI i33)), (0, .ref (a 0)), (1, .int kv)]) hx hb dX1_bridge_113 hl (k := 1) rfl (nI_1 _) (by decide) rfl (fun ls hl => ?_)
                      refine lv_goto (tgt := 44) hx hb dX1_bridge_116 (by decide) ?_
                      have e44_2 : nI (cN (inN n (brB net n)) (4 * i33 + (i44 + 1))) = nI ((cN (inN n (brB net n)) (4 * i33 + i44)) + 1) := by exact congrArg nI (cN_t hgb)
                      exact ih44 (i44 + 1) (by omega) (hinv44.trans (bst_step hkt (by omega))) _ _ _ hM (hw44.tr hBR) ls (by rw [e44_2]; exact lv_sub hl [0, 2, 1, 3, 4] rfl)
                    · refine lv_bipush (v := 10) hx hb dX1_bridge_102 (by decide) ?_
                      refine lv_iload_n hx hb dX1_bridge_104 rfl (lv_at hl 1 rfl) ?_
                      refine lv_imul hx hb dX1_bridge_105 ?_
                      refine lv_iload hx hb dX1_bridge_106 (lv_at hl 0 rfl) ?_
                      refine lv_iadd hx hb dX1_bridge_108 ?_
                      exact m_iret S hr hlk hM dX1_bridge_109 (⟨(congrArg (fun z : Int32 => some (Value.int z)) (by rw [spBridge, if_neg (by rw [c_7]; decide), if_neg (by rw [c_23]; decide)]; exact sp_found (by omega) (by omega) (hinv44.trans (bstF_t (by omega) (kth_t hgb c_99))) c_99)), (hw44.tr hBR).pt hSN⟩)
                · have c_70 := b2i_eq0.mp c_70
                  have hgb : (inN n (brB net n)) (4 * i33 + i44) = false := by rw [inN_in hlt33 hlt44 hn]; simp [brB, *]
                  have hkt : kthB (inN n (brB net n)) kv (4 * i33 + i44) = false := kth_f hgb
                  refine lv_goto (tgt := 113) hx hb dX1_bridge_73 (by decide) ?_
                  refine lv_iinc (v := nI (i44 + 1)) (lv' := [(4, .int (nI (i44 + 1))), (3, .int (nI i33)), (2, .int (nI (cN (inN n (brB net n)) (4 * i33 + i44)))), (0, .ref (a 0)), (1, .int kv)]) hx hb dX1_bridge_113 hl (k := 0) rfl (nI_1 _) (by decide) rfl (fun ls hl => ?_)
                  refine lv_goto (tgt := 44) hx hb dX1_bridge_116 (by decide) ?_
                  have e44_2 : nI (cN (inN n (brB net n)) (4 * i33 + (i44 + 1))) = nI (cN (inN n (brB net n)) (4 * i33 + i44)) := by exact congrArg nI (cN_f hgb)
                  exact ih44 (i44 + 1) (by omega) (hinv44.trans (bst_step hkt (by omega))) _ _ _ hM (hw44) ls (by rw [e44_2]; exact lv_sub hl [0, 1, 2, 3, 4] rfl)
          exact hloop44 (n) 0 (by omega) (hinv33) _ _ _ hM (hw33) ls (lv_sub hl [0, 1, 2, 3, 4] rfl)
      exact hloop33 (n) 0 (by omega) (rfl) _ _ _ hM (BRm.rf) ls (lv_sub hl [0, 1, 2, 3] rfl)
    · have c_23 := b2i_eq0.mp c_23
      refine lv_bipush (v := (-3)) hx hb dX1_bridge_26 (by decide) ?_
      exact m_iret S hr hlk hM dX1_bridge_28 (⟨(congrArg (fun z : Int32 => some (Value.int z)) (by simp [spBridge, *])), PTm.rf hSN⟩)
  · have c_7 := b2i_eq0.mp c_7
    refine lv_iconst (v := (-1)) hx hb dX1_bridge_10 (by decide) ?_
    exact m_iret S hr hlk hM dX1_bridge_11 (⟨(congrArg (fun z : Int32 => some (Value.int z)) (by simp [spBridge, *])), PTm.rf hSN⟩)
set_option maxHeartbeats 4000000 in
theorem m1_verdictFrom (l : Launch) (D : va_G) (dA : Nat → ClassId) (a : Nat → Nat) (hI : mInj a) (σ : MS) (n r : Nat) (hn : n < 5) (hn0 : 0 < n) (hr4 : r < 4) (g : Nat → Nat) (hg : ∀ q, q < 4 → σ.2.1 28 q = nI (g q) ∧ g q < 16) (T : Nat) (hSN : SNm σ T) (hT : T < 2 ^ 30) : MC l yX1_verdictFrom cX1_verdictFrom 4 (some .int) 7 232 D dA a [.ref (a 0), .ref (a 28), .int (nI n), .int (nI r)] σ (fun v9 σ9 => v9 = some (.int (vrd (val g n r (st0 n) (al n)))) ∧ PUm σ σ9 ∧ SNm σ9 (T + 1) ∧ σ9.2.1 28 = σ.2.1 28) := by
  refine MC.of (by decide) (Nat.le_of_ble_eq_true rfl) ?_
  intro p e s m below meth c ls S hr hlk hK hM hl
  have hx := S.1
  have hb := S.2.1
  have hl : lv_has ls 4 [(0, .ref (a 0)), (1, .ref (a 28)), (2, .int (nI n)), (3, .int (nI r))] := hl
  have hal := al_lt n hn
  have hst0 := st0_lt n hn
  have hv0 := vld_0 n hn
  refine lv_aload_n hx hb dX1_verdictFrom_0 rfl (lv_at hl 0 rfl) ?_
  refine lv_aload_n hx hb dX1_verdictFrom_1 rfl (lv_at hl 1 rfl) ?_
  refine lv_iload_n hx hb dX1_verdictFrom_2 rfl (lv_at hl 2 rfl) ?_
  refine lv_iload_n hx hb dX1_verdictFrom_3 rfl (lv_at hl 3 rfl) ?_
  refine mc_Vv (rest := []) [.ref (a 28), .int (nI n), .int (nI r)] 3 S hK hM (m1_lookAt l D dA a hI σ (a 28) (nI n) (nI r)) wl_X1_184 wd_X1_X1_lookAt rfl ⟨Nat.le_of_ble_eq_true rfl, Nat.le_of_ble_eq_true rfl⟩ hl.1 (Nat.le_of_ble_eq_true rfl) dX1_verdictFrom_4 ⟨Nat.le_refl 0, Nat.le_refl 0⟩ (fun H locs hM => ?_) rfl
  refine lv_aload_n hx hb dX1_verdictFrom_7 rfl (lv_at hl 0 rfl) ?_
  refine lv_aload_n hx hb dX1_verdictFrom_8 rfl (lv_at hl 0 rfl) ?_
  refine lv_aload_n hx hb dX1_verdictFrom_9 rfl (lv_at hl 0 rfl) ?_
  refine lv_iload_n hx hb dX1_verdictFrom_10 rfl (lv_at hl 2 rfl) ?_
  refine rc_Vi (rest := [.ref (a 0), .ref (a 0)]) [.int (nI n)] 1 S hK (r1_startOf l D dA (a 0) n (by first | assumption | omega | decide)) wl_X1_114 wd_X1_X1_startOf rfl ⟨Nat.le_of_ble_eq_true rfl, Nat.le_of_ble_eq_true rfl⟩ (m_recv hK hM.1) hl.1 (Nat.le_of_ble_eq_true rfl) dX1_verdictFrom_11 ⟨Nat.le_refl 0, Nat.le_refl 0⟩ (trivial) ?_ rfl
  refine lv_iconst (v := 1) hx hb dX1_verdictFrom_14 (by decide) ?_
  refine lv_iload_n hx hb dX1_verdictFrom_15 rfl (lv_at hl 2 rfl) ?_
  refine lv_ishl hx hb dX1_verdictFrom_16 ?_
  refine lv_iconst (v := 1) hx hb dX1_verdictFrom_17 (by decide) ?_
  refine lv_isub hx hb dX1_verdictFrom_18 ?_
  refine topi (z := nI (al n)) (al_eq n hn) ?_
  refine mc_V (rest := [.ref (a 0)]) [.int (nI (st0 n)), .int (nI (al n))] 2 S hK hM (m1_lay l D dA a hI ((((σ.i 17 ((σ.1 17) + 1)).r (a 28)).i 22 (nI n)).i 23 (nI r)) (n := n) (r := r) (kk := 28) (net := g) (tn := nI (T + 1)) (sx := st0 n) (tx := al n) hn hr4 hv0 hal (mu_vld hn0 hv0) ⟨rfl, Or.inr rfl, hg, rfl, rfl, turn1 hSN⟩ (TBm.none (fun pl => hSN.un hT pl))) wl_X1_188 wd_X1_X1_lay rfl ⟨Nat.le_of_ble_eq_true rfl, Nat.le_of_ble_eq_true rfl⟩ hl.1 (Nat.le_of_ble_eq_true rfl) dX1_verdictFrom_19 ⟨Nat.le_refl 0, Nat.le_refl 0⟩ (fun v σ19 H locs hq hM => ?_) rfl
  obtain ⟨rfl, hTB19, hse19, hfr19⟩ := hq
  refine W.eq (g2 := F0 m 22 ls [.int (nI (plc (st0 n) (al n))), .ref (a 0)]) rfl ?_
  refine rc_Vi (rest := []) [.int (nI (plc (st0 n) (al n)))] 1 S hK (r1_verdictAt l D dA a σ19 (plc (st0 n) (al n)) (val g n r (st0 n) (al n)) (plc_lt _ _) (hTB19 _ _ hv0 hal hse19).1 (Nat.lt_of_le_of_lt (val_ok hn hv0 (mu_vld hn0 hv0)).1.1 (by decide)) (val_ok hn hv0 (mu_vld hn0 hv0)).1.2.1) wl_X1_194 wd_X1_X1_verdictAt rfl ⟨Nat.le_of_ble_eq_true rfl, Nat.le_of_ble_eq_true rfl⟩ (m_recv hK hM.1) hl.1 (Nat.le_of_ble_eq_true rfl) dX1_verdictFrom_22 ⟨Nat.le_refl 0, Nat.le_refl 0⟩ (hM.1) ?_ rfl
  exact m_iret S hr hlk hM dX1_verdictFrom_25 (⟨rfl, PUm.tr ⟨rfl, rfl, rfl, rfl, rfl, rfl, rfl, rfl, rfl, rfl⟩ hfr19.pu, SNm.lay hfr19 hSN rfl (turn1 hSN), hfr19.ot⟩)
set_option maxHeartbeats 4000000 in
theorem m1_mend (l : Launch) (D : va_G) (dA : Nat → ClassId) (a : Nat → Nat) (hI : mInj a) (σ : MS) (n : Nat) (net : Nat → Nat) (nc : Nat) (cp cq : Nat → Nat) (hG : MG σ n net nc cp cq) (T : Nat) (hSN : SNm σ T) (hT : T < 2 ^ 29) (rv kv : Int32) : MC l yX1_mend cX1_mend 6 (some .int) 8 255 D dA a [.ref (a 0), .int rv, .int kv] σ (fun v9 σ9 => v9 = some (.int (spMend n net rv kv)) ∧ PTm σ σ9 T) := by
  refine MC.of (by decide) (Nat.le_of_ble_eq_true rfl) ?_
  intro p e s m below meth c ls S hr hlk hK hM hl
  have hx := S.1
  have hb := S.2.1
  have hl : lv_has ls 6 [(0, .ref (a 0)), (1, .int rv), (2, .int kv)] := hl
  have hn := hG.1
  have hnc := hG.2.2.2.1
  have hnet : ∀ q, q < 4 → net q < 16 := fun q hq => (hG.2.2.1 q hq).2
  have hGw := hG
  refine lv_iload_n hx hb dX1_mend_0 rfl (lv_at hl 1 rfl) ?_
  refine rc_Si (rest := []) [.int rv] 1 S hK (r1_isRule l D dA rv) wl_X1_150 wd_X1_X1_isRule rfl ⟨Nat.le_of_ble_eq_true rfl, Nat.le_of_ble_eq_true rfl⟩ hl.1 (Nat.le_of_ble_eq_true rfl) dX1_mend_1 ⟨Nat.le_refl 0, Nat.le_refl 0⟩ (trivial) ?_ rfl
  refine lv_if_eq (tgt := 17) hx hb dX1_mend_4 (by decide) (fun c_4 => ?_) (fun c_4 => ?_)
  · have c_4 := b2i_eq0.mp c_4
    refine lv_iconst (v := (-1)) hx hb dX1_mend_17 (by decide) ?_
    exact m_iret S hr hlk hM dX1_mend_18 (⟨(congrArg (fun z : Int32 => some (Value.int z)) (by simp [spMend, *])), PTm.rf hSN⟩)
  · have c_4 := b2i_ne0.mp c_4
    refine lv_iload_n hx hb dX1_mend_7 rfl (lv_at hl 2 rfl) ?_
    refine lv_iconst (v := (-1)) hx hb dX1_mend_8 (by decide) ?_
    refine lv_bipush (v := 11) hx hb dX1_mend_9 (by decide) ?_
    refine rc_Si (rest := []) [.int kv, .int (-1), .int 11] 3 S hK (r1_isIn l D dA kv (-1) 11) wl_X1_78 wd_X1_X1_isIn rfl ⟨Nat.le_of_ble_eq_true rfl, Nat.le_of_ble_eq_true rfl⟩ hl.1 (Nat.le_of_ble_eq_true rfl) dX1_mend_11 ⟨Nat.le_refl 0, Nat.le_refl 0⟩ (trivial) ?_ rfl
    refine lv_if_ne (tgt := 19) hx hb dX1_mend_14 (by decide) (fun c_14 => ?_) (fun c_14 => ?_)
    · have c_14 := b2i_ne0.mp c_14
      obtain ⟨r, hr9, rfl⟩ := inR_some (k := 3) (by decide) c_4
      have hr4 : r < 4 := by omega
      refine lv_aload_n hx hb dX1_mend_19 rfl (lv_at hl 0 rfl) ?_
      refine m_get (v := .int (σ.1 5)) S hK hM.1 5 (by decide) fl_X1_82 rfl dX1_mend_20 rfl ?_
      refine topi (z := nI n) (hGw.2.1) ?_
      refine lv_if_ne (tgt := 29) hx hb dX1_mend_23 (by decide) (fun c_23 => ?_) (fun c_23 => ?_)
      · have c_23 : ¬ n = 0 := fun h => c_23 (congrArg nI h)
        refine lv_iconst (v := 0) hx hb dX1_mend_29 (by decide) ?_
        refine lv_istore_n (lv' := [(3, .int 0), (0, .ref (a 0)), (1, .int (nI r)), (2, .int kv)]) hx hb dX1_mend_30 rfl hl (by decide) rfl (fun ls hl => ?_)
        refine lv_iconst (v := 0) hx hb dX1_mend_31 (by decide) ?_
        refine lv_istore (lv' := [(4, .int 0), (3, .int 0), (0, .ref (a 0)), (1, .int (nI r)), (2, .int kv)]) hx hb dX1_mend_32 hl (by decide) rfl (fun ls hl => ?_)
        have hloop34 : ∀ (k34 i34 : Nat), i34 + k34 = n → bstF (kthB (inN n (meB net n r)) kv) 16 0 = bstF (kthB (inN n (meB net n r)) kv) (16 - 4 * i34) (4 * i34) → ∀ (ω34 : MS) (H : Heap) (locs : List Loc), MB D dA a ω34 s.heap H locs → MEm σ ω34 T (4 * i34) → ∀ (ls : Array Slot), lv_has ls 6 [(4, .int (nI i34)), (3, .int (nI (cN (inN n (meB net n r)) (4 * i34)))), (0, .ref (a 0)), (1, .int (nI r)), (2, .int kv)] → W p l e ({ frames := 8, cells := 0, slots := 0, locals := 255 }) s m [.ref (a 0), .int (nI r), .int kv].toArray below meth c H locs 0 0 (MZ below D dA a (fun v9 σ9 => v9 = some (.int (spMend n net (nI r) kv)) ∧ PTm σ σ9 T) [.ref (a 0), .int (nI r), .int kv] s) (F0 m 34 ls []) := by
          intro k34
          induction k34 with
          | zero =>
            intro i34 hi34 hinv34 ω34 H locs hM hw34 ls hl
            have hi34 : i34 = n := by omega
            have hGw := hG.pu hw34.1
            refine lv_iload hx hb dX1_mend_34 (lv_at hl 0 rfl) ?_
            refine lv_aload_n hx hb dX1_mend_36 rfl (lv_at hl 2 rfl) ?_
            refine m_get (v := .int (ω34.1 5)) S hK hM.1 5 (by decide) fl_X1_82 rfl dX1_mend_37 rfl ?_
            refine topi (z := nI n) (hGw.2.1) ?_
            refine lv_icmp_ge (tgt := 134) hx hb dX1_mend_40 (by decide) (fun c_40 => ?_) (fun c_40 => absurd (show nI n ≤ nI i34 from nI_le (by omega) (by omega)) c_40)
            refine lv_iload_n hx hb dX1_mend_134 rfl (lv_at hl 4 rfl) ?_
            refine lv_iconst (v := (-1)) hx hb dX1_mend_135 (by decide) ?_
            refine lv_icmp_ne (tgt := 143) hx hb dX1_mend_136 (by decide) (fun c_136 => ?_) (fun c_136 => ?_)
            · refine lv_bipush (v := (-9)) hx hb dX1_mend_143 (by decide) ?_
              exact m_iret S hr hlk hM dX1_mend_145 (⟨(congrArg (fun z : Int32 => some (Value.int z)) (by rw [spMend, if_neg (by rw [c_4]; decide), if_neg (by rw [c_14]; decide), if_neg c_23, nI_clamp (show r < 2 ^ 31 by omega)]; exact sp_none c_136 (hinv34.trans (by rw [hi34]; exact bst_all)))), hw34.pt (by omega)⟩)
            · refine lv_iload_n hx hb dX1_mend_139 rfl (lv_at hl 1 rfl) ?_
              refine lv_goto (tgt := 145) hx hb dX1_mend_140 (by decide) ?_
              exact m_iret S hr hlk hM dX1_mend_145 (⟨(congrArg (fun z : Int32 => some (Value.int z)) (by rw [spMend, if_neg (by rw [c_4]; decide), if_neg (by rw [c_14]; decide), if_neg c_23, nI_clamp (show r < 2 ^ 31 by omega), hi34, ← cN_all hn]; exact sp_count c_136)), hw34.pt (by omega)⟩)
          | succ k34 ih34 =>
            intro i34 hi34 hinv34 ω34 H locs hM hw34 ls hl
            have hlt34 : i34 < n := by omega
            have hGw := hG.pu hw34.1
            refine lv_iload hx hb dX1_mend_34 (lv_at hl 0 rfl) ?_
            refine lv_aload_n hx hb dX1_mend_36 rfl (lv_at hl 2 rfl) ?_
            refine m_get (v := .int (ω34.1 5)) S hK hM.1 5 (by decide) fl_X1_82 rfl dX1_mend_37 rfl ?_
            refine topi (z := nI n) (hGw.2.1) ?_
            refine lv_icmp_ge (tgt := 134) hx hb dX1_mend_40 (by decide) (fun c_40 => absurd c_40 (show ¬ nI n ≤ nI i34 from nI_ge (by omega) (by omega))) (fun c_40 => ?_)
            refine lv_iconst (v := 0) hx hb dX1_mend_43 (by decide) ?_
            refine lv_istore (lv' := [(5, .int 0), (4, .int (nI i34)), (3, .int (nI (cN (inN n (meB net n r)) (4 * i34)))), (0, .ref (a 0)), (1, .int (nI r)), (2, .int kv)]) hx hb dX1_mend_44 hl (by decide) rfl (fun ls hl => ?_)
            have hloop46 : ∀ (k46 i46 : Nat), i46 + k46 = n → bstF (kthB (inN n (meB net n r)) kv) 16 0 = bstF (kthB (inN n (meB net n r)) kv) (16 - (4 * i34 + i46)) (4 * i34 + i46) → ∀ (ω46 : MS) (H : Heap) (locs : List Loc), MB D dA a ω46 s.heap H locs → MEm σ ω46 T (4 * i34 + i46) → ∀ (ls : Array Slot), lv_has ls 6 [(5, .int (nI i46)), (4, .int (nI i34)), (3, .int (nI (cN (inN n (meB net n r)) (4 * i34 + i46)))), (0, .ref (a 0)), (1, .int (nI r)), (2, .int kv)] → W p l e ({ frames := 8, cells := 0, slots := 0, locals := 255 }) s m [.ref (a 0), .int (nI r), .int kv].toArray below meth c H locs 0 0 (MZ below D dA a (fun v9 σ9 => v9 = some (.int (spMend n net (nI r) kv)) ∧ PTm σ σ9 T) [.ref (a 0), .int (nI r), .int kv] s) (F0 m 46 ls []) := by
              intro k46
              induction k46 with
              | zero =>
                intro i46 hi46 hinv46 ω46 H locs hM hw46 ls hl
                have hi46 : i46 = n := by omega
                have hGw := hG.pu hw46.1
                refine lv_iload hx hb dX1_mend_46 (lv_at hl 0 rfl) ?_
                refine lv_aload_n hx hb dX1_mend_48 rfl (lv_at hl 3 rfl) ?_
                refine m_get (v := .int (ω46.1 5)) S hK hM.1 5 (by decide) fl_X1_82 rfl dX1_mend_49 rfl ?_
                refine topi (z := nI n) (hGw.2.1) ?_
                refine lv_icmp_ge (tgt := 128) hx hb dX1_mend_52 (by decide) (fun c_52 => ?_) (fun c_52 => absurd (show nI n ≤ nI i46 from nI_le (by omega) (by omega)) c_52)
                refine lv_iinc (v := nI (i34 + 1)) (lv' := [(4, .int (nI (i34 + 1))), (5, .int (nI i46)), (3, .int (nI (cN (inN n (meB net n r)) (4 * i34 + i46)))), (0, .ref (a 0)), (1, .int (nI r)), (2, .int kv)]) hx hb dX1_mend_128 hl (k := 1) rfl (nI_1 _) (by decide) rfl (fun ls hl => ?_)
                refine lv_goto (tgt := 34) hx hb dX1_mend_131 (by decide) ?_
                have e34_3 : nI (cN (inN n (meB net n r)) (4 * (i34 + 1))) = nI (cN (inN n (meB net n r)) (4 * i34 + i46)) := by rw [hi46]; exact congrArg nI (cN_row hn)
                exact ih34 (i34 + 1) (by omega) (hinv46.trans (by rw [hi46]; exact bst_row hn (by omega))) _ _ _ hM (hw46.wk (by omega)) ls (by rw [e34_3]; exact lv_sub hl [0, 2, 3, 4, 5] rfl)
              | succ k46 ih46 =>
                intro i46 hi46 hinv46 ω46 H locs hM hw46 ls hl
                have hlt46 : i46 < n := by omega
                have hGw := hG.pu hw46.1
                have hb9 := hnet i34 (by omega)
                refine lv_iload hx hb dX1_mend_46 (lv_at hl 0 rfl) ?_
                refine lv_aload_n hx hb dX1_mend_48 rfl (lv_at hl 3 rfl) ?_
                refine m_get (v := .int (ω46.1 5)) S hK hM.1 5 (by decide) fl_X1_82 rfl dX1_mend_49 rfl ?_
                refine topi (z := nI n) (hGw.2.1) ?_
                refine lv_icmp_ge (tgt := 128) hx hb dX1_mend_52 (by decide) (fun c_52 => absurd c_52 (show ¬ nI n ≤ nI i46 from nI_ge (by omega) (by omega))) (fun c_52 => ?_)
                refine lv_iload hx hb dX1_mend_55 (lv_at hl 1 rfl) ?_
                refine lv_iload hx hb dX1_mend_57 (lv_at hl 0 rfl) ?_
                refine lv_icmp_eq (tgt := 122) hx hb dX1_mend_59 (by decide) (fun c_59 => ?_) (fun c_59 => ?_)
                · have c_59 : i34 = i46 := nI_inj (by omega) (by omega) c_59
                  have hgb : (inN n (meB net n r)) (4 * i34 + i46) = false := by rw [inN_in hlt34 hlt46 hn]; simp [meB, *]
                  have hkt : kthB (inN n (meB net n r)) kv (4 * i34 + i46) = false := kth_f hgb
                  refine lv_iinc (v := nI (i46 + 1)) (lv' := [(5, .int (nI (i46 + 1))), (4, .int (nI i34)), (3, .int (nI (cN (inN n (meB net n r)) (4 * i34 + i46)))), (0, .ref (a 0)), (1, .int (nI r)), (2, .int kv)]) hx hb dX1_mend_122 hl (k := 0) rfl (nI_1 _) (by decide) rfl (fun ls hl => ?_)
                  refine lv_goto (tgt := 46) hx hb dX1_mend_125 (by decide) ?_
                  have e46_3 : nI (cN (inN n (meB net n r)) (4 * i34 + (i46 + 1))) = nI (cN (inN n (meB net n r)) (4 * i34 + i46)) := by exact congrArg nI (cN_f hgb)
                  exact ih46 (i46 + 1) (by omega) (hinv46.trans (bst_step hkt (by omega))) _ _ _ hM (hw46.wk (by omega)) ls (by rw [e46_3]; exact lv_sub hl [0, 1, 2, 3, 4, 5] rfl)
                · have c_59 : ¬ i34 = i46 := fun h => c_59 (congrArg nI h)
                  refine lv_aload_n hx hb dX1_mend_62 rfl (lv_at hl 3 rfl) ?_
                  refine m_get (v := .ref (a 6)) S hK hM.1 6 (by decide) fl_X1_19 rfl dX1_mend_63 rfl ?_
                  refine lv_iload hx hb dX1_mend_66 (lv_at hl 1 rfl) ?_
                  refine m_aldn (j := i34) (v := nI (net i34)) S hK hM.1 6 (by decide) rfl (show i34 < 4 by omega) dX1_mend_68 ((hGw.2.2.1 _ (by omega)).1) ?_
                  refine lv_iload hx hb dX1_mend_69 (lv_at hl 0 rfl) ?_
                  refine rc_Si (rest := []) [.int (nI (net i34)), .int (nI i46)] 2 S hK (r1_has l D dA (net i34) i46 (by first | assumption | omega | decide) (by first | assumption | omega | decide)) wl_X1_106 wd_X1_X1_has rfl ⟨Nat.le_of_ble_eq_true rfl, Nat.le_of_ble_eq_true rfl⟩ hl.1 (Nat.le_of_ble_eq_true rfl) dX1_mend_71 ⟨Nat.le_refl 0, Nat.le_refl 0⟩ (trivial) ?_ rfl
                  refine lv_if_eq (tgt := 80) hx hb dX1_mend_74 (by decide) (fun c_74 => ?_) (fun c_74 => ?_)
                  · have c_74 := b2i_eq0.mp c_74
                    refine lv_aload_n hx hb dX1_mend_80 rfl (lv_at hl 3 rfl) ?_
                    refine lv_iload hx hb dX1_mend_81 (lv_at hl 1 rfl) ?_
                    refine lv_iload hx hb dX1_mend_83 (lv_at hl 0 rfl) ?_
                    refine mc_V (rest := []) [.int (nI i34), .int (nI i46)] 2 S hK hM (m1_layOther l D dA a hI ω46 n net nc cp cq hGw i34 i46 (by omega) (by omega)) wl_X1_217 wd_X1_X1_layOther rfl ⟨Nat.le_of_ble_eq_true rfl, Nat.le_of_ble_eq_true rfl⟩ hl.1 (Nat.le_of_ble_eq_true rfl) dX1_mend_85 ⟨Nat.le_refl 0, Nat.le_refl 0⟩ (fun v σ85 H locs hq hM => ?_) rfl
                    obtain ⟨rfl, hBR, hOt⟩ := hq
                    refine W.eq (g2 := F0 m 88 ls []) rfl ?_
                    have hGw := hGw.pu hBR.1
                    obtain ⟨T1, hT1, hS1⟩ := hw46.2.1
                    refine lv_aload_n hx hb dX1_mend_88 rfl (lv_at hl 3 rfl) ?_
                    refine lv_aload_n hx hb dX1_mend_89 rfl (lv_at hl 3 rfl) ?_
                    refine m_get (v := .ref (a 28)) S hK hM.1 28 (by decide) fl_X1_66 rfl dX1_mend_90 rfl ?_
                    refine lv_aload_n hx hb dX1_mend_93 rfl (lv_at hl 3 rfl) ?_
                    refine m_get (v := .int (σ85.1 5)) S hK hM.1 5 (by decide) fl_X1_82 rfl dX1_mend_94 rfl ?_
                    refine topi (z := nI n) (hGw.2.1) ?_
                    refine lv_iload_n hx hb dX1_mend_97 rfl (lv_at hl 4 rfl) ?_
                    refine mc_V (rest := []) [.ref (a 28), .int (nI n), .int (nI r)] 3 S hK hM (m1_verdictFrom l D dA a hI σ85 n r hn (by omega) (by omega) (ntX net i34 i46) (fun q hq => ⟨hOt q hq, ntX_lt hnet (by omega) q hq⟩) T1 (hBR.sn hS1) (by omega)) wl_X1_220 wd_X1_X1_verdictFrom rfl ⟨Nat.le_of_ble_eq_true rfl, Nat.le_of_ble_eq_true rfl⟩ hl.1 (Nat.le_of_ble_eq_true rfl) dX1_mend_98 ⟨Nat.le_refl 0, Nat.le_refl 0⟩ (fun v σ98 H locs hq hM => ?_) rfl
                    obtain ⟨rfl, hPU9, hSN9, hot9⟩ := hq
                    refine W.eq (g2 := F0 m 101 ls [.int (vrd (val (ntX net i34 i46) n r (st0 n) (al n)))]) rfl ?_
                    have hGw := hGw.pu hPU9
                    refine lv_iconst (v := 2) hx hb dX1_mend_101 (by decide) ?_
                    refine lv_icmp_ne (tgt := 122) hx hb dX1_mend_102 (by decide) (fun c_102 => ?_) (fun c_102 => ?_)
                    · have hgb : (inN n (meB net n r)) (4 * i34 + i46) = false := by rw [inN_in hlt34 hlt46 hn]; simp [meB, *]
                      have hkt : kthB (inN n (meB net n r)) kv (4 * i34 + i46) = false := kth_f hgb
                      refine lv_iinc (v := nI (i46 + 1)) (lv' := [(5, .int (nI (i46 + 1))), (4, .int (nI i34)), (3, .int (nI (cN (inN n (meB net n r)) (4 * i34 + i46)))), (0, .ref (a 0)), (1, .int (nI r)), (2, .int kv)]) hx hb dX1_mend_122 hl (k := 0) rfl (nI_1 _) (by decide) rfl (fun ls hl => ?_)
                      refine lv_goto (tgt := 46) hx hb dX1_mend_125 (by decide) ?_
                      have e46_3 : nI (cN (inN n (meB net n r)) (4 * i34 + (i46 + 1))) = nI (cN (inN n (meB net n r)) (4 * i34 + i46)) := by exact congrArg nI (cN_f hgb)
                      exact ih46 (i46 + 1) (by omega) (hinv46.trans (bst_step hkt (by omega))) _ _ _ hM (⟨hw46.1.tr (hBR.1.tr hPU9), ⟨T1 + 1, by omega, hSN9⟩, fun x => OTm.of hot9 (hBR.2.2.2 (hw46.2.2 x))⟩) ls (by rw [e46_3]; exact lv_sub hl [0, 1, 2, 3, 4, 5] rfl)
                    · have hgb : (inN n (meB net n r)) (4 * i34 + i46) = true := by rw [inN_in hlt34 hlt46 hn]; simp [meB, *]
                      refine lv_iload_n hx hb dX1_mend_105 rfl (lv_at hl 2 rfl) ?_
                      refine lv_iload_n hx hb dX1_mend_106 rfl (lv_at hl 5 rfl) ?_
                      refine lv_icmp_ne (tgt := 119) hx hb dX1_mend_107 (by decide) (fun c_107 => ?_) (fun c_107 => ?_)
                      · have hkt : kthB (inN n (meB net n r)) kv (4 * i34 + i46) = false := kth_n c_107
                        refine lv_iinc (v := nI ((cN (inN n (meB net n r)) (4 * i34 + i46)) + 1)) (lv' := [(3, .int (nI ((cN (inN n (meB net n r)) (4 * i34 + i46)) + 1))), (5, .int (nI i46)), (4, .int (nI i34)), (0, .ref (a 0)), (1, .int (nI r)), (2, .int kv)]) hx hb dX1_mend_119 hl (k := 2) rfl (nI_1 _) (by decide) rfl (fun ls hl => ?_)
                        refine lv_iinc (v := nI (i46 + 1)) (lv' := [(5, .int (nI (i46 + 1))), (3, .int (nI ((cN (inN n (meB net n r)) (4 * i34 + i46)) + 1))), (4, .int (nI i34)), (0, .ref (a 0)), (1, .int (nI r)), (2, .int kv)]) hx hb dX1_mend_122 hl (k := 1) rfl (nI_1 _) (by decide) rfl (fun ls hl => ?_)
                        refine lv_goto (tgt := 46) hx hb dX1_mend_125 (by decide) ?_
                        have e46_3 : nI (cN (inN n (meB net n r)) (4 * i34 + (i46 + 1))) = nI ((cN (inN n (meB net n r)) (4 * i34 + i46)) + 1) := by exact congrArg nI (cN_t hgb)
                        exact ih46 (i46 + 1) (by omega) (hinv46.trans (bst_step hkt (by omega))) _ _ _ hM (⟨hw46.1.tr (hBR.1.tr hPU9), ⟨T1 + 1, by omega, hSN9⟩, fun x => OTm.of hot9 (hBR.2.2.2 (hw46.2.2 x))⟩) ls (by rw [e46_3]; exact lv_sub hl [0, 2, 1, 3, 4, 5] rfl)
                      · refine lv_bipush (v := 10) hx hb dX1_mend_110 (by decide) ?_
                        refine lv_iload hx hb dX1_mend_112 (lv_at hl 1 rfl) ?_
                        refine lv_imul hx hb dX1_mend_114 ?_
                        refine lv_iload hx hb dX1_mend_115 (lv_at hl 0 rfl) ?_
                        refine lv_iadd hx hb dX1_mend_117 ?_
                        exact m_iret S hr hlk hM dX1_mend_118 (⟨(congrArg (fun z : Int32 => some (Value.int z)) (by rw [spMend, if_neg (by rw [c_4]; decide), if_neg (by rw [c_14]; decide), if_neg c_23, nI_clamp (show r < 2 ^ 31 by omega)]; exact sp_found (by omega) (by omega) (hinv46.trans (bstF_t (by omega) (kth_t hgb c_107))) c_107)), MEm.pt (d := 4 * i34 + i46 + 1) ⟨hw46.1.tr (hBR.1.tr hPU9), ⟨T1 + 1, by omega, hSN9⟩, fun x => OTm.of hot9 (hBR.2.2.2 (hw46.2.2 x))⟩ (by omega)⟩)
                  · have c_74 := b2i_ne0.mp c_74
                    have hgb : (inN n (meB net n r)) (4 * i34 + i46) = false := by rw [inN_in hlt34 hlt46 hn]; simp [meB, *]
                    have hkt : kthB (inN n (meB net n r)) kv (4 * i34 + i46) = false := kth_f hgb
                    refine lv_goto (tgt := 122) hx hb dX1_mend_77 (by decide) ?_
                    refine lv_iinc (v := nI (i46 + 1)) (lv' := [(5, .int (nI (i46 + 1))), (4, .int (nI i34)), (3, .int (nI (cN (inN n (meB net n r)) (4 * i34 + i46)))), (0, .ref (a 0)), (1, .int (nI r)), (2, .int kv)]) hx hb dX1_mend_122 hl (k := 0) rfl (nI_1 _) (by decide) rfl (fun ls hl => ?_)
                    refine lv_goto (tgt := 46) hx hb dX1_mend_125 (by decide) ?_
                    have e46_3 : nI (cN (inN n (meB net n r)) (4 * i34 + (i46 + 1))) = nI (cN (inN n (meB net n r)) (4 * i34 + i46)) := by exact congrArg nI (cN_f hgb)
                    exact ih46 (i46 + 1) (by omega) (hinv46.trans (bst_step hkt (by omega))) _ _ _ hM (hw46.wk (by omega)) ls (by rw [e46_3]; exact lv_sub hl [0, 1, 2, 3, 4, 5] rfl)
            exact hloop46 (n) 0 (by omega) (hinv34) _ _ _ hM (hw34) ls (lv_sub hl [0, 1, 2, 3, 4, 5] rfl)
        exact hloop34 (n) 0 (by omega) (rfl) _ _ _ hM (MEm.rf hSN) ls (lv_sub hl [0, 1, 2, 3, 4] rfl)
      · have c_23 : n = 0 := nI_inj (by omega) (by decide) c_23
        refine lv_bipush (v := (-3)) hx hb dX1_mend_26 (by decide) ?_
        exact m_iret S hr hlk hM dX1_mend_28 (⟨(congrArg (fun z : Int32 => some (Value.int z)) (by simp [spMend, *])), PTm.rf hSN⟩)
    · have c_14 := b2i_eq0.mp c_14
      refine lv_iconst (v := (-1)) hx hb dX1_mend_17 (by decide) ?_
      exact m_iret S hr hlk hM dX1_mend_18 (⟨(congrArg (fun z : Int32 => some (Value.int z)) (by simp [spMend, *])), PTm.rf hSN⟩)
set_option maxHeartbeats 4000000 in
theorem m1_layNet (l : Launch) (D : va_G) (dA : Nat → ClassId) (a : Nat → Nat) (hI : mInj a) (σ : MS) (n num : Nat) (hn : n < 5) (hnum : num < 2 ^ 30) : MC l yX1_layNet cX1_layNet 6 none 0 0 D dA a [.ref (a 0), .int (nI num), .int (nI n)] σ (fun v9 σ9 => v9 = none ∧ BRm σ σ9 ∧ ∀ k, k < n → σ9.2.1 28 k = nI (nlN n num k)) := by
  refine MC.of (by decide) (Nat.le_of_ble_eq_true rfl) ?_
  intro p e s m below meth c ls S hr hlk hK hM hl
  have hx := S.1
  have hb := S.2.1
  have hl : lv_has ls 6 [(0, .ref (a 0)), (1, .int (nI num)), (2, .int (nI n))] := hl
  refine lv_iload_n hx hb dX1_layNet_0 rfl (lv_at hl 1 rfl) ?_
  refine lv_istore_n (lv' := [(3, .int (nI num)), (0, .ref (a 0)), (1, .int (nI num)), (2, .int (nI n))]) hx hb dX1_layNet_1 rfl hl (by decide) rfl (fun ls hl => ?_)
  refine lv_iconst (v := 0) hx hb dX1_layNet_2 (by decide) ?_
  refine lv_istore (lv' := [(4, .int 0), (3, .int (nI num)), (0, .ref (a 0)), (1, .int (nI num)), (2, .int (nI n))]) hx hb dX1_layNet_3 hl (by decide) rfl (fun ls hl => ?_)
  have hloop5 : ∀ (k5 i5 : Nat), i5 + k5 = n → ∀ (ω5 : MS) (H : Heap) (locs : List Loc), MB D dA a ω5 s.heap H locs → (BRm σ ω5 ∧ ∀ k, k < i5 → ω5.2.1 28 k = nI (nlN n num k)) → ∀ (ls : Array Slot), lv_has ls 6 [(4, .int (nI i5)), (3, .int (nI (nlL n num i5))), (0, .ref (a 0)), (1, .int (nI num)), (2, .int (nI n))] → W p l e ({ frames := 0, cells := 0, slots := 0, locals := 0 }) s m [.ref (a 0), .int (nI num), .int (nI n)].toArray below meth c H locs 0 0 (MZ below D dA a (fun v9 σ9 => v9 = none ∧ BRm σ σ9 ∧ ∀ k, k < n → σ9.2.1 28 k = nI (nlN n num k)) [.ref (a 0), .int (nI num), .int (nI n)] s) (F0 m 5 ls []) := by
    intro k5
    induction k5 with
    | zero =>
      intro i5 hi5 ω5 H locs hM hw5 ls hl
      have hi5 : i5 = n := by omega
      refine lv_iload hx hb dX1_layNet_5 (lv_at hl 0 rfl) ?_
      refine lv_iload_n hx hb dX1_layNet_7 rfl (lv_at hl 4 rfl) ?_
      refine lv_icmp_ge (tgt := 67) hx hb dX1_layNet_8 (by decide) (fun c_8 => ?_) (fun c_8 => absurd (show nI n ≤ nI i5 from nI_le (by omega) (by omega)) c_8)
      exact m_vret S hr hlk hM dX1_layNet_67 (⟨rfl, hw5.1, fun k hk => hw5.2 k (by omega)⟩)
    | succ k5 ih5 =>
      intro i5 hi5 ω5 H locs hM hw5 ls hl
      have hlt5 : i5 < n := by omega
      refine lv_iload hx hb dX1_layNet_5 (lv_at hl 0 rfl) ?_
      refine lv_iload_n hx hb dX1_layNet_7 rfl (lv_at hl 4 rfl) ?_
      refine lv_icmp_ge (tgt := 67) hx hb dX1_layNet_8 (by decide) (fun c_8 => absurd c_8 (show ¬ nI n ≤ nI i5 from nI_ge (by omega) (by omega))) (fun c_8 => ?_)
      refine lv_aload_n hx hb dX1_layNet_11 rfl (lv_at hl 2 rfl) ?_
      refine m_get (v := .ref (a 28)) S hK hM.1 28 (by decide) fl_X1_66 rfl dX1_layNet_12 rfl ?_
      refine lv_iload hx hb dX1_layNet_15 (lv_at hl 0 rfl) ?_
      refine lv_iconst (v := 0) hx hb dX1_layNet_17 (by decide) ?_
      refine m_astn (j := i5) hI S hK hM 28 (by decide) rfl (show i5 < 4 by omega) dX1_layNet_18 (fun H locs hM => ?_)
      refine lv_iconst (v := 0) hx hb dX1_layNet_19 (by decide) ?_
      refine lv_istore (lv' := [(5, .int 0), (4, .int (nI i5)), (3, .int (nI (nlL n num i5))), (0, .ref (a 0)), (1, .int (nI num)), (2, .int (nI n))]) hx hb dX1_layNet_20 hl (by decide) rfl (fun ls hl => ?_)
      have hloop22 : ∀ (k22 i22 : Nat), i22 + k22 = n → ∀ (ω22 : MS) (H : Heap) (locs : List Loc), MB D dA a ω22 s.heap H locs → (BRm σ ω22 ∧ (∀ k, k < i5 → ω22.2.1 28 k = nI (nlN n num k)) ∧ ω22.2.1 28 i5 = nI (nlQ i5 i22 (0, nlL n num i5)).1) → ∀ (ls : Array Slot), lv_has ls 6 [(5, .int (nI i22)), (4, .int (nI i5)), (3, .int (nI (nlQ i5 i22 (0, nlL n num i5)).2)), (0, .ref (a 0)), (1, .int (nI num)), (2, .int (nI n))] → W p l e ({ frames := 0, cells := 0, slots := 0, locals := 0 }) s m [.ref (a 0), .int (nI num), .int (nI n)].toArray below meth c H locs 0 0 (MZ below D dA a (fun v9 σ9 => v9 = none ∧ BRm σ σ9 ∧ ∀ k, k < n → σ9.2.1 28 k = nI (nlN n num k)) [.ref (a 0), .int (nI num), .int (nI n)] s) (F0 m 22 ls []) := by
        intro k22
        induction k22 with
        | zero =>
          intro i22 hi22 ω22 H locs hM hw22 ls hl
          have hi22 : i22 = n := by omega
          refine lv_iload hx hb dX1_layNet_22 (lv_at hl 0 rfl) ?_
          refine lv_iload_n hx hb dX1_layNet_24 rfl (lv_at hl 5 rfl) ?_
          refine lv_icmp_ge (tgt := 61) hx hb dX1_layNet_25 (by decide) (fun c_25 => ?_) (fun c_25 => absurd (show nI n ≤ nI i22 from nI_le (by omega) (by omega)) c_25)
          refine lv_iinc (v := nI (i5 + 1)) (lv' := [(4, .int (nI (i5 + 1))), (5, .int (nI i22)), (3, .int (nI (nlQ i5 i22 (0, nlL n num i5)).2)), (0, .ref (a 0)), (1, .int (nI num)), (2, .int (nI n))]) hx hb dX1_layNet_61 hl (k := 1) rfl (nI_1 _) (by decide) rfl (fun ls hl => ?_)
          refine lv_goto (tgt := 5) hx hb dX1_layNet_64 (by decide) ?_
          have e5_3 : nI (nlL n num (i5 + 1)) = nI (nlQ i5 i22 (0, nlL n num i5)).2 := by rw [hi22]; rfl
          exact ih5 (i5 + 1) (by omega) _ _ _ hM (⟨hw22.1, fun k hk => (by by_cases h9 : k = i5; (subst h9; rw [hw22.2.2, hi22]; rfl); exact hw22.2.1 k (by omega))⟩) ls (by rw [e5_3]; exact lv_sub hl [0, 2, 3, 4, 5] rfl)
        | succ k22 ih22 =>
          intro i22 hi22 ω22 H locs hM hw22 ls hl
          have hlt22 : i22 < n := by omega
          have hq9 := nlQ_lt (p := i5) (y := nlL n num i5) i22 (by omega)
          have hL9 := nlL_le (n := n) (num := num) hn i5
          refine lv_iload hx hb dX1_layNet_22 (lv_at hl 0 rfl) ?_
          refine lv_iload_n hx hb dX1_layNet_24 rfl (lv_at hl 5 rfl) ?_
          refine lv_icmp_ge (tgt := 61) hx hb dX1_layNet_25 (by decide) (fun c_25 => absurd c_25 (show ¬ nI n ≤ nI i22 from nI_ge (by omega) (by omega))) (fun c_25 => ?_)
          refine lv_iload hx hb dX1_layNet_28 (lv_at hl 1 rfl) ?_
          refine lv_iload hx hb dX1_layNet_30 (lv_at hl 0 rfl) ?_
          refine lv_icmp_eq (tgt := 55) hx hb dX1_layNet_32 (by decide) (fun c_32 => ?_) (fun c_32 => ?_)
          · have c_32 : i5 = i22 := nI_inj (by omega) (by omega) c_32
            refine lv_iinc (v := nI (i22 + 1)) (lv' := [(5, .int (nI (i22 + 1))), (4, .int (nI i5)), (3, .int (nI (nlQ i5 i22 (0, nlL n num i5)).2)), (0, .ref (a 0)), (1, .int (nI num)), (2, .int (nI n))]) hx hb dX1_layNet_55 hl (k := 0) rfl (nI_1 _) (by decide) rfl (fun ls hl => ?_)
            refine lv_goto (tgt := 22) hx hb dX1_layNet_58 (by decide) ?_
            have e22_3 : nI (nlQ i5 (i22 + 1) (0, nlL n num i5)).2 = nI (nlQ i5 i22 (0, nlL n num i5)).2 := by rw [nlQ_e c_32]
            exact ih22 (i22 + 1) (by omega) _ _ _ hM (⟨hw22.1, hw22.2.1, by rw [nlQ_e c_32]; exact hw22.2.2⟩) ls (by rw [e22_3]; exact lv_sub hl [0, 1, 2, 3, 4, 5] rfl)
          · have c_32 : ¬ i5 = i22 := fun h => c_32 (congrArg nI h)
            refine lv_aload_n hx hb dX1_layNet_35 rfl (lv_at hl 3 rfl) ?_
            refine m_get (v := .ref (a 28)) S hK hM.1 28 (by decide) fl_X1_66 rfl dX1_layNet_36 rfl ?_
            refine lv_iload hx hb dX1_layNet_39 (lv_at hl 1 rfl) ?_
            refine lv_dup2_11 hx hb dX1_layNet_41 rfl rfl ?_
            refine m_aldn (j := i5) (v := nI (nlQ i5 i22 (0, nlL n num i5)).1) S hK hM.1 28 (by decide) rfl (show i5 < 4 by omega) dX1_layNet_42 (hw22.2.2) ?_
            refine lv_iload_n hx hb dX1_layNet_43 rfl (lv_at hl 2 rfl) ?_
            refine lv_iconst (v := 1) hx hb dX1_layNet_44 (by decide) ?_
            refine lv_iand hx hb dX1_layNet_45 ?_
            refine lv_iload hx hb dX1_layNet_46 (lv_at hl 0 rfl) ?_
            refine lv_ishl hx hb dX1_layNet_48 ?_
            refine topi (z := nI (((nlQ i5 i22 (0, nlL n num i5)).2 &&& 1) <<< i22)) (left_sh (by omega)) ?_
            refine lv_ior hx hb dX1_layNet_49 ?_
            refine topi (z := nI ((nlQ i5 i22 (0, nlL n num i5)).1 ||| (((nlQ i5 i22 (0, nlL n num i5)).2 &&& 1) <<< i22))) (nI_or _ _) ?_
            refine m_astn (j := i5) hI S hK hM 28 (by decide) rfl (show i5 < 4 by omega) dX1_layNet_50 (fun H locs hM => ?_)
            have hor : (nlQ i5 i22 (0, nlL n num i5)).1 ||| (((nlQ i5 i22 (0, nlL n num i5)).2 &&& 1) <<< i22) < 16 := by have h8 := (nlQ_lt (p := i5) (y := nlL n num i5) (i22 + 1) (by omega)).1; rw [nlQ_s c_32] at h8; exact h8
            refine lv_iload_n hx hb dX1_layNet_51 rfl (lv_at hl 2 rfl) ?_
            refine lv_iconst (v := 1) hx hb dX1_layNet_52 (by decide) ?_
            refine lv_ishr hx hb dX1_layNet_53 ?_
            refine topi (z := nI ((nlQ i5 i22 (0, nlL n num i5)).2 >>> 1)) (left_sr (by omega)) ?_
            refine lv_istore_n (lv' := [(3, .int (nI ((nlQ i5 i22 (0, nlL n num i5)).2 >>> 1))), (5, .int (nI i22)), (4, .int (nI i5)), (0, .ref (a 0)), (1, .int (nI num)), (2, .int (nI n))]) hx hb dX1_layNet_54 rfl hl (by decide) rfl (fun ls hl => ?_)
            refine lv_iinc (v := nI (i22 + 1)) (lv' := [(5, .int (nI (i22 + 1))), (3, .int (nI ((nlQ i5 i22 (0, nlL n num i5)).2 >>> 1))), (4, .int (nI i5)), (0, .ref (a 0)), (1, .int (nI num)), (2, .int (nI n))]) hx hb dX1_layNet_55 hl (k := 1) rfl (nI_1 _) (by decide) rfl (fun ls hl => ?_)
            refine lv_goto (tgt := 22) hx hb dX1_layNet_58 (by decide) ?_
            have e22_3 : nI (nlQ i5 (i22 + 1) (0, nlL n num i5)).2 = nI ((nlQ i5 i22 (0, nlL n num i5)).2 >>> 1) := by rw [nlQ_s c_32]
            exact ih22 (i22 + 1) (by omega) _ _ _ hM (⟨hw22.1.b28 (fun x => upd16 hor (hw22.1.2.2.2 x)), fun k hk => (pk_un (by omega)).trans (hw22.2.1 k hk), by rw [nlQ_s c_32]; exact pk_us⟩) ls (by rw [e22_3]; exact lv_sub hl [0, 2, 1, 3, 4, 5] rfl)
      exact hloop22 (n) 0 (by omega) _ _ _ hM (⟨hw5.1.b28 (fun x => upd16 (x := 0) (by decide) (hw5.1.2.2.2 x)), fun k hk => (pk_un (by omega)).trans (hw5.2 k hk), pk_us⟩) ls (lv_sub hl [0, 1, 2, 3, 4, 5] rfl)
  exact hloop5 (n) 0 (by omega) _ _ _ hM (⟨BRm.rf, fun k hk => absurd hk (Nat.not_lt_zero k)⟩) ls (lv_sub hl [0, 1, 2, 3, 4] rfl)
