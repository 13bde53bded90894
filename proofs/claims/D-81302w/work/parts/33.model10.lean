/-! MODEL 10: nets (by program: gen/model10.py) -/
set_option maxRecDepth 100000
set_option maxHeartbeats 4000000 in
theorem m1_nets (l : Launch) (D : va_G) (dA : Nat → ClassId) (a : Nat → Nat) (hI : mInj a) (σ : MS) (T : Nat) (hSN : SNm σ T) (hT : T < 2 ^ 29) (hOT : OTm σ) (nv rv w : Int32) : MC l yX1_nets cX1_nets 6 (some .int) 8 255 D dA a [.ref (a 0), .int nv, .int rv, .int w] σ (fun v9 σ9 => v9 = some (.int (spNets nv rv w)) ∧ PTm σ σ9 T) := by
  refine MC.of (by decide) (Nat.le_of_ble_eq_true rfl) ?_
  intro p e s m below meth c ls S hr hlk hK hM hl
  have hx := S.1
  have hb := S.2.1
  have hl : lv_has ls 6 [(0, .ref (a 0)), (1, .int nv), (2, .int rv), (3, .int w)] := hl
  refine lv_iload_n hx hb dX1_nets_0 rfl (lv_at hl 2 rfl) ?_
  refine rc_Si (rest := []) [.int rv] 1 S hK (r1_isRule l D dA rv) wl_X1_150 wd_X1_X1_isRule rfl ⟨Nat.le_of_ble_eq_true rfl, Nat.le_of_ble_eq_true rfl⟩ hl.1 (Nat.le_of_ble_eq_true rfl) dX1_nets_1 ⟨Nat.le_refl 0, Nat.le_refl 0⟩ (trivial) ?_ rfl
  refine lv_if_ne (tgt := 9) hx hb dX1_nets_4 (by decide) (fun c_4 => ?_) (fun c_4 => ?_)
  · have c_4 := b2i_ne0.mp c_4
    refine lv_iload_n hx hb dX1_nets_9 rfl (lv_at hl 1 rfl) ?_
    refine lv_iconst (v := 1) hx hb dX1_nets_10 (by decide) ?_
    refine lv_iconst (v := 3) hx hb dX1_nets_11 (by decide) ?_
    refine rc_Si (rest := []) [.int nv, .int 1, .int 3] 3 S hK (r1_isIn l D dA nv 1 3) wl_X1_78 wd_X1_X1_isIn rfl ⟨Nat.le_of_ble_eq_true rfl, Nat.le_of_ble_eq_true rfl⟩ hl.1 (Nat.le_of_ble_eq_true rfl) dX1_nets_12 ⟨Nat.le_refl 0, Nat.le_refl 0⟩ (trivial) ?_ rfl
    refine lv_if_eq (tgt := 27) hx hb dX1_nets_15 (by decide) (fun c_15 => ?_) (fun c_15 => ?_)
    · have c_15 := b2i_eq0.mp c_15
      refine lv_bipush (v := (-2)) hx hb dX1_nets_27 (by decide) ?_
      exact m_iret S hr hlk hM dX1_nets_29 (⟨(congrArg (fun z : Int32 => some (Value.int z)) (by simp [spNets, *])), PTm.rf hSN⟩)
    · have c_15 := b2i_ne0.mp c_15
      refine lv_iload_n hx hb dX1_nets_18 rfl (lv_at hl 3 rfl) ?_
      refine lv_iconst (v := 0) hx hb dX1_nets_19 (by decide) ?_
      refine lv_iconst (v := 3) hx hb dX1_nets_20 (by decide) ?_
      refine rc_Si (rest := []) [.int w, .int 0, .int 3] 3 S hK (r1_isIn l D dA w 0 3) wl_X1_78 wd_X1_X1_isIn rfl ⟨Nat.le_of_ble_eq_true rfl, Nat.le_of_ble_eq_true rfl⟩ hl.1 (Nat.le_of_ble_eq_true rfl) dX1_nets_21 ⟨Nat.le_refl 0, Nat.le_refl 0⟩ (trivial) ?_ rfl
      refine lv_if_ne (tgt := 30) hx hb dX1_nets_24 (by decide) (fun c_24 => ?_) (fun c_24 => ?_)
      · have c_24 := b2i_ne0.mp c_24
        obtain ⟨r, hr9, rfl⟩ := inR_some (k := 3) (by decide) c_4
        have hr4 : r < 4 := by omega
        obtain ⟨ng, hg1, hg3, rfl⟩ := inR13 c_15
        obtain ⟨hN1, hN64⟩ := nets_N ng hg1 hg3
        obtain ⟨N9, hN9⟩ : ∃ N, N = 2 ^ (ng * (ng - 1)) := ⟨_, rfl⟩
        rw [← hN9] at hN1 hN64
        refine lv_iconst (v := 0) hx hb dX1_nets_30 (by decide) ?_
        refine lv_istore (lv' := [(4, .int 0), (0, .ref (a 0)), (1, .int (nI ng)), (2, .int (nI r)), (3, .int w)]) hx hb dX1_nets_31 hl (by decide) rfl (fun ls hl => ?_)
        refine lv_iconst (v := 0) hx hb dX1_nets_33 (by decide) ?_
        refine lv_istore (lv' := [(5, .int 0), (4, .int 0), (0, .ref (a 0)), (1, .int (nI ng)), (2, .int (nI r)), (3, .int w)]) hx hb dX1_nets_34 hl (by decide) rfl (fun ls hl => ?_)
        have hloop36 : ∀ (k36 i36 : Nat), i36 + k36 = N9 → ∀ (ω36 : MS) (H : Heap) (locs : List Loc), MB D dA a ω36 s.heap H locs → MEm σ ω36 T i36 → ∀ (ls : Array Slot), lv_has ls 6 [(5, .int (nI i36)), (4, .int (nI (cN (ntB ng r w) i36))), (0, .ref (a 0)), (1, .int (nI ng)), (2, .int (nI r)), (3, .int w)] → W p l e ({ frames := 8, cells := 0, slots := 0, locals := 255 }) s m [.ref (a 0), .int (nI ng), .int (nI r), .int w].toArray below meth c H locs 0 0 (MZ below D dA a (fun v9 σ9 => v9 = some (.int (spNets (nI ng) (nI r) w)) ∧ PTm σ σ9 T) [.ref (a 0), .int (nI ng), .int (nI r), .int w] s) (F0 m 36 ls []) := by
          intro k36
          induction k36 with
          | zero =>
            intro i36 hi36 ω36 H locs hM hw36 ls hl
            have hi36 : i36 = N9 := by omega
            refine lv_iload hx hb dX1_nets_36 (lv_at hl 0 rfl) ?_
            refine lv_iconst (v := 1) hx hb dX1_nets_38 (by decide) ?_
            refine lv_iload_n hx hb dX1_nets_39 rfl (lv_at hl 3 rfl) ?_
            refine lv_iload_n hx hb dX1_nets_40 rfl (lv_at hl 3 rfl) ?_
            refine lv_iconst (v := 1) hx hb dX1_nets_41 (by decide) ?_
            refine lv_isub hx hb dX1_nets_42 ?_
            refine lv_imul hx hb dX1_nets_43 ?_
            refine lv_ishl hx hb dX1_nets_44 ?_
            refine topi (z := nI N9) (hN1) ?_
            refine lv_icmp_ge (tgt := 101) hx hb dX1_nets_45 (by decide) (fun c_45 => ?_) (fun c_45 => absurd (show nI N9 ≤ nI i36 from nI_le (by omega) (by omega)) c_45)
            refine lv_iload hx hb dX1_nets_101 (lv_at hl 1 rfl) ?_
            exact m_iret S hr hlk hM dX1_nets_103 (⟨(congrArg (fun z : Int32 => some (Value.int z)) (by rw [hi36, spNets, if_neg (by rw [c_4]; decide), if_neg (by rw [c_15]; decide), if_neg (by rw [c_24]; decide), nI_clamp (show ng < 2 ^ 31 by omega), nI_clamp (show r < 2 ^ 31 by omega), hN9])), hw36.pt (by omega)⟩)
          | succ k36 ih36 =>
            intro i36 hi36 ω36 H locs hM hw36 ls hl
            have hlt36 : i36 < N9 := by omega
            obtain ⟨T1, hT1, hS1⟩ := hw36.2.1
            refine lv_iload hx hb dX1_nets_36 (lv_at hl 0 rfl) ?_
            refine lv_iconst (v := 1) hx hb dX1_nets_38 (by decide) ?_
            refine lv_iload_n hx hb dX1_nets_39 rfl (lv_at hl 3 rfl) ?_
            refine lv_iload_n hx hb dX1_nets_40 rfl (lv_at hl 3 rfl) ?_
            refine lv_iconst (v := 1) hx hb dX1_nets_41 (by decide) ?_
            refine lv_isub hx hb dX1_nets_42 ?_
            refine lv_imul hx hb dX1_nets_43 ?_
            refine lv_ishl hx hb dX1_nets_44 ?_
            refine topi (z := nI N9) (hN1) ?_
            refine lv_icmp_ge (tgt := 101) hx hb dX1_nets_45 (by decide) (fun c_45 => absurd c_45 (show ¬ nI N9 ≤ nI i36 from nI_ge (by omega) (by omega))) (fun c_45 => ?_)
            refine lv_aload_n hx hb dX1_nets_48 rfl (lv_at hl 2 rfl) ?_
            refine lv_iload hx hb dX1_nets_49 (lv_at hl 0 rfl) ?_
            refine lv_iload_n hx hb dX1_nets_51 rfl (lv_at hl 3 rfl) ?_
            refine mc_V (rest := []) [.int (nI i36), .int (nI ng)] 2 S hK hM (m1_layNet l D dA a hI ω36 ng i36 (by omega) (by omega)) wl_X1_223 wd_X1_X1_layNet rfl ⟨Nat.le_of_ble_eq_true rfl, Nat.le_of_ble_eq_true rfl⟩ hl.1 (Nat.le_of_ble_eq_true rfl) dX1_nets_52 ⟨Nat.le_refl 0, Nat.le_refl 0⟩ (fun v σ52 H locs hq hM => ?_) rfl
            obtain ⟨rfl, hBR, hOt⟩ := hq
            refine W.eq (g2 := F0 m 55 ls []) rfl ?_
            refine lv_aload_n hx hb dX1_nets_55 rfl (lv_at hl 2 rfl) ?_
            refine m_get (v := .ref (a 28)) S hK hM.1 28 (by decide) fl_X1_66 rfl dX1_nets_56 rfl ?_
            refine lv_iload_n hx hb dX1_nets_59 rfl (lv_at hl 3 rfl) ?_
            refine rc_Si (rest := []) [.ref (a 28), .int (nI ng)] 2 S hK (r1_isJoined l D dA (a 28) _ (nlN ng i36) ng (fun q hq => (hOt q hq)) (fun q hq => nlN_lt (by omega)) (by omega)) wl_X1_213 wd_X1_X1_isJoined rfl ⟨Nat.le_of_ble_eq_true rfl, Nat.le_of_ble_eq_true rfl⟩ hl.1 (Nat.le_of_ble_eq_true rfl) dX1_nets_60 ⟨Nat.le_refl 0, Nat.le_refl 0⟩ (m_cell hM.1 28 (by decide) rfl) ?_ rfl
            refine lv_if_eq (tgt := 95) hx hb dX1_nets_63 (by decide) (fun c_63 => ?_) (fun c_63 => ?_)
            · have c_63 := b2i_eq0.mp c_63
              have hgb : (ntB ng r w) i36 = false := by simp [ntB, *]
              refine lv_iinc (v := nI (i36 + 1)) (lv' := [(5, .int (nI (i36 + 1))), (4, .int (nI (cN (ntB ng r w) i36))), (0, .ref (a 0)), (1, .int (nI ng)), (2, .int (nI r)), (3, .int w)]) hx hb dX1_nets_95 hl (k := 0) rfl (nI_1 _) (by decide) rfl (fun ls hl => ?_)
              refine lv_goto (tgt := 36) hx hb dX1_nets_98 (by decide) ?_
              have e36_4 : nI (cN (ntB ng r w) (i36 + 1)) = nI (cN (ntB ng r w) i36) := by exact congrArg nI (cN_f hgb)
              exact ih36 (i36 + 1) (by omega) _ _ _ hM (⟨hw36.1.tr hBR.1, ⟨T1, by omega, hBR.sn hS1⟩, fun x => hBR.2.2.2 (hw36.2.2 x)⟩) ls (by rw [e36_4]; exact lv_sub hl [0, 1, 2, 3, 4, 5] rfl)
            · have c_63 := b2i_ne0.mp c_63
              refine lv_iload hx hb dX1_nets_66 (lv_at hl 1 rfl) ?_
              refine lv_iload_n hx hb dX1_nets_68 rfl (lv_at hl 5 rfl) ?_
              refine lv_iconst (v := 3) hx hb dX1_nets_69 (by decide) ?_
              refine lv_icmp_eq (tgt := 87) hx hb dX1_nets_70 (by decide) (fun c_70 => ?_) (fun c_70 => ?_)
              · have hgb : (ntB ng r w) i36 = true := by simp [ntB, *]
                refine lv_iconst (v := 1) hx hb dX1_nets_87 (by decide) ?_
                refine lv_goto (tgt := 92) hx hb dX1_nets_88 (by decide) ?_
                refine lv_iadd hx hb dX1_nets_92 ?_
                refine lv_istore (lv' := [(4, .int ((nI (cN (ntB ng r w) i36)) + 1)), (5, .int (nI i36)), (0, .ref (a 0)), (1, .int (nI ng)), (2, .int (nI r)), (3, .int w)]) hx hb dX1_nets_93 hl (by decide) rfl (fun ls hl => ?_)
                refine lv_iinc (v := nI (i36 + 1)) (lv' := [(5, .int (nI (i36 + 1))), (4, .int ((nI (cN (ntB ng r w) i36)) + 1)), (0, .ref (a 0)), (1, .int (nI ng)), (2, .int (nI r)), (3, .int w)]) hx hb dX1_nets_95 hl (k := 1) rfl (nI_1 _) (by decide) rfl (fun ls hl => ?_)
                refine lv_goto (tgt := 36) hx hb dX1_nets_98 (by decide) ?_
                have e36_4 : nI (cN (ntB ng r w) (i36 + 1)) = (nI (cN (ntB ng r w) i36)) + 1 := by rw [cN_t hgb]; exact (nI_1 _).symm
                exact ih36 (i36 + 1) (by omega) _ _ _ hM (⟨hw36.1.tr hBR.1, ⟨T1, by omega, hBR.sn hS1⟩, fun x => hBR.2.2.2 (hw36.2.2 x)⟩) ls (by rw [e36_4]; exact lv_sub hl [0, 1, 2, 3, 4, 5] rfl)
              · obtain ⟨gg, hgg⟩ := (hBR.2.2.2 (hw36.2.2 hOT)).fn
                refine lv_aload_n hx hb dX1_nets_73 rfl (lv_at hl 2 rfl) ?_
                refine lv_aload_n hx hb dX1_nets_74 rfl (lv_at hl 2 rfl) ?_
                refine m_get (v := .ref (a 28)) S hK hM.1 28 (by decide) fl_X1_66 rfl dX1_nets_75 rfl ?_
                refine lv_iload_n hx hb dX1_nets_78 rfl (lv_at hl 3 rfl) ?_
                refine lv_iload_n hx hb dX1_nets_79 rfl (lv_at hl 4 rfl) ?_
                refine mc_V (rest := [.int (nI (cN (ntB ng r w) i36))]) [.ref (a 28), .int (nI ng), .int (nI r)] 3 S hK hM (m1_verdictFrom l D dA a hI σ52 ng r (by omega) (by omega) (by omega) gg hgg T1 (hBR.sn hS1) (by omega)) wl_X1_220 wd_X1_X1_verdictFrom rfl ⟨Nat.le_of_ble_eq_true rfl, Nat.le_of_ble_eq_true rfl⟩ hl.1 (Nat.le_of_ble_eq_true rfl) dX1_nets_80 ⟨Nat.le_refl 0, Nat.le_refl 0⟩ (fun v σ80 H locs hq hM => ?_) rfl
                obtain ⟨rfl, hPU9, hSN9, hot9⟩ := hq
                refine W.eq (g2 := F0 m 83 ls [.int (vrd (val gg ng r (st0 ng) (al ng))), .int (nI (cN (ntB ng r w) i36))]) rfl ?_
                refine topi (z := vrd (val (nlN ng i36) ng r (st0 ng) (al ng))) (by rw [val_net (by omega) (vld_0 ng (by omega)) (fun q hq => nI_inj (Nat.lt_trans (hgg q (by omega)).2 (by decide)) (Nat.lt_trans (nlN_lt (by omega)) (by decide)) ((hgg q (by omega)).1.symm.trans (hOt q hq)))]) ?_
                skip
                refine lv_iload_n hx hb dX1_nets_83 rfl (lv_at hl 5 rfl) ?_
                refine lv_icmp_ne (tgt := 91) hx hb dX1_nets_84 (by decide) (fun c_84 => ?_) (fun c_84 => ?_)
                · have hgb : (ntB ng r w) i36 = false := by simp [ntB, *]
                  refine lv_iconst (v := 0) hx hb dX1_nets_91 (by decide) ?_
                  refine lv_iadd hx hb dX1_nets_92 ?_
                  refine lv_istore (lv' := [(4, .int ((nI (cN (ntB ng r w) i36)) + 0)), (5, .int (nI i36)), (0, .ref (a 0)), (1, .int (nI ng)), (2, .int (nI r)), (3, .int w)]) hx hb dX1_nets_93 hl (by decide) rfl (fun ls hl => ?_)
                  refine lv_iinc (v := nI (i36 + 1)) (lv' := [(5, .int (nI (i36 + 1))), (4, .int ((nI (cN (ntB ng r w) i36)) + 0)), (0, .ref (a 0)), (1, .int (nI ng)), (2, .int (nI r)), (3, .int w)]) hx hb dX1_nets_95 hl (k := 1) rfl (nI_1 _) (by decide) rfl (fun ls hl => ?_)
                  refine lv_goto (tgt := 36) hx hb dX1_nets_98 (by decide) ?_
                  have e36_4 : nI (cN (ntB ng r w) (i36 + 1)) = (nI (cN (ntB ng r w) i36)) + 0 := by rw [cN_f hgb]; exact (Int32.add_zero _).symm
                  exact ih36 (i36 + 1) (by omega) _ _ _ hM (⟨hw36.1.tr (hBR.1.tr hPU9), ⟨T1 + 1, by omega, hSN9⟩, fun x => OTm.of hot9 (hBR.2.2.2 (hw36.2.2 x))⟩) ls (by rw [e36_4]; exact lv_sub hl [0, 1, 2, 3, 4, 5] rfl)
                · have hgb : (ntB ng r w) i36 = true := by simp [ntB, *]
                  refine lv_iconst (v := 1) hx hb dX1_nets_87 (by decide) ?_
                  refine lv_goto (tgt := 92) hx hb dX1_nets_88 (by decide) ?_
                  refine lv_iadd hx hb dX1_nets_92 ?_
                  refine lv_istore (lv' := [(4, .int ((nI (cN (ntB ng r w) i36)) + 1)), (5, .int (nI i36)), (0, .ref (a 0)), (1, .int (nI ng)), (2, .int (nI r)), (3, .int w)]) hx hb dX1_nets_93 hl (by decide) rfl (fun ls hl => ?_)
                  refine lv_iinc (v := nI (i36 + 1)) (lv' := [(5, .int (nI (i36 + 1))), (4, .int ((nI (cN (ntB ng r w) i36)) + 1)), (0, .ref (a 0)), (1, .int (nI ng)), (2, .int (nI r)), (3, .int w)]) hx hb dX1_nets_95 hl (k := 1) rfl (nI_1 _) (by decide) rfl (fun ls hl => ?_)
                  refine lv_goto (tgt := 36) hx hb dX1_nets_98 (by decide) ?_
                  have e36_4 : nI (cN (ntB ng r w) (i36 + 1)) = (nI (cN (ntB ng r w) i36)) + 1 := by rw [cN_t hgb]; exact (nI_1 _).symm
                  exact ih36 (i36 + 1) (by omega) _ _ _ hM (⟨hw36.1.tr (hBR.1.tr hPU9), ⟨T1 + 1, by omega, hSN9⟩, fun x => OTm.of hot9 (hBR.2.2.2 (hw36.2.2 x))⟩) ls (by rw [e36_4]; exact lv_sub hl [0, 1, 2, 3, 4, 5] rfl)
        exact hloop36 (N9) 0 (by omega) _ _ _ hM (MEm.rf hSN) ls (lv_sub hl [0, 1, 2, 3, 4, 5] rfl)
      · have c_24 := b2i_eq0.mp c_24
        refine lv_bipush (v := (-2)) hx hb dX1_nets_27 (by decide) ?_
        exact m_iret S hr hlk hM dX1_nets_29 (⟨(congrArg (fun z : Int32 => some (Value.int z)) (by simp [spNets, *])), PTm.rf hSN⟩)
  · have c_4 := b2i_eq0.mp c_4
    refine lv_iconst (v := (-1)) hx hb dX1_nets_7 (by decide) ?_
    exact m_iret S hr hlk hM dX1_nets_8 (⟨(congrArg (fun z : Int32 => some (Value.int z)) (by simp [spNets, *])), PTm.rf hSN⟩)
