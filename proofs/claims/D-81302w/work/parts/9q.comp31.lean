/-! COMPONENT 31: nets (by program: gen/comp31.py) -/
set_option maxRecDepth 100000
set_option maxHeartbeats 4000000 in
theorem g0_nets (l : Launch) (D : va_G) (dA : Nat → ClassId) (a : Nat → Nat) (hI : kInj a) (σ : MS) (n : Nat) (net : Nat → Nat) (hG : KG σ n net) (T : Nat) (hSN : SNc σ T) (hT : T < 2 ^ 29) (sz : Nat) (hkA : ∀ q, kAd a q → q < sz) (v rv wv : Int32) : GC l yX0_nets cX0_nets 8 (some .int) 21 682 1 4 (K2 D dA) [.ref (a 0), .int v, .int rv, .int wv] (fun H => va_P D vwCl (kW dA a σ) H ∧ sz ≤ H.size) (fun q => kAd a q ∨ sz ≤ q) (fun v9 H => v9 = some (.int (spNets v rv wv)) ∧ ∃ σ9, PNc σ σ9 T ∧ va_P D vwCl (kW dA a σ9) H) := by
  refine GC.of (by decide) (Nat.le_of_ble_eq_true rfl) ?_
  intro p e s m below meth c ls S hr hlk hnm hK2 hPre hl
  have hK := hK2.1
  have hx := S.1
  have hb := S.2.1
  have hl : lv_has ls 8 [(0, .ref (a 0)), (1, .int v), (2, .int rv), (3, .int wv)] := hl
  have hS : va_S (fun q => kAd a q ∨ sz ≤ q) s.heap s.heap [] := va_S.rf
  obtain ⟨hP, hsz⟩ := hPre
  have hn := hG.1
  have h0 := hG.2.1
  have hnet := hG.2.2.2
  refine lv_iload_n hx hb dX0_nets_0 rfl (lv_at hl 2 rfl) ?_
  refine rc_Si (rest := []) [.int rv] 1 S hK (r0_noRule l D dA rv) wl_X0_157 wd_X0_X0_noRule rfl ⟨Nat.le_of_ble_eq_true rfl, Nat.le_of_ble_eq_true rfl⟩ hl.1 (Nat.le_of_ble_eq_true rfl) dX0_nets_1 ⟨Nat.le_of_ble_eq_true rfl, Nat.le_of_ble_eq_true rfl⟩ (trivial) ?_ rfl
  refine lv_if_eq (tgt := 9) hx hb dX0_nets_4 (by decide) (fun c_4 => ?_) (fun c_4 => ?_)
  · have c_4 := b2i_eq0.mp c_4
    have c_4 : inR rv 0 3 = true := by simpa using c_4
    obtain ⟨r, hr9, rfl⟩ := inR_some (k := 3) (by decide) c_4
    have hr4 : r < 4 := by omega
    have hrx : (nI r).toNatClampNeg = r := nI_clamp (by omega)
    have hry := inR_nI (k := 3) (show r ≤ 3 by omega) (by decide)
    refine lv_iload_n hx hb dX0_nets_9 rfl (lv_at hl 1 rfl) ?_
    refine lv_i2l hx hb dX0_nets_10 rfl ?_
    refine lv_lconst (v := 1) hx hb dX0_nets_11 (by decide) ?_
    refine lv_ldc2 (v := 3) hx hb S.2.2.2.1 (S.2.2.2.2 _ q465) dX0_nets_12 ?_
    refine rc_Si (rest := []) [.long v.toInt64, .long 1, .long 3] 3 S hK (r0_in l D dA v.toInt64 1 3) wl_X0_49 wd_X0_X0_in rfl ⟨Nat.le_of_ble_eq_true rfl, Nat.le_of_ble_eq_true rfl⟩ hl.1 (Nat.le_of_ble_eq_true rfl) dX0_nets_15 ⟨Nat.le_of_ble_eq_true rfl, Nat.le_of_ble_eq_true rfl⟩ (trivial) ?_ rfl
    refine topi (z := b2i (inR v 1 3)) (congrArg b2i (inL_eq v 1 3)) ?_
    refine lv_if_eq (tgt := 33) hx hb dX0_nets_18 (by decide) (fun c_18 => ?_) (fun c_18 => ?_)
    · have c_18 := b2i_eq0.mp c_18
      have c_18 : inR v 1 3 = false := c_18
      refine lv_bipush (v := (-2)) hx hb dX0_nets_33 (by decide) ?_
      exact g_iret S hr hlk hS dX0_nets_35 ⟨Nat.le_of_ble_eq_true rfl, Nat.le_of_ble_eq_true rfl⟩ (⟨by simp [spNets, *], σ, (PTc.rf hSN).pn, hP⟩)
    · have c_18 := b2i_ne0.mp c_18
      have c_18 : inR v 1 3 = true := c_18
      refine lv_iload_n hx hb dX0_nets_21 rfl (lv_at hl 3 rfl) ?_
      refine lv_i2l hx hb dX0_nets_22 rfl ?_
      refine lv_lconst (v := 0) hx hb dX0_nets_23 (by decide) ?_
      refine lv_ldc2 (v := 3) hx hb S.2.2.2.1 (S.2.2.2.2 _ q465) dX0_nets_24 ?_
      refine rc_Si (rest := []) [.long wv.toInt64, .long 0, .long 3] 3 S hK (r0_in l D dA wv.toInt64 0 3) wl_X0_49 wd_X0_X0_in rfl ⟨Nat.le_of_ble_eq_true rfl, Nat.le_of_ble_eq_true rfl⟩ hl.1 (Nat.le_of_ble_eq_true rfl) dX0_nets_27 ⟨Nat.le_of_ble_eq_true rfl, Nat.le_of_ble_eq_true rfl⟩ (trivial) ?_ rfl
      refine topi (z := b2i (inR wv 0 3)) (congrArg b2i (inL_eq wv 0 3)) ?_
      refine lv_if_ne (tgt := 36) hx hb dX0_nets_30 (by decide) (fun c_30 => ?_) (fun c_30 => ?_)
      · have c_30 := b2i_ne0.mp c_30
        have c_30 : inR wv 0 3 = true := c_30
        obtain ⟨nv, hv1, hv3, rfl⟩ := inR13 c_18
        have hvx : (nI nv).toNatClampNeg = nv := nI_clamp (by omega)
        obtain ⟨hNs, hN64⟩ := nets_N nv hv1 hv3
        refine lv_aload_n hx hb dX0_nets_36 rfl (lv_at hl 0 rfl) ?_
        refine k_get (v := .int (σ.1 0)) S hK hP 0 (by decide) fl_X0_45 rfl dX0_nets_37 rfl ?_
        refine lv_istore (lv' := [(4, .int (σ.1 0)), (0, .ref (a 0)), (1, .int (nI nv)), (2, .int (nI r)), (3, .int wv)]) hx hb dX0_nets_40 hl (by decide) rfl (fun ls hl => ?_)
        refine lv_aload_n hx hb dX0_nets_42 rfl (lv_at hl 1 rfl) ?_
        refine k_get (v := .ref (a 1)) S hK hP 1 (by decide) fl_X0_11 rfl dX0_nets_43 rfl ?_
        refine n_clone (rest := []) hI S hK2 hP (fun q h => Or.inl h) (fun q h => Or.inr (Nat.le_trans hsz h)) hS q630 hl.1 (Nat.le_of_ble_eq_true rfl) (Nat.le_of_ble_eq_true rfl) (Nat.le_of_ble_eq_true rfl) (Nat.le_of_ble_eq_true rfl) dX0_nets_46 (fun qx H hP hC hnq hAq hS => ?_)
        refine va_castA S.1 S.2.1 S.2.2.2.1 (S.2.2.2.2 _ q636) hC 0 rfl (va_nm_int (hK.2 0 (dA 0, .int) rfl).2) dX0_nets_49 ?_
        refine lv_astore (lv' := [(5, .ref qx), (4, .int (σ.1 0)), (0, .ref (a 0)), (1, .int (nI nv)), (2, .int (nI r)), (3, .int wv)]) hx hb dX0_nets_52 hl (by decide) rfl (fun ls hl => ?_)
        refine lv_iconst (v := 0) hx hb dX0_nets_54 (by decide) ?_
        refine lv_istore (lv' := [(6, .int 0), (5, .ref qx), (4, .int (σ.1 0)), (0, .ref (a 0)), (1, .int (nI nv)), (2, .int (nI r)), (3, .int wv)]) hx hb dX0_nets_55 hl (by decide) rfl (fun ls hl => ?_)
        refine lv_iconst (v := 0) hx hb dX0_nets_57 (by decide) ?_
        refine lv_istore (lv' := [(7, .int 0), (6, .int 0), (5, .ref qx), (4, .int (σ.1 0)), (0, .ref (a 0)), (1, .int (nI nv)), (2, .int (nI r)), (3, .int wv)]) hx hb dX0_nets_58 hl (by decide) rfl (fun ls hl => ?_)
        have hloop60 : ∀ (k60 i60 : Nat), i60 + k60 = (2 ^ (nv * (nv - 1))) → ∀ (H : Heap) (locs : List Loc), va_S (fun q => kAd a q ∨ sz ≤ q) s.heap H locs → (∃ ω, NWc σ ω T i60 ∧ va_P D vwCl (kW dA a ω) H ∧ va_P D vwCl [(qx, .inl (dA 0, 4, .inl (σ.2.1 1)))] H) → ∀ (ls : Array Slot), lv_has ls 8 [(7, .int (nI i60)), (6, .int (nI (cN (ntB nv r wv) i60))), (5, .ref qx), (4, .int (σ.1 0)), (0, .ref (a 0)), (1, .int (nI nv)), (2, .int (nI r)), (3, .int wv)] → W p l e ({ frames := 21, cells := 1, slots := 4, locals := 682 }) s m [.ref (a 0), .int (nI nv), .int (nI r), .int wv].toArray below meth c H locs 1 4 (GZ below (fun q => kAd a q ∨ sz ≤ q) (fun v9 H => v9 = some (.int (spNets (nI nv) (nI r) wv)) ∧ ∃ σ9, PNc σ σ9 T ∧ va_P D vwCl (kW dA a σ9) H) [.ref (a 0), .int (nI nv), .int (nI r), .int wv] s 1 4) (F0 m 60 ls []) := by
          intro k60
          induction k60 with
          | zero =>
            intro i60 hi60 H locs hS hw60 ls hl
            obtain ⟨ω, hNW, hP, hC⟩ := hw60
            have hi60 : i60 = (2 ^ (nv * (nv - 1))) := by omega
            refine lv_iload hx hb dX0_nets_60 (lv_at hl 0 rfl) ?_
            refine lv_iconst (v := 1) hx hb dX0_nets_62 (by decide) ?_
            refine lv_iload_n hx hb dX0_nets_63 rfl (lv_at hl 5 rfl) ?_
            refine lv_iload_n hx hb dX0_nets_64 rfl (lv_at hl 5 rfl) ?_
            refine lv_iconst (v := 1) hx hb dX0_nets_65 (by decide) ?_
            refine lv_isub hx hb dX0_nets_66 ?_
            refine lv_imul hx hb dX0_nets_67 ?_
            refine lv_ishl hx hb dX0_nets_68 ?_
            refine topi (z := nI (2 ^ (nv * (nv - 1)))) (hNs) ?_
            refine lv_icmp_ge (tgt := 116) hx hb dX0_nets_69 (by decide) (fun c_69 => ?_) (fun c_69 => absurd (show nI (2 ^ (nv * (nv - 1))) ≤ nI i60 from nI_le (by omega) (by omega)) c_69)
            refine lv_aload_n hx hb dX0_nets_116 rfl (lv_at hl 4 rfl) ?_
            refine lv_iload hx hb dX0_nets_117 (lv_at hl 3 rfl) ?_
            refine n_puti hI S hK hP hC (fun q h => Or.inl h) hAq hnq hS 0 (by decide) rfl fl_X0_45 rfl rfl (by decide +kernel) dX0_nets_119 (fun H locs hP hC hS => ?_)
            refine lv_aload hx hb dX0_nets_122 (lv_at hl 2 rfl) ?_
            refine lv_iconst (v := 0) hx hb dX0_nets_124 (by decide) ?_
            refine lv_aload_n hx hb dX0_nets_125 rfl (lv_at hl 4 rfl) ?_
            refine k_get (v := .ref (a 1)) S hK hP 1 (by decide) fl_X0_11 rfl dX0_nets_126 rfl ?_
            refine lv_iconst (v := 0) hx hb dX0_nets_129 (by decide) ?_
            refine lv_iconst (v := 4) hx hb dX0_nets_130 (by decide) ?_
            refine n_cpy (rest := []) (Nat.le_refl 4) hI S hK hP hC (fun q h => Or.inl h) hAq hnq hS q642 hl.1 (Nat.le_of_ble_eq_true rfl) (Nat.le_of_ble_eq_true rfl) dX0_nets_131 (fun H locs hP hS => ?_)
            refine lv_iload hx hb dX0_nets_134 (lv_at hl 1 rfl) ?_
            exact g_iret S hr hlk hS dX0_nets_136 ⟨Nat.le_of_ble_eq_true rfl, Nat.le_of_ble_eq_true rfl⟩ (⟨by unfold spNets; rw [hvx, hrx, if_neg (by rw [show inR (nI r) 0 3 = true from hry]; decide), if_neg (by rw [c_18]; decide), if_neg (by rw [c_30]; decide), hi60], _, hNW.pn (by omega), hP⟩)
          | succ k60 ih60 =>
            intro i60 hi60 H locs hS hw60 ls hl
            obtain ⟨ω, hNW, hP, hC⟩ := hw60
            have hlt60 : i60 < (2 ^ (nv * (nv - 1))) := by omega
            refine lv_iload hx hb dX0_nets_60 (lv_at hl 0 rfl) ?_
            refine lv_iconst (v := 1) hx hb dX0_nets_62 (by decide) ?_
            refine lv_iload_n hx hb dX0_nets_63 rfl (lv_at hl 5 rfl) ?_
            refine lv_iload_n hx hb dX0_nets_64 rfl (lv_at hl 5 rfl) ?_
            refine lv_iconst (v := 1) hx hb dX0_nets_65 (by decide) ?_
            refine lv_isub hx hb dX0_nets_66 ?_
            refine lv_imul hx hb dX0_nets_67 ?_
            refine lv_ishl hx hb dX0_nets_68 ?_
            refine topi (z := nI (2 ^ (nv * (nv - 1)))) (hNs) ?_
            refine lv_icmp_ge (tgt := 116) hx hb dX0_nets_69 (by decide) (fun c_69 => absurd c_69 (show ¬ nI (2 ^ (nv * (nv - 1))) ≤ nI i60 from nI_ge (by omega) (by omega))) (fun c_69 => ?_)
            refine lv_aload_n hx hb dX0_nets_72 rfl (lv_at hl 4 rfl) ?_
            refine lv_iload_n hx hb dX0_nets_73 rfl (lv_at hl 5 rfl) ?_
            refine lv_iload hx hb dX0_nets_74 (lv_at hl 0 rfl) ?_
            refine gc_V (rest := []) [.int (nI nv), .int (nI i60)] 2 S Wm_K2 hK2 hS (fun q h => Or.inl h) (KC2.gc (KC.k2 (k0_layNet l D dA a hI ω (fun H => va_P D vwCl [(qx, .inl (dA 0, 4, .inl (σ.2.1 1)))] H) (fun _ _ _ h hS => va_P.keep h hS (one_A hnq)) nv i60 (by omega) (by omega)))) wl_X0_252 wd_X0_X0_layNet rfl ⟨Nat.le_of_ble_eq_true rfl, Nat.le_of_ble_eq_true rfl⟩ (k_recv hK hP) hl.1 (Nat.le_of_ble_eq_true rfl) dX0_nets_76 ⟨Nat.le_of_ble_eq_true rfl, Nat.le_of_ble_eq_true rfl⟩ ⟨hP, hC⟩ (fun v9 H locs hp9 hz9 ho9 hS => ?_) rfl
            obtain ⟨ω1, ⟨rfl, hLN⟩, hP⟩ := hp9
            have hC := hC.fr ho9 (one_A hnq)
            refine W.eq (g2 := F0 m 79 ls []) rfl ?_
            have hG1 := hLN.kg (by omega)
            have hNW := hNW.ln hLN
            refine lv_iload hx hb dX0_nets_79 (lv_at hl 1 rfl) ?_
            refine lv_aload_n hx hb dX0_nets_81 rfl (lv_at hl 4 rfl) ?_
            refine rc_Vi (rest := [.int (nI (cN (ntB nv r wv) i60))]) [] 0 S hK (r0_isJoined l D dA a ω1 nv (nlN nv i60) hG1 (by omega)) wl_X0_228 wd_X0_X0_isJoined rfl ⟨Nat.le_of_ble_eq_true rfl, Nat.le_of_ble_eq_true rfl⟩ (k_recv hK hP) hl.1 (Nat.le_of_ble_eq_true rfl) dX0_nets_82 ⟨Nat.le_of_ble_eq_true rfl, Nat.le_of_ble_eq_true rfl⟩ hP ?_ rfl
            refine lv_if_eq (tgt := 106) hx hb dX0_nets_85 (by decide) (fun c_85 => ?_) (fun c_85 => ?_)
            · have c_85 := b2i_eq0.mp c_85
              have hgb : (ntB nv r wv) i60 = false := by simp [ntB, *]
              refine lv_iconst (v := 0) hx hb dX0_nets_106 (by decide) ?_
              refine lv_iadd hx hb dX0_nets_107 ?_
              refine lv_istore (lv' := [(6, .int ((nI (cN (ntB nv r wv) i60)) + 0)), (7, .int (nI i60)), (5, .ref qx), (4, .int (σ.1 0)), (0, .ref (a 0)), (1, .int (nI nv)), (2, .int (nI r)), (3, .int wv)]) hx hb dX0_nets_108 hl (by decide) rfl (fun ls hl => ?_)
              refine lv_iinc (v := nI (i60 + 1)) (lv' := [(7, .int (nI (i60 + 1))), (6, .int ((nI (cN (ntB nv r wv) i60)) + 0)), (5, .ref qx), (4, .int (σ.1 0)), (0, .ref (a 0)), (1, .int (nI nv)), (2, .int (nI r)), (3, .int wv)]) hx hb dX0_nets_110 hl (k := 1) rfl (nI_1 _) (by decide) rfl (fun ls hl => ?_)
              refine lv_goto (tgt := 60) hx hb dX0_nets_113 (by decide) ?_
              have e60_6 : nI (cN (ntB nv r wv) (i60 + 1)) = (nI (cN (ntB nv r wv) i60)) + 0 := by exact (congrArg nI (cN_f hgb)).trans (Int32.add_zero _).symm
              exact ih60 (i60 + 1) (by omega) _ _ hS (⟨ω1, hNW.wk (by omega), hP, hC⟩) ls (by rw [e60_6]; exact lv_sub hl [0, 1, 2, 3, 4, 5, 6, 7] rfl)
            · have c_85 := b2i_ne0.mp c_85
              refine lv_iload_n hx hb dX0_nets_88 rfl (lv_at hl 7 rfl) ?_
              refine lv_iconst (v := 3) hx hb dX0_nets_89 (by decide) ?_
              refine lv_icmp_eq (tgt := 102) hx hb dX0_nets_90 (by decide) (fun c_90 => ?_) (fun c_90 => ?_)
              · have hgb : (ntB nv r wv) i60 = true := by simp [ntB, *]
                refine lv_iconst (v := 1) hx hb dX0_nets_102 (by decide) ?_
                refine lv_goto (tgt := 107) hx hb dX0_nets_103 (by decide) ?_
                refine lv_iadd hx hb dX0_nets_107 ?_
                refine lv_istore (lv' := [(6, .int ((nI (cN (ntB nv r wv) i60)) + 1)), (7, .int (nI i60)), (5, .ref qx), (4, .int (σ.1 0)), (0, .ref (a 0)), (1, .int (nI nv)), (2, .int (nI r)), (3, .int wv)]) hx hb dX0_nets_108 hl (by decide) rfl (fun ls hl => ?_)
                refine lv_iinc (v := nI (i60 + 1)) (lv' := [(7, .int (nI (i60 + 1))), (6, .int ((nI (cN (ntB nv r wv) i60)) + 1)), (5, .ref qx), (4, .int (σ.1 0)), (0, .ref (a 0)), (1, .int (nI nv)), (2, .int (nI r)), (3, .int wv)]) hx hb dX0_nets_110 hl (k := 1) rfl (nI_1 _) (by decide) rfl (fun ls hl => ?_)
                refine lv_goto (tgt := 60) hx hb dX0_nets_113 (by decide) ?_
                have e60_6 : nI (cN (ntB nv r wv) (i60 + 1)) = (nI (cN (ntB nv r wv) i60)) + 1 := by exact (congrArg nI (cN_t hgb)).trans (nI_1 _).symm
                exact ih60 (i60 + 1) (by omega) _ _ hS (⟨ω1, hNW.wk (by omega), hP, hC⟩) ls (by rw [e60_6]; exact lv_sub hl [0, 1, 2, 3, 4, 5, 6, 7] rfl)
              · refine lv_aload_n hx hb dX0_nets_93 rfl (lv_at hl 4 rfl) ?_
                refine lv_iload_n hx hb dX0_nets_94 rfl (lv_at hl 6 rfl) ?_
                obtain ⟨T1, hT1, hSN1⟩ := hNW.2.2
                refine gc_V (rest := [.int (nI (cN (ntB nv r wv) i60))]) [.int (nI r)] 1 S Wm_K2 hK2 hS (fun q h => Or.inl h) (KC2.gc (KC.k2 (k0_verdictFirst l D dA a hI ω1 (fun H => va_P D vwCl [(qx, .inl (dA 0, 4, .inl (σ.2.1 1)))] H) (fun _ _ _ h hS => va_P.keep h hS (one_A hnq)) nv (nlN nv i60) hG1 T1 hSN1 (by omega) (by omega) r hr4))) wl_X0_256 wd_X0_X0_verdictFirst rfl ⟨Nat.le_of_ble_eq_true rfl, Nat.le_of_ble_eq_true rfl⟩ (k_recv hK hP) hl.1 (Nat.le_of_ble_eq_true rfl) dX0_nets_95 ⟨Nat.le_of_ble_eq_true rfl, Nat.le_of_ble_eq_true rfl⟩ ⟨hP, hC⟩ (fun v9 H locs hp9 hz9 ho9 hS => ?_) rfl
                obtain ⟨ω2, ⟨rfl, hFR⟩, hP⟩ := hp9
                have hC := hC.fr ho9 (one_A hnq)
                refine W.eq (g2 := F0 m 98 ls [.int (vrd (val (nlN nv i60) nv r (st0 nv) (al nv))), .int (nI (cN (ntB nv r wv) i60))]) rfl ?_
                have hNW2 := hNW.lay hT1 hSN1 hFR
                refine lv_iload_n hx hb dX0_nets_98 rfl (lv_at hl 7 rfl) ?_
                refine lv_icmp_ne (tgt := 106) hx hb dX0_nets_99 (by decide) (fun c_99 => ?_) (fun c_99 => ?_)
                · have hgb : (ntB nv r wv) i60 = false := by simp [ntB, *]
                  refine lv_iconst (v := 0) hx hb dX0_nets_106 (by decide) ?_
                  refine lv_iadd hx hb dX0_nets_107 ?_
                  refine lv_istore (lv' := [(6, .int ((nI (cN (ntB nv r wv) i60)) + 0)), (7, .int (nI i60)), (5, .ref qx), (4, .int (σ.1 0)), (0, .ref (a 0)), (1, .int (nI nv)), (2, .int (nI r)), (3, .int wv)]) hx hb dX0_nets_108 hl (by decide) rfl (fun ls hl => ?_)
                  refine lv_iinc (v := nI (i60 + 1)) (lv' := [(7, .int (nI (i60 + 1))), (6, .int ((nI (cN (ntB nv r wv) i60)) + 0)), (5, .ref qx), (4, .int (σ.1 0)), (0, .ref (a 0)), (1, .int (nI nv)), (2, .int (nI r)), (3, .int wv)]) hx hb dX0_nets_110 hl (k := 1) rfl (nI_1 _) (by decide) rfl (fun ls hl => ?_)
                  refine lv_goto (tgt := 60) hx hb dX0_nets_113 (by decide) ?_
                  have e60_6 : nI (cN (ntB nv r wv) (i60 + 1)) = (nI (cN (ntB nv r wv) i60)) + 0 := by exact (congrArg nI (cN_f hgb)).trans (Int32.add_zero _).symm
                  exact ih60 (i60 + 1) (by omega) _ _ hS (⟨ω2, hNW2, hP, hC⟩) ls (by rw [e60_6]; exact lv_sub hl [0, 1, 2, 3, 4, 5, 6, 7] rfl)
                · have hgb : (ntB nv r wv) i60 = true := by simp [ntB, *]
                  refine lv_iconst (v := 1) hx hb dX0_nets_102 (by decide) ?_
                  refine lv_goto (tgt := 107) hx hb dX0_nets_103 (by decide) ?_
                  refine lv_iadd hx hb dX0_nets_107 ?_
                  refine lv_istore (lv' := [(6, .int ((nI (cN (ntB nv r wv) i60)) + 1)), (7, .int (nI i60)), (5, .ref qx), (4, .int (σ.1 0)), (0, .ref (a 0)), (1, .int (nI nv)), (2, .int (nI r)), (3, .int wv)]) hx hb dX0_nets_108 hl (by decide) rfl (fun ls hl => ?_)
                  refine lv_iinc (v := nI (i60 + 1)) (lv' := [(7, .int (nI (i60 + 1))), (6, .int ((nI (cN (ntB nv r wv) i60)) + 1)), (5, .ref qx), (4, .int (σ.1 0)), (0, .ref (a 0)), (1, .int (nI nv)), (2, .int (nI r)), (3, .int wv)]) hx hb dX0_nets_110 hl (k := 1) rfl (nI_1 _) (by decide) rfl (fun ls hl => ?_)
                  refine lv_goto (tgt := 60) hx hb dX0_nets_113 (by decide) ?_
                  have e60_6 : nI (cN (ntB nv r wv) (i60 + 1)) = (nI (cN (ntB nv r wv) i60)) + 1 := by exact (congrArg nI (cN_t hgb)).trans (nI_1 _).symm
                  exact ih60 (i60 + 1) (by omega) _ _ hS (⟨ω2, hNW2, hP, hC⟩) ls (by rw [e60_6]; exact lv_sub hl [0, 1, 2, 3, 4, 5, 6, 7] rfl)
        exact hloop60 ((2 ^ (nv * (nv - 1)))) 0 (by omega) _ _ hS (⟨σ, NWc.rf hSN, hP, hC⟩) ls (lv_sub hl [0, 1, 2, 3, 4, 5, 6, 7] rfl)
      · have c_30 := b2i_eq0.mp c_30
        have c_30 : inR wv 0 3 = false := c_30
        refine lv_bipush (v := (-2)) hx hb dX0_nets_33 (by decide) ?_
        exact g_iret S hr hlk hS dX0_nets_35 ⟨Nat.le_of_ble_eq_true rfl, Nat.le_of_ble_eq_true rfl⟩ (⟨by simp [spNets, *], σ, (PTc.rf hSN).pn, hP⟩)
  · have c_4 := b2i_ne0.mp c_4
    have c_4 : inR rv 0 3 = false := by simpa using c_4
    refine lv_iconst (v := (-1)) hx hb dX0_nets_7 (by decide) ?_
    exact g_iret S hr hlk hS dX0_nets_8 ⟨Nat.le_of_ble_eq_true rfl, Nat.le_of_ble_eq_true rfl⟩ (⟨by simp [spNets, *], σ, (PTc.rf hSN).pn, hP⟩)
