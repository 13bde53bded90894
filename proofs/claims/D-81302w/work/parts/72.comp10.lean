/-! COMPONENT 10: keeps (by program: gen/comp10.py) -/
set_option maxRecDepth 100000
set_option maxHeartbeats 4000000 in
theorem k0_keeps (l : Launch) (D : va_G) (dA : Nat → ClassId) (a : Nat → Nat) (hI : kInj a) (σ : MS) (Ph : Heap → Prop) (hSt : kStb a Ph) (n nc : Nat) (cp cq : Nat → Nat) (ed cap : Nat) (mc : Int32) (f : Nat → Option Nat) (rg : Nat → Nat) (hDYf : ∀ H, Ph H → DY D dA a n nc cp cq ed cap mc f rg H) (net : Nat → Nat) (hG : KG σ n net) (hcq : ∀ j, j < nc → cp j < n ∧ cq j < n) (T : Nat) (hSN : SNc σ T) (hT : T < 2 ^ 30) (rv v w : Int32) : KC2 l yX0_keeps cX0_keeps 4 (some .int) 20 661 D dA a [.ref (a 0), .int rv, .int v, .int w] σ Ph (fun v9 σ9 => v9 = some (.int (spKeeps n net (stAt n cp cq nc) (fun r => tkN n r cp cq nc) rv v w)) ∧ PTc σ σ9 T) := by
  refine KC2.of (by decide) (Nat.le_of_ble_eq_true rfl) ?_
  intro p e s m below meth c ls S hr hlk hK2 hM hPh hl
  have hK := hK2.1
  have hx := S.1
  have hb := S.2.1
  have hl : lv_has ls 4 [(0, .ref (a 0)), (1, .int rv), (2, .int v), (3, .int w)] := hl
  have hn := hG.1
  have h0 := hG.2.1
  have hnet := hG.2.2.2
  have hc4 : ∀ j, j < nc → cp j < 4 ∧ cq j < 4 := fun j hj => ⟨by have := (hcq j hj).1; omega, by have := (hcq j hj).2; omega⟩
  have hv : vld n (stAt n cp cq nc) := vld_stAt hn nc hcq
  have hs := hv.1
  have ht8 : (tk8 cp cq nc) < 256 := tk8_lt nc hc4
  refine lv_iload_n hx hb dX0_keeps_0 rfl (lv_at hl 1 rfl) ?_
  refine rc_Si (rest := []) [.int rv] 1 S hK (r0_noRule l D dA rv) wl_X0_157 wd_X0_X0_noRule rfl ⟨Nat.le_of_ble_eq_true rfl, Nat.le_of_ble_eq_true rfl⟩ hl.1 (Nat.le_of_ble_eq_true rfl) dX0_keeps_1 ⟨Nat.le_refl 0, Nat.le_refl 0⟩ (trivial) ?_ rfl
  refine lv_if_ne (tgt := 23) hx hb dX0_keeps_4 (by decide) (fun c_4 => ?_) (fun c_4 => ?_)
  · have c_4 := b2i_ne0.mp c_4
    have c_4 : inR rv 0 3 = false := by simpa using c_4
    refine lv_iconst (v := (-1)) hx hb dX0_keeps_23 (by decide) ?_
    exact k_iret S hr hlk hM dX0_keeps_24 (⟨(congrArg (fun z : Int32 => some (Value.int z)) (by simp [spKeeps, *])), PTc.rf hSN⟩)
  · have c_4 := b2i_eq0.mp c_4
    have c_4 : inR rv 0 3 = true := by simpa using c_4
    refine lv_aload_n hx hb dX0_keeps_7 rfl (lv_at hl 0 rfl) ?_
    refine lv_iload_n hx hb dX0_keeps_8 rfl (lv_at hl 2 rfl) ?_
    refine rc_Vi (rest := []) [.int v] 1 S hK (r0_noPerson l D dA a σ n hn (h0) v) wl_X0_89 wd_X0_X0_noPerson rfl ⟨Nat.le_of_ble_eq_true rfl, Nat.le_of_ble_eq_true rfl⟩ (k_recv hK hM.1) hl.1 (Nat.le_of_ble_eq_true rfl) dX0_keeps_9 ⟨Nat.le_refl 0, Nat.le_refl 0⟩ (hM.1) ?_ rfl
    refine lv_if_ne (tgt := 23) hx hb dX0_keeps_12 (by decide) (fun c_12 => ?_) (fun c_12 => ?_)
    · have c_12 := b2i_ne0.mp c_12
      have c_12 : inP v n = false := by simpa using c_12
      refine lv_iconst (v := (-1)) hx hb dX0_keeps_23 (by decide) ?_
      exact k_iret S hr hlk hM dX0_keeps_24 (⟨(congrArg (fun z : Int32 => some (Value.int z)) (by simp [spKeeps, *])), PTc.rf hSN⟩)
    · have c_12 := b2i_eq0.mp c_12
      have c_12 : inP v n = true := by simpa using c_12
      refine lv_aload_n hx hb dX0_keeps_15 rfl (lv_at hl 0 rfl) ?_
      refine lv_iload_n hx hb dX0_keeps_16 rfl (lv_at hl 3 rfl) ?_
      refine rc_Vi (rest := []) [.int w] 1 S hK (r0_noPerson l D dA a σ n hn (h0) w) wl_X0_89 wd_X0_X0_noPerson rfl ⟨Nat.le_of_ble_eq_true rfl, Nat.le_of_ble_eq_true rfl⟩ (k_recv hK hM.1) hl.1 (Nat.le_of_ble_eq_true rfl) dX0_keeps_17 ⟨Nat.le_refl 0, Nat.le_refl 0⟩ (hM.1) ?_ rfl
      refine lv_if_eq (tgt := 25) hx hb dX0_keeps_20 (by decide) (fun c_20 => ?_) (fun c_20 => ?_)
      · have c_20 := b2i_eq0.mp c_20
        have c_20 : inP w n = true := by simpa using c_20
        obtain ⟨r, hr9, rfl⟩ := inR_some (k := 3) (by decide) c_4
        have hr4 : r < 4 := by omega
        obtain ⟨pa, hpa, rfl⟩ := inP_some (by omega) c_12
        have hpa4 : pa < 4 := by omega
        obtain ⟨qa, hqa, rfl⟩ := inP_some (by omega) c_20
        have hqa4 : qa < 4 := by omega
        have htk := tk8_tok (r := r) hn nc hc4
        refine lv_iload_n hx hb dX0_keeps_25 rfl (lv_at hl 2 rfl) ?_
        refine lv_iload_n hx hb dX0_keeps_26 rfl (lv_at hl 3 rfl) ?_
        refine lv_icmp_ne (tgt := 33) hx hb dX0_keeps_27 (by decide) (fun c_27 => ?_) (fun c_27 => ?_)
        · refine lv_aload_n hx hb dX0_keeps_33 rfl (lv_at hl 0 rfl) ?_
          refine lv_iload_n hx hb dX0_keeps_34 rfl (lv_at hl 1 rfl) ?_
          refine lv_aload_n hx hb dX0_keeps_35 rfl (lv_at hl 0 rfl) ?_
          refine rc2_V (rest := [.int (nI r), .ref (a 0)]) [] 0 S hK2 (r0_secretsNow l D dA a σ n nc cp cq ed cap mc f rg hn h0) wl_X0_93 wd_X0_X0_secretsNow rfl ⟨Nat.le_of_ble_eq_true rfl, Nat.le_of_ble_eq_true rfl⟩ (k_recv hK hM.1) hl.1 (Nat.le_of_ble_eq_true rfl) dX0_keeps_36 ⟨Nat.le_refl 0, Nat.le_refl 0⟩ ⟨hM.1, (hDYf _ (hSt.at hM hPh))⟩ (fun v9 hv9 => ?_) rfl
          subst hv9
          refine W.eq (g2 := F0 m 39 ls [.int (nI (stAt n cp cq nc)), .int (nI r), .ref (a 0)]) rfl ?_
          refine lv_aload_n hx hb dX0_keeps_39 rfl (lv_at hl 0 rfl) ?_
          refine rc2_V (rest := [.int (nI (stAt n cp cq nc)), .int (nI r), .ref (a 0)]) [] 0 S hK2 (r0_tokensNow l D dA a σ n nc cp cq ed cap mc f rg hn h0) wl_X0_99 wd_X0_X0_tokensNow rfl ⟨Nat.le_of_ble_eq_true rfl, Nat.le_of_ble_eq_true rfl⟩ (k_recv hK hM.1) hl.1 (Nat.le_of_ble_eq_true rfl) dX0_keeps_40 ⟨Nat.le_refl 0, Nat.le_refl 0⟩ ⟨hM.1, (hDYf _ (hSt.at hM hPh))⟩ (fun v9 hv9 => ?_) rfl
          subst hv9
          refine W.eq (g2 := F0 m 43 ls [.int (nI (tk8 cp cq nc)), .int (nI (stAt n cp cq nc)), .int (nI r), .ref (a 0)]) rfl ?_
          refine lv_iload_n hx hb dX0_keeps_43 rfl (lv_at hl 2 rfl) ?_
          refine lv_iload_n hx hb dX0_keeps_44 rfl (lv_at hl 3 rfl) ?_
          refine rc_Vi (rest := []) [.int (nI r), .int (nI (stAt n cp cq nc)), .int (nI (tk8 cp cq nc)), .int (nI pa), .int (nI qa)] 5 S hK (r0_mayRing l D dA a σ n net hG r (stAt n cp cq nc) (tk8 cp cq nc) pa qa (by omega) hv (ht8) (by first | assumption | omega | decide) (by first | assumption | omega | decide)) wl_X0_160 wd_X0_X0_mayRing rfl ⟨Nat.le_of_ble_eq_true rfl, Nat.le_of_ble_eq_true rfl⟩ (k_recv hK hM.1) hl.1 (Nat.le_of_ble_eq_true rfl) dX0_keeps_45 ⟨Nat.le_refl 0, Nat.le_refl 0⟩ (hM.1) ?_ rfl
          refine lv_if_ne (tgt := 54) hx hb dX0_keeps_48 (by decide) (fun c_48 => ?_) (fun c_48 => ?_)
          · have c_48 := b2i_ne0.mp c_48
            rw [mayB_tok htk hpa] at c_48
            have hvc := vld_aft hn hv hpa hqa
            have htc := tb8_lt _ ht8 pa (by omega) qa (by omega)
            have hsc := hvc.1
            refine lv_aload_n hx hb dX0_keeps_54 rfl (lv_at hl 0 rfl) ?_
            refine lv_dup hx hb dX0_keeps_55 rfl ?_
            refine k_get (v := .int (σ.1 9)) S hK hM.1 9 (by decide) fl_X0_167 rfl dX0_keeps_56 rfl ?_
            refine topi (z := nI T) (hSN.1) ?_
            refine lv_iconst (v := 1) hx hb dX0_keeps_59 (by decide) ?_
            refine lv_iadd hx hb dX0_keeps_60 ?_
            refine topi (z := nI (T + 1)) (nI_1 T) ?_
            refine k_put hI S hK hM 9 (by decide) rfl fl_X0_167 rfl rfl (by decide +kernel) dX0_keeps_61 (fun H locs hM => ?_)
            refine lv_aload_n hx hb dX0_keeps_64 rfl (lv_at hl 0 rfl) ?_
            refine lv_aload_n hx hb dX0_keeps_65 rfl (lv_at hl 0 rfl) ?_
            refine lv_iload_n hx hb dX0_keeps_66 rfl (lv_at hl 1 rfl) ?_
            refine lv_aload_n hx hb dX0_keeps_67 rfl (lv_at hl 0 rfl) ?_
            refine rc2_V (rest := [.int (nI r), .ref (a 0), .ref (a 0)]) [] 0 S hK2 (r0_secretsNow l D dA a (σ.i 9 (nI (T + 1))) n nc cp cq ed cap mc f rg hn h0) wl_X0_93 wd_X0_X0_secretsNow rfl ⟨Nat.le_of_ble_eq_true rfl, Nat.le_of_ble_eq_true rfl⟩ (k_recv hK hM.1) hl.1 (Nat.le_of_ble_eq_true rfl) dX0_keeps_68 ⟨Nat.le_refl 0, Nat.le_refl 0⟩ ⟨hM.1, (hDYf _ (hSt.at hM hPh))⟩ (fun v9 hv9 => ?_) rfl
            subst hv9
            refine W.eq (g2 := F0 m 71 ls [.int (nI (stAt n cp cq nc)), .int (nI r), .ref (a 0), .ref (a 0)]) rfl ?_
            refine lv_iload_n hx hb dX0_keeps_71 rfl (lv_at hl 2 rfl) ?_
            refine lv_iload_n hx hb dX0_keeps_72 rfl (lv_at hl 3 rfl) ?_
            refine rc_Si (rest := [.int (nI r), .ref (a 0), .ref (a 0)]) [.int (nI (stAt n cp cq nc)), .int (nI pa), .int (nI qa)] 3 S hK (r0_behind l D dA (stAt n cp cq nc) pa qa (by first | assumption | omega | decide) (by first | assumption | omega | decide) (by first | assumption | omega | decide)) wl_X0_170 wd_X0_X0_behind rfl ⟨Nat.le_of_ble_eq_true rfl, Nat.le_of_ble_eq_true rfl⟩ hl.1 (Nat.le_of_ble_eq_true rfl) dX0_keeps_73 ⟨Nat.le_refl 0, Nat.le_refl 0⟩ (trivial) ?_ rfl
            refine lv_aload_n hx hb dX0_keeps_76 rfl (lv_at hl 0 rfl) ?_
            refine rc2_V (rest := [.int (nI (aft (stAt n cp cq nc) pa qa)), .int (nI r), .ref (a 0), .ref (a 0)]) [] 0 S hK2 (r0_tokensNow l D dA a (σ.i 9 (nI (T + 1))) n nc cp cq ed cap mc f rg hn h0) wl_X0_99 wd_X0_X0_tokensNow rfl ⟨Nat.le_of_ble_eq_true rfl, Nat.le_of_ble_eq_true rfl⟩ (k_recv hK hM.1) hl.1 (Nat.le_of_ble_eq_true rfl) dX0_keeps_77 ⟨Nat.le_refl 0, Nat.le_refl 0⟩ ⟨hM.1, (hDYf _ (hSt.at hM hPh))⟩ (fun v9 hv9 => ?_) rfl
            subst hv9
            refine W.eq (g2 := F0 m 80 ls [.int (nI (tk8 cp cq nc)), .int (nI (aft (stAt n cp cq nc) pa qa)), .int (nI r), .ref (a 0), .ref (a 0)]) rfl ?_
            refine lv_iload_n hx hb dX0_keeps_80 rfl (lv_at hl 2 rfl) ?_
            refine lv_iload_n hx hb dX0_keeps_81 rfl (lv_at hl 3 rfl) ?_
            refine rc_Si (rest := [.int (nI (aft (stAt n cp cq nc) pa qa)), .int (nI r), .ref (a 0), .ref (a 0)]) [.int (nI (tk8 cp cq nc)), .int (nI pa), .int (nI qa)] 3 S hK (r0_tokensBehind l D dA (tk8 cp cq nc) pa qa (by first | assumption | omega | decide) (by first | assumption | omega | decide) (by first | assumption | omega | decide)) wl_X0_102 wd_X0_X0_tokensBehind rfl ⟨Nat.le_of_ble_eq_true rfl, Nat.le_of_ble_eq_true rfl⟩ hl.1 (Nat.le_of_ble_eq_true rfl) dX0_keeps_82 ⟨Nat.le_refl 0, Nat.le_refl 0⟩ (trivial) ?_ rfl
            refine kc_V (rest := [.ref (a 0)]) [.int (nI r), .int (nI (aft (stAt n cp cq nc) pa qa)), .int (nI (tb8 (tk8 cp cq nc) pa qa))] 3 S hK hM (k0_lay l D dA a hI Ph hSt n net r hr4 (nI (T + 1)) 15 (by omega) (σ.i 9 (nI (T + 1))) (aft (stAt n cp cq nc) pa qa) (tb8 (tk8 cp cq nc) pa qa) ⟨hG.1, hG.2.1, hG.2.2.1, hG.2.2.2⟩ rfl (TBc.none hSN hT) hvc htc (mu_vld (by omega) hvc)) wl_X0_173 wd_X0_X0_lay rfl ⟨Nat.le_of_ble_eq_true rfl, Nat.le_of_ble_eq_true rfl⟩ hl.1 (Nat.le_of_ble_eq_true rfl) dX0_keeps_85 ⟨Nat.le_refl 0, Nat.le_refl 0⟩ (hSt.at hM hPh) (fun v σ85 H locs hq hM => ?_) rfl
            obtain ⟨rfl, hFR, hTB, hin⟩ := hq
            refine W.eq (g2 := F0 m 88 ls [.int (nI (sOf r (aft (stAt n cp cq nc) pa qa) (tb8 (tk8 cp cq nc) pa qa))), .ref (a 0)]) rfl ?_
            have hLP := hTB _ _ hvc htc hin
            rw [tof_tb ht8 (by omega) (by omega), val_tok (tkA_tok htk)] at hLP
            have hvo := val_ok (net := net) (r := r) (t := tkA r (tkN n r cp cq nc) pa qa) hn hvc (mu_vld (by omega) hvc)
            have hsl := sOf_lt (r := r) (s := (aft (stAt n cp cq nc) pa qa)) htc
            refine rc_Vi (rest := []) [.int (nI (sOf r (aft (stAt n cp cq nc) pa qa) (tb8 (tk8 cp cq nc) pa qa)))] 1 S hK (r0_verdictAt l D dA a σ85 (sOf r (aft (stAt n cp cq nc) pa qa) (tb8 (tk8 cp cq nc) pa qa)) hsl (val net n r (aft (stAt n cp cq nc) pa qa) (tkA r (tkN n r cp cq nc) pa qa)) (Nat.lt_of_le_of_lt hvo.1.1 (by decide)) hvo.1.2.1 hvo.2 hLP) wl_X0_192 wd_X0_X0_verdictAt rfl ⟨Nat.le_of_ble_eq_true rfl, Nat.le_of_ble_eq_true rfl⟩ (k_recv hK hM.1) hl.1 (Nat.le_of_ble_eq_true rfl) dX0_keeps_88 ⟨Nat.le_refl 0, Nat.le_refl 0⟩ (hM.1) ?_ rfl
            exact k_iret S hr hlk hM dX0_keeps_91 (⟨(congrArg (fun z : Int32 => some (Value.int z)) (by simp [spKeeps, show inR (nI r) 0 3 = true from inR_nI (k := 3) (show r ≤ 3 by omega) (by decide), nI_clamp (show r < 2 ^ 31 by omega), inP_nI hpa (show n < 2 ^ 31 by omega), inP_nI hqa (show n < 2 ^ 31 by omega), nI_clamp (show pa < 2 ^ 31 by omega), nI_clamp (show qa < 2 ^ 31 by omega), c_27, c_48])), PTc.lay hSN hFR⟩)
          · have c_48 := b2i_eq0.mp c_48
            rw [mayB_tok htk hpa] at c_48
            refine lv_bipush (v := (-3)) hx hb dX0_keeps_51 (by decide) ?_
            exact k_iret S hr hlk hM dX0_keeps_53 (⟨(congrArg (fun z : Int32 => some (Value.int z)) (by simp [spKeeps, show inR (nI r) 0 3 = true from inR_nI (k := 3) (show r ≤ 3 by omega) (by decide), nI_clamp (show r < 2 ^ 31 by omega), inP_nI hpa (show n < 2 ^ 31 by omega), inP_nI hqa (show n < 2 ^ 31 by omega), nI_clamp (show pa < 2 ^ 31 by omega), nI_clamp (show qa < 2 ^ 31 by omega), c_27, c_48])), PTc.rf hSN⟩)
        · refine lv_bipush (v := (-2)) hx hb dX0_keeps_30 (by decide) ?_
          exact k_iret S hr hlk hM dX0_keeps_32 (⟨(congrArg (fun z : Int32 => some (Value.int z)) (by simp [spKeeps, show inR (nI r) 0 3 = true from inR_nI (k := 3) (show r ≤ 3 by omega) (by decide), nI_clamp (show r < 2 ^ 31 by omega), inP_nI hpa (show n < 2 ^ 31 by omega), inP_nI hqa (show n < 2 ^ 31 by omega), nI_clamp (show pa < 2 ^ 31 by omega), nI_clamp (show qa < 2 ^ 31 by omega), c_27])), PTc.rf hSN⟩)
      · have c_20 := b2i_ne0.mp c_20
        have c_20 : inP w n = false := by simpa using c_20
        refine lv_iconst (v := (-1)) hx hb dX0_keeps_23 (by decide) ?_
        exact k_iret S hr hlk hM dX0_keeps_24 (⟨(congrArg (fun z : Int32 => some (Value.int z)) (by simp [spKeeps, *])), PTc.rf hSN⟩)
