/-! COMPONENT 13: best (by program: gen/comp13.py) -/
set_option maxRecDepth 100000
set_option maxHeartbeats 4000000 in
theorem k0_layNowT (l : Launch) (D : va_G) (dA : Nat → ClassId) (a : Nat → Nat) (hI : kInj a) (σ : MS) (Ph : Heap → Prop) (hSt : kStb a Ph) (n nc : Nat) (cp cq : Nat → Nat) (ed cap : Nat) (mc : Int32) (f : Nat → Option Nat) (rg : Nat → Nat) (hDYf : ∀ H, Ph H → DY D dA a n nc cp cq ed cap mc f rg H) (net : Nat → Nat) (hG : KG σ n net) (hcq : ∀ j, j < nc → cp j < n ∧ cq j < n) (T : Nat) (hSN : SNc σ T) (hT : T < 2 ^ 30) (r : Nat) (hr4 : r < 4) (hn0 : 0 < n) : KC2 l yX0_layNow cX0_layNow 2 (some .int) 20 661 D dA a [.ref (a 0), .int (nI r)] σ Ph (fun v9 σ9 => v9 = some (.int (nI (sOf r (stAt n cp cq nc) (tk8 cp cq nc)))) ∧ FRc (σ.i 9 (nI (T + 1))) σ9 (nI (T + 1)) ∧ TBc σ9 n net r (nI (T + 1)) ∧ LPc σ9 (sOf r (stAt n cp cq nc) (tk8 cp cq nc)) (val net n r (stAt n cp cq nc) (tkN n r cp cq nc))) := by
  refine KC2.of (by decide) (Nat.le_of_ble_eq_true rfl) ?_
  intro p e s m below meth c ls S hr hlk hK2 hM hPh hl
  have hK := hK2.1
  have hx := S.1
  have hb := S.2.1
  have hl : lv_has ls 2 [(0, .ref (a 0)), (1, .int (nI r))] := hl
  have hn := hG.1
  have h0 := hG.2.1
  have hnet := hG.2.2.2
  have hc4 : ∀ j, j < nc → cp j < 4 ∧ cq j < 4 := fun j hj => ⟨by have := (hcq j hj).1; omega, by have := (hcq j hj).2; omega⟩
  have hv : vld n (stAt n cp cq nc) := vld_stAt hn nc hcq
  have hs := hv.1
  have ht8 : (tk8 cp cq nc) < 256 := tk8_lt nc hc4
  refine lv_aload_n hx hb dX0_layNow_0 rfl (lv_at hl 0 rfl) ?_
  refine lv_dup hx hb dX0_layNow_1 rfl ?_
  refine k_get (v := .int (σ.1 9)) S hK hM.1 9 (by decide) fl_X0_167 rfl dX0_layNow_2 rfl ?_
  refine topi (z := nI T) (hSN.1) ?_
  refine lv_iconst (v := 1) hx hb dX0_layNow_5 (by decide) ?_
  refine lv_iadd hx hb dX0_layNow_6 ?_
  refine topi (z := nI (T + 1)) (nI_1 T) ?_
  refine k_put hI S hK hM 9 (by decide) rfl fl_X0_167 rfl rfl (by decide +kernel) dX0_layNow_7 (fun H locs hM => ?_)
  refine lv_aload_n hx hb dX0_layNow_10 rfl (lv_at hl 0 rfl) ?_
  refine lv_iload_n hx hb dX0_layNow_11 rfl (lv_at hl 1 rfl) ?_
  refine lv_aload_n hx hb dX0_layNow_12 rfl (lv_at hl 0 rfl) ?_
  refine rc2_V (rest := [.int (nI r), .ref (a 0)]) [] 0 S hK2 (r0_secretsNow l D dA a (σ.i 9 (nI (T + 1))) n nc cp cq ed cap mc f rg hn h0) wl_X0_93 wd_X0_X0_secretsNow rfl ⟨Nat.le_of_ble_eq_true rfl, Nat.le_of_ble_eq_true rfl⟩ (k_recv hK hM.1) hl.1 (Nat.le_of_ble_eq_true rfl) dX0_layNow_13 ⟨Nat.le_refl 0, Nat.le_refl 0⟩ ⟨hM.1, (hDYf _ (hSt.at hM hPh))⟩ (fun v9 hv9 => ?_) rfl
  subst hv9
  refine W.eq (g2 := F0 m 16 ls [.int (nI (stAt n cp cq nc)), .int (nI r), .ref (a 0)]) rfl ?_
  refine lv_aload_n hx hb dX0_layNow_16 rfl (lv_at hl 0 rfl) ?_
  refine rc2_V (rest := [.int (nI (stAt n cp cq nc)), .int (nI r), .ref (a 0)]) [] 0 S hK2 (r0_tokensNow l D dA a (σ.i 9 (nI (T + 1))) n nc cp cq ed cap mc f rg hn h0) wl_X0_99 wd_X0_X0_tokensNow rfl ⟨Nat.le_of_ble_eq_true rfl, Nat.le_of_ble_eq_true rfl⟩ (k_recv hK hM.1) hl.1 (Nat.le_of_ble_eq_true rfl) dX0_layNow_17 ⟨Nat.le_refl 0, Nat.le_refl 0⟩ ⟨hM.1, (hDYf _ (hSt.at hM hPh))⟩ (fun v9 hv9 => ?_) rfl
  subst hv9
  refine W.eq (g2 := F0 m 20 ls [.int (nI (tk8 cp cq nc)), .int (nI (stAt n cp cq nc)), .int (nI r), .ref (a 0)]) rfl ?_
  refine kc_V (rest := []) [.int (nI r), .int (nI (stAt n cp cq nc)), .int (nI (tk8 cp cq nc))] 3 S hK hM (k0_lay l D dA a hI Ph hSt n net r hr4 (nI (T + 1)) 15 (by omega) (σ.i 9 (nI (T + 1))) (stAt n cp cq nc) (tk8 cp cq nc) ⟨hG.1, hG.2.1, hG.2.2.1, hG.2.2.2⟩ rfl (TBc.none hSN hT) hv ht8 (mu_vld (by omega) hv)) wl_X0_173 wd_X0_X0_lay rfl ⟨Nat.le_of_ble_eq_true rfl, Nat.le_of_ble_eq_true rfl⟩ hl.1 (Nat.le_of_ble_eq_true rfl) dX0_layNow_20 ⟨Nat.le_refl 0, Nat.le_refl 0⟩ (hSt.at hM hPh) (fun v σ20 H locs hq hM => ?_) rfl
  obtain ⟨rfl, hFR, hTB, hin⟩ := hq
  refine W.eq (g2 := F0 m 23 ls [.int (nI (sOf r (stAt n cp cq nc) (tk8 cp cq nc)))]) rfl ?_
  exact k_iret S hr hlk hM dX0_layNow_23 (⟨rfl, hFR, hTB, by have h9 := hTB _ _ hv ht8 hin; rw [val_tok (tk8_tok (r := r) hn nc hc4)] at h9; exact h9⟩)
set_option maxHeartbeats 4000000 in
theorem k0_best (l : Launch) (D : va_G) (dA : Nat → ClassId) (a : Nat → Nat) (hI : kInj a) (σ : MS) (Ph : Heap → Prop) (hSt : kStb a Ph) (n nc : Nat) (cp cq : Nat → Nat) (ed cap : Nat) (mc : Int32) (f : Nat → Option Nat) (rg : Nat → Nat) (hDYf : ∀ H, Ph H → DY D dA a n nc cp cq ed cap mc f rg H) (net : Nat → Nat) (hG : KG σ n net) (hcq : ∀ j, j < nc → cp j < n ∧ cq j < n) (T : Nat) (hSN : SNc σ T) (hT : T < 2 ^ 30) (rv wv : Int32) : KC2 l yX0_best cX0_best 7 (some .int) 21 682 D dA a [.ref (a 0), .int rv, .int wv] σ Ph (fun v9 σ9 => v9 = some (.int (spBest n net (stAt n cp cq nc) (fun r => tkN n r cp cq nc) rv wv)) ∧ PTc σ σ9 T) := by
  refine KC2.of (by decide) (Nat.le_of_ble_eq_true rfl) ?_
  intro p e s m below meth c ls S hr hlk hK2 hM hPh hl
  have hK := hK2.1
  have hx := S.1
  have hb := S.2.1
  have hl : lv_has ls 7 [(0, .ref (a 0)), (1, .int rv), (2, .int wv)] := hl
  have hn := hG.1
  have h0 := hG.2.1
  have hnet := hG.2.2.2
  have hc4 : ∀ j, j < nc → cp j < 4 ∧ cq j < 4 := fun j hj => ⟨by have := (hcq j hj).1; omega, by have := (hcq j hj).2; omega⟩
  have hv : vld n (stAt n cp cq nc) := vld_stAt hn nc hcq
  have hs := hv.1
  have ht8 : (tk8 cp cq nc) < 256 := tk8_lt nc hc4
  have hGw := hG
  refine lv_iload_n hx hb dX0_best_0 rfl (lv_at hl 1 rfl) ?_
  refine rc_Si (rest := []) [.int rv] 1 S hK (r0_noRule l D dA rv) wl_X0_157 wd_X0_X0_noRule rfl ⟨Nat.le_of_ble_eq_true rfl, Nat.le_of_ble_eq_true rfl⟩ hl.1 (Nat.le_of_ble_eq_true rfl) dX0_best_1 ⟨Nat.le_refl 0, Nat.le_refl 0⟩ (trivial) ?_ rfl
  refine lv_if_eq (tgt := 9) hx hb dX0_best_4 (by decide) (fun c_4 => ?_) (fun c_4 => ?_)
  · have c_4 := b2i_eq0.mp c_4
    have c_4 : inR rv 0 3 = true := by simpa using c_4
    refine lv_iload_n hx hb dX0_best_9 rfl (lv_at hl 2 rfl) ?_
    refine lv_i2l hx hb dX0_best_10 rfl ?_
    refine lv_lconst (v := 0) hx hb dX0_best_11 (by decide) ?_
    refine lv_lconst (v := 1) hx hb dX0_best_12 (by decide) ?_
    refine rc_Si (rest := []) [.long wv.toInt64, .long 0, .long 1] 3 S hK (r0_in l D dA wv.toInt64 0 1) wl_X0_49 wd_X0_X0_in rfl ⟨Nat.le_of_ble_eq_true rfl, Nat.le_of_ble_eq_true rfl⟩ hl.1 (Nat.le_of_ble_eq_true rfl) dX0_best_13 ⟨Nat.le_refl 0, Nat.le_refl 0⟩ (trivial) ?_ rfl
    refine topi (z := b2i (inR wv 0 1)) (congrArg b2i (inL_eq wv 0 1)) ?_
    refine lv_if_ne (tgt := 22) hx hb dX0_best_16 (by decide) (fun c_16 => ?_) (fun c_16 => ?_)
    · have c_16 := b2i_ne0.mp c_16
      refine lv_aload_n hx hb dX0_best_22 rfl (lv_at hl 0 rfl) ?_
      refine k_get (v := .int (σ.1 0)) S hK hM.1 0 (by decide) fl_X0_45 rfl dX0_best_23 rfl ?_
      refine topi (z := nI n) (by first | exact hGw.2.1 | exact hG.2.1) ?_
      refine lv_if_ne (tgt := 32) hx hb dX0_best_26 (by decide) (fun c_26 => ?_) (fun c_26 => ?_)
      · have c_26 : ¬ n = 0 := fun h => c_26 (congrArg nI h)
        obtain ⟨r, hr9, rfl⟩ := inR_some (k := 3) (by decide) c_4
        have hr4 : r < 4 := by omega
        refine lv_aload_n hx hb dX0_best_32 rfl (lv_at hl 0 rfl) ?_
        refine k_get (v := .ref (a 7)) S hK hM.1 7 (by decide) fl_X0_33 rfl dX0_best_33 rfl ?_
        refine lv_aload_n hx hb dX0_best_36 rfl (lv_at hl 0 rfl) ?_
        refine lv_iload_n hx hb dX0_best_37 rfl (lv_at hl 1 rfl) ?_
        refine kc2_V (rest := [.ref (a 7)]) [.int (nI r)] 1 S hK2 hM (k0_layNowT l D dA a hI σ Ph hSt n nc cp cq ed cap mc f rg hDYf net hG hcq T hSN hT r (by omega) (by omega)) wl_X0_189 wd_X0_X0_layNow rfl ⟨Nat.le_of_ble_eq_true rfl, Nat.le_of_ble_eq_true rfl⟩ hl.1 (Nat.le_of_ble_eq_true rfl) dX0_best_38 ⟨Nat.le_refl 0, Nat.le_refl 0⟩ (hSt.at hM hPh) (fun v σ38 H locs hq hM => ?_) rfl
        obtain ⟨rfl, hFR, hTB, hLP⟩ := hq
        refine W.eq (g2 := F0 m 41 ls [.int (nI (sOf r (stAt n cp cq nc) (tk8 cp cq nc))), .ref (a 7)]) rfl ?_
        have hvo := val_ok (net := net) (r := r) (t := tkN n r cp cq nc) hn hv (mu_vld (by omega) hv)
        have hsl := sOf_lt (r := r) (s := (stAt n cp cq nc)) ht8
        have htk := tk8_tok (r := r) hn nc hc4
        have hfw := vfew hvo.1
        refine k_aldn (j := sOf r (stAt n cp cq nc) (tk8 cp cq nc)) (v := nI (val net n r (stAt n cp cq nc) (tkN n r cp cq nc)).2.2.1) S hK hM.1 7 (by decide) rfl (hsl) dX0_best_41 (hLP.2.2.1) ?_
        refine lv_istore_n (lv' := [(3, .int (nI (val net n r (stAt n cp cq nc) (tkN n r cp cq nc)).2.2.1)), (0, .ref (a 0)), (1, .int (nI r)), (2, .int wv)]) hx hb dX0_best_42 rfl hl (by decide) rfl (fun ls hl => ?_)
        refine lv_iconst (v := 0) hx hb dX0_best_43 (by decide) ?_
        refine lv_istore (lv' := [(4, .int 0), (3, .int (nI (val net n r (stAt n cp cq nc) (tkN n r cp cq nc)).2.2.1)), (0, .ref (a 0)), (1, .int (nI r)), (2, .int wv)]) hx hb dX0_best_44 hl (by decide) rfl (fun ls hl => ?_)
        have hloop46 : ∀ (k46 i46 : Nat), i46 + k46 = n → bstF (bstB n net r (stAt n cp cq nc) (tkN n r cp cq nc)) 16 0 = bstF (bstB n net r (stAt n cp cq nc) (tkN n r cp cq nc)) (16 - (4 * i46)) (4 * i46) → ∀ (ω46 : MS) (H : Heap) (locs : List Loc), KB D dA a ω46 s.heap H locs → (FRc (σ.i 9 (nI (T + 1))) ω46 (nI (T + 1)) ∧ TBc ω46 n net r (nI (T + 1))) → ∀ (ls : Array Slot), lv_has ls 7 [(4, .int (nI i46)), (3, .int (nI (val net n r (stAt n cp cq nc) (tkN n r cp cq nc)).2.2.1)), (0, .ref (a 0)), (1, .int (nI r)), (2, .int wv)] → W p l e ({ frames := 21, cells := 0, slots := 0, locals := 682 }) s m [.ref (a 0), .int (nI r), .int wv].toArray below meth c H locs 0 0 (KZ below D dA a (fun v9 σ9 => v9 = some (.int (spBest n net (stAt n cp cq nc) (fun r => tkN n r cp cq nc) (nI r) wv)) ∧ PTc σ σ9 T) [.ref (a 0), .int (nI r), .int wv] s) (F0 m 46 ls []) := by
          intro k46
          induction k46 with
          | zero =>
            intro i46 hi46 hinv46 ω46 H locs hM hw46 ls hl
            have hi46 : i46 = n := by omega
            have hGw : KG ω46 n net := KG.fr (σ := σ.i 9 (nI (T + 1))) ⟨hG.1, hG.2.1, hG.2.2.1, hG.2.2.2⟩ hw46.1
            have h9w : ω46.1 9 = nI (T + 1) := (congrFun hw46.1.1 9).trans rfl
            refine lv_iload hx hb dX0_best_46 (lv_at hl 0 rfl) ?_
            refine lv_aload_n hx hb dX0_best_48 rfl (lv_at hl 2 rfl) ?_
            refine k_get (v := .int (ω46.1 0)) S hK hM.1 0 (by decide) fl_X0_45 rfl dX0_best_49 rfl ?_
            refine topi (z := nI n) (by first | exact hGw.2.1 | exact hG.2.1) ?_
            refine lv_icmp_ge (tgt := 160) hx hb dX0_best_52 (by decide) (fun c_52 => ?_) (fun c_52 => absurd (show nI n ≤ nI i46 from nI_le (by omega) (by omega)) c_52)
            refine lv_bipush (v := (-9)) hx hb dX0_best_160 (by decide) ?_
            exact k_iret S hr hlk hM dX0_best_162 (⟨(congrArg (fun z : Int32 => some (Value.int z)) (by by_cases h9 : (val net n r (stAt n cp cq nc) (tkN n r cp cq nc)).2.1 = 0 <;> first | (simp [spBest, vNow, show inR 0 0 1 = true from (by decide), show inR (nI r) 0 3 = true from inR_nI (k := 3) (show r ≤ 3 by omega) (by decide), nI_clamp (show r < 2 ^ 31 by omega), c_16, c_26, h9]; done) | (rw [hi46] at hinv46; have e9 := hinv46.trans bstB_end; simp [spBest, vNow, show inR 0 0 1 = true from (by decide), show inR (nI r) 0 3 = true from inR_nI (k := 3) (show r ≤ 3 by omega) (by decide), nI_clamp (show r < 2 ^ 31 by omega), c_16, c_26, h9, e9]; done))), PTc.lay hSN hw46.1⟩)
          | succ k46 ih46 =>
            intro i46 hi46 hinv46 ω46 H locs hM hw46 ls hl
            have hlt46 : i46 < n := by omega
            have hGw : KG ω46 n net := KG.fr (σ := σ.i 9 (nI (T + 1))) ⟨hG.1, hG.2.1, hG.2.2.1, hG.2.2.2⟩ hw46.1
            have h9w : ω46.1 9 = nI (T + 1) := (congrFun hw46.1.1 9).trans rfl
            refine lv_iload hx hb dX0_best_46 (lv_at hl 0 rfl) ?_
            refine lv_aload_n hx hb dX0_best_48 rfl (lv_at hl 2 rfl) ?_
            refine k_get (v := .int (ω46.1 0)) S hK hM.1 0 (by decide) fl_X0_45 rfl dX0_best_49 rfl ?_
            refine topi (z := nI n) (by first | exact hGw.2.1 | exact hG.2.1) ?_
            refine lv_icmp_ge (tgt := 160) hx hb dX0_best_52 (by decide) (fun c_52 => absurd c_52 (show ¬ nI n ≤ nI i46 from nI_ge (by omega) (by omega))) (fun c_52 => ?_)
            refine lv_iload_n hx hb dX0_best_55 rfl (lv_at hl 1 rfl) ?_
            refine lv_sipush (v := 1000) hx hb dX0_best_56 (by decide) ?_
            refine lv_icmp_ge (tgt := 160) hx hb dX0_best_59 (by decide) (fun c_59 => ?_) (fun c_59 => ?_)
            · have c_59 : 1000 ≤ (val net n r (stAt n cp cq nc) (tkN n r cp cq nc)).2.2.1 := Nat.le_of_not_lt (fun h9 => nI_ge h9 (by omega) c_59)
              refine lv_bipush (v := (-9)) hx hb dX0_best_160 (by decide) ?_
              exact k_iret S hr hlk hM dX0_best_162 (⟨(congrArg (fun z : Int32 => some (Value.int z)) (by simp [spBest, vNow, show inR 0 0 1 = true from (by decide), show inR (nI r) 0 3 = true from inR_nI (k := 3) (show r ≤ 3 by omega) (by decide), nI_clamp (show r < 2 ^ 31 by omega), c_16, c_26, few_0 hvo.1 c_59])), PTc.lay hSN hw46.1⟩)
            · have c_59 : (val net n r (stAt n cp cq nc) (tkN n r cp cq nc)).2.2.1 < 1000 := Nat.lt_of_not_le (fun h9 => c_59 (nI_le h9 (by omega)))
              refine lv_iconst (v := 0) hx hb dX0_best_62 (by decide) ?_
              refine lv_istore (lv' := [(5, .int 0), (4, .int (nI i46)), (3, .int (nI (val net n r (stAt n cp cq nc) (tkN n r cp cq nc)).2.2.1)), (0, .ref (a 0)), (1, .int (nI r)), (2, .int wv)]) hx hb dX0_best_63 hl (by decide) rfl (fun ls hl => ?_)
              have hloop65 : ∀ (k65 i65 : Nat), i65 + k65 = n → bstF (bstB n net r (stAt n cp cq nc) (tkN n r cp cq nc)) 16 0 = bstF (bstB n net r (stAt n cp cq nc) (tkN n r cp cq nc)) (16 - (4 * i46 + i65)) (4 * i46 + i65) → ∀ (ω65 : MS) (H : Heap) (locs : List Loc), KB D dA a ω65 s.heap H locs → (FRc (σ.i 9 (nI (T + 1))) ω65 (nI (T + 1)) ∧ TBc ω65 n net r (nI (T + 1))) → ∀ (ls : Array Slot), lv_has ls 7 [(5, .int (nI i65)), (4, .int (nI i46)), (3, .int (nI (val net n r (stAt n cp cq nc) (tkN n r cp cq nc)).2.2.1)), (0, .ref (a 0)), (1, .int (nI r)), (2, .int wv)] → W p l e ({ frames := 21, cells := 0, slots := 0, locals := 682 }) s m [.ref (a 0), .int (nI r), .int wv].toArray below meth c H locs 0 0 (KZ below D dA a (fun v9 σ9 => v9 = some (.int (spBest n net (stAt n cp cq nc) (fun r => tkN n r cp cq nc) (nI r) wv)) ∧ PTc σ σ9 T) [.ref (a 0), .int (nI r), .int wv] s) (F0 m 65 ls []) := by
                intro k65
                induction k65 with
                | zero =>
                  intro i65 hi65 hinv65 ω65 H locs hM hw65 ls hl
                  have hi65 : i65 = n := by omega
                  have hGw : KG ω65 n net := KG.fr (σ := σ.i 9 (nI (T + 1))) ⟨hG.1, hG.2.1, hG.2.2.1, hG.2.2.2⟩ hw65.1
                  have h9w : ω65.1 9 = nI (T + 1) := (congrFun hw65.1.1 9).trans rfl
                  refine lv_iload hx hb dX0_best_65 (lv_at hl 0 rfl) ?_
                  refine lv_aload_n hx hb dX0_best_67 rfl (lv_at hl 3 rfl) ?_
                  refine k_get (v := .int (ω65.1 0)) S hK hM.1 0 (by decide) fl_X0_45 rfl dX0_best_68 rfl ?_
                  refine topi (z := nI n) (by first | exact hGw.2.1 | exact hG.2.1) ?_
                  refine lv_icmp_ge (tgt := 154) hx hb dX0_best_71 (by decide) (fun c_71 => ?_) (fun c_71 => absurd (show nI n ≤ nI i65 from nI_le (by omega) (by omega)) c_71)
                  refine lv_iinc (v := nI (i46 + 1)) (lv' := [(4, .int (nI (i46 + 1))), (5, .int (nI i65)), (3, .int (nI (val net n r (stAt n cp cq nc) (tkN n r cp cq nc)).2.2.1)), (0, .ref (a 0)), (1, .int (nI r)), (2, .int wv)]) hx hb dX0_best_154 hl (k := 1) rfl (nI_1 _) (by decide) rfl (fun ls hl => ?_)
                  refine lv_goto (tgt := 46) hx hb dX0_best_157 (by decide) ?_
                  exact ih46 (i46 + 1) (by omega) (by rw [hi65] at hinv65; exact hinv65.trans (bstB_row hn (by omega))) _ _ _ hM (hw65) ls (lv_sub hl [0, 2, 3, 4, 5] rfl)
                | succ k65 ih65 =>
                  intro i65 hi65 hinv65 ω65 H locs hM hw65 ls hl
                  have hlt65 : i65 < n := by omega
                  have hGw : KG ω65 n net := KG.fr (σ := σ.i 9 (nI (T + 1))) ⟨hG.1, hG.2.1, hG.2.2.1, hG.2.2.2⟩ hw65.1
                  have h9w : ω65.1 9 = nI (T + 1) := (congrFun hw65.1.1 9).trans rfl
                  refine lv_iload hx hb dX0_best_65 (lv_at hl 0 rfl) ?_
                  refine lv_aload_n hx hb dX0_best_67 rfl (lv_at hl 3 rfl) ?_
                  refine k_get (v := .int (ω65.1 0)) S hK hM.1 0 (by decide) fl_X0_45 rfl dX0_best_68 rfl ?_
                  refine topi (z := nI n) (by first | exact hGw.2.1 | exact hG.2.1) ?_
                  refine lv_icmp_ge (tgt := 154) hx hb dX0_best_71 (by decide) (fun c_71 => absurd c_71 (show ¬ nI n ≤ nI i65 from nI_ge (by omega) (by omega))) (fun c_71 => ?_)
                  refine lv_aload_n hx hb dX0_best_74 rfl (lv_at hl 3 rfl) ?_
                  refine lv_iload_n hx hb dX0_best_75 rfl (lv_at hl 4 rfl) ?_
                  refine lv_aload_n hx hb dX0_best_76 rfl (lv_at hl 3 rfl) ?_
                  refine rc2_V (rest := [.int (nI r), .ref (a 0)]) [] 0 S hK2 (r0_secretsNow l D dA a ω65 n nc cp cq ed cap mc f rg hn hGw.2.1) wl_X0_93 wd_X0_X0_secretsNow rfl ⟨Nat.le_of_ble_eq_true rfl, Nat.le_of_ble_eq_true rfl⟩ (k_recv hK hM.1) hl.1 (Nat.le_of_ble_eq_true rfl) dX0_best_77 ⟨Nat.le_refl 0, Nat.le_refl 0⟩ ⟨hM.1, (hDYf _ (hSt.at hM hPh))⟩ (fun v9 hv9 => ?_) rfl
                  subst hv9
                  refine W.eq (g2 := F0 m 80 ls [.int (nI (stAt n cp cq nc)), .int (nI r), .ref (a 0)]) rfl ?_
                  refine lv_aload_n hx hb dX0_best_80 rfl (lv_at hl 3 rfl) ?_
                  refine rc2_V (rest := [.int (nI (stAt n cp cq nc)), .int (nI r), .ref (a 0)]) [] 0 S hK2 (r0_tokensNow l D dA a ω65 n nc cp cq ed cap mc f rg hn hGw.2.1) wl_X0_99 wd_X0_X0_tokensNow rfl ⟨Nat.le_of_ble_eq_true rfl, Nat.le_of_ble_eq_true rfl⟩ (k_recv hK hM.1) hl.1 (Nat.le_of_ble_eq_true rfl) dX0_best_81 ⟨Nat.le_refl 0, Nat.le_refl 0⟩ ⟨hM.1, (hDYf _ (hSt.at hM hPh))⟩ (fun v9 hv9 => ?_) rfl
                  subst hv9
                  refine W.eq (g2 := F0 m 84 ls [.int (nI (tk8 cp cq nc)), .int (nI (stAt n cp cq nc)), .int (nI r), .ref (a 0)]) rfl ?_
                  refine lv_iload hx hb dX0_best_84 (lv_at hl 1 rfl) ?_
                  refine lv_iload hx hb dX0_best_86 (lv_at hl 0 rfl) ?_
                  refine rc_Vi (rest := []) [.int (nI r), .int (nI (stAt n cp cq nc)), .int (nI (tk8 cp cq nc)), .int (nI i46), .int (nI i65)] 5 S hK (r0_mayRing l D dA a ω65 n net hGw r (stAt n cp cq nc) (tk8 cp cq nc) i46 i65 (by omega) hv (ht8) (by first | assumption | omega | decide) (by first | assumption | omega | decide)) wl_X0_160 wd_X0_X0_mayRing rfl ⟨Nat.le_of_ble_eq_true rfl, Nat.le_of_ble_eq_true rfl⟩ (k_recv hK hM.1) hl.1 (Nat.le_of_ble_eq_true rfl) dX0_best_88 ⟨Nat.le_refl 0, Nat.le_refl 0⟩ (hM.1) ?_ rfl
                  refine lv_istore (lv' := [(6, .int (b2i (mayB net r (stAt n cp cq nc) (tof r (tk8 cp cq nc)) i46 i65))), (5, .int (nI i65)), (4, .int (nI i46)), (3, .int (nI (val net n r (stAt n cp cq nc) (tkN n r cp cq nc)).2.2.1)), (0, .ref (a 0)), (1, .int (nI r)), (2, .int wv)]) hx hb dX0_best_91 hl (by decide) rfl (fun ls hl => ?_)
                  refine lv_iload hx hb dX0_best_93 (lv_at hl 0 rfl) ?_
                  refine lv_if_eq (tgt := 148) hx hb dX0_best_95 (by decide) (fun c_95 => ?_) (fun c_95 => ?_)
                  · have c_95 := b2i_eq0.mp c_95
                    rw [mayB_tok htk hlt46] at c_95
                    have hnb := bstB_may hn hlt46 hlt65 c_95
                    refine lv_iinc (v := nI (i65 + 1)) (lv' := [(5, .int (nI (i65 + 1))), (6, .int (b2i (mayB net r (stAt n cp cq nc) (tof r (tk8 cp cq nc)) i46 i65))), (4, .int (nI i46)), (3, .int (nI (val net n r (stAt n cp cq nc) (tkN n r cp cq nc)).2.2.1)), (0, .ref (a 0)), (1, .int (nI r)), (2, .int wv)]) hx hb dX0_best_148 hl (k := 1) rfl (nI_1 _) (by decide) rfl (fun ls hl => ?_)
                    refine lv_goto (tgt := 65) hx hb dX0_best_151 (by decide) ?_
                    exact ih65 (i65 + 1) (by omega) (hinv65.trans (bst_step hnb (by omega))) _ _ _ hM (hw65) ls (lv_sub hl [0, 2, 3, 4, 5, 6] rfl)
                  · have c_95 := b2i_ne0.mp c_95
                    rw [mayB_tok htk hlt46] at c_95
                    have hvc := vld_aft hn hv hlt46 hlt65
                    have htc := tb8_lt _ ht8 i46 (by omega) i65 (by omega)
                    have hsc := hvc.1
                    refine lv_aload_n hx hb dX0_best_98 rfl (lv_at hl 4 rfl) ?_
                    refine k_get (v := .ref (a 7)) S hK hM.1 7 (by decide) fl_X0_33 rfl dX0_best_99 rfl ?_
                    refine lv_aload_n hx hb dX0_best_102 rfl (lv_at hl 4 rfl) ?_
                    refine lv_iload_n hx hb dX0_best_103 rfl (lv_at hl 5 rfl) ?_
                    refine lv_aload_n hx hb dX0_best_104 rfl (lv_at hl 4 rfl) ?_
                    refine rc2_V (rest := [.int (nI r), .ref (a 0), .ref (a 7)]) [] 0 S hK2 (r0_secretsNow l D dA a ω65 n nc cp cq ed cap mc f rg hn hGw.2.1) wl_X0_93 wd_X0_X0_secretsNow rfl ⟨Nat.le_of_ble_eq_true rfl, Nat.le_of_ble_eq_true rfl⟩ (k_recv hK hM.1) hl.1 (Nat.le_of_ble_eq_true rfl) dX0_best_105 ⟨Nat.le_refl 0, Nat.le_refl 0⟩ ⟨hM.1, (hDYf _ (hSt.at hM hPh))⟩ (fun v9 hv9 => ?_) rfl
                    subst hv9
                    refine W.eq (g2 := F0 m 108 ls [.int (nI (stAt n cp cq nc)), .int (nI r), .ref (a 0), .ref (a 7)]) rfl ?_
                    refine lv_iload hx hb dX0_best_108 (lv_at hl 2 rfl) ?_
                    refine lv_iload hx hb dX0_best_110 (lv_at hl 1 rfl) ?_
                    refine rc_Si (rest := [.int (nI r), .ref (a 0), .ref (a 7)]) [.int (nI (stAt n cp cq nc)), .int (nI i46), .int (nI i65)] 3 S hK (r0_behind l D dA (stAt n cp cq nc) i46 i65 (by first | assumption | omega | decide) (by first | assumption | omega | decide) (by first | assumption | omega | decide)) wl_X0_170 wd_X0_X0_behind rfl ⟨Nat.le_of_ble_eq_true rfl, Nat.le_of_ble_eq_true rfl⟩ hl.1 (Nat.le_of_ble_eq_true rfl) dX0_best_112 ⟨Nat.le_refl 0, Nat.le_refl 0⟩ (trivial) ?_ rfl
                    refine lv_aload_n hx hb dX0_best_115 rfl (lv_at hl 4 rfl) ?_
                    refine rc2_V (rest := [.int (nI (aft (stAt n cp cq nc) i46 i65)), .int (nI r), .ref (a 0), .ref (a 7)]) [] 0 S hK2 (r0_tokensNow l D dA a ω65 n nc cp cq ed cap mc f rg hn hGw.2.1) wl_X0_99 wd_X0_X0_tokensNow rfl ⟨Nat.le_of_ble_eq_true rfl, Nat.le_of_ble_eq_true rfl⟩ (k_recv hK hM.1) hl.1 (Nat.le_of_ble_eq_true rfl) dX0_best_116 ⟨Nat.le_refl 0, Nat.le_refl 0⟩ ⟨hM.1, (hDYf _ (hSt.at hM hPh))⟩ (fun v9 hv9 => ?_) rfl
                    subst hv9
                    refine W.eq (g2 := F0 m 119 ls [.int (nI (tk8 cp cq nc)), .int (nI (aft (stAt n cp cq nc) i46 i65)), .int (nI r), .ref (a 0), .ref (a 7)]) rfl ?_
                    refine lv_iload hx hb dX0_best_119 (lv_at hl 2 rfl) ?_
                    refine lv_iload hx hb dX0_best_121 (lv_at hl 1 rfl) ?_
                    refine rc_Si (rest := [.int (nI (aft (stAt n cp cq nc) i46 i65)), .int (nI r), .ref (a 0), .ref (a 7)]) [.int (nI (tk8 cp cq nc)), .int (nI i46), .int (nI i65)] 3 S hK (r0_tokensBehind l D dA (tk8 cp cq nc) i46 i65 (by first | assumption | omega | decide) (by first | assumption | omega | decide) (by first | assumption | omega | decide)) wl_X0_102 wd_X0_X0_tokensBehind rfl ⟨Nat.le_of_ble_eq_true rfl, Nat.le_of_ble_eq_true rfl⟩ hl.1 (Nat.le_of_ble_eq_true rfl) dX0_best_123 ⟨Nat.le_refl 0, Nat.le_refl 0⟩ (trivial) ?_ rfl
                    refine kc_V (rest := [.ref (a 7)]) [.int (nI r), .int (nI (aft (stAt n cp cq nc) i46 i65)), .int (nI (tb8 (tk8 cp cq nc) i46 i65))] 3 S hK hM (k0_lay l D dA a hI Ph hSt n net r (by omega) (nI (T + 1)) 15 (by omega) ω65 (aft (stAt n cp cq nc) i46 i65) (tb8 (tk8 cp cq nc) i46 i65) hGw h9w hw65.2 hvc htc (mu_vld (by omega) hvc)) wl_X0_173 wd_X0_X0_lay rfl ⟨Nat.le_of_ble_eq_true rfl, Nat.le_of_ble_eq_true rfl⟩ hl.1 (Nat.le_of_ble_eq_true rfl) dX0_best_126 ⟨Nat.le_refl 0, Nat.le_refl 0⟩ (hSt.at hM hPh) (fun v σ126 H locs hq hM => ?_) rfl
                    obtain ⟨rfl, hFR9, hTB9, hin9⟩ := hq
                    refine W.eq (g2 := F0 m 129 ls [.int (nI (sOf r (aft (stAt n cp cq nc) i46 i65) (tb8 (tk8 cp cq nc) i46 i65))), .ref (a 7)]) rfl ?_
                    have hLC := hTB9 _ _ hvc htc hin9
                    rw [tof_tb ht8 (by omega) (by omega), val_tok (tkA_tok htk)] at hLC
                    have hvoc := val_ok (net := net) (r := r) (t := tkA r (tkN n r cp cq nc) i46 i65) hn hvc (mu_vld (by omega) hvc)
                    have hslc := sOf_lt (r := r) (s := (aft (stAt n cp cq nc) i46 i65)) htc
                    have hfwc := vfew hvoc.1
                    refine k_aldn (j := sOf r (aft (stAt n cp cq nc) i46 i65) (tb8 (tk8 cp cq nc) i46 i65)) (v := nI (val net n r (aft (stAt n cp cq nc) i46 i65) (tkA r (tkN n r cp cq nc) i46 i65)).2.2.1) S hK hM.1 7 (by decide) rfl (hslc) dX0_best_129 (hLC.2.2.1) ?_
                    refine lv_iconst (v := 1) hx hb dX0_best_130 (by decide) ?_
                    refine lv_iadd hx hb dX0_best_131 ?_
                    refine topi (z := nI ((val net n r (aft (stAt n cp cq nc) i46 i65) (tkA r (tkN n r cp cq nc) i46 i65)).2.2.1 + 1)) (nI_1 _) ?_
                    refine lv_iload_n hx hb dX0_best_132 rfl (lv_at hl 3 rfl) ?_
                    refine lv_icmp_ne (tgt := 148) hx hb dX0_best_133 (by decide) (fun c_133 => ?_) (fun c_133 => ?_)
                    · have c_133 : ¬ (val net n r (aft (stAt n cp cq nc) i46 i65) (tkA r (tkN n r cp cq nc) i46 i65)).2.2.1 + 1 = (val net n r (stAt n cp cq nc) (tkN n r cp cq nc)).2.2.1 := fun h => c_133 (congrArg nI h)
                      have hnb := bstB_few (by omega) c_133
                      refine lv_iinc (v := nI (i65 + 1)) (lv' := [(5, .int (nI (i65 + 1))), (6, .int (b2i (mayB net r (stAt n cp cq nc) (tof r (tk8 cp cq nc)) i46 i65))), (4, .int (nI i46)), (3, .int (nI (val net n r (stAt n cp cq nc) (tkN n r cp cq nc)).2.2.1)), (0, .ref (a 0)), (1, .int (nI r)), (2, .int wv)]) hx hb dX0_best_148 hl (k := 1) rfl (nI_1 _) (by decide) rfl (fun ls hl => ?_)
                      refine lv_goto (tgt := 65) hx hb dX0_best_151 (by decide) ?_
                      exact ih65 (i65 + 1) (by omega) (hinv65.trans (bst_step hnb (by omega))) _ _ _ hM (⟨hw65.1.tr hFR9, hTB9⟩) ls (lv_sub hl [0, 2, 3, 4, 5, 6] rfl)
                    · have c_133 : (val net n r (aft (stAt n cp cq nc) i46 i65) (tkA r (tkN n r cp cq nc) i46 i65)).2.2.1 + 1 = (val net n r (stAt n cp cq nc) (tkN n r cp cq nc)).2.2.1 := nI_inj (by omega) (by omega) c_133
                      have hyb := bstB_yes hn hlt46 hlt65 c_95 (few_1 hvoc.1 (by omega)) c_133
                      refine lv_iload_n hx hb dX0_best_136 rfl (lv_at hl 6 rfl) ?_
                      refine lv_if_ne (tgt := 145) hx hb dX0_best_137 (by decide) (fun c_137 => ?_) (fun c_137 => ?_)
                      · refine lv_iload hx hb dX0_best_145 (lv_at hl 1 rfl) ?_
                        exact k_iret S hr hlk hM dX0_best_147 (⟨(congrArg (fun z : Int32 => some (Value.int z)) (by have e9 := hinv65.trans (bstF_t (by omega) hyb); have d1 : (4 * i46 + i65) / 4 = i46 := (by omega); have d2 : (4 * i46 + i65) % 4 = i65 := (by omega); simp [spBest, vNow, show inR 0 0 1 = true from (by decide), show inR (nI r) 0 3 = true from inR_nI (k := 3) (show r ≤ 3 by omega) (by decide), nI_clamp (show r < 2 ^ 31 by omega), c_16, c_26, few_1 hvo.1 c_59, e9, c_137, d1, d2])), PTc.lay hSN (hw65.1.tr hFR9)⟩)
                      · refine lv_iload hx hb dX0_best_140 (lv_at hl 2 rfl) ?_
                        refine lv_goto (tgt := 147) hx hb dX0_best_142 (by decide) ?_
                        exact k_iret S hr hlk hM dX0_best_147 (⟨(congrArg (fun z : Int32 => some (Value.int z)) (by have e9 := hinv65.trans (bstF_t (by omega) hyb); have d1 : (4 * i46 + i65) / 4 = i46 := (by omega); have d2 : (4 * i46 + i65) % 4 = i65 := (by omega); simp [spBest, vNow, show inR 0 0 1 = true from (by decide), show inR (nI r) 0 3 = true from inR_nI (k := 3) (show r ≤ 3 by omega) (by decide), nI_clamp (show r < 2 ^ 31 by omega), c_16, c_26, few_1 hvo.1 c_59, e9, c_137, d1, d2])), PTc.lay hSN (hw65.1.tr hFR9)⟩)
              exact hloop65 (n) 0 (by omega) (hinv46) _ _ _ hM (hw46) ls (lv_sub hl [0, 1, 2, 3, 4, 5] rfl)
        exact hloop46 (n) 0 (by omega) (rfl) _ _ _ hM (⟨hFR, hTB⟩) ls (lv_sub hl [0, 1, 2, 3, 4] rfl)
      · have c_26 : n = 0 := nI_inj (by omega) (by decide) c_26
        refine lv_bipush (v := (-3)) hx hb dX0_best_29 (by decide) ?_
        exact k_iret S hr hlk hM dX0_best_31 (⟨(congrArg (fun z : Int32 => some (Value.int z)) (by simp [spBest, *])), PTc.rf hSN⟩)
    · have c_16 := b2i_eq0.mp c_16
      refine lv_bipush (v := (-2)) hx hb dX0_best_19 (by decide) ?_
      exact k_iret S hr hlk hM dX0_best_21 (⟨(congrArg (fun z : Int32 => some (Value.int z)) (by simp [spBest, *])), PTc.rf hSN⟩)
  · have c_4 := b2i_ne0.mp c_4
    have c_4 : inR rv 0 3 = false := by simpa using c_4
    refine lv_iconst (v := (-1)) hx hb dX0_best_7 (by decide) ?_
    exact k_iret S hr hlk hM dX0_best_8 (⟨(congrArg (fun z : Int32 => some (Value.int z)) (by simp [spBest, *])), PTc.rf hSN⟩)
