/-! COMPONENT 8: verdict (by program: gen/comp8.py) -/
set_option maxRecDepth 100000
set_option maxHeartbeats 4000000 in
theorem k0_verdict (l : Launch) (D : va_G) (dA : Nat → ClassId) (a : Nat → Nat) (hI : kInj a) (σ : MS) (Ph : Heap → Prop) (hSt : kStb a Ph) (n nc : Nat) (cp cq : Nat → Nat) (ed cap : Nat) (mc : Int32) (f : Nat → Option Nat) (rg : Nat → Nat) (hDYf : ∀ H, Ph H → DY D dA a n nc cp cq ed cap mc f rg H) (net : Nat → Nat) (hG : KG σ n net) (hcq : ∀ j, j < nc → cp j < n ∧ cq j < n) (T : Nat) (hSN : SNc σ T) (hT : T < 2 ^ 30) (rv : Int32) : KC2 l yX0_verdict cX0_verdict 2 (some .int) 21 682 D dA a [.ref (a 0), .int rv] σ Ph (fun v9 σ9 => v9 = some (.int (spVerdict n net (stAt n cp cq nc) (fun r => tkN n r cp cq nc) rv)) ∧ PTc σ σ9 T) := by
  refine KC2.of (by decide) (Nat.le_of_ble_eq_true rfl) ?_
  intro p e s m below meth c ls S hr hlk hK2 hM hPh hl
  have hK := hK2.1
  have hx := S.1
  have hb := S.2.1
  have hl : lv_has ls 2 [(0, .ref (a 0)), (1, .int rv)] := hl
  have hn := hG.1
  have h0 := hG.2.1
  have hnet := hG.2.2.2
  have hc4 : ∀ j, j < nc → cp j < 4 ∧ cq j < 4 := fun j hj => ⟨by have := (hcq j hj).1; omega, by have := (hcq j hj).2; omega⟩
  have hv : vld n (stAt n cp cq nc) := vld_stAt hn nc hcq
  have hs := hv.1
  have ht8 : (tk8 cp cq nc) < 256 := tk8_lt nc hc4
  refine lv_iload_n hx hb dX0_verdict_0 rfl (lv_at hl 1 rfl) ?_
  refine rc_Si (rest := []) [.int rv] 1 S hK (r0_noRule l D dA rv) wl_X0_157 wd_X0_X0_noRule rfl ⟨Nat.le_of_ble_eq_true rfl, Nat.le_of_ble_eq_true rfl⟩ hl.1 (Nat.le_of_ble_eq_true rfl) dX0_verdict_1 ⟨Nat.le_refl 0, Nat.le_refl 0⟩ (trivial) ?_ rfl
  refine lv_if_eq (tgt := 9) hx hb dX0_verdict_4 (by decide) (fun c_4 => ?_) (fun c_4 => ?_)
  · have c_4 := b2i_eq0.mp c_4
    have c_4 : inR rv 0 3 = true := by simpa using c_4
    obtain ⟨r, hr9, rfl⟩ := inR_some (k := 3) (by decide) c_4
    have hr4 : r < 4 := by omega
    refine lv_aload_n hx hb dX0_verdict_9 rfl (lv_at hl 0 rfl) ?_
    refine k_get (v := .int (σ.1 0)) S hK hM.1 0 (by decide) fl_X0_45 rfl dX0_verdict_10 rfl ?_
    refine topi (z := nI n) (h0) ?_
    refine lv_if_ne (tgt := 21) hx hb dX0_verdict_13 (by decide) (fun c_13 => ?_) (fun c_13 => ?_)
    · have c_13 : ¬ n = 0 := fun h => c_13 (congrArg nI h)
      refine lv_aload_n hx hb dX0_verdict_21 rfl (lv_at hl 0 rfl) ?_
      refine lv_aload_n hx hb dX0_verdict_22 rfl (lv_at hl 0 rfl) ?_
      refine lv_iload_n hx hb dX0_verdict_23 rfl (lv_at hl 1 rfl) ?_
      refine kc2_V (rest := [.ref (a 0)]) [.int (nI r)] 1 S hK2 hM (k0_layNow l D dA a hI σ Ph hSt n nc cp cq ed cap mc f rg hDYf net hG hcq T hSN hT r (by omega) (by omega)) wl_X0_189 wd_X0_X0_layNow rfl ⟨Nat.le_of_ble_eq_true rfl, Nat.le_of_ble_eq_true rfl⟩ hl.1 (Nat.le_of_ble_eq_true rfl) dX0_verdict_24 ⟨Nat.le_refl 0, Nat.le_refl 0⟩ (hSt.at hM hPh) (fun v σ24 H locs hq hM => ?_) rfl
      obtain ⟨rfl, hFR, hLP⟩ := hq
      refine W.eq (g2 := F0 m 27 ls [.int (nI (sOf r (stAt n cp cq nc) (tk8 cp cq nc))), .ref (a 0)]) rfl ?_
      have hvo := val_ok (net := net) (r := r) (t := tkN n r cp cq nc) hn hv (mu_vld (by omega) hv)
      have hsl := sOf_lt (r := r) (s := (stAt n cp cq nc)) ht8
      refine rc_Vi (rest := []) [.int (nI (sOf r (stAt n cp cq nc) (tk8 cp cq nc)))] 1 S hK (r0_verdictAt l D dA a σ24 (sOf r (stAt n cp cq nc) (tk8 cp cq nc)) hsl (val net n r (stAt n cp cq nc) (tkN n r cp cq nc)) (Nat.lt_of_le_of_lt hvo.1.1 (by decide)) hvo.1.2.1 hvo.2 hLP) wl_X0_192 wd_X0_X0_verdictAt rfl ⟨Nat.le_of_ble_eq_true rfl, Nat.le_of_ble_eq_true rfl⟩ (k_recv hK hM.1) hl.1 (Nat.le_of_ble_eq_true rfl) dX0_verdict_27 ⟨Nat.le_refl 0, Nat.le_refl 0⟩ (hM.1) ?_ rfl
      exact k_iret S hr hlk hM dX0_verdict_30 (⟨(congrArg (fun z : Int32 => some (Value.int z)) (by simp [spVerdict, vNow, show inR (nI r) 0 3 = true from inR_nI (k := 3) (show r ≤ 3 by omega) (by decide), nI_clamp (show r < 2 ^ 31 by omega), c_13])), PTc.lay hSN hFR⟩)
    · have c_13 : n = 0 := nI_inj (by omega) (by decide) c_13
      refine lv_bipush (v := (-3)) hx hb dX0_verdict_16 (by decide) ?_
      refine lv_goto (tgt := 30) hx hb dX0_verdict_18 (by decide) ?_
      exact k_iret S hr hlk hM dX0_verdict_30 (⟨(congrArg (fun z : Int32 => some (Value.int z)) (by simp [spVerdict, show inR (nI r) 0 3 = true from inR_nI (k := 3) (show r ≤ 3 by omega) (by decide), nI_clamp (show r < 2 ^ 31 by omega), *])), PTc.rf hSN⟩)
  · have c_4 := b2i_ne0.mp c_4
    have c_4 : inR rv 0 3 = false := by simpa using c_4
    refine lv_iconst (v := (-1)) hx hb dX0_verdict_7 (by decide) ?_
    exact k_iret S hr hlk hM dX0_verdict_8 (⟨(congrArg (fun z : Int32 => some (Value.int z)) (by simp [spVerdict, *])), PTc.rf hSN⟩)
