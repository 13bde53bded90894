/-! COMPONENT 7: layNow (by program: gen/comp7.py) -/
set_option maxRecDepth 100000
set_option maxHeartbeats 4000000 in
theorem k0_layNow (l : Launch) (D : va_G) (dA : Nat → ClassId) (a : Nat → Nat) (hI : kInj a) (σ : MS) (Ph : Heap → Prop) (hSt : kStb a Ph) (n nc : Nat) (cp cq : Nat → Nat) (ed cap : Nat) (mc : Int32) (f : Nat → Option Nat) (rg : Nat → Nat) (hDYf : ∀ H, Ph H → DY D dA a n nc cp cq ed cap mc f rg H) (net : Nat → Nat) (hG : KG σ n net) (hcq : ∀ j, j < nc → cp j < n ∧ cq j < n) (T : Nat) (hSN : SNc σ T) (hT : T < 2 ^ 30) (r : Nat) (hr4 : r < 4) (hn0 : 0 < n) : KC2 l yX0_layNow cX0_layNow 2 (some .int) 20 661 D dA a [.ref (a 0), .int (nI r)] σ Ph (fun v9 σ9 => v9 = some (.int (nI (sOf r (stAt n cp cq nc) (tk8 cp cq nc)))) ∧ FRc (σ.i 9 (nI (T + 1))) σ9 (nI (T + 1)) ∧ LPc σ9 (sOf r (stAt n cp cq nc) (tk8 cp cq nc)) (val net n r (stAt n cp cq nc) (tkN n r cp cq nc))) := by
  refine KC2.of (by decide) (Nat.le_of_ble_eq_true rfl) ?_
  intro p e s m below meth c ls S hr hlk hK2 hM hPh hl
  have hK := hK2.1
  have hx := S.1
  have hb := S.2.1
  have hl : lv_has ls 2 [(0, .ref (a 0)), (1, .int (nI r))] := hl
  have hn := hG.1
  have h0 := hG.2.1
  have hnet := hG.2.2.2
  have hc4 : ∀ j, j < nc → cp j < 4 ∧ cq j < 4 := fun j hj => ⟨by have := (hcq j hj).1; omega, by have := (hcq j hj).2; omega⟩
  have hv : vld n (stAt n cp cq nc) := vld_stAt hn nc hcq
  have hs := hv.1
  have ht8 : (tk8 cp cq nc) < 256 := tk8_lt nc hc4
  refine lv_aload_n hx hb dX0_layNow_0 rfl (lv_at hl 0 rfl) ?_
  refine lv_dup hx hb dX0_layNow_1 rfl ?_
  refine k_get (v := .int (σ.1 9)) S hK hM.1 9 (by decide) fl_X0_167 rfl dX0_layNow_2 rfl ?_
  refine topi (z := nI T) (hSN.1) ?_
  refine lv_iconst (v := 1) hx hb dX0_layNow_5 (by decide) ?_
  refine lv_iadd hx hb dX0_layNow_6 ?_
  refine topi (z := nI (T + 1)) (nI_1 T) ?_
  refine k_put hI S hK hM 9 (by decide) rfl fl_X0_167 rfl rfl (by decide +kernel) dX0_layNow_7 (fun H locs hM => ?_)
  refine lv_aload_n hx hb dX0_layNow_10 rfl (lv_at hl 0 rfl) ?_
  refine lv_iload_n hx hb dX0_layNow_11 rfl (lv_at hl 1 rfl) ?_
  refine lv_aload_n hx hb dX0_layNow_12 rfl (lv_at hl 0 rfl) ?_
  refine rc2_V (rest := [.int (nI r), .ref (a 0)]) [] 0 S hK2 (r0_secretsNow l D dA a (σ.i 9 (nI (T + 1))) n nc cp cq ed cap mc f rg hn h0) wl_X0_93 wd_X0_X0_secretsNow rfl ⟨Nat.le_of_ble_eq_true rfl, Nat.le_of_ble_eq_true rfl⟩ (k_recv hK hM.1) hl.1 (Nat.le_of_ble_eq_true rfl) dX0_layNow_13 ⟨Nat.le_refl 0, Nat.le_refl 0⟩ ⟨hM.1, (hDYf _ (hSt.at hM hPh))⟩ (fun v9 hv9 => ?_) rfl
  subst hv9
  refine W.eq (g2 := F0 m 16 ls [.int (nI (stAt n cp cq nc)), .int (nI r), .ref (a 0)]) rfl ?_
  refine lv_aload_n hx hb dX0_layNow_16 rfl (lv_at hl 0 rfl) ?_
  refine rc2_V (rest := [.int (nI (stAt n cp cq nc)), .int (nI r), .ref (a 0)]) [] 0 S hK2 (r0_tokensNow l D dA a (σ.i 9 (nI (T + 1))) n nc cp cq ed cap mc f rg hn h0) wl_X0_99 wd_X0_X0_tokensNow rfl ⟨Nat.le_of_ble_eq_true rfl, Nat.le_of_ble_eq_true rfl⟩ (k_recv hK hM.1) hl.1 (Nat.le_of_ble_eq_true rfl) dX0_layNow_17 ⟨Nat.le_refl 0, Nat.le_refl 0⟩ ⟨hM.1, (hDYf _ (hSt.at hM hPh))⟩ (fun v9 hv9 => ?_) rfl
  subst hv9
  refine W.eq (g2 := F0 m 20 ls [.int (nI (tk8 cp cq nc)), .int (nI (stAt n cp cq nc)), .int (nI r), .ref (a 0)]) rfl ?_
  refine kc_V (rest := []) [.int (nI r), .int (nI (stAt n cp cq nc)), .int (nI (tk8 cp cq nc))] 3 S hK hM (k0_lay l D dA a hI Ph hSt n net r hr4 (nI (T + 1)) 15 (by omega) (σ.i 9 (nI (T + 1))) (stAt n cp cq nc) (tk8 cp cq nc) ⟨hG.1, hG.2.1, hG.2.2.1, hG.2.2.2⟩ rfl (TBc.none hSN hT) hv ht8 (mu_vld (by omega) hv)) wl_X0_173 wd_X0_X0_lay rfl ⟨Nat.le_of_ble_eq_true rfl, Nat.le_of_ble_eq_true rfl⟩ hl.1 (Nat.le_of_ble_eq_true rfl) dX0_layNow_20 ⟨Nat.le_refl 0, Nat.le_refl 0⟩ (hSt.at hM hPh) (fun v σ20 H locs hq hM => ?_) rfl
  obtain ⟨rfl, hFR, hTB, hin⟩ := hq
  refine W.eq (g2 := F0 m 23 ls [.int (nI (sOf r (stAt n cp cq nc) (tk8 cp cq nc)))]) rfl ?_
  exact k_iret S hr hlk hM dX0_layNow_23 (⟨rfl, hFR, by have h9 := hTB _ _ hv ht8 hin; rw [val_tok (tk8_tok (r := r) hn nc hc4)] at h9; exact h9⟩)
