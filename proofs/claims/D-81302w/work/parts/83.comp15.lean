/-! COMPONENT 15: alike, sure, known, end (by program: gen/comp15.py) -/
set_option maxRecDepth 100000
set_option maxHeartbeats 4000000 in
theorem k0_layKnown (l : Launch) (D : va_G) (dA : Nat → ClassId) (a : Nat → Nat) (hI : kInj a) (σ : MS) (Ph : Heap → Prop) (hSt : kStb a Ph) (n nc : Nat) (cp cq : Nat → Nat) (ed cap : Nat) (mc : Int32) (f : Nat → Option Nat) (rg : Nat → Nat) (hDYf : ∀ H, Ph H → DY D dA a n nc cp cq ed cap mc f rg H) (net : Nat → Nat) (hG : KG σ n net) (hcq : ∀ j, j < nc → cp j < n ∧ cq j < n) (hn0 : 0 < n) (hnc : nc ≤ 4) (pa : Nat) (hpa : pa < n) : KC2 l yX0_layKnown cX0_layKnown 2 none 11 391 D dA a [.ref (a 0), .int (nI pa)] σ Ph (fun v9 σ9 => v9 = none ∧ σ9 = AL n σ 0 65535 true (akR n net cp cq pa nc 0 (st0 n))) := by
  refine KC2.of (by decide) (Nat.le_of_ble_eq_true rfl) ?_
  intro p e s m below meth c ls S hr hlk hK2 hM hPh hl
  have hK := hK2.1
  have hx := S.1
  have hb := S.2.1
  have hl : lv_has ls 2 [(0, .ref (a 0)), (1, .int (nI pa))] := hl
  have hn := hG.1
  have h0 := hG.2.1
  refine lv_aload_n hx hb dX0_layKnown_0 rfl (lv_at hl 0 rfl) ?_
  refine lv_iconst (v := 0) hx hb dX0_layKnown_1 (by decide) ?_
  refine k_put hI S hK hM 10 (by decide) rfl fl_X0_201 rfl rfl (by decide +kernel) dX0_layKnown_2 (fun H locs hM => ?_)
  refine lv_aload_n hx hb dX0_layKnown_5 rfl (lv_at hl 0 rfl) ?_
  refine lv_ldc (v := 65535) hx hb S.2.2.2.1 (S.2.2.2.2 _ q524) dX0_layKnown_6 ?_
  refine k_put hI S hK hM 11 (by decide) rfl fl_X0_204 rfl rfl (by decide +kernel) dX0_layKnown_8 (fun H locs hM => ?_)
  refine lv_aload_n hx hb dX0_layKnown_11 rfl (lv_at hl 0 rfl) ?_
  refine lv_iconst (v := 1) hx hb dX0_layKnown_12 (by decide) ?_
  refine k_putz hI S hK hM fl_X0_207 dX0_layKnown_13 (by decide) (by decide) (fun H locs hM => ?_)
  refine lv_aload_n hx hb dX0_layKnown_16 rfl (lv_at hl 0 rfl) ?_
  refine lv_iload_n hx hb dX0_layKnown_17 rfl (lv_at hl 1 rfl) ?_
  refine lv_iconst (v := 0) hx hb dX0_layKnown_18 (by decide) ?_
  refine lv_aload_n hx hb dX0_layKnown_19 rfl (lv_at hl 0 rfl) ?_
  refine rc_Vi (rest := [.int 0, .int (nI pa), .ref (a 0)]) [] 0 S hK (r0_atFirst l D dA a (((σ.i 10 0).i 11 65535).i 12 1) n hn (hG.2.1)) wl_X0_71 wd_X0_X0_atFirst rfl ⟨Nat.le_of_ble_eq_true rfl, Nat.le_of_ble_eq_true rfl⟩ (k_recv hK hM.1) hl.1 (Nat.le_of_ble_eq_true rfl) dX0_layKnown_20 ⟨Nat.le_refl 0, Nat.le_refl 0⟩ (hM.1) ?_ rfl
  refine kc2_V (rest := []) [.int (nI pa), .int 0, .int (nI (st0 n))] 3 S hK2 hM ((k0_layAlike l D dA a hI Ph hSt n nc cp cq ed cap mc f rg hDYf net hcq hn0 hnc pa (by omega) nc (((σ.i 10 0).i 11 65535).i 12 1) 0 65535 true 0 (st0 n) ⟨hG.1, hG.2.1, hG.2.2.1, hG.2.2.2⟩ rfl rfl rfl (by omega) (vld_0 n hn))) wl_X0_215 wd_X0_X0_layAlike rfl ⟨Nat.le_trans (show (_ : Nat) ≤ 11 by omega) (Nat.le_of_ble_eq_true rfl), Nat.le_trans (show (_ : Nat) ≤ 391 by omega) (Nat.le_of_ble_eq_true rfl)⟩ hl.1 (Nat.le_of_ble_eq_true rfl) dX0_layKnown_23 ⟨Nat.le_refl 0, Nat.le_refl 0⟩ (hSt.at hM hPh) (fun v σ23 H locs hq hM => ?_) rfl
  obtain ⟨rfl, rfl⟩ := hq
  refine W.eq (g2 := F0 m 26 ls []) rfl ?_
  exact k_vret S hr hlk hM dX0_layKnown_26 (⟨rfl, AL_w⟩)
set_option maxHeartbeats 4000000 in
theorem k0_alike (l : Launch) (D : va_G) (dA : Nat → ClassId) (a : Nat → Nat) (hI : kInj a) (σ : MS) (Ph : Heap → Prop) (hSt : kStb a Ph) (n nc : Nat) (cp cq : Nat → Nat) (ed cap : Nat) (mc : Int32) (f : Nat → Option Nat) (rg : Nat → Nat) (hDYf : ∀ H, Ph H → DY D dA a n nc cp cq ed cap mc f rg H) (net : Nat → Nat) (hG : KG σ n net) (hcq : ∀ j, j < nc → cp j < n ∧ cq j < n) (T : Nat) (hSN : SNc σ T) (hT : T < 2 ^ 30) (v : Int32) : KC2 l yX0_alike cX0_alike 2 (some .int) 12 412 D dA a [.ref (a 0), .int v] σ Ph (fun v9 σ9 => v9 = some (.int (spAlike n net nc cp cq v)) ∧ PUc σ σ9 T) := by
  refine KC2.of (by decide) (Nat.le_of_ble_eq_true rfl) ?_
  intro p e s m below meth c ls S hr hlk hK2 hM hPh hl
  have hK := hK2.1
  have hx := S.1
  have hb := S.2.1
  have hl : lv_has ls 2 [(0, .ref (a 0)), (1, .int v)] := hl
  have hn := hG.1
  have h0 := hG.2.1
  have hnet := hG.2.2.2
  have hc4 : ∀ j, j < nc → cp j < 4 ∧ cq j < 4 := fun j hj => ⟨by have := (hcq j hj).1; omega, by have := (hcq j hj).2; omega⟩
  have hv : vld n (stAt n cp cq nc) := vld_stAt hn nc hcq
  have hs := hv.1
  have ht8 : (tk8 cp cq nc) < 256 := tk8_lt nc hc4
  refine lv_aload_n hx hb dX0_alike_0 rfl (lv_at hl 0 rfl) ?_
  refine lv_iload_n hx hb dX0_alike_1 rfl (lv_at hl 1 rfl) ?_
  refine rc_Vi (rest := []) [.int v] 1 S hK (r0_noPerson l D dA a σ n hn (h0) v) wl_X0_89 wd_X0_X0_noPerson rfl ⟨Nat.le_of_ble_eq_true rfl, Nat.le_of_ble_eq_true rfl⟩ (k_recv hK hM.1) hl.1 (Nat.le_of_ble_eq_true rfl) dX0_alike_2 ⟨Nat.le_refl 0, Nat.le_refl 0⟩ (hM.1) ?_ rfl
  refine lv_if_eq (tgt := 10) hx hb dX0_alike_5 (by decide) (fun c_5 => ?_) (fun c_5 => ?_)
  · have c_5 := b2i_eq0.mp c_5
    have c_5 : inP v n = true := by simpa using c_5
    obtain ⟨pa, hpa, rfl⟩ := inP_some (by omega) c_5
    have hpa4 : pa < 4 := by omega
    refine lv_aload_n hx hb dX0_alike_10 rfl (lv_at hl 0 rfl) ?_
    refine k_get (v := .ref (a 3)) S hK hM.1 3 (by decide) fl_X0_18 rfl dX0_alike_11 rfl ?_
    have hDY := hDYf _ (hSt.at hM hPh)
    refine rc_Fr (X := .int (nI nc)) (rest := []) [] 0 S hK (hK.1 2 (RJ2, TJ2, 3) rfl).2 (hK2.2.fw (C := RJ2) (x := ⟨"java/util/List", "size", "()I"⟩) (y := yJ2_size) (by simp [fxI]) q220 q218 q203) (rj_size l D dA (a 3) ed cap mc nc f hDY.2.2.1) (lw_F q214 q217 q219 q63 q221) (by decide +kernel) rfl ⟨Nat.le_of_ble_eq_true rfl, Nat.le_of_ble_eq_true rfl⟩ (va_recv hK hDY.1 (ci := 2) (q0 := 0) rfl rfl) hl.1 (Nat.le_of_ble_eq_true rfl) dX0_alike_14 ⟨Nat.le_refl 0, Nat.le_refl 0⟩ hDY.1 ?_ rfl
    refine lv_iconst (v := 4) hx hb dX0_alike_19 (by decide) ?_
    refine lv_icmp_le (tgt := 26) hx hb dX0_alike_20 (by decide) (fun c_20 => ?_) (fun c_20 => ?_)
    · have c_20 : nc ≤ 4 := (nI_le4 (by have := hDY.2.1; have := hDY.2.2.1; omega)).mp c_20
      refine lv_aload_n hx hb dX0_alike_26 rfl (lv_at hl 0 rfl) ?_
      refine lv_iload_n hx hb dX0_alike_27 rfl (lv_at hl 1 rfl) ?_
      refine kc2_V (rest := []) [.int (nI pa)] 1 S hK2 hM (k0_layKnown l D dA a hI σ Ph hSt n nc cp cq ed cap mc f rg hDYf net hG hcq (by omega) c_20 pa hpa) wl_X0_220 wd_X0_X0_layKnown rfl ⟨Nat.le_of_ble_eq_true rfl, Nat.le_of_ble_eq_true rfl⟩ hl.1 (Nat.le_of_ble_eq_true rfl) dX0_alike_28 ⟨Nat.le_refl 0, Nat.le_refl 0⟩ (hSt.at hM hPh) (fun v σ28 H locs hq hM => ?_) rfl
      obtain ⟨rfl, rfl⟩ := hq
      refine W.eq (g2 := F0 m 31 ls []) rfl ?_
      refine lv_aload_n hx hb dX0_alike_31 rfl (lv_at hl 0 rfl) ?_
      refine k_get (v := .int ((AL n σ 0 65535 true (akR n net cp cq pa nc 0 (st0 n))).1 10)) S hK hM.1 10 (by decide) fl_X0_201 rfl dX0_alike_32 rfl ?_
      refine topi (z := nI (cN (akB n net nc cp cq pa) (16 ^ nc))) (by show nI (0 + (akR n net cp cq pa nc 0 (st0 n)).length) = _; rw [Nat.zero_add, ak_len]) ?_
      exact k_iret S hr hlk hM dX0_alike_35 (⟨(congrArg (fun z : Int32 => some (Value.int z)) (by simp [spAlike, inP_nI hpa (show n < 2 ^ 31 by omega), nI_clamp (show pa < 2 ^ 31 by omega), show ¬ 4 < nc by omega, ak_len])), PUc.al hSN⟩)
    · have c_20 : ¬ nc ≤ 4 := fun h9 => c_20 ((nI_le4 (by have := hDY.2.1; have := hDY.2.2.1; omega)).mpr h9)
      refine lv_bipush (v := (-3)) hx hb dX0_alike_23 (by decide) ?_
      exact k_iret S hr hlk hM dX0_alike_25 (⟨(congrArg (fun z : Int32 => some (Value.int z)) (by simp [spAlike, inP_nI hpa (show n < 2 ^ 31 by omega), nI_clamp (show pa < 2 ^ 31 by omega), show 4 < nc by omega])), PUc.rf hSN⟩)
  · have c_5 := b2i_ne0.mp c_5
    have c_5 : inP v n = false := by simpa using c_5
    refine lv_iconst (v := (-1)) hx hb dX0_alike_8 (by decide) ?_
    exact k_iret S hr hlk hM dX0_alike_9 (⟨(congrArg (fun z : Int32 => some (Value.int z)) (by simp [spAlike, *])), PUc.rf hSN⟩)
set_option maxHeartbeats 4000000 in
theorem k0_sure (l : Launch) (D : va_G) (dA : Nat → ClassId) (a : Nat → Nat) (hI : kInj a) (σ : MS) (Ph : Heap → Prop) (hSt : kStb a Ph) (n nc : Nat) (cp cq : Nat → Nat) (ed cap : Nat) (mc : Int32) (f : Nat → Option Nat) (rg : Nat → Nat) (hDYf : ∀ H, Ph H → DY D dA a n nc cp cq ed cap mc f rg H) (net : Nat → Nat) (hG : KG σ n net) (hcq : ∀ j, j < nc → cp j < n ∧ cq j < n) (T : Nat) (hSN : SNc σ T) (hT : T < 2 ^ 30) (v : Int32) (w : Int32) (z : Int32) : KC2 l yX0_sure cX0_sure 4 (some .int) 12 412 D dA a [.ref (a 0), .int v, .int w, .int z] σ Ph (fun v9 σ9 => v9 = some (.int (spSure n net nc cp cq v w z)) ∧ PUc σ σ9 T) := by
  refine KC2.of (by decide) (Nat.le_of_ble_eq_true rfl) ?_
  intro p e s m below meth c ls S hr hlk hK2 hM hPh hl
  have hK := hK2.1
  have hx := S.1
  have hb := S.2.1
  have hl : lv_has ls 4 [(0, .ref (a 0)), (1, .int v), (2, .int w), (3, .int z)] := hl
  have hn := hG.1
  have h0 := hG.2.1
  have hnet := hG.2.2.2
  have hc4 : ∀ j, j < nc → cp j < 4 ∧ cq j < 4 := fun j hj => ⟨by have := (hcq j hj).1; omega, by have := (hcq j hj).2; omega⟩
  have hv : vld n (stAt n cp cq nc) := vld_stAt hn nc hcq
  have hs := hv.1
  have ht8 : (tk8 cp cq nc) < 256 := tk8_lt nc hc4
  refine lv_aload_n hx hb dX0_sure_0 rfl (lv_at hl 0 rfl) ?_
  refine lv_iload_n hx hb dX0_sure_1 rfl (lv_at hl 1 rfl) ?_
  refine rc_Vi (rest := []) [.int v] 1 S hK (r0_noPerson l D dA a σ n hn (h0) v) wl_X0_89 wd_X0_X0_noPerson rfl ⟨Nat.le_of_ble_eq_true rfl, Nat.le_of_ble_eq_true rfl⟩ (k_recv hK hM.1) hl.1 (Nat.le_of_ble_eq_true rfl) dX0_sure_2 ⟨Nat.le_refl 0, Nat.le_refl 0⟩ (hM.1) ?_ rfl
  refine lv_if_ne (tgt := 24) hx hb dX0_sure_5 (by decide) (fun c_5 => ?_) (fun c_5 => ?_)
  · have c_5 := b2i_ne0.mp c_5
    have c_5 : inP v n = false := by simpa using c_5
    refine lv_iconst (v := (-1)) hx hb dX0_sure_24 (by decide) ?_
    exact k_iret S hr hlk hM dX0_sure_25 (⟨(congrArg (fun z : Int32 => some (Value.int z)) (by simp [spSure, *])), PUc.rf hSN⟩)
  · have c_5 := b2i_eq0.mp c_5
    have c_5 : inP v n = true := by simpa using c_5
    refine lv_aload_n hx hb dX0_sure_8 rfl (lv_at hl 0 rfl) ?_
    refine lv_iload_n hx hb dX0_sure_9 rfl (lv_at hl 2 rfl) ?_
    refine rc_Vi (rest := []) [.int w] 1 S hK (r0_noPerson l D dA a σ n hn (h0) w) wl_X0_89 wd_X0_X0_noPerson rfl ⟨Nat.le_of_ble_eq_true rfl, Nat.le_of_ble_eq_true rfl⟩ (k_recv hK hM.1) hl.1 (Nat.le_of_ble_eq_true rfl) dX0_sure_10 ⟨Nat.le_refl 0, Nat.le_refl 0⟩ (hM.1) ?_ rfl
    refine lv_if_ne (tgt := 24) hx hb dX0_sure_13 (by decide) (fun c_13 => ?_) (fun c_13 => ?_)
    · have c_13 := b2i_ne0.mp c_13
      have c_13 : inP w n = false := by simpa using c_13
      refine lv_iconst (v := (-1)) hx hb dX0_sure_24 (by decide) ?_
      exact k_iret S hr hlk hM dX0_sure_25 (⟨(congrArg (fun z : Int32 => some (Value.int z)) (by simp [spSure, *])), PUc.rf hSN⟩)
    · have c_13 := b2i_eq0.mp c_13
      have c_13 : inP w n = true := by simpa using c_13
      refine lv_aload_n hx hb dX0_sure_16 rfl (lv_at hl 0 rfl) ?_
      refine lv_iload_n hx hb dX0_sure_17 rfl (lv_at hl 3 rfl) ?_
      refine rc_Vi (rest := []) [.int z] 1 S hK (r0_noPerson l D dA a σ n hn (h0) z) wl_X0_89 wd_X0_X0_noPerson rfl ⟨Nat.le_of_ble_eq_true rfl, Nat.le_of_ble_eq_true rfl⟩ (k_recv hK hM.1) hl.1 (Nat.le_of_ble_eq_true rfl) dX0_sure_18 ⟨Nat.le_refl 0, Nat.le_refl 0⟩ (hM.1) ?_ rfl
      refine lv_if_eq (tgt := 26) hx hb dX0_sure_21 (by decide) (fun c_21 => ?_) (fun c_21 => ?_)
      · have c_21 := b2i_eq0.mp c_21
        have c_21 : inP z n = true := by simpa using c_21
        obtain ⟨pa, hpa, rfl⟩ := inP_some (by omega) c_5
        have hpa4 : pa < 4 := by omega
        obtain ⟨qa, hqa, rfl⟩ := inP_some (by omega) c_13
        have hqa4 : qa < 4 := by omega
        obtain ⟨za, hza, rfl⟩ := inP_some (by omega) c_21
        have hza4 : za < 4 := by omega
        refine lv_aload_n hx hb dX0_sure_26 rfl (lv_at hl 0 rfl) ?_
        refine k_get (v := .ref (a 3)) S hK hM.1 3 (by decide) fl_X0_18 rfl dX0_sure_27 rfl ?_
        have hDY := hDYf _ (hSt.at hM hPh)
        refine rc_Fr (X := .int (nI nc)) (rest := []) [] 0 S hK (hK.1 2 (RJ2, TJ2, 3) rfl).2 (hK2.2.fw (C := RJ2) (x := ⟨"java/util/List", "size", "()I"⟩) (y := yJ2_size) (by simp [fxI]) q220 q218 q203) (rj_size l D dA (a 3) ed cap mc nc f hDY.2.2.1) (lw_F q214 q217 q219 q63 q221) (by decide +kernel) rfl ⟨Nat.le_of_ble_eq_true rfl, Nat.le_of_ble_eq_true rfl⟩ (va_recv hK hDY.1 (ci := 2) (q0 := 0) rfl rfl) hl.1 (Nat.le_of_ble_eq_true rfl) dX0_sure_30 ⟨Nat.le_refl 0, Nat.le_refl 0⟩ hDY.1 ?_ rfl
        refine lv_iconst (v := 4) hx hb dX0_sure_35 (by decide) ?_
        refine lv_icmp_le (tgt := 42) hx hb dX0_sure_36 (by decide) (fun c_36 => ?_) (fun c_36 => ?_)
        · have c_36 : nc ≤ 4 := (nI_le4 (by have := hDY.2.1; have := hDY.2.2.1; omega)).mp c_36
          refine lv_aload_n hx hb dX0_sure_42 rfl (lv_at hl 0 rfl) ?_
          refine lv_iload_n hx hb dX0_sure_43 rfl (lv_at hl 1 rfl) ?_
          refine kc2_V (rest := []) [.int (nI pa)] 1 S hK2 hM (k0_layKnown l D dA a hI σ Ph hSt n nc cp cq ed cap mc f rg hDYf net hG hcq (by omega) c_36 pa hpa) wl_X0_220 wd_X0_X0_layKnown rfl ⟨Nat.le_of_ble_eq_true rfl, Nat.le_of_ble_eq_true rfl⟩ hl.1 (Nat.le_of_ble_eq_true rfl) dX0_sure_44 ⟨Nat.le_refl 0, Nat.le_refl 0⟩ (hSt.at hM hPh) (fun v σ44 H locs hq hM => ?_) rfl
          obtain ⟨rfl, rfl⟩ := hq
          refine W.eq (g2 := F0 m 47 ls []) rfl ?_
          refine lv_aload_n hx hb dX0_sure_47 rfl (lv_at hl 0 rfl) ?_
          refine k_get (v := .int ((AL n σ 0 65535 true (akR n net cp cq pa nc 0 (st0 n))).1 11)) S hK hM.1 11 (by decide) fl_X0_204 rfl dX0_sure_48 rfl ?_
          refine topi (z := nI (akS n net nc cp cq pa (16 ^ nc))) (by show nI (andL 65535 (akR n net cp cq pa nc 0 (st0 n))) = _; rw [ak_and]) ?_
          refine lv_iload_n hx hb dX0_sure_51 rfl (lv_at hl 2 rfl) ?_
          refine rc_Si (rest := []) [.int (nI (akS n net nc cp cq pa (16 ^ nc))), .int (nI qa)] 2 S hK (r0_hasOf l D dA (akS n net nc cp cq pa (16 ^ nc)) qa (akS_lt _) (by first | assumption | omega | decide)) wl_X0_53 wd_X0_X0_hasOf rfl ⟨Nat.le_of_ble_eq_true rfl, Nat.le_of_ble_eq_true rfl⟩ hl.1 (Nat.le_of_ble_eq_true rfl) dX0_sure_52 ⟨Nat.le_refl 0, Nat.le_refl 0⟩ (trivial) ?_ rfl
          refine lv_iload_n hx hb dX0_sure_55 rfl (lv_at hl 3 rfl) ?_
          refine lv_ishr hx hb dX0_sure_56 ?_
          refine lv_iconst (v := 1) hx hb dX0_sure_57 (by decide) ?_
          refine lv_iand hx hb dX0_sure_58 ?_
          refine topi (z := nI (hs4 (akS n net nc cp cq pa (16 ^ nc)) qa >>> za &&& 1)) (bit_eq (Nat.lt_trans (hs4_lt _ _) (by decide)) (by omega)) ?_
          exact k_iret S hr hlk hM dX0_sure_59 (⟨(congrArg (fun z : Int32 => some (Value.int z)) (by simp [spSure, inP_nI hpa (show n < 2 ^ 31 by omega), nI_clamp (show pa < 2 ^ 31 by omega), inP_nI hqa (show n < 2 ^ 31 by omega), nI_clamp (show qa < 2 ^ 31 by omega), inP_nI hza (show n < 2 ^ 31 by omega), nI_clamp (show za < 2 ^ 31 by omega), show ¬ 4 < nc by omega])), PUc.al hSN⟩)
        · have c_36 : ¬ nc ≤ 4 := fun h9 => c_36 ((nI_le4 (by have := hDY.2.1; have := hDY.2.2.1; omega)).mpr h9)
          refine lv_bipush (v := (-3)) hx hb dX0_sure_39 (by decide) ?_
          exact k_iret S hr hlk hM dX0_sure_41 (⟨(congrArg (fun z : Int32 => some (Value.int z)) (by simp [spSure, inP_nI hpa (show n < 2 ^ 31 by omega), nI_clamp (show pa < 2 ^ 31 by omega), inP_nI hqa (show n < 2 ^ 31 by omega), nI_clamp (show qa < 2 ^ 31 by omega), inP_nI hza (show n < 2 ^ 31 by omega), nI_clamp (show za < 2 ^ 31 by omega), show 4 < nc by omega])), PUc.rf hSN⟩)
      · have c_21 := b2i_ne0.mp c_21
        have c_21 : inP z n = false := by simpa using c_21
        refine lv_iconst (v := (-1)) hx hb dX0_sure_24 (by decide) ?_
        exact k_iret S hr hlk hM dX0_sure_25 (⟨(congrArg (fun z : Int32 => some (Value.int z)) (by simp [spSure, *])), PUc.rf hSN⟩)
set_option maxHeartbeats 4000000 in
theorem k0_known (l : Launch) (D : va_G) (dA : Nat → ClassId) (a : Nat → Nat) (hI : kInj a) (σ : MS) (Ph : Heap → Prop) (hSt : kStb a Ph) (n nc : Nat) (cp cq : Nat → Nat) (ed cap : Nat) (mc : Int32) (f : Nat → Option Nat) (rg : Nat → Nat) (hDYf : ∀ H, Ph H → DY D dA a n nc cp cq ed cap mc f rg H) (net : Nat → Nat) (hG : KG σ n net) (hcq : ∀ j, j < nc → cp j < n ∧ cq j < n) (T : Nat) (hSN : SNc σ T) (hT : T < 2 ^ 30) (v : Int32) (w : Int32) : KC2 l yX0_known cX0_known 3 (some .int) 12 412 D dA a [.ref (a 0), .int v, .int w] σ Ph (fun v9 σ9 => v9 = some (.int (spKnown n net nc cp cq v w)) ∧ PUc σ σ9 T) := by
  refine KC2.of (by decide) (Nat.le_of_ble_eq_true rfl) ?_
  intro p e s m below meth c ls S hr hlk hK2 hM hPh hl
  have hK := hK2.1
  have hx := S.1
  have hb := S.2.1
  have hl : lv_has ls 3 [(0, .ref (a 0)), (1, .int v), (2, .int w)] := hl
  have hn := hG.1
  have h0 := hG.2.1
  have hnet := hG.2.2.2
  have hc4 : ∀ j, j < nc → cp j < 4 ∧ cq j < 4 := fun j hj => ⟨by have := (hcq j hj).1; omega, by have := (hcq j hj).2; omega⟩
  have hv : vld n (stAt n cp cq nc) := vld_stAt hn nc hcq
  have hs := hv.1
  have ht8 : (tk8 cp cq nc) < 256 := tk8_lt nc hc4
  refine lv_aload_n hx hb dX0_known_0 rfl (lv_at hl 0 rfl) ?_
  refine lv_iload_n hx hb dX0_known_1 rfl (lv_at hl 1 rfl) ?_
  refine rc_Vi (rest := []) [.int v] 1 S hK (r0_noPerson l D dA a σ n hn (h0) v) wl_X0_89 wd_X0_X0_noPerson rfl ⟨Nat.le_of_ble_eq_true rfl, Nat.le_of_ble_eq_true rfl⟩ (k_recv hK hM.1) hl.1 (Nat.le_of_ble_eq_true rfl) dX0_known_2 ⟨Nat.le_refl 0, Nat.le_refl 0⟩ (hM.1) ?_ rfl
  refine lv_if_ne (tgt := 16) hx hb dX0_known_5 (by decide) (fun c_5 => ?_) (fun c_5 => ?_)
  · have c_5 := b2i_ne0.mp c_5
    have c_5 : inP v n = false := by simpa using c_5
    refine lv_iconst (v := (-1)) hx hb dX0_known_16 (by decide) ?_
    exact k_iret S hr hlk hM dX0_known_17 (⟨(congrArg (fun z : Int32 => some (Value.int z)) (by simp [spKnown, *])), PUc.rf hSN⟩)
  · have c_5 := b2i_eq0.mp c_5
    have c_5 : inP v n = true := by simpa using c_5
    refine lv_aload_n hx hb dX0_known_8 rfl (lv_at hl 0 rfl) ?_
    refine lv_iload_n hx hb dX0_known_9 rfl (lv_at hl 2 rfl) ?_
    refine rc_Vi (rest := []) [.int w] 1 S hK (r0_noPerson l D dA a σ n hn (h0) w) wl_X0_89 wd_X0_X0_noPerson rfl ⟨Nat.le_of_ble_eq_true rfl, Nat.le_of_ble_eq_true rfl⟩ (k_recv hK hM.1) hl.1 (Nat.le_of_ble_eq_true rfl) dX0_known_10 ⟨Nat.le_refl 0, Nat.le_refl 0⟩ (hM.1) ?_ rfl
    refine lv_if_eq (tgt := 18) hx hb dX0_known_13 (by decide) (fun c_13 => ?_) (fun c_13 => ?_)
    · have c_13 := b2i_eq0.mp c_13
      have c_13 : inP w n = true := by simpa using c_13
      obtain ⟨pa, hpa, rfl⟩ := inP_some (by omega) c_5
      have hpa4 : pa < 4 := by omega
      obtain ⟨qa, hqa, rfl⟩ := inP_some (by omega) c_13
      have hqa4 : qa < 4 := by omega
      refine lv_aload_n hx hb dX0_known_18 rfl (lv_at hl 0 rfl) ?_
      refine k_get (v := .ref (a 3)) S hK hM.1 3 (by decide) fl_X0_18 rfl dX0_known_19 rfl ?_
      have hDY := hDYf _ (hSt.at hM hPh)
      refine rc_Fr (X := .int (nI nc)) (rest := []) [] 0 S hK (hK.1 2 (RJ2, TJ2, 3) rfl).2 (hK2.2.fw (C := RJ2) (x := ⟨"java/util/List", "size", "()I"⟩) (y := yJ2_size) (by simp [fxI]) q220 q218 q203) (rj_size l D dA (a 3) ed cap mc nc f hDY.2.2.1) (lw_F q214 q217 q219 q63 q221) (by decide +kernel) rfl ⟨Nat.le_of_ble_eq_true rfl, Nat.le_of_ble_eq_true rfl⟩ (va_recv hK hDY.1 (ci := 2) (q0 := 0) rfl rfl) hl.1 (Nat.le_of_ble_eq_true rfl) dX0_known_22 ⟨Nat.le_refl 0, Nat.le_refl 0⟩ hDY.1 ?_ rfl
      refine lv_iconst (v := 4) hx hb dX0_known_27 (by decide) ?_
      refine lv_icmp_le (tgt := 34) hx hb dX0_known_28 (by decide) (fun c_28 => ?_) (fun c_28 => ?_)
      · have c_28 : nc ≤ 4 := (nI_le4 (by have := hDY.2.1; have := hDY.2.2.1; omega)).mp c_28
        refine lv_aload_n hx hb dX0_known_34 rfl (lv_at hl 0 rfl) ?_
        refine lv_iload_n hx hb dX0_known_35 rfl (lv_at hl 1 rfl) ?_
        refine kc2_V (rest := []) [.int (nI pa)] 1 S hK2 hM (k0_layKnown l D dA a hI σ Ph hSt n nc cp cq ed cap mc f rg hDYf net hG hcq (by omega) c_28 pa hpa) wl_X0_220 wd_X0_X0_layKnown rfl ⟨Nat.le_of_ble_eq_true rfl, Nat.le_of_ble_eq_true rfl⟩ hl.1 (Nat.le_of_ble_eq_true rfl) dX0_known_36 ⟨Nat.le_refl 0, Nat.le_refl 0⟩ (hSt.at hM hPh) (fun v σ36 H locs hq hM => ?_) rfl
        obtain ⟨rfl, rfl⟩ := hq
        refine W.eq (g2 := F0 m 39 ls []) rfl ?_
        refine lv_aload_n hx hb dX0_known_39 rfl (lv_at hl 0 rfl) ?_
        refine k_get (v := .int ((AL n σ 0 65535 true (akR n net cp cq pa nc 0 (st0 n))).1 11)) S hK hM.1 11 (by decide) fl_X0_204 rfl dX0_known_40 rfl ?_
        refine topi (z := nI (akS n net nc cp cq pa (16 ^ nc))) (by show nI (andL 65535 (akR n net cp cq pa nc 0 (st0 n))) = _; rw [ak_and]) ?_
        refine lv_iload_n hx hb dX0_known_43 rfl (lv_at hl 2 rfl) ?_
        refine rc_Si (rest := []) [.int (nI (akS n net nc cp cq pa (16 ^ nc))), .int (nI qa)] 2 S hK (r0_hasOf l D dA (akS n net nc cp cq pa (16 ^ nc)) qa (akS_lt _) (by first | assumption | omega | decide)) wl_X0_53 wd_X0_X0_hasOf rfl ⟨Nat.le_of_ble_eq_true rfl, Nat.le_of_ble_eq_true rfl⟩ hl.1 (Nat.le_of_ble_eq_true rfl) dX0_known_44 ⟨Nat.le_refl 0, Nat.le_refl 0⟩ (trivial) ?_ rfl
        exact k_iret S hr hlk hM dX0_known_47 (⟨(congrArg (fun z : Int32 => some (Value.int z)) (by simp [spKnown, inP_nI hpa (show n < 2 ^ 31 by omega), nI_clamp (show pa < 2 ^ 31 by omega), inP_nI hqa (show n < 2 ^ 31 by omega), nI_clamp (show qa < 2 ^ 31 by omega), show ¬ 4 < nc by omega])), PUc.al hSN⟩)
      · have c_28 : ¬ nc ≤ 4 := fun h9 => c_28 ((nI_le4 (by have := hDY.2.1; have := hDY.2.2.1; omega)).mpr h9)
        refine lv_bipush (v := (-3)) hx hb dX0_known_31 (by decide) ?_
        exact k_iret S hr hlk hM dX0_known_33 (⟨(congrArg (fun z : Int32 => some (Value.int z)) (by simp [spKnown, inP_nI hpa (show n < 2 ^ 31 by omega), nI_clamp (show pa < 2 ^ 31 by omega), inP_nI hqa (show n < 2 ^ 31 by omega), nI_clamp (show qa < 2 ^ 31 by omega), show 4 < nc by omega])), PUc.rf hSN⟩)
    · have c_13 := b2i_ne0.mp c_13
      have c_13 : inP w n = false := by simpa using c_13
      refine lv_iconst (v := (-1)) hx hb dX0_known_16 (by decide) ?_
      exact k_iret S hr hlk hM dX0_known_17 (⟨(congrArg (fun z : Int32 => some (Value.int z)) (by simp [spKnown, *])), PUc.rf hSN⟩)
set_option maxHeartbeats 4000000 in
theorem k0_end (l : Launch) (D : va_G) (dA : Nat → ClassId) (a : Nat → Nat) (hI : kInj a) (σ : MS) (Ph : Heap → Prop) (hSt : kStb a Ph) (n nc : Nat) (cp cq : Nat → Nat) (ed cap : Nat) (mc : Int32) (f : Nat → Option Nat) (rg : Nat → Nat) (hDYf : ∀ H, Ph H → DY D dA a n nc cp cq ed cap mc f rg H) (net : Nat → Nat) (hG : KG σ n net) (hcq : ∀ j, j < nc → cp j < n ∧ cq j < n) (T : Nat) (hSN : SNc σ T) (hT : T < 2 ^ 30) (hLG : LG n net nc cp cq) (v : Int32) : KC2 l yX0_end cX0_end 2 (some .int) 12 412 D dA a [.ref (a 0), .int v] σ Ph (fun v9 σ9 => v9 = some (.int (spEnd n net nc cp cq v)) ∧ PUc σ σ9 T) := by
  refine KC2.of (by decide) (Nat.le_of_ble_eq_true rfl) ?_
  intro p e s m below meth c ls S hr hlk hK2 hM hPh hl
  have hK := hK2.1
  have hx := S.1
  have hb := S.2.1
  have hl : lv_has ls 2 [(0, .ref (a 0)), (1, .int v)] := hl
  have hn := hG.1
  have h0 := hG.2.1
  have hnet := hG.2.2.2
  have hc4 : ∀ j, j < nc → cp j < 4 ∧ cq j < 4 := fun j hj => ⟨by have := (hcq j hj).1; omega, by have := (hcq j hj).2; omega⟩
  have hv : vld n (stAt n cp cq nc) := vld_stAt hn nc hcq
  have hs := hv.1
  have ht8 : (tk8 cp cq nc) < 256 := tk8_lt nc hc4
  refine lv_aload_n hx hb dX0_end_0 rfl (lv_at hl 0 rfl) ?_
  refine lv_iload_n hx hb dX0_end_1 rfl (lv_at hl 1 rfl) ?_
  refine rc_Vi (rest := []) [.int v] 1 S hK (r0_noPerson l D dA a σ n hn (h0) v) wl_X0_89 wd_X0_X0_noPerson rfl ⟨Nat.le_of_ble_eq_true rfl, Nat.le_of_ble_eq_true rfl⟩ (k_recv hK hM.1) hl.1 (Nat.le_of_ble_eq_true rfl) dX0_end_2 ⟨Nat.le_refl 0, Nat.le_refl 0⟩ (hM.1) ?_ rfl
  refine lv_if_eq (tgt := 10) hx hb dX0_end_5 (by decide) (fun c_5 => ?_) (fun c_5 => ?_)
  · have c_5 := b2i_eq0.mp c_5
    have c_5 : inP v n = true := by simpa using c_5
    obtain ⟨pa, hpa, rfl⟩ := inP_some (by omega) c_5
    have hpa4 : pa < 4 := by omega
    refine lv_aload_n hx hb dX0_end_10 rfl (lv_at hl 0 rfl) ?_
    refine k_get (v := .ref (a 3)) S hK hM.1 3 (by decide) fl_X0_18 rfl dX0_end_11 rfl ?_
    have hDY := hDYf _ (hSt.at hM hPh)
    refine rc_Fr (X := .int (nI nc)) (rest := []) [] 0 S hK (hK.1 2 (RJ2, TJ2, 3) rfl).2 (hK2.2.fw (C := RJ2) (x := ⟨"java/util/List", "size", "()I"⟩) (y := yJ2_size) (by simp [fxI]) q220 q218 q203) (rj_size l D dA (a 3) ed cap mc nc f hDY.2.2.1) (lw_F q214 q217 q219 q63 q221) (by decide +kernel) rfl ⟨Nat.le_of_ble_eq_true rfl, Nat.le_of_ble_eq_true rfl⟩ (va_recv hK hDY.1 (ci := 2) (q0 := 0) rfl rfl) hl.1 (Nat.le_of_ble_eq_true rfl) dX0_end_14 ⟨Nat.le_refl 0, Nat.le_refl 0⟩ hDY.1 ?_ rfl
    refine lv_iconst (v := 4) hx hb dX0_end_19 (by decide) ?_
    refine lv_icmp_le (tgt := 26) hx hb dX0_end_20 (by decide) (fun c_20 => ?_) (fun c_20 => ?_)
    · have c_20 : nc ≤ 4 := (nI_le4 (by have := hDY.2.1; have := hDY.2.2.1; omega)).mp c_20
      refine lv_aload_n hx hb dX0_end_26 rfl (lv_at hl 0 rfl) ?_
      refine lv_iload_n hx hb dX0_end_27 rfl (lv_at hl 1 rfl) ?_
      refine kc2_V (rest := []) [.int (nI pa)] 1 S hK2 hM (k0_layKnown l D dA a hI σ Ph hSt n nc cp cq ed cap mc f rg hDYf net hG hcq (by omega) c_20 pa hpa) wl_X0_220 wd_X0_X0_layKnown rfl ⟨Nat.le_of_ble_eq_true rfl, Nat.le_of_ble_eq_true rfl⟩ hl.1 (Nat.le_of_ble_eq_true rfl) dX0_end_28 ⟨Nat.le_refl 0, Nat.le_refl 0⟩ (hSt.at hM hPh) (fun v σ28 H locs hq hM => ?_) rfl
      obtain ⟨rfl, rfl⟩ := hq
      refine W.eq (g2 := F0 m 31 ls []) rfl ?_
      refine lv_aload_n hx hb dX0_end_31 rfl (lv_at hl 0 rfl) ?_
      refine k_get (v := .int ((AL n σ 0 65535 true (akR n net cp cq pa nc 0 (st0 n))).1 12)) S hK hM.1 12 (by decide) fl_X0_207 rfl dX0_end_32 rfl ?_
      refine topi (z := b2i (exB n (akS n net nc cp cq pa (16 ^ nc)))) (congrArg b2i (ak_end hn hLG)) ?_
      refine lv_if_eq (tgt := 42) hx hb dX0_end_35 (by decide) (fun c_35 => ?_) (fun c_35 => ?_)
      · have c_35 := b2i_eq0.mp c_35
        refine lv_iconst (v := 0) hx hb dX0_end_42 (by decide) ?_
        exact k_iret S hr hlk hM dX0_end_43 (⟨(congrArg (fun z : Int32 => some (Value.int z)) (by simp [spEnd, inP_nI hpa (show n < 2 ^ 31 by omega), nI_clamp (show pa < 2 ^ 31 by omega), show ¬ 4 < nc by omega, c_35, b2i])), PUc.al hSN⟩)
      · have c_35 := b2i_ne0.mp c_35
        refine lv_iconst (v := 1) hx hb dX0_end_38 (by decide) ?_
        refine lv_goto (tgt := 43) hx hb dX0_end_39 (by decide) ?_
        exact k_iret S hr hlk hM dX0_end_43 (⟨(congrArg (fun z : Int32 => some (Value.int z)) (by simp [spEnd, inP_nI hpa (show n < 2 ^ 31 by omega), nI_clamp (show pa < 2 ^ 31 by omega), show ¬ 4 < nc by omega, c_35, b2i])), PUc.al hSN⟩)
    · have c_20 : ¬ nc ≤ 4 := fun h9 => c_20 ((nI_le4 (by have := hDY.2.1; have := hDY.2.2.1; omega)).mpr h9)
      refine lv_bipush (v := (-3)) hx hb dX0_end_23 (by decide) ?_
      exact k_iret S hr hlk hM dX0_end_25 (⟨(congrArg (fun z : Int32 => some (Value.int z)) (by simp [spEnd, inP_nI hpa (show n < 2 ^ 31 by omega), nI_clamp (show pa < 2 ^ 31 by omega), show 4 < nc by omega])), PUc.rf hSN⟩)
  · have c_5 := b2i_ne0.mp c_5
    have c_5 : inP v n = false := by simpa using c_5
    refine lv_iconst (v := (-1)) hx hb dX0_end_8 (by decide) ?_
    exact k_iret S hr hlk hM dX0_end_9 (⟨(congrArg (fun z : Int32 => some (Value.int z)) (by simp [spEnd, *])), PUc.rf hSN⟩)
