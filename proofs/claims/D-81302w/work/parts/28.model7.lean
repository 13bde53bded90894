/-! MODEL 7: answers out of the table of states (by program: gen/model7.py) -/
set_option maxRecDepth 100000
set_option maxHeartbeats 4000000 in
theorem m1_layNow (l : Launch) (D : va_G) (dA : Nat → ClassId) (a : Nat → Nat) (hI : mInj a) (σ : MS) (n : Nat) (net : Nat → Nat) (nc : Nat) (cp cq : Nat → Nat) (hG : MG σ n net nc cp cq) (T : Nat) (hSN : SNm σ T) (hT : T < 2 ^ 30) (r : Nat) (hr4 : r < 4) (hn0 : 0 < n) : MC l yX1_layNow cX1_layNow 2 (some .int) 7 232 D dA a [.ref (a 0), .int (nI r)] σ (fun v9 σ9 => v9 = some (.int (nI (plc (stAt n cp cq nc) (tkN n r cp cq nc)))) ∧ PUm σ σ9 ∧ SNm σ9 (T + 1) ∧ TBm σ9 n net r (nI (T + 1)) ∧ σ9.2.1 12 (plc (stAt n cp cq nc) (tkN n r cp cq nc)) = nI (T + 1) ∧ σ9.2.1 28 = σ.2.1 28) := by
  refine MC.of (by decide) (Nat.le_of_ble_eq_true rfl) ?_
  intro p e s m below meth c ls S hr hlk hK hM hl
  have hx := S.1
  have hb := S.2.1
  have hl : lv_has ls 2 [(0, .ref (a 0)), (1, .int (nI r))] := hl
  have hn := hG.1
  have hnc := hG.2.2.2.1
  have hst : stAt n cp cq nc < 65536 := stAt_lt hn nc (fun i hi => ⟨by have := (hG.2.2.2.2.2 i (by omega)).2.2; omega, by have := (hG.2.2.2.2.2 i (by omega)).2.2; omega⟩)
  have htk : ∀ r, tkN n r cp cq nc < 16 := fun r => tkN_lt hn nc (fun j hj => by have := (hG.2.2.2.2.2 j (by omega)).2.2; omega)
  have hvl : vld n (stAt n cp cq nc) := vld_stAt hn nc (fun j hj => (hG.2.2.2.2.2 j hj).2.2)
  have htr := htk r
  refine lv_aload_n hx hb dX1_layNow_0 rfl (lv_at hl 0 rfl) ?_
  refine lv_aload_n hx hb dX1_layNow_1 rfl (lv_at hl 0 rfl) ?_
  refine m_get (v := .ref (a 6)) S hK hM.1 6 (by decide) fl_X1_19 rfl dX1_layNow_2 rfl ?_
  refine lv_aload_n hx hb dX1_layNow_5 rfl (lv_at hl 0 rfl) ?_
  refine m_get (v := .int (σ.1 5)) S hK hM.1 5 (by decide) fl_X1_82 rfl dX1_layNow_6 rfl ?_
  refine topi (z := nI n) (hG.2.1) ?_
  refine lv_iload_n hx hb dX1_layNow_9 rfl (lv_at hl 1 rfl) ?_
  refine mc_Vv (rest := []) [.ref (a 6), .int (nI n), .int (nI r)] 3 S hK hM (m1_lookAt l D dA a hI σ (a 6) (nI n) (nI r)) wl_X1_184 wd_X1_X1_lookAt rfl ⟨Nat.le_of_ble_eq_true rfl, Nat.le_of_ble_eq_true rfl⟩ hl.1 (Nat.le_of_ble_eq_true rfl) dX1_layNow_10 ⟨Nat.le_refl 0, Nat.le_refl 0⟩ (fun H locs hM => ?_) rfl
  refine lv_aload_n hx hb dX1_layNow_13 rfl (lv_at hl 0 rfl) ?_
  refine lv_aload_n hx hb dX1_layNow_14 rfl (lv_at hl 0 rfl) ?_
  refine lv_aload_n hx hb dX1_layNow_15 rfl (lv_at hl 0 rfl) ?_
  refine m_get (v := .int (σ.1 9)) S hK hM.1 9 (by decide) fl_X1_103 rfl dX1_layNow_16 rfl ?_
  refine topi (z := nI nc) (hG.2.2.2.2.1) ?_
  refine rc_Vi (rest := [.ref (a 0)]) [.int (nI nc)] 1 S hK (r1_stateAt l D dA a ((((σ.i 17 ((σ.1 17) + 1)).r (a 6)).i 22 (nI n)).i 23 (nI r)) n net nc cp cq hG nc (by first | assumption | omega | decide)) wl_X1_128 wd_X1_X1_stateAt rfl ⟨Nat.le_of_ble_eq_true rfl, Nat.le_of_ble_eq_true rfl⟩ (m_recv hK hM.1) hl.1 (Nat.le_of_ble_eq_true rfl) dX1_layNow_19 ⟨Nat.le_refl 0, Nat.le_refl 0⟩ (hM.1) ?_ rfl
  refine lv_aload_n hx hb dX1_layNow_22 rfl (lv_at hl 0 rfl) ?_
  refine lv_iload_n hx hb dX1_layNow_23 rfl (lv_at hl 1 rfl) ?_
  refine rc_Vi (rest := [.int (nI (stAt n cp cq nc)), .ref (a 0)]) [.int (nI r)] 1 S hK (r1_tokensNow l D dA a ((((σ.i 17 ((σ.1 17) + 1)).r (a 6)).i 22 (nI n)).i 23 (nI r)) n net nc cp cq hG r (by first | assumption | omega | decide)) wl_X1_135 wd_X1_X1_tokensNow rfl ⟨Nat.le_of_ble_eq_true rfl, Nat.le_of_ble_eq_true rfl⟩ (m_recv hK hM.1) hl.1 (Nat.le_of_ble_eq_true rfl) dX1_layNow_24 ⟨Nat.le_refl 0, Nat.le_refl 0⟩ (hM.1) ?_ rfl
  refine mc_V (rest := []) [.int (nI (stAt n cp cq nc)), .int (nI (tkN n r cp cq nc))] 2 S hK hM (m1_lay l D dA a hI ((((σ.i 17 ((σ.1 17) + 1)).r (a 6)).i 22 (nI n)).i 23 (nI r)) (n := n) (r := r) (kk := 6) (net := net) (tn := nI (T + 1)) (sx := stAt n cp cq nc) (tx := tkN n r cp cq nc) hn (by omega) (hvl) (by omega) (mu_vld (by omega) hvl) ⟨rfl, Or.inl rfl, hG.2.2.1, rfl, rfl, turn1 hSN⟩ (TBm.none (fun pl => hSN.un hT pl))) wl_X1_188 wd_X1_X1_lay rfl ⟨Nat.le_of_ble_eq_true rfl, Nat.le_of_ble_eq_true rfl⟩ hl.1 (Nat.le_of_ble_eq_true rfl) dX1_layNow_27 ⟨Nat.le_refl 0, Nat.le_refl 0⟩ (fun v σ27 H locs hq hM => ?_) rfl
  obtain ⟨rfl, hTB27, hse27, hfr27⟩ := hq
  refine W.eq (g2 := F0 m 30 ls [.int (nI (plc (stAt n cp cq nc) (tkN n r cp cq nc)))]) rfl ?_
  exact m_iret S hr hlk hM dX1_layNow_30 (⟨rfl, PUm.tr ⟨rfl, rfl, rfl, rfl, rfl, rfl, rfl, rfl, rfl, rfl⟩ hfr27.pu, SNm.lay hfr27 hSN rfl (turn1 hSN), hTB27, hse27, hfr27.ot⟩)
set_option maxHeartbeats 4000000 in
theorem m1_runs (l : Launch) (D : va_G) (dA : Nat → ClassId) (a : Nat → Nat) (hI : mInj a) (σ : MS) (n : Nat) (net : Nat → Nat) (nc : Nat) (cp cq : Nat → Nat) (hG : MG σ n net nc cp cq) (T : Nat) (hSN : SNm σ T) (hT : T < 2 ^ 30) (rv wv : Int32) : MC l yX1_runs cX1_runs 4 (some .long) 8 253 D dA a [.ref (a 0), .int rv, .int wv] σ (fun v9 σ9 => v9 = some (.long (spRuns n net (stAt n cp cq nc) (fun r => tkN n r cp cq nc) rv wv)) ∧ PTm σ σ9 T) := by
  refine MC.of (by decide) (Nat.le_of_ble_eq_true rfl) ?_
  intro p e s m below meth c ls S hr hlk hK hM hl
  have hx := S.1
  have hb := S.2.1
  have hl : lv_has ls 4 [(0, .ref (a 0)), (1, .int rv), (2, .int wv)] := hl
  have hn := hG.1
  have hnc := hG.2.2.2.1
  have hst : stAt n cp cq nc < 65536 := stAt_lt hn nc (fun i hi => ⟨by have := (hG.2.2.2.2.2 i (by omega)).2.2; omega, by have := (hG.2.2.2.2.2 i (by omega)).2.2; omega⟩)
  have htk : ∀ r, tkN n r cp cq nc < 16 := fun r => tkN_lt hn nc (fun j hj => by have := (hG.2.2.2.2.2 j (by omega)).2.2; omega)
  have hvl : vld n (stAt n cp cq nc) := vld_stAt hn nc (fun j hj => (hG.2.2.2.2.2 j hj).2.2)
  refine lv_iload_n hx hb dX1_runs_0 rfl (lv_at hl 1 rfl) ?_
  refine rc_Si (rest := []) [.int rv] 1 S hK (r1_isRule l D dA rv) wl_X1_150 wd_X1_X1_isRule rfl ⟨Nat.le_of_ble_eq_true rfl, Nat.le_of_ble_eq_true rfl⟩ hl.1 (Nat.le_of_ble_eq_true rfl) dX1_runs_1 ⟨Nat.le_refl 0, Nat.le_refl 0⟩ (trivial) ?_ rfl
  refine lv_if_eq (tgt := 23) hx hb dX1_runs_4 (by decide) (fun c_4 => ?_) (fun c_4 => ?_)
  · have c_4 := b2i_eq0.mp c_4
    refine lv_ldc2 (v := (-9223372036854775808)) hx hb S.2.2.2.1 (S.2.2.2.2 _ q1367) dX1_runs_23 ?_
    exact m_lret S hr hlk hM dX1_runs_26 (⟨(congrArg (fun z : Int64 => some (Value.long z)) (by simp [spRuns, *])), PTm.rf hSN⟩)
  · have c_4 := b2i_ne0.mp c_4
    refine lv_iload_n hx hb dX1_runs_7 rfl (lv_at hl 2 rfl) ?_
    refine lv_iconst (v := 0) hx hb dX1_runs_8 (by decide) ?_
    refine lv_iconst (v := 1) hx hb dX1_runs_9 (by decide) ?_
    refine rc_Si (rest := []) [.int wv, .int 0, .int 1] 3 S hK (r1_isIn l D dA wv 0 1) wl_X1_78 wd_X1_X1_isIn rfl ⟨Nat.le_of_ble_eq_true rfl, Nat.le_of_ble_eq_true rfl⟩ hl.1 (Nat.le_of_ble_eq_true rfl) dX1_runs_10 ⟨Nat.le_refl 0, Nat.le_refl 0⟩ (trivial) ?_ rfl
    refine lv_if_eq (tgt := 23) hx hb dX1_runs_13 (by decide) (fun c_13 => ?_) (fun c_13 => ?_)
    · have c_13 := b2i_eq0.mp c_13
      refine lv_ldc2 (v := (-9223372036854775808)) hx hb S.2.2.2.1 (S.2.2.2.2 _ q1367) dX1_runs_23 ?_
      exact m_lret S hr hlk hM dX1_runs_26 (⟨(congrArg (fun z : Int64 => some (Value.long z)) (by simp [spRuns, *])), PTm.rf hSN⟩)
    · have c_13 := b2i_ne0.mp c_13
      obtain ⟨r, hr9, rfl⟩ := inR_some (k := 3) (by decide) c_4
      have hr4 : r < 4 := by omega
      have htr := htk r
      refine lv_aload_n hx hb dX1_runs_16 rfl (lv_at hl 0 rfl) ?_
      refine m_get (v := .int (σ.1 5)) S hK hM.1 5 (by decide) fl_X1_82 rfl dX1_runs_17 rfl ?_
      refine topi (z := nI n) (hG.2.1) ?_
      refine lv_if_ne (tgt := 27) hx hb dX1_runs_20 (by decide) (fun c_20 => ?_) (fun c_20 => ?_)
      · have c_20 : ¬ n = 0 := fun h => c_20 (congrArg nI h)
        refine lv_aload_n hx hb dX1_runs_27 rfl (lv_at hl 0 rfl) ?_
        refine lv_iload_n hx hb dX1_runs_28 rfl (lv_at hl 1 rfl) ?_
        refine mc_V (rest := []) [.int (nI r)] 1 S hK hM (m1_layNow l D dA a hI σ n net nc cp cq hG T hSN hT r (by omega) (by omega)) wl_X1_191 wd_X1_X1_layNow rfl ⟨Nat.le_of_ble_eq_true rfl, Nat.le_of_ble_eq_true rfl⟩ hl.1 (Nat.le_of_ble_eq_true rfl) dX1_runs_29 ⟨Nat.le_refl 0, Nat.le_refl 0⟩ (fun v σ29 H locs hq hM => ?_) rfl
        obtain ⟨rfl, hPU, hSN2, hTB, hse, hot⟩ := hq
        refine W.eq (g2 := F0 m 32 ls [.int (nI (plc (stAt n cp cq nc) (tkN n r cp cq nc)))]) rfl ?_
        have hLP := (hTB _ _ hvl htr hse).1
        have hvo := (val_ok (net := net) (r := r) (t := tkN n r cp cq nc) hn hvl (mu_vld (by omega) hvl))
        have hG2 := hG.pu hPU
        refine lv_istore_n (lv' := [(3, .int (nI (plc (stAt n cp cq nc) (tkN n r cp cq nc)))), (0, .ref (a 0)), (1, .int (nI r)), (2, .int wv)]) hx hb dX1_runs_32 rfl hl (by decide) rfl (fun ls hl => ?_)
        refine lv_iload_n hx hb dX1_runs_33 rfl (lv_at hl 3 rfl) ?_
        refine lv_if_ne (tgt := 46) hx hb dX1_runs_34 (by decide) (fun c_34 => ?_) (fun c_34 => ?_)
        · refine lv_aload_n hx hb dX1_runs_46 rfl (lv_at hl 1 rfl) ?_
          refine m_get (v := .ref (a 14)) S hK hM.1 14 (by decide) fl_X1_39 rfl dX1_runs_47 rfl ?_
          refine lv_iload_n hx hb dX1_runs_50 rfl (lv_at hl 0 rfl) ?_
          refine m_lldn (j := plc (stAt n cp cq nc) (tkN n r cp cq nc)) (v := lN (val net n r (stAt n cp cq nc) (tkN n r cp cq nc)).2.1) S hK hM.1 14 (by decide) rfl (plc_lt _ _) dX1_runs_51 (hLP.2.1) ?_
          exact m_lret S hr hlk hM dX1_runs_52 (⟨(congrArg (fun z : Int64 => some (Value.long z)) (by simp [spRuns, vNow, show inR 0 0 1 = true from (by decide), show inR (nI r) 0 3 = true from inR_nI (k := 3) (by omega) (by decide), nI_clamp (show r < 2 ^ 31 by omega), *])), ⟨hPU, ⟨T + 1, by omega, hSN2⟩, OTm.of hot⟩⟩)
        · refine lv_aload_n hx hb dX1_runs_37 rfl (lv_at hl 1 rfl) ?_
          refine m_get (v := .ref (a 13)) S hK hM.1 13 (by decide) fl_X1_35 rfl dX1_runs_38 rfl ?_
          refine lv_iload_n hx hb dX1_runs_41 rfl (lv_at hl 0 rfl) ?_
          refine m_lldn (j := plc (stAt n cp cq nc) (tkN n r cp cq nc)) (v := lN (val net n r (stAt n cp cq nc) (tkN n r cp cq nc)).1) S hK hM.1 13 (by decide) rfl (plc_lt _ _) dX1_runs_42 (hLP.1) ?_
          refine lv_goto (tgt := 52) hx hb dX1_runs_43 (by decide) ?_
          exact m_lret S hr hlk hM dX1_runs_52 (⟨(congrArg (fun z : Int64 => some (Value.long z)) (by simp [spRuns, vNow, show inR 0 0 1 = true from (by decide), show inR (nI r) 0 3 = true from inR_nI (k := 3) (by omega) (by decide), nI_clamp (show r < 2 ^ 31 by omega), *])), ⟨hPU, ⟨T + 1, by omega, hSN2⟩, OTm.of hot⟩⟩)
      · have c_20 : n = 0 := nI_inj (by omega) (by decide) c_20
        refine lv_ldc2 (v := (-9223372036854775808)) hx hb S.2.2.2.1 (S.2.2.2.2 _ q1367) dX1_runs_23 ?_
        exact m_lret S hr hlk hM dX1_runs_26 (⟨(congrArg (fun z : Int64 => some (Value.long z)) (by simp [spRuns, *])), PTm.rf hSN⟩)
set_option maxHeartbeats 4000000 in
theorem m1_verdict (l : Launch) (D : va_G) (dA : Nat → ClassId) (a : Nat → Nat) (hI : mInj a) (σ : MS) (n : Nat) (net : Nat → Nat) (nc : Nat) (cp cq : Nat → Nat) (hG : MG σ n net nc cp cq) (T : Nat) (hSN : SNm σ T) (hT : T < 2 ^ 30) (rv : Int32) : MC l yX1_verdict cX1_verdict 2 (some .int) 8 253 D dA a [.ref (a 0), .int rv] σ (fun v9 σ9 => v9 = some (.int (spVerdict n net (stAt n cp cq nc) (fun r => tkN n r cp cq nc) rv)) ∧ PTm σ σ9 T) := by
  refine MC.of (by decide) (Nat.le_of_ble_eq_true rfl) ?_
  intro p e s m below meth c ls S hr hlk hK hM hl
  have hx := S.1
  have hb := S.2.1
  have hl : lv_has ls 2 [(0, .ref (a 0)), (1, .int rv)] := hl
  have hn := hG.1
  have hnc := hG.2.2.2.1
  have hst : stAt n cp cq nc < 65536 := stAt_lt hn nc (fun i hi => ⟨by have := (hG.2.2.2.2.2 i (by omega)).2.2; omega, by have := (hG.2.2.2.2.2 i (by omega)).2.2; omega⟩)
  have htk : ∀ r, tkN n r cp cq nc < 16 := fun r => tkN_lt hn nc (fun j hj => by have := (hG.2.2.2.2.2 j (by omega)).2.2; omega)
  have hvl : vld n (stAt n cp cq nc) := vld_stAt hn nc (fun j hj => (hG.2.2.2.2.2 j hj).2.2)
  refine lv_iload_n hx hb dX1_verdict_0 rfl (lv_at hl 1 rfl) ?_
  refine rc_Si (rest := []) [.int rv] 1 S hK (r1_isRule l D dA rv) wl_X1_150 wd_X1_X1_isRule rfl ⟨Nat.le_of_ble_eq_true rfl, Nat.le_of_ble_eq_true rfl⟩ hl.1 (Nat.le_of_ble_eq_true rfl) dX1_verdict_1 ⟨Nat.le_refl 0, Nat.le_refl 0⟩ (trivial) ?_ rfl
  refine lv_if_ne (tgt := 9) hx hb dX1_verdict_4 (by decide) (fun c_4 => ?_) (fun c_4 => ?_)
  · have c_4 := b2i_ne0.mp c_4
    obtain ⟨r, hr9, rfl⟩ := inR_some (k := 3) (by decide) c_4
    have hr4 : r < 4 := by omega
    have htr := htk r
    refine lv_aload_n hx hb dX1_verdict_9 rfl (lv_at hl 0 rfl) ?_
    refine m_get (v := .int (σ.1 5)) S hK hM.1 5 (by decide) fl_X1_82 rfl dX1_verdict_10 rfl ?_
    refine topi (z := nI n) (hG.2.1) ?_
    refine lv_if_ne (tgt := 21) hx hb dX1_verdict_13 (by decide) (fun c_13 => ?_) (fun c_13 => ?_)
    · have c_13 : ¬ n = 0 := fun h => c_13 (congrArg nI h)
      refine lv_aload_n hx hb dX1_verdict_21 rfl (lv_at hl 0 rfl) ?_
      refine lv_aload_n hx hb dX1_verdict_22 rfl (lv_at hl 0 rfl) ?_
      refine lv_iload_n hx hb dX1_verdict_23 rfl (lv_at hl 1 rfl) ?_
      refine mc_V (rest := [.ref (a 0)]) [.int (nI r)] 1 S hK hM (m1_layNow l D dA a hI σ n net nc cp cq hG T hSN hT r (by omega) (by omega)) wl_X1_191 wd_X1_X1_layNow rfl ⟨Nat.le_of_ble_eq_true rfl, Nat.le_of_ble_eq_true rfl⟩ hl.1 (Nat.le_of_ble_eq_true rfl) dX1_verdict_24 ⟨Nat.le_refl 0, Nat.le_refl 0⟩ (fun v σ24 H locs hq hM => ?_) rfl
      obtain ⟨rfl, hPU, hSN2, hTB, hse, hot⟩ := hq
      refine W.eq (g2 := F0 m 27 ls [.int (nI (plc (stAt n cp cq nc) (tkN n r cp cq nc))), .ref (a 0)]) rfl ?_
      have hLP := (hTB _ _ hvl htr hse).1
      have hvo := (val_ok (net := net) (r := r) (t := tkN n r cp cq nc) hn hvl (mu_vld (by omega) hvl))
      have hG2 := hG.pu hPU
      refine rc_Vi (rest := []) [.int (nI (plc (stAt n cp cq nc) (tkN n r cp cq nc)))] 1 S hK (r1_verdictAt l D dA a σ24 (plc (stAt n cp cq nc) (tkN n r cp cq nc)) (val net n r (stAt n cp cq nc) (tkN n r cp cq nc)) (plc_lt _ _) hLP (Nat.lt_of_le_of_lt hvo.1.1 (by decide)) hvo.1.2.1) wl_X1_194 wd_X1_X1_verdictAt rfl ⟨Nat.le_of_ble_eq_true rfl, Nat.le_of_ble_eq_true rfl⟩ (m_recv hK hM.1) hl.1 (Nat.le_of_ble_eq_true rfl) dX1_verdict_27 ⟨Nat.le_refl 0, Nat.le_refl 0⟩ (hM.1) ?_ rfl
      exact m_iret S hr hlk hM dX1_verdict_30 (⟨(congrArg (fun z : Int32 => some (Value.int z)) (by simp [spVerdict, vNow, show inR 0 0 1 = true from (by decide), show inR (nI r) 0 3 = true from inR_nI (k := 3) (by omega) (by decide), nI_clamp (show r < 2 ^ 31 by omega), *])), ⟨hPU, ⟨T + 1, by omega, hSN2⟩, OTm.of hot⟩⟩)
    · have c_13 : n = 0 := nI_inj (by omega) (by decide) c_13
      refine lv_bipush (v := (-3)) hx hb dX1_verdict_16 (by decide) ?_
      refine lv_goto (tgt := 30) hx hb dX1_verdict_18 (by decide) ?_
      exact m_iret S hr hlk hM dX1_verdict_30 (⟨(congrArg (fun z : Int32 => some (Value.int z)) (by simp [spVerdict, *])), PTm.rf hSN⟩)
  · have c_4 := b2i_eq0.mp c_4
    refine lv_iconst (v := (-1)) hx hb dX1_verdict_7 (by decide) ?_
    exact m_iret S hr hlk hM dX1_verdict_8 (⟨(congrArg (fun z : Int32 => some (Value.int z)) (by simp [spVerdict, *])), PTm.rf hSN⟩)
set_option maxHeartbeats 4000000 in
theorem m1_calls (l : Launch) (D : va_G) (dA : Nat → ClassId) (a : Nat → Nat) (hI : mInj a) (σ : MS) (n : Nat) (net : Nat → Nat) (nc : Nat) (cp cq : Nat → Nat) (hG : MG σ n net nc cp cq) (T : Nat) (hSN : SNm σ T) (hT : T < 2 ^ 30) (rv wv : Int32) : MC l yX1_calls cX1_calls 4 (some .int) 8 253 D dA a [.ref (a 0), .int rv, .int wv] σ (fun v9 σ9 => v9 = some (.int (spCalls n net (stAt n cp cq nc) (fun r => tkN n r cp cq nc) rv wv)) ∧ PTm σ σ9 T) := by
  refine MC.of (by decide) (Nat.le_of_ble_eq_true rfl) ?_
  intro p e s m below meth c ls S hr hlk hK hM hl
  have hx := S.1
  have hb := S.2.1
  have hl : lv_has ls 4 [(0, .ref (a 0)), (1, .int rv), (2, .int wv)] := hl
  have hn := hG.1
  have hnc := hG.2.2.2.1
  have hst : stAt n cp cq nc < 65536 := stAt_lt hn nc (fun i hi => ⟨by have := (hG.2.2.2.2.2 i (by omega)).2.2; omega, by have := (hG.2.2.2.2.2 i (by omega)).2.2; omega⟩)
  have htk : ∀ r, tkN n r cp cq nc < 16 := fun r => tkN_lt hn nc (fun j hj => by have := (hG.2.2.2.2.2 j (by omega)).2.2; omega)
  have hvl : vld n (stAt n cp cq nc) := vld_stAt hn nc (fun j hj => (hG.2.2.2.2.2 j hj).2.2)
  refine lv_iload_n hx hb dX1_calls_0 rfl (lv_at hl 1 rfl) ?_
  refine rc_Si (rest := []) [.int rv] 1 S hK (r1_isRule l D dA rv) wl_X1_150 wd_X1_X1_isRule rfl ⟨Nat.le_of_ble_eq_true rfl, Nat.le_of_ble_eq_true rfl⟩ hl.1 (Nat.le_of_ble_eq_true rfl) dX1_calls_1 ⟨Nat.le_refl 0, Nat.le_refl 0⟩ (trivial) ?_ rfl
  refine lv_if_ne (tgt := 9) hx hb dX1_calls_4 (by decide) (fun c_4 => ?_) (fun c_4 => ?_)
  · have c_4 := b2i_ne0.mp c_4
    refine lv_iload_n hx hb dX1_calls_9 rfl (lv_at hl 2 rfl) ?_
    refine lv_iconst (v := 0) hx hb dX1_calls_10 (by decide) ?_
    refine lv_iconst (v := 1) hx hb dX1_calls_11 (by decide) ?_
    refine rc_Si (rest := []) [.int wv, .int 0, .int 1] 3 S hK (r1_isIn l D dA wv 0 1) wl_X1_78 wd_X1_X1_isIn rfl ⟨Nat.le_of_ble_eq_true rfl, Nat.le_of_ble_eq_true rfl⟩ hl.1 (Nat.le_of_ble_eq_true rfl) dX1_calls_12 ⟨Nat.le_refl 0, Nat.le_refl 0⟩ (trivial) ?_ rfl
    refine lv_if_ne (tgt := 21) hx hb dX1_calls_15 (by decide) (fun c_15 => ?_) (fun c_15 => ?_)
    · have c_15 := b2i_ne0.mp c_15
      obtain ⟨r, hr9, rfl⟩ := inR_some (k := 3) (by decide) c_4
      have hr4 : r < 4 := by omega
      have htr := htk r
      refine lv_aload_n hx hb dX1_calls_21 rfl (lv_at hl 0 rfl) ?_
      refine m_get (v := .int (σ.1 5)) S hK hM.1 5 (by decide) fl_X1_82 rfl dX1_calls_22 rfl ?_
      refine topi (z := nI n) (hG.2.1) ?_
      refine lv_if_ne (tgt := 31) hx hb dX1_calls_25 (by decide) (fun c_25 => ?_) (fun c_25 => ?_)
      · have c_25 : ¬ n = 0 := fun h => c_25 (congrArg nI h)
        refine lv_aload_n hx hb dX1_calls_31 rfl (lv_at hl 0 rfl) ?_
        refine lv_iload_n hx hb dX1_calls_32 rfl (lv_at hl 1 rfl) ?_
        refine mc_V (rest := []) [.int (nI r)] 1 S hK hM (m1_layNow l D dA a hI σ n net nc cp cq hG T hSN hT r (by omega) (by omega)) wl_X1_191 wd_X1_X1_layNow rfl ⟨Nat.le_of_ble_eq_true rfl, Nat.le_of_ble_eq_true rfl⟩ hl.1 (Nat.le_of_ble_eq_true rfl) dX1_calls_33 ⟨Nat.le_refl 0, Nat.le_refl 0⟩ (fun v σ33 H locs hq hM => ?_) rfl
        obtain ⟨rfl, hPU, hSN2, hTB, hse, hot⟩ := hq
        refine W.eq (g2 := F0 m 36 ls [.int (nI (plc (stAt n cp cq nc) (tkN n r cp cq nc)))]) rfl ?_
        have hLP := (hTB _ _ hvl htr hse).1
        have hvo := (val_ok (net := net) (r := r) (t := tkN n r cp cq nc) hn hvl (mu_vld (by omega) hvl))
        have hG2 := hG.pu hPU
        refine lv_istore_n (lv' := [(3, .int (nI (plc (stAt n cp cq nc) (tkN n r cp cq nc)))), (0, .ref (a 0)), (1, .int (nI r)), (2, .int wv)]) hx hb dX1_calls_36 rfl hl (by decide) rfl (fun ls hl => ?_)
        refine lv_aload_n hx hb dX1_calls_37 rfl (lv_at hl 1 rfl) ?_
        refine m_get (v := .ref (a 14)) S hK hM.1 14 (by decide) fl_X1_39 rfl dX1_calls_38 rfl ?_
        refine lv_iload_n hx hb dX1_calls_41 rfl (lv_at hl 0 rfl) ?_
        refine m_lldn (j := plc (stAt n cp cq nc) (tkN n r cp cq nc)) (v := lN (val net n r (stAt n cp cq nc) (tkN n r cp cq nc)).2.1) S hK hM.1 14 (by decide) rfl (plc_lt _ _) dX1_calls_42 (hLP.2.1) ?_
        refine lv_lconst (v := 0) hx hb dX1_calls_43 (by decide) ?_
        refine W.lcmp hx hb dX1_calls_44 ?_
        refine lv_if_ne (tgt := 53) hx hb dX1_calls_45 (by decide) (fun c_45 => ?_) (fun c_45 => ?_)
        · have c_45 := mt (lg_cmp_eq _ _).mpr c_45
          have c_45 : ¬ (val net n r (stAt n cp cq nc) (tkN n r cp cq nc)).2.1 = 0 := fun h9 => c_45 ((lN_0 (Nat.lt_of_le_of_lt (Nat.le_trans hvo.1.2.1 hvo.1.1) (by decide))).mpr h9)
          refine lv_iload_n hx hb dX1_calls_53 rfl (lv_at hl 3 rfl) ?_
          refine lv_if_ne (tgt := 66) hx hb dX1_calls_54 (by decide) (fun c_54 => ?_) (fun c_54 => ?_)
          · refine lv_aload_n hx hb dX1_calls_66 rfl (lv_at hl 1 rfl) ?_
            refine m_get (v := .ref (a 16)) S hK hM.1 16 (by decide) fl_X1_45 rfl dX1_calls_67 rfl ?_
            refine lv_iload_n hx hb dX1_calls_70 rfl (lv_at hl 0 rfl) ?_
            refine m_aldn (j := plc (stAt n cp cq nc) (tkN n r cp cq nc)) (v := nI (val net n r (stAt n cp cq nc) (tkN n r cp cq nc)).2.2.2 - 1) S hK hM.1 16 (by decide) rfl (plc_lt _ _) dX1_calls_71 (hLP.2.2.2) ?_
            exact m_iret S hr hlk hM dX1_calls_72 (⟨(congrArg (fun z : Int32 => some (Value.int z)) (by simp [spCalls, vNow, show inR 0 0 1 = true from (by decide), show inR (nI r) 0 3 = true from inR_nI (k := 3) (by omega) (by decide), nI_clamp (show r < 2 ^ 31 by omega), *])), ⟨hPU, ⟨T + 1, by omega, hSN2⟩, OTm.of hot⟩⟩)
          · refine lv_aload_n hx hb dX1_calls_57 rfl (lv_at hl 1 rfl) ?_
            refine m_get (v := .ref (a 15)) S hK hM.1 15 (by decide) fl_X1_42 rfl dX1_calls_58 rfl ?_
            refine lv_iload_n hx hb dX1_calls_61 rfl (lv_at hl 0 rfl) ?_
            refine m_aldn (j := plc (stAt n cp cq nc) (tkN n r cp cq nc)) (v := nI (val net n r (stAt n cp cq nc) (tkN n r cp cq nc)).2.2.1) S hK hM.1 15 (by decide) rfl (plc_lt _ _) dX1_calls_62 (hLP.2.2.1) ?_
            refine lv_goto (tgt := 72) hx hb dX1_calls_63 (by decide) ?_
            exact m_iret S hr hlk hM dX1_calls_72 (⟨(congrArg (fun z : Int32 => some (Value.int z)) (by simp [spCalls, vNow, show inR 0 0 1 = true from (by decide), show inR (nI r) 0 3 = true from inR_nI (k := 3) (by omega) (by decide), nI_clamp (show r < 2 ^ 31 by omega), *])), ⟨hPU, ⟨T + 1, by omega, hSN2⟩, OTm.of hot⟩⟩)
        · have c_45 := (lg_cmp_eq _ _).mp c_45
          have c_45 : (val net n r (stAt n cp cq nc) (tkN n r cp cq nc)).2.1 = 0 := (lN_0 (Nat.lt_of_le_of_lt (Nat.le_trans hvo.1.2.1 hvo.1.1) (by decide))).mp c_45
          refine lv_bipush (v := (-9)) hx hb dX1_calls_48 (by decide) ?_
          refine lv_goto (tgt := 72) hx hb dX1_calls_50 (by decide) ?_
          exact m_iret S hr hlk hM dX1_calls_72 (⟨(congrArg (fun z : Int32 => some (Value.int z)) (by simp [spCalls, vNow, show inR 0 0 1 = true from (by decide), show inR (nI r) 0 3 = true from inR_nI (k := 3) (by omega) (by decide), nI_clamp (show r < 2 ^ 31 by omega), *])), ⟨hPU, ⟨T + 1, by omega, hSN2⟩, OTm.of hot⟩⟩)
      · have c_25 : n = 0 := nI_inj (by omega) (by decide) c_25
        refine lv_bipush (v := (-3)) hx hb dX1_calls_28 (by decide) ?_
        exact m_iret S hr hlk hM dX1_calls_30 (⟨(congrArg (fun z : Int32 => some (Value.int z)) (by simp [spCalls, show inR 0 0 1 = true from (by decide), show inR (nI r) 0 3 = true from inR_nI (k := 3) (by omega) (by decide), nI_clamp (show r < 2 ^ 31 by omega), *])), PTm.rf hSN⟩)
    · have c_15 := b2i_eq0.mp c_15
      refine lv_bipush (v := (-2)) hx hb dX1_calls_18 (by decide) ?_
      exact m_iret S hr hlk hM dX1_calls_20 (⟨(congrArg (fun z : Int32 => some (Value.int z)) (by simp [spCalls, *])), PTm.rf hSN⟩)
  · have c_4 := b2i_eq0.mp c_4
    refine lv_iconst (v := (-1)) hx hb dX1_calls_7 (by decide) ?_
    exact m_iret S hr hlk hM dX1_calls_8 (⟨(congrArg (fun z : Int32 => some (Value.int z)) (by simp [spCalls, *])), PTm.rf hSN⟩)
set_option maxHeartbeats 4000000 in
theorem m1_keeps (l : Launch) (D : va_G) (dA : Nat → ClassId) (a : Nat → Nat) (hI : mInj a) (σ : MS) (n : Nat) (net : Nat → Nat) (nc : Nat) (cp cq : Nat → Nat) (hG : MG σ n net nc cp cq) (T : Nat) (hSN : SNm σ T) (hT : T < 2 ^ 30) (rv v w : Int32) : MC l yX1_keeps cX1_keeps 6 (some .int) 7 232 D dA a [.ref (a 0), .int rv, .int v, .int w] σ (fun v9 σ9 => v9 = some (.int (spKeeps n net (stAt n cp cq nc) (fun r => tkN n r cp cq nc) rv v w)) ∧ PTm σ σ9 T) := by
  refine MC.of (by decide) (Nat.le_of_ble_eq_true rfl) ?_
  intro p e s m below meth c ls S hr hlk hK hM hl
  have hx := S.1
  have hb := S.2.1
  have hl : lv_has ls 6 [(0, .ref (a 0)), (1, .int rv), (2, .int v), (3, .int w)] := hl
  have hn := hG.1
  have hnc := hG.2.2.2.1
  have hst : stAt n cp cq nc < 65536 := stAt_lt hn nc (fun i hi => ⟨by have := (hG.2.2.2.2.2 i (by omega)).2.2; omega, by have := (hG.2.2.2.2.2 i (by omega)).2.2; omega⟩)
  have htk : ∀ r, tkN n r cp cq nc < 16 := fun r => tkN_lt hn nc (fun j hj => by have := (hG.2.2.2.2.2 j (by omega)).2.2; omega)
  have hvl : vld n (stAt n cp cq nc) := vld_stAt hn nc (fun j hj => (hG.2.2.2.2.2 j hj).2.2)
  refine lv_iload_n hx hb dX1_keeps_0 rfl (lv_at hl 1 rfl) ?_
  refine rc_Si (rest := []) [.int rv] 1 S hK (r1_isRule l D dA rv) wl_X1_150 wd_X1_X1_isRule rfl ⟨Nat.le_of_ble_eq_true rfl, Nat.le_of_ble_eq_true rfl⟩ hl.1 (Nat.le_of_ble_eq_true rfl) dX1_keeps_1 ⟨Nat.le_refl 0, Nat.le_refl 0⟩ (trivial) ?_ rfl
  refine lv_if_eq (tgt := 23) hx hb dX1_keeps_4 (by decide) (fun c_4 => ?_) (fun c_4 => ?_)
  · have c_4 := b2i_eq0.mp c_4
    refine lv_iconst (v := (-1)) hx hb dX1_keeps_23 (by decide) ?_
    exact m_iret S hr hlk hM dX1_keeps_24 (⟨(congrArg (fun z : Int32 => some (Value.int z)) (by simp [spKeeps, *])), PTm.rf hSN⟩)
  · have c_4 := b2i_ne0.mp c_4
    refine lv_aload_n hx hb dX1_keeps_7 rfl (lv_at hl 0 rfl) ?_
    refine lv_iload_n hx hb dX1_keeps_8 rfl (lv_at hl 2 rfl) ?_
    refine rc_Vi (rest := []) [.int v] 1 S hK (r1_isPerson l D dA a σ n (hG.2.1) v) wl_X1_125 wd_X1_X1_isPerson rfl ⟨Nat.le_of_ble_eq_true rfl, Nat.le_of_ble_eq_true rfl⟩ (m_recv hK hM.1) hl.1 (Nat.le_of_ble_eq_true rfl) dX1_keeps_9 ⟨Nat.le_refl 0, Nat.le_refl 0⟩ (hM.1) ?_ rfl
    refine lv_if_eq (tgt := 23) hx hb dX1_keeps_12 (by decide) (fun c_12 => ?_) (fun c_12 => ?_)
    · have c_12 := b2i_eq0.mp c_12
      refine lv_iconst (v := (-1)) hx hb dX1_keeps_23 (by decide) ?_
      exact m_iret S hr hlk hM dX1_keeps_24 (⟨(congrArg (fun z : Int32 => some (Value.int z)) (by simp [spKeeps, *])), PTm.rf hSN⟩)
    · have c_12 := b2i_ne0.mp c_12
      refine lv_aload_n hx hb dX1_keeps_15 rfl (lv_at hl 0 rfl) ?_
      refine lv_iload_n hx hb dX1_keeps_16 rfl (lv_at hl 3 rfl) ?_
      refine rc_Vi (rest := []) [.int w] 1 S hK (r1_isPerson l D dA a σ n (hG.2.1) w) wl_X1_125 wd_X1_X1_isPerson rfl ⟨Nat.le_of_ble_eq_true rfl, Nat.le_of_ble_eq_true rfl⟩ (m_recv hK hM.1) hl.1 (Nat.le_of_ble_eq_true rfl) dX1_keeps_17 ⟨Nat.le_refl 0, Nat.le_refl 0⟩ (hM.1) ?_ rfl
      refine lv_if_ne (tgt := 25) hx hb dX1_keeps_20 (by decide) (fun c_20 => ?_) (fun c_20 => ?_)
      · have c_20 := b2i_ne0.mp c_20
        obtain ⟨r, hr9, rfl⟩ := inR_some (k := 3) (by decide) c_4
        have hr4 : r < 4 := by omega
        have htr := htk r
        obtain ⟨pa, hpa, rfl⟩ := inP_some (by omega) c_12
        have hpa4 : pa < 4 := by omega
        obtain ⟨qa, hqa, rfl⟩ := inP_some (by omega) c_20
        have hqa4 : qa < 4 := by omega
        refine lv_iload_n hx hb dX1_keeps_25 rfl (lv_at hl 2 rfl) ?_
        refine lv_iload_n hx hb dX1_keeps_26 rfl (lv_at hl 3 rfl) ?_
        refine lv_icmp_ne (tgt := 33) hx hb dX1_keeps_27 (by decide) (fun c_27 => ?_) (fun c_27 => ?_)
        · refine lv_aload_n hx hb dX1_keeps_33 rfl (lv_at hl 0 rfl) ?_
          refine lv_aload_n hx hb dX1_keeps_34 rfl (lv_at hl 0 rfl) ?_
          refine m_get (v := .int (σ.1 9)) S hK hM.1 9 (by decide) fl_X1_103 rfl dX1_keeps_35 rfl ?_
          refine topi (z := nI nc) (hG.2.2.2.2.1) ?_
          refine rc_Vi (rest := []) [.int (nI nc)] 1 S hK (r1_stateAt l D dA a σ n net nc cp cq hG nc (by first | assumption | omega | decide)) wl_X1_128 wd_X1_X1_stateAt rfl ⟨Nat.le_of_ble_eq_true rfl, Nat.le_of_ble_eq_true rfl⟩ (m_recv hK hM.1) hl.1 (Nat.le_of_ble_eq_true rfl) dX1_keeps_38 ⟨Nat.le_refl 0, Nat.le_refl 0⟩ (hM.1) ?_ rfl
          refine lv_istore (lv' := [(4, .int (nI (stAt n cp cq nc))), (0, .ref (a 0)), (1, .int (nI r)), (2, .int (nI pa)), (3, .int (nI qa))]) hx hb dX1_keeps_41 hl (by decide) rfl (fun ls hl => ?_)
          refine lv_aload_n hx hb dX1_keeps_43 rfl (lv_at hl 1 rfl) ?_
          refine lv_iload_n hx hb dX1_keeps_44 rfl (lv_at hl 2 rfl) ?_
          refine rc_Vi (rest := []) [.int (nI r)] 1 S hK (r1_tokensNow l D dA a σ n net nc cp cq hG r (by first | assumption | omega | decide)) wl_X1_135 wd_X1_X1_tokensNow rfl ⟨Nat.le_of_ble_eq_true rfl, Nat.le_of_ble_eq_true rfl⟩ (m_recv hK hM.1) hl.1 (Nat.le_of_ble_eq_true rfl) dX1_keeps_45 ⟨Nat.le_refl 0, Nat.le_refl 0⟩ (hM.1) ?_ rfl
          refine lv_istore (lv' := [(5, .int (nI (tkN n r cp cq nc))), (4, .int (nI (stAt n cp cq nc))), (0, .ref (a 0)), (1, .int (nI r)), (2, .int (nI pa)), (3, .int (nI qa))]) hx hb dX1_keeps_48 hl (by decide) rfl (fun ls hl => ?_)
          refine lv_aload_n hx hb dX1_keeps_50 rfl (lv_at hl 2 rfl) ?_
          refine m_get (v := .ref (a 6)) S hK hM.1 6 (by decide) fl_X1_19 rfl dX1_keeps_51 rfl ?_
          refine lv_iload_n hx hb dX1_keeps_54 rfl (lv_at hl 3 rfl) ?_
          refine lv_iload hx hb dX1_keeps_55 (lv_at hl 1 rfl) ?_
          refine lv_iload hx hb dX1_keeps_57 (lv_at hl 0 rfl) ?_
          refine lv_iload_n hx hb dX1_keeps_59 rfl (lv_at hl 4 rfl) ?_
          refine lv_iload_n hx hb dX1_keeps_60 rfl (lv_at hl 5 rfl) ?_
          refine rc_Si (rest := []) [.ref (a 6), .int (nI r), .int (nI (stAt n cp cq nc)), .int (nI (tkN n r cp cq nc)), .int (nI pa), .int (nI qa)] 6 S hK (r1_mayRing l D dA (a 6) (σ.2.1 6) net r (stAt n cp cq nc) (tkN n r cp cq nc) pa qa (fun q hq => (hG.2.2.1 q hq).1) (fun q hq => (hG.2.2.1 q hq).2) (by first | assumption | omega | decide) (by first | assumption | omega | decide) (by first | assumption | omega | decide) (by first | assumption | omega | decide) (by first | assumption | omega | decide)) wl_X1_153 wd_X1_X1_mayRing rfl ⟨Nat.le_of_ble_eq_true rfl, Nat.le_of_ble_eq_true rfl⟩ hl.1 (Nat.le_of_ble_eq_true rfl) dX1_keeps_61 ⟨Nat.le_refl 0, Nat.le_refl 0⟩ (m_cell hM.1 6 (by decide) rfl) ?_ rfl
          refine lv_if_ne (tgt := 70) hx hb dX1_keeps_64 (by decide) (fun c_64 => ?_) (fun c_64 => ?_)
          · have c_64 := b2i_ne0.mp c_64
            have hvc := vld_aft hn hvl hpa hqa
            have htc : tkA r (tkN n r cp cq nc) pa qa < 16 := tkA_lt htr (by omega)
            have hsc := hvc.1
            refine lv_aload_n hx hb dX1_keeps_70 rfl (lv_at hl 2 rfl) ?_
            refine lv_aload_n hx hb dX1_keeps_71 rfl (lv_at hl 2 rfl) ?_
            refine m_get (v := .ref (a 6)) S hK hM.1 6 (by decide) fl_X1_19 rfl dX1_keeps_72 rfl ?_
            refine lv_aload_n hx hb dX1_keeps_75 rfl (lv_at hl 2 rfl) ?_
            refine m_get (v := .int (σ.1 5)) S hK hM.1 5 (by decide) fl_X1_82 rfl dX1_keeps_76 rfl ?_
            refine topi (z := nI n) (hG.2.1) ?_
            refine lv_iload_n hx hb dX1_keeps_79 rfl (lv_at hl 3 rfl) ?_
            refine mc_Vv (rest := []) [.ref (a 6), .int (nI n), .int (nI r)] 3 S hK hM (m1_lookAt l D dA a hI σ (a 6) (nI n) (nI r)) wl_X1_184 wd_X1_X1_lookAt rfl ⟨Nat.le_of_ble_eq_true rfl, Nat.le_of_ble_eq_true rfl⟩ hl.1 (Nat.le_of_ble_eq_true rfl) dX1_keeps_80 ⟨Nat.le_refl 0, Nat.le_refl 0⟩ (fun H locs hM => ?_) rfl
            refine lv_aload_n hx hb dX1_keeps_83 rfl (lv_at hl 2 rfl) ?_
            refine lv_aload_n hx hb dX1_keeps_84 rfl (lv_at hl 2 rfl) ?_
            refine lv_iload hx hb dX1_keeps_85 (lv_at hl 1 rfl) ?_
            refine lv_iload_n hx hb dX1_keeps_87 rfl (lv_at hl 4 rfl) ?_
            refine lv_iload_n hx hb dX1_keeps_88 rfl (lv_at hl 5 rfl) ?_
            refine rc_Si (rest := [.ref (a 0), .ref (a 0)]) [.int (nI (stAt n cp cq nc)), .int (nI pa), .int (nI qa)] 3 S hK (r1_afterCall l D dA (stAt n cp cq nc) pa qa (by first | assumption | omega | decide) (by first | assumption | omega | decide) (by first | assumption | omega | decide)) wl_X1_117 wd_X1_X1_afterCall rfl ⟨Nat.le_of_ble_eq_true rfl, Nat.le_of_ble_eq_true rfl⟩ hl.1 (Nat.le_of_ble_eq_true rfl) dX1_keeps_89 ⟨Nat.le_refl 0, Nat.le_refl 0⟩ (trivial) ?_ rfl
            refine lv_iload hx hb dX1_keeps_92 (lv_at hl 0 rfl) ?_
            refine lv_iload_n hx hb dX1_keeps_94 rfl (lv_at hl 3 rfl) ?_
            refine lv_iload_n hx hb dX1_keeps_95 rfl (lv_at hl 4 rfl) ?_
            refine lv_iload_n hx hb dX1_keeps_96 rfl (lv_at hl 5 rfl) ?_
            refine rc_Si (rest := [.int (nI (aft (stAt n cp cq nc) pa qa)), .ref (a 0), .ref (a 0)]) [.int (nI (tkN n r cp cq nc)), .int (nI r), .int (nI pa), .int (nI qa)] 4 S hK (r1_tokensAfter l D dA (tkN n r cp cq nc) r pa qa (by first | assumption | omega | decide) (by first | assumption | omega | decide) (by first | assumption | omega | decide) (by first | assumption | omega | decide)) wl_X1_121 wd_X1_X1_tokensAfter rfl ⟨Nat.le_of_ble_eq_true rfl, Nat.le_of_ble_eq_true rfl⟩ hl.1 (Nat.le_of_ble_eq_true rfl) dX1_keeps_97 ⟨Nat.le_refl 0, Nat.le_refl 0⟩ (trivial) ?_ rfl
            refine mc_V (rest := [.ref (a 0)]) [.int (nI (aft (stAt n cp cq nc) pa qa)), .int (nI (tkA r (tkN n r cp cq nc) pa qa))] 2 S hK hM (m1_lay l D dA a hI ((((σ.i 17 ((σ.1 17) + 1)).r (a 6)).i 22 (nI n)).i 23 (nI r)) (n := n) (r := r) (kk := 6) (net := net) (tn := nI (T + 1)) (sx := aft (stAt n cp cq nc) pa qa) (tx := tkA r (tkN n r cp cq nc) pa qa) hn (by omega) (hvc) (by omega) (mu_vld (by omega) hvc) ⟨rfl, Or.inl rfl, hG.2.2.1, rfl, rfl, turn1 hSN⟩ (TBm.none (fun pl => hSN.un hT pl))) wl_X1_188 wd_X1_X1_lay rfl ⟨Nat.le_of_ble_eq_true rfl, Nat.le_of_ble_eq_true rfl⟩ hl.1 (Nat.le_of_ble_eq_true rfl) dX1_keeps_100 ⟨Nat.le_refl 0, Nat.le_refl 0⟩ (fun v σ100 H locs hq hM => ?_) rfl
            obtain ⟨rfl, hTB100, hse100, hfr100⟩ := hq
            refine W.eq (g2 := F0 m 103 ls [.int (nI (plc (aft (stAt n cp cq nc) pa qa) (tkA r (tkN n r cp cq nc) pa qa))), .ref (a 0)]) rfl ?_
            refine rc_Vi (rest := []) [.int (nI (plc (aft (stAt n cp cq nc) pa qa) (tkA r (tkN n r cp cq nc) pa qa)))] 1 S hK (r1_verdictAt l D dA a σ100 (plc (aft (stAt n cp cq nc) pa qa) (tkA r (tkN n r cp cq nc) pa qa)) (val net n r (aft (stAt n cp cq nc) pa qa) (tkA r (tkN n r cp cq nc) pa qa)) (plc_lt _ _) (hTB100 _ _ hvc htc hse100).1 (Nat.lt_of_le_of_lt (val_ok hn hvc (mu_vld (by omega) hvc)).1.1 (by decide)) (val_ok hn hvc (mu_vld (by omega) hvc)).1.2.1) wl_X1_194 wd_X1_X1_verdictAt rfl ⟨Nat.le_of_ble_eq_true rfl, Nat.le_of_ble_eq_true rfl⟩ (m_recv hK hM.1) hl.1 (Nat.le_of_ble_eq_true rfl) dX1_keeps_103 ⟨Nat.le_refl 0, Nat.le_refl 0⟩ (hM.1) ?_ rfl
            exact m_iret S hr hlk hM dX1_keeps_106 (⟨(congrArg (fun z : Int32 => some (Value.int z)) (by simp [spKeeps, show inR 0 0 1 = true from (by decide), show inR (nI r) 0 3 = true from inR_nI (k := 3) (by omega) (by decide), nI_clamp (show r < 2 ^ 31 by omega), inP_nI hpa (show n < 2 ^ 31 by omega), inP_nI hqa (show n < 2 ^ 31 by omega), nI_clamp (show pa < 2 ^ 31 by omega), nI_clamp (show qa < 2 ^ 31 by omega), *])), PUm.tr ⟨rfl, rfl, rfl, rfl, rfl, rfl, rfl, rfl, rfl, rfl⟩ hfr100.pu, ⟨T + 1, by omega, SNm.lay hfr100 hSN rfl (turn1 hSN)⟩, OTm.of (hfr100.ot)⟩)
          · have c_64 := b2i_eq0.mp c_64
            refine lv_bipush (v := (-3)) hx hb dX1_keeps_67 (by decide) ?_
            exact m_iret S hr hlk hM dX1_keeps_69 (⟨(congrArg (fun z : Int32 => some (Value.int z)) (by simp [spKeeps, show inR 0 0 1 = true from (by decide), show inR (nI r) 0 3 = true from inR_nI (k := 3) (by omega) (by decide), nI_clamp (show r < 2 ^ 31 by omega), inP_nI hpa (show n < 2 ^ 31 by omega), inP_nI hqa (show n < 2 ^ 31 by omega), nI_clamp (show pa < 2 ^ 31 by omega), nI_clamp (show qa < 2 ^ 31 by omega), *])), PTm.rf hSN⟩)
        · refine lv_bipush (v := (-2)) hx hb dX1_keeps_30 (by decide) ?_
          exact m_iret S hr hlk hM dX1_keeps_32 (⟨(congrArg (fun z : Int32 => some (Value.int z)) (by simp [spKeeps, *])), PTm.rf hSN⟩)
      · have c_20 := b2i_eq0.mp c_20
        refine lv_iconst (v := (-1)) hx hb dX1_keeps_23 (by decide) ?_
        exact m_iret S hr hlk hM dX1_keeps_24 (⟨(congrArg (fun z : Int32 => some (Value.int z)) (by simp [spKeeps, *])), PTm.rf hSN⟩)
set_option maxHeartbeats 4000000 in
theorem m1_best (l : Launch) (D : va_G) (dA : Nat → ClassId) (a : Nat → Nat) (hI : mInj a) (σ : MS) (n : Nat) (net : Nat → Nat) (nc : Nat) (cp cq : Nat → Nat) (hG : MG σ n net nc cp cq) (T : Nat) (hSN : SNm σ T) (hT : T < 2 ^ 30) (rv wv : Int32) : MC l yX1_best cX1_best 10 (some .int) 8 253 D dA a [.ref (a 0), .int rv, .int wv] σ (fun v9 σ9 => v9 = some (.int (spBest n net (stAt n cp cq nc) (fun r => tkN n r cp cq nc) rv wv)) ∧ PTm σ σ9 T) := by
  refine MC.of (by decide) (Nat.le_of_ble_eq_true rfl) ?_
  intro p e s m below meth c ls S hr hlk hK hM hl
  have hx := S.1
  have hb := S.2.1
  have hl : lv_has ls 10 [(0, .ref (a 0)), (1, .int rv), (2, .int wv)] := hl
  have hn := hG.1
  have hnc := hG.2.2.2.1
  have hst : stAt n cp cq nc < 65536 := stAt_lt hn nc (fun i hi => ⟨by have := (hG.2.2.2.2.2 i (by omega)).2.2; omega, by have := (hG.2.2.2.2.2 i (by omega)).2.2; omega⟩)
  have htk : ∀ r, tkN n r cp cq nc < 16 := fun r => tkN_lt hn nc (fun j hj => by have := (hG.2.2.2.2.2 j (by omega)).2.2; omega)
  have hvl : vld n (stAt n cp cq nc) := vld_stAt hn nc (fun j hj => (hG.2.2.2.2.2 j hj).2.2)
  refine lv_iload_n hx hb dX1_best_0 rfl (lv_at hl 1 rfl) ?_
  refine rc_Si (rest := []) [.int rv] 1 S hK (r1_isRule l D dA rv) wl_X1_150 wd_X1_X1_isRule rfl ⟨Nat.le_of_ble_eq_true rfl, Nat.le_of_ble_eq_true rfl⟩ hl.1 (Nat.le_of_ble_eq_true rfl) dX1_best_1 ⟨Nat.le_refl 0, Nat.le_refl 0⟩ (trivial) ?_ rfl
  refine lv_if_ne (tgt := 9) hx hb dX1_best_4 (by decide) (fun c_4 => ?_) (fun c_4 => ?_)
  · have c_4 := b2i_ne0.mp c_4
    refine lv_iload_n hx hb dX1_best_9 rfl (lv_at hl 2 rfl) ?_
    refine lv_iconst (v := 0) hx hb dX1_best_10 (by decide) ?_
    refine lv_iconst (v := 1) hx hb dX1_best_11 (by decide) ?_
    refine rc_Si (rest := []) [.int wv, .int 0, .int 1] 3 S hK (r1_isIn l D dA wv 0 1) wl_X1_78 wd_X1_X1_isIn rfl ⟨Nat.le_of_ble_eq_true rfl, Nat.le_of_ble_eq_true rfl⟩ hl.1 (Nat.le_of_ble_eq_true rfl) dX1_best_12 ⟨Nat.le_refl 0, Nat.le_refl 0⟩ (trivial) ?_ rfl
    refine lv_if_ne (tgt := 21) hx hb dX1_best_15 (by decide) (fun c_15 => ?_) (fun c_15 => ?_)
    · have c_15 := b2i_ne0.mp c_15
      obtain ⟨r, hr9, rfl⟩ := inR_some (k := 3) (by decide) c_4
      have hr4 : r < 4 := by omega
      have htr := htk r
      refine lv_aload_n hx hb dX1_best_21 rfl (lv_at hl 0 rfl) ?_
      refine m_get (v := .int (σ.1 5)) S hK hM.1 5 (by decide) fl_X1_82 rfl dX1_best_22 rfl ?_
      refine topi (z := nI n) (by first | exact hG.2.1 | exact hG2.2.1) ?_
      refine lv_if_ne (tgt := 31) hx hb dX1_best_25 (by decide) (fun c_25 => ?_) (fun c_25 => ?_)
      · have c_25 : ¬ n = 0 := fun h => c_25 (congrArg nI h)
        refine lv_aload_n hx hb dX1_best_31 rfl (lv_at hl 0 rfl) ?_
        refine lv_iload_n hx hb dX1_best_32 rfl (lv_at hl 1 rfl) ?_
        refine mc_V (rest := []) [.int (nI r)] 1 S hK hM (m1_layNow l D dA a hI σ n net nc cp cq hG T hSN hT r (by omega) (by omega)) wl_X1_191 wd_X1_X1_layNow rfl ⟨Nat.le_of_ble_eq_true rfl, Nat.le_of_ble_eq_true rfl⟩ hl.1 (Nat.le_of_ble_eq_true rfl) dX1_best_33 ⟨Nat.le_refl 0, Nat.le_refl 0⟩ (fun v σ33 H locs hq hM => ?_) rfl
        obtain ⟨rfl, hPU, hSN2, hTB, hse, hot⟩ := hq
        refine W.eq (g2 := F0 m 36 ls [.int (nI (plc (stAt n cp cq nc) (tkN n r cp cq nc)))]) rfl ?_
        have hLP := (hTB _ _ hvl htr hse).1
        have hvo := (val_ok (net := net) (r := r) (t := tkN n r cp cq nc) hn hvl (mu_vld (by omega) hvl))
        have hG2 := hG.pu hPU
        refine lv_istore_n (lv' := [(3, .int (nI (plc (stAt n cp cq nc) (tkN n r cp cq nc)))), (0, .ref (a 0)), (1, .int (nI r)), (2, .int wv)]) hx hb dX1_best_36 rfl hl (by decide) rfl (fun ls hl => ?_)
        refine lv_aload_n hx hb dX1_best_37 rfl (lv_at hl 1 rfl) ?_
        refine lv_aload_n hx hb dX1_best_38 rfl (lv_at hl 1 rfl) ?_
        refine m_get (v := .int (σ33.1 9)) S hK hM.1 9 (by decide) fl_X1_103 rfl dX1_best_39 rfl ?_
        refine topi (z := nI nc) (by first | exact hG.2.2.2.2.1 | exact hG2.2.2.2.2.1) ?_
        refine rc_Vi (rest := []) [.int (nI nc)] 1 S hK (r1_stateAt l D dA a σ33 n net nc cp cq hG2 nc (Nat.le_refl _)) wl_X1_128 wd_X1_X1_stateAt rfl ⟨Nat.le_of_ble_eq_true rfl, Nat.le_of_ble_eq_true rfl⟩ (m_recv hK hM.1) hl.1 (Nat.le_of_ble_eq_true rfl) dX1_best_42 ⟨Nat.le_refl 0, Nat.le_refl 0⟩ (hM.1) ?_ rfl
        refine lv_istore (lv' := [(4, .int (nI (stAt n cp cq nc))), (3, .int (nI (plc (stAt n cp cq nc) (tkN n r cp cq nc)))), (0, .ref (a 0)), (1, .int (nI r)), (2, .int wv)]) hx hb dX1_best_45 hl (by decide) rfl (fun ls hl => ?_)
        refine lv_aload_n hx hb dX1_best_47 rfl (lv_at hl 2 rfl) ?_
        refine lv_iload_n hx hb dX1_best_48 rfl (lv_at hl 3 rfl) ?_
        refine rc_Vi (rest := []) [.int (nI r)] 1 S hK (r1_tokensNow l D dA a σ33 n net nc cp cq hG2 r (by omega)) wl_X1_135 wd_X1_X1_tokensNow rfl ⟨Nat.le_of_ble_eq_true rfl, Nat.le_of_ble_eq_true rfl⟩ (m_recv hK hM.1) hl.1 (Nat.le_of_ble_eq_true rfl) dX1_best_49 ⟨Nat.le_refl 0, Nat.le_refl 0⟩ (hM.1) ?_ rfl
        refine lv_istore (lv' := [(5, .int (nI (tkN n r cp cq nc))), (4, .int (nI (stAt n cp cq nc))), (3, .int (nI (plc (stAt n cp cq nc) (tkN n r cp cq nc)))), (0, .ref (a 0)), (1, .int (nI r)), (2, .int wv)]) hx hb dX1_best_52 hl (by decide) rfl (fun ls hl => ?_)
        refine lv_aload_n hx hb dX1_best_54 rfl (lv_at hl 3 rfl) ?_
        refine m_get (v := .ref (a 14)) S hK hM.1 14 (by decide) fl_X1_39 rfl dX1_best_55 rfl ?_
        refine lv_iload_n hx hb dX1_best_58 rfl (lv_at hl 2 rfl) ?_
        refine m_lldn (j := plc (stAt n cp cq nc) (tkN n r cp cq nc)) (v := lN (val net n r (stAt n cp cq nc) (tkN n r cp cq nc)).2.1) S hK hM.1 14 (by decide) rfl (plc_lt _ _) dX1_best_59 (hLP.2.1) ?_
        refine lv_lconst (v := 0) hx hb dX1_best_60 (by decide) ?_
        refine W.lcmp hx hb dX1_best_61 ?_
        refine lv_if_ne (tgt := 68) hx hb dX1_best_62 (by decide) (fun c_62 => ?_) (fun c_62 => ?_)
        · have c_62 := mt (lg_cmp_eq _ _).mpr c_62
          have c_62 : ¬ (val net n r (stAt n cp cq nc) (tkN n r cp cq nc)).2.1 = 0 := fun h9 => c_62 ((lN_0 (Nat.lt_of_le_of_lt (Nat.le_trans hvo.1.2.1 hvo.1.1) (by decide))).mpr h9)
          have hF8 := (hvo.1.2.2.2 c_62).1
          refine lv_iconst (v := 0) hx hb dX1_best_68 (by decide) ?_
          refine lv_istore (lv' := [(6, .int 0), (5, .int (nI (tkN n r cp cq nc))), (4, .int (nI (stAt n cp cq nc))), (3, .int (nI (plc (stAt n cp cq nc) (tkN n r cp cq nc)))), (0, .ref (a 0)), (1, .int (nI r)), (2, .int wv)]) hx hb dX1_best_69 hl (by decide) rfl (fun ls hl => ?_)
          have hloop71 : ∀ (k71 i71 : Nat), i71 + k71 = 16 → bstF (bstB n net r (stAt n cp cq nc) (tkN n r cp cq nc)) 16 0 = bstF (bstB n net r (stAt n cp cq nc) (tkN n r cp cq nc)) (16 - i71) i71 → ∀ (H : Heap) (locs : List Loc), MB D dA a σ33 s.heap H locs → ∀ (ls : Array Slot), lv_has ls 10 [(6, .int (nI i71)), (5, .int (nI (tkN n r cp cq nc))), (4, .int (nI (stAt n cp cq nc))), (3, .int (nI (plc (stAt n cp cq nc) (tkN n r cp cq nc)))), (0, .ref (a 0)), (1, .int (nI r)), (2, .int wv)] → W p l e ({ frames := 8, cells := 0, slots := 0, locals := 253 }) s m [.ref (a 0), .int (nI r), .int wv].toArray below meth c H locs 0 0 (MZ below D dA a (fun v9 σ9 => v9 = some (.int (spBest n net (stAt n cp cq nc) (fun r => tkN n r cp cq nc) (nI r) wv)) ∧ PTm σ σ9 T) [.ref (a 0), .int (nI r), .int wv] s) (F0 m 71 ls []) := by
            intro k71
            induction k71 with
            | zero =>
              intro i71 hi71 hinv71 H locs hM ls hl
              have hi71 : i71 = 16 := by omega
              refine lv_iload hx hb dX1_best_71 (lv_at hl 0 rfl) ?_
              refine lv_bipush (v := 16) hx hb dX1_best_73 (by decide) ?_
              refine lv_icmp_ge (tgt := 202) hx hb dX1_best_75 (by decide) (fun c_75 => ?_) (fun c_75 => absurd (show nI 16 ≤ nI i71 from nI_le (by omega) (by omega)) c_75)
              refine lv_bipush (v := (-9)) hx hb dX1_best_202 (by decide) ?_
              exact m_iret S hr hlk hM dX1_best_204 (⟨(congrArg (fun z : Int32 => some (Value.int z)) (by rw [hi71] at hinv71; have e9 : bstF (bstB n net r (stAt n cp cq nc) (tkN n r cp cq nc)) 16 0 = none := hinv71; simp [spBest, vNow, show inR 0 0 1 = true from (by decide), show inR (nI r) 0 3 = true from inR_nI (k := 3) (by omega) (by decide), nI_clamp (show r < 2 ^ 31 by omega), c_15, c_25, c_62, e9])), ⟨hPU, ⟨T + 1, by omega, hSN2⟩, OTm.of hot⟩⟩)
            | succ k71 ih71 =>
              intro i71 hi71 hinv71 H locs hM ls hl
              have hlt71 : i71 < 16 := by omega
              have hp4 : i71 / 4 < 4 := by omega
              have hq4 : i71 % 4 < 4 := by omega
              refine lv_iload hx hb dX1_best_71 (lv_at hl 0 rfl) ?_
              refine lv_bipush (v := 16) hx hb dX1_best_73 (by decide) ?_
              refine lv_icmp_ge (tgt := 202) hx hb dX1_best_75 (by decide) (fun c_75 => absurd c_75 (show ¬ nI 16 ≤ nI i71 from nI_ge (by omega) (by omega))) (fun c_75 => ?_)
              refine lv_iload hx hb dX1_best_78 (lv_at hl 0 rfl) ?_
              refine lv_iconst (v := 4) hx hb dX1_best_80 (by decide) ?_
              refine lv_idiv hx hb dX1_best_81 (by decide) ?_
              refine topi (z := nI (i71 / 4)) (pk_div (d := 4) (by omega) (by decide) (by decide)) ?_
              refine lv_istore (lv' := [(7, .int (nI (i71 / 4))), (6, .int (nI i71)), (5, .int (nI (tkN n r cp cq nc))), (4, .int (nI (stAt n cp cq nc))), (3, .int (nI (plc (stAt n cp cq nc) (tkN n r cp cq nc)))), (0, .ref (a 0)), (1, .int (nI r)), (2, .int wv)]) hx hb dX1_best_82 hl (by decide) rfl (fun ls hl => ?_)
              refine lv_iload hx hb dX1_best_84 (lv_at hl 1 rfl) ?_
              refine lv_iconst (v := 4) hx hb dX1_best_86 (by decide) ?_
              refine lv_irem hx hb dX1_best_87 (by decide) ?_
              refine topi (z := nI (i71 % 4)) (pk_rem (d := 4) (by omega) (by decide) (by decide)) ?_
              refine lv_istore (lv' := [(8, .int (nI (i71 % 4))), (7, .int (nI (i71 / 4))), (6, .int (nI i71)), (5, .int (nI (tkN n r cp cq nc))), (4, .int (nI (stAt n cp cq nc))), (3, .int (nI (plc (stAt n cp cq nc) (tkN n r cp cq nc)))), (0, .ref (a 0)), (1, .int (nI r)), (2, .int wv)]) hx hb dX1_best_88 hl (by decide) rfl (fun ls hl => ?_)
              refine lv_iload hx hb dX1_best_90 (lv_at hl 1 rfl) ?_
              refine lv_aload_n hx hb dX1_best_92 rfl (lv_at hl 6 rfl) ?_
              refine m_get (v := .int (σ33.1 5)) S hK hM.1 5 (by decide) fl_X1_82 rfl dX1_best_93 rfl ?_
              refine topi (z := nI n) (by first | exact hG.2.1 | exact hG2.2.1) ?_
              refine lv_icmp_ge (tgt := 196) hx hb dX1_best_96 (by decide) (fun c_96 => ?_) (fun c_96 => ?_)
              · have c_96 := nlt_of_le (by omega) (by omega) c_96
                have hnb : bstB n net r (stAt n cp cq nc) (tkN n r cp cq nc) i71 = false := by simp only [bstB, okP, Bool.and_eq_false_iff, decide_eq_false_iff_not]; exact Or.inl (Or.inl (Or.inl (Or.inl c_96)))
                refine lv_iinc (v := nI (i71 + 1)) (lv' := [(6, .int (nI (i71 + 1))), (8, .int (nI (i71 % 4))), (7, .int (nI (i71 / 4))), (5, .int (nI (tkN n r cp cq nc))), (4, .int (nI (stAt n cp cq nc))), (3, .int (nI (plc (stAt n cp cq nc) (tkN n r cp cq nc)))), (0, .ref (a 0)), (1, .int (nI r)), (2, .int wv)]) hx hb dX1_best_196 hl (k := 2) rfl (nI_1 _) (by decide) rfl (fun ls hl => ?_)
                refine lv_goto (tgt := 71) hx hb dX1_best_199 (by decide) ?_
                exact ih71 (i71 + 1) (by omega) (hinv71.trans (by rw [show 16 - i71 = (16 - (i71 + 1)) + 1 by omega, bstF, if_neg (by rw [hnb]; decide)])) _ _ hM ls (lv_sub hl [0, 3, 4, 5, 6, 7, 8] rfl)
              · have c_96 := lt_of_nle (by omega) c_96
                refine lv_iload hx hb dX1_best_99 (lv_at hl 0 rfl) ?_
                refine lv_aload_n hx hb dX1_best_101 rfl (lv_at hl 6 rfl) ?_
                refine m_get (v := .int (σ33.1 5)) S hK hM.1 5 (by decide) fl_X1_82 rfl dX1_best_102 rfl ?_
                refine topi (z := nI n) (by first | exact hG.2.1 | exact hG2.2.1) ?_
                refine lv_icmp_ge (tgt := 196) hx hb dX1_best_105 (by decide) (fun c_105 => ?_) (fun c_105 => ?_)
                · have c_105 := nlt_of_le (by omega) (by omega) c_105
                  have hnb : bstB n net r (stAt n cp cq nc) (tkN n r cp cq nc) i71 = false := by simp only [bstB, okP, Bool.and_eq_false_iff, decide_eq_false_iff_not]; exact Or.inl (Or.inl (Or.inl (Or.inr c_105)))
                  refine lv_iinc (v := nI (i71 + 1)) (lv' := [(6, .int (nI (i71 + 1))), (8, .int (nI (i71 % 4))), (7, .int (nI (i71 / 4))), (5, .int (nI (tkN n r cp cq nc))), (4, .int (nI (stAt n cp cq nc))), (3, .int (nI (plc (stAt n cp cq nc) (tkN n r cp cq nc)))), (0, .ref (a 0)), (1, .int (nI r)), (2, .int wv)]) hx hb dX1_best_196 hl (k := 2) rfl (nI_1 _) (by decide) rfl (fun ls hl => ?_)
                  refine lv_goto (tgt := 71) hx hb dX1_best_199 (by decide) ?_
                  exact ih71 (i71 + 1) (by omega) (hinv71.trans (by rw [show 16 - i71 = (16 - (i71 + 1)) + 1 by omega, bstF, if_neg (by rw [hnb]; decide)])) _ _ hM ls (lv_sub hl [0, 3, 4, 5, 6, 7, 8] rfl)
                · have c_105 := lt_of_nle (by omega) c_105
                  refine lv_aload_n hx hb dX1_best_108 rfl (lv_at hl 6 rfl) ?_
                  refine m_get (v := .ref (a 6)) S hK hM.1 6 (by decide) fl_X1_19 rfl dX1_best_109 rfl ?_
                  refine lv_iload_n hx hb dX1_best_112 rfl (lv_at hl 7 rfl) ?_
                  refine lv_iload hx hb dX1_best_113 (lv_at hl 4 rfl) ?_
                  refine lv_iload hx hb dX1_best_115 (lv_at hl 3 rfl) ?_
                  refine lv_iload hx hb dX1_best_117 (lv_at hl 1 rfl) ?_
                  refine lv_iload hx hb dX1_best_119 (lv_at hl 0 rfl) ?_
                  refine rc_Si (rest := []) [.ref (a 6), .int (nI r), .int (nI (stAt n cp cq nc)), .int (nI (tkN n r cp cq nc)), .int (nI (i71 / 4)), .int (nI (i71 % 4))] 6 S hK (r1_mayRing l D dA (a 6) (σ33.2.1 6) net r (stAt n cp cq nc) (tkN n r cp cq nc) (i71 / 4) (i71 % 4) (fun q hq => (hG2.2.2.1 q hq).1) (fun q hq => (hG2.2.2.1 q hq).2) (by first | assumption | omega | decide) (by first | assumption | omega | decide) (by first | assumption | omega | decide) (by first | assumption | omega | decide) (by first | assumption | omega | decide)) wl_X1_153 wd_X1_X1_mayRing rfl ⟨Nat.le_of_ble_eq_true rfl, Nat.le_of_ble_eq_true rfl⟩ hl.1 (Nat.le_of_ble_eq_true rfl) dX1_best_121 ⟨Nat.le_refl 0, Nat.le_refl 0⟩ (m_cell hM.1 6 (by decide) rfl) ?_ rfl
                  refine lv_if_ne (tgt := 130) hx hb dX1_best_124 (by decide) (fun c_124 => ?_) (fun c_124 => ?_)
                  · have c_124 := b2i_ne0.mp c_124
                    have hok : okP net n r (stAt n cp cq nc) (tkN n r cp cq nc) i71 = true := by simp only [okP, Bool.and_eq_true, decide_eq_true_eq]; exact ⟨⟨c_96, c_105⟩, c_124⟩
                    obtain ⟨hvc, hmc⟩ := okP_mu hn hvl hok
                    have hsc := hvc.1
                    have htc : tkA r (tkN n r cp cq nc) (i71 / 4) (i71 % 4) < 16 := tkA_lt htr (by omega)
                    have hLC := (hTB _ _ hvc htc ((hTB _ _ hvl htr hse).2 i71 hlt71 hok)).1
                    have hvc2 := (val_ok (net := net) (r := r) (t := (tkA r (tkN n r cp cq nc) (i71 / 4) (i71 % 4))) hn hvc (mu_vld (by omega) hvc)).1
                    have hF9 : (val net n r (aft (stAt n cp cq nc) (i71 / 4) (i71 % 4)) (tkA r (tkN n r cp cq nc) (i71 / 4) (i71 % 4))).2.2.1 ≤ 1000 := by
                      by_cases h9 : (val net n r (aft (stAt n cp cq nc) (i71 / 4) (i71 % 4)) (tkA r (tkN n r cp cq nc) (i71 / 4) (i71 % 4))).2.1 = 0
                      · have := hvc2.2.2.1 h9; omega
                      · have := hvc2.2.2.2 h9; omega
                    refine lv_iload hx hb dX1_best_130 (lv_at hl 4 rfl) ?_
                    refine lv_iload hx hb dX1_best_132 (lv_at hl 1 rfl) ?_
                    refine lv_iload hx hb dX1_best_134 (lv_at hl 0 rfl) ?_
                    refine rc_Si (rest := []) [.int (nI (stAt n cp cq nc)), .int (nI (i71 / 4)), .int (nI (i71 % 4))] 3 S hK (r1_afterCall l D dA (stAt n cp cq nc) (i71 / 4) (i71 % 4) (by first | assumption | omega | decide) (by first | assumption | omega | decide) (by first | assumption | omega | decide)) wl_X1_117 wd_X1_X1_afterCall rfl ⟨Nat.le_of_ble_eq_true rfl, Nat.le_of_ble_eq_true rfl⟩ hl.1 (Nat.le_of_ble_eq_true rfl) dX1_best_136 ⟨Nat.le_refl 0, Nat.le_refl 0⟩ (trivial) ?_ rfl
                    refine lv_iload hx hb dX1_best_139 (lv_at hl 3 rfl) ?_
                    refine lv_iload_n hx hb dX1_best_141 rfl (lv_at hl 7 rfl) ?_
                    refine lv_iload hx hb dX1_best_142 (lv_at hl 1 rfl) ?_
                    refine lv_iload hx hb dX1_best_144 (lv_at hl 0 rfl) ?_
                    refine rc_Si (rest := [.int (nI (aft (stAt n cp cq nc) (i71 / 4) (i71 % 4)))]) [.int (nI (tkN n r cp cq nc)), .int (nI r), .int (nI (i71 / 4)), .int (nI (i71 % 4))] 4 S hK (r1_tokensAfter l D dA (tkN n r cp cq nc) r (i71 / 4) (i71 % 4) (by first | assumption | omega | decide) (by first | assumption | omega | decide) (by first | assumption | omega | decide) (by first | assumption | omega | decide)) wl_X1_121 wd_X1_X1_tokensAfter rfl ⟨Nat.le_of_ble_eq_true rfl, Nat.le_of_ble_eq_true rfl⟩ hl.1 (Nat.le_of_ble_eq_true rfl) dX1_best_146 ⟨Nat.le_refl 0, Nat.le_refl 0⟩ (trivial) ?_ rfl
                    refine rc_Si (rest := []) [.int (nI (aft (stAt n cp cq nc) (i71 / 4) (i71 % 4))), .int (nI (tkA r (tkN n r cp cq nc) (i71 / 4) (i71 % 4)))] 2 S hK (r1_placeOf l D dA (aft (stAt n cp cq nc) (i71 / 4) (i71 % 4)) (tkA r (tkN n r cp cq nc) (i71 / 4) (i71 % 4)) (by first | assumption | omega | decide) (by first | assumption | omega | decide)) wl_X1_158 wd_X1_X1_placeOf rfl ⟨Nat.le_of_ble_eq_true rfl, Nat.le_of_ble_eq_true rfl⟩ hl.1 (Nat.le_of_ble_eq_true rfl) dX1_best_149 ⟨Nat.le_refl 0, Nat.le_refl 0⟩ (trivial) ?_ rfl
                    refine lv_istore (lv' := [(9, .int (nI (plc (aft (stAt n cp cq nc) (i71 / 4) (i71 % 4)) (tkA r (tkN n r cp cq nc) (i71 / 4) (i71 % 4))))), (8, .int (nI (i71 % 4))), (7, .int (nI (i71 / 4))), (6, .int (nI i71)), (5, .int (nI (tkN n r cp cq nc))), (4, .int (nI (stAt n cp cq nc))), (3, .int (nI (plc (stAt n cp cq nc) (tkN n r cp cq nc)))), (0, .ref (a 0)), (1, .int (nI r)), (2, .int wv)]) hx hb dX1_best_152 hl (by decide) rfl (fun ls hl => ?_)
                    refine lv_aload_n hx hb dX1_best_154 rfl (lv_at hl 7 rfl) ?_
                    refine m_get (v := .ref (a 14)) S hK hM.1 14 (by decide) fl_X1_39 rfl dX1_best_155 rfl ?_
                    refine lv_iload hx hb dX1_best_158 (lv_at hl 0 rfl) ?_
                    refine m_lldn (j := plc (aft (stAt n cp cq nc) (i71 / 4) (i71 % 4)) (tkA r (tkN n r cp cq nc) (i71 / 4) (i71 % 4))) (v := lN (val net n r (aft (stAt n cp cq nc) (i71 / 4) (i71 % 4)) (tkA r (tkN n r cp cq nc) (i71 / 4) (i71 % 4))).2.1) S hK hM.1 14 (by decide) rfl (plc_lt _ _) dX1_best_160 (hLC.2.1) ?_
                    refine lv_lconst (v := 0) hx hb dX1_best_161 (by decide) ?_
                    refine W.lcmp hx hb dX1_best_162 ?_
                    refine lv_if_le (tgt := 196) hx hb dX1_best_163 (by decide) (fun c_163 => ?_) (fun c_163 => ?_)
                    · have c_163 := (lg_cmp_le _ _).mp c_163
                      have c_163 : (val net n r (aft (stAt n cp cq nc) (i71 / 4) (i71 % 4)) (tkA r (tkN n r cp cq nc) (i71 / 4) (i71 % 4))).2.1 = 0 := (lN_le0 (Nat.lt_of_le_of_lt (Nat.le_trans hvc2.2.1 hvc2.1) (by decide))).mp c_163
                      have hnb : bstB n net r (stAt n cp cq nc) (tkN n r cp cq nc) i71 = false := by simp only [bstB, okP, Bool.and_eq_false_iff, decide_eq_false_iff_not]; exact Or.inl (Or.inr (fun h9 => h9 c_163))
                      refine lv_iinc (v := nI (i71 + 1)) (lv' := [(6, .int (nI (i71 + 1))), (9, .int (nI (plc (aft (stAt n cp cq nc) (i71 / 4) (i71 % 4)) (tkA r (tkN n r cp cq nc) (i71 / 4) (i71 % 4))))), (8, .int (nI (i71 % 4))), (7, .int (nI (i71 / 4))), (5, .int (nI (tkN n r cp cq nc))), (4, .int (nI (stAt n cp cq nc))), (3, .int (nI (plc (stAt n cp cq nc) (tkN n r cp cq nc)))), (0, .ref (a 0)), (1, .int (nI r)), (2, .int wv)]) hx hb dX1_best_196 hl (k := 3) rfl (nI_1 _) (by decide) rfl (fun ls hl => ?_)
                      refine lv_goto (tgt := 71) hx hb dX1_best_199 (by decide) ?_
                      exact ih71 (i71 + 1) (by omega) (hinv71.trans (by rw [show 16 - i71 = (16 - (i71 + 1)) + 1 by omega, bstF, if_neg (by rw [hnb]; decide)])) _ _ hM ls (lv_sub hl [0, 4, 5, 6, 7, 8, 9] rfl)
                    · have c_163 := mt (lg_cmp_le _ _).mpr c_163
                      have c_163 : ¬ (val net n r (aft (stAt n cp cq nc) (i71 / 4) (i71 % 4)) (tkA r (tkN n r cp cq nc) (i71 / 4) (i71 % 4))).2.1 = 0 := fun h9 => c_163 ((lN_le0 (Nat.lt_of_le_of_lt (Nat.le_trans hvc2.2.1 hvc2.1) (by decide))).mpr h9)
                      refine lv_aload_n hx hb dX1_best_166 rfl (lv_at hl 7 rfl) ?_
                      refine m_get (v := .ref (a 15)) S hK hM.1 15 (by decide) fl_X1_42 rfl dX1_best_167 rfl ?_
                      refine lv_iload hx hb dX1_best_170 (lv_at hl 0 rfl) ?_
                      refine m_aldn (j := plc (aft (stAt n cp cq nc) (i71 / 4) (i71 % 4)) (tkA r (tkN n r cp cq nc) (i71 / 4) (i71 % 4))) (v := nI (val net n r (aft (stAt n cp cq nc) (i71 / 4) (i71 % 4)) (tkA r (tkN n r cp cq nc) (i71 / 4) (i71 % 4))).2.2.1) S hK hM.1 15 (by decide) rfl (plc_lt _ _) dX1_best_172 (hLC.2.2.1) ?_
                      refine lv_iconst (v := 1) hx hb dX1_best_173 (by decide) ?_
                      refine lv_iadd hx hb dX1_best_174 ?_
                      refine topi (z := nI ((val net n r (aft (stAt n cp cq nc) (i71 / 4) (i71 % 4)) (tkA r (tkN n r cp cq nc) (i71 / 4) (i71 % 4))).2.2.1 + 1)) (nI_1 _) ?_
                      refine lv_aload_n hx hb dX1_best_175 rfl (lv_at hl 7 rfl) ?_
                      refine m_get (v := .ref (a 15)) S hK hM.1 15 (by decide) fl_X1_42 rfl dX1_best_176 rfl ?_
                      refine lv_iload_n hx hb dX1_best_179 rfl (lv_at hl 6 rfl) ?_
                      refine m_aldn (j := plc (stAt n cp cq nc) (tkN n r cp cq nc)) (v := nI (val net n r (stAt n cp cq nc) (tkN n r cp cq nc)).2.2.1) S hK hM.1 15 (by decide) rfl (plc_lt _ _) dX1_best_180 (hLP.2.2.1) ?_
                      refine lv_icmp_ne (tgt := 196) hx hb dX1_best_181 (by decide) (fun c_181 => ?_) (fun c_181 => ?_)
                      · have c_181 : ¬ (val net n r (aft (stAt n cp cq nc) (i71 / 4) (i71 % 4)) (tkA r (tkN n r cp cq nc) (i71 / 4) (i71 % 4))).2.2.1 + 1 = (val net n r (stAt n cp cq nc) (tkN n r cp cq nc)).2.2.1 := fun h9 => c_181 (congrArg nI h9)
                        have hnb : bstB n net r (stAt n cp cq nc) (tkN n r cp cq nc) i71 = false := by simp only [bstB, okP, Bool.and_eq_false_iff, decide_eq_false_iff_not]; exact Or.inr c_181
                        refine lv_iinc (v := nI (i71 + 1)) (lv' := [(6, .int (nI (i71 + 1))), (9, .int (nI (plc (aft (stAt n cp cq nc) (i71 / 4) (i71 % 4)) (tkA r (tkN n r cp cq nc) (i71 / 4) (i71 % 4))))), (8, .int (nI (i71 % 4))), (7, .int (nI (i71 / 4))), (5, .int (nI (tkN n r cp cq nc))), (4, .int (nI (stAt n cp cq nc))), (3, .int (nI (plc (stAt n cp cq nc) (tkN n r cp cq nc)))), (0, .ref (a 0)), (1, .int (nI r)), (2, .int wv)]) hx hb dX1_best_196 hl (k := 3) rfl (nI_1 _) (by decide) rfl (fun ls hl => ?_)
                        refine lv_goto (tgt := 71) hx hb dX1_best_199 (by decide) ?_
                        exact ih71 (i71 + 1) (by omega) (hinv71.trans (by rw [show 16 - i71 = (16 - (i71 + 1)) + 1 by omega, bstF, if_neg (by rw [hnb]; decide)])) _ _ hM ls (lv_sub hl [0, 4, 5, 6, 7, 8, 9] rfl)
                      · have c_181 : (val net n r (aft (stAt n cp cq nc) (i71 / 4) (i71 % 4)) (tkA r (tkN n r cp cq nc) (i71 / 4) (i71 % 4))).2.2.1 + 1 = (val net n r (stAt n cp cq nc) (tkN n r cp cq nc)).2.2.1 := nI_inj (by omega) (by omega) c_181
                        have hyb : bstB n net r (stAt n cp cq nc) (tkN n r cp cq nc) i71 = true := by simp only [bstB, hok, Bool.and_eq_true, decide_eq_true_eq]; exact ⟨⟨trivial, c_163⟩, c_181⟩
                        refine lv_iload_n hx hb dX1_best_184 rfl (lv_at hl 9 rfl) ?_
                        refine lv_if_ne (tgt := 193) hx hb dX1_best_185 (by decide) (fun c_185 => ?_) (fun c_185 => ?_)
                        · refine lv_iload hx hb dX1_best_193 (lv_at hl 1 rfl) ?_
                          exact m_iret S hr hlk hM dX1_best_195 (⟨(congrArg (fun z : Int32 => some (Value.int z)) (by have e9 := hinv71.trans (bstF_t (by omega) hyb); simp [spBest, vNow, show inR 0 0 1 = true from (by decide), show inR (nI r) 0 3 = true from inR_nI (k := 3) (by omega) (by decide), nI_clamp (show r < 2 ^ 31 by omega), c_15, c_25, c_62, e9, c_185])), ⟨hPU, ⟨T + 1, by omega, hSN2⟩, OTm.of hot⟩⟩)
                        · refine lv_iload hx hb dX1_best_188 (lv_at hl 2 rfl) ?_
                          refine lv_goto (tgt := 195) hx hb dX1_best_190 (by decide) ?_
                          exact m_iret S hr hlk hM dX1_best_195 (⟨(congrArg (fun z : Int32 => some (Value.int z)) (by have e9 := hinv71.trans (bstF_t (by omega) hyb); simp [spBest, vNow, show inR 0 0 1 = true from (by decide), show inR (nI r) 0 3 = true from inR_nI (k := 3) (by omega) (by decide), nI_clamp (show r < 2 ^ 31 by omega), c_15, c_25, c_62, e9, c_185])), ⟨hPU, ⟨T + 1, by omega, hSN2⟩, OTm.of hot⟩⟩)
                  · have c_124 := b2i_eq0.mp c_124
                    refine lv_goto (tgt := 196) hx hb dX1_best_127 (by decide) ?_
                    have hnb : bstB n net r (stAt n cp cq nc) (tkN n r cp cq nc) i71 = false := by simp only [bstB, okP, Bool.and_eq_false_iff, decide_eq_false_iff_not]; exact Or.inl (Or.inl (Or.inr c_124))
                    refine lv_iinc (v := nI (i71 + 1)) (lv' := [(6, .int (nI (i71 + 1))), (8, .int (nI (i71 % 4))), (7, .int (nI (i71 / 4))), (5, .int (nI (tkN n r cp cq nc))), (4, .int (nI (stAt n cp cq nc))), (3, .int (nI (plc (stAt n cp cq nc) (tkN n r cp cq nc)))), (0, .ref (a 0)), (1, .int (nI r)), (2, .int wv)]) hx hb dX1_best_196 hl (k := 2) rfl (nI_1 _) (by decide) rfl (fun ls hl => ?_)
                    refine lv_goto (tgt := 71) hx hb dX1_best_199 (by decide) ?_
                    exact ih71 (i71 + 1) (by omega) (hinv71.trans (by rw [show 16 - i71 = (16 - (i71 + 1)) + 1 by omega, bstF, if_neg (by rw [hnb]; decide)])) _ _ hM ls (lv_sub hl [0, 3, 4, 5, 6, 7, 8] rfl)
          exact hloop71 (16) 0 (by omega) (rfl) _ _ hM ls (lv_sub hl [0, 1, 2, 3, 4, 5, 6] rfl)
        · have c_62 := (lg_cmp_eq _ _).mp c_62
          have c_62 : (val net n r (stAt n cp cq nc) (tkN n r cp cq nc)).2.1 = 0 := (lN_0 (Nat.lt_of_le_of_lt (Nat.le_trans hvo.1.2.1 hvo.1.1) (by decide))).mp c_62
          refine lv_bipush (v := (-9)) hx hb dX1_best_65 (by decide) ?_
          exact m_iret S hr hlk hM dX1_best_67 (⟨(congrArg (fun z : Int32 => some (Value.int z)) (by simp [spBest, vNow, show inR 0 0 1 = true from (by decide), show inR (nI r) 0 3 = true from inR_nI (k := 3) (by omega) (by decide), nI_clamp (show r < 2 ^ 31 by omega), *])), ⟨hPU, ⟨T + 1, by omega, hSN2⟩, OTm.of hot⟩⟩)
      · have c_25 : n = 0 := nI_inj (by omega) (by decide) c_25
        refine lv_bipush (v := (-3)) hx hb dX1_best_28 (by decide) ?_
        exact m_iret S hr hlk hM dX1_best_30 (⟨(congrArg (fun z : Int32 => some (Value.int z)) (by simp [spBest, show inR 0 0 1 = true from (by decide), show inR (nI r) 0 3 = true from inR_nI (k := 3) (by omega) (by decide), nI_clamp (show r < 2 ^ 31 by omega), *])), PTm.rf hSN⟩)
    · have c_15 := b2i_eq0.mp c_15
      refine lv_bipush (v := (-2)) hx hb dX1_best_18 (by decide) ?_
      exact m_iret S hr hlk hM dX1_best_20 (⟨(congrArg (fun z : Int32 => some (Value.int z)) (by simp [spBest, *])), PTm.rf hSN⟩)
  · have c_4 := b2i_eq0.mp c_4
    refine lv_iconst (v := (-1)) hx hb dX1_best_7 (by decide) ?_
    exact m_iret S hr hlk hM dX1_best_8 (⟨(congrArg (fun z : Int32 => some (Value.int z)) (by simp [spBest, *])), PTm.rf hSN⟩)
