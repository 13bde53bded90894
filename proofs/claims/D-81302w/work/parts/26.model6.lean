/-! MODEL 6: lay (by program: gen/model6.py) -/
set_option maxRecDepth 100000
set_option maxHeartbeats 4000000 in
theorem m1_lay (l : Launch) (D : va_G) (dA : Nat → ClassId) (a : Nat → Nat) (hI : mInj a) (σ : MS) {n r kk : Nat} {net : Nat → Nat} {tn : Int32} (hn : n < 5) (hr4 : r < 4) {sx tx : Nat} (hv : vld n sx) (ht : tx < 16) (hm0 : mu sx ≤ 15) (hLK : LKm a σ n net r tn kk) (hTB : TBm σ n net r tn) : MC l yX1_lay cX1_lay 13 (some .int) 6 200 D dA a [.ref (a 0), .int (nI sx), .int (nI tx)] σ (fun v9 σ9 => v9 = some (.int (nI (plc sx tx))) ∧ TBm σ9 n net r tn ∧ σ9.2.1 12 (plc sx tx) = tn ∧ FRm n σ σ9 0 16) := by
  refine MC.of (by decide) (Nat.le_of_ble_eq_true rfl) ?_
  intro p e s m below meth c ls S hr hlk hK hM hl
  have hx := S.1
  have hb := S.2.1
  have hl : lv_has ls 13 [(0, .ref (a 0)), (1, .int (nI sx)), (2, .int (nI tx))] := hl
  have hs := hv.1
  have hpl := plc_lt sx tx
  refine lv_iload_n hx hb dX1_lay_0 rfl (lv_at hl 1 rfl) ?_
  refine lv_iload_n hx hb dX1_lay_1 rfl (lv_at hl 2 rfl) ?_
  refine rc_Si (rest := []) [.int (nI sx), .int (nI tx)] 2 S hK (r1_placeOf l D dA sx tx (by first | assumption | omega | decide) (by first | assumption | omega | decide)) wl_X1_158 wd_X1_X1_placeOf rfl ⟨Nat.le_of_ble_eq_true rfl, Nat.le_of_ble_eq_true rfl⟩ hl.1 (Nat.le_of_ble_eq_true rfl) dX1_lay_2 ⟨Nat.le_refl 0, Nat.le_refl 0⟩ (trivial) ?_ rfl
  refine lv_istore_n (lv' := [(3, .int (nI (plc sx tx))), (0, .ref (a 0)), (1, .int (nI sx)), (2, .int (nI tx))]) hx hb dX1_lay_5 rfl hl (by decide) rfl (fun ls hl => ?_)
  refine lv_aload_n hx hb dX1_lay_6 rfl (lv_at hl 1 rfl) ?_
  refine m_get (v := .ref (a 12)) S hK hM.1 12 (by decide) fl_X1_32 rfl dX1_lay_7 rfl ?_
  refine lv_iload_n hx hb dX1_lay_10 rfl (lv_at hl 0 rfl) ?_
  refine m_aldn (j := plc sx tx) (v := (σ.2.1 12) (plc sx tx)) S hK hM.1 12 (by decide) rfl (hpl) dX1_lay_11 (rfl) ?_
  refine lv_aload_n hx hb dX1_lay_12 rfl (lv_at hl 1 rfl) ?_
  refine m_get (v := .int (σ.1 17)) S hK hM.1 17 (by decide) fl_X1_161 rfl dX1_lay_13 rfl ?_
  refine topi (z := tn) (hLK.2.2.2.2.2) ?_
  refine lv_icmp_ne (tgt := 21) hx hb dX1_lay_16 (by decide) (fun c_16 => ?_) (fun c_16 => ?_)
  · refine lv_iconst (v := 0) hx hb dX1_lay_21 (by decide) ?_
    refine lv_istore (lv' := [(4, .int 0), (3, .int (nI (plc sx tx))), (0, .ref (a 0)), (1, .int (nI sx)), (2, .int (nI tx))]) hx hb dX1_lay_22 hl (by decide) rfl (fun ls hl => ?_)
    refine lv_aload_n hx hb dX1_lay_24 rfl (lv_at hl 2 rfl) ?_
    refine lv_iconst (v := 0) hx hb dX1_lay_25 (by decide) ?_
    refine lv_iload_n hx hb dX1_lay_26 rfl (lv_at hl 3 rfl) ?_
    refine lv_iload_n hx hb dX1_lay_27 rfl (lv_at hl 4 rfl) ?_
    refine mc_Vv (rest := []) [.int 0, .int (nI sx), .int (nI tx)] 3 S hK hM (m1_open l D dA a hI σ 0 sx tx (by first | assumption | omega | decide) (by first | assumption | omega | decide) (by first | assumption | omega | decide)) wl_X1_170 wd_X1_X1_open rfl ⟨Nat.le_of_ble_eq_true rfl, Nat.le_of_ble_eq_true rfl⟩ hl.1 (Nat.le_of_ble_eq_true rfl) dX1_lay_28 ⟨Nat.le_refl 0, Nat.le_refl 0⟩ (fun H locs hM => ?_) rfl
    have fr9 := FRm.opn (n := n) (σ := σ) (d := 0) (v := (0, 0, 1000, 0)) (x := nI sx) (y := nI tx) (z := 0) hv ht
    refine lay_main hI S hK hn hr4 (mu sx + 1) 0 sx tx hv ht (by omega) (by omega) 16 0 (by omega) _ H locs hM (hLK.fr fr9) (hTB.set c_16 rfl rfl rfl rfl rfl) c_16 LFm.opn PAm.zero ?_ ls (lv_sub hl [0, 1, 2, 3, 4] rfl)
    intro σ2 H locs hM h1 h2 h3 h4 ls hl
    refine lv_iload hx hb dX1_lay_31 (lv_at hl 0 rfl) ?_
    refine lv_if_lt (tgt := 247) hx hb dX1_lay_33 (by decide) (fun c_33 => ?_) (fun c_33 => absurd (by decide) c_33)
    refine lv_iload_n hx hb dX1_lay_247 rfl (lv_at hl 1 rfl) ?_
    exact m_iret S hr hlk hM dX1_lay_248 (⟨rfl, h2, h3, (fr9.wk (Nat.zero_le _) (mu_le _)).tr (h4.wk (Nat.le_refl _) (mu_le _))⟩)
  · refine lv_iload_n hx hb dX1_lay_19 rfl (lv_at hl 0 rfl) ?_
    exact m_iret S hr hlk hM dX1_lay_20 (⟨rfl, hTB, c_16, FRm.rf⟩)
