/-! MODEL 4: open, add, close, verdictAt (by program: gen/model4.py) -/
set_option maxRecDepth 100000
set_option maxHeartbeats 4000000 in
theorem m1_open (l : Launch) (D : va_G) (dA : Nat → ClassId) (a : Nat → Nat) (hI : mInj a) (σ : MS) (dd sx tx : Nat) (hd : dd < 16) (hs : sx < 65536) (ht : tx < 16) : MC l yX1_open cX1_open 5 none 2 47 D dA a [.ref (a 0), .int (nI dd), .int (nI sx), .int (nI tx)] σ (fun v9 σ9 => v9 = none ∧ σ9 = mSet (((σ.b 18 (upd (σ.2.1 18) dd (nI sx))).b 19 (upd (σ.2.1 19) dd (nI tx))).b 20 (upd (σ.2.1 20) dd 0)) (plc sx tx) (0, 0, 1000, 0)) := by
  refine MC.of (by decide) (Nat.le_of_ble_eq_true rfl) ?_
  intro p e s m below meth c ls S hr hlk hK hM hl
  have hx := S.1
  have hb := S.2.1
  have hl : lv_has ls 5 [(0, .ref (a 0)), (1, .int (nI dd)), (2, .int (nI sx)), (3, .int (nI tx))] := hl
  refine lv_aload_n hx hb dX1_open_0 rfl (lv_at hl 0 rfl) ?_
  refine m_get (v := .ref (a 18)) S hK hM.1 18 (by decide) fl_X1_48 rfl dX1_open_1 rfl ?_
  refine lv_iload_n hx hb dX1_open_4 rfl (lv_at hl 1 rfl) ?_
  refine lv_iload_n hx hb dX1_open_5 rfl (lv_at hl 2 rfl) ?_
  refine m_astn (j := dd) hI S hK hM 18 (by decide) rfl (show dd < 16 by omega) dX1_open_6 (fun H locs hM => ?_)
  refine lv_aload_n hx hb dX1_open_7 rfl (lv_at hl 0 rfl) ?_
  refine m_get (v := .ref (a 19)) S hK hM.1 19 (by decide) fl_X1_51 rfl dX1_open_8 rfl ?_
  refine lv_iload_n hx hb dX1_open_11 rfl (lv_at hl 1 rfl) ?_
  refine lv_iload_n hx hb dX1_open_12 rfl (lv_at hl 3 rfl) ?_
  refine m_astn (j := dd) hI S hK hM 19 (by decide) rfl (show dd < 16 by omega) dX1_open_13 (fun H locs hM => ?_)
  have hM : MB D dA a ((σ.b 18 (upd (σ.2.1 18) dd (nI sx))).b 19 (upd (σ.2.1 19) dd (nI tx))) s.heap H locs := hM
  refine lv_aload_n hx hb dX1_open_14 rfl (lv_at hl 0 rfl) ?_
  refine m_get (v := .ref (a 20)) S hK hM.1 20 (by decide) fl_X1_54 rfl dX1_open_15 rfl ?_
  refine lv_iload_n hx hb dX1_open_18 rfl (lv_at hl 1 rfl) ?_
  refine lv_iconst (v := 0) hx hb dX1_open_19 (by decide) ?_
  refine m_astn (j := dd) hI S hK hM 20 (by decide) rfl (show dd < 16 by omega) dX1_open_20 (fun H locs hM => ?_)
  have hM : MB D dA a (((σ.b 18 (upd (σ.2.1 18) dd (nI sx))).b 19 (upd (σ.2.1 19) dd (nI tx))).b 20 (upd (σ.2.1 20) dd 0)) s.heap H locs := hM
  refine lv_iload_n hx hb dX1_open_21 rfl (lv_at hl 2 rfl) ?_
  refine lv_iload_n hx hb dX1_open_22 rfl (lv_at hl 3 rfl) ?_
  refine rc_Si (rest := []) [.int (nI sx), .int (nI tx)] 2 S hK (r1_placeOf l D dA sx tx (by first | assumption | omega | decide) (by first | assumption | omega | decide)) wl_X1_158 wd_X1_X1_placeOf rfl ⟨Nat.le_of_ble_eq_true rfl, Nat.le_of_ble_eq_true rfl⟩ hl.1 (Nat.le_of_ble_eq_true rfl) dX1_open_23 ⟨Nat.le_refl 0, Nat.le_refl 0⟩ (trivial) ?_ rfl
  refine lv_istore (lv' := [(4, .int (nI (plc sx tx))), (0, .ref (a 0)), (1, .int (nI dd)), (2, .int (nI sx)), (3, .int (nI tx))]) hx hb dX1_open_26 hl (by decide) rfl (fun ls hl => ?_)
  refine lv_aload_n hx hb dX1_open_28 rfl (lv_at hl 1 rfl) ?_
  refine m_get (v := .ref (a 13)) S hK hM.1 13 (by decide) fl_X1_35 rfl dX1_open_29 rfl ?_
  refine lv_iload hx hb dX1_open_32 (lv_at hl 0 rfl) ?_
  refine lv_lconst (v := 0) hx hb dX1_open_34 (by decide) ?_
  refine m_lstn (j := plc sx tx) hI S hK hM 13 (by decide) rfl (show plc sx tx < 65536 from plc_lt sx tx) dX1_open_35 (fun H locs hM => ?_)
  have hM : MB D dA a ((((σ.b 18 (upd (σ.2.1 18) dd (nI sx))).b 19 (upd (σ.2.1 19) dd (nI tx))).b 20 (upd (σ.2.1 20) dd 0)).l 13 (vp_updL (σ.2.2.1 13) (plc sx tx) 0)) s.heap H locs := hM
  refine lv_aload_n hx hb dX1_open_36 rfl (lv_at hl 1 rfl) ?_
  refine m_get (v := .ref (a 14)) S hK hM.1 14 (by decide) fl_X1_39 rfl dX1_open_37 rfl ?_
  refine lv_iload hx hb dX1_open_40 (lv_at hl 0 rfl) ?_
  refine lv_lconst (v := 0) hx hb dX1_open_42 (by decide) ?_
  refine m_lstn (j := plc sx tx) hI S hK hM 14 (by decide) rfl (show plc sx tx < 65536 from plc_lt sx tx) dX1_open_43 (fun H locs hM => ?_)
  have hM : MB D dA a (((((σ.b 18 (upd (σ.2.1 18) dd (nI sx))).b 19 (upd (σ.2.1 19) dd (nI tx))).b 20 (upd (σ.2.1 20) dd 0)).l 13 (vp_updL (σ.2.2.1 13) (plc sx tx) 0)).l 14 (vp_updL (σ.2.2.1 14) (plc sx tx) 0)) s.heap H locs := hM
  refine lv_aload_n hx hb dX1_open_44 rfl (lv_at hl 1 rfl) ?_
  refine m_get (v := .ref (a 15)) S hK hM.1 15 (by decide) fl_X1_42 rfl dX1_open_45 rfl ?_
  refine lv_iload hx hb dX1_open_48 (lv_at hl 0 rfl) ?_
  refine lv_sipush (v := 1000) hx hb dX1_open_50 (by decide) ?_
  refine m_astn (j := plc sx tx) hI S hK hM 15 (by decide) rfl (show plc sx tx < 65536 from plc_lt sx tx) dX1_open_53 (fun H locs hM => ?_)
  have hM : MB D dA a ((((((σ.b 18 (upd (σ.2.1 18) dd (nI sx))).b 19 (upd (σ.2.1 19) dd (nI tx))).b 20 (upd (σ.2.1 20) dd 0)).l 13 (vp_updL (σ.2.2.1 13) (plc sx tx) 0)).l 14 (vp_updL (σ.2.2.1 14) (plc sx tx) 0)).b 15 (upd (σ.2.1 15) (plc sx tx) 1000)) s.heap H locs := hM
  refine lv_aload_n hx hb dX1_open_54 rfl (lv_at hl 1 rfl) ?_
  refine m_get (v := .ref (a 16)) S hK hM.1 16 (by decide) fl_X1_45 rfl dX1_open_55 rfl ?_
  refine lv_iload hx hb dX1_open_58 (lv_at hl 0 rfl) ?_
  refine lv_iconst (v := (-1)) hx hb dX1_open_60 (by decide) ?_
  refine m_astn (j := plc sx tx) hI S hK hM 16 (by decide) rfl (show plc sx tx < 65536 from plc_lt sx tx) dX1_open_61 (fun H locs hM => ?_)
  have hM : MB D dA a (((((((σ.b 18 (upd (σ.2.1 18) dd (nI sx))).b 19 (upd (σ.2.1 19) dd (nI tx))).b 20 (upd (σ.2.1 20) dd 0)).l 13 (vp_updL (σ.2.2.1 13) (plc sx tx) 0)).l 14 (vp_updL (σ.2.2.1 14) (plc sx tx) 0)).b 15 (upd (σ.2.1 15) (plc sx tx) 1000)).b 16 (upd (σ.2.1 16) (plc sx tx) (-1))) s.heap H locs := hM
  exact m_vret S hr hlk hM dX1_open_62 (⟨rfl, mSet_mk rfl rfl rfl rfl⟩)
set_option maxHeartbeats 4000000 in
theorem m1_add (l : Launch) (D : va_G) (dA : Nat → ClassId) (a : Nat → Nat) (hI : mInj a) (σ : MS) (pl ch : Nat) (x y : V4) (hpl : pl < 65536) (hch : ch < 65536) (hne : ch ≠ pl) (hx9 : LPv σ pl x) (hy9 : LPv σ ch y) (hxo : vOk (16 ^ 15) 15 x) (hyo : vOk (16 ^ 15) 15 y) : MC l yX1_add cX1_add 3 none 0 0 D dA a [.ref (a 0), .int (nI pl), .int (nI ch)] σ (fun v9 σ9 => v9 = none ∧ σ9 = mSet σ pl (cmb x y)) := by
  refine MC.of (by decide) (Nat.le_of_ble_eq_true rfl) ?_
  intro p e s m below meth c ls S hr hlk hK hM hl
  have hx := S.1
  have hb := S.2.1
  have hl : lv_has ls 3 [(0, .ref (a 0)), (1, .int (nI pl)), (2, .int (nI ch))] := hl
  have hy63 : y.2.1 < 2 ^ 63 := Nat.lt_of_le_of_lt (Nat.le_trans hyo.2.1 hyo.1) (by decide)
  have hxF : x.2.2.1 ≤ 1000 ∧ x.2.2.2 ≤ 16 := by
    by_cases h9 : x.2.1 = 0
    · have := hxo.2.2.1 h9; omega
    · have := hxo.2.2.2 h9; omega
  have hyF : y.2.2.1 ≤ 1000 ∧ y.2.2.2 ≤ 16 := by
    by_cases h9 : y.2.1 = 0
    · have := hyo.2.2.1 h9; omega
    · have := hyo.2.2.2 h9; omega
  refine lv_aload_n hx hb dX1_add_0 rfl (lv_at hl 0 rfl) ?_
  refine m_get (v := .ref (a 13)) S hK hM.1 13 (by decide) fl_X1_35 rfl dX1_add_1 rfl ?_
  refine lv_iload_n hx hb dX1_add_4 rfl (lv_at hl 1 rfl) ?_
  refine lv_dup2_11 hx hb dX1_add_5 rfl rfl ?_
  refine m_lldn (j := pl) (v := lN x.1) S hK hM.1 13 (by decide) rfl (show pl < 65536 by omega) dX1_add_6 (hx9.1) ?_
  refine lv_aload_n hx hb dX1_add_7 rfl (lv_at hl 0 rfl) ?_
  refine m_get (v := .ref (a 13)) S hK hM.1 13 (by decide) fl_X1_35 rfl dX1_add_8 rfl ?_
  refine lv_iload_n hx hb dX1_add_11 rfl (lv_at hl 2 rfl) ?_
  refine m_lldn (j := ch) (v := lN y.1) S hK hM.1 13 (by decide) rfl (show ch < 65536 by omega) dX1_add_12 (hy9.1) ?_
  refine lv_ladd hx hb dX1_add_13 ?_
  refine topl (z := lN (x.1 + y.1)) (lN_add _ _) ?_
  refine m_lstn (j := pl) hI S hK hM 13 (by decide) rfl (show pl < 65536 by omega) dX1_add_14 (fun H locs hM => ?_)
  refine lv_aload_n hx hb dX1_add_15 rfl (lv_at hl 0 rfl) ?_
  refine m_get (v := .ref (a 14)) S hK hM.1 14 (by decide) fl_X1_39 rfl dX1_add_16 rfl ?_
  refine lv_iload_n hx hb dX1_add_19 rfl (lv_at hl 1 rfl) ?_
  refine lv_dup2_11 hx hb dX1_add_20 rfl rfl ?_
  refine m_lldn (j := pl) (v := lN x.2.1) S hK hM.1 14 (by decide) rfl (show pl < 65536 by omega) dX1_add_21 (hx9.2.1) ?_
  refine lv_aload_n hx hb dX1_add_22 rfl (lv_at hl 0 rfl) ?_
  refine m_get (v := .ref (a 14)) S hK hM.1 14 (by decide) fl_X1_39 rfl dX1_add_23 rfl ?_
  refine lv_iload_n hx hb dX1_add_26 rfl (lv_at hl 2 rfl) ?_
  refine m_lldn (j := ch) (v := lN y.2.1) S hK hM.1 14 (by decide) rfl (show ch < 65536 by omega) dX1_add_27 (hy9.2.1) ?_
  refine lv_ladd hx hb dX1_add_28 ?_
  refine topl (z := lN (x.2.1 + y.2.1)) (lN_add _ _) ?_
  refine m_lstn (j := pl) hI S hK hM 14 (by decide) rfl (show pl < 65536 by omega) dX1_add_29 (fun H locs hM => ?_)
  have hM : MB D dA a ((σ.l 13 (vp_updL (σ.2.2.1 13) pl (lN (x.1 + y.1)))).l 14 (vp_updL (σ.2.2.1 14) pl (lN (x.2.1 + y.2.1)))) s.heap H locs := hM
  refine lv_aload_n hx hb dX1_add_30 rfl (lv_at hl 0 rfl) ?_
  refine m_get (v := .ref (a 14)) S hK hM.1 14 (by decide) fl_X1_39 rfl dX1_add_31 rfl ?_
  refine lv_iload_n hx hb dX1_add_34 rfl (lv_at hl 2 rfl) ?_
  refine m_lldn (j := ch) (v := lN y.2.1) S hK hM.1 14 (by decide) rfl (show ch < 65536 by omega) dX1_add_35 (show vp_updL (σ.2.2.1 14) pl (lN (x.2.1 + y.2.1)) ch = lN y.2.1 from (pk_uLn hne).trans hy9.2.1) ?_
  refine lv_lconst (v := 0) hx hb dX1_add_36 (by decide) ?_
  refine W.lcmp hx hb dX1_add_37 ?_
  refine lv_if_le (tgt := 121) hx hb dX1_add_38 (by decide) (fun c_38 => ?_) (fun c_38 => ?_)
  · have c_38 := (lg_cmp_le _ _).mp c_38
    have c_38 := (lN_le0 hy63).mp c_38
    exact m_vret S hr hlk hM dX1_add_121 (⟨rfl, mSet_mk0 rfl rfl (hx9.2.2.1.trans (congrArg nI (cmb_0 c_38).1.symm)) (hx9.2.2.2.trans (by rw [(cmb_0 c_38).2]))⟩)
  · have c_38 := mt (lg_cmp_le _ _).mpr c_38
    have c_38 : ¬ y.2.1 = 0 := fun h9 => c_38 ((lN_le0 hy63).mpr h9)
    refine lv_aload_n hx hb dX1_add_41 rfl (lv_at hl 0 rfl) ?_
    refine m_get (v := .ref (a 15)) S hK hM.1 15 (by decide) fl_X1_42 rfl dX1_add_42 rfl ?_
    refine lv_iload_n hx hb dX1_add_45 rfl (lv_at hl 1 rfl) ?_
    refine lv_aload_n hx hb dX1_add_46 rfl (lv_at hl 0 rfl) ?_
    refine m_get (v := .ref (a 15)) S hK hM.1 15 (by decide) fl_X1_42 rfl dX1_add_47 rfl ?_
    refine lv_iload_n hx hb dX1_add_50 rfl (lv_at hl 2 rfl) ?_
    refine m_aldn (j := ch) (v := nI y.2.2.1) S hK hM.1 15 (by decide) rfl (show ch < 65536 by omega) dX1_add_51 (hy9.2.2.1) ?_
    refine lv_iconst (v := 1) hx hb dX1_add_52 (by decide) ?_
    refine lv_iadd hx hb dX1_add_53 ?_
    refine topi (z := nI (y.2.2.1 + 1)) (nI_1 _) ?_
    refine lv_aload_n hx hb dX1_add_54 rfl (lv_at hl 0 rfl) ?_
    refine m_get (v := .ref (a 15)) S hK hM.1 15 (by decide) fl_X1_42 rfl dX1_add_55 rfl ?_
    refine lv_iload_n hx hb dX1_add_58 rfl (lv_at hl 1 rfl) ?_
    refine m_aldn (j := pl) (v := nI x.2.2.1) S hK hM.1 15 (by decide) rfl (show pl < 65536 by omega) dX1_add_59 (hx9.2.2.1) ?_
    refine lv_icmp_ge (tgt := 74) hx hb dX1_add_60 (by decide) (fun c_60 => ?_) (fun c_60 => ?_)
    · have c_60 := (nI_leI (by omega) (by omega)).mp c_60
      refine lv_aload_n hx hb dX1_add_74 rfl (lv_at hl 0 rfl) ?_
      refine m_get (v := .ref (a 15)) S hK hM.1 15 (by decide) fl_X1_42 rfl dX1_add_75 rfl ?_
      refine lv_iload_n hx hb dX1_add_78 rfl (lv_at hl 1 rfl) ?_
      refine m_aldn (j := pl) (v := nI x.2.2.1) S hK hM.1 15 (by decide) rfl (show pl < 65536 by omega) dX1_add_79 (hx9.2.2.1) ?_
      refine m_astn (j := pl) hI S hK hM 15 (by decide) rfl (show pl < 65536 by omega) dX1_add_80 (fun H locs hM => ?_)
      have hM : MB D dA a (((σ.l 13 (vp_updL (σ.2.2.1 13) pl (lN (x.1 + y.1)))).l 14 (vp_updL (σ.2.2.1 14) pl (lN (x.2.1 + y.2.1)))).b 15 (upd (σ.2.1 15) pl (nI x.2.2.1))) s.heap H locs := hM
      refine lv_aload_n hx hb dX1_add_81 rfl (lv_at hl 0 rfl) ?_
      refine m_get (v := .ref (a 16)) S hK hM.1 16 (by decide) fl_X1_45 rfl dX1_add_82 rfl ?_
      refine lv_iload_n hx hb dX1_add_85 rfl (lv_at hl 1 rfl) ?_
      refine lv_aload_n hx hb dX1_add_86 rfl (lv_at hl 0 rfl) ?_
      refine m_get (v := .ref (a 16)) S hK hM.1 16 (by decide) fl_X1_45 rfl dX1_add_87 rfl ?_
      refine lv_iload_n hx hb dX1_add_90 rfl (lv_at hl 2 rfl) ?_
      refine m_aldn (j := ch) (v := nI y.2.2.2 - 1) S hK hM.1 16 (by decide) rfl (show ch < 65536 by omega) dX1_add_91 (hy9.2.2.2) ?_
      refine lv_iconst (v := 1) hx hb dX1_add_92 (by decide) ?_
      refine lv_iadd hx hb dX1_add_93 ?_
      refine topi (z := nI y.2.2.2) (sub_add1 _) ?_
      refine lv_aload_n hx hb dX1_add_94 rfl (lv_at hl 0 rfl) ?_
      refine m_get (v := .ref (a 16)) S hK hM.1 16 (by decide) fl_X1_45 rfl dX1_add_95 rfl ?_
      refine lv_iload_n hx hb dX1_add_98 rfl (lv_at hl 1 rfl) ?_
      refine m_aldn (j := pl) (v := nI x.2.2.2 - 1) S hK hM.1 16 (by decide) rfl (show pl < 65536 by omega) dX1_add_99 (hx9.2.2.2) ?_
      refine lv_icmp_le (tgt := 114) hx hb dX1_add_100 (by decide) (fun c_100 => ?_) (fun c_100 => ?_)
      · have c_100 := (pred_le (by omega) (by omega)).mp c_100
        refine lv_aload_n hx hb dX1_add_114 rfl (lv_at hl 0 rfl) ?_
        refine m_get (v := .ref (a 16)) S hK hM.1 16 (by decide) fl_X1_45 rfl dX1_add_115 rfl ?_
        refine lv_iload_n hx hb dX1_add_118 rfl (lv_at hl 1 rfl) ?_
        refine m_aldn (j := pl) (v := nI x.2.2.2 - 1) S hK hM.1 16 (by decide) rfl (show pl < 65536 by omega) dX1_add_119 (hx9.2.2.2) ?_
        refine m_astn (j := pl) hI S hK hM 16 (by decide) rfl (show pl < 65536 by omega) dX1_add_120 (fun H locs hM => ?_)
        have hM : MB D dA a ((((σ.l 13 (vp_updL (σ.2.2.1 13) pl (lN (x.1 + y.1)))).l 14 (vp_updL (σ.2.2.1 14) pl (lN (x.2.1 + y.2.1)))).b 15 (upd (σ.2.1 15) pl (nI x.2.2.1))).b 16 (upd (σ.2.1 16) pl (nI x.2.2.2 - 1))) s.heap H locs := hM
        exact m_vret S hr hlk hM dX1_add_121 (⟨rfl, mSet_mk rfl rfl (by rw [cmb_F1 c_38 c_60]) (by rw [cmb_M1 c_38 c_100])⟩)
      · have c_100 : ¬ y.2.2.2 + 1 ≤ x.2.2.2 := fun h9 => c_100 ((pred_le (by omega) (by omega)).mpr h9)
        refine lv_aload_n hx hb dX1_add_103 rfl (lv_at hl 0 rfl) ?_
        refine m_get (v := .ref (a 16)) S hK hM.1 16 (by decide) fl_X1_45 rfl dX1_add_104 rfl ?_
        refine lv_iload_n hx hb dX1_add_107 rfl (lv_at hl 2 rfl) ?_
        refine m_aldn (j := ch) (v := nI y.2.2.2 - 1) S hK hM.1 16 (by decide) rfl (show ch < 65536 by omega) dX1_add_108 (hy9.2.2.2) ?_
        refine lv_iconst (v := 1) hx hb dX1_add_109 (by decide) ?_
        refine lv_iadd hx hb dX1_add_110 ?_
        refine topi (z := nI y.2.2.2) (sub_add1 _) ?_
        refine lv_goto (tgt := 120) hx hb dX1_add_111 (by decide) ?_
        refine m_astn (j := pl) hI S hK hM 16 (by decide) rfl (show pl < 65536 by omega) dX1_add_120 (fun H locs hM => ?_)
        have hM : MB D dA a ((((σ.l 13 (vp_updL (σ.2.2.1 13) pl (lN (x.1 + y.1)))).l 14 (vp_updL (σ.2.2.1 14) pl (lN (x.2.1 + y.2.1)))).b 15 (upd (σ.2.1 15) pl (nI x.2.2.1))).b 16 (upd (σ.2.1 16) pl (nI y.2.2.2))) s.heap H locs := hM
        exact m_vret S hr hlk hM dX1_add_121 (⟨rfl, mSet_mk rfl rfl (by rw [cmb_F1 c_38 c_60]) (by rw [cmb_M2 c_38 c_100]; exact nI_sub1 _)⟩)
    · have c_60 : ¬ x.2.2.1 ≤ y.2.2.1 + 1 := fun h9 => c_60 ((nI_leI (by omega) (by omega)).mpr h9)
      refine lv_aload_n hx hb dX1_add_63 rfl (lv_at hl 0 rfl) ?_
      refine m_get (v := .ref (a 15)) S hK hM.1 15 (by decide) fl_X1_42 rfl dX1_add_64 rfl ?_
      refine lv_iload_n hx hb dX1_add_67 rfl (lv_at hl 2 rfl) ?_
      refine m_aldn (j := ch) (v := nI y.2.2.1) S hK hM.1 15 (by decide) rfl (show ch < 65536 by omega) dX1_add_68 (hy9.2.2.1) ?_
      refine lv_iconst (v := 1) hx hb dX1_add_69 (by decide) ?_
      refine lv_iadd hx hb dX1_add_70 ?_
      refine topi (z := nI (y.2.2.1 + 1)) (nI_1 _) ?_
      refine lv_goto (tgt := 80) hx hb dX1_add_71 (by decide) ?_
      refine m_astn (j := pl) hI S hK hM 15 (by decide) rfl (show pl < 65536 by omega) dX1_add_80 (fun H locs hM => ?_)
      have hM : MB D dA a (((σ.l 13 (vp_updL (σ.2.2.1 13) pl (lN (x.1 + y.1)))).l 14 (vp_updL (σ.2.2.1 14) pl (lN (x.2.1 + y.2.1)))).b 15 (upd (σ.2.1 15) pl (nI (y.2.2.1 + 1)))) s.heap H locs := hM
      refine lv_aload_n hx hb dX1_add_81 rfl (lv_at hl 0 rfl) ?_
      refine m_get (v := .ref (a 16)) S hK hM.1 16 (by decide) fl_X1_45 rfl dX1_add_82 rfl ?_
      refine lv_iload_n hx hb dX1_add_85 rfl (lv_at hl 1 rfl) ?_
      refine lv_aload_n hx hb dX1_add_86 rfl (lv_at hl 0 rfl) ?_
      refine m_get (v := .ref (a 16)) S hK hM.1 16 (by decide) fl_X1_45 rfl dX1_add_87 rfl ?_
      refine lv_iload_n hx hb dX1_add_90 rfl (lv_at hl 2 rfl) ?_
      refine m_aldn (j := ch) (v := nI y.2.2.2 - 1) S hK hM.1 16 (by decide) rfl (show ch < 65536 by omega) dX1_add_91 (hy9.2.2.2) ?_
      refine lv_iconst (v := 1) hx hb dX1_add_92 (by decide) ?_
      refine lv_iadd hx hb dX1_add_93 ?_
      refine topi (z := nI y.2.2.2) (sub_add1 _) ?_
      refine lv_aload_n hx hb dX1_add_94 rfl (lv_at hl 0 rfl) ?_
      refine m_get (v := .ref (a 16)) S hK hM.1 16 (by decide) fl_X1_45 rfl dX1_add_95 rfl ?_
      refine lv_iload_n hx hb dX1_add_98 rfl (lv_at hl 1 rfl) ?_
      refine m_aldn (j := pl) (v := nI x.2.2.2 - 1) S hK hM.1 16 (by decide) rfl (show pl < 65536 by omega) dX1_add_99 (hx9.2.2.2) ?_
      refine lv_icmp_le (tgt := 114) hx hb dX1_add_100 (by decide) (fun c_100 => ?_) (fun c_100 => ?_)
      · have c_100 := (pred_le (by omega) (by omega)).mp c_100
        refine lv_aload_n hx hb dX1_add_114 rfl (lv_at hl 0 rfl) ?_
        refine m_get (v := .ref (a 16)) S hK hM.1 16 (by decide) fl_X1_45 rfl dX1_add_115 rfl ?_
        refine lv_iload_n hx hb dX1_add_118 rfl (lv_at hl 1 rfl) ?_
        refine m_aldn (j := pl) (v := nI x.2.2.2 - 1) S hK hM.1 16 (by decide) rfl (show pl < 65536 by omega) dX1_add_119 (hx9.2.2.2) ?_
        refine m_astn (j := pl) hI S hK hM 16 (by decide) rfl (show pl < 65536 by omega) dX1_add_120 (fun H locs hM => ?_)
        have hM : MB D dA a ((((σ.l 13 (vp_updL (σ.2.2.1 13) pl (lN (x.1 + y.1)))).l 14 (vp_updL (σ.2.2.1 14) pl (lN (x.2.1 + y.2.1)))).b 15 (upd (σ.2.1 15) pl (nI (y.2.2.1 + 1)))).b 16 (upd (σ.2.1 16) pl (nI x.2.2.2 - 1))) s.heap H locs := hM
        exact m_vret S hr hlk hM dX1_add_121 (⟨rfl, mSet_mk rfl rfl (by rw [cmb_F2 c_38 c_60]) (by rw [cmb_M1 c_38 c_100])⟩)
      · have c_100 : ¬ y.2.2.2 + 1 ≤ x.2.2.2 := fun h9 => c_100 ((pred_le (by omega) (by omega)).mpr h9)
        refine lv_aload_n hx hb dX1_add_103 rfl (lv_at hl 0 rfl) ?_
        refine m_get (v := .ref (a 16)) S hK hM.1 16 (by decide) fl_X1_45 rfl dX1_add_104 rfl ?_
        refine lv_iload_n hx hb dX1_add_107 rfl (lv_at hl 2 rfl) ?_
        refine m_aldn (j := ch) (v := nI y.2.2.2 - 1) S hK hM.1 16 (by decide) rfl (show ch < 65536 by omega) dX1_add_108 (hy9.2.2.2) ?_
        refine lv_iconst (v := 1) hx hb dX1_add_109 (by decide) ?_
        refine lv_iadd hx hb dX1_add_110 ?_
        refine topi (z := nI y.2.2.2) (sub_add1 _) ?_
        refine lv_goto (tgt := 120) hx hb dX1_add_111 (by decide) ?_
        refine m_astn (j := pl) hI S hK hM 16 (by decide) rfl (show pl < 65536 by omega) dX1_add_120 (fun H locs hM => ?_)
        have hM : MB D dA a ((((σ.l 13 (vp_updL (σ.2.2.1 13) pl (lN (x.1 + y.1)))).l 14 (vp_updL (σ.2.2.1 14) pl (lN (x.2.1 + y.2.1)))).b 15 (upd (σ.2.1 15) pl (nI (y.2.2.1 + 1)))).b 16 (upd (σ.2.1 16) pl (nI y.2.2.2))) s.heap H locs := hM
        exact m_vret S hr hlk hM dX1_add_121 (⟨rfl, mSet_mk rfl rfl (by rw [cmb_F2 c_38 c_60]) (by rw [cmb_M2 c_38 c_100]; exact nI_sub1 _)⟩)
theorem mSet_same {σ : MS} {pl : Nat} {x : V4} {f : Nat → Int32} (h : LPv σ pl x) : σ.b 12 f = mSet (σ.b 12 f) pl x := by
  have e1 : vp_updL (σ.2.2.1 13) pl (lN x.1) = σ.2.2.1 13 := by
    rw [← h.1]; funext j; unfold vp_updL; split
    · rename_i h; rw [h]
    · rfl
  have e2 : vp_updL (σ.2.2.1 14) pl (lN x.2.1) = σ.2.2.1 14 := by
    rw [← h.2.1]; funext j; unfold vp_updL; split
    · rename_i h; rw [h]
    · rfl
  have e3 : upd (σ.2.1 15) pl (nI x.2.2.1) = σ.2.1 15 := by rw [← h.2.2.1, upd_id]
  have e4 : upd (σ.2.1 16) pl (nI x.2.2.2 - 1) = σ.2.1 16 := by rw [← h.2.2.2, upd_id]
  show _ = ((((σ.b 12 f).l 13 (vp_updL (σ.2.2.1 13) pl (lN x.1))).l 14 (vp_updL (σ.2.2.1 14) pl (lN x.2.1))).b 15 (upd (σ.2.1 15) pl (nI x.2.2.1))).b 16 (upd (σ.2.1 16) pl (nI x.2.2.2 - 1))
  rw [e1, e2, e3, e4]
  have a1 : (σ.b 12 f).l 13 (σ.2.2.1 13) = σ.b 12 f := MS_idl (σ.b 12 f) 13
  have a2 : (σ.b 12 f).l 14 (σ.2.2.1 14) = σ.b 12 f := MS_idl (σ.b 12 f) 14
  have a3 : (σ.b 12 f).b 15 (σ.2.1 15) = σ.b 12 f := MS_idb (σ.b 12 f) 15
  have a4 : (σ.b 12 f).b 16 (σ.2.1 16) = σ.b 12 f := MS_idb (σ.b 12 f) 16
  rw [a1, a2, a3, a4]
set_option maxHeartbeats 4000000 in
theorem m1_close (l : Launch) (D : va_G) (dA : Nat → ClassId) (a : Nat → Nat) (hI : mInj a) (σ : MS) (pl sx n : Nat) (x : V4) (hpl : pl < 65536) (hs : sx < 65536) (hn : n < 5) (hmany : σ.1 22 = nI n) (hx9 : LPv σ pl x) (hxo : x.1 < 2 ^ 63) : MC l yX1_close cX1_close 4 none 2 44 D dA a [.ref (a 0), .int (nI pl), .int (nI sx)] σ (fun v9 σ9 => v9 = none ∧ σ9 = mSet (σ.b 12 (upd (σ.2.1 12) pl (σ.1 17))) pl (vEnd n sx x)) := by
  refine MC.of (by decide) (Nat.le_of_ble_eq_true rfl) ?_
  intro p e s m below meth c ls S hr hlk hK hM hl
  have hx := S.1
  have hb := S.2.1
  have hl : lv_has ls 4 [(0, .ref (a 0)), (1, .int (nI pl)), (2, .int (nI sx))] := hl
  refine lv_aload_n hx hb dX1_close_0 rfl (lv_at hl 0 rfl) ?_
  refine m_get (v := .ref (a 12)) S hK hM.1 12 (by decide) fl_X1_32 rfl dX1_close_1 rfl ?_
  refine lv_iload_n hx hb dX1_close_4 rfl (lv_at hl 1 rfl) ?_
  refine lv_aload_n hx hb dX1_close_5 rfl (lv_at hl 0 rfl) ?_
  refine m_get (v := .int (σ.1 17)) S hK hM.1 17 (by decide) fl_X1_161 rfl dX1_close_6 rfl ?_
  refine m_astn (j := pl) hI S hK hM 12 (by decide) rfl (show pl < 65536 by omega) dX1_close_9 (fun H locs hM => ?_)
  refine lv_aload_n hx hb dX1_close_10 rfl (lv_at hl 0 rfl) ?_
  refine m_get (v := .ref (a 13)) S hK hM.1 13 (by decide) fl_X1_35 rfl dX1_close_11 rfl ?_
  refine lv_iload_n hx hb dX1_close_14 rfl (lv_at hl 1 rfl) ?_
  refine m_lldn (j := pl) (v := lN x.1) S hK hM.1 13 (by decide) rfl (show pl < 65536 by omega) dX1_close_15 (hx9.1) ?_
  refine lv_lconst (v := 0) hx hb dX1_close_16 (by decide) ?_
  refine W.lcmp hx hb dX1_close_17 ?_
  refine lv_if_ne (tgt := 85) hx hb dX1_close_18 (by decide) (fun c_18 => ?_) (fun c_18 => ?_)
  · have c_18 := mt (lg_cmp_eq _ _).mpr c_18
    have c_18 : ¬ x.1 = 0 := fun h9 => c_18 ((lN_0 hxo).mpr h9)
    exact m_vret S hr hlk hM dX1_close_85 (⟨rfl, by rw [vEnd, if_neg c_18]; exact mSet_same hx9⟩)
  · have c_18 := (lg_cmp_eq _ _).mp c_18
    have c_18 := (lN_0 hxo).mp c_18
    refine lv_aload_n hx hb dX1_close_21 rfl (lv_at hl 0 rfl) ?_
    refine lv_iload_n hx hb dX1_close_22 rfl (lv_at hl 2 rfl) ?_
    refine lv_aload_n hx hb dX1_close_23 rfl (lv_at hl 0 rfl) ?_
    refine m_get (v := .int (σ.1 22)) S hK hM.1 22 (by decide) fl_X1_164 rfl dX1_close_24 rfl ?_
    refine topi (z := nI n) (hmany) ?_
    refine rc_Vi (rest := []) [.int (nI sx), .int (nI n)] 2 S hK (r1_areExperts l D dA (a 0) sx n (by first | assumption | omega | decide) (by first | assumption | omega | decide)) wl_X1_167 wd_X1_X1_areExperts rfl ⟨Nat.le_of_ble_eq_true rfl, Nat.le_of_ble_eq_true rfl⟩ (m_recv hK hM.1) hl.1 (Nat.le_of_ble_eq_true rfl) dX1_close_27 ⟨Nat.le_refl 0, Nat.le_refl 0⟩ (trivial) ?_ rfl
    refine lv_istore_n (lv' := [(3, .int (b2i (exB n sx))), (0, .ref (a 0)), (1, .int (nI pl)), (2, .int (nI sx))]) hx hb dX1_close_30 rfl hl (by decide) rfl (fun ls hl => ?_)
    refine lv_aload_n hx hb dX1_close_31 rfl (lv_at hl 1 rfl) ?_
    refine m_get (v := .ref (a 13)) S hK hM.1 13 (by decide) fl_X1_35 rfl dX1_close_32 rfl ?_
    refine lv_iload_n hx hb dX1_close_35 rfl (lv_at hl 2 rfl) ?_
    refine lv_lconst (v := 1) hx hb dX1_close_36 (by decide) ?_
    refine m_lstn (j := pl) hI S hK hM 13 (by decide) rfl (show pl < 65536 by omega) dX1_close_37 (fun H locs hM => ?_)
    have hM : MB D dA a ((σ.b 12 (upd (σ.2.1 12) pl (σ.1 17))).l 13 (vp_updL (σ.2.2.1 13) pl 1)) s.heap H locs := hM
    refine lv_aload_n hx hb dX1_close_38 rfl (lv_at hl 1 rfl) ?_
    refine m_get (v := .ref (a 14)) S hK hM.1 14 (by decide) fl_X1_39 rfl dX1_close_39 rfl ?_
    refine lv_iload_n hx hb dX1_close_42 rfl (lv_at hl 2 rfl) ?_
    refine lv_iload_n hx hb dX1_close_43 rfl (lv_at hl 0 rfl) ?_
    refine lv_if_eq (tgt := 51) hx hb dX1_close_44 (by decide) (fun c_44 => ?_) (fun c_44 => ?_)
    · have c_44 := b2i_eq0.mp c_44
      refine lv_lconst (v := 0) hx hb dX1_close_51 (by decide) ?_
      refine m_lstn (j := pl) hI S hK hM 14 (by decide) rfl (show pl < 65536 by omega) dX1_close_52 (fun H locs hM => ?_)
      have hM : MB D dA a (((σ.b 12 (upd (σ.2.1 12) pl (σ.1 17))).l 13 (vp_updL (σ.2.2.1 13) pl 1)).l 14 (vp_updL (σ.2.2.1 14) pl 0)) s.heap H locs := hM
      refine lv_aload_n hx hb dX1_close_53 rfl (lv_at hl 1 rfl) ?_
      refine m_get (v := .ref (a 15)) S hK hM.1 15 (by decide) fl_X1_42 rfl dX1_close_54 rfl ?_
      refine lv_iload_n hx hb dX1_close_57 rfl (lv_at hl 2 rfl) ?_
      refine lv_iload_n hx hb dX1_close_58 rfl (lv_at hl 0 rfl) ?_
      refine lv_if_eq (tgt := 66) hx hb dX1_close_59 (by decide) (fun c_59 => ?_) (fun c_59 => absurd (by rw [c_44]; rfl) c_59)
      refine lv_sipush (v := 1000) hx hb dX1_close_66 (by decide) ?_
      refine m_astn (j := pl) hI S hK hM 15 (by decide) rfl (show pl < 65536 by omega) dX1_close_69 (fun H locs hM => ?_)
      have hM : MB D dA a ((((σ.b 12 (upd (σ.2.1 12) pl (σ.1 17))).l 13 (vp_updL (σ.2.2.1 13) pl 1)).l 14 (vp_updL (σ.2.2.1 14) pl 0)).b 15 (upd (σ.2.1 15) pl 1000)) s.heap H locs := hM
      refine lv_aload_n hx hb dX1_close_70 rfl (lv_at hl 1 rfl) ?_
      refine m_get (v := .ref (a 16)) S hK hM.1 16 (by decide) fl_X1_45 rfl dX1_close_71 rfl ?_
      refine lv_iload_n hx hb dX1_close_74 rfl (lv_at hl 2 rfl) ?_
      refine lv_iload_n hx hb dX1_close_75 rfl (lv_at hl 0 rfl) ?_
      refine lv_if_eq (tgt := 83) hx hb dX1_close_76 (by decide) (fun c_76 => ?_) (fun c_76 => absurd (by rw [c_44]; rfl) c_76)
      refine lv_iconst (v := (-1)) hx hb dX1_close_83 (by decide) ?_
      refine m_astn (j := pl) hI S hK hM 16 (by decide) rfl (show pl < 65536 by omega) dX1_close_84 (fun H locs hM => ?_)
      have hM : MB D dA a (((((σ.b 12 (upd (σ.2.1 12) pl (σ.1 17))).l 13 (vp_updL (σ.2.2.1 13) pl 1)).l 14 (vp_updL (σ.2.2.1 14) pl 0)).b 15 (upd (σ.2.1 15) pl 1000)).b 16 (upd (σ.2.1 16) pl (-1))) s.heap H locs := hM
      exact m_vret S hr hlk hM dX1_close_85 (⟨rfl, by rw [vEnd, if_pos c_18, c_44]; exact mSet_mk rfl rfl rfl (by decide)⟩)
    · have c_44 := b2i_ne0.mp c_44
      refine lv_lconst (v := 1) hx hb dX1_close_47 (by decide) ?_
      refine lv_goto (tgt := 52) hx hb dX1_close_48 (by decide) ?_
      refine m_lstn (j := pl) hI S hK hM 14 (by decide) rfl (show pl < 65536 by omega) dX1_close_52 (fun H locs hM => ?_)
      have hM : MB D dA a (((σ.b 12 (upd (σ.2.1 12) pl (σ.1 17))).l 13 (vp_updL (σ.2.2.1 13) pl 1)).l 14 (vp_updL (σ.2.2.1 14) pl 1)) s.heap H locs := hM
      refine lv_aload_n hx hb dX1_close_53 rfl (lv_at hl 1 rfl) ?_
      refine m_get (v := .ref (a 15)) S hK hM.1 15 (by decide) fl_X1_42 rfl dX1_close_54 rfl ?_
      refine lv_iload_n hx hb dX1_close_57 rfl (lv_at hl 2 rfl) ?_
      refine lv_iload_n hx hb dX1_close_58 rfl (lv_at hl 0 rfl) ?_
      refine lv_if_eq (tgt := 66) hx hb dX1_close_59 (by decide) (fun c_59 => absurd c_59 (by rw [c_44]; decide)) (fun c_59 => ?_)
      refine lv_iconst (v := 0) hx hb dX1_close_62 (by decide) ?_
      refine lv_goto (tgt := 69) hx hb dX1_close_63 (by decide) ?_
      refine m_astn (j := pl) hI S hK hM 15 (by decide) rfl (show pl < 65536 by omega) dX1_close_69 (fun H locs hM => ?_)
      have hM : MB D dA a ((((σ.b 12 (upd (σ.2.1 12) pl (σ.1 17))).l 13 (vp_updL (σ.2.2.1 13) pl 1)).l 14 (vp_updL (σ.2.2.1 14) pl 1)).b 15 (upd (σ.2.1 15) pl 0)) s.heap H locs := hM
      refine lv_aload_n hx hb dX1_close_70 rfl (lv_at hl 1 rfl) ?_
      refine m_get (v := .ref (a 16)) S hK hM.1 16 (by decide) fl_X1_45 rfl dX1_close_71 rfl ?_
      refine lv_iload_n hx hb dX1_close_74 rfl (lv_at hl 2 rfl) ?_
      refine lv_iload_n hx hb dX1_close_75 rfl (lv_at hl 0 rfl) ?_
      refine lv_if_eq (tgt := 83) hx hb dX1_close_76 (by decide) (fun c_76 => absurd c_76 (by rw [c_44]; decide)) (fun c_76 => ?_)
      refine lv_iconst (v := 0) hx hb dX1_close_79 (by decide) ?_
      refine lv_goto (tgt := 84) hx hb dX1_close_80 (by decide) ?_
      refine m_astn (j := pl) hI S hK hM 16 (by decide) rfl (show pl < 65536 by omega) dX1_close_84 (fun H locs hM => ?_)
      have hM : MB D dA a (((((σ.b 12 (upd (σ.2.1 12) pl (σ.1 17))).l 13 (vp_updL (σ.2.2.1 13) pl 1)).l 14 (vp_updL (σ.2.2.1 14) pl 1)).b 15 (upd (σ.2.1 15) pl 0)).b 16 (upd (σ.2.1 16) pl 0)) s.heap H locs := hM
      exact m_vret S hr hlk hM dX1_close_85 (⟨rfl, by rw [vEnd, if_pos c_18, c_44]; exact mSet_mk rfl rfl rfl (by decide)⟩)
set_option maxHeartbeats 4000000 in
theorem r1_verdictAt (l : Launch) (D : va_G) (dA : Nat → ClassId) (a : Nat → Nat) (σ : MS) (pl : Nat) (x : V4) (hpl : pl < 65536) (hx9 : LPv σ pl x) (hxo : x.1 < 2 ^ 63) (hxo2 : x.2.1 ≤ x.1) : RC l yX1_verdictAt cX1_verdictAt 2 (some .int) 0 0 D dA [.ref (a 0), .int (nI pl)] (fun H => va_P D vwCl (mW dA a σ) H) (fun v9 => v9 = some (.int (vrd x))) := by
  refine RC.of (by decide) (Nat.le_of_ble_eq_true rfl) ?_
  intro p e s m below meth c ls S hr hlk hK hP hl
  have hx := S.1
  have hb := S.2.1
  have hl : lv_has ls 2 [(0, .ref (a 0)), (1, .int (nI pl))] := hl
  have hP : va_P D vwCl (mW dA a σ) s.heap := hP
  refine lv_aload_n hx hb dX1_verdictAt_0 rfl (lv_at hl 0 rfl) ?_
  refine m_get (v := .ref (a 14)) S hK hP 14 (by decide) fl_X1_39 rfl dX1_verdictAt_1 rfl ?_
  refine lv_iload_n hx hb dX1_verdictAt_4 rfl (lv_at hl 1 rfl) ?_
  refine m_lldn (j := pl) (v := lN x.2.1) S hK hP 14 (by decide) rfl (show pl < 65536 by omega) dX1_verdictAt_5 (hx9.2.1) ?_
  refine lv_lconst (v := 0) hx hb dX1_verdictAt_6 (by decide) ?_
  refine W.lcmp hx hb dX1_verdictAt_7 ?_
  refine lv_if_ne (tgt := 15) hx hb dX1_verdictAt_8 (by decide) (fun c_8 => ?_) (fun c_8 => ?_)
  · have c_8 := mt (lg_cmp_eq _ _).mpr c_8
    have c_8 : ¬ x.2.1 = 0 := fun h9 => c_8 ((lN_0 (by omega)).mpr h9)
    refine lv_aload_n hx hb dX1_verdictAt_15 rfl (lv_at hl 0 rfl) ?_
    refine m_get (v := .ref (a 14)) S hK hP 14 (by decide) fl_X1_39 rfl dX1_verdictAt_16 rfl ?_
    refine lv_iload_n hx hb dX1_verdictAt_19 rfl (lv_at hl 1 rfl) ?_
    refine m_lldn (j := pl) (v := lN x.2.1) S hK hP 14 (by decide) rfl (show pl < 65536 by omega) dX1_verdictAt_20 (hx9.2.1) ?_
    refine lv_aload_n hx hb dX1_verdictAt_21 rfl (lv_at hl 0 rfl) ?_
    refine m_get (v := .ref (a 13)) S hK hP 13 (by decide) fl_X1_35 rfl dX1_verdictAt_22 rfl ?_
    refine lv_iload_n hx hb dX1_verdictAt_25 rfl (lv_at hl 1 rfl) ?_
    refine m_lldn (j := pl) (v := lN x.1) S hK hP 13 (by decide) rfl (show pl < 65536 by omega) dX1_verdictAt_26 (hx9.1) ?_
    refine W.lcmp hx hb dX1_verdictAt_27 ?_
    refine lv_if_ne (tgt := 35) hx hb dX1_verdictAt_28 (by decide) (fun c_28 => ?_) (fun c_28 => ?_)
    · have c_28 := mt (lg_cmp_eq _ _).mpr c_28
      have c_28 : ¬ x.2.1 = x.1 := fun h9 => c_28 ((pk_lEQ (by omega) hxo).mpr h9)
      refine lv_iconst (v := 1) hx hb dX1_verdictAt_35 (by decide) ?_
      exact r_iret S hr hlk dX1_verdictAt_36 (congrArg (fun z : Int32 => some (Value.int z)) (show 1 = vrd x from by simp [vrd, *]))
    · have c_28 := (lg_cmp_eq _ _).mp c_28
      have c_28 := (pk_lEQ (by omega) hxo).mp c_28
      refine lv_iconst (v := 2) hx hb dX1_verdictAt_31 (by decide) ?_
      refine lv_goto (tgt := 36) hx hb dX1_verdictAt_32 (by decide) ?_
      exact r_iret S hr hlk dX1_verdictAt_36 (congrArg (fun z : Int32 => some (Value.int z)) (show 2 = vrd x from by rw [vrd, if_neg c_8, if_pos c_28]))
  · have c_8 := (lg_cmp_eq _ _).mp c_8
    have c_8 := (lN_0 (by omega)).mp c_8
    refine lv_iconst (v := 0) hx hb dX1_verdictAt_11 (by decide) ?_
    refine lv_goto (tgt := 36) hx hb dX1_verdictAt_12 (by decide) ?_
    exact r_iret S hr hlk dX1_verdictAt_36 (congrArg (fun z : Int32 => some (Value.int z)) (show 0 = vrd x from by simp [vrd, *]))
