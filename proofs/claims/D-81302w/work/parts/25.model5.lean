/-! MODEL 5: pieces of lay (by program: gen/model5.py) -/
set_option maxRecDepth 100000
set_option maxHeartbeats 4000000 in
/-- all pairs are gone through: the state is closed -/
theorem lay_A {p : Program} {l : Launch} {e : Env} {s : State} {m : MethodId} {args : Array Value} {below : List Frame} {meth : Method} {c : Code} {Q : State → Prop} {D : va_G} {dA : Nat → ClassId} {a : Nat → Nat} (hI : mInj a) (S : CallFix p m c cX1_lay 13 s args lw_all RX1) (hK : va_K D vwCl (tyL dA) s) {n r kk : Nat} {net : Nat → Nat} {tn x1 x2 x3 : Int32} (hn : n < 5) (hr4 : r < 4) {d sx tx : Nat} (hv : vld n sx) (ht : tx < 16) (hd : d + mu sx ≤ 15) (hm0 : mu sx ≤ 15) {σ1 : MS} (H : Heap) (locs : List Loc) (hM : MB D dA a σ1 s.heap H locs) (hLK : LKm a σ1 n net r tn kk) (hTB : TBm σ1 n net r tn) (hun : ¬ σ1.2.1 12 (plc sx tx) = tn) (hF : LFm σ1 d sx tx 16) (hP9 : PAm σ1 n net r tn sx tx 16) (hk : (∀ (σ2 : MS) (H : Heap) (locs : List Loc), MB D dA a σ2 s.heap H locs → LKm a σ2 n net r tn kk → TBm σ2 n net r tn → σ2.2.1 12 (plc sx tx) = tn → FRm n σ1 σ2 d (mu sx) → ∀ (ls : Array Slot), lv_has ls 13 [(4, .int (nI d - 1)), (3, .int x3), (0, .ref (a 0)), (1, .int x1), (2, .int x2)] → W p l e ({ frames := 6, cells := 0, slots := 0, locals := 200 }) s m args below meth c H locs 0 0 Q (F0 m 31 ls []))) (ls : Array Slot) (hl : lv_has ls 13 [(4, .int (nI d)), (3, .int x3), (0, .ref (a 0)), (1, .int x1), (2, .int x2)]) : W p l e ({ frames := 6, cells := 0, slots := 0, locals := 200 }) s m args below meth c H locs 0 0 Q (F0 m 31 ls []) := by
  have hx := S.1
  have hb := S.2.1
  have hs := hv.1
  have hpl := plc_lt sx tx
  have hxo : (vAcc (val net n r) net n r sx tx 16).1 < 2 ^ 63 := Nat.lt_of_le_of_lt (vAccV_ok hn hv hm0 16 (by omega)).1 (by decide)
  refine lv_iload hx hb dX1_lay_31 (lv_at hl 0 rfl) ?_
  refine lv_if_lt (tgt := 247) hx hb dX1_lay_33 (by decide) (fun c_33 => absurd c_33 (nI_pos (by omega))) (fun c_33 => ?_)
  refine lv_aload_n hx hb dX1_lay_36 rfl (lv_at hl 2 rfl) ?_
  refine m_get (v := .ref (a 18)) S hK hM.1 18 (by decide) fl_X1_48 rfl dX1_lay_37 rfl ?_
  refine lv_iload hx hb dX1_lay_40 (lv_at hl 0 rfl) ?_
  refine m_aldn (j := d) (v := nI sx) S hK hM.1 18 (by decide) rfl (show d < 16 by omega) dX1_lay_42 (hF.1) ?_
  refine lv_istore (lv' := [(5, .int (nI sx)), (4, .int (nI d)), (3, .int x3), (0, .ref (a 0)), (1, .int x1), (2, .int x2)]) hx hb dX1_lay_43 hl (by decide) rfl (fun ls hl => ?_)
  refine lv_aload_n hx hb dX1_lay_45 rfl (lv_at hl 3 rfl) ?_
  refine m_get (v := .ref (a 19)) S hK hM.1 19 (by decide) fl_X1_51 rfl dX1_lay_46 rfl ?_
  refine lv_iload hx hb dX1_lay_49 (lv_at hl 1 rfl) ?_
  refine m_aldn (j := d) (v := nI tx) S hK hM.1 19 (by decide) rfl (show d < 16 by omega) dX1_lay_51 (hF.2.1) ?_
  refine lv_istore (lv' := [(6, .int (nI tx)), (5, .int (nI sx)), (4, .int (nI d)), (3, .int x3), (0, .ref (a 0)), (1, .int x1), (2, .int x2)]) hx hb dX1_lay_52 hl (by decide) rfl (fun ls hl => ?_)
  refine lv_aload_n hx hb dX1_lay_54 rfl (lv_at hl 4 rfl) ?_
  refine m_get (v := .ref (a 20)) S hK hM.1 20 (by decide) fl_X1_54 rfl dX1_lay_55 rfl ?_
  refine lv_iload hx hb dX1_lay_58 (lv_at hl 2 rfl) ?_
  refine m_aldn (j := d) (v := nI 16) S hK hM.1 20 (by decide) rfl (show d < 16 by omega) dX1_lay_60 (hF.2.2) ?_
  refine lv_istore (lv' := [(7, .int (nI 16)), (6, .int (nI tx)), (5, .int (nI sx)), (4, .int (nI d)), (3, .int x3), (0, .ref (a 0)), (1, .int x1), (2, .int x2)]) hx hb dX1_lay_61 hl (by decide) rfl (fun ls hl => ?_)
  refine lv_iload hx hb dX1_lay_63 (lv_at hl 0 rfl) ?_
  refine lv_bipush (v := 16) hx hb dX1_lay_65 (by decide) ?_
  refine lv_icmp_ne (tgt := 89) hx hb dX1_lay_67 (by decide) (fun c_67 => absurd (rfl) c_67) (fun c_67 => ?_)
  refine lv_aload_n hx hb dX1_lay_70 rfl (lv_at hl 5 rfl) ?_
  refine lv_iload hx hb dX1_lay_71 (lv_at hl 2 rfl) ?_
  refine lv_iload hx hb dX1_lay_73 (lv_at hl 1 rfl) ?_
  refine rc_Si (rest := [.ref (a 0)]) [.int (nI sx), .int (nI tx)] 2 S hK (r1_placeOf l D dA sx tx (by first | assumption | omega | decide) (by first | assumption | omega | decide)) wl_X1_158 wd_X1_X1_placeOf rfl ⟨Nat.le_of_ble_eq_true rfl, Nat.le_of_ble_eq_true rfl⟩ hl.1 (Nat.le_of_ble_eq_true rfl) dX1_lay_75 ⟨Nat.le_refl 0, Nat.le_refl 0⟩ (trivial) ?_ rfl
  refine lv_iload hx hb dX1_lay_78 (lv_at hl 2 rfl) ?_
  refine mc_Vv (rest := []) [.int (nI (plc sx tx)), .int (nI sx)] 2 S hK hM (m1_close l D dA a hI σ1 (plc sx tx) sx n _ hpl hs hn hLK.2.2.2.1 hP9.1 hxo) wl_X1_174 wd_X1_X1_close rfl ⟨Nat.le_of_ble_eq_true rfl, Nat.le_of_ble_eq_true rfl⟩ hl.1 (Nat.le_of_ble_eq_true rfl) dX1_lay_80 ⟨Nat.le_refl 0, Nat.le_refl 0⟩ (fun H locs hM => ?_) rfl
  refine lv_iinc (v := nI d - 1) (lv' := [(4, .int (nI d - 1)), (7, .int (nI 16)), (6, .int (nI tx)), (5, .int (nI sx)), (3, .int x3), (0, .ref (a 0)), (1, .int x1), (2, .int x2)]) hx hb dX1_lay_83 hl (k := 3) rfl (dec1 _) (by decide) rfl (fun ls hl => ?_)
  refine lv_goto (tgt := 31) hx hb dX1_lay_86 (by decide) ?_
  have e9 : vEnd n sx (vAcc (val net n r) net n r sx tx 16) = val net n r sx tx := (val_eq hn hv).symm
  rw [e9, hLK.2.2.2.2.2] at hM
  exact hk _ H locs hM (hLK.fr (FRm.close (d := d) hv ht hLK.2.2.2.2.2.symm)) (hTB.close hv ht hP9.2) seen_close (FRm.close hv ht hLK.2.2.2.2.2.symm) ls (lv_sub hl [0, 4, 5, 6, 7] rfl)
set_option maxHeartbeats 4000000 in
/-- a pair that is not allowed, or whose state is seen -/
theorem lay_B {p : Program} {l : Launch} {e : Env} {s : State} {m : MethodId} {args : Array Value} {below : List Frame} {meth : Method} {c : Code} {Q : State → Prop} {D : va_G} {dA : Nat → ClassId} {a : Nat → Nat} (hI : mInj a) (S : CallFix p m c cX1_lay 13 s args lw_all RX1) (hK : va_K D vwCl (tyL dA) s) {n r kk : Nat} {net : Nat → Nat} {tn x1 x2 x3 : Int32} (hn : n < 5) (hr4 : r < 4) {d sx tx : Nat} (hv : vld n sx) (ht : tx < 16) (hd : d + mu sx ≤ 15) (hm0 : mu sx ≤ 15) {σ1 : MS} {j : Nat} (hj : j < 16) (ih : ∀ (σ1 : MS) (H : Heap) (locs : List Loc), MB D dA a σ1 s.heap H locs → LKm a σ1 n net r tn kk → TBm σ1 n net r tn → ¬ σ1.2.1 12 (plc sx tx) = tn → LFm σ1 d sx tx (j + 1) → PAm σ1 n net r tn sx tx (j + 1) → (∀ (σ2 : MS) (H : Heap) (locs : List Loc), MB D dA a σ2 s.heap H locs → LKm a σ2 n net r tn kk → TBm σ2 n net r tn → σ2.2.1 12 (plc sx tx) = tn → FRm n σ1 σ2 d (mu sx) → ∀ (ls : Array Slot), lv_has ls 13 [(4, .int (nI d - 1)), (3, .int x3), (0, .ref (a 0)), (1, .int x1), (2, .int x2)] → W p l e ({ frames := 6, cells := 0, slots := 0, locals := 200 }) s m args below meth c H locs 0 0 Q (F0 m 31 ls [])) → ∀ (ls : Array Slot), lv_has ls 13 [(4, .int (nI d)), (3, .int x3), (0, .ref (a 0)), (1, .int x1), (2, .int x2)] → W p l e ({ frames := 6, cells := 0, slots := 0, locals := 200 }) s m args below meth c H locs 0 0 Q (F0 m 31 ls [])) (H : Heap) (locs : List Loc) (hM : MB D dA a σ1 s.heap H locs) (hLK : LKm a σ1 n net r tn kk) (hTB : TBm σ1 n net r tn) (hun : ¬ σ1.2.1 12 (plc sx tx) = tn) (hF : LFm σ1 d sx tx j) (hP9 : PAm σ1 n net r tn sx tx j) (hk : (∀ (σ2 : MS) (H : Heap) (locs : List Loc), MB D dA a σ2 s.heap H locs → LKm a σ2 n net r tn kk → TBm σ2 n net r tn → σ2.2.1 12 (plc sx tx) = tn → FRm n σ1 σ2 d (mu sx) → ∀ (ls : Array Slot), lv_has ls 13 [(4, .int (nI d - 1)), (3, .int x3), (0, .ref (a 0)), (1, .int x1), (2, .int x2)] → W p l e ({ frames := 6, cells := 0, slots := 0, locals := 200 }) s m args below meth c H locs 0 0 Q (F0 m 31 ls []))) (hseen : okP net n r sx tx j = true → σ1.2.1 12 (plc (aft sx (j / 4) (j % 4)) (tkA r tx (j / 4) (j % 4))) = tn) (ls : Array Slot) (hl : lv_has ls 13 [(4, .int (nI d)), (3, .int x3), (0, .ref (a 0)), (1, .int x1), (2, .int x2)]) : W p l e ({ frames := 6, cells := 0, slots := 0, locals := 200 }) s m args below meth c H locs 0 0 Q (F0 m 31 ls []) := by
  have hx := S.1
  have hb := S.2.1
  have hs := hv.1
  have hpl := plc_lt sx tx
  have hp4 : j / 4 < 4 := by omega
  have hq4 : j % 4 < 4 := by omega
  refine lv_iload hx hb dX1_lay_31 (lv_at hl 0 rfl) ?_
  refine lv_if_lt (tgt := 247) hx hb dX1_lay_33 (by decide) (fun c_33 => absurd c_33 (nI_pos (by omega))) (fun c_33 => ?_)
  refine lv_aload_n hx hb dX1_lay_36 rfl (lv_at hl 2 rfl) ?_
  refine m_get (v := .ref (a 18)) S hK hM.1 18 (by decide) fl_X1_48 rfl dX1_lay_37 rfl ?_
  refine lv_iload hx hb dX1_lay_40 (lv_at hl 0 rfl) ?_
  refine m_aldn (j := d) (v := nI sx) S hK hM.1 18 (by decide) rfl (show d < 16 by omega) dX1_lay_42 (hF.1) ?_
  refine lv_istore (lv' := [(5, .int (nI sx)), (4, .int (nI d)), (3, .int x3), (0, .ref (a 0)), (1, .int x1), (2, .int x2)]) hx hb dX1_lay_43 hl (by decide) rfl (fun ls hl => ?_)
  refine lv_aload_n hx hb dX1_lay_45 rfl (lv_at hl 3 rfl) ?_
  refine m_get (v := .ref (a 19)) S hK hM.1 19 (by decide) fl_X1_51 rfl dX1_lay_46 rfl ?_
  refine lv_iload hx hb dX1_lay_49 (lv_at hl 1 rfl) ?_
  refine m_aldn (j := d) (v := nI tx) S hK hM.1 19 (by decide) rfl (show d < 16 by omega) dX1_lay_51 (hF.2.1) ?_
  refine lv_istore (lv' := [(6, .int (nI tx)), (5, .int (nI sx)), (4, .int (nI d)), (3, .int x3), (0, .ref (a 0)), (1, .int x1), (2, .int x2)]) hx hb dX1_lay_52 hl (by decide) rfl (fun ls hl => ?_)
  refine lv_aload_n hx hb dX1_lay_54 rfl (lv_at hl 4 rfl) ?_
  refine m_get (v := .ref (a 20)) S hK hM.1 20 (by decide) fl_X1_54 rfl dX1_lay_55 rfl ?_
  refine lv_iload hx hb dX1_lay_58 (lv_at hl 2 rfl) ?_
  refine m_aldn (j := d) (v := nI j) S hK hM.1 20 (by decide) rfl (show d < 16 by omega) dX1_lay_60 (hF.2.2) ?_
  refine lv_istore (lv' := [(7, .int (nI j)), (6, .int (nI tx)), (5, .int (nI sx)), (4, .int (nI d)), (3, .int x3), (0, .ref (a 0)), (1, .int x1), (2, .int x2)]) hx hb dX1_lay_61 hl (by decide) rfl (fun ls hl => ?_)
  refine lv_iload hx hb dX1_lay_63 (lv_at hl 0 rfl) ?_
  refine lv_bipush (v := 16) hx hb dX1_lay_65 (by decide) ?_
  refine lv_icmp_ne (tgt := 89) hx hb dX1_lay_67 (by decide) (fun c_67 => ?_) (fun c_67 => absurd (c_67) (nI_ne (b := 16) (by omega) (by decide) (by omega)))
  refine lv_iload hx hb dX1_lay_89 (lv_at hl 0 rfl) ?_
  refine lv_iconst (v := 4) hx hb dX1_lay_91 (by decide) ?_
  refine lv_idiv hx hb dX1_lay_92 (by decide) ?_
  refine topi (z := nI (j / 4)) (pk_div (d := 4) (by omega) (by decide) (by decide)) ?_
  refine lv_istore (lv' := [(8, .int (nI (j / 4))), (7, .int (nI j)), (6, .int (nI tx)), (5, .int (nI sx)), (4, .int (nI d)), (3, .int x3), (0, .ref (a 0)), (1, .int x1), (2, .int x2)]) hx hb dX1_lay_93 hl (by decide) rfl (fun ls hl => ?_)
  refine lv_iload hx hb dX1_lay_95 (lv_at hl 1 rfl) ?_
  refine lv_iconst (v := 4) hx hb dX1_lay_97 (by decide) ?_
  refine lv_irem hx hb dX1_lay_98 (by decide) ?_
  refine topi (z := nI (j % 4)) (pk_rem (d := 4) (by omega) (by decide) (by decide)) ?_
  refine lv_istore (lv' := [(9, .int (nI (j % 4))), (8, .int (nI (j / 4))), (7, .int (nI j)), (6, .int (nI tx)), (5, .int (nI sx)), (4, .int (nI d)), (3, .int x3), (0, .ref (a 0)), (1, .int x1), (2, .int x2)]) hx hb dX1_lay_99 hl (by decide) rfl (fun ls hl => ?_)
  refine lv_iload hx hb dX1_lay_101 (lv_at hl 1 rfl) ?_
  refine lv_aload_n hx hb dX1_lay_103 rfl (lv_at hl 7 rfl) ?_
  refine m_get (v := .int (σ1.1 22)) S hK hM.1 22 (by decide) fl_X1_164 rfl dX1_lay_104 rfl ?_
  refine topi (z := nI n) (hLK.2.2.2.1) ?_
  refine lv_icmp_ge (tgt := 141) hx hb dX1_lay_107 (by decide) (fun c_107 => ?_) (fun c_107 => ?_)
  · have c_107 := nlt_of_le (by omega) (by omega) c_107
    refine lv_aload_n hx hb dX1_lay_141 rfl (lv_at hl 7 rfl) ?_
    refine m_get (v := .ref (a 20)) S hK hM.1 20 (by decide) fl_X1_54 rfl dX1_lay_142 rfl ?_
    refine lv_iload hx hb dX1_lay_145 (lv_at hl 5 rfl) ?_
    refine lv_dup2_11 hx hb dX1_lay_147 rfl rfl ?_
    refine m_aldn (j := d) (v := nI j) S hK hM.1 20 (by decide) rfl (show d < 16 by omega) dX1_lay_148 (hF.2.2) ?_
    refine lv_iconst (v := 1) hx hb dX1_lay_149 (by decide) ?_
    refine lv_iadd hx hb dX1_lay_150 ?_
    refine topi (z := nI (j + 1)) (nI_1 j) ?_
    refine m_astn (j := d) hI S hK hM 20 (by decide) rfl (show d < 16 by omega) dX1_lay_151 (fun H locs hM => ?_)
    refine lv_goto (tgt := 31) hx hb dX1_lay_152 (by decide) ?_
    have hno : okP net n r sx tx j = false := by
      simp only [okP, Bool.and_eq_false_iff, decide_eq_false_iff_not]
      exact Or.inl (Or.inl c_107)
    have fr9 : FRm n σ1 (σ1.b 20 (upd (σ1.2.1 20) d (nI (j + 1)))) d (mu sx) := FRm.next
    exact ih _ H locs hM (hLK.fr fr9) (TBm.next hTB) hun ⟨hF.1, hF.2.1, pk_us⟩ ⟨by rw [vAcc_f hno]; exact hP9.1, fun i hi ho => (by by_cases h9 : i = j; (subst h9; rw [hno] at ho; cases ho); exact hP9.2 i (by omega) ho)⟩ (fun σ2 H locs hM h1 h2 h3 h4 ls hl => hk σ2 H locs hM h1 h2 h3 (fr9.tr h4) ls hl) ls (lv_sub hl [5, 6, 7, 8, 9] rfl)
  · have c_107 := lt_of_nle (by omega) c_107
    refine lv_iload hx hb dX1_lay_110 (lv_at hl 0 rfl) ?_
    refine lv_aload_n hx hb dX1_lay_112 rfl (lv_at hl 7 rfl) ?_
    refine m_get (v := .int (σ1.1 22)) S hK hM.1 22 (by decide) fl_X1_164 rfl dX1_lay_113 rfl ?_
    refine topi (z := nI n) (hLK.2.2.2.1) ?_
    refine lv_icmp_ge (tgt := 141) hx hb dX1_lay_116 (by decide) (fun c_116 => ?_) (fun c_116 => ?_)
    · have c_116 := nlt_of_le (by omega) (by omega) c_116
      refine lv_aload_n hx hb dX1_lay_141 rfl (lv_at hl 7 rfl) ?_
      refine m_get (v := .ref (a 20)) S hK hM.1 20 (by decide) fl_X1_54 rfl dX1_lay_142 rfl ?_
      refine lv_iload hx hb dX1_lay_145 (lv_at hl 5 rfl) ?_
      refine lv_dup2_11 hx hb dX1_lay_147 rfl rfl ?_
      refine m_aldn (j := d) (v := nI j) S hK hM.1 20 (by decide) rfl (show d < 16 by omega) dX1_lay_148 (hF.2.2) ?_
      refine lv_iconst (v := 1) hx hb dX1_lay_149 (by decide) ?_
      refine lv_iadd hx hb dX1_lay_150 ?_
      refine topi (z := nI (j + 1)) (nI_1 j) ?_
      refine m_astn (j := d) hI S hK hM 20 (by decide) rfl (show d < 16 by omega) dX1_lay_151 (fun H locs hM => ?_)
      refine lv_goto (tgt := 31) hx hb dX1_lay_152 (by decide) ?_
      have hno : okP net n r sx tx j = false := by
        simp only [okP, Bool.and_eq_false_iff, decide_eq_false_iff_not]
        exact Or.inl (Or.inr c_116)
      have fr9 : FRm n σ1 (σ1.b 20 (upd (σ1.2.1 20) d (nI (j + 1)))) d (mu sx) := FRm.next
      exact ih _ H locs hM (hLK.fr fr9) (TBm.next hTB) hun ⟨hF.1, hF.2.1, pk_us⟩ ⟨by rw [vAcc_f hno]; exact hP9.1, fun i hi ho => (by by_cases h9 : i = j; (subst h9; rw [hno] at ho; cases ho); exact hP9.2 i (by omega) ho)⟩ (fun σ2 H locs hM h1 h2 h3 h4 ls hl => hk σ2 H locs hM h1 h2 h3 (fr9.tr h4) ls hl) ls (lv_sub hl [5, 6, 7, 8, 9] rfl)
    · have c_116 := lt_of_nle (by omega) c_116
      refine lv_aload_n hx hb dX1_lay_119 rfl (lv_at hl 7 rfl) ?_
      refine m_get (v := .ref σ1.2.2.2) S hK hM.1 21 (by decide) fl_X1_57 rfl dX1_lay_120 rfl ?_
      refine lv_aload_n hx hb dX1_lay_123 rfl (lv_at hl 7 rfl) ?_
      refine m_get (v := .int (σ1.1 23)) S hK hM.1 23 (by decide) fl_X1_178 rfl dX1_lay_124 rfl ?_
      refine topi (z := nI r) (hLK.2.2.2.2.1) ?_
      refine lv_iload hx hb dX1_lay_127 (lv_at hl 4 rfl) ?_
      refine lv_iload hx hb dX1_lay_129 (lv_at hl 3 rfl) ?_
      refine lv_iload hx hb dX1_lay_131 (lv_at hl 1 rfl) ?_
      refine lv_iload hx hb dX1_lay_133 (lv_at hl 0 rfl) ?_
      refine rc_Si (rest := []) [.ref σ1.2.2.2, .int (nI r), .int (nI sx), .int (nI tx), .int (nI (j / 4)), .int (nI (j % 4))] 6 S hK (r1_mayRing l D dA σ1.2.2.2 (σ1.2.1 kk) net r sx tx (j / 4) (j % 4) (fun q hq => (hLK.2.2.1 q hq).1) (fun q hq => (hLK.2.2.1 q hq).2) (by first | assumption | omega | decide) (by first | assumption | omega | decide) (by first | assumption | omega | decide) (by first | assumption | omega | decide) (by first | assumption | omega | decide)) wl_X1_153 wd_X1_X1_mayRing rfl ⟨Nat.le_of_ble_eq_true rfl, Nat.le_of_ble_eq_true rfl⟩ hl.1 (Nat.le_of_ble_eq_true rfl) dX1_lay_135 ⟨Nat.le_refl 0, Nat.le_refl 0⟩ (LK_cell hLK hM.1) ?_ rfl
      refine lv_if_ne (tgt := 155) hx hb dX1_lay_138 (by decide) (fun c_138 => ?_) (fun c_138 => ?_)
      · have c_138 := b2i_ne0.mp c_138
        have hok : okP net n r sx tx j = true := by simp only [okP, Bool.and_eq_true, decide_eq_true_eq]; exact ⟨⟨c_107, c_116⟩, c_138⟩
        obtain ⟨hvc, hmc⟩ := okP_mu hn hv hok
        have hsc := hvc.1
        have htc : tkA r tx (j / 4) (j % 4) < 16 := tkA_lt ht (by omega)
        have hplc := plc_lt (aft sx (j / 4) (j % 4)) (tkA r tx (j / 4) (j % 4))
        have hne : plc (aft sx (j / 4) (j % 4)) (tkA r tx (j / 4) (j % 4)) ≠ plc sx tx := fun e => by have := (plc_inj hvc hv htc ht e).1; rw [this] at hmc; omega
        refine lv_iload hx hb dX1_lay_155 (lv_at hl 4 rfl) ?_
        refine lv_iload hx hb dX1_lay_157 (lv_at hl 1 rfl) ?_
        refine lv_iload hx hb dX1_lay_159 (lv_at hl 0 rfl) ?_
        refine rc_Si (rest := []) [.int (nI sx), .int (nI (j / 4)), .int (nI (j % 4))] 3 S hK (r1_afterCall l D dA sx (j / 4) (j % 4) (by first | assumption | omega | decide) (by first | assumption | omega | decide) (by first | assumption | omega | decide)) wl_X1_117 wd_X1_X1_afterCall rfl ⟨Nat.le_of_ble_eq_true rfl, Nat.le_of_ble_eq_true rfl⟩ hl.1 (Nat.le_of_ble_eq_true rfl) dX1_lay_161 ⟨Nat.le_refl 0, Nat.le_refl 0⟩ (trivial) ?_ rfl
        refine lv_istore (lv' := [(10, .int (nI (aft sx (j / 4) (j % 4)))), (9, .int (nI (j % 4))), (8, .int (nI (j / 4))), (7, .int (nI j)), (6, .int (nI tx)), (5, .int (nI sx)), (4, .int (nI d)), (3, .int x3), (0, .ref (a 0)), (1, .int x1), (2, .int x2)]) hx hb dX1_lay_164 hl (by decide) rfl (fun ls hl => ?_)
        refine lv_iload hx hb dX1_lay_166 (lv_at hl 4 rfl) ?_
        refine lv_aload_n hx hb dX1_lay_168 rfl (lv_at hl 8 rfl) ?_
        refine m_get (v := .int (σ1.1 23)) S hK hM.1 23 (by decide) fl_X1_178 rfl dX1_lay_169 rfl ?_
        refine topi (z := nI r) (hLK.2.2.2.2.1) ?_
        refine lv_iload hx hb dX1_lay_172 (lv_at hl 2 rfl) ?_
        refine lv_iload hx hb dX1_lay_174 (lv_at hl 1 rfl) ?_
        refine rc_Si (rest := []) [.int (nI tx), .int (nI r), .int (nI (j / 4)), .int (nI (j % 4))] 4 S hK (r1_tokensAfter l D dA tx r (j / 4) (j % 4) (by first | assumption | omega | decide) (by first | assumption | omega | decide) (by first | assumption | omega | decide) (by first | assumption | omega | decide)) wl_X1_121 wd_X1_X1_tokensAfter rfl ⟨Nat.le_of_ble_eq_true rfl, Nat.le_of_ble_eq_true rfl⟩ hl.1 (Nat.le_of_ble_eq_true rfl) dX1_lay_176 ⟨Nat.le_refl 0, Nat.le_refl 0⟩ (trivial) ?_ rfl
        refine lv_istore (lv' := [(11, .int (nI (tkA r tx (j / 4) (j % 4)))), (10, .int (nI (aft sx (j / 4) (j % 4)))), (9, .int (nI (j % 4))), (8, .int (nI (j / 4))), (7, .int (nI j)), (6, .int (nI tx)), (5, .int (nI sx)), (4, .int (nI d)), (3, .int x3), (0, .ref (a 0)), (1, .int x1), (2, .int x2)]) hx hb dX1_lay_179 hl (by decide) rfl (fun ls hl => ?_)
        refine lv_iload hx hb dX1_lay_181 (lv_at hl 1 rfl) ?_
        refine lv_iload hx hb dX1_lay_183 (lv_at hl 0 rfl) ?_
        refine rc_Si (rest := []) [.int (nI (aft sx (j / 4) (j % 4))), .int (nI (tkA r tx (j / 4) (j % 4)))] 2 S hK (r1_placeOf l D dA (aft sx (j / 4) (j % 4)) (tkA r tx (j / 4) (j % 4)) (by first | assumption | omega | decide) (by first | assumption | omega | decide)) wl_X1_158 wd_X1_X1_placeOf rfl ⟨Nat.le_of_ble_eq_true rfl, Nat.le_of_ble_eq_true rfl⟩ hl.1 (Nat.le_of_ble_eq_true rfl) dX1_lay_185 ⟨Nat.le_refl 0, Nat.le_refl 0⟩ (trivial) ?_ rfl
        refine lv_istore (lv' := [(12, .int (nI (plc (aft sx (j / 4) (j % 4)) (tkA r tx (j / 4) (j % 4))))), (11, .int (nI (tkA r tx (j / 4) (j % 4)))), (10, .int (nI (aft sx (j / 4) (j % 4)))), (9, .int (nI (j % 4))), (8, .int (nI (j / 4))), (7, .int (nI j)), (6, .int (nI tx)), (5, .int (nI sx)), (4, .int (nI d)), (3, .int x3), (0, .ref (a 0)), (1, .int x1), (2, .int x2)]) hx hb dX1_lay_188 hl (by decide) rfl (fun ls hl => ?_)
        refine lv_aload_n hx hb dX1_lay_190 rfl (lv_at hl 10 rfl) ?_
        refine m_get (v := .ref (a 12)) S hK hM.1 12 (by decide) fl_X1_32 rfl dX1_lay_191 rfl ?_
        refine lv_iload hx hb dX1_lay_194 (lv_at hl 0 rfl) ?_
        refine m_aldn (j := plc (aft sx (j / 4) (j % 4)) (tkA r tx (j / 4) (j % 4))) (v := tn) S hK hM.1 12 (by decide) rfl (hplc) dX1_lay_196 (hseen hok) ?_
        refine lv_aload_n hx hb dX1_lay_197 rfl (lv_at hl 10 rfl) ?_
        refine m_get (v := .int (σ1.1 17)) S hK hM.1 17 (by decide) fl_X1_161 rfl dX1_lay_198 rfl ?_
        refine topi (z := tn) (hLK.2.2.2.2.2) ?_
        refine lv_icmp_ne (tgt := 231) hx hb dX1_lay_201 (by decide) (fun c_201 => absurd (rfl) c_201) (fun c_201 => ?_)
        refine lv_aload_n hx hb dX1_lay_204 rfl (lv_at hl 10 rfl) ?_
        refine lv_iload hx hb dX1_lay_205 (lv_at hl 7 rfl) ?_
        refine lv_iload hx hb dX1_lay_207 (lv_at hl 6 rfl) ?_
        refine rc_Si (rest := [.ref (a 0)]) [.int (nI sx), .int (nI tx)] 2 S hK (r1_placeOf l D dA sx tx (by first | assumption | omega | decide) (by first | assumption | omega | decide)) wl_X1_158 wd_X1_X1_placeOf rfl ⟨Nat.le_of_ble_eq_true rfl, Nat.le_of_ble_eq_true rfl⟩ hl.1 (Nat.le_of_ble_eq_true rfl) dX1_lay_209 ⟨Nat.le_refl 0, Nat.le_refl 0⟩ (trivial) ?_ rfl
        refine lv_iload hx hb dX1_lay_212 (lv_at hl 0 rfl) ?_
        refine mc_Vv (rest := []) [.int (nI (plc sx tx)), .int (nI (plc (aft sx (j / 4) (j % 4)) (tkA r tx (j / 4) (j % 4))))] 2 S hK hM (m1_add l D dA a hI σ1 (plc sx tx) (plc (aft sx (j / 4) (j % 4)) (tkA r tx (j / 4) (j % 4))) (vAcc (val net n r) net n r sx tx j) (val net n r (aft sx (j / 4) (j % 4)) (tkA r tx (j / 4) (j % 4))) hpl hplc hne hP9.1 (hTB _ _ hvc htc (hseen hok)).1 (vAccV_ok hn hv hm0 j (by omega)) (val_ok hn hvc (by omega)).1) wl_X1_181 wd_X1_X1_add rfl ⟨Nat.le_of_ble_eq_true rfl, Nat.le_of_ble_eq_true rfl⟩ hl.1 (Nat.le_of_ble_eq_true rfl) dX1_lay_214 ⟨Nat.le_refl 0, Nat.le_refl 0⟩ (fun H locs hM => ?_) rfl
        refine lv_aload_n hx hb dX1_lay_217 rfl (lv_at hl 10 rfl) ?_
        refine m_get (v := .ref (a 20)) S hK hM.1 20 (by decide) fl_X1_54 rfl dX1_lay_218 rfl ?_
        refine lv_iload hx hb dX1_lay_221 (lv_at hl 8 rfl) ?_
        refine lv_dup2_11 hx hb dX1_lay_223 rfl rfl ?_
        refine m_aldn (j := d) (v := nI j) S hK hM.1 20 (by decide) rfl (show d < 16 by omega) dX1_lay_224 (hF.2.2) ?_
        refine lv_iconst (v := 1) hx hb dX1_lay_225 (by decide) ?_
        refine lv_iadd hx hb dX1_lay_226 ?_
        refine topi (z := nI (j + 1)) (nI_1 j) ?_
        refine m_astn (j := d) hI S hK hM 20 (by decide) rfl (show d < 16 by omega) dX1_lay_227 (fun H locs hM => ?_)
        refine lv_goto (tgt := 244) hx hb dX1_lay_228 (by decide) ?_
        refine lv_goto (tgt := 31) hx hb dX1_lay_244 (by decide) ?_
        have eV := vAcc_t (f := val net n r) hok
        have fr9 : FRm n σ1 ((mSet σ1 (plc sx tx) (cmb (vAcc (val net n r) net n r sx tx j) (val net n r (aft sx (j / 4) (j % 4)) (tkA r tx (j / 4) (j % 4))))).b 20 (upd ((mSet σ1 (plc sx tx) (cmb (vAcc (val net n r) net n r sx tx j) (val net n r (aft sx (j / 4) (j % 4)) (tkA r tx (j / 4) (j % 4))))).2.1 20) d (nI (j + 1)))) d (mu sx) := (FRm.set hv ht).tr FRm.next
        exact ih _ H locs hM (hLK.fr fr9) (TBm.next (hTB.set hun rfl rfl rfl rfl rfl)) hun ⟨hF.1, hF.2.1, pk_us⟩ ⟨by rw [eV]; exact LPv.set, fun i hi ho => (by by_cases h9 : i = j; (subst h9; exact hseen ho); exact hP9.2 i (by omega) ho)⟩ (fun σ2 H locs hM h1 h2 h3 h4 ls hl => hk σ2 H locs hM h1 h2 h3 (fr9.tr h4) ls hl) ls (lv_sub hl [8, 9, 10, 11, 12] rfl)
      · have c_138 := b2i_eq0.mp c_138
        refine lv_aload_n hx hb dX1_lay_141 rfl (lv_at hl 7 rfl) ?_
        refine m_get (v := .ref (a 20)) S hK hM.1 20 (by decide) fl_X1_54 rfl dX1_lay_142 rfl ?_
        refine lv_iload hx hb dX1_lay_145 (lv_at hl 5 rfl) ?_
        refine lv_dup2_11 hx hb dX1_lay_147 rfl rfl ?_
        refine m_aldn (j := d) (v := nI j) S hK hM.1 20 (by decide) rfl (show d < 16 by omega) dX1_lay_148 (hF.2.2) ?_
        refine lv_iconst (v := 1) hx hb dX1_lay_149 (by decide) ?_
        refine lv_iadd hx hb dX1_lay_150 ?_
        refine topi (z := nI (j + 1)) (nI_1 j) ?_
        refine m_astn (j := d) hI S hK hM 20 (by decide) rfl (show d < 16 by omega) dX1_lay_151 (fun H locs hM => ?_)
        refine lv_goto (tgt := 31) hx hb dX1_lay_152 (by decide) ?_
        have hno : okP net n r sx tx j = false := by
          simp only [okP, Bool.and_eq_false_iff, decide_eq_false_iff_not]
          exact Or.inr c_138
        have fr9 : FRm n σ1 (σ1.b 20 (upd (σ1.2.1 20) d (nI (j + 1)))) d (mu sx) := FRm.next
        exact ih _ H locs hM (hLK.fr fr9) (TBm.next hTB) hun ⟨hF.1, hF.2.1, pk_us⟩ ⟨by rw [vAcc_f hno]; exact hP9.1, fun i hi ho => (by by_cases h9 : i = j; (subst h9; rw [hno] at ho; cases ho); exact hP9.2 i (by omega) ho)⟩ (fun σ2 H locs hM h1 h2 h3 h4 ls hl => hk σ2 H locs hM h1 h2 h3 (fr9.tr h4) ls hl) ls (lv_sub hl [5, 6, 7, 8, 9] rfl)
set_option maxHeartbeats 4000000 in
/-- a pair whose state is gone down into -/
theorem lay_C {p : Program} {l : Launch} {e : Env} {s : State} {m : MethodId} {args : Array Value} {below : List Frame} {meth : Method} {c : Code} {Q : State → Prop} {D : va_G} {dA : Nat → ClassId} {a : Nat → Nat} (hI : mInj a) (S : CallFix p m c cX1_lay 13 s args lw_all RX1) (hK : va_K D vwCl (tyL dA) s) {n r kk : Nat} {net : Nat → Nat} {tn x1 x2 x3 : Int32} (hn : n < 5) (hr4 : r < 4) {d sx tx : Nat} (hv : vld n sx) (ht : tx < 16) (hd : d + mu sx ≤ 15) (hm0 : mu sx ≤ 15) {σ1 : MS} {j : Nat} (hj : j < 16) (H : Heap) (locs : List Loc) (hM : MB D dA a σ1 s.heap H locs) (hLK : LKm a σ1 n net r tn kk) (hF : LFm σ1 d sx tx j) (hok : okP net n r sx tx j = true) (hns : ¬ σ1.2.1 12 (plc (aft sx (j / 4) (j % 4)) (tkA r tx (j / 4) (j % 4))) = tn) (down : ∀ (σ2 : MS) (H : Heap) (locs : List Loc), MB D dA a σ2 s.heap H locs → ∀ (ls : Array Slot), σ2 = mSet (((σ1.b 18 (upd (σ1.2.1 18) (d + 1) (nI (aft sx (j / 4) (j % 4))))).b 19 (upd (σ1.2.1 19) (d + 1) (nI (tkA r tx (j / 4) (j % 4))))).b 20 (upd (σ1.2.1 20) (d + 1) 0)) (plc (aft sx (j / 4) (j % 4)) (tkA r tx (j / 4) (j % 4))) (0, 0, 1000, 0) → lv_has ls 13 [(4, .int (nI (d + 1))), (3, .int x3), (0, .ref (a 0)), (1, .int x1), (2, .int x2)] → W p l e ({ frames := 6, cells := 0, slots := 0, locals := 200 }) s m args below meth c H locs 0 0 Q (F0 m 31 ls [])) (ls : Array Slot) (hl : lv_has ls 13 [(4, .int (nI d)), (3, .int x3), (0, .ref (a 0)), (1, .int x1), (2, .int x2)]) : W p l e ({ frames := 6, cells := 0, slots := 0, locals := 200 }) s m args below meth c H locs 0 0 Q (F0 m 31 ls []) := by
  have hx := S.1
  have hb := S.2.1
  have hs := hv.1
  have hpl := plc_lt sx tx
  have hp4 : j / 4 < 4 := by omega
  have hq4 : j % 4 < 4 := by omega
  obtain ⟨hpn, hqn, hmay⟩ := okP_lt hok
  obtain ⟨hvc, hmc⟩ := okP_mu hn hv hok
  have hsc := hvc.1
  have htc : tkA r tx (j / 4) (j % 4) < 16 := tkA_lt ht (by omega)
  have hplc := plc_lt (aft sx (j / 4) (j % 4)) (tkA r tx (j / 4) (j % 4))
  have hd16 : d + 1 < 16 := by omega
  refine lv_iload hx hb dX1_lay_31 (lv_at hl 0 rfl) ?_
  refine lv_if_lt (tgt := 247) hx hb dX1_lay_33 (by decide) (fun c_33 => absurd c_33 (nI_pos (by omega))) (fun c_33 => ?_)
  refine lv_aload_n hx hb dX1_lay_36 rfl (lv_at hl 2 rfl) ?_
  refine m_get (v := .ref (a 18)) S hK hM.1 18 (by decide) fl_X1_48 rfl dX1_lay_37 rfl ?_
  refine lv_iload hx hb dX1_lay_40 (lv_at hl 0 rfl) ?_
  refine m_aldn (j := d) (v := nI sx) S hK hM.1 18 (by decide) rfl (show d < 16 by omega) dX1_lay_42 (hF.1) ?_
  refine lv_istore (lv' := [(5, .int (nI sx)), (4, .int (nI d)), (3, .int x3), (0, .ref (a 0)), (1, .int x1), (2, .int x2)]) hx hb dX1_lay_43 hl (by decide) rfl (fun ls hl => ?_)
  refine lv_aload_n hx hb dX1_lay_45 rfl (lv_at hl 3 rfl) ?_
  refine m_get (v := .ref (a 19)) S hK hM.1 19 (by decide) fl_X1_51 rfl dX1_lay_46 rfl ?_
  refine lv_iload hx hb dX1_lay_49 (lv_at hl 1 rfl) ?_
  refine m_aldn (j := d) (v := nI tx) S hK hM.1 19 (by decide) rfl (show d < 16 by omega) dX1_lay_51 (hF.2.1) ?_
  refine lv_istore (lv' := [(6, .int (nI tx)), (5, .int (nI sx)), (4, .int (nI d)), (3, .int x3), (0, .ref (a 0)), (1, .int x1), (2, .int x2)]) hx hb dX1_lay_52 hl (by decide) rfl (fun ls hl => ?_)
  refine lv_aload_n hx hb dX1_lay_54 rfl (lv_at hl 4 rfl) ?_
  refine m_get (v := .ref (a 20)) S hK hM.1 20 (by decide) fl_X1_54 rfl dX1_lay_55 rfl ?_
  refine lv_iload hx hb dX1_lay_58 (lv_at hl 2 rfl) ?_
  refine m_aldn (j := d) (v := nI j) S hK hM.1 20 (by decide) rfl (show d < 16 by omega) dX1_lay_60 (hF.2.2) ?_
  refine lv_istore (lv' := [(7, .int (nI j)), (6, .int (nI tx)), (5, .int (nI sx)), (4, .int (nI d)), (3, .int x3), (0, .ref (a 0)), (1, .int x1), (2, .int x2)]) hx hb dX1_lay_61 hl (by decide) rfl (fun ls hl => ?_)
  refine lv_iload hx hb dX1_lay_63 (lv_at hl 0 rfl) ?_
  refine lv_bipush (v := 16) hx hb dX1_lay_65 (by decide) ?_
  refine lv_icmp_ne (tgt := 89) hx hb dX1_lay_67 (by decide) (fun c_67 => ?_) (fun c_67 => absurd (c_67) (nI_ne (b := 16) (by omega) (by decide) (by omega)))
  refine lv_iload hx hb dX1_lay_89 (lv_at hl 0 rfl) ?_
  refine lv_iconst (v := 4) hx hb dX1_lay_91 (by decide) ?_
  refine lv_idiv hx hb dX1_lay_92 (by decide) ?_
  refine topi (z := nI (j / 4)) (pk_div (d := 4) (by omega) (by decide) (by decide)) ?_
  refine lv_istore (lv' := [(8, .int (nI (j / 4))), (7, .int (nI j)), (6, .int (nI tx)), (5, .int (nI sx)), (4, .int (nI d)), (3, .int x3), (0, .ref (a 0)), (1, .int x1), (2, .int x2)]) hx hb dX1_lay_93 hl (by decide) rfl (fun ls hl => ?_)
  refine lv_iload hx hb dX1_lay_95 (lv_at hl 1 rfl) ?_
  refine lv_iconst (v := 4) hx hb dX1_lay_97 (by decide) ?_
  refine lv_irem hx hb dX1_lay_98 (by decide) ?_
  refine topi (z := nI (j % 4)) (pk_rem (d := 4) (by omega) (by decide) (by decide)) ?_
  refine lv_istore (lv' := [(9, .int (nI (j % 4))), (8, .int (nI (j / 4))), (7, .int (nI j)), (6, .int (nI tx)), (5, .int (nI sx)), (4, .int (nI d)), (3, .int x3), (0, .ref (a 0)), (1, .int x1), (2, .int x2)]) hx hb dX1_lay_99 hl (by decide) rfl (fun ls hl => ?_)
  refine lv_iload hx hb dX1_lay_101 (lv_at hl 1 rfl) ?_
  refine lv_aload_n hx hb dX1_lay_103 rfl (lv_at hl 7 rfl) ?_
  refine m_get (v := .int (σ1.1 22)) S hK hM.1 22 (by decide) fl_X1_164 rfl dX1_lay_104 rfl ?_
  refine topi (z := nI n) (hLK.2.2.2.1) ?_
  refine lv_icmp_ge (tgt := 141) hx hb dX1_lay_107 (by decide) (fun c_107 => absurd c_107 (nI_ge hpn (by omega))) (fun c_107 => ?_)
  refine lv_iload hx hb dX1_lay_110 (lv_at hl 0 rfl) ?_
  refine lv_aload_n hx hb dX1_lay_112 rfl (lv_at hl 7 rfl) ?_
  refine m_get (v := .int (σ1.1 22)) S hK hM.1 22 (by decide) fl_X1_164 rfl dX1_lay_113 rfl ?_
  refine topi (z := nI n) (hLK.2.2.2.1) ?_
  refine lv_icmp_ge (tgt := 141) hx hb dX1_lay_116 (by decide) (fun c_116 => absurd c_116 (nI_ge hqn (by omega))) (fun c_116 => ?_)
  refine lv_aload_n hx hb dX1_lay_119 rfl (lv_at hl 7 rfl) ?_
  refine m_get (v := .ref σ1.2.2.2) S hK hM.1 21 (by decide) fl_X1_57 rfl dX1_lay_120 rfl ?_
  refine lv_aload_n hx hb dX1_lay_123 rfl (lv_at hl 7 rfl) ?_
  refine m_get (v := .int (σ1.1 23)) S hK hM.1 23 (by decide) fl_X1_178 rfl dX1_lay_124 rfl ?_
  refine topi (z := nI r) (hLK.2.2.2.2.1) ?_
  refine lv_iload hx hb dX1_lay_127 (lv_at hl 4 rfl) ?_
  refine lv_iload hx hb dX1_lay_129 (lv_at hl 3 rfl) ?_
  refine lv_iload hx hb dX1_lay_131 (lv_at hl 1 rfl) ?_
  refine lv_iload hx hb dX1_lay_133 (lv_at hl 0 rfl) ?_
  refine rc_Si (rest := []) [.ref σ1.2.2.2, .int (nI r), .int (nI sx), .int (nI tx), .int (nI (j / 4)), .int (nI (j % 4))] 6 S hK (r1_mayRing l D dA σ1.2.2.2 (σ1.2.1 kk) net r sx tx (j / 4) (j % 4) (fun q hq => (hLK.2.2.1 q hq).1) (fun q hq => (hLK.2.2.1 q hq).2) (by first | assumption | omega | decide) (by first | assumption | omega | decide) (by first | assumption | omega | decide) (by first | assumption | omega | decide) (by first | assumption | omega | decide)) wl_X1_153 wd_X1_X1_mayRing rfl ⟨Nat.le_of_ble_eq_true rfl, Nat.le_of_ble_eq_true rfl⟩ hl.1 (Nat.le_of_ble_eq_true rfl) dX1_lay_135 ⟨Nat.le_refl 0, Nat.le_refl 0⟩ (LK_cell hLK hM.1) ?_ rfl
  refine lv_if_ne (tgt := 155) hx hb dX1_lay_138 (by decide) (fun c_138 => ?_) (fun c_138 => absurd (c_138) (by rw [hmay]; decide))
  refine lv_iload hx hb dX1_lay_155 (lv_at hl 4 rfl) ?_
  refine lv_iload hx hb dX1_lay_157 (lv_at hl 1 rfl) ?_
  refine lv_iload hx hb dX1_lay_159 (lv_at hl 0 rfl) ?_
  refine rc_Si (rest := []) [.int (nI sx), .int (nI (j / 4)), .int (nI (j % 4))] 3 S hK (r1_afterCall l D dA sx (j / 4) (j % 4) (by first | assumption | omega | decide) (by first | assumption | omega | decide) (by first | assumption | omega | decide)) wl_X1_117 wd_X1_X1_afterCall rfl ⟨Nat.le_of_ble_eq_true rfl, Nat.le_of_ble_eq_true rfl⟩ hl.1 (Nat.le_of_ble_eq_true rfl) dX1_lay_161 ⟨Nat.le_refl 0, Nat.le_refl 0⟩ (trivial) ?_ rfl
  refine lv_istore (lv' := [(10, .int (nI (aft sx (j / 4) (j % 4)))), (9, .int (nI (j % 4))), (8, .int (nI (j / 4))), (7, .int (nI j)), (6, .int (nI tx)), (5, .int (nI sx)), (4, .int (nI d)), (3, .int x3), (0, .ref (a 0)), (1, .int x1), (2, .int x2)]) hx hb dX1_lay_164 hl (by decide) rfl (fun ls hl => ?_)
  refine lv_iload hx hb dX1_lay_166 (lv_at hl 4 rfl) ?_
  refine lv_aload_n hx hb dX1_lay_168 rfl (lv_at hl 8 rfl) ?_
  refine m_get (v := .int (σ1.1 23)) S hK hM.1 23 (by decide) fl_X1_178 rfl dX1_lay_169 rfl ?_
  refine topi (z := nI r) (hLK.2.2.2.2.1) ?_
  refine lv_iload hx hb dX1_lay_172 (lv_at hl 2 rfl) ?_
  refine lv_iload hx hb dX1_lay_174 (lv_at hl 1 rfl) ?_
  refine rc_Si (rest := []) [.int (nI tx), .int (nI r), .int (nI (j / 4)), .int (nI (j % 4))] 4 S hK (r1_tokensAfter l D dA tx r (j / 4) (j % 4) (by first | assumption | omega | decide) (by first | assumption | omega | decide) (by first | assumption | omega | decide) (by first | assumption | omega | decide)) wl_X1_121 wd_X1_X1_tokensAfter rfl ⟨Nat.le_of_ble_eq_true rfl, Nat.le_of_ble_eq_true rfl⟩ hl.1 (Nat.le_of_ble_eq_true rfl) dX1_lay_176 ⟨Nat.le_refl 0, Nat.le_refl 0⟩ (trivial) ?_ rfl
  refine lv_istore (lv' := [(11, .int (nI (tkA r tx (j / 4) (j % 4)))), (10, .int (nI (aft sx (j / 4) (j % 4)))), (9, .int (nI (j % 4))), (8, .int (nI (j / 4))), (7, .int (nI j)), (6, .int (nI tx)), (5, .int (nI sx)), (4, .int (nI d)), (3, .int x3), (0, .ref (a 0)), (1, .int x1), (2, .int x2)]) hx hb dX1_lay_179 hl (by decide) rfl (fun ls hl => ?_)
  refine lv_iload hx hb dX1_lay_181 (lv_at hl 1 rfl) ?_
  refine lv_iload hx hb dX1_lay_183 (lv_at hl 0 rfl) ?_
  refine rc_Si (rest := []) [.int (nI (aft sx (j / 4) (j % 4))), .int (nI (tkA r tx (j / 4) (j % 4)))] 2 S hK (r1_placeOf l D dA (aft sx (j / 4) (j % 4)) (tkA r tx (j / 4) (j % 4)) (by first | assumption | omega | decide) (by first | assumption | omega | decide)) wl_X1_158 wd_X1_X1_placeOf rfl ⟨Nat.le_of_ble_eq_true rfl, Nat.le_of_ble_eq_true rfl⟩ hl.1 (Nat.le_of_ble_eq_true rfl) dX1_lay_185 ⟨Nat.le_refl 0, Nat.le_refl 0⟩ (trivial) ?_ rfl
  refine lv_istore (lv' := [(12, .int (nI (plc (aft sx (j / 4) (j % 4)) (tkA r tx (j / 4) (j % 4))))), (11, .int (nI (tkA r tx (j / 4) (j % 4)))), (10, .int (nI (aft sx (j / 4) (j % 4)))), (9, .int (nI (j % 4))), (8, .int (nI (j / 4))), (7, .int (nI j)), (6, .int (nI tx)), (5, .int (nI sx)), (4, .int (nI d)), (3, .int x3), (0, .ref (a 0)), (1, .int x1), (2, .int x2)]) hx hb dX1_lay_188 hl (by decide) rfl (fun ls hl => ?_)
  refine lv_aload_n hx hb dX1_lay_190 rfl (lv_at hl 10 rfl) ?_
  refine m_get (v := .ref (a 12)) S hK hM.1 12 (by decide) fl_X1_32 rfl dX1_lay_191 rfl ?_
  refine lv_iload hx hb dX1_lay_194 (lv_at hl 0 rfl) ?_
  refine m_aldn (j := plc (aft sx (j / 4) (j % 4)) (tkA r tx (j / 4) (j % 4))) (v := (σ1.2.1 12) (plc (aft sx (j / 4) (j % 4)) (tkA r tx (j / 4) (j % 4)))) S hK hM.1 12 (by decide) rfl (hplc) dX1_lay_196 (rfl) ?_
  refine lv_aload_n hx hb dX1_lay_197 rfl (lv_at hl 10 rfl) ?_
  refine m_get (v := .int (σ1.1 17)) S hK hM.1 17 (by decide) fl_X1_161 rfl dX1_lay_198 rfl ?_
  refine topi (z := tn) (hLK.2.2.2.2.2) ?_
  refine lv_icmp_ne (tgt := 231) hx hb dX1_lay_201 (by decide) (fun c_201 => ?_) (fun c_201 => absurd (c_201) (hns))
  refine lv_iinc (v := nI (d + 1)) (lv' := [(4, .int (nI (d + 1))), (12, .int (nI (plc (aft sx (j / 4) (j % 4)) (tkA r tx (j / 4) (j % 4))))), (11, .int (nI (tkA r tx (j / 4) (j % 4)))), (10, .int (nI (aft sx (j / 4) (j % 4)))), (9, .int (nI (j % 4))), (8, .int (nI (j / 4))), (7, .int (nI j)), (6, .int (nI tx)), (5, .int (nI sx)), (3, .int x3), (0, .ref (a 0)), (1, .int x1), (2, .int x2)]) hx hb dX1_lay_231 hl (k := 8) rfl (nI_1 _) (by decide) rfl (fun ls hl => ?_)
  refine lv_aload_n hx hb dX1_lay_234 rfl (lv_at hl 10 rfl) ?_
  refine lv_iload hx hb dX1_lay_235 (lv_at hl 0 rfl) ?_
  refine lv_iload hx hb dX1_lay_237 (lv_at hl 3 rfl) ?_
  refine lv_iload hx hb dX1_lay_239 (lv_at hl 2 rfl) ?_
  refine mc_Vv (rest := []) [.int (nI (d + 1)), .int (nI (aft sx (j / 4) (j % 4))), .int (nI (tkA r tx (j / 4) (j % 4)))] 3 S hK hM (m1_open l D dA a hI σ1 (d + 1) (aft sx (j / 4) (j % 4)) (tkA r tx (j / 4) (j % 4)) (by first | assumption | omega | decide) (by first | assumption | omega | decide) (by first | assumption | omega | decide)) wl_X1_170 wd_X1_X1_open rfl ⟨Nat.le_of_ble_eq_true rfl, Nat.le_of_ble_eq_true rfl⟩ hl.1 (Nat.le_of_ble_eq_true rfl) dX1_lay_241 ⟨Nat.le_refl 0, Nat.le_refl 0⟩ (fun H locs hM => ?_) rfl
  refine lv_goto (tgt := 31) hx hb dX1_lay_244 (by decide) ?_
  exact down _ H locs hM ls rfl (lv_sub hl [0, 9, 10, 11, 12] rfl)
set_option maxHeartbeats 4000000 in
/-- the loop of lay, from what is gone down into on -/
theorem lay_main {p : Program} {l : Launch} {e : Env} {s : State} {m : MethodId} {args : Array Value} {below : List Frame} {meth : Method} {c : Code} {Q : State → Prop} {D : va_G} {dA : Nat → ClassId} {a : Nat → Nat} (hI : mInj a) (S : CallFix p m c cX1_lay 13 s args lw_all RX1) (hK : va_K D vwCl (tyL dA) s) {n r kk : Nat} {net : Nat → Nat} {tn x1 x2 x3 : Int32} (hn : n < 5) (hr4 : r < 4) :
    ∀ (f d sx tx : Nat), vld n sx → tx < 16 → d + mu sx ≤ 15 → mu sx < f → ∀ (k j : Nat), j + k = 16 → ∀ (σ1 : MS) (H : Heap) (locs : List Loc), MB D dA a σ1 s.heap H locs → LKm a σ1 n net r tn kk → TBm σ1 n net r tn → ¬ σ1.2.1 12 (plc sx tx) = tn → LFm σ1 d sx tx j → PAm σ1 n net r tn sx tx j → (∀ (σ2 : MS) (H : Heap) (locs : List Loc), MB D dA a σ2 s.heap H locs → LKm a σ2 n net r tn kk → TBm σ2 n net r tn → σ2.2.1 12 (plc sx tx) = tn → FRm n σ1 σ2 d (mu sx) → ∀ (ls : Array Slot), lv_has ls 13 [(4, .int (nI d - 1)), (3, .int x3), (0, .ref (a 0)), (1, .int x1), (2, .int x2)] → W p l e ({ frames := 6, cells := 0, slots := 0, locals := 200 }) s m args below meth c H locs 0 0 Q (F0 m 31 ls [])) → ∀ (ls : Array Slot), lv_has ls 13 [(4, .int (nI d)), (3, .int x3), (0, .ref (a 0)), (1, .int x1), (2, .int x2)] → W p l e ({ frames := 6, cells := 0, slots := 0, locals := 200 }) s m args below meth c H locs 0 0 Q (F0 m 31 ls []) := by
  intro f
  induction f with
  | zero => intro d sx tx _ _ _ h; exact absurd h (Nat.not_lt_zero _)
  | succ f ihf =>
    intro d sx tx hv ht hd hm k
    induction k with
    | zero =>
      intro j hj σ1 H locs hM hLK hTB hun hF hP9 hk ls hl
      have hj : j = 16 := by omega
      subst hj
      exact lay_A hI S hK hn hr4 hv ht hd (by omega) H locs hM hLK hTB hun hF hP9 hk ls hl
    | succ k ihk =>
      intro j hj σ1 H locs hM hLK hTB hun hF hP9 hk ls hl
      have hstep : ∀ (σ1 : MS) (H : Heap) (locs : List Loc), MB D dA a σ1 s.heap H locs → LKm a σ1 n net r tn kk → TBm σ1 n net r tn → ¬ σ1.2.1 12 (plc sx tx) = tn → LFm σ1 d sx tx j → PAm σ1 n net r tn sx tx j → (okP net n r sx tx j = true → σ1.2.1 12 (plc (aft sx (j / 4) (j % 4)) (tkA r tx (j / 4) (j % 4))) = tn) → (∀ (σ2 : MS) (H : Heap) (locs : List Loc), MB D dA a σ2 s.heap H locs → LKm a σ2 n net r tn kk → TBm σ2 n net r tn → σ2.2.1 12 (plc sx tx) = tn → FRm n σ1 σ2 d (mu sx) → ∀ (ls : Array Slot), lv_has ls 13 [(4, .int (nI d - 1)), (3, .int x3), (0, .ref (a 0)), (1, .int x1), (2, .int x2)] → W p l e ({ frames := 6, cells := 0, slots := 0, locals := 200 }) s m args below meth c H locs 0 0 Q (F0 m 31 ls [])) → ∀ (ls : Array Slot), lv_has ls 13 [(4, .int (nI d)), (3, .int x3), (0, .ref (a 0)), (1, .int x1), (2, .int x2)] → W p l e ({ frames := 6, cells := 0, slots := 0, locals := 200 }) s m args below meth c H locs 0 0 Q (F0 m 31 ls []) :=
        fun σ1 H locs hM hLK hTB hun hF hP9 hse hk ls hl => lay_B hI S hK hn hr4 hv ht hd (by omega) (show j < 16 by omega) (fun σ1 H locs a1 a2 a3 a4 a5 a6 a7 ls hl => ihk (j + 1) (by omega) σ1 H locs a1 a2 a3 a4 a5 a6 a7 ls hl) H locs hM hLK hTB hun hF hP9 hk hse ls hl
      by_cases hs : okP net n r sx tx j = true → σ1.2.1 12 (plc (aft sx (j / 4) (j % 4)) (tkA r tx (j / 4) (j % 4))) = tn
      · exact hstep σ1 H locs hM hLK hTB hun hF hP9 hs hk ls hl
      · have hok : okP net n r sx tx j = true := by
          cases h : okP net n r sx tx j with
          | true => rfl
          | false => exact absurd (fun h2 => by rw [h] at h2; cases h2) hs
        have hns : ¬ σ1.2.1 12 (plc (aft sx (j / 4) (j % 4)) (tkA r tx (j / 4) (j % 4))) = tn := fun h => hs (fun _ => h)
        obtain ⟨hvc, hmc⟩ := okP_mu hn hv hok
        have htc : tkA r tx (j / 4) (j % 4) < 16 := tkA_lt ht (by omega)
        refine lay_C hI S hK hn hr4 hv ht hd (by omega) (show j < 16 by omega) H locs hM hLK hF hok hns ?_ ls hl
        intro σ2 H locs hM2 ls e2 hl
        subst e2
        have fr9 := FRm.opn (n := n) (σ := σ1) (d := d + 1) (v := (0, 0, 1000, 0)) (x := nI (aft sx (j / 4) (j % 4))) (y := nI (tkA r tx (j / 4) (j % 4))) (z := 0) hvc htc
        refine ihf (d + 1) _ _ hvc htc (by omega) (by omega) 16 0 (by omega) _ H locs hM2 (hLK.fr fr9) (hTB.set hns rfl rfl rfl rfl rfl) hns LFm.opn PAm.zero ?_ ls hl
        intro σ3 H locs hM3 h1 h2 h3 h4 ls hl
        have hfr := fr9.tr h4
        have hsp := hfr.2.2.2.2.2.1 sx tx hv ht hmc
        rw [nI_pred] at hl
        exact hstep σ3 H locs hM3 h1 h2 (by rw [hsp.1]; exact hun) (hF.fr hfr (by omega)) (hP9.fr hLK hfr hsp) (fun _ => h3) (fun σ4 H locs hM a1 a2 a3 a4 ls hl => hk σ4 H locs hM a1 a2 a3 ((hfr.wk (by omega) (by omega)).tr a4) ls hl) ls hl
