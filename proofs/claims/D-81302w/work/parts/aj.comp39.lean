/-! COMPONENT 39: put and cell (by program: gen/comp39.py) -/
set_option maxRecDepth 100000
theorem mPut_in {σ : MS} {k : Nat} {i v : Int32} (hk : k < 4) : mPut σ (nI k) i v = if σ.2.1 2 k = -9 then (-11, σ.i 0 1) else if inR i 0 (σ.2.1 3 k - 1) = false then (-13, σ.i 0 3) else (1, (σ.i 0 0).b 4 (upd (σ.2.1 4) (60 * k + i.toNatClampNeg) (laneV (σ.2.1 2 k) v))) := by
  unfold mPut
  rw [show inR (nI k) 0 3 = true from inR_nI (k := 3) (by omega) (by decide), nI_clamp (by omega), if_neg (by decide)]
theorem fit_lane : ∀ w, w < 3 → ∀ v : Int32, fits (ldT w) (.int (laneV (nI w) v)) = true
  | 0, _, v => by
    show (decide (-128 ≤ v.toInt8.toInt32) && decide (v.toInt8.toInt32 ≤ 127)) = true
    have h1 := Int8.le_toInt v.toInt8
    have h2 := Int8.toInt_lt v.toInt8
    rw [Bool.and_eq_true, decide_eq_true_eq, decide_eq_true_eq, Int32.le_iff_toInt_le, Int32.le_iff_toInt_le, Int8.toInt_toInt32]
    exact ⟨h1, by show v.toInt8.toInt ≤ 127; omega⟩
  | 1, _, v => by
    show (decide (-32768 ≤ v.toInt16.toInt32) && decide (v.toInt16.toInt32 ≤ 32767)) = true
    have h1 := Int16.le_toInt v.toInt16
    have h2 := Int16.toInt_lt v.toInt16
    rw [Bool.and_eq_true, decide_eq_true_eq, decide_eq_true_eq, Int32.le_iff_toInt_le, Int32.le_iff_toInt_le, Int16.toInt_toInt32]
    exact ⟨h1, by show v.toInt16.toInt ≤ 32767; omega⟩
  | 2, _, v => rfl
  | w + 3, h, v => by omega
theorem RSh.put {σr : MS} {sh : Shs} (h : RSh σr sh) {k w L i : Nat} {f : Nat → Int32} {v : Int32} (hk : k < 4) (hs : sh k = some (w, L, f)) (hi : i < L) (hv : fits (ldT w) (.int v) = true) : RSh ((σr.i 0 0).b 4 (upd (σr.2.1 4) (60 * k + i) v)) (va_up sh k (some (w, L, upd f i v))) := by
  intro j hj
  have h4 : ((σr.i 0 0).b 4 (upd (σr.2.1 4) (60 * k + i) v)).2.1 4 = upd (σr.2.1 4) (60 * k + i) v := up_b
  have h3 : ((σr.i 0 0).b 4 (upd (σr.2.1 4) (60 * k + i) v)).2.1 3 = σr.2.1 3 := up_bn (by decide)
  have h2 : ((σr.i 0 0).b 4 (upd (σr.2.1 4) (60 * k + i) v)).2.1 2 = σr.2.1 2 := up_bn (by decide)
  rw [h2, h3, h4]
  have h8 := (h k hk).2 w L f hs
  by_cases e : j = k
  · subst e
    rw [va_up_self]
    refine ⟨(fun z => by cases z), fun w1 L1 f1 z => ?_⟩
    cases z
    refine ⟨h8.1, h8.2.1, h8.2.2.1, h8.2.2.2.1, fun x hx => ?_, fun x hx => ?_⟩
    · by_cases e1 : x = i
      · subst e1; rw [updS, updS]
      · rw [updN _ _ e1, updN _ _ (by omega)]; exact h8.2.2.2.2.1 x hx
    · by_cases e1 : x = i
      · subst e1; rw [updS]; exact hv
      · rw [updN _ _ e1]; exact h8.2.2.2.2.2 x hx
  · rw [va_up_ne _ _ e]
    refine ⟨(h j hj).1, fun w1 L1 f1 z => ?_⟩
    have h9 := (h j hj).2 w1 L1 f1 z
    exact ⟨h9.1, h9.2.1, h9.2.2.1, h9.2.2.2.1, (fun x hx => by rw [updN _ _ (by have := h8.2.1; have := h9.2.1; omega)]; exact h9.2.2.2.2.1 x hx), h9.2.2.2.2.2⟩
theorem shR_keep {sh : Shs} {so : Nat → Nat} {k : Nat} {q q' : Nat × Nat × (Nat → Int32)} (hs : sh k = some q) : shR sh so = shR (va_up sh k (some q')) so := by
  funext j
  unfold shR
  by_cases e : j = k
  · subst e; rw [va_up_self, hs]; rfl
  · rw [va_up_ne _ _ e]
theorem out_of {i : Int32} {L : Nat} (hL : L ≤ 60) (h : inR i 0 (nI L - 1) = false) : i < 0 ∨ L ≤ i.toNatClampNeg := by
  by_cases h0 : i < 0
  · exact Or.inl h0
  · obtain ⟨j, hj, rfl⟩ := nI_of h0
    rw [nI_clamp hj]
    by_cases h1 : j < L
    · rw [inR_subN hL h1] at h; cases h
    · exact Or.inr (by omega)
set_option maxHeartbeats 4000000 in
theorem g0_put (l : Launch) (hfl : NoTr l) (D : va_G) (dA : Nat → ClassId) (cT : ClassId) (zs zu ze : Nat) (a : Nat → Nat) (hI : kInj a) (σ σr : MS) (sh : Shs) (so ro : Nat → Nat) (sz : Nat) (hSA : SAp a sh so ro zs sz) (hRS : RSh σr sh) (v iv z : Int32) : GCW l yX0_put cX0_put 5 (some .int) [(18, 33, 34, 298), (18, 33, 42, 300)] 9 10300 3 300 (K7 D dA cT zs zu ze) [.ref (a 0), .int v, .int iv, .int z] (fun H => va_P D vwCl (kW dA a σ) H ∧ SHT D dA (a 14) sh so ro H ∧ TH cT zs zu ze H ∧ H.size = sz) (shA a sh ro sz) (fun v9 H => v9 = some (.int (mPut σr v iv z).1) ∧ SP D dA a σ (mPut σr v iv z).2 so ro sz H) := by
  refine GCW.of (by decide) (Nat.le_of_ble_eq_true rfl) ?_
  intro p e s m below meth c ls S hr hlk htab hK7 hPre hl
  have hK2 := hK7.1.1
  have hK := hK2.1
  have hx := S.1
  have hb := S.2.1
  have hl : lv_has ls 5 [(0, .ref (a 0)), (1, .int v), (2, .int iv), (3, .int z)] := hl
  have hS : va_S (shA a sh ro sz) s.heap s.heap [] := va_S.rf
  obtain ⟨hP, hSH, hTH, hsz⟩ := hPre
  have hsz0 : sz ≤ s.heap.size := by omega
  have hns : ∀ q, shA a sh ro sz q → ∀ cell, s.heap[q]? = some cell → cell.vm.isStatics = false := shA_ns hP hSH hsz
  have hsz : sz ≤ s.heap.size := hsz0
  have hTH0 := hTH
  refine lv_iload_n hx hb dX0_put_0 rfl (lv_at hl 1 rfl) ?_
  refine rc_Si (rest := []) [.int v] 1 S hK (r0_noSheet l D dA v) wl_X0_274 wd_X0_X0_noSheet rfl ⟨Nat.le_of_ble_eq_true rfl, Nat.le_of_ble_eq_true rfl⟩ hl.1 (Nat.le_of_ble_eq_true rfl) dX0_put_1 ⟨Nat.le_of_ble_eq_true rfl, Nat.le_of_ble_eq_true rfl⟩ trivial ?_ rfl
  refine lv_if_eq (tgt := 13) hx hb dX0_put_4 (by decide) (fun c_4 => ?_) (fun c_4 => ?_)
  · have c_4 : inR v 0 3 = true := by have := b2i_eq0.mp c_4; simpa using this
    obtain ⟨ka, hka9, rfl⟩ := inR_some (k := 3) (by decide) c_4
    have hka4 : ka < 4 := by omega
    have hin : inR (nI ka) 0 3 = true := inR_nI (k := 3) (by omega) (by decide)
    have hcl : (nI ka).toNatClampNeg = ka := nI_clamp (by omega)
    refine lv_aload_n hx hb dX0_put_13 rfl (lv_at hl 0 rfl) ?_
    refine lv_iconst (v := 0) hx hb dX0_put_14 (by decide) ?_
    refine k_put1 hI S hK hP (Or.inl ⟨0, by decide, rfl⟩) hS 13 (by decide) rfl fl_X0_263 rfl rfl (by decide +kernel) dX0_put_15 (fun H locs hP hz1 ho1 hS => ?_)
    have hk0 : kAd a (a 0) := ⟨0, by decide, rfl⟩
    have hSH := hSH.kad hSA (fun q _ h => ho1 q (fun e => h (by rw [e]; exact hk0)))
    have hTH := hTH.fr (A := kAd a) (fun q _ h => ho1 q (fun e => h (by rw [e]; exact hk0))) hSA.1.2.2.2.2.1
    have hsz : sz ≤ H.size := by rw [hz1]; exact hsz
    refine lv_aload_n hx hb dX0_put_18 rfl (lv_at hl 0 rfl) ?_
    refine k_get (v := .ref (a 14)) S hK hP 14 (by decide) fl_X0_41 rfl dX0_put_19 rfl ?_
    refine lv_iload_n hx hb dX0_put_22 rfl (lv_at hl 1 rfl) ?_
    refine va_aldq (i := nI ka) S.1 S.2.1 hK hSH.1 0 4 rfl rfl (vp_in_nI (N := 4) hka4 (by decide)) dX0_put_23 ?_
    rw [show shR sh so (nI ka).toNatClampNeg = shR sh so ka by rw [hcl]]
    cases hs : sh ka with
    | none =>
      rw [show shR sh so ka = none by unfold shR; rw [hs]; rfl]
      refine W.adm (fun hadm => ?_)
      obtain ⟨e1, e2, e3, e4, j1, fv, q1, q2, hfV, hsV, -⟩ := Cond.laysFinal_spec (S.2.2.2.2 _ q760)
      refine wt_npe (A0 := shA a sh ro sz) (H0 := s.heap) (g := F0 m 24 ls []) hx (hfl e hadm) (npe_all S.2.2.2.2 hK7.1 hTH0) hns (hl.1.trans S.2.2.1.symm) (by decide) (Nat.le_of_ble_eq_true rfl) (Nat.le_of_ble_eq_true rfl) (Nat.le_of_ble_eq_true rfl) hS (fun q h => Or.inr (Or.inr (Or.inr (Nat.le_trans hsz h)))) (fun T hT X => ?_) (fun x9 H locs hx9 hz9 ho9 hS => ?_)
      · obtain ⟨vm9, X9, st9⟩ := X.getfieldNull hx S.2.2.2.1 (S.2.2.2.2 _ q759) hfV hsV (g := F0 m 24 ls [.null]) rfl rfl (by rw [hb]; exact dX0_put_24)
        exact ⟨T.setVm vm9, hT, X9, st9⟩
      · refine WT.caught (hpc := 34) rfl htab ?_ ?_
        · exact GT.hit (C := "java/lang/NullPointerException") (name := "java/lang/NullPointerException") (ct := 298) rfl S.2.2.2.1 (S.2.2.2.2 _ q776) (va_any rfl (hK2.2.1 _ q798 rfl)) hx9 rfl rfl (by decide) rfl
        · have hP := kW_hi hI hSA hP ho9 (fun _ h => h.elim)
          have hSH := hSH.hi hSA ho9 (fun _ h => h.elim)
          refine lv_astore (lv' := [(4, .ref x9), (0, .ref (a 0)), (1, .int (nI ka)), (2, .int iv), (3, .int z)]) hx hb dX0_put_34 hl (by decide) rfl (fun ls hl => ?_)
          refine lv_aload_n hx hb dX0_put_36 rfl (lv_at hl 1 rfl) ?_
          refine lv_iconst (v := 1) hx hb dX0_put_37 (by decide) ?_
          refine gc_V (rest := []) [.int 1] 1 S Wm_K2 hK2 hS (fun q h => Or.inl h) (KC2.gc (KC.k2 (k0_fails l D dA a hI (σ.i 13 0) (fun _ => True) kStb_T 1))) wl_X0_291 wd_X0_X0_fails rfl ⟨Nat.le_of_ble_eq_true rfl, Nat.le_of_ble_eq_true rfl⟩ (k_recv hK hP) hl.1 (Nat.le_of_ble_eq_true rfl) dX0_put_38 ⟨Nat.le_of_ble_eq_true rfl, Nat.le_of_ble_eq_true rfl⟩ ⟨hP, trivial⟩ (fun v9 H locs hp9 hz9 ho9 hS => ?_) rfl
          obtain ⟨σ9, ⟨rfl, rfl⟩, hP⟩ := hp9
          have hSH := hSH.kad hSA ho9
          refine W.eq (g2 := F0 m 41 ls [.int ((-10) - 1)]) rfl ?_
          rw [up_ii] at hP
          refine g_iret S hr hlk hS dX0_put_41 ⟨Nat.le_of_ble_eq_true rfl, Nat.le_of_ble_eq_true rfl⟩ ?_
          rw [show mPut σr (nI ka) iv z = (-11, σr.i 0 1) from by rw [mPut_in hka4, if_pos ((hRS ka hka4).1 hs)]]
          exact ⟨rfl, SP_no hP hSH hRS⟩
    | some q =>
      obtain ⟨w, L, f⟩ := q
      have hRk := (hRS ka hka4).2 w L f hs
      have hSk := hSH.2 ka hka4 w L f hs
      have hApk := hSA.2.1 ka hka4 (by rw [hs]; exact fun z => by cases z)
      have hsn : sh ka ≠ none := by rw [hs]; exact (fun z => by cases z)
      have hla : ¬ σr.2.1 2 ka = -9 := by rw [hRk.2.2.1]; exact nI_n9 (by have := hRk.1; omega)
      rw [show shR sh so ka = some (so ka) by unfold shR; rw [hs]; rfl]
      refine va_get (v := .ref (ro ka)) (D := D) (ci := 6) (C := RX11) (T := TX11) (N := 1) S.1 S.2.1 S.2.2.2.2 in_X11 S.2.2.2.1 hK hSk.2.2.1 0 rfl rfl 0 (by decide) (S.2.2.2.2 _ fl_X0_270) (fun _ h9 => h9) rfl dX0_put_24 ?_
      refine lv_iload_n hx hb dX0_put_27 rfl (lv_at hl 2 rfl) ?_
      refine lv_iload_n hx hb dX0_put_28 rfl (lv_at hl 3 rfl) ?_
      cases hin9 : inR iv 0 (nI L - 1) with
      | false =>
        refine tc_S (rest := []) [.ref (ro ka), .int iv, .int z] 3 S Wm_K7 hK7 hS (fun q h => h.elim) (t0_setO l hfl D dA cT zs zu ze w (ro ka) L hRk.1 f (by have := hRk.2.1; omega) iv z (out_of hRk.2.1 hin9)) wl_X0_294 wd_X0_X0_setIn rfl ⟨Nat.le_of_ble_eq_true rfl, Nat.le_of_ble_eq_true rfl⟩ hl.1 (Nat.le_of_ble_eq_true rfl) dX0_put_29 ⟨Nat.le_of_ble_eq_true rfl, Nat.le_of_ble_eq_true rfl⟩ ⟨hTH, hSk.2.2.2⟩ (fun x9 H locs hx9 hz9 ho9 hS => ?_) rfl
        refine WT.caught (hpc := 42) rfl htab ?_ ?_
        · obtain ⟨c3, c4, w1, w2, w3⟩ := hK7.2.1 7 _ rfl
          refine GT.pass (C := "java/lang/ArrayIndexOutOfBoundsException") (name := "java/lang/NullPointerException") (ct := 298) rfl S.2.2.2.1 (S.2.2.2.2 _ q776) w1 w2 w3 hx9 rfl rfl (by decide) ?_
          exact GT.hit (C := "java/lang/ArrayIndexOutOfBoundsException") (name := "java/lang/IndexOutOfBoundsException") (ct := 300) rfl S.2.2.2.1 (S.2.2.2.2 _ q801) (va_any rfl (hK2.2.1 _ q1545 rfl)) hx9 rfl rfl (by decide) rfl
        · have hP := kW_hi hI hSA hP ho9 (fun _ h => h.elim)
          have hSH := hSH.hi hSA ho9 (fun _ h => h.elim)
          refine lv_astore (lv' := [(4, .ref x9), (0, .ref (a 0)), (1, .int (nI ka)), (2, .int iv), (3, .int z)]) hx hb dX0_put_42 hl (by decide) rfl (fun ls hl => ?_)
          refine lv_aload_n hx hb dX0_put_44 rfl (lv_at hl 1 rfl) ?_
          refine lv_iconst (v := 3) hx hb dX0_put_45 (by decide) ?_
          refine gc_V (rest := []) [.int 3] 1 S Wm_K2 hK2 hS (fun q h => Or.inl h) (KC2.gc (KC.k2 (k0_fails l D dA a hI (σ.i 13 0) (fun _ => True) kStb_T 3))) wl_X0_291 wd_X0_X0_fails rfl ⟨Nat.le_of_ble_eq_true rfl, Nat.le_of_ble_eq_true rfl⟩ (k_recv hK hP) hl.1 (Nat.le_of_ble_eq_true rfl) dX0_put_46 ⟨Nat.le_of_ble_eq_true rfl, Nat.le_of_ble_eq_true rfl⟩ ⟨hP, trivial⟩ (fun v9 H locs hp9 hz9 ho9 hS => ?_) rfl
          obtain ⟨σ9, ⟨rfl, rfl⟩, hP⟩ := hp9
          have hSH := hSH.kad hSA ho9
          refine W.eq (g2 := F0 m 49 ls [.int ((-10) - 3)]) rfl ?_
          rw [up_ii] at hP
          refine g_iret S hr hlk hS dX0_put_49 ⟨Nat.le_of_ble_eq_true rfl, Nat.le_of_ble_eq_true rfl⟩ ?_
          rw [show mPut σr (nI ka) iv z = (-13, σr.i 0 3) from by rw [mPut_in hka4, if_neg hla, hRk.2.2.2.1, if_pos hin9]]
          exact ⟨rfl, SP_no hP hSH hRS⟩
      | true =>
        obtain ⟨i, hi, rfl⟩ := inR_sub hRk.2.1 hin9
        refine gc_S (rest := []) [.ref (ro ka), .int (nI i), .int z] 3 S Wm_K7 hK7 hS (fun q h => Or.inr (Or.inr (Or.inl ⟨ka, hka4, hsn, h⟩))) (g0_setIn l D dA cT zs zu ze w (ro ka) L i hRk.1 f hi (by have := hRk.2.1; omega) z) wl_X0_294 wd_X0_X0_setIn rfl ⟨Nat.le_of_ble_eq_true rfl, Nat.le_of_ble_eq_true rfl⟩ hl.1 (Nat.le_of_ble_eq_true rfl) dX0_put_29 ⟨Nat.le_of_ble_eq_true rfl, Nat.le_of_ble_eq_true rfl⟩ hSk.2.2.2 (fun v9 H locs hp9 hz9 ho9 hS => ?_) rfl
        obtain ⟨rfl, hPr⟩ := hp9
        refine W.eq (g2 := F0 m 32 ls []) rfl ?_
        have hP := kW_fr (A := fun q => q = ro ka) hI hP ho9 (fun q h z => hApk.2.2.2.1 (by rw [← show q = ro ka from z]; exact h))
        refine lv_iconst (v := 1) hx hb dX0_put_32 (by decide) ?_
        refine g_iret S hr hlk hS dX0_put_33 ⟨Nat.le_of_ble_eq_true rfl, Nat.le_of_ble_eq_true rfl⟩ ?_
        rw [mPut_in hka4, if_neg hla, hRk.2.2.2.1, if_neg (by rw [hin9]; decide), hRk.2.2.1, nI_clamp (by have := hRk.2.1; omega)]
        refine ⟨rfl, by rw [show ((σr.i 0 0).b 4 (upd (σr.2.1 4) (60 * ka + i) (laneV (nI w) z))).1 0 = 0 from up_i (σ := σr) (k := 0) (v := 0)]; exact hP, va_up sh ka (some (w, L, upd f i (laneV (nI w) z))), so, ro, ⟨?_, fun j hj w1 L1 f1 e1 => ?_⟩, hRS.put hka4 hs hi (fit_lane w hRk.1 z), fun j => Or.inl ⟨rfl, rfl⟩⟩
        · rw [← shR_keep hs]; exact hSH.1.fr ho9 (one_A (A := fun q => q = ro ka) (fun z => hApk.2.2.2.2.2.1 z.symm))
        · by_cases e2 : j = ka
          · subst e2
            rw [va_up_self] at e1
            cases e1
            exact ⟨hRk.1, hRk.2.1, hSk.2.2.1.fr ho9 (one_A (A := fun q => q = ro j) (hSA.2.2 j j hj hj hsn hsn).1), hPr⟩
          · rw [va_up_ne _ _ e2] at e1
            have h0 := hSH.2 j hj w1 L1 f1 e1
            have h1 := hSA.2.2 j ka hj hka4 (by rw [e1]; exact (fun z => by cases z)) hsn
            exact ⟨h0.1, h0.2.1, h0.2.2.1.fr ho9 (one_A (A := fun q => q = ro ka) h1.1), h0.2.2.2.fr ho9 (one_A (A := fun q => q = ro ka) (h1.2 e2))⟩
  · have c_4 : inR v 0 3 = false := by have := b2i_ne0.mp c_4; simpa using this
    refine lv_aload_n hx hb dX0_put_7 rfl (lv_at hl 0 rfl) ?_
    refine lv_iconst (v := (-1)) hx hb dX0_put_8 (by decide) ?_
    refine gc_V (rest := []) [.int (-1)] 1 S Wm_K2 hK2 hS (fun q h => Or.inl h) (KC2.gc (KC.k2 (k0_refused l D dA a hI σ (fun _ => True) kStb_T (-1)))) wl_X0_277 wd_X0_X0_refused rfl ⟨Nat.le_of_ble_eq_true rfl, Nat.le_of_ble_eq_true rfl⟩ (k_recv hK hP) hl.1 (Nat.le_of_ble_eq_true rfl) dX0_put_9 ⟨Nat.le_of_ble_eq_true rfl, Nat.le_of_ble_eq_true rfl⟩ ⟨hP, trivial⟩ (fun v9 H locs hp9 hz9 ho9 hS => ?_) rfl
    obtain ⟨σ9, ⟨rfl, rfl⟩, hP⟩ := hp9
    have hSH := hSH.kad hSA ho9
    refine W.eq (g2 := F0 m 12 ls [.int (-1)]) rfl ?_
    refine g_iret S hr hlk hS dX0_put_12 ⟨Nat.le_of_ble_eq_true rfl, Nat.le_of_ble_eq_true rfl⟩ ?_
    rw [show mPut σr v iv z = (-1, σr.i 0 0) from by unfold mPut; rw [if_pos c_4]]
    exact ⟨rfl, SP_no hP hSH hRS⟩
def CP (D : va_G) (dA : Nat → ClassId) (a : Nat → Nat) (σ : MS) (sh : Shs) (so ro : Nat → Nat) (f : Int32) (H : Heap) : Prop := va_P D vwCl (kW dA a (σ.i 13 f)) H ∧ SHT D dA (a 14) sh so ro H
theorem mCell_in {σ : MS} {k : Nat} {i : Int32} {w : Nat} (hk : k < 4) (hw : w < 3) : mCell σ (nI k) i (nI w) = if ¬ σ.2.1 2 k = -9 ∧ ¬ σ.2.1 2 k = nI w then (-9223372036854775808, 2) else if σ.2.1 2 k = -9 then (-9223372036854775808, 1) else if inR i 0 (σ.2.1 3 k - 1) = false then (-9223372036854775808, 3) else ((σ.2.1 4 (60 * k + i.toNatClampNeg)).toInt64, 0) := by
  unfold mCell
  rw [show inR (nI k) 0 3 = true from inR_nI (k := 3) (by omega) (by decide), show inR (nI w) 0 2 = true from inR_nI (k := 2) (by omega) (by decide), nI_clamp (by omega), if_neg (by decide), if_neg (by decide)]
set_option maxHeartbeats 4000000 in
theorem g0_cell (l : Launch) (hfl : NoTr l) (D : va_G) (dA : Nat → ClassId) (cT : ClassId) (zs zu ze : Nat) (a : Nat → Nat) (hI : kInj a) (σ σr : MS) (sh : Shs) (so ro : Nat → Nat) (sz : Nat) (hSA : SAp a sh so ro zs sz) (hRS : RSh σr sh) (v iv u : Int32) : GCW l yX0_cell cX0_cell 5 (some .long) [(28, 39, 40, 298), (28, 39, 48, 313), (28, 39, 56, 300)] 9 10300 3 900 (K7 D dA cT zs zu ze) [.ref (a 0), .int v, .int iv, .int u] (fun H => va_P D vwCl (kW dA a σ) H ∧ SHT D dA (a 14) sh so ro H ∧ TH cT zs zu ze H ∧ sz ≤ H.size) (shA a sh ro sz) (fun v9 H => v9 = some (.long (mCell σr v iv u).1) ∧ CP D dA a σ sh so ro (mCell σr v iv u).2 H) := by
  refine GCW.of (by decide) (Nat.le_of_ble_eq_true rfl) ?_
  intro p e s m below meth c ls S hr hlk htab hK7 hPre hl
  have hK2 := hK7.1.1
  have hK := hK2.1
  have hx := S.1
  have hb := S.2.1
  have hl : lv_has ls 5 [(0, .ref (a 0)), (1, .int v), (2, .int iv), (3, .int u)] := hl
  have hS : va_S (shA a sh ro sz) s.heap s.heap [] := va_S.rf
  obtain ⟨hP, hSH, hTH, hsz⟩ := hPre
  have hsz0 := hsz
  refine lv_aload_n hx hb dX0_cell_0 rfl (lv_at hl 0 rfl) ?_
  refine lv_iconst (v := 0) hx hb dX0_cell_1 (by decide) ?_
  refine k_put1 hI S hK hP (Or.inl ⟨0, by decide, rfl⟩) hS 13 (by decide) rfl fl_X0_263 rfl rfl (by decide +kernel) dX0_cell_2 (fun H locs hP hz1 ho1 hS => ?_)
  have hk0 : kAd a (a 0) := ⟨0, by decide, rfl⟩
  have hSH := hSH.kad hSA (fun q _ h => ho1 q (fun e => h (by rw [e]; exact hk0)))
  have hTH := hTH.fr (A := kAd a) (fun q _ h => ho1 q (fun e => h (by rw [e]; exact hk0))) hSA.1.2.2.2.2.1
  have hsz : sz ≤ H.size := by rw [hz1]; exact hsz
  refine lv_iload_n hx hb dX0_cell_5 rfl (lv_at hl 1 rfl) ?_
  refine rc_Si (rest := []) [.int v] 1 S hK (r0_noSheet l D dA v) wl_X0_274 wd_X0_X0_noSheet rfl ⟨Nat.le_of_ble_eq_true rfl, Nat.le_of_ble_eq_true rfl⟩ hl.1 (Nat.le_of_ble_eq_true rfl) dX0_cell_6 ⟨Nat.le_of_ble_eq_true rfl, Nat.le_of_ble_eq_true rfl⟩ trivial ?_ rfl
  refine lv_if_ne (tgt := 24) hx hb dX0_cell_9 (by decide) (fun c_4 => ?_) (fun c_4 => ?_)
  · have c_4 : inR v 0 3 = false := by have := b2i_ne0.mp c_4; simpa using this
    refine lv_ldc2 (v := -9223372036854775808) hx hb S.2.2.2.1 (S.2.2.2.2 _ q477) dX0_cell_24 ?_
    refine g_lret S hr hlk hS dX0_cell_27 ⟨Nat.le_of_ble_eq_true rfl, Nat.le_of_ble_eq_true rfl⟩ ?_
    rw [show mCell σr v iv u = (-9223372036854775808, 0) from by unfold mCell; rw [if_pos c_4]]
    exact ⟨rfl, hP, hSH⟩
  · have c_4 : inR v 0 3 = true := by have := b2i_eq0.mp c_4; simpa using this
    have c4n : ¬ inR v 0 3 = false := by rw [c_4]; decide
    refine lv_iload_n hx hb dX0_cell_12 rfl (lv_at hl 3 rfl) ?_
    refine lv_i2l hx hb dX0_cell_13 rfl ?_
    refine lv_lconst (v := 0) hx hb dX0_cell_14 (by decide) ?_
    refine lv_ldc2 (v := 2) hx hb S.2.2.2.1 (S.2.2.2.2 _ q749) dX0_cell_15 ?_
    refine rc_Si (rest := []) [.long (Int32.toInt64 u), .long 0, .long 2] 3 S hK (r0_in l D dA (Int32.toInt64 u) 0 2) wl_X0_49 wd_X0_X0_in rfl ⟨Nat.le_of_ble_eq_true rfl, Nat.le_of_ble_eq_true rfl⟩ hl.1 (Nat.le_of_ble_eq_true rfl) dX0_cell_18 ⟨Nat.le_of_ble_eq_true rfl, Nat.le_of_ble_eq_true rfl⟩ trivial ?_ rfl
    refine topi (z := b2i (inR u 0 2)) (congrArg b2i (inL_02 u)) ?_
    refine lv_if_ne (tgt := 28) hx hb dX0_cell_21 (by decide) (fun c_22 => ?_) (fun c_22 => ?_)
    · have c_22 : inR u 0 2 = true := b2i_ne0.mp c_22
      obtain ⟨w, hw9, rfl⟩ := inR_some (k := 2) (by decide) c_22
      have hw3 : w < 3 := by omega
      obtain ⟨ka, hka9, rfl⟩ := inR_some (k := 3) (by decide) c_4
      have hka4 : ka < 4 := by omega
      have hin : inR (nI ka) 0 3 = true := inR_nI (k := 3) (by omega) (by decide)
      have hcl : (nI ka).toNatClampNeg = ka := nI_clamp (by omega)
      refine lv_aload_n hx hb dX0_cell_28 rfl (lv_at hl 0 rfl) ?_
      refine lv_iload_n hx hb dX0_cell_29 rfl (lv_at hl 1 rfl) ?_
      refine rc_Vr (rest := []) [.int (nI ka)] 1 S hK (r0_rowIn l D dA a (σ.i 13 0) sh so ro ka hka4) wl_X0_302 wd_X0_X0_rowIn rfl ⟨Nat.le_of_ble_eq_true rfl, Nat.le_of_ble_eq_true rfl⟩ (k_recv hK hP) hl.1 (Nat.le_of_ble_eq_true rfl) dX0_cell_30 ⟨Nat.le_of_ble_eq_true rfl, Nat.le_of_ble_eq_true rfl⟩ ⟨hP, hSH⟩ ?_ rfl
      refine lv_iload_n hx hb dX0_cell_33 rfl (lv_at hl 3 rfl) ?_
      refine lv_iload_n hx hb dX0_cell_34 rfl (lv_at hl 2 rfl) ?_
      cases hs : sh ka with
      | none =>
        rw [show shV sh ro ka = .null by unfold shV; rw [hs]; rfl]
        refine tc_S (rest := []) [.null, .int (nI w), .int iv] 3 S Wm_K7 hK7 hS (fun q h => h.elim) (t0_cellN l hfl D dA cT zs zu ze w hw3 iv) wl_X0_305 wd_X0_X0_cellOf rfl ⟨Nat.le_of_ble_eq_true rfl, Nat.le_of_ble_eq_true rfl⟩ hl.1 (Nat.le_of_ble_eq_true rfl) dX0_cell_35 ⟨Nat.le_of_ble_eq_true rfl, Nat.le_of_ble_eq_true rfl⟩ hTH (fun x9 H locs hx9 hz9 ho9 hS => ?_) rfl
        refine WT.caught (hpc := 40) rfl htab ?_ ?_
        · exact GT.hit (C := "java/lang/NullPointerException") (name := "java/lang/NullPointerException") (ct := 298) rfl S.2.2.2.1 (S.2.2.2.2 _ q776) (va_any rfl (hK2.2.1 _ q798 rfl)) hx9 rfl rfl (by decide) rfl
        · have hP := kW_hi hI hSA hP ho9 (fun _ h => h.elim)
          have hSH := hSH.hi hSA ho9 (fun _ h => h.elim)
          refine lv_astore (lv' := [(4, .ref x9), (0, .ref (a 0)), (1, .int (nI ka)), (2, .int iv), (3, .int (nI w))]) hx hb dX0_cell_40 hl (by decide) rfl (fun ls hl => ?_)
          refine lv_aload_n hx hb dX0_cell_42 rfl (lv_at hl 1 rfl) ?_
          refine lv_iconst (v := 1) hx hb dX0_cell_43 (by decide) ?_
          refine gc_V (rest := []) [.int 1] 1 S Wm_K2 hK2 hS (fun q h => Or.inl h) (KC2.gc (KC.k2 (k0_failsLong l D dA a hI (σ.i 13 0) (fun _ => True) kStb_T 1))) wl_X0_309 wd_X0_X0_failsLong rfl ⟨Nat.le_of_ble_eq_true rfl, Nat.le_of_ble_eq_true rfl⟩ (k_recv hK hP) hl.1 (Nat.le_of_ble_eq_true rfl) dX0_cell_44 ⟨Nat.le_of_ble_eq_true rfl, Nat.le_of_ble_eq_true rfl⟩ ⟨hP, trivial⟩ (fun v9 H locs hp9 hz9 ho9 hS => ?_) rfl
          obtain ⟨σ9, ⟨rfl, rfl⟩, hP⟩ := hp9
          have hSH := hSH.kad hSA ho9
          refine W.eq (g2 := F0 m 47 ls [.long (-9223372036854775808)]) rfl ?_
          rw [up_ii] at hP
          refine g_lret S hr hlk hS dX0_cell_47 ⟨Nat.le_of_ble_eq_true rfl, Nat.le_of_ble_eq_true rfl⟩ ?_
          rw [show mCell σr (nI ka) iv (nI w) = (-9223372036854775808, 1) from by rw [mCell_in hka4 hw3, if_neg (fun h => h.1 ((hRS ka hka4).1 hs)), if_pos ((hRS ka hka4).1 hs)]]
          exact ⟨rfl, hP, hSH⟩
      | some q =>
        obtain ⟨w1, L, f⟩ := q
        have hRk := (hRS ka hka4).2 w1 L f hs
        have hSk := hSH.2 ka hka4 w1 L f hs
        have hla : ¬ σr.2.1 2 ka = -9 := by rw [hRk.2.2.1]; exact nI_n9 (by have := hRk.1; omega)
        rw [show shV sh ro ka = .ref (ro ka) by unfold shV; rw [hs]; rfl]
        by_cases hww : w1 = w
        · subst hww
          have hnc : ¬ (¬ σr.2.1 2 ka = -9 ∧ ¬ σr.2.1 2 ka = nI w1) := fun h => h.2 hRk.2.2.1
          cases hin9 : inR iv 0 (nI L - 1) with
          | false =>
            refine tc_S (rest := []) [.ref (ro ka), .int (nI w1), .int iv] 3 S Wm_K7 hK7 hS (fun q h => h.elim) (t0_cellO l hfl D dA cT zs zu ze w1 (ro ka) L hw3 f (by have := hRk.2.1; omega) iv (out_of hRk.2.1 hin9)) wl_X0_305 wd_X0_X0_cellOf rfl ⟨Nat.le_of_ble_eq_true rfl, Nat.le_of_ble_eq_true rfl⟩ hl.1 (Nat.le_of_ble_eq_true rfl) dX0_cell_35 ⟨Nat.le_of_ble_eq_true rfl, Nat.le_of_ble_eq_true rfl⟩ ⟨hTH, hSk.2.2.2⟩ (fun x9 H locs hx9 hz9 ho9 hS => ?_) rfl
            refine WT.caught (hpc := 56) rfl htab ?_ ?_
            · obtain ⟨c3, c4, w1, w2, w3⟩ := hK7.2.1 7 _ rfl
              refine GT.pass (C := "java/lang/ArrayIndexOutOfBoundsException") (name := "java/lang/NullPointerException") (ct := 298) rfl S.2.2.2.1 (S.2.2.2.2 _ q776) w1 w2 w3 hx9 rfl rfl (by decide) ?_
              obtain ⟨c3, c4, w1, w2, w3⟩ := hK7.2.1 8 _ rfl
              refine GT.pass (C := "java/lang/ArrayIndexOutOfBoundsException") (name := "java/lang/ClassCastException") (ct := 313) rfl S.2.2.2.1 (S.2.2.2.2 _ q829) w1 w2 w3 hx9 rfl rfl (by decide) ?_
              exact GT.hit (C := "java/lang/ArrayIndexOutOfBoundsException") (name := "java/lang/IndexOutOfBoundsException") (ct := 300) rfl S.2.2.2.1 (S.2.2.2.2 _ q801) (va_any rfl (hK2.2.1 _ q1545 rfl)) hx9 rfl rfl (by decide) rfl
            · have hP := kW_hi hI hSA hP ho9 (fun _ h => h.elim)
              have hSH := hSH.hi hSA ho9 (fun _ h => h.elim)
              refine lv_astore (lv' := [(4, .ref x9), (0, .ref (a 0)), (1, .int (nI ka)), (2, .int iv), (3, .int (nI w1))]) hx hb dX0_cell_56 hl (by decide) rfl (fun ls hl => ?_)
              refine lv_aload_n hx hb dX0_cell_58 rfl (lv_at hl 1 rfl) ?_
              refine lv_iconst (v := 3) hx hb dX0_cell_59 (by decide) ?_
              refine gc_V (rest := []) [.int 3] 1 S Wm_K2 hK2 hS (fun q h => Or.inl h) (KC2.gc (KC.k2 (k0_failsLong l D dA a hI (σ.i 13 0) (fun _ => True) kStb_T 3))) wl_X0_309 wd_X0_X0_failsLong rfl ⟨Nat.le_of_ble_eq_true rfl, Nat.le_of_ble_eq_true rfl⟩ (k_recv hK hP) hl.1 (Nat.le_of_ble_eq_true rfl) dX0_cell_60 ⟨Nat.le_of_ble_eq_true rfl, Nat.le_of_ble_eq_true rfl⟩ ⟨hP, trivial⟩ (fun v9 H locs hp9 hz9 ho9 hS => ?_) rfl
              obtain ⟨σ9, ⟨rfl, rfl⟩, hP⟩ := hp9
              have hSH := hSH.kad hSA ho9
              refine W.eq (g2 := F0 m 63 ls [.long (-9223372036854775808)]) rfl ?_
              rw [up_ii] at hP
              refine g_lret S hr hlk hS dX0_cell_63 ⟨Nat.le_of_ble_eq_true rfl, Nat.le_of_ble_eq_true rfl⟩ ?_
              rw [show mCell σr (nI ka) iv (nI w1) = (-9223372036854775808, 3) from by rw [mCell_in hka4 hw3, if_neg hnc, if_neg hla, hRk.2.2.2.1, if_pos hin9]]
              exact ⟨rfl, hP, hSH⟩
          | true =>
            obtain ⟨i, hi, rfl⟩ := inR_sub hRk.2.1 hin9
            refine rc_Si (rest := []) [.ref (ro ka), .int (nI w1), .int (nI i)] 3 S hK (r0_cellOf l D dA w1 (ro ka) L i f hw3 hi (by have := hRk.2.1; omega)) wl_X0_305 wd_X0_X0_cellOf rfl ⟨Nat.le_of_ble_eq_true rfl, Nat.le_of_ble_eq_true rfl⟩ hl.1 (Nat.le_of_ble_eq_true rfl) dX0_cell_35 ⟨Nat.le_of_ble_eq_true rfl, Nat.le_of_ble_eq_true rfl⟩ hSk.2.2.2 ?_ rfl
            refine lv_i2l hx hb dX0_cell_38 rfl ?_
            refine g_lret S hr hlk hS dX0_cell_39 ⟨Nat.le_of_ble_eq_true rfl, Nat.le_of_ble_eq_true rfl⟩ ?_
            rw [mCell_in hka4 hw3, if_neg hnc, if_neg hla, hRk.2.2.2.1, if_neg (by rw [hin9]; decide), nI_clamp (by have := hRk.2.1; omega), hRk.2.2.2.2.1 i hi]
            exact ⟨rfl, hP, hSH⟩
        · refine tc_S (rest := []) [.ref (ro ka), .int (nI w), .int iv] 3 S Wm_K7 hK7 hS (fun q h => h.elim) (t0_cellC l hfl D dA cT zs zu ze w w1 (ro ka) L hw3 hRk.1 hww f iv) wl_X0_305 wd_X0_X0_cellOf rfl ⟨Nat.le_of_ble_eq_true rfl, Nat.le_of_ble_eq_true rfl⟩ hl.1 (Nat.le_of_ble_eq_true rfl) dX0_cell_35 ⟨Nat.le_of_ble_eq_true rfl, Nat.le_of_ble_eq_true rfl⟩ ⟨hTH, hSk.2.2.2⟩ (fun x9 H locs hx9 hz9 ho9 hS => ?_) rfl
          refine WT.caught (hpc := 48) rfl htab ?_ ?_
          · obtain ⟨c3, c4, w1, w2, w3⟩ := hK7.2.1 6 _ rfl
            refine GT.pass (C := "java/lang/ClassCastException") (name := "java/lang/NullPointerException") (ct := 298) rfl S.2.2.2.1 (S.2.2.2.2 _ q776) w1 w2 w3 hx9 rfl rfl (by decide) ?_
            exact GT.hit (C := "java/lang/ClassCastException") (name := "java/lang/ClassCastException") (ct := 313) rfl S.2.2.2.1 (S.2.2.2.2 _ q829) (va_any rfl (hK2.2.1 _ q841 rfl)) hx9 rfl rfl (by decide) rfl
          · have hP := kW_hi hI hSA hP ho9 (fun _ h => h.elim)
            have hSH := hSH.hi hSA ho9 (fun _ h => h.elim)
            refine lv_astore (lv' := [(4, .ref x9), (0, .ref (a 0)), (1, .int (nI ka)), (2, .int iv), (3, .int (nI w))]) hx hb dX0_cell_48 hl (by decide) rfl (fun ls hl => ?_)
            refine lv_aload_n hx hb dX0_cell_50 rfl (lv_at hl 1 rfl) ?_
            refine lv_iconst (v := 2) hx hb dX0_cell_51 (by decide) ?_
            refine gc_V (rest := []) [.int 2] 1 S Wm_K2 hK2 hS (fun q h => Or.inl h) (KC2.gc (KC.k2 (k0_failsLong l D dA a hI (σ.i 13 0) (fun _ => True) kStb_T 2))) wl_X0_309 wd_X0_X0_failsLong rfl ⟨Nat.le_of_ble_eq_true rfl, Nat.le_of_ble_eq_true rfl⟩ (k_recv hK hP) hl.1 (Nat.le_of_ble_eq_true rfl) dX0_cell_52 ⟨Nat.le_of_ble_eq_true rfl, Nat.le_of_ble_eq_true rfl⟩ ⟨hP, trivial⟩ (fun v9 H locs hp9 hz9 ho9 hS => ?_) rfl
            obtain ⟨σ9, ⟨rfl, rfl⟩, hP⟩ := hp9
            have hSH := hSH.kad hSA ho9
            refine W.eq (g2 := F0 m 55 ls [.long (-9223372036854775808)]) rfl ?_
            rw [up_ii] at hP
            refine g_lret S hr hlk hS dX0_cell_55 ⟨Nat.le_of_ble_eq_true rfl, Nat.le_of_ble_eq_true rfl⟩ ?_
            rw [show mCell σr (nI ka) iv (nI w) = (-9223372036854775808, 2) from by rw [mCell_in hka4 hw3, if_pos ⟨hla, by rw [hRk.2.2.1]; exact fun h => hww ((nI_eq (by have := hRk.1; omega) (by omega)).mp h)⟩]]
            exact ⟨rfl, hP, hSH⟩
    · have c_22 : inR u 0 2 = false := b2i_eq0.mp c_22
      refine lv_ldc2 (v := -9223372036854775808) hx hb S.2.2.2.1 (S.2.2.2.2 _ q477) dX0_cell_24 ?_
      refine g_lret S hr hlk hS dX0_cell_27 ⟨Nat.le_of_ble_eq_true rfl, Nat.le_of_ble_eq_true rfl⟩ ?_
      rw [show mCell σr v iv u = (-9223372036854775808, 0) from by unfold mCell; rw [if_neg c4n, if_pos c_22]]
      exact ⟨rfl, hP, hSH⟩
