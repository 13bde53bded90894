/-! COMPONENT 39: put and cell (by program: gen/comp39.py) -/
set_option maxRecDepth 100000
theorem mPut_in {σ : MS} {k : Nat} {i v : Int32} (hk : k < 4) : mPut σ (nI k) i v = if σ.2.1 2 k = -9 then (-11, σ.i 0 1) else if inR i 0 (σ.2.1 3 k - 1) = false then (-13, σ.i 0 3) else (1, (σ.i 0 0).b 4 (upd (σ.2.1 4) (60 * k + i.toNatClampNeg) (laneV (σ.2.1 2 k) v))) := by
  unfold mPut
  rw [show inR (nI k) 0 3 = true from inR_nI (k := 3) (by omega) (by decide), nI_clamp (by omega), if_neg (by decide)]
theorem RSh.put {σr : MS} {sh : Shs} (h : RSh σr sh) {k w L i : Nat} {f : Nat → Int32} {v : Int32} (hk : k < 4) (hs : sh k = some (w, L, f)) (hi : i < L) : RSh ((σr.i 0 0).b 4 (upd (σr.2.1 4) (60 * k + i) v)) (va_up sh k (some (w, L, upd f i v))) := by
  intro j hj
  have h4 : ((σr.i 0 0).b 4 (upd (σr.2.1 4) (60 * k + i) v)).2.1 4 = upd (σr.2.1 4) (60 * k + i) v := up_b
  have h3 : ((σr.i 0 0).b 4 (upd (σr.2.1 4) (60 * k + i) v)).2.1 3 = σr.2.1 3 := up_bn (by decide)
  have h2 : ((σr.i 0 0).b 4 (upd (σr.2.1 4) (60 * k + i) v)).2.1 2 = σr.2.1 2 := up_bn (by decide)
  rw [h2, h3, h4]
  have h8 := (h k hk).2 w L f hs
  by_cases e : j = k
  · subst e
    rw [va_up_self]
    refine ⟨(fun z => by cases z), fun w1 L1 f1 z => ?_⟩
    cases z
    refine ⟨h8.1, h8.2.1, h8.2.2.1, h8.2.2.2.1, fun x hx => ?_⟩
    by_cases e1 : x = i
    · subst e1; rw [updS, updS]
    · rw [updN _ _ e1, updN _ _ (by omega)]; exact h8.2.2.2.2 x hx
  · rw [va_up_ne _ _ e]
    refine ⟨(h j hj).1, fun w1 L1 f1 z => ?_⟩
    have h9 := (h j hj).2 w1 L1 f1 z
    exact ⟨h9.1, h9.2.1, h9.2.2.1, h9.2.2.2.1, fun x hx => by rw [updN _ _ (by have := h8.2.1; have := h9.2.1; omega)]; exact h9.2.2.2.2 x hx⟩
theorem shR_keep {sh : Shs} {so : Nat → Nat} {k : Nat} {q q' : Nat × Nat × (Nat → Int32)} (hs : sh k = some q) : shR sh so = shR (va_up sh k (some q')) so := by
  funext j
  unfold shR
  by_cases e : j = k
  · subst e; rw [va_up_self, hs]; rfl
  · rw [va_up_ne _ _ e]
theorem out_of {i : Int32} {L : Nat} (hL : L ≤ 60) (h : inR i 0 (nI L - 1) = false) : i < 0 ∨ L ≤ i.toNatClampNeg := by
  by_cases h0 : i < 0
  · exact Or.inl h0
  · obtain ⟨j, hj, rfl⟩ := nI_of h0
    rw [nI_clamp hj]
    by_cases h1 : j < L
    · rw [inR_subN hL h1] at h; cases h
    · exact Or.inr (by omega)
set_option maxHeartbeats 4000000 in
theorem g0_put (l : Launch) (hfl : NoTr l) (D : va_G) (dA : Nat → ClassId) (cT : ClassId) (zs zu ze : Nat) (a : Nat → Nat) (hI : kInj a) (σ σr : MS) (sh : Shs) (so ro : Nat → Nat) (sz : Nat) (hSA : SAp a sh so ro zs sz) (hRS : RSh σr sh) (v iv z : Int32) : GCW l yX0_put cX0_put 5 (some .int) [(18, 33, 34, 298), (18, 33, 42, 300)] 9 10300 3 300 (K7 D dA cT zs zu ze) [.ref (a 0), .int v, .int iv, .int z] (fun H => va_P D vwCl (kW dA a σ) H ∧ SHT D dA (a 14) sh so ro H ∧ TH cT zs zu ze H ∧ H.size = sz) (shA a sh ro sz) (fun v9 H => v9 = some (.int (mPut σr v iv z).1) ∧ SP D dA a σ (mPut σr v iv z).2 so ro sz H) := by
  refine GCW.of (by decide) (Nat.le_of_ble_eq_true rfl) ?_
  intro p e s m below meth c ls S hr hlk htab hK7 hPre hl
  have hK2 := hK7.1.1
  have hK := hK2.1
  have hx := S.1
  have hb := S.2.1
  have hl : lv_has ls 5 [(0, .ref (a 0)), (1, .int v), (2, .int iv), (3, .int z)] := hl
  have hS : va_S (shA a sh ro sz) s.heap s.heap [] := va_S.rf
  obtain ⟨hP, hSH, hTH, hsz⟩ := hPre
  have hsz0 : sz ≤ s.heap.size := by omega
  have hns : ∀ q, shA a sh ro sz q → ∀ cell, s.heap[q]? = some cell → cell.vm.isStatics = false := shA_ns hP hSH hsz
  have hsz : sz ≤ s.heap.size := hsz0
  have hTH0 := hTH
  refine lv_iload_n hx hb dX0_put_0 rfl (lv_at hl 1 rfl) ?_
  refine rc_Si (rest := []) [.int v] 1 S hK (r0_noSheet l D dA v) wl_X0_274 wd_X0_X0_noSheet rfl ⟨Nat.le_of_ble_eq_true rfl, Nat.le_of_ble_eq_true rfl⟩ hl.1 (Nat.le_of_ble_eq_true rfl) dX0_put_1 ⟨Nat.le_of_ble_eq_true rfl, Nat.le_of_ble_eq_true rfl⟩ trivial ?_ rfl
  refine lv_if_eq (tgt := 13) hx hb dX0_put_4 (by decide) (fun c_4 => ?_) (fun c_4 => ?_)
  · have c_4 : inR v 0 3 = true := by have := b2i_eq0.mp c_4; simpa using this
    obtain ⟨ka, hka9, rfl⟩ := inR_some (k := 3) (by decide) c_4
    have hka4 : ka < 4 := by omega
    have hin : inR (nI ka) 0 3 = true := inR_nI (k := 3) (by omega) (by decide)
    have hcl : (nI ka).toNatClampNeg = ka := nI_clamp (by omega)
    refine lv_aload_n hx hb dX0_put_13 rfl (lv_at hl 0 rfl) ?_
    refine lv_iconst (v := 0) hx hb dX0_put_14 (by decide) ?_
    refine k_put1 hI S hK hP (Or.inl ⟨0, by decide, rfl⟩) hS 13 (by decide) rfl fl_X0_263 rfl rfl (by decide +kernel) dX0_put_15 (fun H locs hP hz1 ho1 hS => ?_)
    have hk0 : kAd a (a 0) := ⟨0, by decide, rfl⟩
    have hSH := hSH.kad hSA (fun q _ h => ho1 q (fun e => h (by rw [e]; exact hk0)))
    have hTH := hTH.fr (A := kAd a) (fun q _ h => ho1 q (fun e => h (by rw [e]; exact hk0))) hSA.1.2.2.2.2.1
    have hsz : sz ≤ H.size := by rw [hz1]; exact hsz
    refine lv_aload_n hx hb dX0_put_18 rfl (lv_at hl 0 rfl) ?_
    refine k_get (v := .ref (a 14)) S hK hP 14 (by decide) fl_X0_41 rfl dX0_put_19 rfl ?_
    refine lv_iload_n hx hb dX0_put_22 rfl (lv_at hl 1 rfl) ?_
    refine va_aldq (i := nI ka) S.1 S.2.1 hK hSH.1 0 4 rfl rfl (vp_in_nI (N := 4) hka4 (by decide)) dX0_put_23 ?_
    rw [show shR sh so (nI ka).toNatClampNeg = shR sh so ka by rw [hcl]]
    cases hs : sh ka with
    | none =>
      rw [show shR sh so ka = none by unfold shR; rw [hs]; rfl]
      refine W.adm (fun hadm => ?_)
      obtain ⟨e1, e2, e3, e4, j1, fv, q1, q2, hfV, hsV, -⟩ := Cond.laysFinal_spec (S.2.2.2.2 _ q760)
      refine wt_npe (A0 := shA a sh ro sz) (H0 := s.heap) (g := F0 m 24 ls []) hx (hfl e hadm) (npe_all S.2.2.2.2 hK7.1 hTH0) hns (hl.1.trans S.2.2.1.symm) (by decide) (Nat.le_of_ble_eq_true rfl) (Nat.le_of_ble_eq_true rfl) (Nat.le_of_ble_eq_true rfl) hS (fun q h => Or.inr (Or.inr (Or.inr (Nat.le_trans hsz h)))) (fun T hT X => ?_) (fun x9 H locs hx9 hz9 ho9 hS => ?_)
      · obtain ⟨vm9, X9, st9⟩ := X.getfieldNull hx S.2.2.2.1 (S.2.2.2.2 _ q759) hfV hsV (g := F0 m 24 ls [.null]) rfl rfl (by rw [hb]; exact dX0_put_24)
        exact ⟨T.setVm vm9, hT, X9, st9⟩
      · refine WT.caught (hpc := 34) rfl htab ?_ ?_
        · exact GT.hit (C := "java/lang/NullPointerException") (name := "java/lang/NullPointerException") (ct := 298) rfl S.2.2.2.1 (S.2.2.2.2 _ q776) (va_any rfl (hK2.2.1 _ q798 rfl)) hx9 rfl rfl (by decide) rfl
        · have hP := kW_hi hI hSA hP ho9 (fun _ h => h.elim)
          have hSH := hSH.hi hSA ho9 (fun _ h => h.elim)
          refine lv_astore (lv' := [(4, .ref x9), (0, .ref (a 0)), (1, .int (nI ka)), (2, .int iv), (3, .int z)]) hx hb dX0_put_34 hl (by decide) rfl (fun ls hl => ?_)
          refine lv_aload_n hx hb dX0_put_36 rfl (lv_at hl 1 rfl) ?_
          refine lv_iconst (v := 1) hx hb dX0_put_37 (by decide) ?_
          refine gc_V (rest := []) [.int 1] 1 S Wm_K2 hK2 hS (fun q h => Or.inl h) (KC2.gc (KC.k2 (k0_fails l D dA a hI (σ.i 13 0) (fun _ => True) kStb_T 1))) wl_X0_291 wd_X0_X0_fails rfl ⟨Nat.le_of_ble_eq_true rfl, Nat.le_of_ble_eq_true rfl⟩ (k_recv hK hP) hl.1 (Nat.le_of_ble_eq_true rfl) dX0_put_38 ⟨Nat.le_of_ble_eq_true rfl, Nat.le_of_ble_eq_true rfl⟩ ⟨hP, trivial⟩ (fun v9 H locs hp9 hz9 ho9 hS => ?_) rfl
          obtain ⟨σ9, ⟨rfl, rfl⟩, hP⟩ := hp9
          have hSH := hSH.kad hSA ho9
          refine W.eq (g2 := F0 m 41 ls [.int ((-10) - 1)]) rfl ?_
          rw [up_ii] at hP
          refine g_iret S hr hlk hS dX0_put_41 ⟨Nat.le_of_ble_eq_true rfl, Nat.le_of_ble_eq_true rfl⟩ ?_
          rw [show mPut σr (nI ka) iv z = (-11, σr.i 0 1) from by rw [mPut_in hka4, if_pos ((hRS ka hka4).1 hs)]]
          exact ⟨rfl, SP_no hP hSH hRS⟩
    | some q =>
      obtain ⟨w, L, f⟩ := q
      have hRk := (hRS ka hka4).2 w L f hs
      have hSk := hSH.2 ka hka4 w L f hs
      have hApk := hSA.2.1 ka hka4 (by rw [hs]; exact fun z => by cases z)
      have hsn : sh ka ≠ none := by rw [hs]; exact (fun z => by cases z)
      have hla : ¬ σr.2.1 2 ka = -9 := by rw [hRk.2.2.1]; exact nI_n9 (by have := hRk.1; omega)
      rw [show shR sh so ka = some (so ka) by unfold shR; rw [hs]; rfl]
      refine va_get (v := .ref (ro ka)) (D := D) (ci := 6) (C := RX11) (T := TX11) (N := 1) S.1 S.2.1 S.2.2.2.2 in_X11 S.2.2.2.1 hK hSk.2.2.1 0 rfl rfl 0 (by decide) (S.2.2.2.2 _ fl_X0_270) (fun _ h9 => h9) rfl dX0_put_24 ?_
      refine lv_iload_n hx hb dX0_put_27 rfl (lv_at hl 2 rfl) ?_
      refine lv_iload_n hx hb dX0_put_28 rfl (lv_at hl 3 rfl) ?_
      cases hin9 : inR iv 0 (nI L - 1) with
      | false =>
        refine tc_S (rest := []) [.ref (ro ka), .int iv, .int z] 3 S Wm_K7 hK7 hS (fun q h => h.elim) (t0_setO l hfl D dA cT zs zu ze w (ro ka) L hRk.1 f (by have := hRk.2.1; omega) iv z (out_of hRk.2.1 hin9)) wl_X0_294 wd_X0_X0_setIn rfl ⟨Nat.le_of_ble_eq_true rfl, Nat.le_of_ble_eq_true rfl⟩ hl.1 (Nat.le_of_ble_eq_true rfl) dX0_put_29 ⟨Nat.le_of_ble_eq_true rfl, Nat.le_of_ble_eq_true rfl⟩ ⟨hTH, hSk.2.2.2⟩ (fun x9 H locs hx9 hz9 ho9 hS => ?_) rfl
        refine WT.caught (hpc := 42) rfl htab ?_ ?_
        · obtain ⟨c3, c4, w1, w2, w3⟩ := hK7.2.1 7 _ rfl
          refine GT.pass (C := "java/lang/ArrayIndexOutOfBoundsException") (name := "java/lang/NullPointerException") (ct := 298) rfl S.2.2.2.1 (S.2.2.2.2 _ q776) w1 w2 w3 hx9 rfl rfl (by decide) ?_
          exact GT.hit (C := "java/lang/ArrayIndexOutOfBoundsException") (name := "java/lang/IndexOutOfBoundsException") (ct := 300) rfl S.2.2.2.1 (S.2.2.2.2 _ q801) (va_any rfl (hK2.2.1 _ q1545 rfl)) hx9 rfl rfl (by decide) rfl
        · have hP := kW_hi hI hSA hP ho9 (fun _ h => h.elim)
          have hSH := hSH.hi hSA ho9 (fun _ h => h.elim)
          refine lv_astore (lv' := [(4, .ref x9), (0, .ref (a 0)), (1, .int (nI ka)), (2, .int iv), (3, .int z)]) hx hb dX0_put_42 hl (by decide) rfl (fun ls hl => ?_)
          refine lv_aload_n hx hb dX0_put_44 rfl (lv_at hl 1 rfl) ?_
          refine lv_iconst (v := 3) hx hb dX0_put_45 (by decide) ?_
          refine gc_V (rest := []) [.int 3] 1 S Wm_K2 hK2 hS (fun q h => Or.inl h) (KC2.gc (KC.k2 (k0_fails l D dA a hI (σ.i 13 0) (fun _ => True) kStb_T 3))) wl_X0_291 wd_X0_X0_fails rfl ⟨Nat.le_of_ble_eq_true rfl, Nat.le_of_ble_eq_true rfl⟩ (k_recv hK hP) hl.1 (Nat.le_of_ble_eq_true rfl) dX0_put_46 ⟨Nat.le_of_ble_eq_true rfl, Nat.le_of_ble_eq_true rfl⟩ ⟨hP, trivial⟩ (fun v9 H locs hp9 hz9 ho9 hS => ?_) rfl
          obtain ⟨σ9, ⟨rfl, rfl⟩, hP⟩ := hp9
          have hSH := hSH.kad hSA ho9
          refine W.eq (g2 := F0 m 49 ls [.int ((-10) - 3)]) rfl ?_
          rw [up_ii] at hP
          refine g_iret S hr hlk hS dX0_put_49 ⟨Nat.le_of_ble_eq_true rfl, Nat.le_of_ble_eq_true rfl⟩ ?_
          rw [show mPut σr (nI ka) iv z = (-13, σr.i 0 3) from by rw [mPut_in hka4, if_neg hla, hRk.2.2.2.1, if_pos hin9]]
          exact ⟨rfl, SP_no hP hSH hRS⟩
      | true =>
        obtain ⟨i, hi, rfl⟩ := inR_sub hRk.2.1 hin9
        refine gc_S (rest := []) [.ref (ro ka), .int (nI i), .int z] 3 S Wm_K7 hK7 hS (fun q h => Or.inr (Or.inr (Or.inl ⟨ka, hka4, hsn, h⟩))) (g0_setIn l D dA cT zs zu ze w (ro ka) L i hRk.1 f hi (by have := hRk.2.1; omega) z) wl_X0_294 wd_X0_X0_setIn rfl ⟨Nat.le_of_ble_eq_true rfl, Nat.le_of_ble_eq_true rfl⟩ hl.1 (Nat.le_of_ble_eq_true rfl) dX0_put_29 ⟨Nat.le_of_ble_eq_true rfl, Nat.le_of_ble_eq_true rfl⟩ hSk.2.2.2 (fun v9 H locs hp9 hz9 ho9 hS => ?_) rfl
        obtain ⟨rfl, hPr⟩ := hp9
        refine W.eq (g2 := F0 m 32 ls []) rfl ?_
        have hP := kW_fr (A := fun q => q = ro ka) hI hP ho9 (fun q h z => hApk.2.2.2.1 (by rw [← show q = ro ka from z]; exact h))
        refine lv_iconst (v := 1) hx hb dX0_put_32 (by decide) ?_
        refine g_iret S hr hlk hS dX0_put_33 ⟨Nat.le_of_ble_eq_true rfl, Nat.le_of_ble_eq_true rfl⟩ ?_
        rw [mPut_in hka4, if_neg hla, hRk.2.2.2.1, if_neg (by rw [hin9]; decide), hRk.2.2.1, nI_clamp (by have := hRk.2.1; omega)]
        refine ⟨rfl, by rw [show ((σr.i 0 0).b 4 (upd (σr.2.1 4) (60 * ka + i) (laneV (nI w) z))).1 0 = 0 from up_i (σ := σr) (k := 0) (v := 0)]; exact hP, va_up sh ka (some (w, L, upd f i (laneV (nI w) z))), so, ro, ⟨?_, fun j hj w1 L1 f1 e1 => ?_⟩, hRS.put hka4 hs hi, fun j => Or.inl ⟨rfl, rfl⟩⟩
        · rw [← shR_keep hs]; exact hSH.1.fr ho9 (one_A (A := fun q => q = ro ka) (fun z => hApk.2.2.2.2.2.1 z.symm))
        · by_cases e2 : j = ka
          · subst e2
            rw [va_up_self] at e1
            cases e1
            exact ⟨hRk.1, hRk.2.1, hSk.2.2.1.fr ho9 (one_A (A := fun q => q = ro j) (hSA.2.2 j j hj hj hsn hsn).1), hPr⟩
          · rw [va_up_ne _ _ e2] at e1
            have h0 := hSH.2 j hj w1 L1 f1 e1
            have h1 := hSA.2.2 j ka hj hka4 (by rw [e1]; exact (fun z => by cases z)) hsn
            exact ⟨h0.1, h0.2.1, h0.2.2.1.fr ho9 (one_A (A := fun q => q = ro ka) h1.1), h0.2.2.2.fr ho9 (one_A (A := fun q => q = ro ka) (h1.2 e2))⟩
  · have c_4 : inR v 0 3 = false := by have := b2i_ne0.mp c_4; simpa using this
    refine lv_aload_n hx hb dX0_put_7 rfl (lv_at hl 0 rfl) ?_
    refine lv_iconst (v := (-1)) hx hb dX0_put_8 (by decide) ?_
    refine gc_V (rest := []) [.int (-1)] 1 S Wm_K2 hK2 hS (fun q h => Or.inl h) (KC2.gc (KC.k2 (k0_refused l D dA a hI σ (fun _ => True) kStb_T (-1)))) wl_X0_277 wd_X0_X0_refused rfl ⟨Nat.le_of_ble_eq_true rfl, Nat.le_of_ble_eq_true rfl⟩ (k_recv hK hP) hl.1 (Nat.le_of_ble_eq_true rfl) dX0_put_9 ⟨Nat.le_of_ble_eq_true rfl, Nat.le_of_ble_eq_true rfl⟩ ⟨hP, trivial⟩ (fun v9 H locs hp9 hz9 ho9 hS => ?_) rfl
    obtain ⟨σ9, ⟨rfl, rfl⟩, hP⟩ := hp9
    have hSH := hSH.kad hSA ho9
    refine W.eq (g2 := F0 m 12 ls [.int (-1)]) rfl ?_
    refine g_iret S hr hlk hS dX0_put_12 ⟨Nat.le_of_ble_eq_true rfl, Nat.le_of_ble_eq_true rfl⟩ ?_
    rw [show mPut σr v iv z = (-1, σr.i 0 0) from by unfold mPut; rw [if_pos c_4]]
    exact ⟨rfl, SP_no hP hSH hRS⟩
