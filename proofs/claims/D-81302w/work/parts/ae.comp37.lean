/-! COMPONENT 37: sheets (by program: gen/comp37.py) -/
set_option maxRecDepth 100000
/-- the sheets' cells lie apart from all others -/
def SAp (a : Nat → Nat) (sh : Shs) (so ro : Nat → Nat) (zs sz : Nat) : Prop :=
  (a 14 < sz ∧ ¬ kAd a (a 14) ∧ (∀ q, kAd a q → q < sz) ∧ zs < sz ∧ ¬ kAd a zs ∧ zs ≠ a 14) ∧ (∀ k, k < 4 → sh k ≠ none → so k < sz ∧ ro k < sz ∧ ¬ kAd a (so k) ∧ ¬ kAd a (ro k) ∧ so k ≠ a 14 ∧ ro k ≠ a 14 ∧ zs ≠ ro k) ∧
  ∀ j k, j < 4 → k < 4 → sh j ≠ none → sh k ≠ none → so j ≠ ro k ∧ (j ≠ k → ro j ≠ ro k)
/-- what the sheets' methods may write -/
abbrev shA (a : Nat → Nat) (sh : Shs) (ro : Nat → Nat) (sz : Nat) : Nat → Prop := fun q => kAd a q ∨ (q = a 14 ∨ ((∃ k, k < 4 ∧ sh k ≠ none ∧ q = ro k) ∨ sz ≤ q))
/-- the reference's sheets against the component's -/
def RSh (σr : MS) (sh : Shs) : Prop := ∀ k, k < 4 → (sh k = none → σr.2.1 2 k = -9) ∧ ∀ (w L : Nat) (f : Nat → Int32), sh k = some (w, L, f) → w < 3 ∧ L ≤ 60 ∧ σr.2.1 2 k = nI w ∧ σr.2.1 3 k = nI L ∧ (∀ i, i < L → σr.2.1 4 (60 * k + i) = f i) ∧ ∀ i, i < L → fits (ldT w) (.int (f i)) = true
theorem RSh.same {σr σr' : MS} {sh : Shs} (h : RSh σr sh) (h2 : σr'.2.1 = σr.2.1) : RSh σr' sh := fun k hk => by rw [h2]; exact h k hk
/-- behind a sheets' method: fault, sheets -/
def SP (D : va_G) (dA : Nat → ClassId) (a : Nat → Nat) (σ σr' : MS) (so ro : Nat → Nat) (sz : Nat) (H : Heap) : Prop :=
  va_P D vwCl (kW dA a (σ.i 13 (σr'.1 0))) H ∧ ∃ (sh' : Shs) (so' ro' : Nat → Nat), SHT D dA (a 14) sh' so' ro' H ∧ RSh σr' sh' ∧ ∀ j, (so' j = so j ∧ ro' j = ro j) ∨ (sz ≤ so' j ∧ sz ≤ ro' j ∧ so' j ≠ ro' j)
theorem kStb_T {a : Nat → Nat} : kStb a (fun _ => True) := fun _ _ _ _ _ => trivial
theorem up_i {σ : MS} {k : Nat} {v : Int32} : (σ.i k v).1 k = v := va_up_self σ.1 k v
theorem up_b {σ : MS} {k : Nat} {v : Nat → Int32} : (σ.b k v).2.1 k = v := va_up_self σ.2.1 k v
theorem up_bn {σ : MS} {k j : Nat} {v : Nat → Int32} (h : j ≠ k) : (σ.b k v).2.1 j = σ.2.1 j := va_up_ne σ.2.1 v h
theorem SHT.kad {D : va_G} {dA : Nat → ClassId} {a : Nat → Nat} {sh : Shs} {so ro : Nat → Nat} {zs sz : Nat} (hSA : SAp a sh so ro zs sz) {H H1 : Heap} (h : SHT D dA (a 14) sh so ro H) (o1 : ∀ q, q < H.size → ¬ kAd a q → H1[q]? = H[q]?) : SHT D dA (a 14) sh so ro H1 := h.fr o1 hSA.1.2.1 (fun k hk e => ⟨(hSA.2.1 k hk e).2.2.1, (hSA.2.1 k hk e).2.2.2.1⟩)
theorem SHT.all {D : va_G} {dA : Nat → ClassId} {b : Nat} {sh : Shs} {so ro : Nat → Nat} {H H1 : Heap} (h : SHT D dA b sh so ro H) (o1 : ∀ q, q < H.size → ¬ False → H1[q]? = H[q]?) : SHT D dA b sh so ro H1 := h.fr (A := fun _ => False) o1 id (fun _ _ _ => ⟨id, id⟩)
theorem updS (f : Nat → Int32) (k : Nat) (x : Int32) : upd f k x k = x := va_up_self f k x
theorem updN (f : Nat → Int32) {k j : Nat} (x : Int32) (h : j ≠ k) : upd f k x j = f j := va_up_ne f x h
theorem mLose_in {σ : MS} {k : Nat} (hk : k < 4) : mLose σ (nI k) = (if σ.2.1 2 k = -9 then 0 else 1, σ.b 2 (upd (σ.2.1 2) k (-9))) := by
  unfold mLose
  rw [show inR (nI k) 0 3 = true from inR_nI (k := 3) (by omega) (by decide), nI_clamp (by omega)]
  rfl
theorem RSh.lose {σr : MS} {sh : Shs} (h : RSh σr sh) {k : Nat} (hk : k < 4) : RSh (σr.b 2 (upd (σr.2.1 2) k (-9))) (va_up sh k none) := by
  intro j hj
  have h2 : (σr.b 2 (upd (σr.2.1 2) k (-9))).2.1 2 = upd (σr.2.1 2) k (-9) := up_b
  have h3 : (σr.b 2 (upd (σr.2.1 2) k (-9))).2.1 3 = σr.2.1 3 := up_bn (by decide)
  have h4 : (σr.b 2 (upd (σr.2.1 2) k (-9))).2.1 4 = σr.2.1 4 := up_bn (by decide)
  rw [h2, h3, h4]
  by_cases e : j = k
  · subst e
    rw [updS, va_up_self]
    exact ⟨fun _ => rfl, fun _ _ _ z => by cases z⟩
  · rw [updN _ _ e, va_up_ne _ _ e]
    exact h j hj
theorem shR_lose {sh : Shs} {so : Nat → Nat} {k : Nat} : va_up (shR sh so) k none = shR (va_up sh k none) so := by
  funext j
  by_cases e : j = k
  · subst e
    rw [va_up_self]
    unfold shR
    rw [va_up_self]; rfl
  · rw [va_up_ne _ _ e]
    unfold shR
    rw [va_up_ne _ _ e]
set_option maxHeartbeats 4000000 in
theorem g0_lose (l : Launch) (hfl : NoTr l) (D : va_G) (dA : Nat → ClassId) (cT : ClassId) (zs zu ze : Nat) (a : Nat → Nat) (hI : kInj a) (σ σr : MS) (sh : Shs) (so ro : Nat → Nat) (sz : Nat) (hSA : SAp a sh so ro zs sz) (hRS : RSh σr sh) (v : Int32) : GC l yX0_lose cX0_lose 3 (some .int) 2 60 0 0 (K7 D dA cT zs zu ze) [.ref (a 0), .int v] (fun H => va_P D vwCl (kW dA a σ) H ∧ SHT D dA (a 14) sh so ro H ∧ TH cT zs zu ze H ∧ sz ≤ H.size) (fun q => q = a 14) (fun v9 H => v9 = some (.int (mLose σr v).1) ∧ ∃ sh9 : Shs, SHT D dA (a 14) sh9 so ro H ∧ RSh (mLose σr v).2 sh9) := by
  refine GC.of (by decide) (Nat.le_of_ble_eq_true rfl) ?_
  intro p e s m below meth c ls S hr hlk hnm hK7 hPre hl
  have hK2 := hK7.1.1
  have hK := hK2.1
  have hx := S.1
  have hb := S.2.1
  have hl : lv_has ls 3 [(0, .ref (a 0)), (1, .int v)] := hl
  have hS : va_S (fun q => q = a 14) s.heap s.heap [] := va_S.rf
  obtain ⟨hP, hSH, hTH, hsz⟩ := hPre
  have hsz0 := hsz
  refine lv_iload_n hx hb dX0_lose_0 rfl (lv_at hl 1 rfl) ?_
  refine rc_Si (rest := []) [.int v] 1 S hK (r0_noSheet l D dA v) wl_X0_274 wd_X0_X0_noSheet rfl ⟨Nat.le_of_ble_eq_true rfl, Nat.le_of_ble_eq_true rfl⟩ hl.1 (Nat.le_of_ble_eq_true rfl) dX0_lose_1 ⟨Nat.le_of_ble_eq_true rfl, Nat.le_of_ble_eq_true rfl⟩ trivial ?_ rfl
  refine lv_if_eq (tgt := 9) hx hb dX0_lose_4 (by decide) (fun c_4 => ?_) (fun c_4 => ?_)
  · have c_4 : inR v 0 3 = true := by have := b2i_eq0.mp c_4; simpa using this
    obtain ⟨ka, hka9, rfl⟩ := inR_some (k := 3) (by decide) c_4
    have hka4 : ka < 4 := by omega
    have hin : inR (nI ka) 0 3 = true := inR_nI (k := 3) (by omega) (by decide)
    have hcl : (nI ka).toNatClampNeg = ka := nI_clamp (by omega)
    refine lv_aload_n hx hb dX0_lose_9 rfl (lv_at hl 0 rfl) ?_
    refine k_get (v := .ref (a 14)) S hK hP 14 (by decide) fl_X0_41 rfl dX0_lose_10 rfl ?_
    refine lv_iload_n hx hb dX0_lose_13 rfl (lv_at hl 1 rfl) ?_
    refine va_aldq (i := nI ka) S.1 S.2.1 hK hSH.1 0 4 rfl rfl (vp_in_nI (N := 4) hka4 (by decide)) dX0_lose_14 ?_
    rw [show shR sh so (nI ka).toNatClampNeg = shR sh so ka by rw [hcl]]
    cases hs : sh ka with
    | none =>
      rw [show shR sh so ka = none by unfold shR; rw [hs]; rfl]
      refine lv_ifnonnullN hx hb dX0_lose_15 ?_
      refine lv_iconst (v := 0) hx hb dX0_lose_18 (by decide) ?_
      refine lv_goto (tgt := 23) hx hb dX0_lose_19 (by decide) ?_
      refine lv_istore_n (lv' := [(2, .int 0), (0, .ref (a 0)), (1, .int (nI ka))]) hx hb dX0_lose_23 rfl hl (by decide) rfl (fun ls hl => ?_)
      refine lv_aload_n hx hb dX0_lose_24 rfl (lv_at hl 1 rfl) ?_
      refine k_get (v := .ref (a 14)) S hK hP 14 (by decide) fl_X0_41 rfl dX0_lose_25 rfl ?_
      refine lv_iload_n hx hb dX0_lose_28 rfl (lv_at hl 2 rfl) ?_
      refine lv_null hx hb dX0_lose_29 ?_
      refine va_astqN (i := nI ka) S.1 S.2.1 hK hSH.1 (D1 (A := fun q => q = a 14) rfl) hS 0 4 rfl rfl (vp_in_nI (N := 4) hka4 (by decide)) dX0_lose_30 (fun H locs hP1 hD1 hS => ?_)
      refine lv_iload_n hx hb dX0_lose_31 rfl (lv_at hl 0 rfl) ?_
      have hfr : ∀ q, q < s.heap.size → ¬ (fun q => q = a 14) q → H[q]? = s.heap[q]? := fun q h1 h2 => hS.2.1 q h1 h2
      have hP1 : va_P D vwCl [(a 14, .inl (dA 4, 4, .inr (.inr (.inr (.inr (va_up (shR sh so) (nI ka).toNatClampNeg none))))))] H := hP1
      rw [hcl, shR_lose] at hP1
      refine g_iret S hr hlk hS dX0_lose_32 ⟨Nat.le_of_ble_eq_true rfl, Nat.le_of_ble_eq_true rfl⟩ ?_
      rw [mLose_in hka4]
      refine ⟨congrArg (fun z : Int32 => some (Value.int z)) (show (0 : Int32) = if σr.2.1 2 ka = -9 then 0 else 1 from (if_pos ((hRS ka hka4).1 hs)).symm), va_up sh ka none, ⟨hP1, fun j hj w1 L1 f1 e1 => ?_⟩, hRS.lose hka4⟩
      by_cases e2 : j = ka
      · subst e2; rw [va_up_self] at e1; cases e1
      · rw [va_up_ne _ _ e2] at e1
        have h0 := hSH.2 j hj w1 L1 f1 e1
        have h1 := hSA.2.1 j hj (by rw [e1]; exact fun z => by cases z)
        exact ⟨h0.1, h0.2.1, h0.2.2.1.fr hfr (one_A (A := fun q => q = a 14) h1.2.2.2.2.1), h0.2.2.2.fr hfr (one_A (A := fun q => q = a 14) h1.2.2.2.2.2.1)⟩
    | some q =>
      obtain ⟨w, L, f⟩ := q
      rw [show shR sh so ka = some (so ka) by unfold shR; rw [hs]; rfl]
      refine lv_ifnonnull (tgt := 22) hx hb dX0_lose_15 (by decide) ?_
      refine lv_iconst (v := 1) hx hb dX0_lose_22 (by decide) ?_
      refine lv_istore_n (lv' := [(2, .int 1), (0, .ref (a 0)), (1, .int (nI ka))]) hx hb dX0_lose_23 rfl hl (by decide) rfl (fun ls hl => ?_)
      refine lv_aload_n hx hb dX0_lose_24 rfl (lv_at hl 1 rfl) ?_
      refine k_get (v := .ref (a 14)) S hK hP 14 (by decide) fl_X0_41 rfl dX0_lose_25 rfl ?_
      refine lv_iload_n hx hb dX0_lose_28 rfl (lv_at hl 2 rfl) ?_
      refine lv_null hx hb dX0_lose_29 ?_
      refine va_astqN (i := nI ka) S.1 S.2.1 hK hSH.1 (D1 (A := fun q => q = a 14) rfl) hS 0 4 rfl rfl (vp_in_nI (N := 4) hka4 (by decide)) dX0_lose_30 (fun H locs hP1 hD1 hS => ?_)
      refine lv_iload_n hx hb dX0_lose_31 rfl (lv_at hl 0 rfl) ?_
      have hfr : ∀ q, q < s.heap.size → ¬ (fun q => q = a 14) q → H[q]? = s.heap[q]? := fun q h1 h2 => hS.2.1 q h1 h2
      have hP1 : va_P D vwCl [(a 14, .inl (dA 4, 4, .inr (.inr (.inr (.inr (va_up (shR sh so) (nI ka).toNatClampNeg none))))))] H := hP1
      rw [hcl, shR_lose] at hP1
      refine g_iret S hr hlk hS dX0_lose_32 ⟨Nat.le_of_ble_eq_true rfl, Nat.le_of_ble_eq_true rfl⟩ ?_
      rw [mLose_in hka4]
      refine ⟨congrArg (fun z : Int32 => some (Value.int z)) (show (1 : Int32) = if σr.2.1 2 ka = -9 then 0 else 1 from (if_neg (by rw [((hRS ka hka4).2 w L f hs).2.2.1]; exact nI_n9 (by have := ((hRS ka hka4).2 w L f hs).1; omega))).symm), va_up sh ka none, ⟨hP1, fun j hj w1 L1 f1 e1 => ?_⟩, hRS.lose hka4⟩
      by_cases e2 : j = ka
      · subst e2; rw [va_up_self] at e1; cases e1
      · rw [va_up_ne _ _ e2] at e1
        have h0 := hSH.2 j hj w1 L1 f1 e1
        have h1 := hSA.2.1 j hj (by rw [e1]; exact fun z => by cases z)
        exact ⟨h0.1, h0.2.1, h0.2.2.1.fr hfr (one_A (A := fun q => q = a 14) h1.2.2.2.2.1), h0.2.2.2.fr hfr (one_A (A := fun q => q = a 14) h1.2.2.2.2.2.1)⟩
  · have c_4 : inR v 0 3 = false := by have := b2i_ne0.mp c_4; simpa using this
    refine lv_iconst (v := (-1)) hx hb dX0_lose_7 (by decide) ?_
    exact g_iret S hr hlk hS dX0_lose_8 ⟨Nat.le_of_ble_eq_true rfl, Nat.le_of_ble_eq_true rfl⟩ (⟨congrArg (fun z : Int32 => some (Value.int z)) (show (-1 : Int32) = (mLose σr v).1 from by unfold mLose; rw [if_pos c_4]), sh, hSH, by unfold mLose; rw [if_pos c_4]; exact hRS⟩)
set_option maxHeartbeats 4000000 in
theorem g11_init (l : Launch) (D : va_G) (dA : Nat → ClassId) (b y : Nat) : GC l yX11_init cX11_init 2 none 1 30 0 0 (K2 D dA) [.ref b, .ref y] (fun H => va_P D vwCl [(b, .inr (6, [.null]))] H) (fun q => q = b) (fun v9 H => v9 = none ∧ va_P D vwCl [(b, .inr (6, [.ref y]))] H) := by
  refine GC.of (by decide) (Nat.le_of_ble_eq_true rfl) ?_
  intro p e s m below meth c ls S hr hlk hnm hK2 hPre hl
  have hK := hK2.1
  have hx := S.1
  have hb := S.2.1
  have hl : lv_has ls 2 [(0, .ref b), (1, .ref y)] := hl
  have hS : va_S (fun q => q = b) s.heap s.heap [] := va_S.rf
  refine lv_aload_n hx hb dX11_init_0 rfl (lv_at hl 0 rfl) ?_
  refine W.objInit (rest := []) S.1 S.2.1 S.2.2.2.1 (S.2.2.2.2 _ q757) (S.2.2.2.2 _ q100) (S.2.2.2.2 _ q101) rfl (hl.1.trans S.2.2.1.symm) rfl dX11_init_1 (Nat.le_of_ble_eq_true rfl) (Nat.le_of_ble_eq_true rfl) ?_
  refine W.eq (g2 := F0 m 4 ls []) rfl ?_
  refine lv_aload_n hx hb dX11_init_4 rfl (lv_at hl 0 rfl) ?_
  refine lv_aload_n hx hb dX11_init_5 rfl (lv_at hl 1 rfl) ?_
  refine g_putF (ref := RX11) (C := RX11) (T := TX11) (N := 1) (ci := 6) (index := 7) (b := b) (v := .ref y) S in_X11 tyX11 tyX11_ok hK hPre rfl 0 (by decide) rfl q758 (fun _ h9 => h9) rfl (hnm.trans rfl) rfl (tyX11_ok 0 (by decide)) rfl rfl hS rfl dX11_init_6 (fun H locs fs' e1 e2 e3 e4 hP hz1 ho1 hS => ?_)
  have e5 : fs' = [.ref y] := by
    match fs', e1, e2 with
    | [z], _, e2 => cases e2; rfl
  subst e5
  exact g_vret S hr hlk hS dX11_init_9 ⟨Nat.le_refl _, Nat.le_refl _⟩ ⟨rfl, hP⟩
