/-! COMPONENT 32: a text is read (by program: gen/comp32.py) -/
set_option maxRecDepth 100000
set_option maxHeartbeats 4000000 in
theorem g4_take (l : Launch) (D : va_G) (dA : Nat → ClassId) (b yb cb L : Nat) (xs : Nat → Int32) (hL : L ≤ 60) (hbh : b ≠ yb) (hbc : b ≠ cb) (hhc : yb ≠ cb) (ct mp : Nat) (f : Nat → Int32) (hct : ct ≤ L) (code : Int32) : GC l yX4_take cX4_take 3 (some .boolean) 0 0 0 0 (K2 D dA) [.ref b, .int code] (fun H => va_P D vwCl [(b, .inr (7, [.ref cb, .int (nI ct), .ref yb, .int (nI mp)])), (yb, .inl (dA 0, 4, .inl f)), (cb, .inl (dA 0, L, .inl xs))] H) (fun q => q = b ∨ (q = yb ∨ q = cb)) (fun v9 H => (v9 = some (.int 1) ∧ ct < L ∧ xs ct = code ∧ va_P D vwCl [(b, .inr (7, [.ref cb, .int (nI (ct + 1)), .ref yb, .int (nI mp)])), (yb, .inl (dA 0, 4, .inl f)), (cb, .inl (dA 0, L, .inl xs))] H) ∨ (v9 = some (.int 0) ∧ ¬ (ct < L ∧ xs ct = code) ∧ va_P D vwCl [(b, .inr (7, [.ref cb, .int (nI ct), .ref yb, .int (nI mp)])), (yb, .inl (dA 0, 4, .inl f)), (cb, .inl (dA 0, L, .inl xs))] H)) := by
  refine GC.of (by decide) (Nat.le_of_ble_eq_true rfl) ?_
  intro p e s m below meth c ls S hr hlk hnm hK2 hPre hl
  have hK := hK2.1
  have hx := S.1
  have hb := S.2.1
  have hl : lv_has ls 3 [(0, .ref b), (1, .int code)] := hl
  have hS : va_S (fun q => q = b ∨ (q = yb ∨ q = cb)) s.heap s.heap [] := va_S.rf
  have hP := hPre
  have hD : va_D (fun q => q = b ∨ (q = yb ∨ q = cb)) [(b, .inr (7, [.ref cb, .int (nI ct), .ref yb, .int (nI mp)])), (yb, .inl (dA 0, 4, .inl f)), (cb, .inl (dA 0, L, .inl xs))] := D3 (Or.inl rfl) (Or.inr (Or.inl rfl)) (Or.inr (Or.inr rfl)) hbh hbc hhc
  refine lv_aload_n hx hb dX4_take_0 rfl (lv_at hl 0 rfl) ?_
  refine va_get (v := .int (nI ct)) (D := D) (ci := 7) (C := RX4) (T := TX4) (N := 4) S.1 S.2.1 S.2.2.2.2 in_X4 S.2.2.2.1 hK hP 0 rfl rfl 1 (by decide) (S.2.2.2.2 _ q954) (fun _ h9 => h9) rfl dX4_take_1 ?_
  refine lv_aload_n hx hb dX4_take_4 rfl (lv_at hl 0 rfl) ?_
  refine va_get (v := .ref cb) (D := D) (ci := 7) (C := RX4) (T := TX4) (N := 4) S.1 S.2.1 S.2.2.2.2 in_X4 S.2.2.2.1 hK hP 0 rfl rfl 0 (by decide) (S.2.2.2.2 _ q953) (fun _ h9 => h9) rfl dX4_take_5 ?_
  refine va_alen (v := nI L) S.1 S.2.1 hK hP 2 0 rfl rfl rfl dX4_take_8 ?_
  refine lv_icmp_ge (tgt := 29) hx hb dX4_take_9 (by decide) (fun c_9 => ?_) (fun c_9 => ?_)
  · have c_9 : ¬ ct < L := fun h => absurd c_9 (nI_ge h (by omega))
    refine lv_iconst (v := 0) hx hb dX4_take_29 (by decide) ?_
    refine lv_istore_n (lv' := [(2, .int 0), (0, .ref b), (1, .int code)]) hx hb dX4_take_30 rfl hl (by decide) rfl (fun ls hl => ?_)
    refine lv_aload_n hx hb dX4_take_31 rfl (lv_at hl 1 rfl) ?_
    refine lv_dup hx hb dX4_take_32 rfl ?_
    refine va_get (v := .int (nI ct)) (D := D) (ci := 7) (C := RX4) (T := TX4) (N := 4) S.1 S.2.1 S.2.2.2.2 in_X4 S.2.2.2.1 hK hP 0 rfl rfl 1 (by decide) (S.2.2.2.2 _ q954) (fun _ h9 => h9) rfl dX4_take_33 ?_
    refine lv_iload_n hx hb dX4_take_36 rfl (lv_at hl 0 rfl) ?_
    refine lv_if_eq (tgt := 44) hx hb dX4_take_37 (by decide) (fun c_37 => ?_) (fun c_37 => absurd (by decide) c_37)
    refine lv_iconst (v := 0) hx hb dX4_take_44 (by decide) ?_
    refine lv_iadd hx hb dX4_take_45 ?_
    refine topi (z := nI ct) (Int32.add_zero _) ?_
    refine va_put (v := .int (nI ct)) (D := D) (ci := 7) (C := RX4) (T := TX4) (N := 4) (ty := .int) S.1 S.2.1 S.2.2.2.2 in_X4 tyX4 tyX4_ok nmX4 S.2.2.2.1 hK hP hD hS 0 rfl rfl 1 (Nat.le_of_ble_eq_true rfl) (S.2.2.2.2 _ q954) (fun _ h9 => h9) rfl (by decide +kernel) rfl rfl (Nat.le_of_ble_eq_true rfl) dX4_take_46 (fun H locs hP hD hS => ?_)
    have hP : va_P D vwCl [(b, .inr (7, [.ref cb, .int (nI ct), .ref yb, .int (nI mp)])), (yb, .inl (dA 0, 4, .inl f)), (cb, .inl (dA 0, L, .inl xs))] H := hP
    have hD : va_D (fun q => q = b ∨ (q = yb ∨ q = cb)) [(b, .inr (7, [.ref cb, .int (nI ct), .ref yb, .int (nI mp)])), (yb, .inl (dA 0, 4, .inl f)), (cb, .inl (dA 0, L, .inl xs))] := hD
    refine lv_iload_n hx hb dX4_take_49 rfl (lv_at hl 0 rfl) ?_
    exact g_zret S hr hlk hS dX4_take_50 ⟨Nat.le_of_ble_eq_true rfl, Nat.le_of_ble_eq_true rfl⟩ (by decide) (Or.inr ⟨rfl, fun h => c_9 h.1, hP⟩)
  · have c_9 : ct < L := Nat.lt_of_not_le (fun h => c_9 (nI_le h (by omega)))
    refine lv_aload_n hx hb dX4_take_12 rfl (lv_at hl 0 rfl) ?_
    refine va_get (v := .ref cb) (D := D) (ci := 7) (C := RX4) (T := TX4) (N := 4) S.1 S.2.1 S.2.2.2.2 in_X4 S.2.2.2.1 hK hP 0 rfl rfl 0 (by decide) (S.2.2.2.2 _ q953) (fun _ h9 => h9) rfl dX4_take_13 ?_
    refine lv_aload_n hx hb dX4_take_16 rfl (lv_at hl 0 rfl) ?_
    refine va_get (v := .int (nI ct)) (D := D) (ci := 7) (C := RX4) (T := TX4) (N := 4) S.1 S.2.1 S.2.2.2.2 in_X4 S.2.2.2.1 hK hP 0 rfl rfl 1 (by decide) (S.2.2.2.2 _ q954) (fun _ h9 => h9) rfl dX4_take_17 ?_
    refine va_iald S.1 S.2.1 hK hP 2 0 rfl rfl (vp_in_nI (n := ct) (N := L) (by omega) (by omega)) dX4_take_20 ?_
    refine topi (z := xs ct) (by rw [nI_clamp (by omega)]) ?_
    refine lv_iload_n hx hb dX4_take_21 rfl (lv_at hl 1 rfl) ?_
    refine lv_icmp_ne (tgt := 29) hx hb dX4_take_22 (by decide) (fun c_22 => ?_) (fun c_22 => ?_)
    · refine lv_iconst (v := 0) hx hb dX4_take_29 (by decide) ?_
      refine lv_istore_n (lv' := [(2, .int 0), (0, .ref b), (1, .int code)]) hx hb dX4_take_30 rfl hl (by decide) rfl (fun ls hl => ?_)
      refine lv_aload_n hx hb dX4_take_31 rfl (lv_at hl 1 rfl) ?_
      refine lv_dup hx hb dX4_take_32 rfl ?_
      refine va_get (v := .int (nI ct)) (D := D) (ci := 7) (C := RX4) (T := TX4) (N := 4) S.1 S.2.1 S.2.2.2.2 in_X4 S.2.2.2.1 hK hP 0 rfl rfl 1 (by decide) (S.2.2.2.2 _ q954) (fun _ h9 => h9) rfl dX4_take_33 ?_
      refine lv_iload_n hx hb dX4_take_36 rfl (lv_at hl 0 rfl) ?_
      refine lv_if_eq (tgt := 44) hx hb dX4_take_37 (by decide) (fun c_37 => ?_) (fun c_37 => absurd (by decide) c_37)
      refine lv_iconst (v := 0) hx hb dX4_take_44 (by decide) ?_
      refine lv_iadd hx hb dX4_take_45 ?_
      refine topi (z := nI ct) (Int32.add_zero _) ?_
      refine va_put (v := .int (nI ct)) (D := D) (ci := 7) (C := RX4) (T := TX4) (N := 4) (ty := .int) S.1 S.2.1 S.2.2.2.2 in_X4 tyX4 tyX4_ok nmX4 S.2.2.2.1 hK hP hD hS 0 rfl rfl 1 (Nat.le_of_ble_eq_true rfl) (S.2.2.2.2 _ q954) (fun _ h9 => h9) rfl (by decide +kernel) rfl rfl (Nat.le_of_ble_eq_true rfl) dX4_take_46 (fun H locs hP hD hS => ?_)
      have hP : va_P D vwCl [(b, .inr (7, [.ref cb, .int (nI ct), .ref yb, .int (nI mp)])), (yb, .inl (dA 0, 4, .inl f)), (cb, .inl (dA 0, L, .inl xs))] H := hP
      have hD : va_D (fun q => q = b ∨ (q = yb ∨ q = cb)) [(b, .inr (7, [.ref cb, .int (nI ct), .ref yb, .int (nI mp)])), (yb, .inl (dA 0, 4, .inl f)), (cb, .inl (dA 0, L, .inl xs))] := hD
      refine lv_iload_n hx hb dX4_take_49 rfl (lv_at hl 0 rfl) ?_
      exact g_zret S hr hlk hS dX4_take_50 ⟨Nat.le_of_ble_eq_true rfl, Nat.le_of_ble_eq_true rfl⟩ (by decide) (Or.inr ⟨rfl, fun h => c_22 h.2, hP⟩)
    · refine lv_iconst (v := 1) hx hb dX4_take_25 (by decide) ?_
      refine lv_goto (tgt := 30) hx hb dX4_take_26 (by decide) ?_
      refine lv_istore_n (lv' := [(2, .int 1), (0, .ref b), (1, .int code)]) hx hb dX4_take_30 rfl hl (by decide) rfl (fun ls hl => ?_)
      refine lv_aload_n hx hb dX4_take_31 rfl (lv_at hl 1 rfl) ?_
      refine lv_dup hx hb dX4_take_32 rfl ?_
      refine va_get (v := .int (nI ct)) (D := D) (ci := 7) (C := RX4) (T := TX4) (N := 4) S.1 S.2.1 S.2.2.2.2 in_X4 S.2.2.2.1 hK hP 0 rfl rfl 1 (by decide) (S.2.2.2.2 _ q954) (fun _ h9 => h9) rfl dX4_take_33 ?_
      refine lv_iload_n hx hb dX4_take_36 rfl (lv_at hl 0 rfl) ?_
      refine lv_if_eq (tgt := 44) hx hb dX4_take_37 (by decide) (fun c_37 => absurd c_37 (by decide)) (fun c_37 => ?_)
      refine lv_iconst (v := 1) hx hb dX4_take_40 (by decide) ?_
      refine lv_goto (tgt := 45) hx hb dX4_take_41 (by decide) ?_
      refine lv_iadd hx hb dX4_take_45 ?_
      refine topi (z := nI (ct + 1)) (nI_1 ct) ?_
      refine va_put (v := .int (nI (ct + 1))) (D := D) (ci := 7) (C := RX4) (T := TX4) (N := 4) (ty := .int) S.1 S.2.1 S.2.2.2.2 in_X4 tyX4 tyX4_ok nmX4 S.2.2.2.1 hK hP hD hS 0 rfl rfl 1 (Nat.le_of_ble_eq_true rfl) (S.2.2.2.2 _ q954) (fun _ h9 => h9) rfl (by decide +kernel) rfl rfl (Nat.le_of_ble_eq_true rfl) dX4_take_46 (fun H locs hP hD hS => ?_)
      have hP : va_P D vwCl [(b, .inr (7, [.ref cb, .int (nI (ct + 1)), .ref yb, .int (nI mp)])), (yb, .inl (dA 0, 4, .inl f)), (cb, .inl (dA 0, L, .inl xs))] H := hP
      have hD : va_D (fun q => q = b ∨ (q = yb ∨ q = cb)) [(b, .inr (7, [.ref cb, .int (nI (ct + 1)), .ref yb, .int (nI mp)])), (yb, .inl (dA 0, 4, .inl f)), (cb, .inl (dA 0, L, .inl xs))] := hD
      refine lv_iload_n hx hb dX4_take_49 rfl (lv_at hl 0 rfl) ?_
      exact g_zret S hr hlk hS dX4_take_50 ⟨Nat.le_of_ble_eq_true rfl, Nat.le_of_ble_eq_true rfl⟩ (by decide) (Or.inl ⟨rfl, c_9, c_22, hP⟩)
set_option maxHeartbeats 4000000 in
theorem g4_reads (l : Launch) (D : va_G) (dA : Nat → ClassId) (b yb cb L : Nat) (xs : Nat → Int32) (hL : L ≤ 60) (hbh : b ≠ yb) (hbc : b ≠ cb) (hhc : yb ≠ cb) (cc mp : Nat) (f : Nat → Int32) (hcc : cc ≤ L) (hmp : mp < 4) : GC l yX4_readsPerson cX4_readsPerson 3 (some .boolean) 1 25 0 0 (K2 D dA) [.ref b] (fun H => va_P D vwCl [(b, .inr (7, [.ref cb, .int (nI cc), .ref yb, .int (nI mp)])), (yb, .inl (dA 0, 4, .inl f)), (cb, .inl (dA 0, L, .inl xs))] H) (fun q => q = b ∨ (q = yb ∨ q = cb)) (fun v9 H => ∃ ct, ct ≤ L ∧ ((v9 = some (.int 0) ∧ ((¬ (cc < L ∧ xs cc = 112) ∧ ct = cc) ∨ (cc < L ∧ xs cc = 112 ∧ rdP xs mp (cc + 1) (L - (cc + 1)) (cc + 1) = (false, ct))) ∧ va_P D vwCl [(b, .inr (7, [.ref cb, .int (nI ct), .ref yb, .int (nI mp)])), (yb, .inl (dA 0, 4, .inl f)), (cb, .inl (dA 0, L, .inl xs))] H) ∨ (v9 = some (.int 1) ∧ cc < L ∧ xs cc = 112 ∧ rdP xs mp (cc + 1) (L - (cc + 1)) (cc + 1) = (true, ct) ∧ rdU xs (cc + 1) ct < 16 ∧ va_P D vwCl [(b, .inr (7, [.ref cb, .int (nI ct), .ref yb, .int (nI (mp + 1))])), (yb, .inl (dA 0, 4, .inl (upd f mp (nI (rdU xs (cc + 1) ct ||| 2 ^ mp))))), (cb, .inl (dA 0, L, .inl xs))] H))) := by
  refine GC.of (by decide) (Nat.le_of_ble_eq_true rfl) ?_
  intro p e s m below meth c ls S hr hlk hnm hK2 hPre hl
  have hK := hK2.1
  have hx := S.1
  have hb := S.2.1
  have hl : lv_has ls 3 [(0, .ref b)] := hl
  have hS : va_S (fun q => q = b ∨ (q = yb ∨ q = cb)) s.heap s.heap [] := va_S.rf
  have hP := hPre
  have hD : va_D (fun q => q = b ∨ (q = yb ∨ q = cb)) [(b, .inr (7, [.ref cb, .int (nI cc), .ref yb, .int (nI mp)])), (yb, .inl (dA 0, 4, .inl f)), (cb, .inl (dA 0, L, .inl xs))] := D3 (Or.inl rfl) (Or.inr (Or.inl rfl)) (Or.inr (Or.inr rfl)) hbh hbc hhc
  refine lv_aload_n hx hb dX4_readsPerson_0 rfl (lv_at hl 0 rfl) ?_
  refine va_get (v := .int (nI mp)) (D := D) (ci := 7) (C := RX4) (T := TX4) (N := 4) S.1 S.2.1 S.2.2.2.2 in_X4 S.2.2.2.1 hK hP 0 rfl rfl 3 (by decide) (S.2.2.2.2 _ q958) (fun _ h9 => h9) rfl dX4_readsPerson_1 ?_
  refine lv_iconst (v := 4) hx hb dX4_readsPerson_4 (by decide) ?_
  refine lv_icmp_eq (tgt := 17) hx hb dX4_readsPerson_5 (by decide) (fun c_5 => absurd c_5 (fun h => by have h9 := nI_inj (by omega) (by decide) (show nI mp = nI 4 from h); omega)) (fun c_5 => ?_)
  refine lv_aload_n hx hb dX4_readsPerson_8 rfl (lv_at hl 0 rfl) ?_
  refine lv_bipush (v := 112) hx hb dX4_readsPerson_9 (by decide) ?_
  refine gc_V (rest := []) [.int 112] 1 S Wm_K2 hK2 hS (fun q h => h) (g4_take l D dA b yb cb L xs hL hbh hbc hhc cc mp f (by omega) 112) wl_X4_25 wd_X4_X4_take rfl ⟨Nat.le_of_ble_eq_true rfl, Nat.le_of_ble_eq_true rfl⟩ (va_recv hK hP (ci := 7) (q0 := 0) rfl rfl) hl.1 (Nat.le_of_ble_eq_true rfl) dX4_readsPerson_11 ⟨Nat.le_of_ble_eq_true rfl, Nat.le_of_ble_eq_true rfl⟩ hP (fun v9 H locs hp9 hz9 ho9 hS => ?_) rfl
  rcases hp9 with ⟨rfl, hc1, hc2, hP⟩ | ⟨rfl, hc1, hP⟩
  · refine W.eq (g2 := F0 m 14 ls [.int 1]) rfl ?_
    have hD : va_D (fun q => q = b ∨ (q = yb ∨ q = cb)) [(b, .inr (7, [.ref cb, .int (nI (cc + 1)), .ref yb, .int (nI mp)])), (yb, .inl (dA 0, 4, .inl f)), (cb, .inl (dA 0, L, .inl xs))] := D3 (Or.inl rfl) (Or.inr (Or.inl rfl)) (Or.inr (Or.inr rfl)) hbh hbc hhc
    refine lv_if_ne (tgt := 19) hx hb dX4_readsPerson_14 (by decide) (fun c_14 => ?_) (fun c_14 => absurd (c_14) (by decide))
    refine lv_iconst (v := 1) hx hb dX4_readsPerson_19 (by decide) ?_
    refine lv_aload_n hx hb dX4_readsPerson_20 rfl (lv_at hl 0 rfl) ?_
    refine va_get (v := .int (nI mp)) (D := D) (ci := 7) (C := RX4) (T := TX4) (N := 4) S.1 S.2.1 S.2.2.2.2 in_X4 S.2.2.2.1 hK hP 0 rfl rfl 3 (by decide) (S.2.2.2.2 _ q958) (fun _ h9 => h9) rfl dX4_readsPerson_21 ?_
    refine lv_ishl hx hb dX4_readsPerson_24 ?_
    refine topi (z := nI (rdU xs (cc + 1) (cc + 1) ||| 2 ^ mp)) (by rw [rdU_0 _ (Nat.le_refl _), shl1 _ (by omega), Nat.zero_or]) ?_
    refine lv_istore_n (lv' := [(1, .int (nI (rdU xs (cc + 1) (cc + 1) ||| 2 ^ mp))), (0, .ref b)]) hx hb dX4_readsPerson_25 rfl hl (by decide) rfl (fun ls hl => ?_)
    have hloop26 : ∀ (k26 i26 : Nat), i26 + k26 = L → (rdP xs mp (cc + 1) (L - (cc + 1)) (cc + 1) = rdP xs mp (cc + 1) (L - i26) i26 ∧ (∀ i, cc + 1 ≤ i → i < i26 → (xs i - 48).toNatClampNeg < 4) ∧ cc + 1 ≤ i26) → ∀ (H : Heap) (locs : List Loc), va_S (fun q => q = b ∨ (q = yb ∨ q = cb)) s.heap H locs → va_P D vwCl [(b, .inr (7, [.ref cb, .int (nI i26), .ref yb, .int (nI mp)])), (yb, .inl (dA 0, 4, .inl f)), (cb, .inl (dA 0, L, .inl xs))] H → ∀ (ls : Array Slot), lv_has ls 3 [(1, .int (nI (rdU xs (cc + 1) i26 ||| 2 ^ mp))), (0, .ref b)] → W p l e ({ frames := 1, cells := 0, slots := 0, locals := 25 }) s m [.ref b].toArray below meth c H locs 0 0 (GZ below (fun q => q = b ∨ (q = yb ∨ q = cb)) (fun v9 H => ∃ ct, ct ≤ L ∧ ((v9 = some (.int 0) ∧ ((¬ (cc < L ∧ xs cc = 112) ∧ ct = cc) ∨ (cc < L ∧ xs cc = 112 ∧ rdP xs mp (cc + 1) (L - (cc + 1)) (cc + 1) = (false, ct))) ∧ va_P D vwCl [(b, .inr (7, [.ref cb, .int (nI ct), .ref yb, .int (nI mp)])), (yb, .inl (dA 0, 4, .inl f)), (cb, .inl (dA 0, L, .inl xs))] H) ∨ (v9 = some (.int 1) ∧ cc < L ∧ xs cc = 112 ∧ rdP xs mp (cc + 1) (L - (cc + 1)) (cc + 1) = (true, ct) ∧ rdU xs (cc + 1) ct < 16 ∧ va_P D vwCl [(b, .inr (7, [.ref cb, .int (nI ct), .ref yb, .int (nI (mp + 1))])), (yb, .inl (dA 0, 4, .inl (upd f mp (nI (rdU xs (cc + 1) ct ||| 2 ^ mp))))), (cb, .inl (dA 0, L, .inl xs))] H))) [.ref b] s 0 0) (F0 m 26 ls []) := by
      intro k26
      induction k26 with
      | zero =>
        intro i26 hi26 hinv H locs hS hP ls hl
        have hD : va_D (fun q => q = b ∨ (q = yb ∨ q = cb)) [(b, .inr (7, [.ref cb, .int (nI i26), .ref yb, .int (nI mp)])), (yb, .inl (dA 0, 4, .inl f)), (cb, .inl (dA 0, L, .inl xs))] := D3 (Or.inl rfl) (Or.inr (Or.inl rfl)) (Or.inr (Or.inr rfl)) hbh hbc hhc
        have hc9 := hinv.2.2
        have hu16 : rdU xs (cc + 1) i26 < 16 := rdU_lt i26 hinv.2.1
        have hv16 : (rdU xs (cc + 1) i26 ||| 2 ^ mp) < 16 := Nat.or_lt_two_pow (n := 4) hu16 (pw16 (by omega))
        refine lv_aload_n hx hb dX4_readsPerson_26 rfl (lv_at hl 1 rfl) ?_
        refine va_get (v := .int (nI i26)) (D := D) (ci := 7) (C := RX4) (T := TX4) (N := 4) S.1 S.2.1 S.2.2.2.2 in_X4 S.2.2.2.1 hK hP 0 rfl rfl 1 (by decide) (S.2.2.2.2 _ q954) (fun _ h9 => h9) rfl dX4_readsPerson_27 ?_
        refine lv_aload_n hx hb dX4_readsPerson_30 rfl (lv_at hl 1 rfl) ?_
        refine va_get (v := .ref cb) (D := D) (ci := 7) (C := RX4) (T := TX4) (N := 4) S.1 S.2.1 S.2.2.2.2 in_X4 S.2.2.2.1 hK hP 0 rfl rfl 0 (by decide) (S.2.2.2.2 _ q953) (fun _ h9 => h9) rfl dX4_readsPerson_31 ?_
        refine va_alen (v := nI L) S.1 S.2.1 hK hP 2 0 rfl rfl rfl dX4_readsPerson_34 ?_
        refine lv_icmp_ge (tgt := 106) hx hb dX4_readsPerson_35 (by decide) (fun c_35 => ?_) (fun c_35 => absurd (show nI L ≤ nI i26 from nI_le (by omega) (by omega)) c_35)
        have hrp : rdP xs mp (cc + 1) (L - (cc + 1)) (cc + 1) = (true, i26) := hinv.1.trans (rdP_e (by omega))
        refine lv_aload_n hx hb dX4_readsPerson_106 rfl (lv_at hl 1 rfl) ?_
        refine va_get (v := .ref yb) (D := D) (ci := 7) (C := RX4) (T := TX4) (N := 4) S.1 S.2.1 S.2.2.2.2 in_X4 S.2.2.2.1 hK hP 0 rfl rfl 2 (by decide) (S.2.2.2.2 _ q956) (fun _ h9 => h9) rfl dX4_readsPerson_107 ?_
        refine lv_aload_n hx hb dX4_readsPerson_110 rfl (lv_at hl 1 rfl) ?_
        refine va_get (v := .int (nI mp)) (D := D) (ci := 7) (C := RX4) (T := TX4) (N := 4) S.1 S.2.1 S.2.2.2.2 in_X4 S.2.2.2.1 hK hP 0 rfl rfl 3 (by decide) (S.2.2.2.2 _ q958) (fun _ h9 => h9) rfl dX4_readsPerson_111 ?_
        refine lv_iload_n hx hb dX4_readsPerson_114 rfl (lv_at hl 0 rfl) ?_
        refine va_iast S.1 S.2.1 hK hP hD hS 1 0 rfl rfl (vp_in_nI (n := mp) (N := 4) (by omega) (by omega)) dX4_readsPerson_115 (fun H locs hP hD hS => ?_)
        rw [show (nI mp).toNatClampNeg = mp from nI_clamp (by omega)] at hP hD
        have hP : va_P D vwCl [(b, .inr (7, [.ref cb, .int (nI i26), .ref yb, .int (nI mp)])), (yb, .inl (dA 0, 4, .inl (upd f mp (nI (rdU xs (cc + 1) i26 ||| 2 ^ mp))))), (cb, .inl (dA 0, L, .inl xs))] H := hP
        have hD : va_D (fun q => q = b ∨ (q = yb ∨ q = cb)) [(b, .inr (7, [.ref cb, .int (nI i26), .ref yb, .int (nI mp)])), (yb, .inl (dA 0, 4, .inl (upd f mp (nI (rdU xs (cc + 1) i26 ||| 2 ^ mp))))), (cb, .inl (dA 0, L, .inl xs))] := hD
        refine lv_aload_n hx hb dX4_readsPerson_116 rfl (lv_at hl 1 rfl) ?_
        refine lv_dup hx hb dX4_readsPerson_117 rfl ?_
        refine va_get (v := .int (nI mp)) (D := D) (ci := 7) (C := RX4) (T := TX4) (N := 4) S.1 S.2.1 S.2.2.2.2 in_X4 S.2.2.2.1 hK hP 0 rfl rfl 3 (by decide) (S.2.2.2.2 _ q958) (fun _ h9 => h9) rfl dX4_readsPerson_118 ?_
        refine lv_iconst (v := 1) hx hb dX4_readsPerson_121 (by decide) ?_
        refine lv_iadd hx hb dX4_readsPerson_122 ?_
        refine topi (z := nI (mp + 1)) (nI_1 mp) ?_
        refine va_put (v := .int (nI (mp + 1))) (D := D) (ci := 7) (C := RX4) (T := TX4) (N := 4) (ty := .int) S.1 S.2.1 S.2.2.2.2 in_X4 tyX4 tyX4_ok nmX4 S.2.2.2.1 hK hP hD hS 0 rfl rfl 3 (Nat.le_of_ble_eq_true rfl) (S.2.2.2.2 _ q958) (fun _ h9 => h9) rfl (by decide +kernel) rfl rfl (Nat.le_of_ble_eq_true rfl) dX4_readsPerson_123 (fun H locs hP hD hS => ?_)
        have hP : va_P D vwCl [(b, .inr (7, [.ref cb, .int (nI i26), .ref yb, .int (nI (mp + 1))])), (yb, .inl (dA 0, 4, .inl (upd f mp (nI (rdU xs (cc + 1) i26 ||| 2 ^ mp))))), (cb, .inl (dA 0, L, .inl xs))] H := hP
        have hD : va_D (fun q => q = b ∨ (q = yb ∨ q = cb)) [(b, .inr (7, [.ref cb, .int (nI i26), .ref yb, .int (nI (mp + 1))])), (yb, .inl (dA 0, 4, .inl (upd f mp (nI (rdU xs (cc + 1) i26 ||| 2 ^ mp))))), (cb, .inl (dA 0, L, .inl xs))] := hD
        refine lv_iconst (v := 1) hx hb dX4_readsPerson_126 (by decide) ?_
        exact g_zret S hr hlk hS dX4_readsPerson_127 ⟨Nat.le_of_ble_eq_true rfl, Nat.le_of_ble_eq_true rfl⟩ (by decide) (⟨i26, by omega, Or.inr ⟨rfl, hc1, hc2, hrp, hu16, hP⟩⟩)
      | succ k26 ih26 =>
        intro i26 hi26 hinv H locs hS hP ls hl
        have hD : va_D (fun q => q = b ∨ (q = yb ∨ q = cb)) [(b, .inr (7, [.ref cb, .int (nI i26), .ref yb, .int (nI mp)])), (yb, .inl (dA 0, 4, .inl f)), (cb, .inl (dA 0, L, .inl xs))] := D3 (Or.inl rfl) (Or.inr (Or.inl rfl)) (Or.inr (Or.inr rfl)) hbh hbc hhc
        have hc9 := hinv.2.2
        have hu16 : rdU xs (cc + 1) i26 < 16 := rdU_lt i26 hinv.2.1
        have hv16 : (rdU xs (cc + 1) i26 ||| 2 ^ mp) < 16 := Nat.or_lt_two_pow (n := 4) hu16 (pw16 (by omega))
        have hlt : i26 < L := by omega
        refine lv_aload_n hx hb dX4_readsPerson_26 rfl (lv_at hl 1 rfl) ?_
        refine va_get (v := .int (nI i26)) (D := D) (ci := 7) (C := RX4) (T := TX4) (N := 4) S.1 S.2.1 S.2.2.2.2 in_X4 S.2.2.2.1 hK hP 0 rfl rfl 1 (by decide) (S.2.2.2.2 _ q954) (fun _ h9 => h9) rfl dX4_readsPerson_27 ?_
        refine lv_aload_n hx hb dX4_readsPerson_30 rfl (lv_at hl 1 rfl) ?_
        refine va_get (v := .ref cb) (D := D) (ci := 7) (C := RX4) (T := TX4) (N := 4) S.1 S.2.1 S.2.2.2.2 in_X4 S.2.2.2.1 hK hP 0 rfl rfl 0 (by decide) (S.2.2.2.2 _ q953) (fun _ h9 => h9) rfl dX4_readsPerson_31 ?_
        refine va_alen (v := nI L) S.1 S.2.1 hK hP 2 0 rfl rfl rfl dX4_readsPerson_34 ?_
        refine lv_icmp_ge (tgt := 106) hx hb dX4_readsPerson_35 (by decide) (fun c_35 => absurd c_35 (show ¬ nI L ≤ nI i26 from nI_ge (by omega) (by omega))) (fun c_35 => ?_)
        refine lv_aload_n hx hb dX4_readsPerson_38 rfl (lv_at hl 1 rfl) ?_
        refine va_get (v := .ref cb) (D := D) (ci := 7) (C := RX4) (T := TX4) (N := 4) S.1 S.2.1 S.2.2.2.2 in_X4 S.2.2.2.1 hK hP 0 rfl rfl 0 (by decide) (S.2.2.2.2 _ q953) (fun _ h9 => h9) rfl dX4_readsPerson_39 ?_
        refine lv_aload_n hx hb dX4_readsPerson_42 rfl (lv_at hl 1 rfl) ?_
        refine va_get (v := .int (nI i26)) (D := D) (ci := 7) (C := RX4) (T := TX4) (N := 4) S.1 S.2.1 S.2.2.2.2 in_X4 S.2.2.2.1 hK hP 0 rfl rfl 1 (by decide) (S.2.2.2.2 _ q954) (fun _ h9 => h9) rfl dX4_readsPerson_43 ?_
        refine va_iald S.1 S.2.1 hK hP 2 0 rfl rfl (vp_in_nI (n := i26) (N := L) (by omega) (by omega)) dX4_readsPerson_46 ?_
        refine topi (z := xs i26) (by rw [nI_clamp (by omega)]) ?_
        refine lv_bipush (v := 59) hx hb dX4_readsPerson_47 (by decide) ?_
        refine lv_icmp_eq (tgt := 106) hx hb dX4_readsPerson_49 (by decide) (fun c_49 => ?_) (fun c_49 => ?_)
        · have hrp : rdP xs mp (cc + 1) (L - (cc + 1)) (cc + 1) = (true, i26) := hinv.1.trans (rdP_59 c_49)
          refine lv_aload_n hx hb dX4_readsPerson_106 rfl (lv_at hl 1 rfl) ?_
          refine va_get (v := .ref yb) (D := D) (ci := 7) (C := RX4) (T := TX4) (N := 4) S.1 S.2.1 S.2.2.2.2 in_X4 S.2.2.2.1 hK hP 0 rfl rfl 2 (by decide) (S.2.2.2.2 _ q956) (fun _ h9 => h9) rfl dX4_readsPerson_107 ?_
          refine lv_aload_n hx hb dX4_readsPerson_110 rfl (lv_at hl 1 rfl) ?_
          refine va_get (v := .int (nI mp)) (D := D) (ci := 7) (C := RX4) (T := TX4) (N := 4) S.1 S.2.1 S.2.2.2.2 in_X4 S.2.2.2.1 hK hP 0 rfl rfl 3 (by decide) (S.2.2.2.2 _ q958) (fun _ h9 => h9) rfl dX4_readsPerson_111 ?_
          refine lv_iload_n hx hb dX4_readsPerson_114 rfl (lv_at hl 0 rfl) ?_
          refine va_iast S.1 S.2.1 hK hP hD hS 1 0 rfl rfl (vp_in_nI (n := mp) (N := 4) (by omega) (by omega)) dX4_readsPerson_115 (fun H locs hP hD hS => ?_)
          rw [show (nI mp).toNatClampNeg = mp from nI_clamp (by omega)] at hP hD
          have hP : va_P D vwCl [(b, .inr (7, [.ref cb, .int (nI i26), .ref yb, .int (nI mp)])), (yb, .inl (dA 0, 4, .inl (upd f mp (nI (rdU xs (cc + 1) i26 ||| 2 ^ mp))))), (cb, .inl (dA 0, L, .inl xs))] H := hP
          have hD : va_D (fun q => q = b ∨ (q = yb ∨ q = cb)) [(b, .inr (7, [.ref cb, .int (nI i26), .ref yb, .int (nI mp)])), (yb, .inl (dA 0, 4, .inl (upd f mp (nI (rdU xs (cc + 1) i26 ||| 2 ^ mp))))), (cb, .inl (dA 0, L, .inl xs))] := hD
          refine lv_aload_n hx hb dX4_readsPerson_116 rfl (lv_at hl 1 rfl) ?_
          refine lv_dup hx hb dX4_readsPerson_117 rfl ?_
          refine va_get (v := .int (nI mp)) (D := D) (ci := 7) (C := RX4) (T := TX4) (N := 4) S.1 S.2.1 S.2.2.2.2 in_X4 S.2.2.2.1 hK hP 0 rfl rfl 3 (by decide) (S.2.2.2.2 _ q958) (fun _ h9 => h9) rfl dX4_readsPerson_118 ?_
          refine lv_iconst (v := 1) hx hb dX4_readsPerson_121 (by decide) ?_
          refine lv_iadd hx hb dX4_readsPerson_122 ?_
          refine topi (z := nI (mp + 1)) (nI_1 mp) ?_
          refine va_put (v := .int (nI (mp + 1))) (D := D) (ci := 7) (C := RX4) (T := TX4) (N := 4) (ty := .int) S.1 S.2.1 S.2.2.2.2 in_X4 tyX4 tyX4_ok nmX4 S.2.2.2.1 hK hP hD hS 0 rfl rfl 3 (Nat.le_of_ble_eq_true rfl) (S.2.2.2.2 _ q958) (fun _ h9 => h9) rfl (by decide +kernel) rfl rfl (Nat.le_of_ble_eq_true rfl) dX4_readsPerson_123 (fun H locs hP hD hS => ?_)
          have hP : va_P D vwCl [(b, .inr (7, [.ref cb, .int (nI i26), .ref yb, .int (nI (mp + 1))])), (yb, .inl (dA 0, 4, .inl (upd f mp (nI (rdU xs (cc + 1) i26 ||| 2 ^ mp))))), (cb, .inl (dA 0, L, .inl xs))] H := hP
          have hD : va_D (fun q => q = b ∨ (q = yb ∨ q = cb)) [(b, .inr (7, [.ref cb, .int (nI i26), .ref yb, .int (nI (mp + 1))])), (yb, .inl (dA 0, 4, .inl (upd f mp (nI (rdU xs (cc + 1) i26 ||| 2 ^ mp))))), (cb, .inl (dA 0, L, .inl xs))] := hD
          refine lv_iconst (v := 1) hx hb dX4_readsPerson_126 (by decide) ?_
          exact g_zret S hr hlk hS dX4_readsPerson_127 ⟨Nat.le_of_ble_eq_true rfl, Nat.le_of_ble_eq_true rfl⟩ (by decide) (⟨i26, by omega, Or.inr ⟨rfl, hc1, hc2, hrp, hu16, hP⟩⟩)
        · refine lv_aload_n hx hb dX4_readsPerson_52 rfl (lv_at hl 1 rfl) ?_
          refine va_get (v := .ref cb) (D := D) (ci := 7) (C := RX4) (T := TX4) (N := 4) S.1 S.2.1 S.2.2.2.2 in_X4 S.2.2.2.1 hK hP 0 rfl rfl 0 (by decide) (S.2.2.2.2 _ q953) (fun _ h9 => h9) rfl dX4_readsPerson_53 ?_
          refine lv_aload_n hx hb dX4_readsPerson_56 rfl (lv_at hl 1 rfl) ?_
          refine va_get (v := .int (nI i26)) (D := D) (ci := 7) (C := RX4) (T := TX4) (N := 4) S.1 S.2.1 S.2.2.2.2 in_X4 S.2.2.2.1 hK hP 0 rfl rfl 1 (by decide) (S.2.2.2.2 _ q954) (fun _ h9 => h9) rfl dX4_readsPerson_57 ?_
          refine va_iald S.1 S.2.1 hK hP 2 0 rfl rfl (vp_in_nI (n := i26) (N := L) (by omega) (by omega)) dX4_readsPerson_60 ?_
          refine topi (z := xs i26) (by rw [nI_clamp (by omega)]) ?_
          refine lv_bipush (v := 48) hx hb dX4_readsPerson_61 (by decide) ?_
          refine lv_isub hx hb dX4_readsPerson_63 ?_
          refine lv_istore_n (lv' := [(2, .int ((xs i26) - 48)), (1, .int (nI (rdU xs (cc + 1) i26 ||| 2 ^ mp))), (0, .ref b)]) hx hb dX4_readsPerson_64 rfl hl (by decide) rfl (fun ls hl => ?_)
          refine lv_iload_n hx hb dX4_readsPerson_65 rfl (lv_at hl 0 rfl) ?_
          refine lv_i2l hx hb dX4_readsPerson_66 rfl ?_
          refine lv_lconst (v := 0) hx hb dX4_readsPerson_67 (by decide) ?_
          refine lv_ldc2 (v := 3) hx hb S.2.2.2.1 (S.2.2.2.2 _ q981) dX4_readsPerson_68 ?_
          refine rc2_SN (rest := []) [.long (((xs i26) - 48).toInt64), .long 0, .long 3] 3 S hK2 (RC.k2 (r0_in l D dA (((xs i26) - 48).toInt64) 0 3)) q194 q60 (hK2.2.1 _ q982 rfl) q193 (by decide +kernel : yX0_in.cls ≠ "java/lang/invoke/MethodHandle" ∧ yX0_in.cls ≠ "java/lang/invoke/VarHandle" ∧ (parseMethodDescriptor yX0_in.desc).map (fun d => d.parameters.length) = some 3) rfl ⟨Nat.le_of_ble_eq_true rfl, Nat.le_of_ble_eq_true rfl⟩ hl.1 (Nat.le_of_ble_eq_true rfl) dX4_readsPerson_71 ⟨Nat.le_of_ble_eq_true rfl, Nat.le_of_ble_eq_true rfl⟩ (trivial) (fun v9 hv9 => ?_) rfl
          subst hv9
          refine W.eq (g2 := F0 m 74 ls [.int (b2i (inL (((xs i26) - 48).toInt64) 0 3))]) rfl ?_
          refine topi (z := b2i (inR (xs i26 - 48) 0 3)) (congrArg b2i (inL_eq (xs i26 - 48) 0 3)) ?_
          refine lv_if_eq (tgt := 85) hx hb dX4_readsPerson_74 (by decide) (fun c_74 => ?_) (fun c_74 => ?_)
          · have c_74 := b2i_eq0.mp c_74
            have hbad := rdB_1 (mp := mp) (u := rdU xs (cc + 1) i26) c_74
            refine lv_iconst (v := 0) hx hb dX4_readsPerson_85 (by decide) ?_
            exact g_zret S hr hlk hS dX4_readsPerson_86 ⟨Nat.le_of_ble_eq_true rfl, Nat.le_of_ble_eq_true rfl⟩ (by decide) (⟨i26, by omega, Or.inl ⟨rfl, Or.inr ⟨hc1, hc2, hinv.1.trans (rdP_b (by omega) c_49 hbad)⟩, hP⟩⟩)
          · have c_74 := b2i_ne0.mp c_74
            obtain ⟨qa, hq9, eq9⟩ := inR_some (k := 3) (by decide) c_74
            rw [eq9] at hl
            refine lv_iload_n hx hb dX4_readsPerson_77 rfl (lv_at hl 1 rfl) ?_
            refine lv_iload_n hx hb dX4_readsPerson_78 rfl (lv_at hl 0 rfl) ?_
            refine rc2_SN (rest := []) [.int (nI (rdU xs (cc + 1) i26 ||| 2 ^ mp)), .int (nI qa)] 2 S hK2 (RC.k2 (r0_isIn l D dA (rdU xs (cc + 1) i26 ||| 2 ^ mp) qa (by first | assumption | omega | decide) (by first | assumption | omega | decide))) q251 q60 (hK2.2.1 _ q983 rfl) q250 (by decide +kernel : yX0_isIn.cls ≠ "java/lang/invoke/MethodHandle" ∧ yX0_isIn.cls ≠ "java/lang/invoke/VarHandle" ∧ (parseMethodDescriptor yX0_isIn.desc).map (fun d => d.parameters.length) = some 2) rfl ⟨Nat.le_of_ble_eq_true rfl, Nat.le_of_ble_eq_true rfl⟩ hl.1 (Nat.le_of_ble_eq_true rfl) dX4_readsPerson_79 ⟨Nat.le_of_ble_eq_true rfl, Nat.le_of_ble_eq_true rfl⟩ (trivial) (fun v9 hv9 => ?_) rfl
            subst hv9
            refine W.eq (g2 := F0 m 82 ls [.int (b2i ((rdU xs (cc + 1) i26 ||| 2 ^ mp).testBit qa))]) rfl ?_
            refine lv_if_eq (tgt := 87) hx hb dX4_readsPerson_82 (by decide) (fun c_82 => ?_) (fun c_82 => ?_)
            · have c_82 := b2i_eq0.mp c_82
              refine lv_iload_n hx hb dX4_readsPerson_87 rfl (lv_at hl 1 rfl) ?_
              refine lv_iconst (v := 1) hx hb dX4_readsPerson_88 (by decide) ?_
              refine lv_iload_n hx hb dX4_readsPerson_89 rfl (lv_at hl 0 rfl) ?_
              refine lv_ishl hx hb dX4_readsPerson_90 ?_
              refine topi (z := nI (2 ^ qa)) (shl1 _ (by omega)) ?_
              refine lv_ior hx hb dX4_readsPerson_91 ?_
              refine topi (z := nI (rdU xs (cc + 1) (i26 + 1) ||| 2 ^ mp)) ((nI_or _ _).trans (congrArg nI (rd_nx (by omega) (by omega) eq9))) ?_
              refine lv_istore_n (lv' := [(1, .int (nI (rdU xs (cc + 1) (i26 + 1) ||| 2 ^ mp))), (2, .int (nI qa)), (0, .ref b)]) hx hb dX4_readsPerson_92 rfl hl (by decide) rfl (fun ls hl => ?_)
              refine lv_aload_n hx hb dX4_readsPerson_93 rfl (lv_at hl 2 rfl) ?_
              refine lv_dup hx hb dX4_readsPerson_94 rfl ?_
              refine va_get (v := .int (nI i26)) (D := D) (ci := 7) (C := RX4) (T := TX4) (N := 4) S.1 S.2.1 S.2.2.2.2 in_X4 S.2.2.2.1 hK hP 0 rfl rfl 1 (by decide) (S.2.2.2.2 _ q954) (fun _ h9 => h9) rfl dX4_readsPerson_95 ?_
              refine lv_iconst (v := 1) hx hb dX4_readsPerson_98 (by decide) ?_
              refine lv_iadd hx hb dX4_readsPerson_99 ?_
              refine topi (z := nI (i26 + 1)) (nI_1 i26) ?_
              refine va_put (v := .int (nI (i26 + 1))) (D := D) (ci := 7) (C := RX4) (T := TX4) (N := 4) (ty := .int) S.1 S.2.1 S.2.2.2.2 in_X4 tyX4 tyX4_ok nmX4 S.2.2.2.1 hK hP hD hS 0 rfl rfl 1 (Nat.le_of_ble_eq_true rfl) (S.2.2.2.2 _ q954) (fun _ h9 => h9) rfl (by decide +kernel) rfl rfl (Nat.le_of_ble_eq_true rfl) dX4_readsPerson_100 (fun H locs hP hD hS => ?_)
              have hP : va_P D vwCl [(b, .inr (7, [.ref cb, .int (nI (i26 + 1)), .ref yb, .int (nI mp)])), (yb, .inl (dA 0, 4, .inl f)), (cb, .inl (dA 0, L, .inl xs))] H := hP
              have hD : va_D (fun q => q = b ∨ (q = yb ∨ q = cb)) [(b, .inr (7, [.ref cb, .int (nI (i26 + 1)), .ref yb, .int (nI mp)])), (yb, .inl (dA 0, 4, .inl f)), (cb, .inl (dA 0, L, .inl xs))] := hD
              refine lv_goto (tgt := 26) hx hb dX4_readsPerson_103 (by decide) ?_
              exact ih26 (i26 + 1) (by omega) ⟨hinv.1.trans (rdP_s hlt c_49 (rdB_f (by omega) eq9 c_82)), fun i h1 h2 => (by by_cases h3 : i = i26; (subst h3; rw [eq9, nI_clamp (by omega)]; omega); exact hinv.2.1 i h1 (by omega)), by omega⟩ _ _ hS hP ls (lv_sub hl [0, 2] rfl)
            · have c_82 := b2i_ne0.mp c_82
              have hbad := rdB_t (by omega) eq9 c_82
              refine lv_iconst (v := 0) hx hb dX4_readsPerson_85 (by decide) ?_
              exact g_zret S hr hlk hS dX4_readsPerson_86 ⟨Nat.le_of_ble_eq_true rfl, Nat.le_of_ble_eq_true rfl⟩ (by decide) (⟨i26, by omega, Or.inl ⟨rfl, Or.inr ⟨hc1, hc2, hinv.1.trans (rdP_b (by omega) c_49 hbad)⟩, hP⟩⟩)
    exact hloop26 (L - (cc + 1)) (cc + 1) (by omega) ⟨rfl, fun i h1 h2 => absurd h1 (by omega), by omega⟩ _ _ hS hP ls (lv_sub hl [0, 1] rfl)
  · refine W.eq (g2 := F0 m 14 ls [.int 0]) rfl ?_
    have hD : va_D (fun q => q = b ∨ (q = yb ∨ q = cb)) [(b, .inr (7, [.ref cb, .int (nI cc), .ref yb, .int (nI mp)])), (yb, .inl (dA 0, 4, .inl f)), (cb, .inl (dA 0, L, .inl xs))] := D3 (Or.inl rfl) (Or.inr (Or.inl rfl)) (Or.inr (Or.inr rfl)) hbh hbc hhc
    refine lv_if_ne (tgt := 19) hx hb dX4_readsPerson_14 (by decide) (fun c_14 => absurd (by decide) c_14) (fun c_14 => ?_)
    refine lv_iconst (v := 0) hx hb dX4_readsPerson_17 (by decide) ?_
    exact g_zret S hr hlk hS dX4_readsPerson_18 ⟨Nat.le_of_ble_eq_true rfl, Nat.le_of_ble_eq_true rfl⟩ (by decide) (⟨cc, by omega, Or.inl ⟨rfl, Or.inl ⟨hc1, rfl⟩, hP⟩⟩)
set_option maxHeartbeats 4000000 in
theorem g4_there (l : Launch) (D : va_G) (dA : Nat → ClassId) (b yb cb L : Nat) (xs : Nat → Int32) (hL : L ≤ 60) (hbh : b ≠ yb) (hbc : b ≠ cb) (hhc : yb ≠ cb) (cc mp : Nat) (f : Nat → Int32) (hmp : mp ≤ 4) : GC l yX4_areThere cX4_areThere 2 (some .boolean) 1 25 0 0 (K2 D dA) [.ref b] (fun H => va_P D vwCl [(b, .inr (7, [.ref cb, .int (nI cc), .ref yb, .int (nI mp)])), (yb, .inl (dA 0, 4, .inl f)), (cb, .inl (dA 0, L, .inl xs))] H) (fun q => q = b ∨ (q = yb ∨ q = cb)) (fun v9 H => (∃ ct, v9 = some (.int 0) ∧ rdK xs mp (L - 0) 0 = some ct ∧ ct ≤ L ∧ va_P D vwCl [(b, .inr (7, [.ref cb, .int (nI ct), .ref yb, .int (nI mp)])), (yb, .inl (dA 0, 4, .inl f)), (cb, .inl (dA 0, L, .inl xs))] H) ∨ (v9 = some (.int 1) ∧ rdK xs mp (L - 0) 0 = none ∧ va_P D vwCl [(b, .inr (7, [.ref cb, .int (nI cc), .ref yb, .int (nI mp)])), (yb, .inl (dA 0, 4, .inl f)), (cb, .inl (dA 0, L, .inl xs))] H)) := by
  refine GC.of (by decide) (Nat.le_of_ble_eq_true rfl) ?_
  intro p e s m below meth c ls S hr hlk hnm hK2 hPre hl
  have hK := hK2.1
  have hx := S.1
  have hb := S.2.1
  have hl : lv_has ls 2 [(0, .ref b)] := hl
  have hS : va_S (fun q => q = b ∨ (q = yb ∨ q = cb)) s.heap s.heap [] := va_S.rf
  have hP := hPre
  have hD : va_D (fun q => q = b ∨ (q = yb ∨ q = cb)) [(b, .inr (7, [.ref cb, .int (nI cc), .ref yb, .int (nI mp)])), (yb, .inl (dA 0, 4, .inl f)), (cb, .inl (dA 0, L, .inl xs))] := D3 (Or.inl rfl) (Or.inr (Or.inl rfl)) (Or.inr (Or.inr rfl)) hbh hbc hhc
  refine lv_iconst (v := 0) hx hb dX4_areThere_0 (by decide) ?_
  refine lv_istore_n (lv' := [(1, .int 0), (0, .ref b)]) hx hb dX4_areThere_1 rfl hl (by decide) rfl (fun ls hl => ?_)
  have hloop2 : ∀ (k2 i2 : Nat), i2 + k2 = L → rdK xs mp (L - 0) 0 = rdK xs mp (L - i2) i2 → ∀ (H : Heap) (locs : List Loc), va_S (fun q => q = b ∨ (q = yb ∨ q = cb)) s.heap H locs → va_P D vwCl [(b, .inr (7, [.ref cb, .int (nI cc), .ref yb, .int (nI mp)])), (yb, .inl (dA 0, 4, .inl f)), (cb, .inl (dA 0, L, .inl xs))] H → ∀ (ls : Array Slot), lv_has ls 2 [(1, .int (nI i2)), (0, .ref b)] → W p l e ({ frames := 1, cells := 0, slots := 0, locals := 25 }) s m [.ref b].toArray below meth c H locs 0 0 (GZ below (fun q => q = b ∨ (q = yb ∨ q = cb)) (fun v9 H => (∃ ct, v9 = some (.int 0) ∧ rdK xs mp (L - 0) 0 = some ct ∧ ct ≤ L ∧ va_P D vwCl [(b, .inr (7, [.ref cb, .int (nI ct), .ref yb, .int (nI mp)])), (yb, .inl (dA 0, 4, .inl f)), (cb, .inl (dA 0, L, .inl xs))] H) ∨ (v9 = some (.int 1) ∧ rdK xs mp (L - 0) 0 = none ∧ va_P D vwCl [(b, .inr (7, [.ref cb, .int (nI cc), .ref yb, .int (nI mp)])), (yb, .inl (dA 0, 4, .inl f)), (cb, .inl (dA 0, L, .inl xs))] H)) [.ref b] s 0 0) (F0 m 2 ls []) := by
    intro k2
    induction k2 with
    | zero =>
      intro i2 hi2 hinv2 H locs hS hw2 ls hl
      have hP := hw2
      have hD : va_D (fun q => q = b ∨ (q = yb ∨ q = cb)) [(b, .inr (7, [.ref cb, .int (nI cc), .ref yb, .int (nI mp)])), (yb, .inl (dA 0, 4, .inl f)), (cb, .inl (dA 0, L, .inl xs))] := D3 (Or.inl rfl) (Or.inr (Or.inl rfl)) (Or.inr (Or.inr rfl)) hbh hbc hhc
      have hi2 : i2 = L := by omega
      refine lv_iload_n hx hb dX4_areThere_2 rfl (lv_at hl 0 rfl) ?_
      refine lv_aload_n hx hb dX4_areThere_3 rfl (lv_at hl 1 rfl) ?_
      refine va_get (v := .ref cb) (D := D) (ci := 7) (C := RX4) (T := TX4) (N := 4) S.1 S.2.1 S.2.2.2.2 in_X4 S.2.2.2.1 hK hP 0 rfl rfl 0 (by decide) (S.2.2.2.2 _ q953) (fun _ h9 => h9) rfl dX4_areThere_4 ?_
      refine va_alen (v := nI L) S.1 S.2.1 hK hP 2 0 rfl rfl rfl dX4_areThere_7 ?_
      refine lv_icmp_ge (tgt := 48) hx hb dX4_areThere_8 (by decide) (fun c_8 => ?_) (fun c_8 => absurd (show nI L ≤ nI i2 from nI_le (by omega) (by omega)) c_8)
      refine lv_iconst (v := 1) hx hb dX4_areThere_48 (by decide) ?_
      exact g_zret S hr hlk hS dX4_areThere_49 ⟨Nat.le_of_ble_eq_true rfl, Nat.le_of_ble_eq_true rfl⟩ (by decide) (Or.inr ⟨rfl, hinv2.trans (by rw [hi2, Nat.sub_self]; rfl), hP⟩)
    | succ k2 ih2 =>
      intro i2 hi2 hinv2 H locs hS hw2 ls hl
      have hP := hw2
      have hD : va_D (fun q => q = b ∨ (q = yb ∨ q = cb)) [(b, .inr (7, [.ref cb, .int (nI cc), .ref yb, .int (nI mp)])), (yb, .inl (dA 0, 4, .inl f)), (cb, .inl (dA 0, L, .inl xs))] := D3 (Or.inl rfl) (Or.inr (Or.inl rfl)) (Or.inr (Or.inr rfl)) hbh hbc hhc
      have hlt2 : i2 < L := by omega
      refine lv_iload_n hx hb dX4_areThere_2 rfl (lv_at hl 0 rfl) ?_
      refine lv_aload_n hx hb dX4_areThere_3 rfl (lv_at hl 1 rfl) ?_
      refine va_get (v := .ref cb) (D := D) (ci := 7) (C := RX4) (T := TX4) (N := 4) S.1 S.2.1 S.2.2.2.2 in_X4 S.2.2.2.1 hK hP 0 rfl rfl 0 (by decide) (S.2.2.2.2 _ q953) (fun _ h9 => h9) rfl dX4_areThere_4 ?_
      refine va_alen (v := nI L) S.1 S.2.1 hK hP 2 0 rfl rfl rfl dX4_areThere_7 ?_
      refine lv_icmp_ge (tgt := 48) hx hb dX4_areThere_8 (by decide) (fun c_8 => absurd c_8 (show ¬ nI L ≤ nI i2 from nI_ge (by omega) (by omega))) (fun c_8 => ?_)
      refine lv_aload_n hx hb dX4_areThere_11 rfl (lv_at hl 1 rfl) ?_
      refine va_get (v := .ref cb) (D := D) (ci := 7) (C := RX4) (T := TX4) (N := 4) S.1 S.2.1 S.2.2.2.2 in_X4 S.2.2.2.1 hK hP 0 rfl rfl 0 (by decide) (S.2.2.2.2 _ q953) (fun _ h9 => h9) rfl dX4_areThere_12 ?_
      refine lv_iload_n hx hb dX4_areThere_15 rfl (lv_at hl 0 rfl) ?_
      refine va_iald S.1 S.2.1 hK hP 2 0 rfl rfl (vp_in_nI (n := i2) (N := L) (by omega) (by omega)) dX4_areThere_16 ?_
      refine topi (z := xs i2) (by rw [nI_clamp (by omega)]) ?_
      refine lv_i2l hx hb dX4_areThere_17 rfl ?_
      refine lv_bipush (v := 48) hx hb dX4_areThere_18 (by decide) ?_
      refine lv_aload_n hx hb dX4_areThere_20 rfl (lv_at hl 1 rfl) ?_
      refine va_get (v := .int (nI mp)) (D := D) (ci := 7) (C := RX4) (T := TX4) (N := 4) S.1 S.2.1 S.2.2.2.2 in_X4 S.2.2.2.1 hK hP 0 rfl rfl 3 (by decide) (S.2.2.2.2 _ q958) (fun _ h9 => h9) rfl dX4_areThere_21 ?_
      refine lv_iadd hx hb dX4_areThere_24 ?_
      refine lv_i2l hx hb dX4_areThere_25 rfl ?_
      refine lv_ldc2 (v := 51) hx hb S.2.2.2.1 (S.2.2.2.2 _ q988) dX4_areThere_26 ?_
      refine rc2_SN (rest := []) [.long ((xs i2).toInt64), .long ((48 + (nI mp)).toInt64), .long 51] 3 S hK2 (RC.k2 (r0_in l D dA ((xs i2).toInt64) ((48 + (nI mp)).toInt64) 51)) q194 q60 (hK2.2.1 _ q982 rfl) q193 (by decide +kernel : yX0_in.cls ≠ "java/lang/invoke/MethodHandle" ∧ yX0_in.cls ≠ "java/lang/invoke/VarHandle" ∧ (parseMethodDescriptor yX0_in.desc).map (fun d => d.parameters.length) = some 3) rfl ⟨Nat.le_of_ble_eq_true rfl, Nat.le_of_ble_eq_true rfl⟩ hl.1 (Nat.le_of_ble_eq_true rfl) dX4_areThere_29 ⟨Nat.le_of_ble_eq_true rfl, Nat.le_of_ble_eq_true rfl⟩ (trivial) (fun v9 hv9 => ?_) rfl
      subst hv9
      refine W.eq (g2 := F0 m 32 ls [.int (b2i (inL ((xs i2).toInt64) ((48 + (nI mp)).toInt64) 51))]) rfl ?_
      refine topi (z := b2i (inR (xs i2 - 48) (nI mp) 3)) ((congrArg b2i (inL_eq (xs i2) (48 + nI mp) 51)).trans (congrArg b2i (in48 hmp))) ?_
      refine lv_if_eq (tgt := 42) hx hb dX4_areThere_32 (by decide) (fun c_32 => ?_) (fun c_32 => ?_)
      · have c_32 := b2i_eq0.mp c_32
        refine lv_iinc (v := nI (i2 + 1)) (lv' := [(1, .int (nI (i2 + 1))), (0, .ref b)]) hx hb dX4_areThere_42 hl (k := 0) rfl (nI_1 _) (by decide) rfl (fun ls hl => ?_)
        refine lv_goto (tgt := 2) hx hb dX4_areThere_45 (by decide) ?_
        exact ih2 (i2 + 1) (by omega) (hinv2.trans (rdK_f hlt2 c_32)) _ _ hS (hP) ls (lv_sub hl [0, 1] rfl)
      · have c_32 := b2i_ne0.mp c_32
        refine lv_aload_n hx hb dX4_areThere_35 rfl (lv_at hl 1 rfl) ?_
        refine lv_iload_n hx hb dX4_areThere_36 rfl (lv_at hl 0 rfl) ?_
        refine va_put (v := .int (nI i2)) (D := D) (ci := 7) (C := RX4) (T := TX4) (N := 4) (ty := .int) S.1 S.2.1 S.2.2.2.2 in_X4 tyX4 tyX4_ok nmX4 S.2.2.2.1 hK hP hD hS 0 rfl rfl 1 (Nat.le_of_ble_eq_true rfl) (S.2.2.2.2 _ q954) (fun _ h9 => h9) rfl (by decide +kernel) rfl rfl (Nat.le_of_ble_eq_true rfl) dX4_areThere_37 (fun H locs hP hD hS => ?_)
        have hP : va_P D vwCl [(b, .inr (7, [.ref cb, .int (nI i2), .ref yb, .int (nI mp)])), (yb, .inl (dA 0, 4, .inl f)), (cb, .inl (dA 0, L, .inl xs))] H := hP
        have hD : va_D (fun q => q = b ∨ (q = yb ∨ q = cb)) [(b, .inr (7, [.ref cb, .int (nI i2), .ref yb, .int (nI mp)])), (yb, .inl (dA 0, 4, .inl f)), (cb, .inl (dA 0, L, .inl xs))] := hD
        refine lv_iconst (v := 0) hx hb dX4_areThere_40 (by decide) ?_
        exact g_zret S hr hlk hS dX4_areThere_41 ⟨Nat.le_of_ble_eq_true rfl, Nat.le_of_ble_eq_true rfl⟩ (by decide) (Or.inl ⟨i2, rfl, hinv2.trans (rdK_t hlt2 c_32), by omega, hP⟩)
  exact hloop2 (L) 0 (by omega) (rfl) _ _ hS (hP) ls (lv_sub hl [0, 1] rfl)
