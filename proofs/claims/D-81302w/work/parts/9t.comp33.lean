/-! COMPONENT 33: a text is read, whole (by program: gen/comp33.py) -/
set_option maxRecDepth 100000
theorem rd_h2 {f : Nat → Int32} {hh : Nat → Nat} {mp u : Nat} (h : ∀ j, j < mp → f j = nI (hh j ||| 2 ^ j) ∧ hh j < 16) (hu : u < 16) : ∀ j, j < mp + 1 → upd f mp (nI (u ||| 2 ^ mp)) j = nI (rdH hh mp u j ||| 2 ^ j) ∧ rdH hh mp u j < 16 := by
  intro j hj
  unfold rdH
  by_cases e : j = mp
  · subst e; rw [if_pos rfl]; exact ⟨pk_us, hu⟩
  · rw [if_neg e, pk_un e]; exact h j (by omega)
theorem rd_fail {xs : Nat → Int32} {L f mp cc ct : Nat} {hh : Nat → Nat} (hcc : cc ≤ L) (h : (¬ (cc < L ∧ xs cc = 112) ∧ ct = cc) ∨ (cc < L ∧ xs cc = 112 ∧ rdP xs mp (cc + 1) (L - (cc + 1)) (cc + 1) = (false, ct))) : rdA xs L (f + 1) mp cc hh = (some ct, mp, hh) := by
  rcases h with ⟨h1, rfl⟩ | ⟨h1, h2, h3⟩
  · by_cases e : ct = L
    · exact rdA_1 e
    · exact rdA_2 e (fun h => h1 ⟨by omega, h⟩)
  · exact rdA_3 (by omega) h2 h3
set_option maxHeartbeats 4000000 in
theorem g4_does (l : Launch) (D : va_G) (dA : Nat → ClassId) (b yb cb L : Nat) (xs : Nat → Int32) (hL : L ≤ 60) (hbh : b ≠ yb) (hbc : b ≠ cb) (hhc : yb ≠ cb) (f0 : Nat → Int32) : GC l yX4_doesRead cX4_doesRead 2 (some .boolean) 2 47 0 0 (K2 D dA) [.ref b] (fun H => va_P D vwCl [(b, .inr (7, [.ref cb, .int (nI 0), .ref yb, .int (nI 0)])), (yb, .inl (dA 0, 4, .inl f0)), (cb, .inl (dA 0, L, .inl xs))] H) (fun q => q = b ∨ (q = yb ∨ q = cb)) (fun v9 H => (v9 = some (.int 1) ∧ spRead xs L = none ∧ ∃ (mp : Nat) (hh : Nat → Nat) (f : Nat → Int32) (ct : Nat), rd1 xs L = (none, mp, hh) ∧ mp < 5 ∧ (∀ j, j < mp → f j = nI (hh j ||| 2 ^ j) ∧ hh j < 16) ∧ va_P D vwCl [(b, .inr (7, [.ref cb, .int (nI ct), .ref yb, .int (nI mp)])), (yb, .inl (dA 0, 4, .inl f)), (cb, .inl (dA 0, L, .inl xs))] H) ∨ (∃ (ct mp : Nat) (f : Nat → Int32), v9 = some (.int 0) ∧ spRead xs L = some ct ∧ ct ≤ L ∧ va_P D vwCl [(b, .inr (7, [.ref cb, .int (nI ct), .ref yb, .int (nI mp)])), (yb, .inl (dA 0, 4, .inl f)), (cb, .inl (dA 0, L, .inl xs))] H)) := by
  refine GC.of (by decide) (Nat.le_of_ble_eq_true rfl) ?_
  intro p e s m below meth c ls S hr hlk hnm hK2 hPre hl
  have hK := hK2.1
  have hx := S.1
  have hb := S.2.1
  have hl : lv_has ls 2 [(0, .ref b)] := hl
  have hS : va_S (fun q => q = b ∨ (q = yb ∨ q = cb)) s.heap s.heap [] := va_S.rf
  have hP := hPre
  have hD : va_D (fun q => q = b ∨ (q = yb ∨ q = cb)) [(b, .inr (7, [.ref cb, .int (nI 0), .ref yb, .int (nI 0)])), (yb, .inl (dA 0, 4, .inl f0)), (cb, .inl (dA 0, L, .inl xs))] := D3 (Or.inl rfl) (Or.inr (Or.inl rfl)) (Or.inr (Or.inr rfl)) hbh hbc hhc
  refine lv_iconst (v := 1) hx hb dX4_doesRead_0 (by decide) ?_
  refine lv_istore_n (lv' := [(1, .int 1), (0, .ref b)]) hx hb dX4_doesRead_1 rfl hl (by decide) rfl (fun ls hl => ?_)
  have hloop2 : ∀ (k2 mp cc : Nat), mp + k2 = 4 → mp < 4 → cc ≤ L → ∀ (hh : Nat → Nat) (f : Nat → Int32), (∀ j, j < mp → f j = nI (hh j ||| 2 ^ j) ∧ hh j < 16) → rd1 xs L = rdA xs L k2 mp cc hh → ∀ (H : Heap) (locs : List Loc), va_S (fun q => q = b ∨ (q = yb ∨ q = cb)) s.heap H locs → va_P D vwCl [(b, .inr (7, [.ref cb, .int (nI cc), .ref yb, .int (nI mp)])), (yb, .inl (dA 0, 4, .inl f)), (cb, .inl (dA 0, L, .inl xs))] H → ∀ (ls : Array Slot), lv_has ls 2 [(1, .int 1), (0, .ref b)] → W p l e ({ frames := 2, cells := 0, slots := 0, locals := 47 }) s m [.ref b].toArray below meth c H locs 0 0 (GZ below (fun q => q = b ∨ (q = yb ∨ q = cb)) (fun v9 H => (v9 = some (.int 1) ∧ spRead xs L = none ∧ ∃ (mp : Nat) (hh : Nat → Nat) (f : Nat → Int32) (ct : Nat), rd1 xs L = (none, mp, hh) ∧ mp < 5 ∧ (∀ j, j < mp → f j = nI (hh j ||| 2 ^ j) ∧ hh j < 16) ∧ va_P D vwCl [(b, .inr (7, [.ref cb, .int (nI ct), .ref yb, .int (nI mp)])), (yb, .inl (dA 0, 4, .inl f)), (cb, .inl (dA 0, L, .inl xs))] H) ∨ (∃ (ct mp : Nat) (f : Nat → Int32), v9 = some (.int 0) ∧ spRead xs L = some ct ∧ ct ≤ L ∧ va_P D vwCl [(b, .inr (7, [.ref cb, .int (nI ct), .ref yb, .int (nI mp)])), (yb, .inl (dA 0, 4, .inl f)), (cb, .inl (dA 0, L, .inl xs))] H)) [.ref b] s 0 0) (F0 m 2 ls []) := by
    intro k2
    induction k2 with
    | zero =>
      intro mp cc h1 h2; exact absurd h1 (by omega)
    | succ k2 ih2 =>
      intro mp cc hk2 hmp hcc hh f hh1 hA H locs hS hP ls hl
      have hD : va_D (fun q => q = b ∨ (q = yb ∨ q = cb)) [(b, .inr (7, [.ref cb, .int (nI cc), .ref yb, .int (nI mp)])), (yb, .inl (dA 0, 4, .inl f)), (cb, .inl (dA 0, L, .inl xs))] := D3 (Or.inl rfl) (Or.inr (Or.inl rfl)) (Or.inr (Or.inr rfl)) hbh hbc hhc
      refine lv_iload_n hx hb dX4_doesRead_2 rfl (lv_at hl 0 rfl) ?_
      refine lv_if_eq (tgt := 56) hx hb dX4_doesRead_3 (by decide) (fun c_3 => absurd c_3 (by decide)) (fun c_3 => ?_)
      refine lv_aload_n hx hb dX4_doesRead_6 rfl (lv_at hl 1 rfl) ?_
      refine gc_V (rest := []) [] 0 S Wm_K2 hK2 hS (fun q h => h) (g4_reads l D dA b yb cb L xs hL hbh hbc hhc cc mp f hcc hmp) wl_X4_41 wd_X4_X4_readsPerson rfl ⟨Nat.le_of_ble_eq_true rfl, Nat.le_of_ble_eq_true rfl⟩ (va_recv hK hP (ci := 7) (q0 := 0) rfl rfl) hl.1 (Nat.le_of_ble_eq_true rfl) dX4_doesRead_7 ⟨Nat.le_of_ble_eq_true rfl, Nat.le_of_ble_eq_true rfl⟩ hP (fun v9 H locs hp9 hz9 ho9 hS => ?_) rfl
      obtain ⟨ct, hctL, hp9⟩ := hp9
      rcases hp9 with ⟨rfl, hf9, hP⟩ | ⟨rfl, hc1, hc2, hrp, hu16, hP⟩
      · have hR := hA.trans (rd_fail hcc hf9)
        refine W.eq (g2 := F0 m 10 ls [.int 0]) rfl ?_
        have hD : va_D (fun q => q = b ∨ (q = yb ∨ q = cb)) [(b, .inr (7, [.ref cb, .int (nI ct), .ref yb, .int (nI mp)])), (yb, .inl (dA 0, 4, .inl f)), (cb, .inl (dA 0, L, .inl xs))] := D3 (Or.inl rfl) (Or.inr (Or.inl rfl)) (Or.inr (Or.inr rfl)) hbh hbc hhc
        refine lv_if_ne (tgt := 15) hx hb dX4_doesRead_10 (by decide) (fun c_10 => absurd (by decide) c_10) (fun c_10 => ?_)
        refine lv_iconst (v := 0) hx hb dX4_doesRead_13 (by decide) ?_
        exact g_zret S hr hlk hS dX4_doesRead_14 ⟨Nat.le_of_ble_eq_true rfl, Nat.le_of_ble_eq_true rfl⟩ (by decide) (Or.inr ⟨ct, _, _, rfl, spRead_s hR, hctL, hP⟩)
      · have hh2 := rd_h2 hh1 hu16
        refine W.eq (g2 := F0 m 10 ls [.int 1]) rfl ?_
        have hD : va_D (fun q => q = b ∨ (q = yb ∨ q = cb)) [(b, .inr (7, [.ref cb, .int (nI ct), .ref yb, .int (nI (mp + 1))])), (yb, .inl (dA 0, 4, .inl (upd f mp (nI (rdU xs (cc + 1) ct ||| 2 ^ mp))))), (cb, .inl (dA 0, L, .inl xs))] := D3 (Or.inl rfl) (Or.inr (Or.inl rfl)) (Or.inr (Or.inr rfl)) hbh hbc hhc
        refine lv_if_ne (tgt := 15) hx hb dX4_doesRead_10 (by decide) (fun c_10 => ?_) (fun c_10 => absurd (c_10) (by decide))
        refine lv_aload_n hx hb dX4_doesRead_15 rfl (lv_at hl 1 rfl) ?_
        refine va_get (v := .int (nI ct)) (D := D) (ci := 7) (C := RX4) (T := TX4) (N := 4) S.1 S.2.1 S.2.2.2.2 in_X4 S.2.2.2.1 hK hP 0 rfl rfl 1 (by decide) (S.2.2.2.2 _ q954) (fun _ h9 => h9) rfl dX4_doesRead_16 ?_
        refine lv_aload_n hx hb dX4_doesRead_19 rfl (lv_at hl 1 rfl) ?_
        refine va_get (v := .ref cb) (D := D) (ci := 7) (C := RX4) (T := TX4) (N := 4) S.1 S.2.1 S.2.2.2.2 in_X4 S.2.2.2.1 hK hP 0 rfl rfl 0 (by decide) (S.2.2.2.2 _ q953) (fun _ h9 => h9) rfl dX4_doesRead_20 ?_
        refine va_alen (v := nI L) S.1 S.2.1 hK hP 2 0 rfl rfl rfl dX4_doesRead_23 ?_
        refine lv_icmp_ge (tgt := 31) hx hb dX4_doesRead_24 (by decide) (fun c_24 => ?_) (fun c_24 => ?_)
        · have hlc : ¬ ct < L := fun h => absurd c_24 (nI_ge h (by omega))
          have hR := hA.trans (rdA_4 (by omega) hc2 hrp (by omega))
          refine lv_iconst (v := 0) hx hb dX4_doesRead_31 (by decide) ?_
          refine lv_istore_n (lv' := [(1, .int 0), (0, .ref b)]) hx hb dX4_doesRead_32 rfl hl (by decide) rfl (fun ls hl => ?_)
          refine lv_iload_n hx hb dX4_doesRead_33 rfl (lv_at hl 0 rfl) ?_
          refine lv_if_eq (tgt := 2) hx hb dX4_doesRead_34 (by decide) (fun c_34 => ?_) (fun c_34 => absurd (by decide) c_34)
          refine lv_iload_n hx hb dX4_doesRead_2 rfl (lv_at hl 0 rfl) ?_
          refine lv_if_eq (tgt := 56) hx hb dX4_doesRead_3 (by decide) (fun c_3 => ?_) (fun c_3 => absurd (by decide) c_3)
          refine lv_aload_n hx hb dX4_doesRead_56 rfl (lv_at hl 1 rfl) ?_
          refine gc_V (rest := []) [] 0 S Wm_K2 hK2 hS (fun q h => h) (g4_there l D dA b yb cb L xs hL hbh hbc hhc ct (mp + 1) (upd f mp (nI (rdU xs (cc + 1) ct ||| 2 ^ mp))) (by omega)) wl_X4_45 wd_X4_X4_areThere rfl ⟨Nat.le_of_ble_eq_true rfl, Nat.le_of_ble_eq_true rfl⟩ (va_recv hK hP (ci := 7) (q0 := 0) rfl rfl) hl.1 (Nat.le_of_ble_eq_true rfl) dX4_doesRead_57 ⟨Nat.le_of_ble_eq_true rfl, Nat.le_of_ble_eq_true rfl⟩ hP (fun v9 H locs hp9 hz9 ho9 hS => ?_) rfl
          rcases hp9 with ⟨c9, rfl, hk9, hl9, hP⟩ | ⟨rfl, hk9, hP⟩
          · have hz := 0
            refine W.eq (g2 := F0 m 60 ls [.int 0]) rfl ?_
            have hD : va_D (fun q => q = b ∨ (q = yb ∨ q = cb)) [(b, .inr (7, [.ref cb, .int (nI c9), .ref yb, .int (nI (mp + 1))])), (yb, .inl (dA 0, 4, .inl (upd f mp (nI (rdU xs (cc + 1) ct ||| 2 ^ mp))))), (cb, .inl (dA 0, L, .inl xs))] := D3 (Or.inl rfl) (Or.inr (Or.inl rfl)) (Or.inr (Or.inr rfl)) hbh hbc hhc
            exact g_zret S hr hlk hS dX4_doesRead_60 ⟨Nat.le_of_ble_eq_true rfl, Nat.le_of_ble_eq_true rfl⟩ (by decide) (Or.inr ⟨c9, _, _, rfl, (spRead_n hR).trans hk9, hl9, hP⟩)
          · have hz := 0
            refine W.eq (g2 := F0 m 60 ls [.int 1]) rfl ?_
            have hD : va_D (fun q => q = b ∨ (q = yb ∨ q = cb)) [(b, .inr (7, [.ref cb, .int (nI ct), .ref yb, .int (nI (mp + 1))])), (yb, .inl (dA 0, 4, .inl (upd f mp (nI (rdU xs (cc + 1) ct ||| 2 ^ mp))))), (cb, .inl (dA 0, L, .inl xs))] := D3 (Or.inl rfl) (Or.inr (Or.inl rfl)) (Or.inr (Or.inr rfl)) hbh hbc hhc
            exact g_zret S hr hlk hS dX4_doesRead_60 ⟨Nat.le_of_ble_eq_true rfl, Nat.le_of_ble_eq_true rfl⟩ (by decide) (Or.inl ⟨rfl, (spRead_n hR).trans hk9, _, _, _, _, hR, by omega, hh2, hP⟩)
        · have hlc : ct < L := Nat.lt_of_not_le (fun h => c_24 (nI_le h (by omega)))
          refine lv_iconst (v := 1) hx hb dX4_doesRead_27 (by decide) ?_
          refine lv_goto (tgt := 32) hx hb dX4_doesRead_28 (by decide) ?_
          refine lv_istore_n (lv' := [(1, .int 1), (0, .ref b)]) hx hb dX4_doesRead_32 rfl hl (by decide) rfl (fun ls hl => ?_)
          refine lv_iload_n hx hb dX4_doesRead_33 rfl (lv_at hl 0 rfl) ?_
          refine lv_if_eq (tgt := 2) hx hb dX4_doesRead_34 (by decide) (fun c_34 => absurd c_34 (by decide)) (fun c_34 => ?_)
          refine lv_aload_n hx hb dX4_doesRead_37 rfl (lv_at hl 1 rfl) ?_
          refine va_get (v := .int (nI (mp + 1))) (D := D) (ci := 7) (C := RX4) (T := TX4) (N := 4) S.1 S.2.1 S.2.2.2.2 in_X4 S.2.2.2.1 hK hP 0 rfl rfl 3 (by decide) (S.2.2.2.2 _ q958) (fun _ h9 => h9) rfl dX4_doesRead_38 ?_
          refine lv_iconst (v := 4) hx hb dX4_doesRead_41 (by decide) ?_
          refine lv_icmp_eq (tgt := 54) hx hb dX4_doesRead_42 (by decide) (fun c_42 => ?_) (fun c_42 => ?_)
          · have c_42 : mp + 1 = 4 := nI_inj (by omega) (by decide) c_42
            have hR := hA.trans (rdA_5 (by omega) hc2 hrp hlc c_42)
            refine lv_iconst (v := 0) hx hb dX4_doesRead_54 (by decide) ?_
            exact g_zret S hr hlk hS dX4_doesRead_55 ⟨Nat.le_of_ble_eq_true rfl, Nat.le_of_ble_eq_true rfl⟩ (by decide) (Or.inr ⟨ct, _, _, rfl, spRead_s hR, hctL, hP⟩)
          · have c_42 : ¬ mp + 1 = 4 := fun h => c_42 (congrArg nI h)
            refine lv_aload_n hx hb dX4_doesRead_45 rfl (lv_at hl 1 rfl) ?_
            refine lv_bipush (v := 59) hx hb dX4_doesRead_46 (by decide) ?_
            refine gc_V (rest := []) [.int 59] 1 S Wm_K2 hK2 hS (fun q h => h) (g4_take l D dA b yb cb L xs hL hbh hbc hhc ct (mp + 1) (upd f mp (nI (rdU xs (cc + 1) ct ||| 2 ^ mp))) hctL 59) wl_X4_25 wd_X4_X4_take rfl ⟨Nat.le_of_ble_eq_true rfl, Nat.le_of_ble_eq_true rfl⟩ (va_recv hK hP (ci := 7) (q0 := 0) rfl rfl) hl.1 (Nat.le_of_ble_eq_true rfl) dX4_doesRead_48 ⟨Nat.le_of_ble_eq_true rfl, Nat.le_of_ble_eq_true rfl⟩ hP (fun v9 H locs hp9 hz9 ho9 hS => ?_) rfl
            have h59 := rdP_59' _ _ _ hrp (by omega)
            rcases hp9 with ⟨rfl, hd1, hd2, hP⟩ | ⟨rfl, hd1, hP⟩
            · have hgo := 0
              refine W.eq (g2 := F0 m 51 ls [.int 1]) rfl ?_
              have hD : va_D (fun q => q = b ∨ (q = yb ∨ q = cb)) [(b, .inr (7, [.ref cb, .int (nI (ct + 1)), .ref yb, .int (nI (mp + 1))])), (yb, .inl (dA 0, 4, .inl (upd f mp (nI (rdU xs (cc + 1) ct ||| 2 ^ mp))))), (cb, .inl (dA 0, L, .inl xs))] := D3 (Or.inl rfl) (Or.inr (Or.inl rfl)) (Or.inr (Or.inr rfl)) hbh hbc hhc
              refine lv_if_ne (tgt := 2) hx hb dX4_doesRead_51 (by decide) (fun c_51 => ?_) (fun c_51 => absurd (c_51) (by decide))
              exact ih2 (mp + 1) (ct + 1) (by omega) (by omega) (by omega) (rdH hh mp (rdU xs (cc + 1) ct)) (upd f mp (nI (rdU xs (cc + 1) ct ||| 2 ^ mp))) hh2 (hA.trans (rdA_6 (by omega) hc2 hrp hlc (by omega))) _ _ hS hP ls (lv_sub hl [0, 1] rfl)
            · exact absurd ⟨hlc, h59⟩ hd1
  exact hloop2 4 0 0 (by omega) (by omega) (by omega) (fun _ => 0) f0 (fun j hj => absurd hj (Nat.not_lt_zero j)) rfl _ _ hS hP ls (lv_sub hl [0, 1] rfl)
