/-! COMPONENT 23: the list is written (by program: gen/comp23.py) -/
set_option maxRecDepth 100000
set_option maxHeartbeats 4000000 in
theorem gj_grow2Z (l : Launch) (D : va_G) (dA : Nat → ClassId) (mi zs zf : Nat) (b e0 sz : Nat) (mc : Int32) (hbl : b < sz) (hzb : zs ≠ b ∧ zs < sz) (heb : e0 ≠ b ∧ e0 < sz) : GC l yJ2_grow_2 cJ2_grow_2 4 (some (.array (Jvm.ClassFile.FieldType.object "java/lang/Object"))) 1 24 1 15 (K4 D dA mi zs zf) [.ref b, .int 1] (fun H => va_P D vwCl [(b, .inr (2, [.int mc, .ref e0, .int (nI 0)]))] H ∧ sz ≤ H.size ∧ ZH zs zf e0 H ∧ EH dA e0 H) (fun q => q = b ∨ sz ≤ q) (fun v9 H => ∃ qn, sz ≤ qn ∧ b ≠ qn ∧ v9 = some (.ref qn) ∧ va_P D vwCl [(b, .inr (2, [.int mc, .ref qn, .int (nI 0)])), (qn, .inl (dA 5, 10, .inr (.inr (.inr (.inr (fun _ => none))))))] H) := by
  refine GC.of (by decide) (Nat.le_of_ble_eq_true rfl) ?_
  intro p e s m below meth c ls S hr hlk hnm hK2 hPre hl
  have hK := hK2.1.1
  have hx := S.1
  have hb := S.2.1
  have hl : lv_has ls 4 [(0, .ref b), (1, .int 1)] := hl
  have hS : va_S (fun q => q = b ∨ sz ≤ q) s.heap s.heap [] := va_S.rf
  obtain ⟨hP, hsz, hZH, hE⟩ := hPre
  have hZ := hZH.z (A := fun q => q = b ∨ sz ≤ q) hK2.2.2.2 (fun h9 => h9.elim hzb.1 (fun h9 => absurd hzb.2 (Nat.not_lt.2 h9)))
  have hD : va_D (fun q => q = b ∨ sz ≤ q) [(b, .inr (2, [.int mc, .ref e0, .int (nI 0)]))] := D1 (Or.inl rfl)
  refine lv_aload_n hx hb dJ2_grow_2_0 rfl (lv_at hl 0 rfl) ?_
  refine l_get (v := .ref e0) S hK hP 0 rfl 1 (by decide) fl_J2_9 rfl dJ2_grow_2_1 rfl ?_
  refine e_len S hK hE dJ2_grow_2_4 ?_
  refine lv_istore_n (lv' := [(2, .int 0), (0, .ref b), (1, .int 1)]) hx hb dJ2_grow_2_5 rfl hl (by decide) rfl (fun ls hl => ?_)
  refine lv_iload_n hx hb dJ2_grow_2_6 rfl (lv_at hl 0 rfl) ?_
  refine lv_if_gt (tgt := 20) hx hb dJ2_grow_2_7 (by decide) (fun c_7 => absurd c_7 (by decide)) (fun c_7 => ?_)
  refine lv_aload_n hx hb dJ2_grow_2_10 rfl (lv_at hl 1 rfl) ?_
  refine l_get (v := .ref e0) S hK hP 0 rfl 1 (by decide) fl_J2_9 rfl dJ2_grow_2_11 rfl ?_
  refine va_gets (ref := RJ2) S.1 S.2.1 hZ hS S.2.2.2.1 (S.2.2.2.2 _ q114) (fun _ h9 => h9) dJ2_grow_2_14 ?_
  refine lv_acmp_eq (rx := some e0) (ry := some e0) (tgt := 45) hx hb dJ2_grow_2_17 (by decide) (fun _ => ?_) (fun h9 => absurd rfl h9)
  refine lv_aload_n hx hb dJ2_grow_2_45 rfl (lv_at hl 1 rfl) ?_
  refine lv_bipush (v := 10) hx hb dJ2_grow_2_46 (by decide) ?_
  refine lv_iload_n hx hb dJ2_grow_2_48 rfl (lv_at hl 2 rfl) ?_
  refine va_mmax (rest := [.ref b]) S.1 S.2.1 (S.2.2.1.trans hl.1.symm) S.2.2.2.1 (S.2.2.2.2 _ q412) (S.2.2.2.2 _ q368) (S.2.2.2.2 _ q78) (S.2.2.2.2 _ q369) (Nat.le_of_ble_eq_true rfl) (Nat.le_of_ble_eq_true rfl) (Nat.le_of_ble_eq_true rfl) (Nat.le_of_ble_eq_true rfl) dJ2_grow_2_49 ?_
  refine W.eq (g2 := F0 m 52 ls [.int (mxI 10 1), .ref b]) rfl ?_
  refine topi (z := 10) (by decide) ?_
  refine va_newq (N' := 10) S.1 S.2.1 S.2.2.2.1 (S.2.2.2.2 _ q413) hK2.2.1 hK hP hD hS (fun q h => Or.inr (Nat.le_trans hsz h)) (by decide) (by decide) (by decide) (Nat.le_of_ble_eq_true rfl) (Nat.le_of_ble_eq_true rfl) dJ2_grow_2_52 (fun qn cA H hKn hP hD hS => ?_)
  obtain rfl := K_o hKn
  have hP : va_P D vwCl [(b, .inr (2, [.int mc, .ref e0, .int (nI 0)])), (qn, .inl (dA 5, 10, .inr (.inr (.inr (.inr (fun _ => none))))))] H := hP
  have hD : va_D (fun q => q = b ∨ sz ≤ q) [(b, .inr (2, [.int mc, .ref e0, .int (nI 0)])), (qn, .inl (dA 5, 10, .inr (.inr (.inr (.inr (fun _ => none))))))] := hD
  refine lv_dup_x1 hx hb dJ2_grow_2_55 rfl rfl ?_
  refine va_put (v := .ref qn) (D := D) (ci := 2) (C := RJ2) (T := TJ2) (N := 3) (ty := (.array (.object "java/lang/Object"))) S.1 S.2.1 S.2.2.2.2 in_J2 tyJ2 tyJ2_ok nmJ2 S.2.2.2.1 hK hP hD hS 0 rfl rfl 1 (Nat.le_of_ble_eq_true rfl) (S.2.2.2.2 _ fl_J2_9) (fun _ h9 => h9) rfl (by decide +kernel) rfl rfl (Nat.le_of_ble_eq_true rfl) dJ2_grow_2_56 (fun H locs hP hD hS => ?_)
  have hP : va_P D vwCl [(b, .inr (2, [.int mc, .ref qn, .int (nI 0)])), (qn, .inl (dA 5, 10, .inr (.inr (.inr (.inr (fun _ => none))))))] H := hP
  have hD : va_D (fun q => q = b ∨ sz ≤ q) [(b, .inr (2, [.int mc, .ref qn, .int (nI 0)])), (qn, .inl (dA 5, 10, .inr (.inr (.inr (.inr (fun _ => none))))))] := hD
  exact g_aret S hr (by first | exact Or.inl ⟨_, rfl⟩ | exact Or.inr ⟨_, rfl⟩) hlk hS dJ2_grow_2_59 ⟨Nat.le_of_ble_eq_true rfl, Nat.le_of_ble_eq_true rfl⟩ (Or.inr ⟨_, rfl⟩) (⟨qn, ((hD.2 1 _ rfl).resolve_left (fun h9 => absurd (hD.1 0 1 _ _ rfl rfl h9.symm) (by decide))), (fun h9 => absurd (hD.1 0 1 _ _ rfl rfl h9) (by decide)), rfl, hP⟩)
set_option maxHeartbeats 4000000 in
theorem gj_growZ (l : Launch) (D : va_G) (dA : Nat → ClassId) (mi zs zf : Nat) (b e0 sz : Nat) (mc : Int32) (hbl : b < sz) (hzb : zs ≠ b ∧ zs < sz) (heb : e0 ≠ b ∧ e0 < sz) : GC l yJ2_grow cJ2_grow 1 (some (.array (Jvm.ClassFile.FieldType.object "java/lang/Object"))) 2 47 1 15 (K4 D dA mi zs zf) [.ref b] (fun H => va_P D vwCl [(b, .inr (2, [.int mc, .ref e0, .int (nI 0)]))] H ∧ sz ≤ H.size ∧ ZH zs zf e0 H ∧ EH dA e0 H) (fun q => q = b ∨ sz ≤ q) (fun v9 H => ∃ qn, sz ≤ qn ∧ b ≠ qn ∧ v9 = some (.ref qn) ∧ va_P D vwCl [(b, .inr (2, [.int mc, .ref qn, .int (nI 0)])), (qn, .inl (dA 5, 10, .inr (.inr (.inr (.inr (fun _ => none))))))] H) := by
  refine GC.of (by decide) (Nat.le_of_ble_eq_true rfl) ?_
  intro p e s m below meth c ls S hr hlk hnm hK2 hPre hl
  have hK := hK2.1.1
  have hx := S.1
  have hb := S.2.1
  have hl : lv_has ls 1 [(0, .ref b)] := hl
  have hS : va_S (fun q => q = b ∨ sz ≤ q) s.heap s.heap [] := va_S.rf
  obtain ⟨hP, hsz, hZH, hE⟩ := hPre
  have hZ := hZH.z (A := fun q => q = b ∨ sz ≤ q) hK2.2.2.2 (fun h9 => h9.elim hzb.1 (fun h9 => absurd hzb.2 (Nat.not_lt.2 h9)))
  have hD : va_D (fun q => q = b ∨ sz ≤ q) [(b, .inr (2, [.int mc, .ref e0, .int (nI 0)]))] := D1 (Or.inl rfl)
  refine lv_aload_n hx hb dJ2_grow_0 rfl (lv_at hl 0 rfl) ?_
  refine lv_aload_n hx hb dJ2_grow_1 rfl (lv_at hl 0 rfl) ?_
  refine l_get (v := .int (nI 0)) S hK hP 0 rfl 2 (by decide) fl_J2_48 rfl dJ2_grow_2 rfl ?_
  refine lv_iconst (v := 1) hx hb dJ2_grow_5 (by decide) ?_
  refine lv_iadd hx hb dJ2_grow_6 ?_
  refine topi (z := 1) (by decide) ?_
  refine gc_V (rest := []) [.int 1] 1 S Wm_K4 hK2 hS (fun q h => h) (gj_grow2Z l D dA mi zs zf b e0 sz mc hbl hzb heb) wl_J2_69 wd_J2_J2_grow_2 rfl ⟨Nat.le_of_ble_eq_true rfl, Nat.le_of_ble_eq_true rfl⟩ (va_recv hK hP (ci := 2) (q0 := 0) rfl rfl) hl.1 (Nat.le_of_ble_eq_true rfl) dJ2_grow_7 ⟨Nat.le_of_ble_eq_true rfl, Nat.le_of_ble_eq_true rfl⟩ (⟨hP, hsz, hZH, hE⟩) (fun v9 H locs hp9 hz9 ho9 hS => ?_) rfl
  obtain ⟨qn, hqn, hbq, rfl, hP⟩ := hp9
  refine W.eq (g2 := F0 m 10 ls [.ref qn]) rfl ?_
  exact g_aret S hr (by first | exact Or.inl ⟨_, rfl⟩ | exact Or.inr ⟨_, rfl⟩) hlk hS dJ2_grow_10 ⟨Nat.le_of_ble_eq_true rfl, Nat.le_of_ble_eq_true rfl⟩ (Or.inr ⟨_, rfl⟩) (⟨qn, hqn, hbq, rfl, hP⟩)
set_option maxHeartbeats 4000000 in
theorem gj_add2Z (l : Launch) (D : va_G) (dA : Nat → ClassId) (mi zs zf : Nat) (b e0 sz : Nat) (mc : Int32) (hbl : b < sz) (hzb : zs ≠ b ∧ zs < sz) (heb : e0 ≠ b ∧ e0 < sz) (g : Nat) (hg : g < sz) (hgb : g ≠ b) : GC l yJ2_add_2 cJ2_add_2 4 none 5 147 1 15 (K4 D dA mi zs zf) [.ref b, .ref g, .ref e0, .int (nI 0)] (fun H => va_P D vwCl [(b, .inr (2, [.int mc, .ref e0, .int (nI 0)]))] H ∧ sz ≤ H.size ∧ ZH zs zf e0 H ∧ EH dA e0 H ∧ anyR D g H) (fun q => q = b ∨ sz ≤ q) (fun v9 H => ∃ qn, sz ≤ qn ∧ b ≠ qn ∧ v9 = none ∧ va_P D vwCl [(b, .inr (2, [.int mc, .ref qn, .int (nI 1)])), (qn, .inl (dA 5, 10, .inr (.inr (.inr (.inr (va_up (fun _ => none) 0 (some g)))))))] H) := by
  refine GC.of (by decide) (Nat.le_of_ble_eq_true rfl) ?_
  intro p e s m below meth c ls S hr hlk hnm hK2 hPre hl
  have hK := hK2.1.1
  have hx := S.1
  have hb := S.2.1
  have hl : lv_has ls 4 [(0, .ref b), (1, .ref g), (2, .ref e0), (3, .int (nI 0))] := hl
  have hS : va_S (fun q => q = b ∨ sz ≤ q) s.heap s.heap [] := va_S.rf
  obtain ⟨hP, hsz, hZH, hE, hAny⟩ := hPre
  have hD : va_D (fun q => q = b ∨ sz ≤ q) [(b, .inr (2, [.int mc, .ref e0, .int (nI 0)]))] := D1 (Or.inl rfl)
  refine lv_iload_n hx hb dJ2_add_2_0 rfl (lv_at hl 3 rfl) ?_
  refine lv_aload_n hx hb dJ2_add_2_1 rfl (lv_at hl 2 rfl) ?_
  refine e_len S hK hE dJ2_add_2_2 ?_
  refine lv_icmp_ne (tgt := 11) hx hb dJ2_add_2_3 (by decide) (fun c_3 => absurd ((by decide : nI 0 = 0)) c_3) (fun c_3 => ?_)
  refine lv_aload_n hx hb dJ2_add_2_6 rfl (lv_at hl 0 rfl) ?_
  refine gc_V (rest := []) [] 0 S Wm_K4 hK2 hS (fun q h => h) (gj_growZ l D dA mi zs zf b e0 sz mc hbl hzb heb) wl_J2_129 wd_J2_J2_grow rfl ⟨Nat.le_of_ble_eq_true rfl, Nat.le_of_ble_eq_true rfl⟩ (va_recv hK hP (ci := 2) (q0 := 0) rfl rfl) hl.1 (Nat.le_of_ble_eq_true rfl) dJ2_add_2_7 ⟨Nat.le_of_ble_eq_true rfl, Nat.le_of_ble_eq_true rfl⟩ (⟨hP, hsz, hZH, hE⟩) (fun v9 H locs hp9 hz9 ho9 hS => ?_) rfl
  obtain ⟨qn, hqn, hbq, rfl, hP⟩ := hp9
  refine W.eq (g2 := F0 m 10 ls [.ref qn]) rfl ?_
  have hD : va_D (fun q => q = b ∨ sz ≤ q) [(b, .inr (2, [.int mc, .ref qn, .int (nI 0)])), (qn, .inl (dA 5, 10, .inr (.inr (.inr (.inr (fun _ => none))))))] := D2 (Or.inl rfl) (Or.inr hqn) hbq
  refine lv_astore_n (lv' := [(2, .ref qn), (0, .ref b), (1, .ref g), (3, .int (nI 0))]) hx hb dJ2_add_2_10 rfl hl (by decide) rfl (fun ls hl => ?_)
  refine lv_aload_n hx hb dJ2_add_2_11 rfl (lv_at hl 0 rfl) ?_
  refine lv_iload_n hx hb dJ2_add_2_12 rfl (lv_at hl 3 rfl) ?_
  refine lv_aload_n hx hb dJ2_add_2_13 rfl (lv_at hl 2 rfl) ?_
  refine va_astqM (i := nI 0) (E := "java/lang/Object") S.1 S.2.1 hK hP hD hS 1 5 rfl rfl ((hAny.keep hS (by intro h9; rcases h9 with h9 | h9; exact hgb h9; omega)).any hK2.1) (vp_in_nI (n := 0) (by decide) (by decide)) dJ2_add_2_14 (fun H locs hP hD hS => ?_)
  rw [show (nI 0 : Int32).toNatClampNeg = 0 from c0] at hP hD
  have hP : va_P D vwCl [(b, .inr (2, [.int mc, .ref qn, .int (nI 0)])), (qn, .inl (dA 5, 10, .inr (.inr (.inr (.inr (va_up (fun _ => none) 0 (some g)))))))] H := hP
  have hD : va_D (fun q => q = b ∨ sz ≤ q) [(b, .inr (2, [.int mc, .ref qn, .int (nI 0)])), (qn, .inl (dA 5, 10, .inr (.inr (.inr (.inr (va_up (fun _ => none) 0 (some g)))))))] := hD
  refine lv_aload_n hx hb dJ2_add_2_15 rfl (lv_at hl 1 rfl) ?_
  refine lv_iload_n hx hb dJ2_add_2_16 rfl (lv_at hl 3 rfl) ?_
  refine lv_iconst (v := 1) hx hb dJ2_add_2_17 (by decide) ?_
  refine lv_iadd hx hb dJ2_add_2_18 ?_
  refine topi (z := nI 1) (by decide) ?_
  refine va_put (v := .int (nI 1)) (D := D) (ci := 2) (C := RJ2) (T := TJ2) (N := 3) (ty := .int) S.1 S.2.1 S.2.2.2.2 in_J2 tyJ2 tyJ2_ok nmJ2 S.2.2.2.1 hK hP hD hS 0 rfl rfl 2 (Nat.le_of_ble_eq_true rfl) (S.2.2.2.2 _ fl_J2_48) (fun _ h9 => h9) rfl (by decide +kernel) rfl rfl (Nat.le_of_ble_eq_true rfl) dJ2_add_2_19 (fun H locs hP hD hS => ?_)
  have hP : va_P D vwCl [(b, .inr (2, [.int mc, .ref qn, .int (nI 1)])), (qn, .inl (dA 5, 10, .inr (.inr (.inr (.inr (va_up (fun _ => none) 0 (some g)))))))] H := hP
  have hD : va_D (fun q => q = b ∨ sz ≤ q) [(b, .inr (2, [.int mc, .ref qn, .int (nI 1)])), (qn, .inl (dA 5, 10, .inr (.inr (.inr (.inr (va_up (fun _ => none) 0 (some g)))))))] := hD
  exact g_vret S hr hlk hS dJ2_add_2_22 ⟨Nat.le_of_ble_eq_true rfl, Nat.le_of_ble_eq_true rfl⟩ (⟨qn, hqn, hbq, rfl, hP⟩)
set_option maxHeartbeats 4000000 in
theorem gj_add2S (l : Launch) (D : va_G) (dA : Nat → ClassId) (mi zs zf : Nat) (b ed cap nc : Nat) (mc : Int32) (f : Nat → Option Nat) (hbe : b ≠ ed) (hnc : nc < cap) (hcap : cap ≤ 15) (g : Nat) (hgb : g ≠ b ∧ g ≠ ed) : GC l yJ2_add_2 cJ2_add_2 4 none 5 147 1 15 (K4 D dA mi zs zf) [.ref b, .ref g, .ref ed, .int (nI nc)] (fun H => va_P D vwCl [(b, .inr (2, [.int mc, .ref ed, .int (nI nc)])), (ed, .inl (dA 5, cap, .inr (.inr (.inr (.inr f)))))] H ∧ anyR D g H) (fun q => q = b ∨ q = ed) (fun v9 H => v9 = none ∧ va_P D vwCl [(b, .inr (2, [.int mc, .ref ed, .int (nI (nc + 1))])), (ed, .inl (dA 5, cap, .inr (.inr (.inr (.inr (va_up f nc (some g)))))))] H) := by
  refine GC.of (by decide) (Nat.le_of_ble_eq_true rfl) ?_
  intro p e s m below meth c ls S hr hlk hnm hK2 hPre hl
  have hK := hK2.1.1
  have hx := S.1
  have hb := S.2.1
  have hl : lv_has ls 4 [(0, .ref b), (1, .ref g), (2, .ref ed), (3, .int (nI nc))] := hl
  have hS : va_S (fun q => q = b ∨ q = ed) s.heap s.heap [] := va_S.rf
  obtain ⟨hP, hAny⟩ := hPre
  have hD : va_D (fun q => q = b ∨ q = ed) [(b, .inr (2, [.int mc, .ref ed, .int (nI nc)])), (ed, .inl (dA 5, cap, .inr (.inr (.inr (.inr f)))))] := D2 (Or.inl rfl) (Or.inr rfl) hbe
  have hc31 : cap < 2 ^ 31 := by omega
  refine lv_iload_n hx hb dJ2_add_2_0 rfl (lv_at hl 3 rfl) ?_
  refine lv_aload_n hx hb dJ2_add_2_1 rfl (lv_at hl 2 rfl) ?_
  refine va_alen (v := nI cap) S.1 S.2.1 hK hP 1 5 rfl rfl rfl dJ2_add_2_2 ?_
  refine lv_icmp_ne (tgt := 11) hx hb dJ2_add_2_3 (by decide) (fun c_3 => ?_) (fun c_3 => absurd (c_3) (fun h9 => by have := nI_inj (by omega) (by omega) h9; omega))
  refine lv_aload_n hx hb dJ2_add_2_11 rfl (lv_at hl 2 rfl) ?_
  refine lv_iload_n hx hb dJ2_add_2_12 rfl (lv_at hl 3 rfl) ?_
  refine lv_aload_n hx hb dJ2_add_2_13 rfl (lv_at hl 1 rfl) ?_
  refine va_astqM (i := nI nc) (E := "java/lang/Object") S.1 S.2.1 hK hP hD hS 1 5 rfl rfl ((hAny.keep hS (by intro h9; rcases h9 with h9 | h9; exact hgb.1 h9; exact hgb.2 h9)).any hK2.1) (vp_in_nI (N := cap) hnc (by omega)) dJ2_add_2_14 (fun H locs hP hD hS => ?_)
  rw [show (nI nc : Int32).toNatClampNeg = nc from nI_clamp (by omega)] at hP hD
  have hP : va_P D vwCl [(b, .inr (2, [.int mc, .ref ed, .int (nI nc)])), (ed, .inl (dA 5, cap, .inr (.inr (.inr (.inr (va_up f nc (some g)))))))] H := hP
  have hD : va_D (fun q => q = b ∨ q = ed) [(b, .inr (2, [.int mc, .ref ed, .int (nI nc)])), (ed, .inl (dA 5, cap, .inr (.inr (.inr (.inr (va_up f nc (some g)))))))] := hD
  refine lv_aload_n hx hb dJ2_add_2_15 rfl (lv_at hl 0 rfl) ?_
  refine lv_iload_n hx hb dJ2_add_2_16 rfl (lv_at hl 3 rfl) ?_
  refine lv_iconst (v := 1) hx hb dJ2_add_2_17 (by decide) ?_
  refine lv_iadd hx hb dJ2_add_2_18 ?_
  refine topi (z := nI (nc + 1)) (nI_1 nc) ?_
  refine va_put (v := .int (nI (nc + 1))) (D := D) (ci := 2) (C := RJ2) (T := TJ2) (N := 3) (ty := .int) S.1 S.2.1 S.2.2.2.2 in_J2 tyJ2 tyJ2_ok nmJ2 S.2.2.2.1 hK hP hD hS 0 rfl rfl 2 (Nat.le_of_ble_eq_true rfl) (S.2.2.2.2 _ fl_J2_48) (fun _ h9 => h9) rfl (by decide +kernel) rfl rfl (Nat.le_of_ble_eq_true rfl) dJ2_add_2_19 (fun H locs hP hD hS => ?_)
  have hP : va_P D vwCl [(b, .inr (2, [.int mc, .ref ed, .int (nI (nc + 1))])), (ed, .inl (dA 5, cap, .inr (.inr (.inr (.inr (va_up f nc (some g)))))))] H := hP
  have hD : va_D (fun q => q = b ∨ q = ed) [(b, .inr (2, [.int mc, .ref ed, .int (nI (nc + 1))])), (ed, .inl (dA 5, cap, .inr (.inr (.inr (.inr (va_up f nc (some g)))))))] := hD
  exact g_vret S hr hlk hS dJ2_add_2_22 ⟨Nat.le_of_ble_eq_true rfl, Nat.le_of_ble_eq_true rfl⟩ (⟨rfl, hP⟩)
set_option maxHeartbeats 4000000 in
theorem gj_addZ (l : Launch) (D : va_G) (dA : Nat → ClassId) (mi zs zf : Nat) (b e0 sz : Nat) (mc : Int32) (hbl : b < sz) (hzb : zs ≠ b ∧ zs < sz) (heb : e0 ≠ b ∧ e0 < sz) (g : Nat) (hg : g < sz) (hgb : g ≠ b) : GC l yJ2_add cJ2_add 2 (some .boolean) 6 170 1 15 (K4 D dA mi zs zf) [.ref b, .ref g] (fun H => va_P D vwCl [(b, .inr (2, [.int mc, .ref e0, .int (nI 0)]))] H ∧ sz ≤ H.size ∧ ZH zs zf e0 H ∧ EH dA e0 H ∧ anyR D g H) (fun q => q = b ∨ sz ≤ q) (fun v9 H => ∃ qn, sz ≤ qn ∧ b ≠ qn ∧ v9 = some (.int 1) ∧ va_P D vwCl [(b, .inr (2, [.int (mc + 1), .ref qn, .int (nI 1)])), (qn, .inl (dA 5, 10, .inr (.inr (.inr (.inr (va_up (fun _ => none) 0 (some g)))))))] H) := by
  refine GC.of (by decide) (Nat.le_of_ble_eq_true rfl) ?_
  intro p e s m below meth c ls S hr hlk hnm hK2 hPre hl
  have hK := hK2.1.1
  have hx := S.1
  have hb := S.2.1
  have hl : lv_has ls 2 [(0, .ref b), (1, .ref g)] := hl
  have hS : va_S (fun q => q = b ∨ sz ≤ q) s.heap s.heap [] := va_S.rf
  obtain ⟨hP, hsz, hZH, hE, hAny⟩ := hPre
  have hD : va_D (fun q => q = b ∨ sz ≤ q) [(b, .inr (2, [.int mc, .ref e0, .int (nI 0)]))] := D1 (Or.inl rfl)
  refine lv_aload_n hx hb dJ2_add_0 rfl (lv_at hl 0 rfl) ?_
  refine lv_dup hx hb dJ2_add_1 rfl ?_
  refine va_get (v := .int mc) (D := D) (ci := 2) (C := RJ2) (T := TJ2) (N := 3) S.1 S.2.1 S.2.2.2.2 in_J2 S.2.2.2.1 hK hP 0 rfl rfl 0 (by decide) (S.2.2.2.2 _ q119) (fun x9 h9 => u_same (S.2.2.2.2 _ q120) x9 h9) rfl dJ2_add_2 ?_
  refine lv_iconst (v := 1) hx hb dJ2_add_5 (by decide) ?_
  refine lv_iadd hx hb dJ2_add_6 ?_
  refine va_put (v := .int (mc + 1)) (D := D) (ci := 2) (C := RJ2) (T := TJ2) (N := 3) (ty := .int) S.1 S.2.1 S.2.2.2.2 in_J2 tyJ2 tyJ2_ok nmJ2 S.2.2.2.1 hK hP hD hS 0 rfl rfl 0 (Nat.le_of_ble_eq_true rfl) (S.2.2.2.2 _ q119) (fun x9 h9 => u_same (S.2.2.2.2 _ q120) x9 h9) rfl (by decide +kernel) rfl rfl (Nat.le_of_ble_eq_true rfl) dJ2_add_7 (fun H locs hP hD hS => ?_)
  have hP : va_P D vwCl [(b, .inr (2, [.int (mc + 1), .ref e0, .int (nI 0)]))] H := hP
  have hD : va_D (fun q => q = b ∨ sz ≤ q) [(b, .inr (2, [.int (mc + 1), .ref e0, .int (nI 0)]))] := hD
  refine lv_aload_n hx hb dJ2_add_10 rfl (lv_at hl 0 rfl) ?_
  refine lv_aload_n hx hb dJ2_add_11 rfl (lv_at hl 1 rfl) ?_
  refine lv_aload_n hx hb dJ2_add_12 rfl (lv_at hl 0 rfl) ?_
  refine l_get (v := .ref e0) S hK hP 0 rfl 1 (by decide) fl_J2_9 rfl dJ2_add_13 rfl ?_
  refine lv_aload_n hx hb dJ2_add_16 rfl (lv_at hl 0 rfl) ?_
  refine l_get (v := .int (nI 0)) S hK hP 0 rfl 2 (by decide) fl_J2_48 rfl dJ2_add_17 rfl ?_
  refine gc_V (rest := []) [.ref g, .ref e0, .int (nI 0)] 3 S Wm_K4 hK2 hS (fun q h => h) (gj_add2Z l D dA mi zs zf b e0 sz (mc + 1) hbl hzb heb g hg hgb) wl_J2_131 wd_J2_J2_add_2 rfl ⟨Nat.le_of_ble_eq_true rfl, Nat.le_of_ble_eq_true rfl⟩ (va_recv hK hP (ci := 2) (q0 := 0) rfl rfl) hl.1 (Nat.le_of_ble_eq_true rfl) dJ2_add_20 ⟨Nat.le_of_ble_eq_true rfl, Nat.le_of_ble_eq_true rfl⟩ (⟨hP, Nat.le_trans hsz hS.1, hZH.fr hS.2.1 (fun h9 => h9.elim hzb.1 (fun h9 => absurd hzb.2 (Nat.not_lt.2 h9))), hE.fr hS.2.1 (fun h9 => h9.elim heb.1 (fun h9 => absurd heb.2 (Nat.not_lt.2 h9))), hAny.keep hS (by intro h9; rcases h9 with h9 | h9; exact hgb h9; omega)⟩) (fun v9 H locs hp9 hz9 ho9 hS => ?_) rfl
  obtain ⟨qn, hqn, hbq, rfl, hP⟩ := hp9
  refine W.eq (g2 := F0 m 23 ls []) rfl ?_
  refine lv_iconst (v := 1) hx hb dJ2_add_23 (by decide) ?_
  exact g_zret S hr hlk hS dJ2_add_24 ⟨Nat.le_of_ble_eq_true rfl, Nat.le_of_ble_eq_true rfl⟩ (by decide) (⟨qn, hqn, hbq, rfl, hP⟩)
set_option maxHeartbeats 4000000 in
theorem gj_addS (l : Launch) (D : va_G) (dA : Nat → ClassId) (mi zs zf : Nat) (b ed cap nc : Nat) (mc : Int32) (f : Nat → Option Nat) (hbe : b ≠ ed) (hnc : nc < cap) (hcap : cap ≤ 15) (g : Nat) (hgb : g ≠ b ∧ g ≠ ed) : GC l yJ2_add cJ2_add 2 (some .boolean) 6 170 1 15 (K4 D dA mi zs zf) [.ref b, .ref g] (fun H => va_P D vwCl [(b, .inr (2, [.int mc, .ref ed, .int (nI nc)])), (ed, .inl (dA 5, cap, .inr (.inr (.inr (.inr f)))))] H ∧ anyR D g H) (fun q => q = b ∨ q = ed) (fun v9 H => v9 = some (.int 1) ∧ va_P D vwCl [(b, .inr (2, [.int (mc + 1), .ref ed, .int (nI (nc + 1))])), (ed, .inl (dA 5, cap, .inr (.inr (.inr (.inr (va_up f nc (some g)))))))] H) := by
  refine GC.of (by decide) (Nat.le_of_ble_eq_true rfl) ?_
  intro p e s m below meth c ls S hr hlk hnm hK2 hPre hl
  have hK := hK2.1.1
  have hx := S.1
  have hb := S.2.1
  have hl : lv_has ls 2 [(0, .ref b), (1, .ref g)] := hl
  have hS : va_S (fun q => q = b ∨ q = ed) s.heap s.heap [] := va_S.rf
  obtain ⟨hP, hAny⟩ := hPre
  have hD : va_D (fun q => q = b ∨ q = ed) [(b, .inr (2, [.int mc, .ref ed, .int (nI nc)])), (ed, .inl (dA 5, cap, .inr (.inr (.inr (.inr f)))))] := D2 (Or.inl rfl) (Or.inr rfl) hbe
  refine lv_aload_n hx hb dJ2_add_0 rfl (lv_at hl 0 rfl) ?_
  refine lv_dup hx hb dJ2_add_1 rfl ?_
  refine va_get (v := .int mc) (D := D) (ci := 2) (C := RJ2) (T := TJ2) (N := 3) S.1 S.2.1 S.2.2.2.2 in_J2 S.2.2.2.1 hK hP 0 rfl rfl 0 (by decide) (S.2.2.2.2 _ q119) (fun x9 h9 => u_same (S.2.2.2.2 _ q120) x9 h9) rfl dJ2_add_2 ?_
  refine lv_iconst (v := 1) hx hb dJ2_add_5 (by decide) ?_
  refine lv_iadd hx hb dJ2_add_6 ?_
  refine va_put (v := .int (mc + 1)) (D := D) (ci := 2) (C := RJ2) (T := TJ2) (N := 3) (ty := .int) S.1 S.2.1 S.2.2.2.2 in_J2 tyJ2 tyJ2_ok nmJ2 S.2.2.2.1 hK hP hD hS 0 rfl rfl 0 (Nat.le_of_ble_eq_true rfl) (S.2.2.2.2 _ q119) (fun x9 h9 => u_same (S.2.2.2.2 _ q120) x9 h9) rfl (by decide +kernel) rfl rfl (Nat.le_of_ble_eq_true rfl) dJ2_add_7 (fun H locs hP hD hS => ?_)
  have hP : va_P D vwCl [(b, .inr (2, [.int (mc + 1), .ref ed, .int (nI nc)])), (ed, .inl (dA 5, cap, .inr (.inr (.inr (.inr f)))))] H := hP
  have hD : va_D (fun q => q = b ∨ q = ed) [(b, .inr (2, [.int (mc + 1), .ref ed, .int (nI nc)])), (ed, .inl (dA 5, cap, .inr (.inr (.inr (.inr f)))))] := hD
  refine lv_aload_n hx hb dJ2_add_10 rfl (lv_at hl 0 rfl) ?_
  refine lv_aload_n hx hb dJ2_add_11 rfl (lv_at hl 1 rfl) ?_
  refine lv_aload_n hx hb dJ2_add_12 rfl (lv_at hl 0 rfl) ?_
  refine l_get (v := .ref ed) S hK hP 0 rfl 1 (by decide) fl_J2_9 rfl dJ2_add_13 rfl ?_
  refine lv_aload_n hx hb dJ2_add_16 rfl (lv_at hl 0 rfl) ?_
  refine l_get (v := .int (nI nc)) S hK hP 0 rfl 2 (by decide) fl_J2_48 rfl dJ2_add_17 rfl ?_
  refine gc_V (rest := []) [.ref g, .ref ed, .int (nI nc)] 3 S Wm_K4 hK2 hS (fun q h => h) (gj_add2S l D dA mi zs zf b ed cap nc (mc + 1) f hbe hnc hcap g hgb) wl_J2_131 wd_J2_J2_add_2 rfl ⟨Nat.le_of_ble_eq_true rfl, Nat.le_of_ble_eq_true rfl⟩ (va_recv hK hP (ci := 2) (q0 := 0) rfl rfl) hl.1 (Nat.le_of_ble_eq_true rfl) dJ2_add_20 ⟨Nat.le_of_ble_eq_true rfl, Nat.le_of_ble_eq_true rfl⟩ (⟨hP, hAny.keep hS (by intro h9; rcases h9 with h9 | h9; exact hgb.1 h9; exact hgb.2 h9)⟩) (fun v9 H locs hp9 hz9 ho9 hS => ?_) rfl
  obtain ⟨rfl, hP⟩ := hp9
  refine W.eq (g2 := F0 m 23 ls []) rfl ?_
  refine lv_iconst (v := 1) hx hb dJ2_add_23 (by decide) ?_
  exact g_zret S hr hlk hS dJ2_add_24 ⟨Nat.le_of_ble_eq_true rfl, Nat.le_of_ble_eq_true rfl⟩ (by decide) (⟨rfl, hP⟩)
set_option maxHeartbeats 4000000 in
theorem gj_fastRem (l : Launch) (D : va_G) (dA : Nat → ClassId) (mi zs zf : Nat) (b ed cap nc : Nat) (mc : Int32) (f : Nat → Option Nat) (g : Nat) (hbe : b ≠ ed) (hnc : nc < cap) (hcap : cap ≤ 15) (hg : f nc = some g) : GC l yJ2_fastRemove cJ2_fastRemove 4 none 0 0 0 0 (K4 D dA mi zs zf) [.ref b, .ref ed, .int (nI nc)] (fun H => va_P D vwCl [(b, .inr (2, [.int mc, .ref ed, .int (nI (nc + 1))])), (ed, .inl (dA 5, cap, .inr (.inr (.inr (.inr f)))))] H) (fun q => q = b ∨ q = ed) (fun v9 H => v9 = none ∧ va_P D vwCl [(b, .inr (2, [.int (mc + 1), .ref ed, .int (nI nc)])), (ed, .inl (dA 5, cap, .inr (.inr (.inr (.inr (va_up f nc none))))))] H) := by
  refine GC.of (by decide) (Nat.le_of_ble_eq_true rfl) ?_
  intro p e s m below meth c ls S hr hlk hnm hK2 hPre hl
  have hK := hK2.1.1
  have hx := S.1
  have hb := S.2.1
  have hl : lv_has ls 4 [(0, .ref b), (1, .ref ed), (2, .int (nI nc))] := hl
  have hS : va_S (fun q => q = b ∨ q = ed) s.heap s.heap [] := va_S.rf
  have hP := hPre
  have hD : va_D (fun q => q = b ∨ q = ed) [(b, .inr (2, [.int mc, .ref ed, .int (nI (nc + 1))])), (ed, .inl (dA 5, cap, .inr (.inr (.inr (.inr f)))))] := D2 (Or.inl rfl) (Or.inr rfl) hbe
  refine lv_aload_n hx hb dJ2_fastRemove_0 rfl (lv_at hl 0 rfl) ?_
  refine lv_dup hx hb dJ2_fastRemove_1 rfl ?_
  refine va_get (v := .int mc) (D := D) (ci := 2) (C := RJ2) (T := TJ2) (N := 3) S.1 S.2.1 S.2.2.2.2 in_J2 S.2.2.2.1 hK hP 0 rfl rfl 0 (by decide) (S.2.2.2.2 _ q119) (fun x9 h9 => u_same (S.2.2.2.2 _ q120) x9 h9) rfl dJ2_fastRemove_2 ?_
  refine lv_iconst (v := 1) hx hb dJ2_fastRemove_5 (by decide) ?_
  refine lv_iadd hx hb dJ2_fastRemove_6 ?_
  refine va_put (v := .int (mc + 1)) (D := D) (ci := 2) (C := RJ2) (T := TJ2) (N := 3) (ty := .int) S.1 S.2.1 S.2.2.2.2 in_J2 tyJ2 tyJ2_ok nmJ2 S.2.2.2.1 hK hP hD hS 0 rfl rfl 0 (Nat.le_of_ble_eq_true rfl) (S.2.2.2.2 _ q119) (fun x9 h9 => u_same (S.2.2.2.2 _ q120) x9 h9) rfl (by decide +kernel) rfl rfl (Nat.le_of_ble_eq_true rfl) dJ2_fastRemove_7 (fun H locs hP hD hS => ?_)
  have hP : va_P D vwCl [(b, .inr (2, [.int (mc + 1), .ref ed, .int (nI (nc + 1))])), (ed, .inl (dA 5, cap, .inr (.inr (.inr (.inr f)))))] H := hP
  have hD : va_D (fun q => q = b ∨ q = ed) [(b, .inr (2, [.int (mc + 1), .ref ed, .int (nI (nc + 1))])), (ed, .inl (dA 5, cap, .inr (.inr (.inr (.inr f)))))] := hD
  refine lv_aload_n hx hb dJ2_fastRemove_10 rfl (lv_at hl 0 rfl) ?_
  refine l_get (v := .int (nI (nc + 1))) S hK hP 0 rfl 2 (by decide) fl_J2_48 rfl dJ2_fastRemove_11 rfl ?_
  refine lv_iconst (v := 1) hx hb dJ2_fastRemove_14 (by decide) ?_
  refine lv_isub hx hb dJ2_fastRemove_15 ?_
  refine topi (z := nI nc) (nI_pred nc) ?_
  refine lv_dup hx hb dJ2_fastRemove_16 rfl ?_
  refine lv_istore_n (lv' := [(3, .int (nI nc)), (0, .ref b), (1, .ref ed), (2, .int (nI nc))]) hx hb dJ2_fastRemove_17 rfl hl (by decide) rfl (fun ls hl => ?_)
  refine lv_iload_n hx hb dJ2_fastRemove_18 rfl (lv_at hl 3 rfl) ?_
  refine lv_icmp_le (tgt := 34) hx hb dJ2_fastRemove_19 (by decide) (fun c_19 => ?_) (fun c_19 => absurd (show nI nc ≤ nI nc from Int32.le_refl _) c_19)
  refine lv_aload_n hx hb dJ2_fastRemove_34 rfl (lv_at hl 2 rfl) ?_
  refine lv_aload_n hx hb dJ2_fastRemove_35 rfl (lv_at hl 1 rfl) ?_
  refine lv_iload_n hx hb dJ2_fastRemove_36 rfl (lv_at hl 0 rfl) ?_
  refine lv_dup_x1 hx hb dJ2_fastRemove_37 rfl rfl ?_
  refine va_put (v := .int (nI nc)) (D := D) (ci := 2) (C := RJ2) (T := TJ2) (N := 3) (ty := .int) S.1 S.2.1 S.2.2.2.2 in_J2 tyJ2 tyJ2_ok nmJ2 S.2.2.2.1 hK hP hD hS 0 rfl rfl 2 (Nat.le_of_ble_eq_true rfl) (S.2.2.2.2 _ fl_J2_48) (fun _ h9 => h9) rfl (by decide +kernel) rfl rfl (Nat.le_of_ble_eq_true rfl) dJ2_fastRemove_38 (fun H locs hP hD hS => ?_)
  have hP : va_P D vwCl [(b, .inr (2, [.int (mc + 1), .ref ed, .int (nI nc)])), (ed, .inl (dA 5, cap, .inr (.inr (.inr (.inr f)))))] H := hP
  have hD : va_D (fun q => q = b ∨ q = ed) [(b, .inr (2, [.int (mc + 1), .ref ed, .int (nI nc)])), (ed, .inl (dA 5, cap, .inr (.inr (.inr (.inr f)))))] := hD
  refine lv_null hx hb dJ2_fastRemove_41 ?_
  refine va_astqN (i := nI nc) S.1 S.2.1 hK hP hD hS 1 5 rfl rfl (vp_in_nI (N := cap) hnc (by omega)) dJ2_fastRemove_42 (fun H locs hP hD hS => ?_)
  rw [show (nI nc : Int32).toNatClampNeg = nc from nI_clamp (by omega)] at hP hD
  have hP : va_P D vwCl [(b, .inr (2, [.int (mc + 1), .ref ed, .int (nI nc)])), (ed, .inl (dA 5, cap, .inr (.inr (.inr (.inr (va_up f nc (none)))))))] H := hP
  have hD : va_D (fun q => q = b ∨ q = ed) [(b, .inr (2, [.int (mc + 1), .ref ed, .int (nI nc)])), (ed, .inl (dA 5, cap, .inr (.inr (.inr (.inr (va_up f nc (none)))))))] := hD
  exact g_vret S hr hlk hS dJ2_fastRemove_43 ⟨Nat.le_of_ble_eq_true rfl, Nat.le_of_ble_eq_true rfl⟩ (⟨rfl, hP⟩)
set_option maxHeartbeats 4000000 in
theorem gj_remove (l : Launch) (D : va_G) (dA : Nat → ClassId) (mi zs zf : Nat) (b ed cap nc : Nat) (mc : Int32) (f : Nat → Option Nat) (g : Nat) (hbe : b ≠ ed) (hnc : nc < cap) (hcap : cap ≤ 15) (hg : f nc = some g) : GC l yJ2_remove cJ2_remove 4 (some (.object "java/lang/Object")) 2 43 0 0 (K4 D dA mi zs zf) [.ref b, .int (nI nc)] (fun H => va_P D vwCl [(b, .inr (2, [.int mc, .ref ed, .int (nI (nc + 1))])), (ed, .inl (dA 5, cap, .inr (.inr (.inr (.inr f)))))] H) (fun q => q = b ∨ q = ed) (fun v9 H => v9 = some (.ref g) ∧ va_P D vwCl [(b, .inr (2, [.int (mc + 1), .ref ed, .int (nI nc)])), (ed, .inl (dA 5, cap, .inr (.inr (.inr (.inr (va_up f nc none))))))] H) := by
  refine GC.of (by decide) (Nat.le_of_ble_eq_true rfl) ?_
  intro p e s m below meth c ls S hr hlk hnm hK2 hPre hl
  have hK := hK2.1.1
  have hx := S.1
  have hb := S.2.1
  have hl : lv_has ls 4 [(0, .ref b), (1, .int (nI nc))] := hl
  have hS : va_S (fun q => q = b ∨ q = ed) s.heap s.heap [] := va_S.rf
  have hP := hPre
  have hD : va_D (fun q => q = b ∨ q = ed) [(b, .inr (2, [.int mc, .ref ed, .int (nI (nc + 1))])), (ed, .inl (dA 5, cap, .inr (.inr (.inr (.inr f)))))] := D2 (Or.inl rfl) (Or.inr rfl) hbe
  refine lv_iload_n hx hb dJ2_remove_0 rfl (lv_at hl 1 rfl) ?_
  refine lv_aload_n hx hb dJ2_remove_1 rfl (lv_at hl 0 rfl) ?_
  refine l_get (v := .int (nI (nc + 1))) S hK hP 0 rfl 2 (by decide) fl_J2_48 rfl dJ2_remove_2 rfl ?_
  refine rc_Si (rest := []) [.int (nI nc), .int (nI (nc + 1))] 2 S hK (rj_ckI l D dA nc (nc + 1) (by omega) (by omega)) wl_J2_118 wd_J2_J14_checkIndex rfl ⟨Nat.le_of_ble_eq_true rfl, Nat.le_of_ble_eq_true rfl⟩ hl.1 (Nat.le_of_ble_eq_true rfl) dJ2_remove_5 ⟨Nat.le_of_ble_eq_true rfl, Nat.le_of_ble_eq_true rfl⟩ (trivial) ?_ rfl
  refine lv_pop hx hb dJ2_remove_8 rfl ?_
  refine lv_aload_n hx hb dJ2_remove_9 rfl (lv_at hl 0 rfl) ?_
  refine l_get (v := .ref ed) S hK hP 0 rfl 1 (by decide) fl_J2_9 rfl dJ2_remove_10 rfl ?_
  refine lv_astore_n (lv' := [(2, .ref ed), (0, .ref b), (1, .int (nI nc))]) hx hb dJ2_remove_13 rfl hl (by decide) rfl (fun ls hl => ?_)
  refine lv_aload_n hx hb dJ2_remove_14 rfl (lv_at hl 0 rfl) ?_
  refine lv_iload_n hx hb dJ2_remove_15 rfl (lv_at hl 2 rfl) ?_
  refine va_aldq S.1 S.2.1 hK hP 1 5 rfl rfl (vp_in_nI (N := cap) hnc (by omega)) dJ2_remove_16 ?_
  refine topv (z := .ref g) (by rw [show (nI nc : Int32).toNatClampNeg = nc from nI_clamp (by omega), hg]; rfl) ?_
  refine lv_astore_n (lv' := [(3, .ref g), (2, .ref ed), (0, .ref b), (1, .int (nI nc))]) hx hb dJ2_remove_17 rfl hl (by decide) rfl (fun ls hl => ?_)
  refine lv_aload_n hx hb dJ2_remove_18 rfl (lv_at hl 2 rfl) ?_
  refine lv_aload_n hx hb dJ2_remove_19 rfl (lv_at hl 1 rfl) ?_
  refine lv_iload_n hx hb dJ2_remove_20 rfl (lv_at hl 3 rfl) ?_
  refine gc_V (rest := []) [.ref ed, .int (nI nc)] 2 S Wm_K4 hK2 hS (fun q h => h) (gj_fastRem l D dA mi zs zf b ed cap nc mc f g hbe hnc hcap hg) wl_J2_144 wd_J2_J2_fastRemove rfl ⟨Nat.le_of_ble_eq_true rfl, Nat.le_of_ble_eq_true rfl⟩ (va_recv hK hP (ci := 2) (q0 := 0) rfl rfl) hl.1 (Nat.le_of_ble_eq_true rfl) dJ2_remove_21 ⟨Nat.le_of_ble_eq_true rfl, Nat.le_of_ble_eq_true rfl⟩ (hP) (fun v9 H locs hp9 hz9 ho9 hS => ?_) rfl
  obtain ⟨rfl, hP⟩ := hp9
  refine W.eq (g2 := F0 m 24 ls []) rfl ?_
  refine lv_aload_n hx hb dJ2_remove_24 rfl (lv_at hl 0 rfl) ?_
  exact g_aret S hr (by first | exact Or.inl ⟨_, rfl⟩ | exact Or.inr ⟨_, rfl⟩) hlk hS dJ2_remove_25 ⟨Nat.le_of_ble_eq_true rfl, Nat.le_of_ble_eq_true rfl⟩ (Or.inr ⟨_, rfl⟩) (⟨rfl, hP⟩)
set_option maxHeartbeats 4000000 in
theorem gj_clearC (l : Launch) (D : va_G) (dA : Nat → ClassId) (mi zs zf : Nat) (b ed cap nc : Nat) (mc : Int32) (f : Nat → Option Nat) (hbe : b ≠ ed) (hnc : nc ≤ cap) (hcap : cap ≤ 15) : GC l yJ2_clear cJ2_clear 4 none 0 0 0 0 (K4 D dA mi zs zf) [.ref b] (fun H => va_P D vwCl [(b, .inr (2, [.int mc, .ref ed, .int (nI nc)])), (ed, .inl (dA 5, cap, .inr (.inr (.inr (.inr f)))))] H) (fun q => q = b ∨ q = ed) (fun v9 H => v9 = none ∧ ∃ f9 : Nat → Option Nat, va_P D vwCl [(b, .inr (2, [.int (mc + 1), .ref ed, .int 0])), (ed, .inl (dA 5, cap, .inr (.inr (.inr (.inr f9)))))] H) := by
  refine GC.of (by decide) (Nat.le_of_ble_eq_true rfl) ?_
  intro p e s m below meth c ls S hr hlk hnm hK2 hPre hl
  have hK := hK2.1.1
  have hx := S.1
  have hb := S.2.1
  have hl : lv_has ls 4 [(0, .ref b)] := hl
  have hS : va_S (fun q => q = b ∨ q = ed) s.heap s.heap [] := va_S.rf
  have hP := hPre
  have hD : va_D (fun q => q = b ∨ q = ed) [(b, .inr (2, [.int mc, .ref ed, .int (nI nc)])), (ed, .inl (dA 5, cap, .inr (.inr (.inr (.inr f)))))] := D2 (Or.inl rfl) (Or.inr rfl) hbe
  refine lv_aload_n hx hb dJ2_clear_0 rfl (lv_at hl 0 rfl) ?_
  refine lv_dup hx hb dJ2_clear_1 rfl ?_
  refine va_get (v := .int mc) (D := D) (ci := 2) (C := RJ2) (T := TJ2) (N := 3) S.1 S.2.1 S.2.2.2.2 in_J2 S.2.2.2.1 hK hP 0 rfl rfl 0 (by decide) (S.2.2.2.2 _ q119) (fun x9 h9 => u_same (S.2.2.2.2 _ q120) x9 h9) rfl dJ2_clear_2 ?_
  refine lv_iconst (v := 1) hx hb dJ2_clear_5 (by decide) ?_
  refine lv_iadd hx hb dJ2_clear_6 ?_
  refine va_put (v := .int (mc + 1)) (D := D) (ci := 2) (C := RJ2) (T := TJ2) (N := 3) (ty := .int) S.1 S.2.1 S.2.2.2.2 in_J2 tyJ2 tyJ2_ok nmJ2 S.2.2.2.1 hK hP hD hS 0 rfl rfl 0 (Nat.le_of_ble_eq_true rfl) (S.2.2.2.2 _ q119) (fun x9 h9 => u_same (S.2.2.2.2 _ q120) x9 h9) rfl (by decide +kernel) rfl rfl (Nat.le_of_ble_eq_true rfl) dJ2_clear_7 (fun H locs hP hD hS => ?_)
  have hP : va_P D vwCl [(b, .inr (2, [.int (mc + 1), .ref ed, .int (nI nc)])), (ed, .inl (dA 5, cap, .inr (.inr (.inr (.inr f)))))] H := hP
  have hD : va_D (fun q => q = b ∨ q = ed) [(b, .inr (2, [.int (mc + 1), .ref ed, .int (nI nc)])), (ed, .inl (dA 5, cap, .inr (.inr (.inr (.inr f)))))] := hD
  refine lv_aload_n hx hb dJ2_clear_10 rfl (lv_at hl 0 rfl) ?_
  refine l_get (v := .ref ed) S hK hP 0 rfl 1 (by decide) fl_J2_9 rfl dJ2_clear_11 rfl ?_
  refine lv_astore_n (lv' := [(1, .ref ed), (0, .ref b)]) hx hb dJ2_clear_14 rfl hl (by decide) rfl (fun ls hl => ?_)
  refine lv_aload_n hx hb dJ2_clear_15 rfl (lv_at hl 1 rfl) ?_
  refine l_get (v := .int (nI nc)) S hK hP 0 rfl 2 (by decide) fl_J2_48 rfl dJ2_clear_16 rfl ?_
  refine lv_istore_n (lv' := [(2, .int (nI nc)), (1, .ref ed), (0, .ref b)]) hx hb dJ2_clear_19 rfl hl (by decide) rfl (fun ls hl => ?_)
  refine lv_aload_n hx hb dJ2_clear_20 rfl (lv_at hl 2 rfl) ?_
  refine lv_iconst (v := 0) hx hb dJ2_clear_21 (by decide) ?_
  refine lv_dup_x1 hx hb dJ2_clear_22 rfl rfl ?_
  refine va_put (v := .int 0) (D := D) (ci := 2) (C := RJ2) (T := TJ2) (N := 3) (ty := .int) S.1 S.2.1 S.2.2.2.2 in_J2 tyJ2 tyJ2_ok nmJ2 S.2.2.2.1 hK hP hD hS 0 rfl rfl 2 (Nat.le_of_ble_eq_true rfl) (S.2.2.2.2 _ fl_J2_48) (fun _ h9 => h9) rfl (by decide +kernel) rfl rfl (Nat.le_of_ble_eq_true rfl) dJ2_clear_23 (fun H locs hP hD hS => ?_)
  have hP : va_P D vwCl [(b, .inr (2, [.int (mc + 1), .ref ed, .int 0])), (ed, .inl (dA 5, cap, .inr (.inr (.inr (.inr f)))))] H := hP
  have hD : va_D (fun q => q = b ∨ q = ed) [(b, .inr (2, [.int (mc + 1), .ref ed, .int 0])), (ed, .inl (dA 5, cap, .inr (.inr (.inr (.inr f)))))] := hD
  refine lv_istore_n (lv' := [(3, .int 0), (2, .int (nI nc)), (1, .ref ed), (0, .ref b)]) hx hb dJ2_clear_26 rfl hl (by decide) rfl (fun ls hl => ?_)
  have hloop27 : ∀ (k27 i27 : Nat), i27 + k27 = nc → ∀ (H : Heap) (locs : List Loc), va_S (fun q => q = b ∨ q = ed) s.heap H locs → (∃ f9 : Nat → Option Nat, va_P D vwCl [(b, .inr (2, [.int (mc + 1), .ref ed, .int 0])), (ed, .inl (dA 5, cap, .inr (.inr (.inr (.inr f9)))))] H) → ∀ (ls : Array Slot), lv_has ls 4 [(3, .int (nI i27)), (2, .int (nI nc)), (1, .ref ed), (0, .ref b)] → W p l e ({ frames := 0, cells := 0, slots := 0, locals := 0 }) s m [.ref b].toArray below meth c H locs 0 0 (GZ below (fun q => q = b ∨ q = ed) (fun v9 H => v9 = none ∧ ∃ f9 : Nat → Option Nat, va_P D vwCl [(b, .inr (2, [.int (mc + 1), .ref ed, .int 0])), (ed, .inl (dA 5, cap, .inr (.inr (.inr (.inr f9)))))] H) [.ref b] s 0 0) (F0 m 27 ls []) := by
    intro k27
    induction k27 with
    | zero =>
      intro i27 hi27 H locs hS hw27 ls hl
      obtain ⟨f9, hP⟩ := hw27
      have hD : va_D (fun q => q = b ∨ q = ed) [(b, .inr (2, [.int (mc + 1), .ref ed, .int 0])), (ed, .inl (dA 5, cap, .inr (.inr (.inr (.inr f9)))))] := D2 (Or.inl rfl) (Or.inr rfl) hbe
      have hi27 : i27 = nc := by omega
      refine lv_iload_n hx hb dJ2_clear_27 rfl (lv_at hl 0 rfl) ?_
      refine lv_iload_n hx hb dJ2_clear_28 rfl (lv_at hl 1 rfl) ?_
      refine lv_icmp_ge (tgt := 42) hx hb dJ2_clear_29 (by decide) (fun c_29 => ?_) (fun c_29 => absurd (show nI nc ≤ nI i27 from nI_le (by omega) (by omega)) c_29)
      exact g_vret S hr hlk hS dJ2_clear_42 ⟨Nat.le_of_ble_eq_true rfl, Nat.le_of_ble_eq_true rfl⟩ (⟨rfl, f9, hP⟩)
    | succ k27 ih27 =>
      intro i27 hi27 H locs hS hw27 ls hl
      obtain ⟨f9, hP⟩ := hw27
      have hD : va_D (fun q => q = b ∨ q = ed) [(b, .inr (2, [.int (mc + 1), .ref ed, .int 0])), (ed, .inl (dA 5, cap, .inr (.inr (.inr (.inr f9)))))] := D2 (Or.inl rfl) (Or.inr rfl) hbe
      have hlt27 : i27 < nc := by omega
      refine lv_iload_n hx hb dJ2_clear_27 rfl (lv_at hl 0 rfl) ?_
      refine lv_iload_n hx hb dJ2_clear_28 rfl (lv_at hl 1 rfl) ?_
      refine lv_icmp_ge (tgt := 42) hx hb dJ2_clear_29 (by decide) (fun c_29 => absurd c_29 (show ¬ nI nc ≤ nI i27 from nI_ge (by omega) (by omega))) (fun c_29 => ?_)
      refine lv_aload_n hx hb dJ2_clear_32 rfl (lv_at hl 2 rfl) ?_
      refine lv_iload_n hx hb dJ2_clear_33 rfl (lv_at hl 0 rfl) ?_
      refine lv_null hx hb dJ2_clear_34 ?_
      refine va_astqN (i := nI i27) S.1 S.2.1 hK hP hD hS 1 5 rfl rfl (vp_in_nI (N := cap) (by omega) (by omega)) dJ2_clear_35 (fun H locs hP hD hS => ?_)
      rw [show (nI i27 : Int32).toNatClampNeg = i27 from nI_clamp (by omega)] at hP hD
      have hP : va_P D vwCl [(b, .inr (2, [.int (mc + 1), .ref ed, .int 0])), (ed, .inl (dA 5, cap, .inr (.inr (.inr (.inr (va_up f9 i27 (none)))))))] H := hP
      have hD : va_D (fun q => q = b ∨ q = ed) [(b, .inr (2, [.int (mc + 1), .ref ed, .int 0])), (ed, .inl (dA 5, cap, .inr (.inr (.inr (.inr (va_up f9 i27 (none)))))))] := hD
      refine lv_iinc (v := nI (i27 + 1)) (lv' := [(3, .int (nI (i27 + 1))), (2, .int (nI nc)), (1, .ref ed), (0, .ref b)]) hx hb dJ2_clear_36 hl (k := 0) rfl (nI_1 _) (by decide) rfl (fun ls hl => ?_)
      refine lv_goto (tgt := 27) hx hb dJ2_clear_39 (by decide) ?_
      exact ih27 (i27 + 1) (by omega) _ _ hS (⟨_, hP⟩) ls (lv_sub hl [0, 1, 2, 3] rfl)
  exact hloop27 (nc) 0 (by omega) _ _ hS (⟨f, hP⟩) ls (lv_sub hl [0, 1, 2, 3] rfl)
set_option maxHeartbeats 4000000 in
theorem gj_clearZ (l : Launch) (D : va_G) (dA : Nat → ClassId) (mi zs zf : Nat) (b ed : Nat) (mc : Int32) : GC l yJ2_clear cJ2_clear 4 none 0 0 0 0 (K4 D dA mi zs zf) [.ref b] (fun H => va_P D vwCl [(b, .inr (2, [.int mc, .ref ed, .int (nI 0)]))] H) (fun q => q = b) (fun v9 H => v9 = none ∧ va_P D vwCl [(b, .inr (2, [.int (mc + 1), .ref ed, .int 0]))] H) := by
  refine GC.of (by decide) (Nat.le_of_ble_eq_true rfl) ?_
  intro p e s m below meth c ls S hr hlk hnm hK2 hPre hl
  have hK := hK2.1.1
  have hx := S.1
  have hb := S.2.1
  have hl : lv_has ls 4 [(0, .ref b)] := hl
  have hS : va_S (fun q => q = b) s.heap s.heap [] := va_S.rf
  have hP := hPre
  have hD : va_D (fun q => q = b) [(b, .inr (2, [.int mc, .ref ed, .int (nI 0)]))] := D1 rfl
  refine lv_aload_n hx hb dJ2_clear_0 rfl (lv_at hl 0 rfl) ?_
  refine lv_dup hx hb dJ2_clear_1 rfl ?_
  refine va_get (v := .int mc) (D := D) (ci := 2) (C := RJ2) (T := TJ2) (N := 3) S.1 S.2.1 S.2.2.2.2 in_J2 S.2.2.2.1 hK hP 0 rfl rfl 0 (by decide) (S.2.2.2.2 _ q119) (fun x9 h9 => u_same (S.2.2.2.2 _ q120) x9 h9) rfl dJ2_clear_2 ?_
  refine lv_iconst (v := 1) hx hb dJ2_clear_5 (by decide) ?_
  refine lv_iadd hx hb dJ2_clear_6 ?_
  refine va_put (v := .int (mc + 1)) (D := D) (ci := 2) (C := RJ2) (T := TJ2) (N := 3) (ty := .int) S.1 S.2.1 S.2.2.2.2 in_J2 tyJ2 tyJ2_ok nmJ2 S.2.2.2.1 hK hP hD hS 0 rfl rfl 0 (Nat.le_of_ble_eq_true rfl) (S.2.2.2.2 _ q119) (fun x9 h9 => u_same (S.2.2.2.2 _ q120) x9 h9) rfl (by decide +kernel) rfl rfl (Nat.le_of_ble_eq_true rfl) dJ2_clear_7 (fun H locs hP hD hS => ?_)
  have hP : va_P D vwCl [(b, .inr (2, [.int (mc + 1), .ref ed, .int (nI 0)]))] H := hP
  have hD : va_D (fun q => q = b) [(b, .inr (2, [.int (mc + 1), .ref ed, .int (nI 0)]))] := hD
  refine lv_aload_n hx hb dJ2_clear_10 rfl (lv_at hl 0 rfl) ?_
  refine l_get (v := .ref ed) S hK hP 0 rfl 1 (by decide) fl_J2_9 rfl dJ2_clear_11 rfl ?_
  refine lv_astore_n (lv' := [(1, .ref ed), (0, .ref b)]) hx hb dJ2_clear_14 rfl hl (by decide) rfl (fun ls hl => ?_)
  refine lv_aload_n hx hb dJ2_clear_15 rfl (lv_at hl 1 rfl) ?_
  refine l_get (v := .int (nI 0)) S hK hP 0 rfl 2 (by decide) fl_J2_48 rfl dJ2_clear_16 rfl ?_
  refine lv_istore_n (lv' := [(2, .int (nI 0)), (1, .ref ed), (0, .ref b)]) hx hb dJ2_clear_19 rfl hl (by decide) rfl (fun ls hl => ?_)
  refine lv_aload_n hx hb dJ2_clear_20 rfl (lv_at hl 2 rfl) ?_
  refine lv_iconst (v := 0) hx hb dJ2_clear_21 (by decide) ?_
  refine lv_dup_x1 hx hb dJ2_clear_22 rfl rfl ?_
  refine va_put (v := .int 0) (D := D) (ci := 2) (C := RJ2) (T := TJ2) (N := 3) (ty := .int) S.1 S.2.1 S.2.2.2.2 in_J2 tyJ2 tyJ2_ok nmJ2 S.2.2.2.1 hK hP hD hS 0 rfl rfl 2 (Nat.le_of_ble_eq_true rfl) (S.2.2.2.2 _ fl_J2_48) (fun _ h9 => h9) rfl (by decide +kernel) rfl rfl (Nat.le_of_ble_eq_true rfl) dJ2_clear_23 (fun H locs hP hD hS => ?_)
  have hP : va_P D vwCl [(b, .inr (2, [.int (mc + 1), .ref ed, .int 0]))] H := hP
  have hD : va_D (fun q => q = b) [(b, .inr (2, [.int (mc + 1), .ref ed, .int 0]))] := hD
  refine lv_istore_n (lv' := [(3, .int 0), (2, .int (nI 0)), (1, .ref ed), (0, .ref b)]) hx hb dJ2_clear_26 rfl hl (by decide) rfl (fun ls hl => ?_)
  refine lv_iload_n hx hb dJ2_clear_27 rfl (lv_at hl 0 rfl) ?_
  refine lv_iload_n hx hb dJ2_clear_28 rfl (lv_at hl 1 rfl) ?_
  refine lv_icmp_ge (tgt := 42) hx hb dJ2_clear_29 (by decide) (fun c_29 => ?_) (fun c_29 => absurd (show nI 0 ≤ 0 from by decide) c_29)
  exact g_vret S hr hlk hS dJ2_clear_42 ⟨Nat.le_of_ble_eq_true rfl, Nat.le_of_ble_eq_true rfl⟩ (⟨rfl, hP⟩)
set_option maxHeartbeats 4000000 in
theorem gj0_init (l : Launch) (D : va_G) (dA : Nat → ClassId) (b : Nat) (x1 : Value) : GC l yJ0_init cJ0_init 1 none 1 30 0 0 (K2 D dA) [.ref b] (fun H => va_P D vwCl [(b, .inr (2, [.int 0, x1, .int 0]))] H) (fun q => q = b) (fun v9 H => v9 = none ∧ va_P D vwCl [(b, .inr (2, [.int 0, x1, .int 0]))] H) := by
  refine GC.of (by decide) (Nat.le_of_ble_eq_true rfl) ?_
  intro p e s m below meth c ls S hr hlk hnm hK2 hPre hl
  have hK := hK2.1
  have hx := S.1
  have hb := S.2.1
  have hl : lv_has ls 1 [(0, .ref b)] := hl
  have hS : va_S (fun q => q = b) s.heap s.heap [] := va_S.rf
  have hP := hPre
  have hD : va_D (fun q => q = b) [(b, .inr (2, [.int 0, x1, .int 0]))] := D1 rfl
  refine lv_aload_n hx hb dJ0_init_0 rfl (lv_at hl 0 rfl) ?_
  refine W.objInit (rest := []) S.1 S.2.1 S.2.2.2.1 (S.2.2.2.2 _ q113) (S.2.2.2.2 _ q100) (S.2.2.2.2 _ q101) rfl (hl.1.trans S.2.2.1.symm) rfl dJ0_init_1 (Nat.le_of_ble_eq_true rfl) (Nat.le_of_ble_eq_true rfl) ?_
  refine W.eq (g2 := F0 m 4 ls []) rfl ?_
  exact g_vret S hr hlk hS dJ0_init_4 ⟨Nat.le_of_ble_eq_true rfl, Nat.le_of_ble_eq_true rfl⟩ (⟨rfl, hP⟩)
set_option maxHeartbeats 4000000 in
theorem gj1_init (l : Launch) (D : va_G) (dA : Nat → ClassId) (b : Nat) (x1 : Value) : GC l yJ1_init cJ1_init 1 none 2 50 0 0 (K2 D dA) [.ref b] (fun H => va_P D vwCl [(b, .inr (2, [.int 0, x1, .int 0]))] H) (fun q => q = b) (fun v9 H => v9 = none ∧ va_P D vwCl [(b, .inr (2, [.int 0, x1, .int 0]))] H) := by
  refine GC.of (by decide) (Nat.le_of_ble_eq_true rfl) ?_
  intro p e s m below meth c ls S hr hlk hnm hK2 hPre hl
  have hK := hK2.1
  have hx := S.1
  have hb := S.2.1
  have hl : lv_has ls 1 [(0, .ref b)] := hl
  have hS : va_S (fun q => q = b) s.heap s.heap [] := va_S.rf
  have hP := hPre
  have hD : va_D (fun q => q = b) [(b, .inr (2, [.int 0, x1, .int 0]))] := D1 rfl
  refine lv_aload_n hx hb dJ1_init_0 rfl (lv_at hl 0 rfl) ?_
  refine gc_I (rest := []) [] 0 S Wm_K2 hK2 hS (fun q h => h) (gj0_init l D dA b x1) q112 q61 q110 q111 rfl (by decide +kernel : yJ0_init.cls ≠ "java/lang/invoke/MethodHandle" ∧ yJ0_init.cls ≠ "java/lang/invoke/VarHandle" ∧ (parseMethodDescriptor yJ0_init.desc).map (fun d => d.parameters.length) = some 0) rfl ⟨Nat.le_of_ble_eq_true rfl, Nat.le_of_ble_eq_true rfl⟩ hl.1 (Nat.le_of_ble_eq_true rfl) dJ1_init_1 ⟨Nat.le_of_ble_eq_true rfl, Nat.le_of_ble_eq_true rfl⟩ (hP) (fun v9 H locs hp9 hz9 ho9 hS => ?_) rfl
  obtain ⟨rfl, hP⟩ := hp9
  refine W.eq (g2 := F0 m 4 ls []) rfl ?_
  refine lv_aload_n hx hb dJ1_init_4 rfl (lv_at hl 0 rfl) ?_
  refine lv_iconst (v := 0) hx hb dJ1_init_5 (by decide) ?_
  refine va_put (v := .int 0) (D := D) (ci := 2) (C := RJ2) (T := TJ2) (N := 3) (ty := .int) S.1 S.2.1 S.2.2.2.2 in_J2 tyJ2 tyJ2_ok nmJ2 S.2.2.2.1 hK hP hD hS 0 rfl rfl 0 (Nat.le_of_ble_eq_true rfl) (S.2.2.2.2 _ q118) (fun _ h9 => h9) rfl (by decide +kernel) rfl rfl (Nat.le_of_ble_eq_true rfl) dJ1_init_6 (fun H locs hP hD hS => ?_)
  have hP : va_P D vwCl [(b, .inr (2, [.int 0, x1, .int 0]))] H := hP
  have hD : va_D (fun q => q = b) [(b, .inr (2, [.int 0, x1, .int 0]))] := hD
  exact g_vret S hr hlk hS dJ1_init_9 ⟨Nat.le_of_ble_eq_true rfl, Nat.le_of_ble_eq_true rfl⟩ (⟨rfl, hP⟩)
set_option maxHeartbeats 4000000 in
theorem gj_init (l : Launch) (D : va_G) (dA : Nat → ClassId) (mi zs zf e0 : Nat) (b : Nat) (x1 : Value) (hzb : zs ≠ b) : GC l yJ2_init cJ2_init 1 none 3 70 0 0 (K4 D dA mi zs zf) [.ref b] (fun H => va_P D vwCl [(b, .inr (2, [.int 0, x1, .int 0]))] H ∧ ZH zs zf e0 H) (fun q => q = b) (fun v9 H => v9 = none ∧ va_P D vwCl [(b, .inr (2, [.int 0, .ref e0, .int 0]))] H) := by
  refine GC.of (by decide) (Nat.le_of_ble_eq_true rfl) ?_
  intro p e s m below meth c ls S hr hlk hnm hK2 hPre hl
  have hK := hK2.1.1
  have hx := S.1
  have hb := S.2.1
  have hl : lv_has ls 1 [(0, .ref b)] := hl
  have hS : va_S (fun q => q = b) s.heap s.heap [] := va_S.rf
  obtain ⟨hP, hZH⟩ := hPre
  have hZ := hZH.z (A := fun q => q = b) hK2.2.2.2 hzb
  have hD : va_D (fun q => q = b) [(b, .inr (2, [.int 0, x1, .int 0]))] := D1 rfl
  refine lv_aload_n hx hb dJ2_init_0 rfl (lv_at hl 0 rfl) ?_
  refine gc_I (rest := []) [] 0 S Wm_K2 hK2.1 hS (fun q h => h) (gj1_init l D dA b x1) q109 q62 q107 q108 rfl (by decide +kernel : yJ1_init.cls ≠ "java/lang/invoke/MethodHandle" ∧ yJ1_init.cls ≠ "java/lang/invoke/VarHandle" ∧ (parseMethodDescriptor yJ1_init.desc).map (fun d => d.parameters.length) = some 0) rfl ⟨Nat.le_of_ble_eq_true rfl, Nat.le_of_ble_eq_true rfl⟩ hl.1 (Nat.le_of_ble_eq_true rfl) dJ2_init_1 ⟨Nat.le_of_ble_eq_true rfl, Nat.le_of_ble_eq_true rfl⟩ (hP) (fun v9 H locs hp9 hz9 ho9 hS => ?_) rfl
  obtain ⟨rfl, hP⟩ := hp9
  refine W.eq (g2 := F0 m 4 ls []) rfl ?_
  refine lv_aload_n hx hb dJ2_init_4 rfl (lv_at hl 0 rfl) ?_
  refine va_gets (ref := RJ2) S.1 S.2.1 hZ hS S.2.2.2.1 (S.2.2.2.2 _ q114) (fun _ h9 => h9) dJ2_init_5 ?_
  refine va_put (v := .ref e0) (D := D) (ci := 2) (C := RJ2) (T := TJ2) (N := 3) (ty := (.array (.object "java/lang/Object"))) S.1 S.2.1 S.2.2.2.2 in_J2 tyJ2 tyJ2_ok nmJ2 S.2.2.2.1 hK hP hD hS 0 rfl rfl 1 (Nat.le_of_ble_eq_true rfl) (S.2.2.2.2 _ fl_J2_9) (fun _ h9 => h9) rfl (by decide +kernel) rfl rfl (Nat.le_of_ble_eq_true rfl) dJ2_init_8 (fun H locs hP hD hS => ?_)
  have hP : va_P D vwCl [(b, .inr (2, [.int 0, .ref e0, .int 0]))] H := hP
  have hD : va_D (fun q => q = b) [(b, .inr (2, [.int 0, .ref e0, .int 0]))] := hD
  exact g_vret S hr hlk hS dJ2_init_11 ⟨Nat.le_of_ble_eq_true rfl, Nat.le_of_ble_eq_true rfl⟩ (⟨rfl, hP⟩)
