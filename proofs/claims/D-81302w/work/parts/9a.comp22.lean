/-! COMPONENT 22: the list of ten grows (by program: gen/comp22.py) -/
set_option maxRecDepth 100000
theorem D3 {A : Nat → Prop} {b b' b2 : Nat} {e e' e2 : va_E} (h : A b) (h' : A b') (h2 : A b2) (hne : b ≠ b') (hn2 : b ≠ b2) (hn3 : b' ≠ b2) : va_D A [(b, e), (b', e'), (b2, e2)] :=
  va_D.app (D1 h) (D2 h' h2 hn3) (fun i j p q hp hq => by
    match i, j, hp, hq with
    | 0, 0, hp, hq => cases hp; cases hq; exact hne
    | 0, 1, hp, hq => cases hp; cases hq; exact hn2
    | 0, j + 2, _, hq => simp at hq
    | i + 1, _, hp, _ => simp at hp)
set_option maxHeartbeats 4000000 in
theorem gj_grow2T (l : Launch) (D : va_G) (dA : Nat → ClassId) (mi zs zf : Nat) (b ed sz : Nat) (mc : Int32) (f : Nat → Option Nat) (hbe : b ≠ ed) (hbl : b < sz) (hedl : ed < sz) (hRl : ∀ i, i < 10 → ∀ y, f i = some y → y < sz) : GC l yJ2_grow_2 cJ2_grow_2 4 (some (.array (Jvm.ClassFile.FieldType.object "java/lang/Object"))) 3 104 1 15 (K4 D dA mi zs zf) [.ref b, .int 11] (fun H => va_P D vwCl [(b, .inr (2, [.int mc, .ref ed, .int (nI 10)])), (ed, .inl (dA 5, 10, .inr (.inr (.inr (.inr f)))))] H ∧ sz ≤ H.size ∧ (∀ i, i < 10 → ∀ y, f i = some y → anyR D y H ∧ (y ≠ b ∧ y ≠ ed))) (fun q => q = b ∨ (q = ed ∨ sz ≤ q)) (fun v9 H => ∃ qn, sz ≤ qn ∧ b ≠ qn ∧ ed ≠ qn ∧ v9 = some (.ref qn) ∧ va_P D vwCl [(b, .inr (2, [.int mc, .ref qn, .int (nI 10)])), (ed, .inl (dA 5, 10, .inr (.inr (.inr (.inr f))))), (qn, .inl (dA 5, 15, .inr (.inr (.inr (.inr (va_cpy f (fun _ => none) 0 0 10))))))] H) := by
  refine GC.of (by decide) (Nat.le_of_ble_eq_true rfl) ?_
  intro p e s m below meth c ls S hr hlk hnm hK2 hPre hl
  have hK := hK2.1.1
  have hx := S.1
  have hb := S.2.1
  have hl : lv_has ls 4 [(0, .ref b), (1, .int 11)] := hl
  have hS : va_S (fun q => q = b ∨ (q = ed ∨ sz ≤ q)) s.heap s.heap [] := va_S.rf
  obtain ⟨hP, hsz, hR⟩ := hPre
  have hD : va_D (fun q => q = b ∨ (q = ed ∨ sz ≤ q)) [(b, .inr (2, [.int mc, .ref ed, .int (nI 10)])), (ed, .inl (dA 5, 10, .inr (.inr (.inr (.inr f)))))] := D2 (Or.inl rfl) (Or.inr (Or.inl rfl)) hbe
  refine lv_aload_n hx hb dJ2_grow_2_0 rfl (lv_at hl 0 rfl) ?_
  refine l_get (v := .ref ed) S hK hP 0 rfl 1 (by decide) fl_J2_9 rfl dJ2_grow_2_1 rfl ?_
  refine va_alen (v := 10) S.1 S.2.1 hK hP 1 5 rfl rfl rfl dJ2_grow_2_4 ?_
  refine lv_istore_n (lv' := [(2, .int 10), (0, .ref b), (1, .int 11)]) hx hb dJ2_grow_2_5 rfl hl (by decide) rfl (fun ls hl => ?_)
  refine lv_iload_n hx hb dJ2_grow_2_6 rfl (lv_at hl 0 rfl) ?_
  refine lv_if_gt (tgt := 20) hx hb dJ2_grow_2_7 (by decide) (fun c_7 => ?_) (fun c_7 => absurd (by decide) c_7)
  refine lv_iload_n hx hb dJ2_grow_2_20 rfl (lv_at hl 0 rfl) ?_
  refine lv_iload_n hx hb dJ2_grow_2_21 rfl (lv_at hl 2 rfl) ?_
  refine lv_iload_n hx hb dJ2_grow_2_22 rfl (lv_at hl 0 rfl) ?_
  refine lv_isub hx hb dJ2_grow_2_23 ?_
  refine lv_iload_n hx hb dJ2_grow_2_24 rfl (lv_at hl 0 rfl) ?_
  refine lv_iconst (v := 1) hx hb dJ2_grow_2_25 (by decide) ?_
  refine lv_ishr hx hb dJ2_grow_2_26 ?_
  refine topi (z := 5) (by decide) ?_
  refine rc_Si (rest := []) [.int 10, .int 1, .int 5] 3 S hK (rj_newLen l D dA) wl_J2_73 wd_J2_J16_newLength rfl ⟨Nat.le_of_ble_eq_true rfl, Nat.le_of_ble_eq_true rfl⟩ hl.1 (Nat.le_of_ble_eq_true rfl) dJ2_grow_2_27 ⟨Nat.le_of_ble_eq_true rfl, Nat.le_of_ble_eq_true rfl⟩ (trivial) ?_ rfl
  refine lv_istore_n (lv' := [(3, .int 15), (2, .int 10), (0, .ref b), (1, .int 11)]) hx hb dJ2_grow_2_30 rfl hl (by decide) rfl (fun ls hl => ?_)
  refine lv_aload_n hx hb dJ2_grow_2_31 rfl (lv_at hl 2 rfl) ?_
  refine lv_aload_n hx hb dJ2_grow_2_32 rfl (lv_at hl 2 rfl) ?_
  refine l_get (v := .ref ed) S hK hP 0 rfl 1 (by decide) fl_J2_9 rfl dJ2_grow_2_33 rfl ?_
  refine lv_iload_n hx hb dJ2_grow_2_36 rfl (lv_at hl 0 rfl) ?_
  refine gc_S (rest := [.ref b]) [.ref ed, .int 15] 2 S Wm_K4 hK2 hS (fun q h => Or.inr h) (gj_copy l D dA mi zs zf ed sz f hRl) wl_J2_66 wd_J2_J17_copyOf rfl ⟨Nat.le_of_ble_eq_true rfl, Nat.le_of_ble_eq_true rfl⟩ hl.1 (Nat.le_of_ble_eq_true rfl) dJ2_grow_2_37 ⟨Nat.le_of_ble_eq_true rfl, Nat.le_of_ble_eq_true rfl⟩ (⟨hP.sub [1] rfl, hsz, fun i hi y hy => ⟨(hR i hi y hy).1, (hR i hi y hy).2.2⟩⟩) (fun v9 H locs hp9 hz9 ho9 hS => ?_) rfl
  obtain ⟨qn, hqn, rfl, hP9⟩ := hp9
  have hb9 : ¬ (b = ed ∨ sz ≤ b) := fun h9 => h9.elim hbe (fun h9 => absurd hbl (Nat.not_lt.2 h9))
  have hPb : va_P D vwCl [(b, .inr (2, [.int mc, .ref ed, .int (nI 10)]))] H := (show va_P D vwCl [(b, .inr (2, [.int mc, .ref ed, .int (nI 10)]))] _ from hP.sub [0] rfl).fr ho9 (one_A (A := fun q => q = ed ∨ sz ≤ q) hb9)
  have hP : va_P D vwCl [(b, .inr (2, [.int mc, .ref ed, .int (nI 10)])), (ed, .inl (dA 5, 10, .inr (.inr (.inr (.inr f))))), (qn, .inl (dA 5, 15, .inr (.inr (.inr (.inr (va_cpy f (fun _ => none) 0 0 10))))))] H := va_P.app hPb hP9
  have hbq : b ≠ qn := fun h9 => hb9 (Or.inr (by omega))
  have heq : ed ≠ qn := fun h9 => by have := hedl; omega
  have hD : va_D (fun q => q = b ∨ (q = ed ∨ sz ≤ q)) [(b, .inr (2, [.int mc, .ref ed, .int (nI 10)])), (ed, .inl (dA 5, 10, .inr (.inr (.inr (.inr f))))), (qn, .inl (dA 5, 15, .inr (.inr (.inr (.inr (va_cpy f (fun _ => none) 0 0 10))))))] := D3 (Or.inl rfl) (Or.inr (Or.inl rfl)) (Or.inr (Or.inr hqn)) hbe hbq heq
  refine W.eq (g2 := F0 m 40 ls [.ref qn, .ref b]) rfl ?_
  refine lv_dup_x1 hx hb dJ2_grow_2_40 rfl rfl ?_
  refine va_put (v := .ref qn) (D := D) (ci := 2) (C := RJ2) (T := TJ2) (N := 3) (ty := (.array (.object "java/lang/Object"))) S.1 S.2.1 S.2.2.2.2 in_J2 tyJ2 tyJ2_ok nmJ2 S.2.2.2.1 hK hP hD hS 0 rfl rfl 1 (Nat.le_of_ble_eq_true rfl) (S.2.2.2.2 _ fl_J2_9) (fun _ h9 => h9) rfl (by decide +kernel) rfl rfl (Nat.le_of_ble_eq_true rfl) dJ2_grow_2_41 (fun H locs hP hD hS => ?_)
  have hP : va_P D vwCl [(b, .inr (2, [.int mc, .ref qn, .int (nI 10)])), (ed, .inl (dA 5, 10, .inr (.inr (.inr (.inr f))))), (qn, .inl (dA 5, 15, .inr (.inr (.inr (.inr (va_cpy f (fun _ => none) 0 0 10))))))] H := hP
  have hD : va_D (fun q => q = b ∨ (q = ed ∨ sz ≤ q)) [(b, .inr (2, [.int mc, .ref qn, .int (nI 10)])), (ed, .inl (dA 5, 10, .inr (.inr (.inr (.inr f))))), (qn, .inl (dA 5, 15, .inr (.inr (.inr (.inr (va_cpy f (fun _ => none) 0 0 10))))))] := hD
  exact g_aret S hr (by first | exact Or.inl ⟨_, rfl⟩ | exact Or.inr ⟨_, rfl⟩) hlk hS dJ2_grow_2_44 ⟨Nat.le_of_ble_eq_true rfl, Nat.le_of_ble_eq_true rfl⟩ (Or.inr ⟨_, rfl⟩) (⟨qn, hqn, hbq, heq, rfl, hP⟩)
set_option maxHeartbeats 4000000 in
theorem gj_growT (l : Launch) (D : va_G) (dA : Nat → ClassId) (mi zs zf : Nat) (b ed sz : Nat) (mc : Int32) (f : Nat → Option Nat) (hbe : b ≠ ed) (hbl : b < sz) (hedl : ed < sz) (hRl : ∀ i, i < 10 → ∀ y, f i = some y → y < sz) : GC l yJ2_grow cJ2_grow 1 (some (.array (Jvm.ClassFile.FieldType.object "java/lang/Object"))) 4 127 1 15 (K4 D dA mi zs zf) [.ref b] (fun H => va_P D vwCl [(b, .inr (2, [.int mc, .ref ed, .int (nI 10)])), (ed, .inl (dA 5, 10, .inr (.inr (.inr (.inr f)))))] H ∧ sz ≤ H.size ∧ (∀ i, i < 10 → ∀ y, f i = some y → anyR D y H ∧ (y ≠ b ∧ y ≠ ed))) (fun q => q = b ∨ (q = ed ∨ sz ≤ q)) (fun v9 H => ∃ qn, sz ≤ qn ∧ b ≠ qn ∧ ed ≠ qn ∧ v9 = some (.ref qn) ∧ va_P D vwCl [(b, .inr (2, [.int mc, .ref qn, .int (nI 10)])), (ed, .inl (dA 5, 10, .inr (.inr (.inr (.inr f))))), (qn, .inl (dA 5, 15, .inr (.inr (.inr (.inr (va_cpy f (fun _ => none) 0 0 10))))))] H) := by
  refine GC.of (by decide) (Nat.le_of_ble_eq_true rfl) ?_
  intro p e s m below meth c ls S hr hlk hnm hK2 hPre hl
  have hK := hK2.1.1
  have hx := S.1
  have hb := S.2.1
  have hl : lv_has ls 1 [(0, .ref b)] := hl
  have hS : va_S (fun q => q = b ∨ (q = ed ∨ sz ≤ q)) s.heap s.heap [] := va_S.rf
  obtain ⟨hP, hsz, hR⟩ := hPre
  have hD : va_D (fun q => q = b ∨ (q = ed ∨ sz ≤ q)) [(b, .inr (2, [.int mc, .ref ed, .int (nI 10)])), (ed, .inl (dA 5, 10, .inr (.inr (.inr (.inr f)))))] := D2 (Or.inl rfl) (Or.inr (Or.inl rfl)) hbe
  refine lv_aload_n hx hb dJ2_grow_0 rfl (lv_at hl 0 rfl) ?_
  refine lv_aload_n hx hb dJ2_grow_1 rfl (lv_at hl 0 rfl) ?_
  refine l_get (v := .int (nI 10)) S hK hP 0 rfl 2 (by decide) fl_J2_48 rfl dJ2_grow_2 rfl ?_
  refine lv_iconst (v := 1) hx hb dJ2_grow_5 (by decide) ?_
  refine lv_iadd hx hb dJ2_grow_6 ?_
  refine topi (z := 11) (by decide) ?_
  refine gc_V (rest := []) [.int 11] 1 S Wm_K4 hK2 hS (fun q h => h) (gj_grow2T l D dA mi zs zf b ed sz mc f hbe hbl hedl hRl) wl_J2_69 wd_J2_J2_grow_2 rfl ⟨Nat.le_of_ble_eq_true rfl, Nat.le_of_ble_eq_true rfl⟩ (va_recv hK hP (ci := 2) (q0 := 0) rfl rfl) hl.1 (Nat.le_of_ble_eq_true rfl) dJ2_grow_7 ⟨Nat.le_of_ble_eq_true rfl, Nat.le_of_ble_eq_true rfl⟩ (⟨hP, hsz, hR⟩) (fun v9 H locs hp9 hz9 ho9 hS => ?_) rfl
  obtain ⟨qn, hqn, hbq, heq, rfl, hP⟩ := hp9
  refine W.eq (g2 := F0 m 10 ls [.ref qn]) rfl ?_
  exact g_aret S hr (by first | exact Or.inl ⟨_, rfl⟩ | exact Or.inr ⟨_, rfl⟩) hlk hS dJ2_grow_10 ⟨Nat.le_of_ble_eq_true rfl, Nat.le_of_ble_eq_true rfl⟩ (Or.inr ⟨_, rfl⟩) (⟨qn, hqn, hbq, heq, rfl, hP⟩)
set_option maxHeartbeats 4000000 in
theorem gj_add2T (l : Launch) (D : va_G) (dA : Nat → ClassId) (mi zs zf : Nat) (b ed sz : Nat) (mc : Int32) (f : Nat → Option Nat) (hbe : b ≠ ed) (hbl : b < sz) (hedl : ed < sz) (hRl : ∀ i, i < 10 → ∀ y, f i = some y → y < sz) (g : Nat) (hg : g < sz) (hgb : g ≠ b ∧ g ≠ ed) : GC l yJ2_add_2 cJ2_add_2 4 none 5 147 1 15 (K4 D dA mi zs zf) [.ref b, .ref g, .ref ed, .int 10] (fun H => va_P D vwCl [(b, .inr (2, [.int mc, .ref ed, .int (nI 10)])), (ed, .inl (dA 5, 10, .inr (.inr (.inr (.inr f)))))] H ∧ sz ≤ H.size ∧ anyR D g H ∧ (∀ i, i < 10 → ∀ y, f i = some y → anyR D y H ∧ (y ≠ b ∧ y ≠ ed))) (fun q => q = b ∨ (q = ed ∨ sz ≤ q)) (fun v9 H => ∃ qn, sz ≤ qn ∧ b ≠ qn ∧ ed ≠ qn ∧ v9 = none ∧ va_P D vwCl [(b, .inr (2, [.int mc, .ref qn, .int (nI 11)])), (ed, .inl (dA 5, 10, .inr (.inr (.inr (.inr f))))), (qn, .inl (dA 5, 15, .inr (.inr (.inr (.inr (va_up (va_cpy f (fun _ => none) 0 0 10) 10 (some g)))))))] H) := by
  refine GC.of (by decide) (Nat.le_of_ble_eq_true rfl) ?_
  intro p e s m below meth c ls S hr hlk hnm hK2 hPre hl
  have hK := hK2.1.1
  have hx := S.1
  have hb := S.2.1
  have hl : lv_has ls 4 [(0, .ref b), (1, .ref g), (2, .ref ed), (3, .int 10)] := hl
  have hS : va_S (fun q => q = b ∨ (q = ed ∨ sz ≤ q)) s.heap s.heap [] := va_S.rf
  obtain ⟨hP, hsz, hAny, hR⟩ := hPre
  have hD : va_D (fun q => q = b ∨ (q = ed ∨ sz ≤ q)) [(b, .inr (2, [.int mc, .ref ed, .int (nI 10)])), (ed, .inl (dA 5, 10, .inr (.inr (.inr (.inr f)))))] := D2 (Or.inl rfl) (Or.inr (Or.inl rfl)) hbe
  refine lv_iload_n hx hb dJ2_add_2_0 rfl (lv_at hl 3 rfl) ?_
  refine lv_aload_n hx hb dJ2_add_2_1 rfl (lv_at hl 2 rfl) ?_
  refine va_alen (v := 10) S.1 S.2.1 hK hP 1 5 rfl rfl rfl dJ2_add_2_2 ?_
  refine lv_icmp_ne (tgt := 11) hx hb dJ2_add_2_3 (by decide) (fun c_3 => absurd (by decide) c_3) (fun c_3 => ?_)
  refine lv_aload_n hx hb dJ2_add_2_6 rfl (lv_at hl 0 rfl) ?_
  refine gc_V (rest := []) [] 0 S Wm_K4 hK2 hS (fun q h => h) (gj_growT l D dA mi zs zf b ed sz mc f hbe hbl hedl hRl) wl_J2_129 wd_J2_J2_grow rfl ⟨Nat.le_of_ble_eq_true rfl, Nat.le_of_ble_eq_true rfl⟩ (va_recv hK hP (ci := 2) (q0 := 0) rfl rfl) hl.1 (Nat.le_of_ble_eq_true rfl) dJ2_add_2_7 ⟨Nat.le_of_ble_eq_true rfl, Nat.le_of_ble_eq_true rfl⟩ (⟨hP, hsz, hR⟩) (fun v9 H locs hp9 hz9 ho9 hS => ?_) rfl
  obtain ⟨qn, hqn, hbq, heq, rfl, hP⟩ := hp9
  refine W.eq (g2 := F0 m 10 ls [.ref qn]) rfl ?_
  have hD : va_D (fun q => q = b ∨ (q = ed ∨ sz ≤ q)) [(b, .inr (2, [.int mc, .ref qn, .int (nI 10)])), (ed, .inl (dA 5, 10, .inr (.inr (.inr (.inr f))))), (qn, .inl (dA 5, 15, .inr (.inr (.inr (.inr (va_cpy f (fun _ => none) 0 0 10))))))] := D3 (Or.inl rfl) (Or.inr (Or.inl rfl)) (Or.inr (Or.inr hqn)) hbe hbq heq
  refine lv_astore_n (lv' := [(2, .ref qn), (0, .ref b), (1, .ref g), (3, .int 10)]) hx hb dJ2_add_2_10 rfl hl (by decide) rfl (fun ls hl => ?_)
  refine lv_aload_n hx hb dJ2_add_2_11 rfl (lv_at hl 0 rfl) ?_
  refine lv_iload_n hx hb dJ2_add_2_12 rfl (lv_at hl 3 rfl) ?_
  refine lv_aload_n hx hb dJ2_add_2_13 rfl (lv_at hl 2 rfl) ?_
  refine va_astqM (i := 10) (E := "java/lang/Object") S.1 S.2.1 hK hP hD hS 2 5 rfl rfl ((hAny.keep hS (by intro h9; rcases h9 with h9 | h9 | h9; exact hgb.1 h9; exact hgb.2 h9; omega)).any hK2.1) (vp_in_nI (n := 10) (by decide) (by decide)) dJ2_add_2_14 (fun H locs hP hD hS => ?_)
  rw [show (10 : Int32).toNatClampNeg = 10 from c10] at hP hD
  have hP : va_P D vwCl [(b, .inr (2, [.int mc, .ref qn, .int (nI 10)])), (ed, .inl (dA 5, 10, .inr (.inr (.inr (.inr f))))), (qn, .inl (dA 5, 15, .inr (.inr (.inr (.inr (va_up (va_cpy f (fun _ => none) 0 0 10) 10 (some g)))))))] H := hP
  have hD : va_D (fun q => q = b ∨ (q = ed ∨ sz ≤ q)) [(b, .inr (2, [.int mc, .ref qn, .int (nI 10)])), (ed, .inl (dA 5, 10, .inr (.inr (.inr (.inr f))))), (qn, .inl (dA 5, 15, .inr (.inr (.inr (.inr (va_up (va_cpy f (fun _ => none) 0 0 10) 10 (some g)))))))] := hD
  refine lv_aload_n hx hb dJ2_add_2_15 rfl (lv_at hl 1 rfl) ?_
  refine lv_iload_n hx hb dJ2_add_2_16 rfl (lv_at hl 3 rfl) ?_
  refine lv_iconst (v := 1) hx hb dJ2_add_2_17 (by decide) ?_
  refine lv_iadd hx hb dJ2_add_2_18 ?_
  refine topi (z := nI 11) (by decide) ?_
  refine va_put (v := .int (nI 11)) (D := D) (ci := 2) (C := RJ2) (T := TJ2) (N := 3) (ty := .int) S.1 S.2.1 S.2.2.2.2 in_J2 tyJ2 tyJ2_ok nmJ2 S.2.2.2.1 hK hP hD hS 0 rfl rfl 2 (Nat.le_of_ble_eq_true rfl) (S.2.2.2.2 _ fl_J2_48) (fun _ h9 => h9) rfl (by decide +kernel) rfl rfl (Nat.le_of_ble_eq_true rfl) dJ2_add_2_19 (fun H locs hP hD hS => ?_)
  have hP : va_P D vwCl [(b, .inr (2, [.int mc, .ref qn, .int (nI 11)])), (ed, .inl (dA 5, 10, .inr (.inr (.inr (.inr f))))), (qn, .inl (dA 5, 15, .inr (.inr (.inr (.inr (va_up (va_cpy f (fun _ => none) 0 0 10) 10 (some g)))))))] H := hP
  have hD : va_D (fun q => q = b ∨ (q = ed ∨ sz ≤ q)) [(b, .inr (2, [.int mc, .ref qn, .int (nI 11)])), (ed, .inl (dA 5, 10, .inr (.inr (.inr (.inr f))))), (qn, .inl (dA 5, 15, .inr (.inr (.inr (.inr (va_up (va_cpy f (fun _ => none) 0 0 10) 10 (some g)))))))] := hD
  exact g_vret S hr hlk hS dJ2_add_2_22 ⟨Nat.le_of_ble_eq_true rfl, Nat.le_of_ble_eq_true rfl⟩ (⟨qn, hqn, hbq, heq, rfl, hP⟩)
set_option maxHeartbeats 4000000 in
theorem gj_addT (l : Launch) (D : va_G) (dA : Nat → ClassId) (mi zs zf : Nat) (b ed sz : Nat) (mc : Int32) (f : Nat → Option Nat) (hbe : b ≠ ed) (hbl : b < sz) (hedl : ed < sz) (hRl : ∀ i, i < 10 → ∀ y, f i = some y → y < sz) (g : Nat) (hg : g < sz) (hgb : g ≠ b ∧ g ≠ ed) : GC l yJ2_add cJ2_add 2 (some .boolean) 6 170 1 15 (K4 D dA mi zs zf) [.ref b, .ref g] (fun H => va_P D vwCl [(b, .inr (2, [.int mc, .ref ed, .int (nI 10)])), (ed, .inl (dA 5, 10, .inr (.inr (.inr (.inr f)))))] H ∧ sz ≤ H.size ∧ anyR D g H ∧ (∀ i, i < 10 → ∀ y, f i = some y → anyR D y H ∧ (y ≠ b ∧ y ≠ ed))) (fun q => q = b ∨ (q = ed ∨ sz ≤ q)) (fun v9 H => ∃ qn, sz ≤ qn ∧ b ≠ qn ∧ ed ≠ qn ∧ v9 = some (.int 1) ∧ va_P D vwCl [(b, .inr (2, [.int (mc + 1), .ref qn, .int (nI 11)])), (ed, .inl (dA 5, 10, .inr (.inr (.inr (.inr f))))), (qn, .inl (dA 5, 15, .inr (.inr (.inr (.inr (va_up (va_cpy f (fun _ => none) 0 0 10) 10 (some g)))))))] H) := by
  refine GC.of (by decide) (Nat.le_of_ble_eq_true rfl) ?_
  intro p e s m below meth c ls S hr hlk hnm hK2 hPre hl
  have hK := hK2.1.1
  have hx := S.1
  have hb := S.2.1
  have hl : lv_has ls 2 [(0, .ref b), (1, .ref g)] := hl
  have hS : va_S (fun q => q = b ∨ (q = ed ∨ sz ≤ q)) s.heap s.heap [] := va_S.rf
  obtain ⟨hP, hsz, hAny, hR⟩ := hPre
  have hD : va_D (fun q => q = b ∨ (q = ed ∨ sz ≤ q)) [(b, .inr (2, [.int mc, .ref ed, .int (nI 10)])), (ed, .inl (dA 5, 10, .inr (.inr (.inr (.inr f)))))] := D2 (Or.inl rfl) (Or.inr (Or.inl rfl)) hbe
  refine lv_aload_n hx hb dJ2_add_0 rfl (lv_at hl 0 rfl) ?_
  refine lv_dup hx hb dJ2_add_1 rfl ?_
  refine va_get (v := .int mc) (D := D) (ci := 2) (C := RJ2) (T := TJ2) (N := 3) S.1 S.2.1 S.2.2.2.2 in_J2 S.2.2.2.1 hK hP 0 rfl rfl 0 (by decide) (S.2.2.2.2 _ q119) (fun x9 h9 => u_same (S.2.2.2.2 _ q120) x9 h9) rfl dJ2_add_2 ?_
  refine lv_iconst (v := 1) hx hb dJ2_add_5 (by decide) ?_
  refine lv_iadd hx hb dJ2_add_6 ?_
  refine va_put (v := .int (mc + 1)) (D := D) (ci := 2) (C := RJ2) (T := TJ2) (N := 3) (ty := .int) S.1 S.2.1 S.2.2.2.2 in_J2 tyJ2 tyJ2_ok nmJ2 S.2.2.2.1 hK hP hD hS 0 rfl rfl 0 (Nat.le_of_ble_eq_true rfl) (S.2.2.2.2 _ q119) (fun x9 h9 => u_same (S.2.2.2.2 _ q120) x9 h9) rfl (by decide +kernel) rfl rfl (Nat.le_of_ble_eq_true rfl) dJ2_add_7 (fun H locs hP hD hS => ?_)
  have hP : va_P D vwCl [(b, .inr (2, [.int (mc + 1), .ref ed, .int (nI 10)])), (ed, .inl (dA 5, 10, .inr (.inr (.inr (.inr f)))))] H := hP
  have hD : va_D (fun q => q = b ∨ (q = ed ∨ sz ≤ q)) [(b, .inr (2, [.int (mc + 1), .ref ed, .int (nI 10)])), (ed, .inl (dA 5, 10, .inr (.inr (.inr (.inr f)))))] := hD
  refine lv_aload_n hx hb dJ2_add_10 rfl (lv_at hl 0 rfl) ?_
  refine lv_aload_n hx hb dJ2_add_11 rfl (lv_at hl 1 rfl) ?_
  refine lv_aload_n hx hb dJ2_add_12 rfl (lv_at hl 0 rfl) ?_
  refine l_get (v := .ref ed) S hK hP 0 rfl 1 (by decide) fl_J2_9 rfl dJ2_add_13 rfl ?_
  refine lv_aload_n hx hb dJ2_add_16 rfl (lv_at hl 0 rfl) ?_
  refine l_get (v := .int (nI 10)) S hK hP 0 rfl 2 (by decide) fl_J2_48 rfl dJ2_add_17 rfl ?_
  refine gc_V (rest := []) [.ref g, .ref ed, .int (nI 10)] 3 S Wm_K4 hK2 hS (fun q h => h) (gj_add2T l D dA mi zs zf b ed sz (mc + 1) f hbe hbl hedl hRl g hg hgb) wl_J2_131 wd_J2_J2_add_2 rfl ⟨Nat.le_of_ble_eq_true rfl, Nat.le_of_ble_eq_true rfl⟩ (va_recv hK hP (ci := 2) (q0 := 0) rfl rfl) hl.1 (Nat.le_of_ble_eq_true rfl) dJ2_add_20 ⟨Nat.le_of_ble_eq_true rfl, Nat.le_of_ble_eq_true rfl⟩ (⟨hP, Nat.le_trans hsz hS.1, hAny.keep hS (by intro h9; rcases h9 with h9 | h9 | h9; exact hgb.1 h9; exact hgb.2 h9; omega), fun i hi y hy => ⟨(hR i hi y hy).1.keep hS (by intro h9; rcases h9 with h9 | h9 | h9; exact (hR i hi y hy).2.1 h9; exact (hR i hi y hy).2.2 h9; have := hRl i hi y hy; omega), (hR i hi y hy).2⟩⟩) (fun v9 H locs hp9 hz9 ho9 hS => ?_) rfl
  obtain ⟨qn, hqn, hbq, heq, rfl, hP⟩ := hp9
  refine W.eq (g2 := F0 m 23 ls []) rfl ?_
  refine lv_iconst (v := 1) hx hb dJ2_add_23 (by decide) ?_
  exact g_zret S hr hlk hS dJ2_add_24 ⟨Nat.le_of_ble_eq_true rfl, Nat.le_of_ble_eq_true rfl⟩ (by decide) (⟨qn, hqn, hbq, heq, rfl, hP⟩)
