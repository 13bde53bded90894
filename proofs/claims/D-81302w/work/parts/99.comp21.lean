/-! COMPONENT 21: the list grows (by program: gen/comp21.py) -/
set_option maxRecDepth 100000
set_option maxHeartbeats 4000000 in
theorem rj_newLen (l : Launch) (D : va_G) (dA : Nat → ClassId)  : RC l yJ16_newLength cJ16_newLength 4 (some .int) 1 24 D dA [.int 10, .int 1, .int 5] (fun _ => True) (fun v9 => v9 = some (.int 15)) := by
  refine RC.of (by decide) (Nat.le_of_ble_eq_true rfl) ?_
  intro p e s m below meth c ls S hr hlk hK hP hl
  have hx := S.1
  have hb := S.2.1
  have hl : lv_has ls 4 [(0, .int 10), (1, .int 1), (2, .int 5)] := hl
  refine lv_iload_n hx hb dJ16_newLength_0 rfl (lv_at hl 0 rfl) ?_
  refine lv_iload_n hx hb dJ16_newLength_1 rfl (lv_at hl 1 rfl) ?_
  refine lv_iload_n hx hb dJ16_newLength_2 rfl (lv_at hl 2 rfl) ?_
  refine va_mmax (rest := [.int 10]) S.1 S.2.1 (S.2.2.1.trans hl.1.symm) S.2.2.2.1 (S.2.2.2.2 _ q367) (S.2.2.2.2 _ q368) (S.2.2.2.2 _ q78) (S.2.2.2.2 _ q369) (Nat.le_of_ble_eq_true rfl) (Nat.le_of_ble_eq_true rfl) (Nat.le_of_ble_eq_true rfl) (Nat.le_of_ble_eq_true rfl) dJ16_newLength_3 ?_
  refine W.eq (g2 := F0 m 6 ls [.int (mxI 1 5), .int 10]) rfl ?_
  refine lv_iadd hx hb dJ16_newLength_6 ?_
  refine topi (z := 15) (by decide) ?_
  refine lv_istore_n (lv' := [(3, .int 15), (0, .int 10), (1, .int 1), (2, .int 5)]) hx hb dJ16_newLength_7 rfl hl (by decide) rfl (fun ls hl => ?_)
  refine lv_iconst (v := 0) hx hb dJ16_newLength_8 (by decide) ?_
  refine lv_iload_n hx hb dJ16_newLength_9 rfl (lv_at hl 0 rfl) ?_
  refine lv_icmp_ge (tgt := 21) hx hb dJ16_newLength_10 (by decide) (fun c_10 => absurd c_10 (by decide)) (fun c_10 => ?_)
  refine lv_iload_n hx hb dJ16_newLength_13 rfl (lv_at hl 0 rfl) ?_
  refine lv_ldc (v := 2147483639) hx hb S.2.2.2.1 (S.2.2.2.2 _ q370) dJ16_newLength_14 ?_
  refine lv_icmp_gt (tgt := 21) hx hb dJ16_newLength_16 (by decide) (fun c_16 => absurd c_16 (by decide)) (fun c_16 => ?_)
  refine lv_iload_n hx hb dJ16_newLength_19 rfl (lv_at hl 0 rfl) ?_
  exact r_iret S hr hlk dJ16_newLength_20 (congrArg (fun z : Int32 => some (Value.int z)) (show 15 = 15 from rfl))
set_option maxHeartbeats 4000000 in
theorem gj_copy2 (l : Launch) (D : va_G) (dA : Nat → ClassId) (mi zs zf : Nat) (ed sz : Nat) (f : Nat → Option Nat) (hRl : ∀ i, i < 10 → ∀ y, f i = some y → y < sz) : GC l yJ17_copyOf_2 cJ17_copyOf_2 4 (some (.array (Jvm.ClassFile.FieldType.object "java/lang/Object"))) 1 60 1 15 (K4 D dA mi zs zf) [.ref ed, .int 15, .ref mi] (fun H => va_P D vwCl [(ed, .inl (dA 5, 10, .inr (.inr (.inr (.inr f)))))] H ∧ sz ≤ H.size ∧ (∀ i, i < 10 → ∀ y, f i = some y → anyR D y H ∧ y ≠ ed)) (fun q => q = ed ∨ sz ≤ q) (fun v9 H => ∃ qn, sz ≤ qn ∧ v9 = some (.ref qn) ∧ va_P D vwCl [(ed, .inl (dA 5, 10, .inr (.inr (.inr (.inr f))))), (qn, .inl (dA 5, 15, .inr (.inr (.inr (.inr (va_cpy f (fun _ => none) 0 0 10))))))] H) := by
  refine GC.of (by decide) (Nat.le_of_ble_eq_true rfl) ?_
  intro p e s m below meth c ls S hr hlk hnm hK2 hPre hl
  have hK := hK2.1.1
  have hx := S.1
  have hb := S.2.1
  have hl : lv_has ls 4 [(0, .ref ed), (1, .int 15), (2, .ref mi)] := hl
  have hS : va_S (fun q => q = ed ∨ sz ≤ q) s.heap s.heap [] := va_S.rf
  obtain ⟨hP, hsz, hR⟩ := hPre
  have hD : va_D (fun q => q = ed ∨ sz ≤ q) [(ed, .inl (dA 5, 10, .inr (.inr (.inr (.inr f)))))] := D1 (Or.inl rfl)
  refine lv_aload_n hx hb dJ17_copyOf_2_0 rfl (lv_at hl 2 rfl) ?_
  refine va_ldcM S.1 S.2.1 S.2.2.2.1 (S.2.2.2.2 _ q403) hK2.2.2.1 dJ17_copyOf_2_1 ?_
  refine lv_acmp_ne (rx := some mi) (ry := some mi) (tgt := 13) hx hb dJ17_copyOf_2_3 (by decide) (fun h9 => absurd rfl h9) (fun _ => ?_)
  refine lv_iload_n hx hb dJ17_copyOf_2_6 rfl (lv_at hl 1 rfl) ?_
  refine va_newq (N' := 15) S.1 S.2.1 S.2.2.2.1 (S.2.2.2.2 _ q405) hK2.2.1 hK hP hD hS (fun q h => Or.inr (Nat.le_trans hsz h)) (by decide) (by decide) (by decide) (Nat.le_of_ble_eq_true rfl) (Nat.le_of_ble_eq_true rfl) dJ17_copyOf_2_7 (fun qn cA H hKn hP hD hS => ?_)
  obtain rfl := K_o hKn
  have hP : va_P D vwCl [(ed, .inl (dA 5, 10, .inr (.inr (.inr (.inr f))))), (qn, .inl (dA 5, 15, .inr (.inr (.inr (.inr (fun _ => none))))))] H := hP
  have hD : va_D (fun q => q = ed ∨ sz ≤ q) [(ed, .inl (dA 5, 10, .inr (.inr (.inr (.inr f))))), (qn, .inl (dA 5, 15, .inr (.inr (.inr (.inr (fun _ => none))))))] := hD
  refine lv_goto (tgt := 24) hx hb dJ17_copyOf_2_10 (by decide) ?_
  refine lv_astore_n (lv' := [(3, .ref qn), (0, .ref ed), (1, .int 15), (2, .ref mi)]) hx hb dJ17_copyOf_2_24 rfl hl (by decide) rfl (fun ls hl => ?_)
  refine lv_aload_n hx hb dJ17_copyOf_2_25 rfl (lv_at hl 1 rfl) ?_
  refine lv_iconst (v := 0) hx hb dJ17_copyOf_2_26 (by decide) ?_
  refine lv_aload_n hx hb dJ17_copyOf_2_27 rfl (lv_at hl 0 rfl) ?_
  refine lv_iconst (v := 0) hx hb dJ17_copyOf_2_28 (by decide) ?_
  refine lv_aload_n hx hb dJ17_copyOf_2_29 rfl (lv_at hl 1 rfl) ?_
  refine va_alen (v := 10) S.1 S.2.1 hK hP 0 5 rfl rfl rfl dJ17_copyOf_2_30 ?_
  refine lv_iload_n hx hb dJ17_copyOf_2_31 rfl (lv_at hl 2 rfl) ?_
  refine va_mmin (rest := [.int 0, .ref qn, .int 0, .ref ed]) S.1 S.2.1 (S.2.2.1.trans hl.1.symm) S.2.2.2.1 (S.2.2.2.2 _ q406) (S.2.2.2.2 _ q407) (S.2.2.2.2 _ q78) (S.2.2.2.2 _ q408) (Nat.le_of_ble_eq_true rfl) (Nat.le_of_ble_eq_true rfl) (Nat.le_of_ble_eq_true rfl) (Nat.le_of_ble_eq_true rfl) dJ17_copyOf_2_32 ?_
  refine W.eq (g2 := F0 m 35 ls [.int (mnI 10 15), .int 0, .ref qn, .int 0, .ref ed]) rfl ?_
  refine topi (z := 10) (by decide) ?_
  refine va_copyM (rest := []) (E0 := "java/lang/Object") (E1 := "java/lang/Object") S.1 S.2.1 (S.2.2.1.trans hl.1.symm) S.2.2.2.1 (S.2.2.2.2 _ q409) (S.2.2.2.2 _ q411) (S.2.2.2.2 _ q410) (S.2.2.2.2 _ q77) hK hP hD hS 0 1 5 5 rfl rfl rfl rfl (by decide) (by decide) (by decide) (by decide) (by decide) (cp_el hR hRl hS hK2.1) (Nat.le_of_ble_eq_true rfl) (by decide) dJ17_copyOf_2_35 (fun H locs hP hD hS => ?_)
  rw [c0, c10] at hP hD
  have hP : va_P D vwCl [(ed, .inl (dA 5, 10, .inr (.inr (.inr (.inr f))))), (qn, .inl (dA 5, 15, .inr (.inr (.inr (.inr (va_cpy f (fun _ => none) 0 0 10))))))] H := hP
  have hD : va_D (fun q => q = ed ∨ sz ≤ q) [(ed, .inl (dA 5, 10, .inr (.inr (.inr (.inr f))))), (qn, .inl (dA 5, 15, .inr (.inr (.inr (.inr (va_cpy f (fun _ => none) 0 0 10))))))] := hD
  refine lv_aload_n hx hb dJ17_copyOf_2_38 rfl (lv_at hl 0 rfl) ?_
  exact g_aret S hr (by first | exact Or.inl ⟨_, rfl⟩ | exact Or.inr ⟨_, rfl⟩) hlk hS dJ17_copyOf_2_39 ⟨Nat.le_of_ble_eq_true rfl, Nat.le_of_ble_eq_true rfl⟩ (Or.inr ⟨_, rfl⟩) (⟨qn, (hD.2 1 _ rfl).resolve_left (fun h9 => absurd (hD.1 0 1 _ _ rfl rfl h9.symm) (by decide)), rfl, hP⟩)
set_option maxHeartbeats 4000000 in
theorem gj_copy (l : Launch) (D : va_G) (dA : Nat → ClassId) (mi zs zf : Nat) (ed sz : Nat) (f : Nat → Option Nat) (hRl : ∀ i, i < 10 → ∀ y, f i = some y → y < sz) : GC l yJ17_copyOf cJ17_copyOf 2 (some (.array (Jvm.ClassFile.FieldType.object "java/lang/Object"))) 2 83 1 15 (K4 D dA mi zs zf) [.ref ed, .int 15] (fun H => va_P D vwCl [(ed, .inl (dA 5, 10, .inr (.inr (.inr (.inr f)))))] H ∧ sz ≤ H.size ∧ (∀ i, i < 10 → ∀ y, f i = some y → anyR D y H ∧ y ≠ ed)) (fun q => q = ed ∨ sz ≤ q) (fun v9 H => ∃ qn, sz ≤ qn ∧ v9 = some (.ref qn) ∧ va_P D vwCl [(ed, .inl (dA 5, 10, .inr (.inr (.inr (.inr f))))), (qn, .inl (dA 5, 15, .inr (.inr (.inr (.inr (va_cpy f (fun _ => none) 0 0 10))))))] H) := by
  refine GC.of (by decide) (Nat.le_of_ble_eq_true rfl) ?_
  intro p e s m below meth c ls S hr hlk hnm hK2 hPre hl
  have hK := hK2.1.1
  have hx := S.1
  have hb := S.2.1
  have hl : lv_has ls 2 [(0, .ref ed), (1, .int 15)] := hl
  have hS : va_S (fun q => q = ed ∨ sz ≤ q) s.heap s.heap [] := va_S.rf
  obtain ⟨hP, hsz, hR⟩ := hPre
  refine lv_aload_n hx hb dJ17_copyOf_0 rfl (lv_at hl 0 rfl) ?_
  refine lv_iload_n hx hb dJ17_copyOf_1 rfl (lv_at hl 1 rfl) ?_
  refine lv_aload_n hx hb dJ17_copyOf_2 rfl (lv_at hl 0 rfl) ?_
  refine va_getC (rest := [.int 15, .ref ed]) (C := "[Ljava/lang/Object;") S.1 S.2.1 (S.2.2.1.trans hl.1.symm) S.2.2.2.1 (S.2.2.2.2 _ q377) (va_Dc.use (hK2.1.2.1 _ q1572 rfl)) (S.2.2.2.2 _ q1571) (S.2.2.2.2 _ q378) (S.2.2.2.2 _ q399) hK2.2.2.1 ⟨_, hP 0 _ rfl, rfl, va_nmO (hK.2 5 (dA 5, .object "java/lang/Object") rfl).2 (by decide)⟩ (Nat.le_of_ble_eq_true rfl) (Nat.le_of_ble_eq_true rfl) dJ17_copyOf_3 ?_
  refine gc_S (rest := []) [.ref ed, .int 15, .ref mi] 3 S Wm_K4 hK2 hS (fun q h => h) (gj_copy2 l D dA mi zs zf ed sz f hRl) wl_J17_300 wd_J17_J17_copyOf_2 rfl ⟨Nat.le_of_ble_eq_true rfl, Nat.le_of_ble_eq_true rfl⟩ hl.1 (Nat.le_of_ble_eq_true rfl) dJ17_copyOf_6 ⟨Nat.le_of_ble_eq_true rfl, Nat.le_of_ble_eq_true rfl⟩ (⟨hP, hsz, hR⟩) (fun v9 H locs hp9 hz9 ho9 hS => ?_) rfl
  obtain ⟨qn, hqn, rfl, hP⟩ := hp9
  refine W.eq (g2 := F0 m 9 ls [.ref qn]) rfl ?_
  exact g_aret S hr (by first | exact Or.inl ⟨_, rfl⟩ | exact Or.inr ⟨_, rfl⟩) hlk hS dJ17_copyOf_9 ⟨Nat.le_of_ble_eq_true rfl, Nat.le_of_ble_eq_true rfl⟩ (Or.inr ⟨_, rfl⟩) (⟨qn, hqn, rfl, hP⟩)
