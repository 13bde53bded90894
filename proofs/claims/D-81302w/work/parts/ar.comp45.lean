/-! COMPONENT 45: cells are copied (by program: gen/comp45.py) -/
set_option maxRecDepth 100000
theorem shV_room {iv : Int32} {sh : Shs} {ro : Nat → Nat} {k : Nat} : (List.map (fun v => v.category) [Value.int iv, shV sh ro k]).sum ≤ 8 := by
  unfold shV
  cases sh k with
  | none => exact Nat.le_of_ble_eq_true rfl
  | some q => exact Nat.le_of_ble_eq_true rfl
section GCPY
variable {p : Program} {l : Launch} {e : Env} {R : Room} {s : State} {m : MethodId} {args : Array Value} {below : List Frame} {meth : Method} {c : Code} {H : Heap} {locs : List Loc} {cells slots : Nat} {Q : State → Prop} {A0 : Nat → Prop} {H0 : Heap} {D : va_G} {dA : Nat → ClassId}
variable {cc : ByteArray} {pc nL : Nat} {ls : Array Slot} {rest : List Value} {own : String} {index : Nat}
/-- cells of a row are copied: all other cells of the heap stay -/
theorem g_cpy (S : CallFix p m c cc nL s args lw_all own) (hlink : Cond.methodLink own index arraycopyName ∈ lw_all) (hK : va_K D vwCl (tyL dA) s) (hS : va_S A0 H0 H locs) {a0 a1 t n0 n1 : Nat} {f g : Nat → Int32} {ty : FieldType} (ht : (tyL dA)[t]? = some (dA t, ty)) (hprim : refKind ty = false) (hc0 : H[a0]? = some (vp_cell (dA t) (n0, .inl f))) (hc1 : H[a1]? = some (vp_cell (dA t) (n1, .inl g))) (hA : A0 a1)
    {sp dp n : Nat} (h4 : sp + n ≤ n0) (h5 : dp + n ≤ n1) (hn0 : n0 < 2 ^ 31) (hn1 : n1 < 2 ^ 31) (hfit : ∀ i, i < n → fits ty (.int (f (sp + i))) = true)
    (hsz : ls.size = nL) (hframes : 1 ≤ R.frames) (hlocals : (rest.map fun v => v.category).sum + (nativeFrameWords "java/lang/System" "arraycopy" 5 + 11) ≤ R.locals) (hdg : decode cc pc = .ok (.invokestatic index, 3))
    (kk : ∀ (H1 : Heap) (locs1 : List Loc), va_P D vwCl [(a1, .inl (dA t, n1, .inl (va_cpy f g sp dp n)))] H1 → H1.size = H.size → (∀ q, q ≠ a1 → H1[q]? = H[q]?) → va_S A0 H0 H1 locs1 → W p l e R s m args below meth c H1 locs1 cells slots Q (F0 m (pc + 3) ls rest)) : W p l e R s m args below meth c H locs cells slots Q (F0 m pc ls (.int (nI n) :: .int (nI dp) :: .ref a1 :: .int (nI sp) :: .ref a0 :: rest)) := by
  have e1 : (nI sp).toNatClampNeg = sp := nI_clamp (by omega)
  have e2 : (nI dp).toNatClampNeg = dp := nI_clamp (by omega)
  have e3 : (nI n).toNatClampNeg = n := nI_clamp (by omega)
  have i1 : (nI sp).toInt = (sp : Int) := nI_toInt (by omega)
  have i2 : (nI dp).toInt = (dp : Int) := nI_toInt (by omega)
  have i3 : (nI n).toInt = (n : Int) := nI_toInt (by omega)
  intro T hT X
  obtain ⟨-, k0, hk0, cm0, hkk0⟩ := (hK.2 t _ ht).1 n0 (fun j => .int (f j))
  obtain ⟨-, k1, hk1, cm1, hkk1⟩ := (hK.2 t _ ht).1 n1 (fun j => .int (g j))
  obtain ⟨vm', X', step⟩ := X.arraycopy S.1 S.2.2.2.1 (S.2.2.2.2 _ hlink) (S.2.2.2.2 _ q411) (S.2.2.2.2 _ q410) (S.2.2.2.2 _ q77) (src := a0) (dst := a1) (cs := vp_cell (dA t) (n0, .inl f)) (cd := vp_cell (dA t) (n1, .inl g)) (srcPos := nI sp) (destPos := nI dp) (n := nI n) (by rw [hT]; exact hc0) (by rw [hT]; exact hc1)
    (fun _ h => by cases h) (fun _ h => by cases h) (fun h => by cases h) (fun h => by cases h) hk0 hk1 hkk0 hkk1 (by simp [hprim]) (nI_pos (by omega)) (nI_pos (by omega)) (nI_pos (by omega))
    (by rw [i1, i3]; show ¬ _ > ((arrV (dA t) n0 (fun j => .int (f j))).slots.size : Int); rw [arrV_size]; omega)
    (by rw [i2, i3]; show ¬ _ > ((arrV (dA t) n1 (fun j => .int (g j))).slots.size : Int); rw [arrV_size]; omega)
    (fun vm₁ _ i hi => by
      rw [e3] at hi
      rw [e1]
      have e : (vp_cell (dA t) (n0, .inl f)).slots.getD (sp + i) .null = .int (f (sp + i)) := by
        show (arrV (dA t) n0 (fun j => .int (f j))).slots.getD _ _ = _
        rw [Array.getD_eq_getD_getElem?, arrV_read _ _ (by omega)]
        rfl
      refine ⟨?_, ?_⟩
      · rw [e]
        exact hfit i hi
      · rw [e]
        exact trivial)
    (g := F0 m pc ls (.int (nI n) :: .int (nI dp) :: .ref a1 :: .int (nI sp) :: .ref a0 :: rest)) rfl (hsz.trans S.2.2.1.symm) (rest := rest) rfl (by rw [S.2.1]; exact hdg) hframes (by show 2 * 0 + _ + _ ≤ _; omega)
  have e9 : copied (vp_cell (dA t) (n0, .inl f)) (vp_cell (dA t) (n1, .inl g)) (nI sp) (nI dp) (nI n) = vp_cell (dA t) (n1, .inl (va_cpy f g sp dp n)) := by
    have := va_copied (fun z => .int z) (dA t) (dA t) (n0 := n0) (n1 := n1) (sp := sp) (dp := dp) (n := n) f g h4
    show (vp_cell (dA t) (n1, .inl g)).storeRun (nI dp).toNatClampNeg ((vp_cell (dA t) (n0, .inl f)).stretch (nI sp).toNatClampNeg (nI n).toNatClampNeg) = _
    rw [e1, e2, e3]
    exact this
  rw [e9] at X' step
  have hl : a1 < H.size := (Array.getElem?_eq_some_iff.mp hc1).1
  have hheap : ((T.setVm vm').setCell a1 (vp_cell (dA t) (n1, .inl (va_cpy f g sp dp n)))).heap = H.setIfInBounds a1 (vp_cell (dA t) (n1, .inl (va_cpy f g sp dp n))) := by rw [← hT]; rfl
  have oq : ∀ q : Nat, q ≠ a1 → (H.setIfInBounds a1 (vp_cell (dA t) (n1, .inl (va_cpy f g sp dp n))))[q]? = H[q]? := fun q hq => by simp [Array.getElem?_setIfInBounds, Ne.symm hq]
  obtain ⟨t9, a9, b9⟩ := kk _ _ (fun k q hq => by
      match k, hq with
      | 0, hq => cases hq; show (H.setIfInBounds a1 _)[a1]? = some _; simp [Array.getElem?_setIfInBounds, hl]
      | k + 1, hq => simp at hq) (by simp) oq ⟨by simp; exact hS.1, fun q g1 g2 => by
      rw [oq q (fun e => g2 (by rw [e]; exact hA))]
      exact hS.2.1 q g1 g2, fun q hq => by
      rcases List.mem_append.mp hq with h | h
      · exact hS.2.2 q h
      · obtain ⟨z, -, hz⟩ := List.mem_map.mp h
        rw [← hz]
        exact hA⟩ _ hheap X'
  exact ⟨t9, step t9 a9, b9⟩
end GCPY
set_option maxHeartbeats 4000000 in
theorem t12_doneN (l : Launch) (hfl : NoTr l) (D : va_G) (dA : Nat → ClassId) (cT : ClassId) (zs zu ze : Nat) (a : Nat → Nat) (σ : MS) (sh : Shs) (so ro : Nat → Nat) (b k o sz : Nat) (iv jv nv : Int32) (hk : k < 4) (ho4 : o < 4) (hnul : sh k = none ∨ sh o = none) : TC l yX12_done cX12_done 1 (some .int) 12 10400 1 8 (K7 D dA cT zs zu ze) [.ref b] (fun H => va_P D vwCl [(b, .inr (9, [.ref (a 0), .int (nI k), .int iv, .int (nI o), .int jv, .int nv, .ref (a 0)]))] H ∧ va_P D vwCl (kW dA a σ) H ∧ SHT D dA (a 14) sh so ro H ∧ TH cT zs zu ze H ∧ H.size = sz) (fun q => sz ≤ q) "java/lang/NullPointerException" := by
  refine TC.of (by decide) (Nat.le_of_ble_eq_true rfl) ?_
  intro p e s m below meth c ls S hr hlk htab hK7 hPre hl
  have hK2 := hK7.1.1
  have hK := hK2.1
  have hx := S.1
  have hb := S.2.1
  have hl : lv_has ls 1 [(0, .ref b)] := hl
  have hS : va_S (fun q => sz ≤ q) s.heap s.heap [] := va_S.rf
  obtain ⟨hPb, hP, hSH, hTH, hsz⟩ := hPre
  refine W.adm (fun hadm => ?_)
  refine lv_aload_n hx hb dX12_done_0 rfl (lv_at hl 0 rfl) ?_
  refine va_get (v := .ref (a 0)) (D := D) (ci := 9) (C := RX12) (T := TX12) (N := 7) S.1 S.2.1 S.2.2.2.2 in_X12 S.2.2.2.1 hK hPb 0 rfl rfl 6 (by decide) (S.2.2.2.2 _ q1019) (fun _ h9 => h9) rfl dX12_done_1 ?_
  refine lv_aload_n hx hb dX12_done_4 rfl (lv_at hl 0 rfl) ?_
  refine va_get (v := .int (nI k)) (D := D) (ci := 9) (C := RX12) (T := TX12) (N := 7) S.1 S.2.1 S.2.2.2.2 in_X12 S.2.2.2.1 hK hPb 0 rfl rfl 1 (by decide) (S.2.2.2.2 _ q1014) (fun _ h9 => h9) rfl dX12_done_5 ?_
  refine rc2_VN (b := a 0) (C := RX0) (rest := []) [.int (nI k)] 1 S hK2 (RC.k2 (r0_rowIn l D dA a σ sh so ro k hk)) q846 q60 (hK2.2.1 _ q916 rfl) q845 qs27 (by decide +kernel) rfl ⟨Nat.le_of_ble_eq_true rfl, Nat.le_of_ble_eq_true rfl⟩ (k_recv hK hP) hl.1 (Nat.le_of_ble_eq_true rfl) dX12_done_8 ⟨Nat.le_of_ble_eq_true rfl, Nat.le_of_ble_eq_true rfl⟩ ⟨hP, hSH⟩ (fun v9 hv9 => ?_) rfl
  subst hv9
  refine W.eq (g2 := F0 m 11 ls (shV sh ro k :: [])) rfl ?_
  refine lv_aload_n hx hb dX12_done_11 rfl (lv_at hl 0 rfl) ?_
  refine va_get (v := .int iv) (D := D) (ci := 9) (C := RX12) (T := TX12) (N := 7) S.1 S.2.1 S.2.2.2.2 in_X12 S.2.2.2.1 hK hPb 0 rfl rfl 2 (by decide) (S.2.2.2.2 _ q1015) (fun _ h9 => h9) rfl dX12_done_12 ?_
  refine lv_aload_n hx hb dX12_done_15 rfl (lv_at hl 0 rfl) ?_
  refine va_get (v := .ref (a 0)) (D := D) (ci := 9) (C := RX12) (T := TX12) (N := 7) S.1 S.2.1 S.2.2.2.2 in_X12 S.2.2.2.1 hK hPb 0 rfl rfl 6 (by decide) (S.2.2.2.2 _ q1019) (fun _ h9 => h9) rfl dX12_done_16 ?_
  refine lv_aload_n hx hb dX12_done_19 rfl (lv_at hl 0 rfl) ?_
  refine va_get (v := .int (nI o)) (D := D) (ci := 9) (C := RX12) (T := TX12) (N := 7) S.1 S.2.1 S.2.2.2.2 in_X12 S.2.2.2.1 hK hPb 0 rfl rfl 3 (by decide) (S.2.2.2.2 _ q1016) (fun _ h9 => h9) rfl dX12_done_20 ?_
  refine rc2_VN (b := a 0) (C := RX0) (rest := [.int iv, shV sh ro k]) [.int (nI o)] 1 S hK2 (RC.k2 (r0_rowIn l D dA a σ sh so ro o ho4)) q846 q60 (hK2.2.1 _ q916 rfl) q845 qs27 (by decide +kernel) rfl ⟨Nat.le_of_ble_eq_true rfl, Nat.le_of_ble_eq_true rfl⟩ (k_recv hK hP) hl.1 shV_room dX12_done_23 ⟨Nat.le_of_ble_eq_true rfl, Nat.le_of_ble_eq_true rfl⟩ ⟨hP, hSH⟩ (fun v9 hv9 => ?_) rfl
  subst hv9
  refine W.eq (g2 := F0 m 26 ls (shV sh ro o :: [.int iv, shV sh ro k])) rfl ?_
  refine lv_aload_n hx hb dX12_done_26 rfl (lv_at hl 0 rfl) ?_
  refine va_get (v := .int jv) (D := D) (ci := 9) (C := RX12) (T := TX12) (N := 7) S.1 S.2.1 S.2.2.2.2 in_X12 S.2.2.2.1 hK hPb 0 rfl rfl 4 (by decide) (S.2.2.2.2 _ q1017) (fun _ h9 => h9) rfl dX12_done_27 ?_
  refine lv_aload_n hx hb dX12_done_30 rfl (lv_at hl 0 rfl) ?_
  refine va_get (v := .int nv) (D := D) (ci := 9) (C := RX12) (T := TX12) (N := 7) S.1 S.2.1 S.2.2.2.2 in_X12 S.2.2.2.1 hK hPb 0 rfl rfl 5 (by decide) (S.2.2.2.2 _ q1018) (fun _ h9 => h9) rfl dX12_done_31 ?_
  have hv : (shV sh ro k = .null ∧ (shV sh ro o = .null ∨ ∃ q, shV sh ro o = .ref q)) ∨ ((∃ q, shV sh ro k = .ref q) ∧ shV sh ro o = .null) := by
    unfold shV
    rcases hnul with h | h
    · rw [h]
      refine Or.inl ⟨rfl, ?_⟩
      cases sh o with
      | none => exact Or.inl rfl
      | some y => exact Or.inr ⟨_, rfl⟩
    · rw [h]
      cases sh k with
      | none => exact Or.inl ⟨rfl, Or.inl rfl⟩
      | some y => exact Or.inr ⟨⟨_, rfl⟩, rfl⟩
  refine wt_copyN (A0 := fun q => sz ≤ q) (H0 := s.heap) (rest := []) S q917 q411 q410 q77 (hfl e hadm) (npe_all S.2.2.2.2 hK7.1 hTH) (fun q h9 cell hc => absurd (Array.getElem?_eq_some_iff.mp hc).1 (by have h9 : sz ≤ q := h9; omega)) hv hl.1 (by decide) (Nat.le_of_ble_eq_true rfl) (Nat.le_of_ble_eq_true rfl) (Nat.le_of_ble_eq_true rfl) hS (fun q h => by show sz ≤ q; omega) dX12_done_34 (fun x9 H locs hx9 hz9 ho9 hS => ?_)
  exact WT.leave rfl rfl rfl htab hlk hx9 hS ⟨Nat.le_of_ble_eq_true rfl, Nat.le_of_ble_eq_true rfl⟩
theorem ase_ty : ∀ w u, w < 3 → u < 3 → w ≠ u → ((refKind (ldT w) != refKind (ldT u)) || (!refKind (ldT w) && ldT w != ldT u)) = true ∧ txOk (toString "arraycopy: type mismatch: can not copy " ++ toString (Native.java_lang_System.arraycopy.kindName (ldT w)) ++ toString "[] into " ++ toString (Native.java_lang_System.arraycopy.kindName (ldT u)) ++ toString "[]")
  | 0, 0, _, _, h => absurd rfl h
  | 0, 1, _, _, _ => ⟨by decide, by decide +kernel, by decide +kernel⟩
  | 0, 2, _, _, _ => ⟨by decide, by decide +kernel, by decide +kernel⟩
  | 1, 0, _, _, _ => ⟨by decide, by decide +kernel, by decide +kernel⟩
  | 1, 1, _, _, h => absurd rfl h
  | 1, 2, _, _, _ => ⟨by decide, by decide +kernel, by decide +kernel⟩
  | 2, 0, _, _, _ => ⟨by decide, by decide +kernel, by decide +kernel⟩
  | 2, 1, _, _, _ => ⟨by decide, by decide +kernel, by decide +kernel⟩
  | 2, 2, _, _, h => absurd rfl h
  | w + 3, _, h, _, _ => by omega
  | 0, u + 3, _, h, _ => by omega
  | 1, u + 3, _, h, _ => by omega
  | 2, u + 3, _, h, _ => by omega
set_option maxHeartbeats 4000000 in
theorem t12_doneA (l : Launch) (hfl : NoTr l) (D : va_G) (dA : Nat → ClassId) (cT : ClassId) (zs zu ze : Nat) (a : Nat → Nat) (σ : MS) (sh : Shs) (so ro : Nat → Nat) (b k o sz : Nat) (iv jv nv : Int32) (hk : k < 4) (ho4 : o < 4) (w u L M : Nat) (f g : Nat → Int32) (hsk : sh k = some (w, L, f)) (hso : sh o = some (u, M, g)) (hwu : w ≠ u) : TC l yX12_done cX12_done 1 (some .int) 12 10400 3 600 (K7 D dA cT zs zu ze) [.ref b] (fun H => va_P D vwCl [(b, .inr (9, [.ref (a 0), .int (nI k), .int iv, .int (nI o), .int jv, .int nv, .ref (a 0)]))] H ∧ va_P D vwCl (kW dA a σ) H ∧ SHT D dA (a 14) sh so ro H ∧ TH cT zs zu ze H ∧ H.size = sz) (fun q => sz ≤ q) "java/lang/ArrayStoreException" := by
  refine TC.of (by decide) (Nat.le_of_ble_eq_true rfl) ?_
  intro p e s m below meth c ls S hr hlk htab hK7 hPre hl
  have hK2 := hK7.1.1
  have hK := hK2.1
  have hx := S.1
  have hb := S.2.1
  have hl : lv_has ls 1 [(0, .ref b)] := hl
  have hS : va_S (fun q => sz ≤ q) s.heap s.heap [] := va_S.rf
  obtain ⟨hPb, hP, hSH, hTH, hsz⟩ := hPre
  refine W.adm (fun hadm => ?_)
  refine lv_aload_n hx hb dX12_done_0 rfl (lv_at hl 0 rfl) ?_
  refine va_get (v := .ref (a 0)) (D := D) (ci := 9) (C := RX12) (T := TX12) (N := 7) S.1 S.2.1 S.2.2.2.2 in_X12 S.2.2.2.1 hK hPb 0 rfl rfl 6 (by decide) (S.2.2.2.2 _ q1019) (fun _ h9 => h9) rfl dX12_done_1 ?_
  refine lv_aload_n hx hb dX12_done_4 rfl (lv_at hl 0 rfl) ?_
  refine va_get (v := .int (nI k)) (D := D) (ci := 9) (C := RX12) (T := TX12) (N := 7) S.1 S.2.1 S.2.2.2.2 in_X12 S.2.2.2.1 hK hPb 0 rfl rfl 1 (by decide) (S.2.2.2.2 _ q1014) (fun _ h9 => h9) rfl dX12_done_5 ?_
  refine rc2_VN (b := a 0) (C := RX0) (rest := []) [.int (nI k)] 1 S hK2 (RC.k2 (r0_rowIn l D dA a σ sh so ro k hk)) q846 q60 (hK2.2.1 _ q916 rfl) q845 qs27 (by decide +kernel) rfl ⟨Nat.le_of_ble_eq_true rfl, Nat.le_of_ble_eq_true rfl⟩ (k_recv hK hP) hl.1 (Nat.le_of_ble_eq_true rfl) dX12_done_8 ⟨Nat.le_of_ble_eq_true rfl, Nat.le_of_ble_eq_true rfl⟩ ⟨hP, hSH⟩ (fun v9 hv9 => ?_) rfl
  subst hv9
  refine W.eq (g2 := F0 m 11 ls (shV sh ro k :: [])) rfl ?_
  refine lv_aload_n hx hb dX12_done_11 rfl (lv_at hl 0 rfl) ?_
  refine va_get (v := .int iv) (D := D) (ci := 9) (C := RX12) (T := TX12) (N := 7) S.1 S.2.1 S.2.2.2.2 in_X12 S.2.2.2.1 hK hPb 0 rfl rfl 2 (by decide) (S.2.2.2.2 _ q1015) (fun _ h9 => h9) rfl dX12_done_12 ?_
  refine lv_aload_n hx hb dX12_done_15 rfl (lv_at hl 0 rfl) ?_
  refine va_get (v := .ref (a 0)) (D := D) (ci := 9) (C := RX12) (T := TX12) (N := 7) S.1 S.2.1 S.2.2.2.2 in_X12 S.2.2.2.1 hK hPb 0 rfl rfl 6 (by decide) (S.2.2.2.2 _ q1019) (fun _ h9 => h9) rfl dX12_done_16 ?_
  refine lv_aload_n hx hb dX12_done_19 rfl (lv_at hl 0 rfl) ?_
  refine va_get (v := .int (nI o)) (D := D) (ci := 9) (C := RX12) (T := TX12) (N := 7) S.1 S.2.1 S.2.2.2.2 in_X12 S.2.2.2.1 hK hPb 0 rfl rfl 3 (by decide) (S.2.2.2.2 _ q1016) (fun _ h9 => h9) rfl dX12_done_20 ?_
  refine rc2_VN (b := a 0) (C := RX0) (rest := [.int iv, shV sh ro k]) [.int (nI o)] 1 S hK2 (RC.k2 (r0_rowIn l D dA a σ sh so ro o ho4)) q846 q60 (hK2.2.1 _ q916 rfl) q845 qs27 (by decide +kernel) rfl ⟨Nat.le_of_ble_eq_true rfl, Nat.le_of_ble_eq_true rfl⟩ (k_recv hK hP) hl.1 shV_room dX12_done_23 ⟨Nat.le_of_ble_eq_true rfl, Nat.le_of_ble_eq_true rfl⟩ ⟨hP, hSH⟩ (fun v9 hv9 => ?_) rfl
  subst hv9
  refine W.eq (g2 := F0 m 26 ls (shV sh ro o :: [.int iv, shV sh ro k])) rfl ?_
  refine lv_aload_n hx hb dX12_done_26 rfl (lv_at hl 0 rfl) ?_
  refine va_get (v := .int jv) (D := D) (ci := 9) (C := RX12) (T := TX12) (N := 7) S.1 S.2.1 S.2.2.2.2 in_X12 S.2.2.2.1 hK hPb 0 rfl rfl 4 (by decide) (S.2.2.2.2 _ q1017) (fun _ h9 => h9) rfl dX12_done_27 ?_
  refine lv_aload_n hx hb dX12_done_30 rfl (lv_at hl 0 rfl) ?_
  refine va_get (v := .int nv) (D := D) (ci := 9) (C := RX12) (T := TX12) (N := 7) S.1 S.2.1 S.2.2.2.2 in_X12 S.2.2.2.1 hK hPb 0 rfl rfl 5 (by decide) (S.2.2.2.2 _ q1018) (fun _ h9 => h9) rfl dX12_done_31 ?_
  rw [show shV sh ro k = .ref (ro k) by unfold shV; rw [hsk]; rfl, show shV sh ro o = .ref (ro o) by unfold shV; rw [hso]; rfl]
  have hA1 := hSH.2 k hk w L f hsk
  have hA2 := hSH.2 o ho4 u M g hso
  have hc0 : s.heap[ro k]? = some (vp_cell (dA (ldA w)) (L, .inl f)) := hA1.2.2.2 0 _ rfl
  have hc1 : s.heap[ro o]? = some (vp_cell (dA (ldA u)) (M, .inl g)) := hA2.2.2.2 0 _ rfl
  obtain ⟨-, k0, hk0, cm0, hkk0⟩ := (hK.2 _ _ (ld_at w hA1.1)).1 L (fun j => .int (f j))
  obtain ⟨-, k1, hk1, cm1, hkk1⟩ := (hK.2 _ _ (ld_at u hA2.1)).1 M (fun j => .int (g j))
  refine wt_copyM (A0 := fun q => sz ≤ q) (H0 := s.heap) (rest := []) S q917 q411 q410 q77 (hfl e hadm) (by decide +kernel) (by decide +kernel) (by decide +kernel) (by decide +kernel) (ase_all S.2.2.2.2 hK7.1 hTH) (fun q h9 cell hc => absurd (Array.getElem?_eq_some_iff.mp hc).1 (by have h9 : sz ≤ q := h9; omega)) (ase_ty w u hA1.1 hA2.1 hwu).2 (fun U hU hal E acts hE => ?_) hl.1 (by decide) (by decide) (Nat.le_of_ble_eq_true rfl) (Nat.le_of_ble_eq_true rfl) (Nat.le_of_ble_eq_true rfl) hS (fun q h => by show sz ≤ q; omega) dX12_done_34 (fun x9 H locs k9 hk9 hx9 hz9 ho9 hS => ?_)
  · obtain ⟨k2, hk2, ek2⟩ := hal.2.2 _ _ hk0
    obtain ⟨k3, hk3, ek3⟩ := hal.2.2 _ _ hk1
    exact wp_copyA (cs := vp_cell (dA (ldA w)) (L, .inl f)) (cd := vp_cell (dA (ldA u)) (M, .inl g)) (by rw [hU]; exact hc0) (by rw [hU]; exact hc1) (fun _ h => by cases h) (fun _ h => by cases h) hk2 hk3 (by rw [ek2]; exact hkk0) (by rw [ek3]; exact hkk1) (ase_ty w u hA1.1 hA2.1 hwu).1 hE
  · exact WT.leave rfl rfl rfl htab hlk hx9 hS ⟨(Nat.le_of_ble_eq_true rfl), by show 0 + k9 ≤ 600; omega⟩
set_option maxHeartbeats 4000000 in
theorem t12_doneO (l : Launch) (hfl : NoTr l) (D : va_G) (dA : Nat → ClassId) (cT : ClassId) (zs zu ze : Nat) (a : Nat → Nat) (σ : MS) (sh : Shs) (so ro : Nat → Nat) (b k o sz : Nat) (iv jv nv : Int32) (hk : k < 4) (ho4 : o < 4) (w L M : Nat) (f g : Nat → Int32) (hsk : sh k = some (w, L, f)) (hso : sh o = some (w, M, g)) (hbad : iv < 0 ∨ jv < 0 ∨ nv < 0 ∨ iv.toInt + nv.toInt > L ∨ jv.toInt + nv.toInt > M) : TC l yX12_done cX12_done 1 (some .int) 12 10400 3 600 (K7 D dA cT zs zu ze) [.ref b] (fun H => va_P D vwCl [(b, .inr (9, [.ref (a 0), .int (nI k), .int iv, .int (nI o), .int jv, .int nv, .ref (a 0)]))] H ∧ va_P D vwCl (kW dA a σ) H ∧ SHT D dA (a 14) sh so ro H ∧ TH cT zs zu ze H ∧ H.size = sz) (fun q => sz ≤ q) "java/lang/ArrayIndexOutOfBoundsException" := by
  refine TC.of (by decide) (Nat.le_of_ble_eq_true rfl) ?_
  intro p e s m below meth c ls S hr hlk htab hK7 hPre hl
  have hK2 := hK7.1.1
  have hK := hK2.1
  have hx := S.1
  have hb := S.2.1
  have hl : lv_has ls 1 [(0, .ref b)] := hl
  have hS : va_S (fun q => sz ≤ q) s.heap s.heap [] := va_S.rf
  obtain ⟨hPb, hP, hSH, hTH, hsz⟩ := hPre
  refine W.adm (fun hadm => ?_)
  refine lv_aload_n hx hb dX12_done_0 rfl (lv_at hl 0 rfl) ?_
  refine va_get (v := .ref (a 0)) (D := D) (ci := 9) (C := RX12) (T := TX12) (N := 7) S.1 S.2.1 S.2.2.2.2 in_X12 S.2.2.2.1 hK hPb 0 rfl rfl 6 (by decide) (S.2.2.2.2 _ q1019) (fun _ h9 => h9) rfl dX12_done_1 ?_
  refine lv_aload_n hx hb dX12_done_4 rfl (lv_at hl 0 rfl) ?_
  refine va_get (v := .int (nI k)) (D := D) (ci := 9) (C := RX12) (T := TX12) (N := 7) S.1 S.2.1 S.2.2.2.2 in_X12 S.2.2.2.1 hK hPb 0 rfl rfl 1 (by decide) (S.2.2.2.2 _ q1014) (fun _ h9 => h9) rfl dX12_done_5 ?_
  refine rc2_VN (b := a 0) (C := RX0) (rest := []) [.int (nI k)] 1 S hK2 (RC.k2 (r0_rowIn l D dA a σ sh so ro k hk)) q846 q60 (hK2.2.1 _ q916 rfl) q845 qs27 (by decide +kernel) rfl ⟨Nat.le_of_ble_eq_true rfl, Nat.le_of_ble_eq_true rfl⟩ (k_recv hK hP) hl.1 (Nat.le_of_ble_eq_true rfl) dX12_done_8 ⟨Nat.le_of_ble_eq_true rfl, Nat.le_of_ble_eq_true rfl⟩ ⟨hP, hSH⟩ (fun v9 hv9 => ?_) rfl
  subst hv9
  refine W.eq (g2 := F0 m 11 ls (shV sh ro k :: [])) rfl ?_
  refine lv_aload_n hx hb dX12_done_11 rfl (lv_at hl 0 rfl) ?_
  refine va_get (v := .int iv) (D := D) (ci := 9) (C := RX12) (T := TX12) (N := 7) S.1 S.2.1 S.2.2.2.2 in_X12 S.2.2.2.1 hK hPb 0 rfl rfl 2 (by decide) (S.2.2.2.2 _ q1015) (fun _ h9 => h9) rfl dX12_done_12 ?_
  refine lv_aload_n hx hb dX12_done_15 rfl (lv_at hl 0 rfl) ?_
  refine va_get (v := .ref (a 0)) (D := D) (ci := 9) (C := RX12) (T := TX12) (N := 7) S.1 S.2.1 S.2.2.2.2 in_X12 S.2.2.2.1 hK hPb 0 rfl rfl 6 (by decide) (S.2.2.2.2 _ q1019) (fun _ h9 => h9) rfl dX12_done_16 ?_
  refine lv_aload_n hx hb dX12_done_19 rfl (lv_at hl 0 rfl) ?_
  refine va_get (v := .int (nI o)) (D := D) (ci := 9) (C := RX12) (T := TX12) (N := 7) S.1 S.2.1 S.2.2.2.2 in_X12 S.2.2.2.1 hK hPb 0 rfl rfl 3 (by decide) (S.2.2.2.2 _ q1016) (fun _ h9 => h9) rfl dX12_done_20 ?_
  refine rc2_VN (b := a 0) (C := RX0) (rest := [.int iv, shV sh ro k]) [.int (nI o)] 1 S hK2 (RC.k2 (r0_rowIn l D dA a σ sh so ro o ho4)) q846 q60 (hK2.2.1 _ q916 rfl) q845 qs27 (by decide +kernel) rfl ⟨Nat.le_of_ble_eq_true rfl, Nat.le_of_ble_eq_true rfl⟩ (k_recv hK hP) hl.1 shV_room dX12_done_23 ⟨Nat.le_of_ble_eq_true rfl, Nat.le_of_ble_eq_true rfl⟩ ⟨hP, hSH⟩ (fun v9 hv9 => ?_) rfl
  subst hv9
  refine W.eq (g2 := F0 m 26 ls (shV sh ro o :: [.int iv, shV sh ro k])) rfl ?_
  refine lv_aload_n hx hb dX12_done_26 rfl (lv_at hl 0 rfl) ?_
  refine va_get (v := .int jv) (D := D) (ci := 9) (C := RX12) (T := TX12) (N := 7) S.1 S.2.1 S.2.2.2.2 in_X12 S.2.2.2.1 hK hPb 0 rfl rfl 4 (by decide) (S.2.2.2.2 _ q1017) (fun _ h9 => h9) rfl dX12_done_27 ?_
  refine lv_aload_n hx hb dX12_done_30 rfl (lv_at hl 0 rfl) ?_
  refine va_get (v := .int nv) (D := D) (ci := 9) (C := RX12) (T := TX12) (N := 7) S.1 S.2.1 S.2.2.2.2 in_X12 S.2.2.2.1 hK hPb 0 rfl rfl 5 (by decide) (S.2.2.2.2 _ q1018) (fun _ h9 => h9) rfl dX12_done_31 ?_
  rw [show shV sh ro k = .ref (ro k) by unfold shV; rw [hsk]; rfl, show shV sh ro o = .ref (ro o) by unfold shV; rw [hso]; rfl]
  have hA1 := hSH.2 k hk w L f hsk
  have hA2 := hSH.2 o ho4 w M g hso
  have hc0 : s.heap[ro k]? = some (vp_cell (dA (ldA w)) (L, .inl f)) := hA1.2.2.2 0 _ rfl
  have hc1 : s.heap[ro o]? = some (vp_cell (dA (ldA w)) (M, .inl g)) := hA2.2.2.2 0 _ rfl
  obtain ⟨-, k0, hk0, cm0, hkk0⟩ := (hK.2 _ _ (ld_at w hA1.1)).1 L (fun j => .int (f j))
  obtain ⟨-, k1, hk1, cm1, hkk1⟩ := (hK.2 _ _ (ld_at w hA2.1)).1 M (fun j => .int (g j))
  have hbad2 : iv < 0 ∨ jv < 0 ∨ nv < 0 ∨ iv.toInt + nv.toInt > ((vp_cell (dA (ldA w)) (L, .inl f)).slots.size : Int) ∨ jv.toInt + nv.toInt > ((vp_cell (dA (ldA w)) (M, .inl g)).slots.size : Int) := by
    rw [show (vp_cell (dA (ldA w)) (L, .inl f)).slots.size = L from arrV_size _ _ _, show (vp_cell (dA (ldA w)) (M, .inl g)).slots.size = M from arrV_size _ _ _]
    exact hbad
  obtain ⟨text, htx, hwp⟩ := wp_copyO (e := e) (d := false) (src := ro k) (dst := ro o) (sp := iv) (dp := jv) (n := nv) (w := w) (cs := vp_cell (dA (ldA w)) (L, .inl f)) (cd := vp_cell (dA (ldA w)) (M, .inl g)) (fun _ h => by cases h) (fun _ h => by cases h) (by rw [show (vp_cell (dA (ldA w)) (L, .inl f)).slots.size = L from arrV_size _ _ _]; have := hA1.2.1; omega) (by rw [show (vp_cell (dA (ldA w)) (M, .inl g)).slots.size = M from arrV_size _ _ _]; have := hA2.2.1; omega) hbad2
  refine wt_copyM (A0 := fun q => sz ≤ q) (H0 := s.heap) (rest := []) S q917 q411 q410 q77 (hfl e hadm) (by decide +kernel) (by decide +kernel) (by decide +kernel) (by decide +kernel) (idx_all S.2.2.2.2 hK7.1 hTH) (fun q h9 cell hc => absurd (Array.getElem?_eq_some_iff.mp hc).1 (by have h9 : sz ≤ q := h9; omega)) htx (fun U hU hal E acts hE => ?_) hl.1 (by decide) (by decide) (Nat.le_of_ble_eq_true rfl) (Nat.le_of_ble_eq_true rfl) (Nat.le_of_ble_eq_true rfl) hS (fun q h => by show sz ≤ q; omega) dX12_done_34 (fun x9 H locs k9 hk9 hx9 hz9 ho9 hS => ?_)
  · obtain ⟨k2, hk2, ek2⟩ := hal.2.2 _ _ hk0
    obtain ⟨k3, hk3, ek3⟩ := hal.2.2 _ _ hk1
    exact hwp U k2 k3 cm0 cm1 (by rw [hU]; exact hc0) (by rw [hU]; exact hc1) hk2 hk3 (by rw [ek2]; exact hkk0) (by rw [ek3]; exact hkk1) E acts hE
  · exact WT.leave rfl rfl rfl htab hlk hx9 hS ⟨(Nat.le_of_ble_eq_true rfl), by show 0 + k9 ≤ 600; omega⟩
set_option maxHeartbeats 4000000 in
theorem g12_done (l : Launch) (D : va_G) (dA : Nat → ClassId) (cT : ClassId) (zs zu ze : Nat) (a : Nat → Nat) (σ : MS) (sh : Shs) (so ro : Nat → Nat) (b k o : Nat) (iv jv nv : Int32) (hk : k < 4) (ho4 : o < 4) (hbo : b ≠ ro o) (w L M i j n : Nat) (f g : Nat → Int32) (hsk : sh k = some (w, L, f)) (hso : sh o = some (w, M, g)) (hi : iv = nI i) (hj : jv = nI j) (hn : nv = nI n) (h4 : i + n ≤ L) (h5 : j + n ≤ M) (hfit : ∀ x, x < L → fits (ldT w) (.int (f x)) = true) : GC l yX12_done cX12_done 1 (some .int) 3 1200 0 0 (K7 D dA cT zs zu ze) [.ref b] (fun H => va_P D vwCl [(b, .inr (9, [.ref (a 0), .int (nI k), .int iv, .int (nI o), .int jv, .int nv, .ref (a 0)]))] H ∧ va_P D vwCl (kW dA a σ) H ∧ SHT D dA (a 14) sh so ro H) (fun q => q = ro o) (fun v9 H => v9 = some (.int nv) ∧ rowP D dA (ro o) w M (va_cpy f g i j n) H) := by
  refine GC.of (by decide) (Nat.le_of_ble_eq_true rfl) ?_
  intro p e s m below meth c ls S hr hlk hnm hK7 hPre hl
  have hK2 := hK7.1.1
  have hK := hK2.1
  have hx := S.1
  have hb := S.2.1
  have hl : lv_has ls 1 [(0, .ref b)] := hl
  have hS : va_S (fun q => q = ro o) s.heap s.heap [] := va_S.rf
  obtain ⟨hPb, hP, hSH⟩ := hPre
  refine lv_aload_n hx hb dX12_done_0 rfl (lv_at hl 0 rfl) ?_
  refine va_get (v := .ref (a 0)) (D := D) (ci := 9) (C := RX12) (T := TX12) (N := 7) S.1 S.2.1 S.2.2.2.2 in_X12 S.2.2.2.1 hK hPb 0 rfl rfl 6 (by decide) (S.2.2.2.2 _ q1019) (fun _ h9 => h9) rfl dX12_done_1 ?_
  refine lv_aload_n hx hb dX12_done_4 rfl (lv_at hl 0 rfl) ?_
  refine va_get (v := .int (nI k)) (D := D) (ci := 9) (C := RX12) (T := TX12) (N := 7) S.1 S.2.1 S.2.2.2.2 in_X12 S.2.2.2.1 hK hPb 0 rfl rfl 1 (by decide) (S.2.2.2.2 _ q1014) (fun _ h9 => h9) rfl dX12_done_5 ?_
  refine rc2_VN (b := a 0) (C := RX0) (rest := []) [.int (nI k)] 1 S hK2 (RC.k2 (r0_rowIn l D dA a σ sh so ro k hk)) q846 q60 (hK2.2.1 _ q916 rfl) q845 qs27 (by decide +kernel) rfl ⟨Nat.le_of_ble_eq_true rfl, Nat.le_of_ble_eq_true rfl⟩ (k_recv hK hP) hl.1 (Nat.le_of_ble_eq_true rfl) dX12_done_8 ⟨Nat.le_of_ble_eq_true rfl, Nat.le_of_ble_eq_true rfl⟩ ⟨hP, hSH⟩ (fun v9 hv9 => ?_) rfl
  subst hv9
  refine W.eq (g2 := F0 m 11 ls (shV sh ro k :: [])) rfl ?_
  refine lv_aload_n hx hb dX12_done_11 rfl (lv_at hl 0 rfl) ?_
  refine va_get (v := .int iv) (D := D) (ci := 9) (C := RX12) (T := TX12) (N := 7) S.1 S.2.1 S.2.2.2.2 in_X12 S.2.2.2.1 hK hPb 0 rfl rfl 2 (by decide) (S.2.2.2.2 _ q1015) (fun _ h9 => h9) rfl dX12_done_12 ?_
  refine lv_aload_n hx hb dX12_done_15 rfl (lv_at hl 0 rfl) ?_
  refine va_get (v := .ref (a 0)) (D := D) (ci := 9) (C := RX12) (T := TX12) (N := 7) S.1 S.2.1 S.2.2.2.2 in_X12 S.2.2.2.1 hK hPb 0 rfl rfl 6 (by decide) (S.2.2.2.2 _ q1019) (fun _ h9 => h9) rfl dX12_done_16 ?_
  refine lv_aload_n hx hb dX12_done_19 rfl (lv_at hl 0 rfl) ?_
  refine va_get (v := .int (nI o)) (D := D) (ci := 9) (C := RX12) (T := TX12) (N := 7) S.1 S.2.1 S.2.2.2.2 in_X12 S.2.2.2.1 hK hPb 0 rfl rfl 3 (by decide) (S.2.2.2.2 _ q1016) (fun _ h9 => h9) rfl dX12_done_20 ?_
  refine rc2_VN (b := a 0) (C := RX0) (rest := [.int iv, shV sh ro k]) [.int (nI o)] 1 S hK2 (RC.k2 (r0_rowIn l D dA a σ sh so ro o ho4)) q846 q60 (hK2.2.1 _ q916 rfl) q845 qs27 (by decide +kernel) rfl ⟨Nat.le_of_ble_eq_true rfl, Nat.le_of_ble_eq_true rfl⟩ (k_recv hK hP) hl.1 shV_room dX12_done_23 ⟨Nat.le_of_ble_eq_true rfl, Nat.le_of_ble_eq_true rfl⟩ ⟨hP, hSH⟩ (fun v9 hv9 => ?_) rfl
  subst hv9
  refine W.eq (g2 := F0 m 26 ls (shV sh ro o :: [.int iv, shV sh ro k])) rfl ?_
  refine lv_aload_n hx hb dX12_done_26 rfl (lv_at hl 0 rfl) ?_
  refine va_get (v := .int jv) (D := D) (ci := 9) (C := RX12) (T := TX12) (N := 7) S.1 S.2.1 S.2.2.2.2 in_X12 S.2.2.2.1 hK hPb 0 rfl rfl 4 (by decide) (S.2.2.2.2 _ q1017) (fun _ h9 => h9) rfl dX12_done_27 ?_
  refine lv_aload_n hx hb dX12_done_30 rfl (lv_at hl 0 rfl) ?_
  refine va_get (v := .int nv) (D := D) (ci := 9) (C := RX12) (T := TX12) (N := 7) S.1 S.2.1 S.2.2.2.2 in_X12 S.2.2.2.1 hK hPb 0 rfl rfl 5 (by decide) (S.2.2.2.2 _ q1018) (fun _ h9 => h9) rfl dX12_done_31 ?_
  rw [show shV sh ro k = .ref (ro k) by unfold shV; rw [hsk]; rfl, show shV sh ro o = .ref (ro o) by unfold shV; rw [hso]; rfl]
  have hA1 := hSH.2 k hk w L f hsk
  have hA2 := hSH.2 o ho4 w M g hso
  have hc0 : s.heap[ro k]? = some (vp_cell (dA (ldA w)) (L, .inl f)) := hA1.2.2.2 0 _ rfl
  have hc1 : s.heap[ro o]? = some (vp_cell (dA (ldA w)) (M, .inl g)) := hA2.2.2.2 0 _ rfl
  obtain ⟨-, k0, hk0, cm0, hkk0⟩ := (hK.2 _ _ (ld_at w hA1.1)).1 L (fun j => .int (f j))
  obtain ⟨-, k1, hk1, cm1, hkk1⟩ := (hK.2 _ _ (ld_at w hA2.1)).1 M (fun j => .int (g j))
  subst hi; subst hj; subst hn
  have hprim : refKind (ldT w) = false := by match w, hA1.1 with | 0, _ => rfl | 1, _ => rfl | 2, _ => rfl
  refine g_cpy (rest := []) S q917 hK hS (ld_at w hA1.1) hprim hc0 hc1 rfl h4 h5 (by have := hA1.2.1; omega) (by have := hA2.2.1; omega) (fun x hx => hfit _ (by omega)) hl.1 (Nat.le_of_ble_eq_true rfl) (by show 0 + _ ≤ 1200; exact Nat.le_of_ble_eq_true (by decide +kernel)) dX12_done_34 (fun H locs hPo hz1 ho1 hS => ?_)
  have hPb := hPb.off ho1 (one_ne hbo)
  refine lv_aload_n hx hb dX12_done_37 rfl (lv_at hl 0 rfl) ?_
  refine va_get (v := .int (nI n)) (D := D) (ci := 9) (C := RX12) (T := TX12) (N := 7) S.1 S.2.1 S.2.2.2.2 in_X12 S.2.2.2.1 hK hPb 0 rfl rfl 5 (by decide) (S.2.2.2.2 _ q1018) (fun _ h9 => h9) rfl dX12_done_38 ?_
  exact g_iret S hr hlk hS dX12_done_41 ⟨Nat.le_of_ble_eq_true rfl, Nat.le_of_ble_eq_true rfl⟩ ⟨rfl, hPo⟩
