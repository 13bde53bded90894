/-! COMPONENT 36: rows of sheets are made and written; need (by program: gen/comp36.py) -/
set_option maxRecDepth 100000
section ROWS
variable {p : Program} {l : Launch} {e : Env} {R : Room} {s : State} {m : MethodId} {args : Array Value} {below : List Frame} {meth : Method} {c : Code} {H : Heap} {locs : List Loc} {cells slots : Nat} {Q : State → Prop}
variable {cc : ByteArray} {pc nL : Nat} {ls : Array Slot} {rest : List Value} {D : va_G} {dA : Nat → ClassId} {a : Nat → Nat} {σ : MS} {A0 : Nat → Prop} {H0 : Heap} {own : String} {index : Nat}
theorem g_newb {N : Nat} {n : Int32} (S : CallFix p m c cc nL s args lw_all own) (hK : va_K D vwCl (tyL dA) s) (hS : va_S A0 H0 H locs) (hn : ¬ n < 0) (hN : n.toNatClampNeg = N) (hbytes : N * componentBytes .byte ≤ 536870912) (hcells : cells + 1 ≤ R.cells) (hslots : slots + N ≤ R.slots) (hdg : decode cc pc = .ok (.newarray .byte, 2))
    (kk : ∀ (q : Nat) (H1 : Heap), q = H.size → va_P D vwCl [(q, .inl (dA 2, N, .inl (fun _ => 0)))] H1 → H1.size = H.size + 1 → (∀ x, x < H.size → H1[x]? = H[x]?) → va_S A0 H0 H1 locs → W p l e R s m args below meth c H1 locs (cells + 1) (slots + N) Q (F0 m (pc + 2) ls (.ref q :: rest))) : W p l e R s m args below meth c H locs cells slots Q (F0 m pc ls (.int n :: rest)) := by
  refine va_newaK S.1 S.2.1 (atype := .byte) (S.2.2.2.2 _ q737) (g := F0 m pc ls (.int n :: rest)) rfl hdg rfl hn hN hbytes hcells hslots rfl (fun H1 cA h1 h2 h3 _ h5 => ?_)
  have hcA : cA = dA 2 := Option.some.inj ((show s.vm.findClass "[B" = some cA from (show "[" ++ FieldType.byte.toString = "[B" by decide +kernel) ▸ h5).symm.trans (va_nm_byte (hK.2 2 (dA 2, .byte) rfl).2))
  subst hcA
  refine kk H.size H1 rfl (fun k x hx => ?_) h2 h3 ⟨Nat.le_trans hS.1 (by omega), fun x g1 g2 => (h3 x (Nat.lt_of_lt_of_le g1 hS.1)).trans (hS.2.1 x g1 g2), hS.2.2⟩
  match k, hx with
  | 0, hx => cases hx; exact h1
  | k + 1, hx => simp at hx
theorem g_news {N : Nat} {n : Int32} (S : CallFix p m c cc nL s args lw_all own) (hK : va_K D vwCl (tyL dA) s) (hS : va_S A0 H0 H locs) (hn : ¬ n < 0) (hN : n.toNatClampNeg = N) (hbytes : N * componentBytes .short ≤ 536870912) (hcells : cells + 1 ≤ R.cells) (hslots : slots + N ≤ R.slots) (hdg : decode cc pc = .ok (.newarray .short, 2))
    (kk : ∀ (q : Nat) (H1 : Heap), q = H.size → va_P D vwCl [(q, .inl (dA 3, N, .inl (fun _ => 0)))] H1 → H1.size = H.size + 1 → (∀ x, x < H.size → H1[x]? = H[x]?) → va_S A0 H0 H1 locs → W p l e R s m args below meth c H1 locs (cells + 1) (slots + N) Q (F0 m (pc + 2) ls (.ref q :: rest))) : W p l e R s m args below meth c H locs cells slots Q (F0 m pc ls (.int n :: rest)) := by
  refine va_newaK S.1 S.2.1 (atype := .short) (S.2.2.2.2 _ q763) (g := F0 m pc ls (.int n :: rest)) rfl hdg rfl hn hN hbytes hcells hslots rfl (fun H1 cA h1 h2 h3 _ h5 => ?_)
  have hcA : cA = dA 3 := Option.some.inj ((show s.vm.findClass "[S" = some cA from (show "[" ++ FieldType.short.toString = "[S" by decide +kernel) ▸ h5).symm.trans (va_nm_short (hK.2 3 (dA 3, .short) rfl).2))
  subst hcA
  refine kk H.size H1 rfl (fun k x hx => ?_) h2 h3 ⟨Nat.le_trans hS.1 (by omega), fun x g1 g2 => (h3 x (Nat.lt_of_lt_of_le g1 hS.1)).trans (hS.2.1 x g1 g2), hS.2.2⟩
  match k, hx with
  | 0, hx => cases hx; exact h1
  | k + 1, hx => simp at hx
end ROWS
set_option maxHeartbeats 4000000 in
theorem g0_rowOf0 (l : Launch) (D : va_G) (dA : Nat → ClassId) (cT : ClassId) (zs zu ze : Nat) (N sz : Nat) (hN : N ≤ 60) : GC l yX0_rowOf cX0_rowOf 2 (some (.object "java/lang/Object")) 0 0 1 60 (K7 D dA cT zs zu ze) [.int 0, .int (nI N)] (fun H => sz ≤ H.size) (fun q => sz ≤ q) (fun v9 H => ∃ y, sz ≤ y ∧ v9 = some (.ref y) ∧ va_P D vwCl [(y, .inl (dA 2, N, .inl (fun _ => 0)))] H) := by
  refine GC.of (by decide) (Nat.le_of_ble_eq_true rfl) ?_
  intro p e s m below meth c ls S hr hlk hnm hK7 hPre hl
  have hK := hK7.1.1.1
  have hx := S.1
  have hb := S.2.1
  have hl : lv_has ls 2 [(0, .int 0), (1, .int (nI N))] := hl
  have hS : va_S (fun q => sz ≤ q) s.heap s.heap [] := va_S.rf
  refine lv_iload_n hx hb dX0_rowOf_0 rfl (lv_at hl 0 rfl) ?_
  refine lv_if_ne (tgt := 10) hx hb dX0_rowOf_1 (by decide) (fun c_1 => absurd (by decide) c_1) (fun c_1 => ?_)
  refine lv_iload_n hx hb dX0_rowOf_4 rfl (lv_at hl 1 rfl) ?_
  refine g_newb (N := N) (n := nI N) S hK hS (nI_pos (by omega)) (nI_clamp (by omega)) (by simp only [componentBytes]; omega) (Nat.le_of_ble_eq_true rfl) (by show 0 + N ≤ 60; omega) dX0_rowOf_5 (fun y H hy9 hPy hz1 ho1 hS => ?_)
  refine lv_goto (tgt := 24) hx hb dX0_rowOf_7 (by decide) ?_
  exact g_aret S hr (Or.inl ⟨_, rfl⟩) hlk hS dX0_rowOf_24 ⟨Nat.le_of_ble_eq_true rfl, by show 0 + N ≤ 60; omega⟩ (Or.inr ⟨_, rfl⟩) ⟨y, by rw [hy9]; exact hPre, rfl, hPy⟩
set_option maxHeartbeats 4000000 in
theorem g0_setIn0 (l : Launch) (D : va_G) (dA : Nat → ClassId) (cT : ClassId) (zs zu ze : Nat) (rk L i : Nat) (f : Nat → Int32) (hi : i < L) (hL : L < 2 ^ 31) (v : Int32) : GC l yX0_setIn cX0_setIn 3 none 0 0 0 0 (K7 D dA cT zs zu ze) [.ref rk, .int (nI i), .int v] (fun H => va_P D vwCl [(rk, .inl (dA 2, L, .inl f))] H) (fun q => q = rk) (fun v9 H => v9 = none ∧ va_P D vwCl [(rk, .inl (dA 2, L, .inl (upd f i (v.toInt8.toInt32))))] H) := by
  refine GC.of (by decide) (Nat.le_of_ble_eq_true rfl) ?_
  intro p e s m below meth c ls S hr hlk hnm hK7 hPre hl
  have hK := hK7.1.1.1
  have hx := S.1
  have hb := S.2.1
  have hl : lv_has ls 3 [(0, .ref rk), (1, .int (nI i)), (2, .int v)] := hl
  have hS : va_S (fun q => q = rk) s.heap s.heap [] := va_S.rf
  refine lv_aload_n hx hb dX0_setIn_0 rfl (lv_at hl 0 rfl) ?_
  refine instA S (S.2.2.2.2 _ q823) hPre (va_nm_byte (hK.2 2 (dA 2, .byte) rfl).2) dX0_setIn_1 ?_
  refine lv_if_eq (tgt := 18) hx hb dX0_setIn_4 (by decide) (fun c_1 => absurd c_1 (by decide)) (fun c_1 => ?_)
  refine lv_aload_n hx hb dX0_setIn_7 rfl (lv_at hl 0 rfl) ?_
  refine va_castA S.1 S.2.1 S.2.2.2.1 (S.2.2.2.2 _ q823) hPre 0 rfl (va_nm_byte (hK.2 2 (dA 2, .byte) rfl).2) dX0_setIn_8 ?_
  refine lv_iload_n hx hb dX0_setIn_11 rfl (lv_at hl 1 rfl) ?_
  refine lv_iload_n hx hb dX0_setIn_12 rfl (lv_at hl 2 rfl) ?_
  refine lv_i2b hx hb dX0_setIn_13 rfl ?_
  refine va_bast (i := nI i) S.1 S.2.1 hK hPre (D1 (A := fun q => q = rk) rfl) hS 0 2 rfl rfl (vp_in_nI (n := i) (N := L) hi hL) dX0_setIn_14 (fun H locs hP hD hS => ?_)
  refine lv_goto (tgt := 43) hx hb dX0_setIn_15 (by decide) ?_
  have hv : ∀ x, (upd f (nI i).toNatClampNeg x) = upd f i x := fun x => by rw [nI_clamp (by omega)]
  have hn : vp_nar .byte (v.toInt8.toInt32) = v.toInt8.toInt32 := by show (v.toInt8.toInt32).toInt8.toInt32 = _; simp
  refine g_vret S hr hlk hS dX0_setIn_43 ⟨Nat.le_refl _, Nat.le_refl _⟩ ⟨rfl, ?_⟩
  have hP : va_P D vwCl [(rk, .inl (dA 2, L, .inl (upd f (nI i).toNatClampNeg (vp_nar .byte (v.toInt8.toInt32)))))] H := hP
  rw [hv, hn] at hP
  exact hP
set_option maxHeartbeats 4000000 in
theorem g0_rowOf1 (l : Launch) (D : va_G) (dA : Nat → ClassId) (cT : ClassId) (zs zu ze : Nat) (N sz : Nat) (hN : N ≤ 60) : GC l yX0_rowOf cX0_rowOf 2 (some (.object "java/lang/Object")) 0 0 1 60 (K7 D dA cT zs zu ze) [.int 1, .int (nI N)] (fun H => sz ≤ H.size) (fun q => sz ≤ q) (fun v9 H => ∃ y, sz ≤ y ∧ v9 = some (.ref y) ∧ va_P D vwCl [(y, .inl (dA 3, N, .inl (fun _ => 0)))] H) := by
  refine GC.of (by decide) (Nat.le_of_ble_eq_true rfl) ?_
  intro p e s m below meth c ls S hr hlk hnm hK7 hPre hl
  have hK := hK7.1.1.1
  have hx := S.1
  have hb := S.2.1
  have hl : lv_has ls 2 [(0, .int 1), (1, .int (nI N))] := hl
  have hS : va_S (fun q => sz ≤ q) s.heap s.heap [] := va_S.rf
  refine lv_iload_n hx hb dX0_rowOf_0 rfl (lv_at hl 0 rfl) ?_
  refine lv_if_ne (tgt := 10) hx hb dX0_rowOf_1 (by decide) (fun c_1 => ?_) (fun c_1 => absurd c_1 (by decide))
  refine lv_iload_n hx hb dX0_rowOf_10 rfl (lv_at hl 0 rfl) ?_
  refine lv_iconst (v := 1) hx hb dX0_rowOf_11 (by decide) ?_
  refine lv_icmp_ne (tgt := 21) hx hb dX0_rowOf_12 (by decide) (fun c_2 => absurd (by decide) c_2) (fun c_2 => ?_)
  refine lv_iload_n hx hb dX0_rowOf_15 rfl (lv_at hl 1 rfl) ?_
  refine g_news (N := N) (n := nI N) S hK hS (nI_pos (by omega)) (nI_clamp (by omega)) (by simp only [componentBytes]; omega) (Nat.le_of_ble_eq_true rfl) (by show 0 + N ≤ 60; omega) dX0_rowOf_16 (fun y H hy9 hPy hz1 ho1 hS => ?_)
  refine lv_goto (tgt := 24) hx hb dX0_rowOf_18 (by decide) ?_
  exact g_aret S hr (Or.inl ⟨_, rfl⟩) hlk hS dX0_rowOf_24 ⟨Nat.le_of_ble_eq_true rfl, by show 0 + N ≤ 60; omega⟩ (Or.inr ⟨_, rfl⟩) ⟨y, by rw [hy9]; exact hPre, rfl, hPy⟩
set_option maxHeartbeats 4000000 in
theorem g0_setIn1 (l : Launch) (D : va_G) (dA : Nat → ClassId) (cT : ClassId) (zs zu ze : Nat) (rk L i : Nat) (f : Nat → Int32) (hi : i < L) (hL : L < 2 ^ 31) (v : Int32) : GC l yX0_setIn cX0_setIn 3 none 0 0 0 0 (K7 D dA cT zs zu ze) [.ref rk, .int (nI i), .int v] (fun H => va_P D vwCl [(rk, .inl (dA 3, L, .inl f))] H) (fun q => q = rk) (fun v9 H => v9 = none ∧ va_P D vwCl [(rk, .inl (dA 3, L, .inl (upd f i (v.toInt16.toInt32))))] H) := by
  refine GC.of (by decide) (Nat.le_of_ble_eq_true rfl) ?_
  intro p e s m below meth c ls S hr hlk hnm hK7 hPre hl
  have hK := hK7.1.1.1
  have hx := S.1
  have hb := S.2.1
  have hl : lv_has ls 3 [(0, .ref rk), (1, .int (nI i)), (2, .int v)] := hl
  have hS : va_S (fun q => q = rk) s.heap s.heap [] := va_S.rf
  refine lv_aload_n hx hb dX0_setIn_0 rfl (lv_at hl 0 rfl) ?_
  refine va_instNo S.1 S.2.1 S.2.2.2.1 (S.2.2.2.2 _ q823) (hK7.2.1 2 _ rfl) (rowCell hPre (va_nm_short (hK.2 3 (dA 3, .short) rfl).2)) dX0_setIn_1 ?_
  refine lv_if_eq (tgt := 18) hx hb dX0_setIn_4 (by decide) (fun c_1 => ?_) (fun c_1 => absurd (by decide) c_1)
  refine lv_aload_n hx hb dX0_setIn_18 rfl (lv_at hl 0 rfl) ?_
  refine instA S (S.2.2.2.2 _ q824) hPre (va_nm_short (hK.2 3 (dA 3, .short) rfl).2) dX0_setIn_19 ?_
  refine lv_if_eq (tgt := 36) hx hb dX0_setIn_22 (by decide) (fun c_1 => absurd c_1 (by decide)) (fun c_1 => ?_)
  refine lv_aload_n hx hb dX0_setIn_25 rfl (lv_at hl 0 rfl) ?_
  refine va_castA S.1 S.2.1 S.2.2.2.1 (S.2.2.2.2 _ q824) hPre 0 rfl (va_nm_short (hK.2 3 (dA 3, .short) rfl).2) dX0_setIn_26 ?_
  refine lv_iload_n hx hb dX0_setIn_29 rfl (lv_at hl 1 rfl) ?_
  refine lv_iload_n hx hb dX0_setIn_30 rfl (lv_at hl 2 rfl) ?_
  refine lv_i2s hx hb dX0_setIn_31 rfl ?_
  refine va_sast (i := nI i) S.1 S.2.1 hK hPre (D1 (A := fun q => q = rk) rfl) hS 0 3 rfl rfl (vp_in_nI (n := i) (N := L) hi hL) dX0_setIn_32 (fun H locs hP hD hS => ?_)
  refine lv_goto (tgt := 43) hx hb dX0_setIn_33 (by decide) ?_
  have hv : ∀ x, (upd f (nI i).toNatClampNeg x) = upd f i x := fun x => by rw [nI_clamp (by omega)]
  have hn : vp_nar .short (v.toInt16.toInt32) = v.toInt16.toInt32 := by show (v.toInt16.toInt32).toInt16.toInt32 = _; simp
  refine g_vret S hr hlk hS dX0_setIn_43 ⟨Nat.le_refl _, Nat.le_refl _⟩ ⟨rfl, ?_⟩
  have hP : va_P D vwCl [(rk, .inl (dA 3, L, .inl (upd f (nI i).toNatClampNeg (vp_nar .short (v.toInt16.toInt32)))))] H := hP
  rw [hv, hn] at hP
  exact hP
set_option maxHeartbeats 4000000 in
theorem g0_rowOf2 (l : Launch) (D : va_G) (dA : Nat → ClassId) (cT : ClassId) (zs zu ze : Nat) (N sz : Nat) (hN : N ≤ 60) : GC l yX0_rowOf cX0_rowOf 2 (some (.object "java/lang/Object")) 0 0 1 60 (K7 D dA cT zs zu ze) [.int 2, .int (nI N)] (fun H => sz ≤ H.size) (fun q => sz ≤ q) (fun v9 H => ∃ y, sz ≤ y ∧ v9 = some (.ref y) ∧ va_P D vwCl [(y, .inl (dA 0, N, .inl (fun _ => 0)))] H) := by
  refine GC.of (by decide) (Nat.le_of_ble_eq_true rfl) ?_
  intro p e s m below meth c ls S hr hlk hnm hK7 hPre hl
  have hK := hK7.1.1.1
  have hx := S.1
  have hb := S.2.1
  have hl : lv_has ls 2 [(0, .int 2), (1, .int (nI N))] := hl
  have hS : va_S (fun q => sz ≤ q) s.heap s.heap [] := va_S.rf
  refine lv_iload_n hx hb dX0_rowOf_0 rfl (lv_at hl 0 rfl) ?_
  refine lv_if_ne (tgt := 10) hx hb dX0_rowOf_1 (by decide) (fun c_1 => ?_) (fun c_1 => absurd c_1 (by decide))
  refine lv_iload_n hx hb dX0_rowOf_10 rfl (lv_at hl 0 rfl) ?_
  refine lv_iconst (v := 1) hx hb dX0_rowOf_11 (by decide) ?_
  refine lv_icmp_ne (tgt := 21) hx hb dX0_rowOf_12 (by decide) (fun c_2 => ?_) (fun c_2 => absurd c_2 (by decide))
  refine lv_iload_n hx hb dX0_rowOf_21 rfl (lv_at hl 1 rfl) ?_
  refine g_newi (N := N) (n := nI N) S hK hS (nI_pos (by omega)) (nI_clamp (by omega)) (by simp only [componentBytes]; omega) (Nat.le_of_ble_eq_true rfl) (by show 0 + N ≤ 60; omega) dX0_rowOf_22 (fun y H hy9 hPy hz1 ho1 hS => ?_)
  exact g_aret S hr (Or.inl ⟨_, rfl⟩) hlk hS dX0_rowOf_24 ⟨Nat.le_of_ble_eq_true rfl, by show 0 + N ≤ 60; omega⟩ (Or.inr ⟨_, rfl⟩) ⟨y, by rw [hy9]; exact hPre, rfl, hPy⟩
set_option maxHeartbeats 4000000 in
theorem g0_setIn2 (l : Launch) (D : va_G) (dA : Nat → ClassId) (cT : ClassId) (zs zu ze : Nat) (rk L i : Nat) (f : Nat → Int32) (hi : i < L) (hL : L < 2 ^ 31) (v : Int32) : GC l yX0_setIn cX0_setIn 3 none 0 0 0 0 (K7 D dA cT zs zu ze) [.ref rk, .int (nI i), .int v] (fun H => va_P D vwCl [(rk, .inl (dA 0, L, .inl f))] H) (fun q => q = rk) (fun v9 H => v9 = none ∧ va_P D vwCl [(rk, .inl (dA 0, L, .inl (upd f i (v))))] H) := by
  refine GC.of (by decide) (Nat.le_of_ble_eq_true rfl) ?_
  intro p e s m below meth c ls S hr hlk hnm hK7 hPre hl
  have hK := hK7.1.1.1
  have hx := S.1
  have hb := S.2.1
  have hl : lv_has ls 3 [(0, .ref rk), (1, .int (nI i)), (2, .int v)] := hl
  have hS : va_S (fun q => q = rk) s.heap s.heap [] := va_S.rf
  refine lv_aload_n hx hb dX0_setIn_0 rfl (lv_at hl 0 rfl) ?_
  refine va_instNo S.1 S.2.1 S.2.2.2.1 (S.2.2.2.2 _ q823) (hK7.2.1 4 _ rfl) (rowCell hPre (va_nm_int (hK.2 0 (dA 0, .int) rfl).2)) dX0_setIn_1 ?_
  refine lv_if_eq (tgt := 18) hx hb dX0_setIn_4 (by decide) (fun c_1 => ?_) (fun c_1 => absurd (by decide) c_1)
  refine lv_aload_n hx hb dX0_setIn_18 rfl (lv_at hl 0 rfl) ?_
  refine va_instNo S.1 S.2.1 S.2.2.2.1 (S.2.2.2.2 _ q824) (hK7.2.1 5 _ rfl) (rowCell hPre (va_nm_int (hK.2 0 (dA 0, .int) rfl).2)) dX0_setIn_19 ?_
  refine lv_if_eq (tgt := 36) hx hb dX0_setIn_22 (by decide) (fun c_1 => ?_) (fun c_1 => absurd (by decide) c_1)
  refine lv_aload_n hx hb dX0_setIn_36 rfl (lv_at hl 0 rfl) ?_
  refine va_castA S.1 S.2.1 S.2.2.2.1 (S.2.2.2.2 _ q636) hPre 0 rfl (va_nm_int (hK.2 0 (dA 0, .int) rfl).2) dX0_setIn_37 ?_
  refine lv_iload_n hx hb dX0_setIn_40 rfl (lv_at hl 1 rfl) ?_
  refine lv_iload_n hx hb dX0_setIn_41 rfl (lv_at hl 2 rfl) ?_
  refine va_iast (i := nI i) S.1 S.2.1 hK hPre (D1 (A := fun q => q = rk) rfl) hS 0 0 rfl rfl (vp_in_nI (n := i) (N := L) hi hL) dX0_setIn_42 (fun H locs hP hD hS => ?_)
  have hv : ∀ x, (upd f (nI i).toNatClampNeg x) = upd f i x := fun x => by rw [nI_clamp (by omega)]
  refine g_vret S hr hlk hS dX0_setIn_43 ⟨Nat.le_refl _, Nat.le_refl _⟩ ⟨rfl, ?_⟩
  have hP : va_P D vwCl [(rk, .inl (dA 0, L, .inl (upd f (nI i).toNatClampNeg v)))] H := hP
  rw [hv] at hP
  exact hP
theorem g0_rowOf (l : Launch) (D : va_G) (dA : Nat → ClassId) (cT : ClassId) (zs zu ze : Nat) (w N sz : Nat) (hw : w < 3) (hN : N ≤ 60) : GC l yX0_rowOf cX0_rowOf 2 (some (.object "java/lang/Object")) 0 0 1 60 (K7 D dA cT zs zu ze) [.int (nI w), .int (nI N)] (fun H => sz ≤ H.size) (fun q => sz ≤ q) (fun v9 H => ∃ y, sz ≤ y ∧ v9 = some (.ref y) ∧ rowP D dA y w N (fun _ => 0) H) := by
  match w, hw with
  | 0, _ => exact g0_rowOf0 l D dA cT zs zu ze N sz hN
  | 1, _ => exact g0_rowOf1 l D dA cT zs zu ze N sz hN
  | 2, _ => exact g0_rowOf2 l D dA cT zs zu ze N sz hN
theorem g0_setIn (l : Launch) (D : va_G) (dA : Nat → ClassId) (cT : ClassId) (zs zu ze : Nat) (w rk L i : Nat) (hw : w < 3) (f : Nat → Int32) (hi : i < L) (hL : L < 2 ^ 31) (v : Int32) : GC l yX0_setIn cX0_setIn 3 none 0 0 0 0 (K7 D dA cT zs zu ze) [.ref rk, .int (nI i), .int v] (rowP D dA rk w L f) (fun q => q = rk) (fun v9 H => v9 = none ∧ rowP D dA rk w L (upd f i (laneV (nI w) v)) H) := by
  match w, hw with
  | 0, _ => exact g0_setIn0 l D dA cT zs zu ze rk L i f hi hL v
  | 1, _ => exact g0_setIn1 l D dA cT zs zu ze rk L i f hi hL v
  | 2, _ => exact g0_setIn2 l D dA cT zs zu ze rk L i f hi hL v
set_option maxHeartbeats 4000000 in
theorem r0_need (l : Launch) (D : va_G) (dA : Nat → ClassId) : RC l yX0_need cX0_need 1 none 0 0 D dA [.int 1] (fun _ => True) (fun v9 => v9 = none) := by
  refine RC.of (by decide) (Nat.le_of_ble_eq_true rfl) ?_
  intro p e s m below meth c ls S hr hlk hK hP hl
  have hx := S.1
  have hb := S.2.1
  have hl : lv_has ls 1 [(0, .int 1)] := hl
  refine lv_iload_n hx hb dX0_need_0 rfl (lv_at hl 0 rfl) ?_
  refine lv_if_ne (tgt := 15) hx hb dX0_need_1 (by decide) (fun c_1 => ?_) (fun c_1 => absurd c_1 (by decide))
  exact W.vret S.1 S.2.1 hr (fun t ht _ => ⟨⟨_, rfl, rfl⟩, ht⟩) (fun q h => by cases h) dX0_need_15 hlk
set_option maxHeartbeats 4000000 in
theorem r0_rowIn (l : Launch) (D : va_G) (dA : Nat → ClassId) (a : Nat → Nat) (σ : MS) (sh : Shs) (so ro : Nat → Nat) (k : Nat) (hk : k < 4) : RC l yX0_rowIn cX0_rowIn 2 (some (.object "java/lang/Object")) 0 0 D dA [.ref (a 0), .int (nI k)] (fun H => va_P D vwCl (kW dA a σ) H ∧ SHT D dA (a 14) sh so ro H) (fun v9 => v9 = some (shV sh ro k)) := by
  refine RC.of (by decide) (Nat.le_of_ble_eq_true rfl) ?_
  intro p e s m below meth c ls S hr hlk hK hPre hl
  have hx := S.1
  have hb := S.2.1
  have hl : lv_has ls 2 [(0, .ref (a 0)), (1, .int (nI k))] := hl
  obtain ⟨hP, hSH⟩ := hPre
  refine lv_aload_n hx hb dX0_rowIn_0 rfl (lv_at hl 0 rfl) ?_
  refine k_get (v := .ref (a 14)) S hK hP 14 (by decide) fl_X0_41 rfl dX0_rowIn_1 rfl ?_
  refine lv_iload_n hx hb dX0_rowIn_4 rfl (lv_at hl 1 rfl) ?_
  refine va_aldq (i := nI k) S.1 S.2.1 hK hSH.1 0 4 rfl rfl (vp_in_nI (N := 4) hk (by decide)) dX0_rowIn_5 ?_
  rw [show shR sh so (nI k).toNatClampNeg = shR sh so k by rw [nI_clamp (by omega)]]
  cases hs : sh k with
  | none =>
    rw [show shR sh so k = none by unfold shR; rw [hs]; rfl]
    refine lv_ifnonnullN hx hb dX0_rowIn_6 ?_
    refine lv_null hx hb dX0_rowIn_9 ?_
    refine lv_goto (tgt := 22) hx hb dX0_rowIn_10 (by decide) ?_
    exact r_aret S hr (Or.inl ⟨_, rfl⟩) hlk dX0_rowIn_22 (Or.inl rfl) (by unfold shV; rw [hs]; rfl)
  | some q =>
    obtain ⟨w, L, f⟩ := q
    have hR : shR sh so k = some (so k) := by unfold shR; rw [hs]; rfl
    rw [hR]
    refine lv_ifnonnull (tgt := 13) hx hb dX0_rowIn_6 (by decide) ?_
    refine lv_aload_n hx hb dX0_rowIn_13 rfl (lv_at hl 0 rfl) ?_
    refine k_get (v := .ref (a 14)) S hK hP 14 (by decide) fl_X0_41 rfl dX0_rowIn_14 rfl ?_
    refine lv_iload_n hx hb dX0_rowIn_17 rfl (lv_at hl 1 rfl) ?_
    refine va_aldq (i := nI k) S.1 S.2.1 hK hSH.1 0 4 rfl rfl (vp_in_nI (N := 4) hk (by decide)) dX0_rowIn_18 ?_
    rw [show shR sh so (nI k).toNatClampNeg = some (so k) by rw [nI_clamp (by omega)]; exact hR]
    refine va_get (v := .ref (ro k)) (D := D) (ci := 6) (C := RX11) (T := TX11) (N := 1) S.1 S.2.1 S.2.2.2.2 in_X11 S.2.2.2.1 hK (hSH.2 k hk w L f hs).2.2.1 0 rfl rfl 0 (by decide) (S.2.2.2.2 _ fl_X0_270) (fun _ h9 => h9) rfl dX0_rowIn_19 ?_
    exact r_aret S hr (Or.inl ⟨_, rfl⟩) hlk dX0_rowIn_22 (Or.inr ⟨_, rfl⟩) (by unfold shV; rw [hs]; rfl)
