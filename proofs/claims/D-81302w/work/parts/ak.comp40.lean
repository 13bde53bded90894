/-! COMPONENT 40: cells of a row (by program: gen/comp40.py) -/
set_option maxRecDepth 100000
section IAST
variable {p : Program} {l : Launch} {e : Env} {R : Room} {s : State} {m : MethodId} {args : Array Value} {below : List Frame} {meth : Method} {c : Code} {H : Heap} {locs : List Loc} {cells slots : Nat} {Q : State → Prop}
variable {cc : ByteArray} {pc nL : Nat} {ls : Array Slot} {rest : List Value} {D : va_G} {dA : Nat → ClassId} {A0 : Nat → Prop} {H0 : Heap} {own : String}
theorem g_iast (S : CallFix p m c cc nL s args lw_all own) (hK : va_K D vwCl (tyL dA) s) (hS : va_S A0 H0 H locs) {a n : Nat} {f : Nat → Int32} (hP : va_P D vwCl [(a, .inl (dA 0, n, .inl f))] H) (hA : A0 a) {i : Int32} {x : Int32} (hin : vp_in i n) (hdg : decode cc pc = .ok (.iastore, 1))
    (kk : ∀ (H1 : Heap) (locs1 : List Loc), va_P D vwCl [(a, .inl (dA 0, n, .inl (upd f i.toNatClampNeg x)))] H1 → H1.size = H.size → (∀ q, q ≠ a → H1[q]? = H[q]?) → va_S A0 H0 H1 locs1 → W p l e R s m args below meth c H1 locs1 cells slots Q (F0 m (pc + 1) ls rest)) : W p l e R s m args below meth c H locs cells slots Q (F0 m pc ls (.int x :: .int i :: .ref a :: rest)) := by
  refine W.iast S.1 S.2.1 (hP 0 _ rfl) ((hK.2 0 (dA 0, .int) rfl).1 n (fun j => .int (f j))) (fun q => by cases q) (by show ¬ (i < 0 ∨ (arrV _ _ _).slots.size ≤ _); rw [arrV_size]; exact hin) rfl rfl hdg fun H1 e z oq => ?_
  refine kk H1 _ (fun k q hq => ?_) z oq (hS.put z oq hA)
  match k, hq with
  | 0, hq =>
    cases hq
    show H1[a]? = some (vp_cell _ _)
    rw [e]
    rw [vp_cell_i, vp_cell_i, arrV_store]
    congr 2
    funext q
    by_cases hq : q = i.toNatClampNeg
    · subst hq
      simp [updV, upd]
    · simp [updV, upd, hq]
  | k + 1, hq => simp at hq
end IAST
theorem nI_subN {L N : Nat} (h : N ≤ L) : nI L - nI N = nI (L - N) := by
  rw [show nI L = nI (L - N) + nI N by rw [nI_add, Nat.sub_add_cancel h], Int32.add_sub_cancel]
set_option maxHeartbeats 4000000 in
theorem t0_cellsN (l : Launch) (hfl : NoTr l) (D : va_G) (dA : Nat → ClassId) (cT : ClassId) (zs zu ze : Nat) (w : Nat) (hw : w < 3) (iv nv : Int32) : TC l yX0_cellsOf cX0_cellsOf 8 (some (.array .int)) 9 10300 1 8 (K7 D dA cT zs zu ze) [.null, .int (nI w), .int iv, .int nv] (TH cT zs zu ze) (fun _ => False) "java/lang/NullPointerException" := by
  refine TC.of (by decide) (Nat.le_of_ble_eq_true rfl) ?_
  intro p e s m below meth c ls S hr hlk htab hK7 hPre hl
  have hK2 := hK7.1.1
  have hK := hK2.1
  have hx := S.1
  have hb := S.2.1
  have hl : lv_has ls 8 [(0, .null), (1, .int (nI w)), (2, .int iv), (3, .int nv)] := hl
  have hS : va_S (fun _ => False) s.heap s.heap [] := va_S.rf
  refine W.adm (fun hadm => ?_)
  refine lv_aload_nN hx hb dX0_cellsOf_0 rfl (lv_at hl 0 rfl) ?_
  refine lv_iload_n hx hb dX0_cellsOf_1 rfl (lv_at hl 1 rfl) ?_
  refine tc_S (rest := []) [.null, .int (nI w)] 2 S Wm_K7 hK7 hS (fun q h => h) (t0_sizeN l hfl D dA cT zs zu ze w hw) wl_X0_320 wd_X0_X0_sizeOf rfl ⟨Nat.le_of_ble_eq_true rfl, Nat.le_of_ble_eq_true rfl⟩ hl.1 (Nat.le_of_ble_eq_true rfl) dX0_cellsOf_2 ⟨Nat.le_of_ble_eq_true rfl, Nat.le_of_ble_eq_true rfl⟩ hPre (fun x9 H locs hx9 hz9 ho9 hS => ?_) rfl
  exact WT.leave rfl rfl rfl htab hlk hx9 hS ⟨Nat.le_of_ble_eq_true rfl, Nat.le_of_ble_eq_true rfl⟩
set_option maxHeartbeats 4000000 in
theorem t0_cellsC (l : Launch) (hfl : NoTr l) (D : va_G) (dA : Nat → ClassId) (cT : ClassId) (zs zu ze : Nat) (w u rk L : Nat) (hw : w < 3) (hu : u < 3) (hwu : u ≠ w) (f : Nat → Int32) (iv nv : Int32) : TC l yX0_cellsOf cX0_cellsOf 8 (some (.array .int)) 9 10300 3 900 (K7 D dA cT zs zu ze) [.ref rk, .int (nI w), .int iv, .int nv] (fun H => TH cT zs zu ze H ∧ rowP D dA rk u L f H) (fun _ => False) "java/lang/ClassCastException" := by
  refine TC.of (by decide) (Nat.le_of_ble_eq_true rfl) ?_
  intro p e s m below meth c ls S hr hlk htab hK7 hPre hl
  have hK2 := hK7.1.1
  have hK := hK2.1
  have hx := S.1
  have hb := S.2.1
  have hl : lv_has ls 8 [(0, .ref rk), (1, .int (nI w)), (2, .int iv), (3, .int nv)] := hl
  have hS : va_S (fun _ => False) s.heap s.heap [] := va_S.rf
  refine W.adm (fun hadm => ?_)
  refine lv_aload_n hx hb dX0_cellsOf_0 rfl (lv_at hl 0 rfl) ?_
  refine lv_iload_n hx hb dX0_cellsOf_1 rfl (lv_at hl 1 rfl) ?_
  refine tc_S (rest := []) [.ref rk, .int (nI w)] 2 S Wm_K7 hK7 hS (fun q h => h) (t0_sizeC l hfl D dA cT zs zu ze w u rk L hw hu hwu f) wl_X0_320 wd_X0_X0_sizeOf rfl ⟨Nat.le_of_ble_eq_true rfl, Nat.le_of_ble_eq_true rfl⟩ hl.1 (Nat.le_of_ble_eq_true rfl) dX0_cellsOf_2 ⟨Nat.le_of_ble_eq_true rfl, Nat.le_of_ble_eq_true rfl⟩ hPre (fun x9 H locs hx9 hz9 ho9 hS => ?_) rfl
  exact WT.leave rfl rfl rfl htab hlk hx9 hS ⟨Nat.le_of_ble_eq_true rfl, Nat.le_of_ble_eq_true rfl⟩
set_option maxHeartbeats 4000000 in
theorem t0_cellsS (l : Launch) (hfl : NoTr l) (D : va_G) (dA : Nat → ClassId) (cT : ClassId) (zs zu ze : Nat) (w rk L : Nat) (hw : w < 3) (f : Nat → Int32) (iv nv : Int32) (hn : nv < 0) : TC l yX0_cellsOf cX0_cellsOf 8 (some (.array .int)) 9 10300 3 300 (K7 D dA cT zs zu ze) [.ref rk, .int (nI w), .int iv, .int nv] (fun H => TH cT zs zu ze H ∧ rowP D dA rk w L f H) (fun _ => False) "java/lang/NegativeArraySizeException" := by
  refine TC.of (by decide) (Nat.le_of_ble_eq_true rfl) ?_
  intro p e s m below meth c ls S hr hlk htab hK7 hPre hl
  have hK2 := hK7.1.1
  have hK := hK2.1
  have hx := S.1
  have hb := S.2.1
  have hl : lv_has ls 8 [(0, .ref rk), (1, .int (nI w)), (2, .int iv), (3, .int nv)] := hl
  have hS : va_S (fun _ => False) s.heap s.heap [] := va_S.rf
  refine W.adm (fun hadm => ?_)
  refine lv_aload_n hx hb dX0_cellsOf_0 rfl (lv_at hl 0 rfl) ?_
  refine lv_iload_n hx hb dX0_cellsOf_1 rfl (lv_at hl 1 rfl) ?_
  refine rc_Si (rest := []) [.ref rk, .int (nI w)] 2 S hK (r0_sizeOf l D dA w rk L f hw) wl_X0_320 wd_X0_X0_sizeOf rfl ⟨Nat.le_of_ble_eq_true rfl, Nat.le_of_ble_eq_true rfl⟩ hl.1 (Nat.le_of_ble_eq_true rfl) dX0_cellsOf_2 ⟨Nat.le_of_ble_eq_true rfl, Nat.le_of_ble_eq_true rfl⟩ hPre.2 ?_ rfl
  refine lv_istore (lv' := [(4, .int (nI L)), (0, .ref rk), (1, .int (nI w)), (2, .int iv), (3, .int nv)]) hx hb dX0_cellsOf_5 hl (by decide) rfl (fun ls hl => ?_)
  refine lv_iload_n hx hb dX0_cellsOf_7 rfl (lv_at hl 4 rfl) ?_
  refine lv_bipush (v := 61) hx hb dX0_cellsOf_8 (by decide) ?_
  refine va_mmin (rest := []) S.1 S.2.1 (S.2.2.1.trans hl.1.symm) S.2.2.2.1 (S.2.2.2.2 _ q490) (S.2.2.2.2 _ q407) (S.2.2.2.2 _ q78) (S.2.2.2.2 _ q408) (Nat.le_of_ble_eq_true rfl) (Nat.le_of_ble_eq_true rfl) (Nat.le_of_ble_eq_true rfl) (Nat.le_of_ble_eq_true rfl) dX0_cellsOf_10 ?_
  have hmin : (if (61 : Int32) < nv then (61 : Int32) else nv) = nv := if_neg (fun h => absurd (Int32.lt_trans h hn) (by decide))
  refine topi (z := nv) hmin ?_
  exact tz_msgX (g := F0 m 13 ls []) (B := 300) hx (hfl e hadm) (by decide +kernel) (by decide +kernel) (by decide +kernel) (by decide +kernel) (nas_all S.2.2.2.2 hK7.1 hPre.1) (fun _ h => by cases h) (fun _ h => by cases h) (by decide) rfl (hl.1.trans S.2.2.1.symm) rfl rfl htab hlk (by decide) (Nat.le_of_ble_eq_true rfl) (by decide) (by decide) (by decide) (fun T hT X => ⟨T, _, hT, X, negative_text_modelled hn, (by have := negative_text_bytes nv; omega), fun target h => X.newarrayNegative hx (g := F0 m 13 ls [.int nv]) rfl hn rfl (by rw [hb]; exact dX0_cellsOf_13) target h⟩)
set_option maxHeartbeats 4000000 in
theorem t0_cellsI (l : Launch) (hfl : NoTr l) (D : va_G) (dA : Nat → ClassId) (cT : ClassId) (zs zu ze : Nat) (w rk L N : Nat) (hw : w < 3) (f : Nat → Int32) (iv : Int32) (hN : N < 2 ^ 31) (hbad : N < 61 → ¬ iv < 0 → ¬ (nI L - nI N < iv) → False) : TC l yX0_cellsOf cX0_cellsOf 8 (some (.array .int)) 9 10300 2 67 (K7 D dA cT zs zu ze) [.ref rk, .int (nI w), .int iv, .int (nI N)] (fun H => TH cT zs zu ze H ∧ rowP D dA rk w L f H) (fun _ => False) "java/lang/IndexOutOfBoundsException" := by
  refine TC.of (by decide) (Nat.le_of_ble_eq_true rfl) ?_
  intro p e s m below meth c ls S hr hlk htab hK7 hPre hl
  have hK2 := hK7.1.1
  have hK := hK2.1
  have hx := S.1
  have hb := S.2.1
  have hl : lv_has ls 8 [(0, .ref rk), (1, .int (nI w)), (2, .int iv), (3, .int (nI N))] := hl
  have hS : va_S (fun _ => False) s.heap s.heap [] := va_S.rf
  refine W.adm (fun hadm => ?_)
  refine lv_aload_n hx hb dX0_cellsOf_0 rfl (lv_at hl 0 rfl) ?_
  refine lv_iload_n hx hb dX0_cellsOf_1 rfl (lv_at hl 1 rfl) ?_
  refine rc_Si (rest := []) [.ref rk, .int (nI w)] 2 S hK (r0_sizeOf l D dA w rk L f hw) wl_X0_320 wd_X0_X0_sizeOf rfl ⟨Nat.le_of_ble_eq_true rfl, Nat.le_of_ble_eq_true rfl⟩ hl.1 (Nat.le_of_ble_eq_true rfl) dX0_cellsOf_2 ⟨Nat.le_of_ble_eq_true rfl, Nat.le_of_ble_eq_true rfl⟩ hPre.2 ?_ rfl
  refine lv_istore (lv' := [(4, .int (nI L)), (0, .ref rk), (1, .int (nI w)), (2, .int iv), (3, .int (nI N))]) hx hb dX0_cellsOf_5 hl (by decide) rfl (fun ls hl => ?_)
  refine lv_iload_n hx hb dX0_cellsOf_7 rfl (lv_at hl 4 rfl) ?_
  refine lv_bipush (v := 61) hx hb dX0_cellsOf_8 (by decide) ?_
  refine va_mmin (rest := []) S.1 S.2.1 (S.2.2.1.trans hl.1.symm) S.2.2.2.1 (S.2.2.2.2 _ q490) (S.2.2.2.2 _ q407) (S.2.2.2.2 _ q78) (S.2.2.2.2 _ q408) (Nat.le_of_ble_eq_true rfl) (Nat.le_of_ble_eq_true rfl) (Nat.le_of_ble_eq_true rfl) (Nat.le_of_ble_eq_true rfl) dX0_cellsOf_10 ?_
  obtain ⟨M, hM, hmin⟩ : ∃ M, M ≤ 61 ∧ (if (61 : Int32) < nI N then (61 : Int32) else nI N) = nI M := by
    by_cases h : N ≤ 61
    · exact ⟨N, h, if_neg (show ¬ nI 61 < nI N from nI_nlt h (by decide))⟩
    · exact ⟨61, Nat.le_refl _, if_pos (show nI 61 < nI N from nI_lt (by omega) hN)⟩
  refine topi (z := nI M) hmin ?_
  refine g_newb (N := M) (n := nI M) S hK hS (nI_pos (by omega)) (nI_clamp (by omega)) (by simp only [componentBytes]; omega) (Nat.le_of_ble_eq_true rfl) (by show 0 + M ≤ 67; omega) dX0_cellsOf_13 (fun yb H hy9 hPy hz1 ho1 hS => ?_)
  have hTH := hPre.1.fr (A := fun _ => False) (fun q h _ => ho1 q h) id
  refine lv_astore (lv' := [(5, .ref yb), (4, .int (nI L)), (0, .ref rk), (1, .int (nI w)), (2, .int iv), (3, .int (nI N))]) hx hb dX0_cellsOf_15 hl (by decide) rfl (fun ls hl => ?_)
  have hend : W p l e ({ frames := 9, cells := 2, slots := 67, locals := 10300 }) s m [.ref rk, .int (nI w), .int iv, .int (nI N)].toArray below meth c H [] (0 + 1) (0 + M) (TZ below (fun _ => False) "java/lang/IndexOutOfBoundsException" s 2 67) (F0 m 39 ls []) := by
    refine lv_iconst (v := 0) hx hb dX0_cellsOf_39 (by decide) ?_
    refine tc_S (rest := []) [.int 0] 1 S Wm_K7 hK7 hS (fun q h => h) (t0_needT l hfl D dA cT zs zu ze) wl_X0_324 wd_X0_X0_need rfl ⟨Nat.le_of_ble_eq_true rfl, Nat.le_of_ble_eq_true rfl⟩ hl.1 (Nat.le_of_ble_eq_true rfl) dX0_cellsOf_40 ⟨(Nat.le_of_ble_eq_true rfl), by show 0 + M + 6 ≤ 67; omega⟩ hTH (fun x9 H locs hx9 hz9 ho9 hS => ?_) rfl
    exact WT.leave rfl rfl rfl htab hlk hx9 hS ⟨(Nat.le_of_ble_eq_true rfl), by show 0 + M + 6 ≤ 67; omega⟩
  refine lv_iload_n hx hb dX0_cellsOf_17 rfl (lv_at hl 5 rfl) ?_
  refine lv_bipush (v := 61) hx hb dX0_cellsOf_18 (by decide) ?_
  refine lv_icmp_ge (tgt := 39) hx hb dX0_cellsOf_20 (by decide) (fun c_20 => hend) (fun c_20 => ?_)
  refine lv_iload_n hx hb dX0_cellsOf_23 rfl (lv_at hl 4 rfl) ?_
  refine lv_if_lt (tgt := 39) hx hb dX0_cellsOf_24 (by decide) (fun c_24 => hend) (fun c_24 => ?_)
  refine lv_iload_n hx hb dX0_cellsOf_27 rfl (lv_at hl 4 rfl) ?_
  refine lv_iload hx hb dX0_cellsOf_28 (lv_at hl 1 rfl) ?_
  refine lv_iload_n hx hb dX0_cellsOf_30 rfl (lv_at hl 5 rfl) ?_
  refine lv_isub hx hb dX0_cellsOf_31 ?_
  refine lv_icmp_gt (tgt := 39) hx hb dX0_cellsOf_32 (by decide) (fun c_32 => hend) (fun c_32 => ?_)
  refine absurd (hbad ?_ c_24 c_32) id
  by_cases h : N < 61
  · exact h
  · exact absurd (show (61 : Int32) ≤ nI N from nI_le (a := 61) (by omega) hN) c_20
set_option maxHeartbeats 4000000 in
theorem g0_cellsOf (l : Launch) (D : va_G) (dA : Nat → ClassId) (cT : ClassId) (zs zu ze : Nat) (w rk L i N sz : Nat) (hw : w < 3) (f : Nat → Int32) (hL : L ≤ 60) (hi : i + N ≤ L) : GC l yX0_cellsOf cX0_cellsOf 8 (some (.array .int)) 2 60 2 120 (K7 D dA cT zs zu ze) [.ref rk, .int (nI w), .int (nI i), .int (nI N)] (fun H => sz = H.size ∧ rowP D dA rk w L f H) (fun q => sz ≤ q) (fun v9 H => ∃ (y : Nat) (xs : Nat → Int32), v9 = some (.ref y) ∧ sz ≤ y ∧ va_P D vwCl [(y, .inl (dA 0, N, .inl xs))] H ∧ ∀ j, j < N → xs j = f (i + j)) := by
  refine GC.of (by decide) (Nat.le_of_ble_eq_true rfl) ?_
  intro p e s m below meth c ls S hr hlk hnm hK7 hPre hl
  have hK2 := hK7.1.1
  have hK := hK2.1
  have hx := S.1
  have hb := S.2.1
  have hl : lv_has ls 8 [(0, .ref rk), (1, .int (nI w)), (2, .int (nI i)), (3, .int (nI N))] := hl
  have hS : va_S (fun q => sz ≤ q) s.heap s.heap [] := va_S.rf
  refine lv_aload_n hx hb dX0_cellsOf_0 rfl (lv_at hl 0 rfl) ?_
  refine lv_iload_n hx hb dX0_cellsOf_1 rfl (lv_at hl 1 rfl) ?_
  refine rc_Si (rest := []) [.ref rk, .int (nI w)] 2 S hK (r0_sizeOf l D dA w rk L f hw) wl_X0_320 wd_X0_X0_sizeOf rfl ⟨Nat.le_of_ble_eq_true rfl, Nat.le_of_ble_eq_true rfl⟩ hl.1 (Nat.le_of_ble_eq_true rfl) dX0_cellsOf_2 ⟨Nat.le_of_ble_eq_true rfl, Nat.le_of_ble_eq_true rfl⟩ hPre.2 ?_ rfl
  refine lv_istore (lv' := [(4, .int (nI L)), (0, .ref rk), (1, .int (nI w)), (2, .int (nI i)), (3, .int (nI N))]) hx hb dX0_cellsOf_5 hl (by decide) rfl (fun ls hl => ?_)
  refine lv_iload_n hx hb dX0_cellsOf_7 rfl (lv_at hl 4 rfl) ?_
  refine lv_bipush (v := 61) hx hb dX0_cellsOf_8 (by decide) ?_
  refine va_mmin (rest := []) S.1 S.2.1 (S.2.2.1.trans hl.1.symm) S.2.2.2.1 (S.2.2.2.2 _ q490) (S.2.2.2.2 _ q407) (S.2.2.2.2 _ q78) (S.2.2.2.2 _ q408) (Nat.le_of_ble_eq_true rfl) (Nat.le_of_ble_eq_true rfl) (Nat.le_of_ble_eq_true rfl) (Nat.le_of_ble_eq_true rfl) dX0_cellsOf_10 ?_
  refine topi (z := nI N) (if_neg (show ¬ nI 61 < nI N from nI_nlt (by omega) (by decide))) ?_
  refine g_newb (N := N) (n := nI N) S hK hS (nI_pos (by omega)) (nI_clamp (by omega)) (by simp only [componentBytes]; omega) (Nat.le_of_ble_eq_true rfl) (by show 0 + N ≤ 120; omega) dX0_cellsOf_13 (fun yb H hy9 hPy hz1 ho1 hS => ?_)
  have hPr : rowP D dA rk w L f H := hPre.2.grow ho1
  refine lv_astore (lv' := [(5, .ref yb), (4, .int (nI L)), (0, .ref rk), (1, .int (nI w)), (2, .int (nI i)), (3, .int (nI N))]) hx hb dX0_cellsOf_15 hl (by decide) rfl (fun ls hl => ?_)
  refine lv_iload_n hx hb dX0_cellsOf_17 rfl (lv_at hl 5 rfl) ?_
  refine lv_bipush (v := 61) hx hb dX0_cellsOf_18 (by decide) ?_
  refine lv_icmp_ge (tgt := 39) hx hb dX0_cellsOf_20 (by decide) (fun c_20 => absurd c_20 (show ¬ nI 61 ≤ nI N from nI_ge (by omega) (by decide))) (fun c_20 => ?_)
  refine lv_iload_n hx hb dX0_cellsOf_23 rfl (lv_at hl 4 rfl) ?_
  refine lv_if_lt (tgt := 39) hx hb dX0_cellsOf_24 (by decide) (fun c_24 => absurd c_24 (nI_pos (by omega))) (fun c_24 => ?_)
  refine lv_iload_n hx hb dX0_cellsOf_27 rfl (lv_at hl 4 rfl) ?_
  refine lv_iload hx hb dX0_cellsOf_28 (lv_at hl 1 rfl) ?_
  refine lv_iload_n hx hb dX0_cellsOf_30 rfl (lv_at hl 5 rfl) ?_
  refine lv_isub hx hb dX0_cellsOf_31 ?_
  refine topi (z := nI (L - N)) (nI_subN (by omega)) ?_
  refine lv_icmp_gt (tgt := 39) hx hb dX0_cellsOf_32 (by decide) (fun c_32 => absurd c_32 (nI_nlt (by omega) (by omega))) (fun c_32 => ?_)
  refine lv_iconst (v := 1) hx hb dX0_cellsOf_35 (by decide) ?_
  refine lv_goto (tgt := 40) hx hb dX0_cellsOf_36 (by decide) ?_
  refine rc_S (rest := []) [.int 1] 1 S hK (r0_need l D dA) wl_X0_324 wd_X0_X0_need rfl ⟨Nat.le_of_ble_eq_true rfl, Nat.le_of_ble_eq_true rfl⟩ hl.1 (Nat.le_of_ble_eq_true rfl) dX0_cellsOf_40 ⟨(Nat.le_of_ble_eq_true rfl), by show 0 + N ≤ 120; omega⟩ trivial (fun v9 hv9 => ?_) rfl
  subst hv9
  refine W.eq (g2 := F0 m 43 ls []) rfl ?_
  refine lv_aload hx hb dX0_cellsOf_43 (lv_at hl 0 rfl) ?_
  refine va_alen (v := nI N) S.1 S.2.1 hK hPy 0 2 rfl rfl rfl dX0_cellsOf_45 ?_
  refine g_newi (N := N) (n := nI N) S hK hS (nI_pos (by omega)) (nI_clamp (by omega)) (by simp only [componentBytes]; omega) (Nat.le_of_ble_eq_true rfl) (by show 0 + N + N ≤ 120; omega) dX0_cellsOf_46 (fun y H hy9 hPy hz2 ho2 hS => ?_)
  have hPr : rowP D dA rk w L f H := hPr.grow ho2
  have hys : sz ≤ y := by omega
  have hrk : rk ≠ y := fun h9 => by have := one_lt hPre.2; omega
  refine lv_astore (lv' := [(6, .ref y), (5, .ref yb), (4, .int (nI L)), (0, .ref rk), (1, .int (nI w)), (2, .int (nI i)), (3, .int (nI N))]) hx hb dX0_cellsOf_48 hl (by decide) rfl (fun ls hl => ?_)
  refine lv_iconst (v := 0) hx hb dX0_cellsOf_50 (by decide) ?_
  refine lv_istore (lv' := [(7, .int 0), (6, .ref y), (5, .ref yb), (4, .int (nI L)), (0, .ref rk), (1, .int (nI w)), (2, .int (nI i)), (3, .int (nI N))]) hx hb dX0_cellsOf_51 hl (by decide) rfl (fun ls hl => ?_)
  have hloop : ∀ (k53 i53 : Nat), i53 + k53 = N → ∀ (H : Heap) (locs : List Loc) (xs : Nat → Int32), va_S (fun q => sz ≤ q) s.heap H locs → rowP D dA rk w L f H → va_P D vwCl [(y, .inl (dA 0, N, .inl xs))] H → (∀ j, j < i53 → xs j = f (i + j)) → ∀ (ls : Array Slot), lv_has ls 8 [(7, .int (nI i53)), (6, .ref y), (5, .ref yb), (4, .int (nI L)), (0, .ref rk), (1, .int (nI w)), (2, .int (nI i)), (3, .int (nI N))] → W p l e ({ frames := 2, cells := 2, slots := 120, locals := 60 }) s m [.ref rk, .int (nI w), .int (nI i), .int (nI N)].toArray below meth c H locs (0 + 1 + 1) (0 + N + N) (GZ below (fun q => sz ≤ q) (fun v9 H => ∃ (y : Nat) (xs : Nat → Int32), v9 = some (.ref y) ∧ sz ≤ y ∧ va_P D vwCl [(y, .inl (dA 0, N, .inl xs))] H ∧ ∀ j, j < N → xs j = f (i + j)) [.ref rk, .int (nI w), .int (nI i), .int (nI N)] s 2 120) (F0 m 53 ls []) := by
    intro k53
    induction k53 with
    | zero =>
      intro i53 hi53 H locs xs hS hPr hPy hxs ls hl
      refine lv_iload hx hb dX0_cellsOf_53 (lv_at hl 0 rfl) ?_
      refine lv_aload hx hb dX0_cellsOf_55 (lv_at hl 1 rfl) ?_
      refine va_alen (v := nI N) S.1 S.2.1 hK hPy 0 0 rfl rfl rfl dX0_cellsOf_57 ?_
      refine lv_icmp_ge (tgt := 81) hx hb dX0_cellsOf_58 (by decide) (fun c_58 => ?_) (fun c_58 => absurd (show nI N ≤ nI i53 from nI_le (by omega) (by omega)) c_58)
      refine lv_aload hx hb dX0_cellsOf_81 (lv_at hl 1 rfl) ?_
      exact g_aret S hr (Or.inr ⟨_, rfl⟩) hlk hS dX0_cellsOf_83 ⟨(Nat.le_of_ble_eq_true rfl), by show 0 + N + N ≤ 120; omega⟩ (Or.inr ⟨_, rfl⟩) ⟨y, xs, rfl, hys, hPy, fun j hj => hxs j (by omega)⟩
    | succ k53 ih =>
      intro i53 hi53 H locs xs hS hPr hPy hxs ls hl
      refine lv_iload hx hb dX0_cellsOf_53 (lv_at hl 0 rfl) ?_
      refine lv_aload hx hb dX0_cellsOf_55 (lv_at hl 1 rfl) ?_
      refine va_alen (v := nI N) S.1 S.2.1 hK hPy 0 0 rfl rfl rfl dX0_cellsOf_57 ?_
      refine lv_icmp_ge (tgt := 81) hx hb dX0_cellsOf_58 (by decide) (fun c_58 => absurd c_58 (show ¬ nI N ≤ nI i53 from nI_ge (by omega) (by omega))) (fun c_58 => ?_)
      refine lv_aload hx hb dX0_cellsOf_61 (lv_at hl 1 rfl) ?_
      refine lv_iload hx hb dX0_cellsOf_63 (lv_at hl 0 rfl) ?_
      refine lv_aload_n hx hb dX0_cellsOf_65 rfl (lv_at hl 4 rfl) ?_
      refine lv_iload_n hx hb dX0_cellsOf_66 rfl (lv_at hl 5 rfl) ?_
      refine lv_iload_n hx hb dX0_cellsOf_67 rfl (lv_at hl 6 rfl) ?_
      refine lv_iload hx hb dX0_cellsOf_68 (lv_at hl 0 rfl) ?_
      refine lv_iadd hx hb dX0_cellsOf_70 ?_
      refine topi (z := nI (i + i53)) (nI_add _ _) ?_
      refine rc_Si (rest := [.int (nI i53), .ref y]) [.ref rk, .int (nI w), .int (nI (i + i53))] 3 S hK (r0_cellOf l D dA w rk L (i + i53) f hw (by omega) (by omega)) wl_X0_305 wd_X0_X0_cellOf rfl ⟨Nat.le_of_ble_eq_true rfl, Nat.le_of_ble_eq_true rfl⟩ hl.1 (Nat.le_of_ble_eq_true rfl) dX0_cellsOf_71 ⟨(Nat.le_of_ble_eq_true rfl), by show 0 + N + N ≤ 120; omega⟩ hPr ?_ rfl
      refine g_iast (i := nI i53) S hK hS hPy hys (vp_in_nI (N := N) (by omega) (by omega)) dX0_cellsOf_74 (fun H locs hPy hz3 ho3 hS => ?_)
      rw [nI_clamp (by omega)] at hPy
      have hPr : rowP D dA rk w L f H := hPr.off ho3 (one_ne hrk)
      refine lv_iinc (v := nI (i53 + 1)) (lv' := [(7, .int (nI (i53 + 1))), (6, .ref y), (5, .ref yb), (4, .int (nI L)), (0, .ref rk), (1, .int (nI w)), (2, .int (nI i)), (3, .int (nI N))]) hx hb dX0_cellsOf_75 hl (k := 0) rfl (nI_1 _) (by decide) rfl (fun ls hl => ?_)
      refine lv_goto (tgt := 53) hx hb dX0_cellsOf_78 (by decide) ?_
      exact ih (i53 + 1) (by omega) _ _ _ hS hPr hPy (fun j hj => by by_cases e : j = i53; (subst e; rw [updS]); (rw [updN _ _ e]; exact hxs j (by omega))) ls (lv_sub hl [0, 1, 2, 3, 4, 5, 6, 7] rfl)
  exact hloop N 0 (by omega) _ _ _ hS hPr hPy (fun j hj => absurd hj (Nat.not_lt_zero j)) ls (lv_sub hl [0, 1, 2, 3, 4, 5, 6, 7] rfl)
