/-! NEED: the exception that the component itself throws (by program: gen/mkown.py) -/
set_option maxRecDepth 100000
theorem own_ok {s : State} {args : Array Value} (hts : ∀ w ∈ lw_all, w.before args s = true) (hFX : FX s) {cT : ClassId} {zs zu ze : Nat} (hU : SV "java/lang/Throwable" "UNASSIGNED_STACK" "[Ljava/lang/StackTraceElement;" cT zs zu s) (hUH : SH cT zs zu s.heap) (hE : SV "java/lang/Throwable" "SUPPRESSED_SENTINEL" "Ljava/util/List;" cT zs ze s) (hEH : SH cT zs ze s.heap) : ∀ a ∈ Bundle.ownAtoms "CallRounds" 317 "java/lang/IndexOutOfBoundsException" ["java/lang/RuntimeException", "java/lang/Exception"], a.before args s = true := by
  unfold Bundle.ownAtoms
  exact (List.forall_mem_append.2 ⟨(List.forall_mem_append.2 ⟨(List.forall_mem_append.2 ⟨thr_ok hts hFX hU hUH hE hEH, thS_ok hts hFX hU hUH hE hEH⟩), (show ∀ a ∈ Bundle.chainSAtoms "java/lang/IndexOutOfBoundsException" ["java/lang/RuntimeException", "java/lang/Exception"], a.before args s = true from (List.forall_mem_append.2 ⟨(List.forall_mem_cons.2 ⟨hts _ q806, (List.forall_mem_cons.2 ⟨hts _ q807, (List.forall_mem_cons.2 ⟨hts _ q808, (List.forall_mem_cons.2 ⟨hts _ q660, (List.forall_mem_cons.2 ⟨va_any rfl (hFX.1 _ q721 rfl), (fun _ h9 => by cases h9)⟩)⟩)⟩)⟩)⟩), (List.forall_mem_append.2 ⟨(List.forall_mem_cons.2 ⟨hts _ q660, (List.forall_mem_cons.2 ⟨hts _ q661, (List.forall_mem_cons.2 ⟨hts _ q662, (List.forall_mem_cons.2 ⟨hts _ q663, (List.forall_mem_cons.2 ⟨va_any rfl (hFX.1 _ q723 rfl), (fun _ h9 => by cases h9)⟩)⟩)⟩)⟩)⟩), (List.forall_mem_cons.2 ⟨hts _ q663, (List.forall_mem_cons.2 ⟨hts _ q664, (List.forall_mem_cons.2 ⟨hts _ q665, (List.forall_mem_cons.2 ⟨hts _ q666, (List.forall_mem_cons.2 ⟨va_any rfl (hFX.1 _ q725 rfl), (fun _ h9 => by cases h9)⟩)⟩)⟩)⟩)⟩)⟩)⟩))⟩), (List.forall_mem_cons.2 ⟨hts _ q940, (List.forall_mem_cons.2 ⟨hts _ q931, (List.forall_mem_cons.2 ⟨va_any rfl (hFX.1 _ q932 rfl), (List.forall_mem_cons.2 ⟨hts _ q933, (List.forall_mem_cons.2 ⟨hts _ q679, (List.forall_mem_cons.2 ⟨hts _ q934, (List.forall_mem_cons.2 ⟨hts _ q935, (List.forall_mem_cons.2 ⟨hts _ q936, (List.forall_mem_cons.2 ⟨hts _ q937, (List.forall_mem_cons.2 ⟨hU.isRef hUH, (List.forall_mem_cons.2 ⟨hE.isRef hEH, (List.forall_mem_cons.2 ⟨hts _ q732, (List.forall_mem_cons.2 ⟨hts _ q731, (List.forall_mem_cons.2 ⟨hts _ q938, (fun _ h9 => by cases h9)⟩)⟩)⟩)⟩)⟩)⟩)⟩)⟩)⟩)⟩)⟩)⟩)⟩)⟩)⟩)
set_option maxHeartbeats 4000000 in
theorem t0_needT (l : Launch) (hfl : NoTr l) (D : va_G) (dA : Nat → ClassId) (cT : ClassId) (zs zu ze : Nat) : TC l yX0_need cX0_need 1 none 8 10260 1 6 (K7 D dA cT zs zu ze) [.int 0] (TH cT zs zu ze) (fun _ => False) "java/lang/IndexOutOfBoundsException" := by
  refine TC.of (by decide) (Nat.le_of_ble_eq_true rfl) ?_
  intro p e s m below meth c ls S hr hlk htab hK7 hTH hl
  have hx := S.1
  have hb := S.2.1
  have hl : lv_has ls 1 [(0, .int 0)] := hl
  refine W.adm (fun hadm => ?_)
  refine lv_iload_n hx hb dX0_need_0 rfl (lv_at hl 0 rfl) ?_
  refine lv_if_ne (tgt := 15) hx hb dX0_need_1 (by decide) (fun c_1 => absurd (by decide) c_1) (fun c_1 => ?_)
  intro T hT X
  obtain ⟨vm₁, cX, kX, hfX, hkX, -, -, X₁, st1⟩ := X.newCold hx (own := "CallRounds") (C := "java/lang/IndexOutOfBoundsException") (index := 300) (n := 6) S.2.2.2.1 (S.2.2.2.2 _ q801) (S.2.2.2.2 _ q931) (S.2.2.2.2 _ q75) (g := F0 m 4 ls []) rfl (by rw [hb]; exact dX0_need_4) (by decide) (by decide)
  generalize hT2 : (T.setVm vm₁).pushCell { cls := cX, slots := kX.instanceTypes.map defaultValue, vm := .none } = T2 at X₁ st1
  have hcellA : T2.heap[T.heap.size]? = some (freshCell cX kX) := by rw [← hT2]; exact State.heap_pushCell_size _ _
  have hconst : (Cond.stringRef "CallRounds" 315 "not all there").before [Value.int 0].toArray s = true := sr_tr (u := s) hK7.2.2.2
  obtain ⟨k0, cf, i0, sa, hk0, hcf, hcp, -, hr0, hev⟩ := Cond.stringRef_spec S.2.2.2.1 hconst
  have hout : ∀ x ∈ c.exceptionTable.toList, covers x 14 = false := by
    intro x hx9
    rw [Array.isEmpty_iff] at htab
    rw [htab] at hx9
    cases hx9
  obtain ⟨U, hsteps, hrun, hend, hW, hsame, ce, hce, K⟩ := X₁.ctorThrowS hx (hfl e hadm) (own := "CallRounds") (cls := "java/lang/IndexOutOfBoundsException") (names := ["java/lang/RuntimeException", "java/lang/Exception"]) (ic := 317) S.2.2.2.1 (by decide +kernel) (by decide +kernel) (own_ok S.2.2.2.2 hK7.1.1.2 hK7.1.2.1 hTH.1 hK7.1.2.2 hTH.2) (fun y hy => by cases hy) hfX hkX hcellA (by rw [hT]; exact Nat.le_refl _) (msg := .ref sa) rfl (g := F0 m 11 ls [.ref sa, .ref T.heap.size, .ref T.heap.size]) rfl (hl.1.trans S.2.2.1.symm) rfl rfl (rest := []) rfl (by rw [hb]; exact dX0_need_11) (by rw [hb]; exact dX0_need_14) hout (by decide) (Nat.le_of_ble_eq_true rfl) hlk
  obtain ⟨k', hk', he⟩ := X₁.warmed.alike.2.2 _ _ hk0
  have hr' : k'.resolved[315]? = some (some (.string sa)) := by
    rcases X₁.warmed.entry hk0 hk' 315 with h | ⟨h, -⟩
    · rw [h]; exact hr0
    · rw [hr0] at h; cases h
  have hF : va_F (fun _ => False) s U := F_same (t := ({ U with vm := s.vm } : State)) hsame (fun _ h => by cases h)
  refine ⟨U, st1 _ ?_, T.heap.size, hrun, hend, ⟨⟨ce, hce, K.cls, fun k hk => by rw [K.vm] at hk; cases hk⟩, hF⟩, hW, [], hsame, (fun _ h => by cases h)⟩
  show Steps p.tables e below (T2.setTop (F0 m 7 ls [.ref T.heap.size])) _
  jvm_step X₁.here [X₁.here.top, hx, hb, dX0_need_7, Value.category]
  show Steps p.tables e below (T2.setTop (F0 m 8 ls [.ref T.heap.size, .ref T.heap.size])) _
  have hd8 : decode c.code (F0 m 8 ls [.ref T.heap.size, .ref T.heap.size]).pc = .ok (.ldc_w 315, 3) := by rw [hb]; exact dX0_need_8
  jvm_step X₁.here [hx, hd8, ldc_w.wp_string (e := e) (s := T2) (f := F0 m 8 ls [.ref T.heap.size, .ref T.heap.size]) X₁.here.top hk' (by rw [he]; exact hcf) hcp hr']
  exact hsteps
