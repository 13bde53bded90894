/-! COMPONENT 43: Act.tried, for any done (by program: gen/comp43.py) -/
set_option maxRecDepth 100000
abbrev hhA : List (Nat × Nat × Nat × Nat) := [(8, 12, 13, 23), (8, 12, 23, 29), (8, 12, 23, 31), (8, 12, 33, 33), (8, 12, 43, 35)]
abbrev xDone : MethodName := ⟨"CallRounds$Act", "done", "()I"⟩
theorem va_S.sub {A B : Nat → Prop} {H0 H : Heap} {locs : List Loc} (h : va_S A H0 H locs) (hA : ∀ q, A q → B q) : va_S B H0 H locs := ⟨h.1, fun q h1 h2 => h.2.1 q h1 (fun z => h2 (hA q z)), fun q hq => hA _ (h.2.2 q hq)⟩
section ROWS
variable {p : Program} {l : Launch} {e : Env} {R : Room} {s : State} {m : MethodId} {args : Array Value} {below : List Frame} {meth : Method} {c : Code} {H : Heap} {locs : List Loc} {cells slots : Nat} {Q : State → Prop}
variable {cc : ByteArray} {pc nL : Nat} {ls : Array Slot} {rest : List Value} {D : va_G} {dA : Nat → ClassId} {a : Nat → Nat} {σ : MS} {A0 : Nat → Prop} {H0 : Heap} {own : String} {index : Nat}
theorem g_putN {host ref C : String} {T : u_T} {N ci index b : Nat} (S : CallFix p m c cc nL s args lw_all own) (hin : ∀ w ∈ u_ws C T N, w ∈ lw_all) (ty0 : Nat → FieldType) (hty : ∀ k, k < N → parseFieldDescriptor (T k).2.2.1 = some (ty0 k)) (hnm : ∀ a, a < N → ∀ b, b < N → a ≠ b → (T a).2.1 ≠ (T b).2.1) (hK : va_K D vwCl (tyL dA) s) {fs : List Value} (hP : va_P D vwCl [(b, .inr (ci, fs))] H) (hc : vwCl[ci]? = some (C, T, N)) (k : Nat) (hk : k < N) (hlen : fs.length = N) (hlink : va_Nw (.fieldLinkNest own index ref (T k).2.1 (T k).2.2.1 host) s) (hsame : ∀ x, s.fieldFound? (T k).1 (T k).2.1 (T k).2.2.1 = some x → s.fieldFound? ref (T k).2.1 (T k).2.2.1 = some x) (hfin : (T k).2.2.2 = false) {ty : FieldType} {v : Value} (hd : parseFieldDescriptor (T k).2.2.1 = some ty) (hn : narrow ty v = v) (hfit : fits ty v = true)
    (hS0 : va_S A0 H0 H locs) (hAb : A0 b) (hdg : decode cc pc = .ok (.putfield index, 3))
    (kk : ∀ (H1 : Heap) (locs1 : List Loc), va_P D vwCl [(b, .inr (ci, fs.set k v))] H1 → H1.size = H.size → (∀ q, q ≠ b → H1[q]? = H[q]?) → va_S A0 H0 H1 locs1 → W p l e R s m args below meth c H1 locs1 cells slots Q (F0 m (pc + 3) ls rest)) : W p l e R s m args below meth c H locs cells slots Q (F0 m pc ls (v :: .ref b :: rest)) := by
  have hts := S.2.2.2.2
  have hap := va_apart (own := own) hts hin ty0 hty hnm hK hc
  obtain ⟨r, h1, cell, q1, q2, q3, q4⟩ := hP 0 _ rfl
  have hr : r = (C, T, N) := Option.some.inj (h1.symm.trans hc)
  subst hr
  obtain ⟨hSl, hfc, kC, hkC, hkind⟩ := hK.1 ci _ hc
  obtain ⟨cf, kf, fi, f, hi, hsl⟩ := hSl k hk
  have hlay := hts _ (hin _ (u_in_lay hk))
  unfold u_lay at hlay
  rw [if_neg (by rw [hfin]; decide)] at hlay
  have hst := (u_facts hfc hkC (u_lays hts hin hk) hi).1
  have h6 := u_store hfc hkC hkind hlay hi hd hn hfit
  refine va_WputK S.1 S.2.1 (f := f) S.2.2.2.1 (va_tabs rfl rfl hlink) (hsame _ hi) hst (by rw [q2]; exact h6) q1 q3 (by rw [hsl]; exact k2_hasslot (q4 k hk)) rfl rfl hdg fun H' e1 e2 e3 => ?_
  rw [hsl] at e1 ⊢
  refine kk H' _ (fun i q hq => ?_) e2 e3 (hS0.put e2 e3 hAb)
  match i, hq with
  | 0, hq =>
    cases hq
    exact ⟨_, hc, t_OB.to (V := updV (vp_V fs) k v) ⟨_, e1, q2, q3, t_set q4 hap hk v⟩ (fun j _ => vp_updV_set (by omega) v j)⟩
  | i + 1, hq => simp at hq
theorem k_put1N {host : String} (hI : kInj a) (S : CallFix p m c cc nL s args lw_all own) (hK : va_K D vwCl (tyL dA) s) (hP : va_P D vwCl (kW dA a σ) H) (hA : A0 (a 0)) (hS : va_S A0 H0 H locs) (k : Nat) (hk : k < 15) (hkd : kKd k = 0) (hlink : va_Nw (.fieldLinkNest own index RX0 (TX0 k).2.1 (TX0 k).2.2.1 host) s) (hf : (TX0 k).1 = RX0) (hfin : (TX0 k).2.2.2 = false) (hd : parseFieldDescriptor (TX0 k).2.2.1 = some .int) (hdg : decode cc pc = .ok (.putfield index, 3))
    {v : Int32} (kk : ∀ (H1 : Heap) (locs : List Loc), va_P D vwCl (kW dA a (σ.i k v)) H1 → H1.size = H.size → (∀ q, q ≠ a 0 → H1[q]? = H[q]?) → va_S A0 H0 H1 locs → W p l e R s m args below meth c H1 locs cells slots Q (F0 m (pc + 3) ls rest)) : W p l e R s m args below meth c H locs cells slots Q (F0 m pc ls (.int v :: .ref (a 0) :: rest)) := by
  refine g_putN (C := RX0) (T := TX0) (N := 15) (ci := 0) (ty := .int) S in_X0 tyX0 tyX0_ok nmX0 hK (hP.sub [0] rfl : va_P D vwCl [(a 0, .inr (0, kF a σ))] H) rfl k hk (by simp [kF]) hlink (fun _ h9 => by rw [hf] at h9; exact h9) hfin hd rfl rfl hS hA hdg (fun H1 locs1 h1 h2 h3 h4 => ?_)
  refine kk H1 locs1 ?_ h2 h3 h4
  have e1 : (kF a σ).set k (.int v) = kF a (σ.i k v) := kF_set (σ' := σ.i k v) (.int v) (by simp [kFv, hkd, MS.i, va_up]) (fun j hj => by simp [kFv, MS.i, va_up, hj])
  rw [e1] at h1
  intro j x hx
  by_cases hj : j = 0
  · subst hj
    cases hx
    exact h1 0 _ rfl
  · have hx' : (kW dA a σ)[j]? = some x := by
      obtain ⟨j', rfl⟩ : ∃ j', j = j' + 1 := ⟨j - 1, by omega⟩
      exact hx
    have hne : x.1 ≠ a 0 := fun e => hj ((kW_D (dA := dA) (σ := σ) hI).1 j 0 x _ hx' kW_0 e)
    exact (va_P.off (b := a 0) (ws := [x]) (fun k q hq => by
      match k, hq with
      | 0, hq => cases hq; exact hP j _ hx'
      | k + 1, hq => simp at hq) h3 (fun k q hq => by
      match k, hq with
      | 0, hq => cases hq; exact hne
      | k + 1, hq => simp at hq)) 0 _ rfl
end ROWS
set_option maxHeartbeats 4000000 in
theorem gA_tried {l : Launch} {D : va_G} {dA : Nat → ClassId} {cT : ClassId} {zs zu ze : Nat} {a : Nat → Nat} (hI : kInj a) {σ : MS} {Kp : State → Prop} (hKw : Wm Kp) (hKK : ∀ U, Kp U → K7 D dA cT zs zu ze U) {C : String} {T : u_T} {N ci : Nat} (hvw : vwCl[ci]? = some (C, T, N)) (hinX : ∀ w ∈ u_ws C T N, w ∈ lw_all) (hT0 : T 0 = ("CallRounds$Act", "this$0", "LCallRounds;", true)) (hN : 0 < N) {b : Nat} {fs : List Value} (hf0 : fs[0]? = some (.ref (a 0))) (hbk : ¬ kAd a b) {y : MethodName} {code : ByteArray} {nd : Nat}
    (hse : Cond.selects C xDone y ∈ lw_all) (hin : Cond.instanceMethod y ∈ lw_all) (hini : Cond.initialized y.cls ∈ lw_all) (hcd : Cond.code y code nd (some .int) ∈ lw_all) {frd lcd mc ms FR LC MC MS : Nat} (hR1 : frd + 1 ≤ FR ∧ 8 + (nd + 11) + lcd ≤ LC) (hR2 : 2 ≤ FR ∧ 100 ≤ LC) (hR3 : mc ≤ MC ∧ ms ≤ MS) {A Ad : Nat → Prop} (hkA : ∀ q, kAd a q → A q) (hAd : ∀ q, Ad q → A q) {Ph Pd : Heap → Prop}
    (hPd : ∀ H H1 : Heap, va_P D vwCl (kW dA a (σ.i 13 0)) H1 → va_P D vwCl [(b, .inr (ci, fs))] H1 → H1.size = H.size → (∀ q, q < H.size → ¬ kAd a q → H1[q]? = H[q]?) → Ph H → Pd H1)
    {post : Option Value → Heap → Prop} (hD : GC l y code nd (some .int) frd lcd mc ms Kp [.ref b] Pd Ad post) (hpi : ∀ v H, post v H → ∃ z : Int32, v = some (.int z)) : GCW l yX2_tried cX2_tried 2 (some .int) hhA FR LC MC MS Kp [.ref b] (fun H => va_P D vwCl [(b, .inr (ci, fs))] H ∧ va_P D vwCl (kW dA a σ) H ∧ Ph H) A (post) := by
  refine GCW.of (by decide) (Nat.le_of_ble_eq_true rfl) ?_
  intro p e s m below meth c ls S hr hlk htab hKp hPre hl
  have hK7 := hKK s hKp
  have hK2 := hK7.1.1
  have hK := hK2.1
  have hx := S.1
  have hb := S.2.1
  have hl : lv_has ls 2 [(0, .ref b)] := hl
  obtain ⟨hPb, hP, hPh⟩ := hPre
  have hk0 : kAd a (a 0) := ⟨0, by decide, rfl⟩
  refine lv_aload_n hx hb dX2_tried_0 rfl (lv_at hl 0 rfl) ?_
  refine va_get (v := .ref (a 0)) (D := D) (ci := ci) (C := C) (T := T) (N := N) S.1 S.2.1 S.2.2.2.2 hinX S.2.2.2.1 hK hPb 0 rfl hvw 0 hN (by rw [hT0]; exact S.2.2.2.2 _ q872) (fun _ h9 => by rw [hT0] at h9 ⊢; exact h9) hf0 dX2_tried_1 ?_
  refine lv_iconst (v := 0) hx hb dX2_tried_4 (by decide) ?_
  refine k_put1N (A0 := A) hI S hK hP (hkA _ hk0) (va_S.rf : va_S A s.heap s.heap []) 13 (by decide) rfl (hK2.2.1 _ q149 rfl) rfl rfl (by decide +kernel) dX2_tried_5 (fun H locs hP hz1 ho1 hS => ?_)
  have ho : ∀ q, q < s.heap.size → ¬ kAd a q → H[q]? = s.heap[q]? := fun q _ h => ho1 q (fun e => h (by rw [e]; exact hk0))
  have hPb : va_P D vwCl [(b, .inr (ci, fs))] H := hPb.fr ho (one_A hbk)
  have hPd9 := hPd s.heap H hP hPb hz1 ho hPh
  refine lv_aload_n hx hb dX2_tried_8 rfl (lv_at hl 0 rfl) ?_
  refine gc_U (x := xDone) (owner := "CallRounds$Act") (C := C) (rest := []) [] 0 S hKw hKp hS hAd hD (lw_U q910 q912 hse hin hini hcd) (dl_abs hK2 q911) (by decide +kernel) rfl hR1 (va_recv hK hPb (ci := ci) (q0 := 0) hvw rfl) hl.1 (Nat.le_of_ble_eq_true rfl) dX2_tried_9 ⟨(show 0 + mc ≤ MC by omega), (show 0 + ms ≤ MS by omega)⟩ hPd9 (fun v9 H locs hp9 hz9 ho9 hS => ?_) rfl
  obtain ⟨z, rfl⟩ := hpi _ _ hp9
  refine W.eq (g2 := F0 m 12 ls [.int z]) rfl ?_
  exact g_iret S hr hlk hS dX2_tried_12 ⟨(show 0 + mc ≤ MC by omega), (show 0 + ms ≤ MS by omega)⟩ hp9
set_option maxHeartbeats 4000000 in
theorem tA_triedN {l : Launch} {D : va_G} {dA : Nat → ClassId} {cT : ClassId} {zs zu ze : Nat} {a : Nat → Nat} (hI : kInj a) {σ : MS} {Kp : State → Prop} (hKw : Wm Kp) (hKK : ∀ U, Kp U → K7 D dA cT zs zu ze U) {C : String} {T : u_T} {N ci : Nat} (hvw : vwCl[ci]? = some (C, T, N)) (hinX : ∀ w ∈ u_ws C T N, w ∈ lw_all) (hT0 : T 0 = ("CallRounds$Act", "this$0", "LCallRounds;", true)) (hN : 0 < N) {b : Nat} {fs : List Value} (hf0 : fs[0]? = some (.ref (a 0))) (hbk : ¬ kAd a b) {y : MethodName} {code : ByteArray} {nd : Nat}
    (hse : Cond.selects C xDone y ∈ lw_all) (hin : Cond.instanceMethod y ∈ lw_all) (hini : Cond.initialized y.cls ∈ lw_all) (hcd : Cond.code y code nd (some .int) ∈ lw_all) {frd lcd mc ms FR LC MC MS : Nat} (hR1 : frd + 1 ≤ FR ∧ 8 + (nd + 11) + lcd ≤ LC) (hR2 : 2 ≤ FR ∧ 100 ≤ LC) (hR3 : mc ≤ MC ∧ ms ≤ MS) {A Ad : Nat → Prop} (hkA : ∀ q, kAd a q → A q) (hAd : ∀ q, Ad q → A q) {Ph Pd : Heap → Prop}
    (hPd : ∀ H H1 : Heap, va_P D vwCl (kW dA a (σ.i 13 0)) H1 → va_P D vwCl [(b, .inr (ci, fs))] H1 → H1.size = H.size → (∀ q, q < H.size → ¬ kAd a q → H1[q]? = H[q]?) → Ph H → Pd H1)
    (hD : TC l y code nd (some .int) frd lcd mc ms Kp [.ref b] Pd Ad "java/lang/NullPointerException") (hAk : ∀ q, kAd a q → ¬ Ad q) (hAb : ¬ Ad b) : GCW l yX2_tried cX2_tried 2 (some .int) hhA FR LC MC MS Kp [.ref b] (fun H => va_P D vwCl [(b, .inr (ci, fs))] H ∧ va_P D vwCl (kW dA a σ) H ∧ Ph H) A (fun v9 H => v9 = some (.int ((-10) - 1)) ∧ va_P D vwCl (kW dA a (σ.i 13 1)) H) := by
  refine GCW.of (by decide) (Nat.le_of_ble_eq_true rfl) ?_
  intro p e s m below meth c ls S hr hlk htab hKp hPre hl
  have hK7 := hKK s hKp
  have hK2 := hK7.1.1
  have hK := hK2.1
  have hx := S.1
  have hb := S.2.1
  have hl : lv_has ls 2 [(0, .ref b)] := hl
  obtain ⟨hPb, hP, hPh⟩ := hPre
  have hk0 : kAd a (a 0) := ⟨0, by decide, rfl⟩
  refine lv_aload_n hx hb dX2_tried_0 rfl (lv_at hl 0 rfl) ?_
  refine va_get (v := .ref (a 0)) (D := D) (ci := ci) (C := C) (T := T) (N := N) S.1 S.2.1 S.2.2.2.2 hinX S.2.2.2.1 hK hPb 0 rfl hvw 0 hN (by rw [hT0]; exact S.2.2.2.2 _ q872) (fun _ h9 => by rw [hT0] at h9 ⊢; exact h9) hf0 dX2_tried_1 ?_
  refine lv_iconst (v := 0) hx hb dX2_tried_4 (by decide) ?_
  refine k_put1N (A0 := A) hI S hK hP (hkA _ hk0) (va_S.rf : va_S A s.heap s.heap []) 13 (by decide) rfl (hK2.2.1 _ q149 rfl) rfl rfl (by decide +kernel) dX2_tried_5 (fun H locs hP hz1 ho1 hS => ?_)
  have ho : ∀ q, q < s.heap.size → ¬ kAd a q → H[q]? = s.heap[q]? := fun q _ h => ho1 q (fun e => h (by rw [e]; exact hk0))
  have hPb : va_P D vwCl [(b, .inr (ci, fs))] H := hPb.fr ho (one_A hbk)
  have hPd9 := hPd s.heap H hP hPb hz1 ho hPh
  refine lv_aload_n hx hb dX2_tried_8 rfl (lv_at hl 0 rfl) ?_
  refine tc_U (x := xDone) (owner := "CallRounds$Act") (C := C) (rest := []) [] 0 S hKw hKp hS hAd hD (lw_U q910 q912 hse hin hini hcd) (dl_abs hK2 q911) (by decide +kernel) rfl hR1 (va_recv hK hPb (ci := ci) (q0 := 0) hvw rfl) hl.1 (Nat.le_of_ble_eq_true rfl) dX2_tried_9 ⟨(show 0 + mc ≤ MC by omega), (show 0 + ms ≤ MS by omega)⟩ hPd9 (fun x9 H locs hx9 hz9 ho9 hS => ?_) rfl
  refine WT.caught (hpc := 13) rfl htab ?_ ?_
  · exact GT.hit (C := "java/lang/NullPointerException") (name := "java/lang/NullPointerException") (ct := 23) rfl S.2.2.2.1 (S.2.2.2.2 _ q892) (va_any rfl (hK2.2.1 _ q798 rfl)) hx9 rfl rfl (by decide) rfl
  · have hP := kW_fr hI hP ho9 hAk
    have hPb : va_P D vwCl [(b, .inr (ci, fs))] H := hPb.fr ho9 (one_A hAb)
    refine lv_astore_n (lv' := [(1, .ref x9), (0, .ref b)]) hx hb dX2_tried_13 rfl hl (by decide) rfl (fun ls hl => ?_)
    refine lv_aload_n hx hb dX2_tried_14 rfl (lv_at hl 1 rfl) ?_
    refine va_get (v := .ref (a 0)) (D := D) (ci := ci) (C := C) (T := T) (N := N) S.1 S.2.1 S.2.2.2.2 hinX S.2.2.2.1 hK hPb 0 rfl hvw 0 hN (by rw [hT0]; exact S.2.2.2.2 _ q872) (fun _ h9 => by rw [hT0] at h9 ⊢; exact h9) hf0 dX2_tried_15 ?_
    refine lv_iconst (v := 1) hx hb dX2_tried_18 (by decide) ?_
    refine gc_VN (rest := []) [.int 1] 1 S Wm_K2 hK2 hS (fun q h => hkA q h) (KC2.gc (KC.k2 (k0_fails l D dA a hI (σ.i 13 0) (fun _ => True) kStb_T 1))) q767 q60 (hK2.2.1 _ q1003 rfl) q766 qs26 (by decide +kernel) rfl ⟨(show 0 + 1 ≤ FR by omega), (show 8 + (2 + 11) + 0 ≤ LC by omega)⟩ (k_recv hK hP) hl.1 (Nat.le_of_ble_eq_true rfl) dX2_tried_19 ⟨(show 0 + mc + 0 ≤ MC by omega), (show 0 + ms + 0 ≤ MS by omega)⟩ ⟨hP, trivial⟩ (fun v9 H locs hp9 hz9 ho9 hS => ?_) rfl
    obtain ⟨σ9, ⟨rfl, rfl⟩, hP⟩ := hp9
    rw [up_ii] at hP
    refine W.eq (g2 := F0 m 22 ls [.int ((-10) - 1)]) rfl ?_
    exact g_iret S hr hlk hS dX2_tried_22 ⟨(show 0 + mc + 0 ≤ MC by omega), (show 0 + ms + 0 ≤ MS by omega)⟩ ⟨rfl, hP⟩
set_option maxHeartbeats 4000000 in
theorem tA_triedC {l : Launch} {D : va_G} {dA : Nat → ClassId} {cT : ClassId} {zs zu ze : Nat} {a : Nat → Nat} (hI : kInj a) {σ : MS} {Kp : State → Prop} (hKw : Wm Kp) (hKK : ∀ U, Kp U → K7 D dA cT zs zu ze U) {C : String} {T : u_T} {N ci : Nat} (hvw : vwCl[ci]? = some (C, T, N)) (hinX : ∀ w ∈ u_ws C T N, w ∈ lw_all) (hT0 : T 0 = ("CallRounds$Act", "this$0", "LCallRounds;", true)) (hN : 0 < N) {b : Nat} {fs : List Value} (hf0 : fs[0]? = some (.ref (a 0))) (hbk : ¬ kAd a b) {y : MethodName} {code : ByteArray} {nd : Nat}
    (hse : Cond.selects C xDone y ∈ lw_all) (hin : Cond.instanceMethod y ∈ lw_all) (hini : Cond.initialized y.cls ∈ lw_all) (hcd : Cond.code y code nd (some .int) ∈ lw_all) {frd lcd mc ms FR LC MC MS : Nat} (hR1 : frd + 1 ≤ FR ∧ 8 + (nd + 11) + lcd ≤ LC) (hR2 : 2 ≤ FR ∧ 100 ≤ LC) (hR3 : mc ≤ MC ∧ ms ≤ MS) {A Ad : Nat → Prop} (hkA : ∀ q, kAd a q → A q) (hAd : ∀ q, Ad q → A q) {Ph Pd : Heap → Prop}
    (hPd : ∀ H H1 : Heap, va_P D vwCl (kW dA a (σ.i 13 0)) H1 → va_P D vwCl [(b, .inr (ci, fs))] H1 → H1.size = H.size → (∀ q, q < H.size → ¬ kAd a q → H1[q]? = H[q]?) → Ph H → Pd H1)
    (hD : TC l y code nd (some .int) frd lcd mc ms Kp [.ref b] Pd Ad "java/lang/ClassCastException") (hAk : ∀ q, kAd a q → ¬ Ad q) (hAb : ¬ Ad b) : GCW l yX2_tried cX2_tried 2 (some .int) hhA FR LC MC MS Kp [.ref b] (fun H => va_P D vwCl [(b, .inr (ci, fs))] H ∧ va_P D vwCl (kW dA a σ) H ∧ Ph H) A (fun v9 H => v9 = some (.int ((-10) - 2)) ∧ va_P D vwCl (kW dA a (σ.i 13 2)) H) := by
  refine GCW.of (by decide) (Nat.le_of_ble_eq_true rfl) ?_
  intro p e s m below meth c ls S hr hlk htab hKp hPre hl
  have hK7 := hKK s hKp
  have hK2 := hK7.1.1
  have hK := hK2.1
  have hx := S.1
  have hb := S.2.1
  have hl : lv_has ls 2 [(0, .ref b)] := hl
  obtain ⟨hPb, hP, hPh⟩ := hPre
  have hk0 : kAd a (a 0) := ⟨0, by decide, rfl⟩
  refine lv_aload_n hx hb dX2_tried_0 rfl (lv_at hl 0 rfl) ?_
  refine va_get (v := .ref (a 0)) (D := D) (ci := ci) (C := C) (T := T) (N := N) S.1 S.2.1 S.2.2.2.2 hinX S.2.2.2.1 hK hPb 0 rfl hvw 0 hN (by rw [hT0]; exact S.2.2.2.2 _ q872) (fun _ h9 => by rw [hT0] at h9 ⊢; exact h9) hf0 dX2_tried_1 ?_
  refine lv_iconst (v := 0) hx hb dX2_tried_4 (by decide) ?_
  refine k_put1N (A0 := A) hI S hK hP (hkA _ hk0) (va_S.rf : va_S A s.heap s.heap []) 13 (by decide) rfl (hK2.2.1 _ q149 rfl) rfl rfl (by decide +kernel) dX2_tried_5 (fun H locs hP hz1 ho1 hS => ?_)
  have ho : ∀ q, q < s.heap.size → ¬ kAd a q → H[q]? = s.heap[q]? := fun q _ h => ho1 q (fun e => h (by rw [e]; exact hk0))
  have hPb : va_P D vwCl [(b, .inr (ci, fs))] H := hPb.fr ho (one_A hbk)
  have hPd9 := hPd s.heap H hP hPb hz1 ho hPh
  refine lv_aload_n hx hb dX2_tried_8 rfl (lv_at hl 0 rfl) ?_
  refine tc_U (x := xDone) (owner := "CallRounds$Act") (C := C) (rest := []) [] 0 S hKw hKp hS hAd hD (lw_U q910 q912 hse hin hini hcd) (dl_abs hK2 q911) (by decide +kernel) rfl hR1 (va_recv hK hPb (ci := ci) (q0 := 0) hvw rfl) hl.1 (Nat.le_of_ble_eq_true rfl) dX2_tried_9 ⟨(show 0 + mc ≤ MC by omega), (show 0 + ms ≤ MS by omega)⟩ hPd9 (fun x9 H locs hx9 hz9 ho9 hS => ?_) rfl
  refine WT.caught (hpc := 23) rfl htab ?_ ?_
  · obtain ⟨c3, c4, w1, w2, w3⟩ := hK7.2.1 6 _ rfl
    refine GT.pass (C := "java/lang/ClassCastException") (name := "java/lang/NullPointerException") (ct := 23) rfl S.2.2.2.1 (S.2.2.2.2 _ q892) w1 w2 w3 hx9 rfl rfl (by decide) ?_
    exact GT.hit (C := "java/lang/ClassCastException") (name := "java/lang/ClassCastException") (ct := 29) rfl S.2.2.2.1 (S.2.2.2.2 _ q893) (va_any rfl (hK2.2.1 _ q841 rfl)) hx9 rfl rfl (by decide) rfl
  · have hP := kW_fr hI hP ho9 hAk
    have hPb : va_P D vwCl [(b, .inr (ci, fs))] H := hPb.fr ho9 (one_A hAb)
    refine lv_astore_n (lv' := [(1, .ref x9), (0, .ref b)]) hx hb dX2_tried_23 rfl hl (by decide) rfl (fun ls hl => ?_)
    refine lv_aload_n hx hb dX2_tried_24 rfl (lv_at hl 1 rfl) ?_
    refine va_get (v := .ref (a 0)) (D := D) (ci := ci) (C := C) (T := T) (N := N) S.1 S.2.1 S.2.2.2.2 hinX S.2.2.2.1 hK hPb 0 rfl hvw 0 hN (by rw [hT0]; exact S.2.2.2.2 _ q872) (fun _ h9 => by rw [hT0] at h9 ⊢; exact h9) hf0 dX2_tried_25 ?_
    refine lv_iconst (v := 2) hx hb dX2_tried_28 (by decide) ?_
    refine gc_VN (rest := []) [.int 2] 1 S Wm_K2 hK2 hS (fun q h => hkA q h) (KC2.gc (KC.k2 (k0_fails l D dA a hI (σ.i 13 0) (fun _ => True) kStb_T 2))) q767 q60 (hK2.2.1 _ q1003 rfl) q766 qs26 (by decide +kernel) rfl ⟨(show 0 + 1 ≤ FR by omega), (show 8 + (2 + 11) + 0 ≤ LC by omega)⟩ (k_recv hK hP) hl.1 (Nat.le_of_ble_eq_true rfl) dX2_tried_29 ⟨(show 0 + mc + 0 ≤ MC by omega), (show 0 + ms + 0 ≤ MS by omega)⟩ ⟨hP, trivial⟩ (fun v9 H locs hp9 hz9 ho9 hS => ?_) rfl
    obtain ⟨σ9, ⟨rfl, rfl⟩, hP⟩ := hp9
    rw [up_ii] at hP
    refine W.eq (g2 := F0 m 32 ls [.int ((-10) - 2)]) rfl ?_
    exact g_iret S hr hlk hS dX2_tried_32 ⟨(show 0 + mc + 0 ≤ MC by omega), (show 0 + ms + 0 ≤ MS by omega)⟩ ⟨rfl, hP⟩
set_option maxHeartbeats 4000000 in
theorem tA_triedA {l : Launch} {D : va_G} {dA : Nat → ClassId} {cT : ClassId} {zs zu ze : Nat} {a : Nat → Nat} (hI : kInj a) {σ : MS} {Kp : State → Prop} (hKw : Wm Kp) (hKK : ∀ U, Kp U → K7 D dA cT zs zu ze U) {C : String} {T : u_T} {N ci : Nat} (hvw : vwCl[ci]? = some (C, T, N)) (hinX : ∀ w ∈ u_ws C T N, w ∈ lw_all) (hT0 : T 0 = ("CallRounds$Act", "this$0", "LCallRounds;", true)) (hN : 0 < N) {b : Nat} {fs : List Value} (hf0 : fs[0]? = some (.ref (a 0))) (hbk : ¬ kAd a b) {y : MethodName} {code : ByteArray} {nd : Nat}
    (hse : Cond.selects C xDone y ∈ lw_all) (hin : Cond.instanceMethod y ∈ lw_all) (hini : Cond.initialized y.cls ∈ lw_all) (hcd : Cond.code y code nd (some .int) ∈ lw_all) {frd lcd mc ms FR LC MC MS : Nat} (hR1 : frd + 1 ≤ FR ∧ 8 + (nd + 11) + lcd ≤ LC) (hR2 : 2 ≤ FR ∧ 100 ≤ LC) (hR3 : mc ≤ MC ∧ ms ≤ MS) {A Ad : Nat → Prop} (hkA : ∀ q, kAd a q → A q) (hAd : ∀ q, Ad q → A q) {Ph Pd : Heap → Prop}
    (hPd : ∀ H H1 : Heap, va_P D vwCl (kW dA a (σ.i 13 0)) H1 → va_P D vwCl [(b, .inr (ci, fs))] H1 → H1.size = H.size → (∀ q, q < H.size → ¬ kAd a q → H1[q]? = H[q]?) → Ph H → Pd H1)
    (hD : TC l y code nd (some .int) frd lcd mc ms Kp [.ref b] Pd Ad "java/lang/ArrayStoreException") (hAk : ∀ q, kAd a q → ¬ Ad q) (hAb : ¬ Ad b) : GCW l yX2_tried cX2_tried 2 (some .int) hhA FR LC MC MS Kp [.ref b] (fun H => va_P D vwCl [(b, .inr (ci, fs))] H ∧ va_P D vwCl (kW dA a σ) H ∧ Ph H) A (fun v9 H => v9 = some (.int ((-10) - 2)) ∧ va_P D vwCl (kW dA a (σ.i 13 2)) H) := by
  refine GCW.of (by decide) (Nat.le_of_ble_eq_true rfl) ?_
  intro p e s m below meth c ls S hr hlk htab hKp hPre hl
  have hK7 := hKK s hKp
  have hK2 := hK7.1.1
  have hK := hK2.1
  have hx := S.1
  have hb := S.2.1
  have hl : lv_has ls 2 [(0, .ref b)] := hl
  obtain ⟨hPb, hP, hPh⟩ := hPre
  have hk0 : kAd a (a 0) := ⟨0, by decide, rfl⟩
  refine lv_aload_n hx hb dX2_tried_0 rfl (lv_at hl 0 rfl) ?_
  refine va_get (v := .ref (a 0)) (D := D) (ci := ci) (C := C) (T := T) (N := N) S.1 S.2.1 S.2.2.2.2 hinX S.2.2.2.1 hK hPb 0 rfl hvw 0 hN (by rw [hT0]; exact S.2.2.2.2 _ q872) (fun _ h9 => by rw [hT0] at h9 ⊢; exact h9) hf0 dX2_tried_1 ?_
  refine lv_iconst (v := 0) hx hb dX2_tried_4 (by decide) ?_
  refine k_put1N (A0 := A) hI S hK hP (hkA _ hk0) (va_S.rf : va_S A s.heap s.heap []) 13 (by decide) rfl (hK2.2.1 _ q149 rfl) rfl rfl (by decide +kernel) dX2_tried_5 (fun H locs hP hz1 ho1 hS => ?_)
  have ho : ∀ q, q < s.heap.size → ¬ kAd a q → H[q]? = s.heap[q]? := fun q _ h => ho1 q (fun e => h (by rw [e]; exact hk0))
  have hPb : va_P D vwCl [(b, .inr (ci, fs))] H := hPb.fr ho (one_A hbk)
  have hPd9 := hPd s.heap H hP hPb hz1 ho hPh
  refine lv_aload_n hx hb dX2_tried_8 rfl (lv_at hl 0 rfl) ?_
  refine tc_U (x := xDone) (owner := "CallRounds$Act") (C := C) (rest := []) [] 0 S hKw hKp hS hAd hD (lw_U q910 q912 hse hin hini hcd) (dl_abs hK2 q911) (by decide +kernel) rfl hR1 (va_recv hK hPb (ci := ci) (q0 := 0) hvw rfl) hl.1 (Nat.le_of_ble_eq_true rfl) dX2_tried_9 ⟨(show 0 + mc ≤ MC by omega), (show 0 + ms ≤ MS by omega)⟩ hPd9 (fun x9 H locs hx9 hz9 ho9 hS => ?_) rfl
  refine WT.caught (hpc := 23) rfl htab ?_ ?_
  · obtain ⟨c3, c4, w1, w2, w3⟩ := hK7.2.1 9 _ rfl
    refine GT.pass (C := "java/lang/ArrayStoreException") (name := "java/lang/NullPointerException") (ct := 23) rfl S.2.2.2.1 (S.2.2.2.2 _ q892) w1 w2 w3 hx9 rfl rfl (by decide) ?_
    obtain ⟨c3, c4, w1, w2, w3⟩ := hK7.2.1 10 _ rfl
    refine GT.pass (C := "java/lang/ArrayStoreException") (name := "java/lang/ClassCastException") (ct := 29) rfl S.2.2.2.1 (S.2.2.2.2 _ q893) w1 w2 w3 hx9 rfl rfl (by decide) ?_
    exact GT.hit (C := "java/lang/ArrayStoreException") (name := "java/lang/ArrayStoreException") (ct := 31) rfl S.2.2.2.1 (S.2.2.2.2 _ q894) (va_any rfl (hK2.2.1 _ q906 rfl)) hx9 rfl rfl (by decide) rfl
  · have hP := kW_fr hI hP ho9 hAk
    have hPb : va_P D vwCl [(b, .inr (ci, fs))] H := hPb.fr ho9 (one_A hAb)
    refine lv_astore_n (lv' := [(1, .ref x9), (0, .ref b)]) hx hb dX2_tried_23 rfl hl (by decide) rfl (fun ls hl => ?_)
    refine lv_aload_n hx hb dX2_tried_24 rfl (lv_at hl 1 rfl) ?_
    refine va_get (v := .ref (a 0)) (D := D) (ci := ci) (C := C) (T := T) (N := N) S.1 S.2.1 S.2.2.2.2 hinX S.2.2.2.1 hK hPb 0 rfl hvw 0 hN (by rw [hT0]; exact S.2.2.2.2 _ q872) (fun _ h9 => by rw [hT0] at h9 ⊢; exact h9) hf0 dX2_tried_25 ?_
    refine lv_iconst (v := 2) hx hb dX2_tried_28 (by decide) ?_
    refine gc_VN (rest := []) [.int 2] 1 S Wm_K2 hK2 hS (fun q h => hkA q h) (KC2.gc (KC.k2 (k0_fails l D dA a hI (σ.i 13 0) (fun _ => True) kStb_T 2))) q767 q60 (hK2.2.1 _ q1003 rfl) q766 qs26 (by decide +kernel) rfl ⟨(show 0 + 1 ≤ FR by omega), (show 8 + (2 + 11) + 0 ≤ LC by omega)⟩ (k_recv hK hP) hl.1 (Nat.le_of_ble_eq_true rfl) dX2_tried_29 ⟨(show 0 + mc + 0 ≤ MC by omega), (show 0 + ms + 0 ≤ MS by omega)⟩ ⟨hP, trivial⟩ (fun v9 H locs hp9 hz9 ho9 hS => ?_) rfl
    obtain ⟨σ9, ⟨rfl, rfl⟩, hP⟩ := hp9
    rw [up_ii] at hP
    refine W.eq (g2 := F0 m 32 ls [.int ((-10) - 2)]) rfl ?_
    exact g_iret S hr hlk hS dX2_tried_32 ⟨(show 0 + mc + 0 ≤ MC by omega), (show 0 + ms + 0 ≤ MS by omega)⟩ ⟨rfl, hP⟩
set_option maxHeartbeats 4000000 in
theorem tA_triedS {l : Launch} {D : va_G} {dA : Nat → ClassId} {cT : ClassId} {zs zu ze : Nat} {a : Nat → Nat} (hI : kInj a) {σ : MS} {Kp : State → Prop} (hKw : Wm Kp) (hKK : ∀ U, Kp U → K7 D dA cT zs zu ze U) {C : String} {T : u_T} {N ci : Nat} (hvw : vwCl[ci]? = some (C, T, N)) (hinX : ∀ w ∈ u_ws C T N, w ∈ lw_all) (hT0 : T 0 = ("CallRounds$Act", "this$0", "LCallRounds;", true)) (hN : 0 < N) {b : Nat} {fs : List Value} (hf0 : fs[0]? = some (.ref (a 0))) (hbk : ¬ kAd a b) {y : MethodName} {code : ByteArray} {nd : Nat}
    (hse : Cond.selects C xDone y ∈ lw_all) (hin : Cond.instanceMethod y ∈ lw_all) (hini : Cond.initialized y.cls ∈ lw_all) (hcd : Cond.code y code nd (some .int) ∈ lw_all) {frd lcd mc ms FR LC MC MS : Nat} (hR1 : frd + 1 ≤ FR ∧ 8 + (nd + 11) + lcd ≤ LC) (hR2 : 2 ≤ FR ∧ 100 ≤ LC) (hR3 : mc ≤ MC ∧ ms ≤ MS) {A Ad : Nat → Prop} (hkA : ∀ q, kAd a q → A q) (hAd : ∀ q, Ad q → A q) {Ph Pd : Heap → Prop}
    (hPd : ∀ H H1 : Heap, va_P D vwCl (kW dA a (σ.i 13 0)) H1 → va_P D vwCl [(b, .inr (ci, fs))] H1 → H1.size = H.size → (∀ q, q < H.size → ¬ kAd a q → H1[q]? = H[q]?) → Ph H → Pd H1)
    (hD : TC l y code nd (some .int) frd lcd mc ms Kp [.ref b] Pd Ad "java/lang/NegativeArraySizeException") (hAk : ∀ q, kAd a q → ¬ Ad q) (hAb : ¬ Ad b) : GCW l yX2_tried cX2_tried 2 (some .int) hhA FR LC MC MS Kp [.ref b] (fun H => va_P D vwCl [(b, .inr (ci, fs))] H ∧ va_P D vwCl (kW dA a σ) H ∧ Ph H) A (fun v9 H => v9 = some (.int ((-10) - 4)) ∧ va_P D vwCl (kW dA a (σ.i 13 4)) H) := by
  refine GCW.of (by decide) (Nat.le_of_ble_eq_true rfl) ?_
  intro p e s m below meth c ls S hr hlk htab hKp hPre hl
  have hK7 := hKK s hKp
  have hK2 := hK7.1.1
  have hK := hK2.1
  have hx := S.1
  have hb := S.2.1
  have hl : lv_has ls 2 [(0, .ref b)] := hl
  obtain ⟨hPb, hP, hPh⟩ := hPre
  have hk0 : kAd a (a 0) := ⟨0, by decide, rfl⟩
  refine lv_aload_n hx hb dX2_tried_0 rfl (lv_at hl 0 rfl) ?_
  refine va_get (v := .ref (a 0)) (D := D) (ci := ci) (C := C) (T := T) (N := N) S.1 S.2.1 S.2.2.2.2 hinX S.2.2.2.1 hK hPb 0 rfl hvw 0 hN (by rw [hT0]; exact S.2.2.2.2 _ q872) (fun _ h9 => by rw [hT0] at h9 ⊢; exact h9) hf0 dX2_tried_1 ?_
  refine lv_iconst (v := 0) hx hb dX2_tried_4 (by decide) ?_
  refine k_put1N (A0 := A) hI S hK hP (hkA _ hk0) (va_S.rf : va_S A s.heap s.heap []) 13 (by decide) rfl (hK2.2.1 _ q149 rfl) rfl rfl (by decide +kernel) dX2_tried_5 (fun H locs hP hz1 ho1 hS => ?_)
  have ho : ∀ q, q < s.heap.size → ¬ kAd a q → H[q]? = s.heap[q]? := fun q _ h => ho1 q (fun e => h (by rw [e]; exact hk0))
  have hPb : va_P D vwCl [(b, .inr (ci, fs))] H := hPb.fr ho (one_A hbk)
  have hPd9 := hPd s.heap H hP hPb hz1 ho hPh
  refine lv_aload_n hx hb dX2_tried_8 rfl (lv_at hl 0 rfl) ?_
  refine tc_U (x := xDone) (owner := "CallRounds$Act") (C := C) (rest := []) [] 0 S hKw hKp hS hAd hD (lw_U q910 q912 hse hin hini hcd) (dl_abs hK2 q911) (by decide +kernel) rfl hR1 (va_recv hK hPb (ci := ci) (q0 := 0) hvw rfl) hl.1 (Nat.le_of_ble_eq_true rfl) dX2_tried_9 ⟨(show 0 + mc ≤ MC by omega), (show 0 + ms ≤ MS by omega)⟩ hPd9 (fun x9 H locs hx9 hz9 ho9 hS => ?_) rfl
  refine WT.caught (hpc := 33) rfl htab ?_ ?_
  · obtain ⟨c3, c4, w1, w2, w3⟩ := hK7.2.1 11 _ rfl
    refine GT.pass (C := "java/lang/NegativeArraySizeException") (name := "java/lang/NullPointerException") (ct := 23) rfl S.2.2.2.1 (S.2.2.2.2 _ q892) w1 w2 w3 hx9 rfl rfl (by decide) ?_
    obtain ⟨c3, c4, w1, w2, w3⟩ := hK7.2.1 12 _ rfl
    refine GT.pass (C := "java/lang/NegativeArraySizeException") (name := "java/lang/ClassCastException") (ct := 29) rfl S.2.2.2.1 (S.2.2.2.2 _ q893) w1 w2 w3 hx9 rfl rfl (by decide) ?_
    obtain ⟨c3, c4, w1, w2, w3⟩ := hK7.2.1 13 _ rfl
    refine GT.pass (C := "java/lang/NegativeArraySizeException") (name := "java/lang/ArrayStoreException") (ct := 31) rfl S.2.2.2.1 (S.2.2.2.2 _ q894) w1 w2 w3 hx9 rfl rfl (by decide) ?_
    exact GT.hit (C := "java/lang/NegativeArraySizeException") (name := "java/lang/NegativeArraySizeException") (ct := 33) rfl S.2.2.2.1 (S.2.2.2.2 _ q908) (va_any rfl (hK2.2.1 _ q719 rfl)) hx9 rfl rfl (by decide) rfl
  · have hP := kW_fr hI hP ho9 hAk
    have hPb : va_P D vwCl [(b, .inr (ci, fs))] H := hPb.fr ho9 (one_A hAb)
    refine lv_astore_n (lv' := [(1, .ref x9), (0, .ref b)]) hx hb dX2_tried_33 rfl hl (by decide) rfl (fun ls hl => ?_)
    refine lv_aload_n hx hb dX2_tried_34 rfl (lv_at hl 1 rfl) ?_
    refine va_get (v := .ref (a 0)) (D := D) (ci := ci) (C := C) (T := T) (N := N) S.1 S.2.1 S.2.2.2.2 hinX S.2.2.2.1 hK hPb 0 rfl hvw 0 hN (by rw [hT0]; exact S.2.2.2.2 _ q872) (fun _ h9 => by rw [hT0] at h9 ⊢; exact h9) hf0 dX2_tried_35 ?_
    refine lv_iconst (v := 4) hx hb dX2_tried_38 (by decide) ?_
    refine gc_VN (rest := []) [.int 4] 1 S Wm_K2 hK2 hS (fun q h => hkA q h) (KC2.gc (KC.k2 (k0_fails l D dA a hI (σ.i 13 0) (fun _ => True) kStb_T 4))) q767 q60 (hK2.2.1 _ q1003 rfl) q766 qs26 (by decide +kernel) rfl ⟨(show 0 + 1 ≤ FR by omega), (show 8 + (2 + 11) + 0 ≤ LC by omega)⟩ (k_recv hK hP) hl.1 (Nat.le_of_ble_eq_true rfl) dX2_tried_39 ⟨(show 0 + mc + 0 ≤ MC by omega), (show 0 + ms + 0 ≤ MS by omega)⟩ ⟨hP, trivial⟩ (fun v9 H locs hp9 hz9 ho9 hS => ?_) rfl
    obtain ⟨σ9, ⟨rfl, rfl⟩, hP⟩ := hp9
    rw [up_ii] at hP
    refine W.eq (g2 := F0 m 42 ls [.int ((-10) - 4)]) rfl ?_
    exact g_iret S hr hlk hS dX2_tried_42 ⟨(show 0 + mc + 0 ≤ MC by omega), (show 0 + ms + 0 ≤ MS by omega)⟩ ⟨rfl, hP⟩
set_option maxHeartbeats 4000000 in
theorem tA_triedI {l : Launch} {D : va_G} {dA : Nat → ClassId} {cT : ClassId} {zs zu ze : Nat} {a : Nat → Nat} (hI : kInj a) {σ : MS} {Kp : State → Prop} (hKw : Wm Kp) (hKK : ∀ U, Kp U → K7 D dA cT zs zu ze U) {C : String} {T : u_T} {N ci : Nat} (hvw : vwCl[ci]? = some (C, T, N)) (hinX : ∀ w ∈ u_ws C T N, w ∈ lw_all) (hT0 : T 0 = ("CallRounds$Act", "this$0", "LCallRounds;", true)) (hN : 0 < N) {b : Nat} {fs : List Value} (hf0 : fs[0]? = some (.ref (a 0))) (hbk : ¬ kAd a b) {y : MethodName} {code : ByteArray} {nd : Nat}
    (hse : Cond.selects C xDone y ∈ lw_all) (hin : Cond.instanceMethod y ∈ lw_all) (hini : Cond.initialized y.cls ∈ lw_all) (hcd : Cond.code y code nd (some .int) ∈ lw_all) {frd lcd mc ms FR LC MC MS : Nat} (hR1 : frd + 1 ≤ FR ∧ 8 + (nd + 11) + lcd ≤ LC) (hR2 : 2 ≤ FR ∧ 100 ≤ LC) (hR3 : mc ≤ MC ∧ ms ≤ MS) {A Ad : Nat → Prop} (hkA : ∀ q, kAd a q → A q) (hAd : ∀ q, Ad q → A q) {Ph Pd : Heap → Prop}
    (hPd : ∀ H H1 : Heap, va_P D vwCl (kW dA a (σ.i 13 0)) H1 → va_P D vwCl [(b, .inr (ci, fs))] H1 → H1.size = H.size → (∀ q, q < H.size → ¬ kAd a q → H1[q]? = H[q]?) → Ph H → Pd H1)
    (hD : TC l y code nd (some .int) frd lcd mc ms Kp [.ref b] Pd Ad "java/lang/IndexOutOfBoundsException") (hAk : ∀ q, kAd a q → ¬ Ad q) (hAb : ¬ Ad b) : GCW l yX2_tried cX2_tried 2 (some .int) hhA FR LC MC MS Kp [.ref b] (fun H => va_P D vwCl [(b, .inr (ci, fs))] H ∧ va_P D vwCl (kW dA a σ) H ∧ Ph H) A (fun v9 H => v9 = some (.int ((-10) - 3)) ∧ va_P D vwCl (kW dA a (σ.i 13 3)) H) := by
  refine GCW.of (by decide) (Nat.le_of_ble_eq_true rfl) ?_
  intro p e s m below meth c ls S hr hlk htab hKp hPre hl
  have hK7 := hKK s hKp
  have hK2 := hK7.1.1
  have hK := hK2.1
  have hx := S.1
  have hb := S.2.1
  have hl : lv_has ls 2 [(0, .ref b)] := hl
  obtain ⟨hPb, hP, hPh⟩ := hPre
  have hk0 : kAd a (a 0) := ⟨0, by decide, rfl⟩
  refine lv_aload_n hx hb dX2_tried_0 rfl (lv_at hl 0 rfl) ?_
  refine va_get (v := .ref (a 0)) (D := D) (ci := ci) (C := C) (T := T) (N := N) S.1 S.2.1 S.2.2.2.2 hinX S.2.2.2.1 hK hPb 0 rfl hvw 0 hN (by rw [hT0]; exact S.2.2.2.2 _ q872) (fun _ h9 => by rw [hT0] at h9 ⊢; exact h9) hf0 dX2_tried_1 ?_
  refine lv_iconst (v := 0) hx hb dX2_tried_4 (by decide) ?_
  refine k_put1N (A0 := A) hI S hK hP (hkA _ hk0) (va_S.rf : va_S A s.heap s.heap []) 13 (by decide) rfl (hK2.2.1 _ q149 rfl) rfl rfl (by decide +kernel) dX2_tried_5 (fun H locs hP hz1 ho1 hS => ?_)
  have ho : ∀ q, q < s.heap.size → ¬ kAd a q → H[q]? = s.heap[q]? := fun q _ h => ho1 q (fun e => h (by rw [e]; exact hk0))
  have hPb : va_P D vwCl [(b, .inr (ci, fs))] H := hPb.fr ho (one_A hbk)
  have hPd9 := hPd s.heap H hP hPb hz1 ho hPh
  refine lv_aload_n hx hb dX2_tried_8 rfl (lv_at hl 0 rfl) ?_
  refine tc_U (x := xDone) (owner := "CallRounds$Act") (C := C) (rest := []) [] 0 S hKw hKp hS hAd hD (lw_U q910 q912 hse hin hini hcd) (dl_abs hK2 q911) (by decide +kernel) rfl hR1 (va_recv hK hPb (ci := ci) (q0 := 0) hvw rfl) hl.1 (Nat.le_of_ble_eq_true rfl) dX2_tried_9 ⟨(show 0 + mc ≤ MC by omega), (show 0 + ms ≤ MS by omega)⟩ hPd9 (fun x9 H locs hx9 hz9 ho9 hS => ?_) rfl
  refine WT.caught (hpc := 43) rfl htab ?_ ?_
  · obtain ⟨c3, c4, w1, w2, w3⟩ := hK7.2.1 14 _ rfl
    refine GT.pass (C := "java/lang/IndexOutOfBoundsException") (name := "java/lang/NullPointerException") (ct := 23) rfl S.2.2.2.1 (S.2.2.2.2 _ q892) w1 w2 w3 hx9 rfl rfl (by decide) ?_
    obtain ⟨c3, c4, w1, w2, w3⟩ := hK7.2.1 15 _ rfl
    refine GT.pass (C := "java/lang/IndexOutOfBoundsException") (name := "java/lang/ClassCastException") (ct := 29) rfl S.2.2.2.1 (S.2.2.2.2 _ q893) w1 w2 w3 hx9 rfl rfl (by decide) ?_
    obtain ⟨c3, c4, w1, w2, w3⟩ := hK7.2.1 16 _ rfl
    refine GT.pass (C := "java/lang/IndexOutOfBoundsException") (name := "java/lang/ArrayStoreException") (ct := 31) rfl S.2.2.2.1 (S.2.2.2.2 _ q894) w1 w2 w3 hx9 rfl rfl (by decide) ?_
    obtain ⟨c3, c4, w1, w2, w3⟩ := hK7.2.1 17 _ rfl
    refine GT.pass (C := "java/lang/IndexOutOfBoundsException") (name := "java/lang/NegativeArraySizeException") (ct := 33) rfl S.2.2.2.1 (S.2.2.2.2 _ q908) w1 w2 w3 hx9 rfl rfl (by decide) ?_
    exact GT.hit (C := "java/lang/IndexOutOfBoundsException") (name := "java/lang/IndexOutOfBoundsException") (ct := 35) rfl S.2.2.2.1 (S.2.2.2.2 _ q909) (va_any rfl (hK2.2.1 _ q932 rfl)) hx9 rfl rfl (by decide) rfl
  · have hP := kW_fr hI hP ho9 hAk
    have hPb : va_P D vwCl [(b, .inr (ci, fs))] H := hPb.fr ho9 (one_A hAb)
    refine lv_astore_n (lv' := [(1, .ref x9), (0, .ref b)]) hx hb dX2_tried_43 rfl hl (by decide) rfl (fun ls hl => ?_)
    refine lv_aload_n hx hb dX2_tried_44 rfl (lv_at hl 1 rfl) ?_
    refine va_get (v := .ref (a 0)) (D := D) (ci := ci) (C := C) (T := T) (N := N) S.1 S.2.1 S.2.2.2.2 hinX S.2.2.2.1 hK hPb 0 rfl hvw 0 hN (by rw [hT0]; exact S.2.2.2.2 _ q872) (fun _ h9 => by rw [hT0] at h9 ⊢; exact h9) hf0 dX2_tried_45 ?_
    refine lv_iconst (v := 3) hx hb dX2_tried_48 (by decide) ?_
    refine gc_VN (rest := []) [.int 3] 1 S Wm_K2 hK2 hS (fun q h => hkA q h) (KC2.gc (KC.k2 (k0_fails l D dA a hI (σ.i 13 0) (fun _ => True) kStb_T 3))) q767 q60 (hK2.2.1 _ q1003 rfl) q766 qs26 (by decide +kernel) rfl ⟨(show 0 + 1 ≤ FR by omega), (show 8 + (2 + 11) + 0 ≤ LC by omega)⟩ (k_recv hK hP) hl.1 (Nat.le_of_ble_eq_true rfl) dX2_tried_49 ⟨(show 0 + mc + 0 ≤ MC by omega), (show 0 + ms + 0 ≤ MS by omega)⟩ ⟨hP, trivial⟩ (fun v9 H locs hp9 hz9 ho9 hS => ?_) rfl
    obtain ⟨σ9, ⟨rfl, rfl⟩, hP⟩ := hp9
    rw [up_ii] at hP
    refine W.eq (g2 := F0 m 52 ls [.int ((-10) - 3)]) rfl ?_
    exact g_iret S hr hlk hS dX2_tried_52 ⟨(show 0 + mc + 0 ≤ MC by omega), (show 0 + ms + 0 ≤ MS by omega)⟩ ⟨rfl, hP⟩
set_option maxHeartbeats 4000000 in
theorem tA_triedO {l : Launch} {D : va_G} {dA : Nat → ClassId} {cT : ClassId} {zs zu ze : Nat} {a : Nat → Nat} (hI : kInj a) {σ : MS} {Kp : State → Prop} (hKw : Wm Kp) (hKK : ∀ U, Kp U → K7 D dA cT zs zu ze U) {C : String} {T : u_T} {N ci : Nat} (hvw : vwCl[ci]? = some (C, T, N)) (hinX : ∀ w ∈ u_ws C T N, w ∈ lw_all) (hT0 : T 0 = ("CallRounds$Act", "this$0", "LCallRounds;", true)) (hN : 0 < N) {b : Nat} {fs : List Value} (hf0 : fs[0]? = some (.ref (a 0))) (hbk : ¬ kAd a b) {y : MethodName} {code : ByteArray} {nd : Nat}
    (hse : Cond.selects C xDone y ∈ lw_all) (hin : Cond.instanceMethod y ∈ lw_all) (hini : Cond.initialized y.cls ∈ lw_all) (hcd : Cond.code y code nd (some .int) ∈ lw_all) {frd lcd mc ms FR LC MC MS : Nat} (hR1 : frd + 1 ≤ FR ∧ 8 + (nd + 11) + lcd ≤ LC) (hR2 : 2 ≤ FR ∧ 100 ≤ LC) (hR3 : mc ≤ MC ∧ ms ≤ MS) {A Ad : Nat → Prop} (hkA : ∀ q, kAd a q → A q) (hAd : ∀ q, Ad q → A q) {Ph Pd : Heap → Prop}
    (hPd : ∀ H H1 : Heap, va_P D vwCl (kW dA a (σ.i 13 0)) H1 → va_P D vwCl [(b, .inr (ci, fs))] H1 → H1.size = H.size → (∀ q, q < H.size → ¬ kAd a q → H1[q]? = H[q]?) → Ph H → Pd H1)
    (hD : TC l y code nd (some .int) frd lcd mc ms Kp [.ref b] Pd Ad "java/lang/ArrayIndexOutOfBoundsException") (hAk : ∀ q, kAd a q → ¬ Ad q) (hAb : ¬ Ad b) : GCW l yX2_tried cX2_tried 2 (some .int) hhA FR LC MC MS Kp [.ref b] (fun H => va_P D vwCl [(b, .inr (ci, fs))] H ∧ va_P D vwCl (kW dA a σ) H ∧ Ph H) A (fun v9 H => v9 = some (.int ((-10) - 3)) ∧ va_P D vwCl (kW dA a (σ.i 13 3)) H) := by
  refine GCW.of (by decide) (Nat.le_of_ble_eq_true rfl) ?_
  intro p e s m below meth c ls S hr hlk htab hKp hPre hl
  have hK7 := hKK s hKp
  have hK2 := hK7.1.1
  have hK := hK2.1
  have hx := S.1
  have hb := S.2.1
  have hl : lv_has ls 2 [(0, .ref b)] := hl
  obtain ⟨hPb, hP, hPh⟩ := hPre
  have hk0 : kAd a (a 0) := ⟨0, by decide, rfl⟩
  refine lv_aload_n hx hb dX2_tried_0 rfl (lv_at hl 0 rfl) ?_
  refine va_get (v := .ref (a 0)) (D := D) (ci := ci) (C := C) (T := T) (N := N) S.1 S.2.1 S.2.2.2.2 hinX S.2.2.2.1 hK hPb 0 rfl hvw 0 hN (by rw [hT0]; exact S.2.2.2.2 _ q872) (fun _ h9 => by rw [hT0] at h9 ⊢; exact h9) hf0 dX2_tried_1 ?_
  refine lv_iconst (v := 0) hx hb dX2_tried_4 (by decide) ?_
  refine k_put1N (A0 := A) hI S hK hP (hkA _ hk0) (va_S.rf : va_S A s.heap s.heap []) 13 (by decide) rfl (hK2.2.1 _ q149 rfl) rfl rfl (by decide +kernel) dX2_tried_5 (fun H locs hP hz1 ho1 hS => ?_)
  have ho : ∀ q, q < s.heap.size → ¬ kAd a q → H[q]? = s.heap[q]? := fun q _ h => ho1 q (fun e => h (by rw [e]; exact hk0))
  have hPb : va_P D vwCl [(b, .inr (ci, fs))] H := hPb.fr ho (one_A hbk)
  have hPd9 := hPd s.heap H hP hPb hz1 ho hPh
  refine lv_aload_n hx hb dX2_tried_8 rfl (lv_at hl 0 rfl) ?_
  refine tc_U (x := xDone) (owner := "CallRounds$Act") (C := C) (rest := []) [] 0 S hKw hKp hS hAd hD (lw_U q910 q912 hse hin hini hcd) (dl_abs hK2 q911) (by decide +kernel) rfl hR1 (va_recv hK hPb (ci := ci) (q0 := 0) hvw rfl) hl.1 (Nat.le_of_ble_eq_true rfl) dX2_tried_9 ⟨(show 0 + mc ≤ MC by omega), (show 0 + ms ≤ MS by omega)⟩ hPd9 (fun x9 H locs hx9 hz9 ho9 hS => ?_) rfl
  refine WT.caught (hpc := 43) rfl htab ?_ ?_
  · obtain ⟨c3, c4, w1, w2, w3⟩ := hK7.2.1 7 _ rfl
    refine GT.pass (C := "java/lang/ArrayIndexOutOfBoundsException") (name := "java/lang/NullPointerException") (ct := 23) rfl S.2.2.2.1 (S.2.2.2.2 _ q892) w1 w2 w3 hx9 rfl rfl (by decide) ?_
    obtain ⟨c3, c4, w1, w2, w3⟩ := hK7.2.1 8 _ rfl
    refine GT.pass (C := "java/lang/ArrayIndexOutOfBoundsException") (name := "java/lang/ClassCastException") (ct := 29) rfl S.2.2.2.1 (S.2.2.2.2 _ q893) w1 w2 w3 hx9 rfl rfl (by decide) ?_
    obtain ⟨c3, c4, w1, w2, w3⟩ := hK7.2.1 18 _ rfl
    refine GT.pass (C := "java/lang/ArrayIndexOutOfBoundsException") (name := "java/lang/ArrayStoreException") (ct := 31) rfl S.2.2.2.1 (S.2.2.2.2 _ q894) w1 w2 w3 hx9 rfl rfl (by decide) ?_
    obtain ⟨c3, c4, w1, w2, w3⟩ := hK7.2.1 19 _ rfl
    refine GT.pass (C := "java/lang/ArrayIndexOutOfBoundsException") (name := "java/lang/NegativeArraySizeException") (ct := 33) rfl S.2.2.2.1 (S.2.2.2.2 _ q908) w1 w2 w3 hx9 rfl rfl (by decide) ?_
    exact GT.hit (C := "java/lang/ArrayIndexOutOfBoundsException") (name := "java/lang/IndexOutOfBoundsException") (ct := 35) rfl S.2.2.2.1 (S.2.2.2.2 _ q909) (va_any rfl (hK2.2.1 _ q1545 rfl)) hx9 rfl rfl (by decide) rfl
  · have hP := kW_fr hI hP ho9 hAk
    have hPb : va_P D vwCl [(b, .inr (ci, fs))] H := hPb.fr ho9 (one_A hAb)
    refine lv_astore_n (lv' := [(1, .ref x9), (0, .ref b)]) hx hb dX2_tried_43 rfl hl (by decide) rfl (fun ls hl => ?_)
    refine lv_aload_n hx hb dX2_tried_44 rfl (lv_at hl 1 rfl) ?_
    refine va_get (v := .ref (a 0)) (D := D) (ci := ci) (C := C) (T := T) (N := N) S.1 S.2.1 S.2.2.2.2 hinX S.2.2.2.1 hK hPb 0 rfl hvw 0 hN (by rw [hT0]; exact S.2.2.2.2 _ q872) (fun _ h9 => by rw [hT0] at h9 ⊢; exact h9) hf0 dX2_tried_45 ?_
    refine lv_iconst (v := 3) hx hb dX2_tried_48 (by decide) ?_
    refine gc_VN (rest := []) [.int 3] 1 S Wm_K2 hK2 hS (fun q h => hkA q h) (KC2.gc (KC.k2 (k0_fails l D dA a hI (σ.i 13 0) (fun _ => True) kStb_T 3))) q767 q60 (hK2.2.1 _ q1003 rfl) q766 qs26 (by decide +kernel) rfl ⟨(show 0 + 1 ≤ FR by omega), (show 8 + (2 + 11) + 0 ≤ LC by omega)⟩ (k_recv hK hP) hl.1 (Nat.le_of_ble_eq_true rfl) dX2_tried_49 ⟨(show 0 + mc + 0 ≤ MC by omega), (show 0 + ms + 0 ≤ MS by omega)⟩ ⟨hP, trivial⟩ (fun v9 H locs hp9 hz9 ho9 hS => ?_) rfl
    obtain ⟨σ9, ⟨rfl, rfl⟩, hP⟩ := hp9
    rw [up_ii] at hP
    refine W.eq (g2 := F0 m 52 ls [.int ((-10) - 3)]) rfl ?_
    exact g_iret S hr hlk hS dX2_tried_52 ⟨(show 0 + mc + 0 ≤ MC by omega), (show 0 + ms + 0 ≤ MS by omega)⟩ ⟨rfl, hP⟩
