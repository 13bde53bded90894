/-! COMPONENT 44: as (by program: gen/comp44.py) -/
set_option maxRecDepth 100000
/-- a method that changes nothing: what else is known of the heap stays -/
theorem RC2.gcQ {l : Launch} {y : MethodName} {code : ByteArray} {n : Nat} {ret : Option FieldType} {fr lc : Nat} {D : va_G} {dA : Nat → ClassId} {av : List Value} {Ph Qh : Heap → Prop} {post : Option Value → Prop} (h : RC2 l y code n ret fr lc D dA av Ph post) :
    GC l y code n ret fr lc 0 0 (K2 D dA) av (fun H => Ph H ∧ Qh H) (fun _ => False) (fun v H => post v ∧ Qh H) :=
  Met.mono h (fun _ _ x => ⟨x.1, x.2.1, x.2.2.1⟩) (fun a s o t x q => ⟨(by obtain ⟨v, e, hp⟩ := q.1; exact ⟨v, e, hp, by rw [q.2]; exact x.2.2.2⟩), by rw [va_F, q.2]; exact ⟨Nat.le_refl _, fun _ _ _ => rfl⟩⟩) (fun _ q => q)
set_option maxHeartbeats 4000000 in
theorem g0_as (l : Launch) (hfl : NoTr l) (D : va_G) (dA : Nat → ClassId) (cT : ClassId) (zs zu ze : Nat) (a : Nat → Nat) (hI : kInj a) (σ : MS) (n nc : Nat) (cp cq : Nat → Nat) (ed cap : Nat) (mc : Int32) (f : Nat → Option Nat) (rg : Nat → Nat) (sz zl : Nat) (hCA : CAp a ed nc rg zl sz) (hrA : ∀ j, j < nc → ¬ kAd a (rg j)) (hZ : zs < sz ∧ ¬ kAd a zs) (v u : Int32) : GC l yX0_as cX0_as 3 (some .int) 12 10400 4 910 (K7 D dA cT zs zu ze) [.ref (a 0), .int v, .int u] (fun H => va_P D vwCl (kW dA a σ) H ∧ DY D dA a n nc cp cq ed cap mc f rg H ∧ TH cT zs zu ze H ∧ sz ≤ H.size) (fun q => kAd a q ∨ sz ≤ q) (fun v9 H => v9 = some (.int (spAs n nc cp cq v u).1) ∧ va_P D vwCl (kW dA a (σ.i 13 (spAs n nc cp cq v u).2)) H) := by
  refine GC.of (by decide) (Nat.le_of_ble_eq_true rfl) ?_
  intro p e s m below meth c ls S hr hlk hnm hK7 hPre hl
  have hK2 := hK7.1.1
  have hK := hK2.1
  have hx := S.1
  have hb := S.2.1
  have hl : lv_has ls 3 [(0, .ref (a 0)), (1, .int v), (2, .int u)] := hl
  have hS : va_S (fun q => kAd a q ∨ sz ≤ q) s.heap s.heap [] := va_S.rf
  obtain ⟨hP, hDY, hTH, hsz⟩ := hPre
  have hsz0 := hsz
  have hnc31 : nc < 2 ^ 31 := Nat.lt_of_le_of_lt hDY.2.1 hDY.2.2.1
  refine lv_aload_n hx hb dX0_as_0 rfl (lv_at hl 0 rfl) ?_
  refine lv_iload_n hx hb dX0_as_1 rfl (lv_at hl 1 rfl) ?_
  refine rc2_V (rest := []) [.int v] 1 S hK2 (r0_noRing l D dA a σ n nc cp cq ed cap mc f rg v) wl_X0_340 wd_X0_X0_noRing rfl ⟨Nat.le_of_ble_eq_true rfl, Nat.le_of_ble_eq_true rfl⟩ (k_recv hK hP) hl.1 (Nat.le_of_ble_eq_true rfl) dX0_as_2 ⟨Nat.le_of_ble_eq_true rfl, Nat.le_of_ble_eq_true rfl⟩ ⟨hP, hDY⟩ (fun v9 hv9 => ?_) rfl
  subst hv9
  refine W.eq (g2 := F0 m 5 ls [.int (b2i (!inP v nc))]) rfl ?_
  refine lv_if_eq (tgt := 14) hx hb dX0_as_5 (by decide) (fun c_5 => ?_) (fun c_5 => ?_)
  · have c_5 : inP v nc = true := by have := b2i_eq0.mp c_5; simpa using this
    obtain ⟨jv, hjv, rfl⟩ := inP_some hnc31 c_5
    have hcl := nI_clamp (show jv < 2 ^ 31 by omega)
    have hin9 := inP_nI hjv hnc31
    refine lv_iload_n hx hb dX0_as_14 rfl (lv_at hl 2 rfl) ?_
    refine lv_i2l hx hb dX0_as_15 rfl ?_
    refine lv_lconst (v := 0) hx hb dX0_as_16 (by decide) ?_
    refine lv_ldc2 (v := 2) hx hb S.2.2.2.1 (S.2.2.2.2 _ q749) dX0_as_17 ?_
    refine rc_Si (rest := []) [.long (Int32.toInt64 u), .long 0, .long 2] 3 S hK (r0_in l D dA (Int32.toInt64 u) 0 2) wl_X0_49 wd_X0_X0_in rfl ⟨Nat.le_of_ble_eq_true rfl, Nat.le_of_ble_eq_true rfl⟩ hl.1 (Nat.le_of_ble_eq_true rfl) dX0_as_20 ⟨Nat.le_of_ble_eq_true rfl, Nat.le_of_ble_eq_true rfl⟩ trivial ?_ rfl
    refine topi (z := b2i (inR u 0 2)) (congrArg b2i (inL_02 u)) ?_
    refine lv_if_eq (tgt := 54) hx hb dX0_as_23 (by decide) (fun c_22 => ?_) (fun c_22 => ?_)
    · have c_22 : inR u 0 2 = false := b2i_eq0.mp c_22
      refine lv_aload_n hx hb dX0_as_54 rfl (lv_at hl 0 rfl) ?_
      refine lv_bipush (v := (-2)) hx hb dX0_as_55 (by decide) ?_
      refine gc_V (rest := []) [.int (-2)] 1 S Wm_K2 hK2 hS (fun q h => Or.inl h) (KC2.gc (KC.k2 (k0_refused l D dA a hI σ (fun _ => True) kStb_T (-2)))) wl_X0_277 wd_X0_X0_refused rfl ⟨Nat.le_of_ble_eq_true rfl, Nat.le_of_ble_eq_true rfl⟩ (k_recv hK hP) hl.1 (Nat.le_of_ble_eq_true rfl) dX0_as_57 ⟨Nat.le_of_ble_eq_true rfl, Nat.le_of_ble_eq_true rfl⟩ ⟨hP, trivial⟩ (fun v9 H locs hp9 hz9 ho9 hS => ?_) rfl
      obtain ⟨σ9, ⟨rfl, rfl⟩, hP⟩ := hp9
      refine W.eq (g2 := F0 m 60 ls [.int (-2)]) rfl ?_
      exact g_iret S hr hlk hS dX0_as_60 ⟨Nat.le_of_ble_eq_true rfl, Nat.le_of_ble_eq_true rfl⟩ ⟨by simp [spAs, hin9, c_22], by rw [show (spAs n nc cp cq (nI jv) u).2 = 0 by simp [spAs, hin9, c_22]]; exact hP⟩
    · have c_22 : inR u 0 2 = true := b2i_ne0.mp c_22
      obtain ⟨w, hw9, rfl⟩ := inR_some (k := 2) (by decide) c_22
      refine g_new (C := RX13) (T := TX13) (N := 4) (ci := 10) (fs := [.null, .null, .int 0, .null]) S in_X13 tyX13 tyX13_ok q1138 q1139 q93 hK hS (fun q h => Or.inr (Nat.le_trans hsz0 h)) rfl (by decide) (Nat.le_of_ble_eq_true rfl) (Nat.le_of_ble_eq_true rfl) dX0_as_26 (fun g9 H hg9 hPg hz1 ho1 hS => ?_)
      have ho1f : ∀ q, q < s.heap.size → ¬ (fun _ : Nat => False) q → H[q]? = s.heap[q]? := fun q h _ => ho1 q h
      have hP := kW_fr hI hP ho1f (fun _ _ h => h)
      have hDY := hDY.fr ho1f id (fun _ => id) (fun _ _ => id)
      have hTH := hTH.fr ho1f id
      have hg9s : sz ≤ g9 := by omega
      refine lv_dup hx hb dX0_as_29 rfl ?_
      refine lv_aload_n hx hb dX0_as_30 rfl (lv_at hl 0 rfl) ?_
      refine lv_aload_n hx hb dX0_as_31 rfl (lv_at hl 0 rfl) ?_
      refine k_get (v := .ref (a 3)) S hK hP 3 (by decide) fl_X0_18 rfl dX0_as_32 rfl ?_
      refine lv_iload_n hx hb dX0_as_35 rfl (lv_at hl 1 rfl) ?_
      refine rc_Fr (X := .ref (rg jv)) (rest := [.ref (a 0), .ref g9, .ref g9]) [.int (nI jv)] 1 S hK (hK.1 2 (RJ2, TJ2, 3) rfl).2 (hK2.2.fw (C := RJ2) (x := ⟨"java/util/List", "get", "(I)Ljava/lang/Object;"⟩) (y := yJ2_get) (by simp [fxI]) q229 q227 q203) (rj_get l D dA (a 3) ed cap mc nc f hDY.2.2.1 hDY.2.1 jv (rg jv) (by omega) (hDY.2.2.2 _ (by omega)).1) (lw_F q223 q226 q228 q63 q230) (by decide +kernel) rfl ⟨Nat.le_of_ble_eq_true rfl, Nat.le_of_ble_eq_true rfl⟩ (va_recv hK hDY.1 (ci := 2) (q0 := 0) rfl rfl) hl.1 (Nat.le_of_ble_eq_true rfl) dX0_as_36 ⟨Nat.le_of_ble_eq_true rfl, Nat.le_of_ble_eq_true rfl⟩ hDY.1 ?_ rfl
      refine g_cast S hK2 (knd_lt n cp cq jv) (hDY.2.2.2 jv (by omega)).2 q241 dX0_as_41 ?_
      refine lv_iload_n hx hb dX0_as_44 rfl (lv_at hl 2 rfl) ?_
      refine gc_I (rest := [.ref g9]) [.ref (a 0), .ref (rg jv), .int (nI w)] 3 S Wm_K2 hK2 hS (fun q h => Or.inr (by have h : q = g9 := h; omega)) (g13_init l D dA g9 (a 0) .null .null (.int 0) .null (nI w) (rg jv)) q1142 q93 q1140 q1141 rfl (by decide +kernel : yX13_init.cls ≠ "java/lang/invoke/MethodHandle" ∧ yX13_init.cls ≠ "java/lang/invoke/VarHandle" ∧ (parseMethodDescriptor yX13_init.desc).map (fun d => d.parameters.length) = some 3) rfl ⟨Nat.le_of_ble_eq_true rfl, Nat.le_of_ble_eq_true rfl⟩ hl.1 (Nat.le_of_ble_eq_true rfl) dX0_as_45 ⟨Nat.le_of_ble_eq_true rfl, Nat.le_of_ble_eq_true rfl⟩ hPg (fun v9 H locs hp9 hz9 ho9 hS => ?_) rfl
      obtain ⟨rfl, hPg⟩ := hp9
      refine W.eq (g2 := F0 m 48 ls [.ref g9]) rfl ?_
      have hne : ∀ q, q < sz → ¬ (fun q => q = g9) q := fun q h z => by have z : q = g9 := z; omega
      have hP := kW_fr hI hP ho9 (fun q h => hne q (hCA.2.2.2.2.1 q h).1)
      have hDY := hDY.fr ho9 (hne _ hCA.1) (fun _ => hne _ hCA.2.1) (fun j hj => hne _ (hCA.2.2.2.1 j hj).1)
      have hTH := hTH.fr ho9 (hne _ hZ.1)
      have hbk : ¬ kAd a g9 := fun h => by have := (hCA.2.2.2.2.1 _ h).1; omega
      have hR := (hDY.2.2.2 jv (by omega)).2
      have hk3 := knd_lt n cp cq jv
      by_cases hkw : knd n cp cq jv < w
      · refine gcw_U (x := ⟨"CallRounds$Taking", "tried", "()I"⟩) (owner := "CallRounds$Act") (C := RX13) (rest := []) [] 0 S Wm_K7 hK7 hS (fun q h => h) (tA_triedC (FR := 11) (LC := 10350) (MC := 3) (MS := 900) hI Wm_K7 (fun _ h => h) (C := RX13) (T := TX13) (N := 4) (ci := 10) rfl in_X13 rfl (by decide) (b := g9) (fs := [.ref (a 0), .ref (rg jv), .int (nI w), .ref (a 0)]) rfl hbk q998 q999 q93 q1000 ⟨by decide, by decide⟩ ⟨by decide, by decide⟩ ⟨by decide, by decide⟩ (A := fun q => kAd a q ∨ sz ≤ q) (Ad := fun _ => False) (fun q h => Or.inl h) (fun q h => h.elim) (Ph := fun H => TH cT zs zu ze H ∧ va_P D vwCl (rgW (a 0) n cp cq (rg jv) jv) H) (fun H H1 h1 h2 hz h3 h4 => ⟨h4.1.fr h3 hZ.2, h2, h4.2.fr h3 (one_A (hrA jv (by omega)))⟩) (t13_done l hfl D dA cT zs zu ze g9 (a 0) (rg jv) (knd n cp cq jv) w (by omega) hkw (rgF (a 0) n cp cq jv)) (fun _ _ h => h) id) q1155 q1156 q1157 q890 q65 q891 (dl_abs hK2 q888) (by decide +kernel) rfl ⟨Nat.le_of_ble_eq_true rfl, Nat.le_of_ble_eq_true rfl⟩ (va_recv hK hPg (ci := 10) (q0 := 0) rfl rfl) hl.1 (Nat.le_of_ble_eq_true rfl) dX0_as_48 ⟨Nat.le_of_ble_eq_true rfl, Nat.le_of_ble_eq_true rfl⟩ ⟨hPg, hP, hTH, hR⟩ (fun v9 H locs hp9 hz9 ho9 hS => ?_) rfl
        obtain ⟨rfl, hP⟩ := hp9
        refine W.eq (g2 := F0 m 51 ls [.int ((-10) - 2)]) rfl ?_
        refine lv_goto (tgt := 60) hx hb dX0_as_51 (by decide) ?_
        have hlt : nI (knd n cp cq jv) < nI w := nI_lt hkw (by omega)
        have hsp : spAs n nc cp cq (nI jv) (nI w) = (-12, 2) := by unfold spAs; rw [if_pos hin9, if_pos c_22, hcl, if_pos hlt]
        exact g_iret S hr hlk hS dX0_as_60 ⟨Nat.le_of_ble_eq_true rfl, Nat.le_of_ble_eq_true rfl⟩ (by rw [hsp]; exact ⟨rfl, hP⟩)
      · refine gcw_U (x := ⟨"CallRounds$Taking", "tried", "()I"⟩) (owner := "CallRounds$Act") (C := RX13) (rest := []) [] 0 S Wm_K7 hK7 hS (fun q h => h) (gA_tried (FR := 11) (LC := 10350) (MC := 3) (MS := 900) hI Wm_K7 (fun _ h => h) (C := RX13) (T := TX13) (N := 4) (ci := 10) rfl in_X13 rfl (by decide) (b := g9) (fs := [.ref (a 0), .ref (rg jv), .int (nI w), .ref (a 0)]) rfl hbk q998 q999 q93 q1000 ⟨by decide, by decide⟩ ⟨by decide, by decide⟩ ⟨by decide, by decide⟩ (A := fun q => kAd a q ∨ sz ≤ q) (Ad := fun _ => False) (fun q h => Or.inl h) (fun q h => h.elim) (Ph := fun H => TH cT zs zu ze H ∧ va_P D vwCl (rgW (a 0) n cp cq (rg jv) jv) H) (fun H H1 h1 h2 hz h3 h4 => ⟨⟨h2, h4.2.fr h3 (one_A (hrA jv (by omega)))⟩, h1⟩) (GC.monoK (RC2.gcQ (Qh := fun H => va_P D vwCl (kW dA a (σ.i 13 0)) H) (r13_done l D dA g9 (a 0) (rg jv) jv (knd n cp cq jv) w hk3 (by omega) (rgF (a 0) n cp cq jv) rfl (by omega))) (fun _ h => h.1.1)) (fun v H h => ⟨1, h.1⟩)) q1155 q1156 q1157 q890 q65 q891 (dl_abs hK2 q888) (by decide +kernel) rfl ⟨Nat.le_of_ble_eq_true rfl, Nat.le_of_ble_eq_true rfl⟩ (va_recv hK hPg (ci := 10) (q0 := 0) rfl rfl) hl.1 (Nat.le_of_ble_eq_true rfl) dX0_as_48 ⟨Nat.le_of_ble_eq_true rfl, Nat.le_of_ble_eq_true rfl⟩ ⟨hPg, hP, hTH, hR⟩ (fun v9 H locs hp9 hz9 ho9 hS => ?_) rfl
        obtain ⟨rfl, hP⟩ := hp9
        refine W.eq (g2 := F0 m 51 ls [.int 1]) rfl ?_
        refine lv_goto (tgt := 60) hx hb dX0_as_51 (by decide) ?_
        have hsp : spAs n nc cp cq (nI jv) (nI w) = (1, 0) := by unfold spAs; rw [if_pos hin9, if_pos c_22, hcl, if_neg (nI_nlt (by omega) (by omega))]
        exact g_iret S hr hlk hS dX0_as_60 ⟨Nat.le_of_ble_eq_true rfl, Nat.le_of_ble_eq_true rfl⟩ (by rw [hsp]; exact ⟨rfl, hP⟩)
  · have c_5 : inP v nc = false := by have := b2i_ne0.mp c_5; simpa using this
    refine lv_aload_n hx hb dX0_as_8 rfl (lv_at hl 0 rfl) ?_
    refine lv_iconst (v := (-1)) hx hb dX0_as_9 (by decide) ?_
    refine gc_V (rest := []) [.int (-1)] 1 S Wm_K2 hK2 hS (fun q h => Or.inl h) (KC2.gc (KC.k2 (k0_refused l D dA a hI σ (fun _ => True) kStb_T (-1)))) wl_X0_277 wd_X0_X0_refused rfl ⟨Nat.le_of_ble_eq_true rfl, Nat.le_of_ble_eq_true rfl⟩ (k_recv hK hP) hl.1 (Nat.le_of_ble_eq_true rfl) dX0_as_10 ⟨Nat.le_of_ble_eq_true rfl, Nat.le_of_ble_eq_true rfl⟩ ⟨hP, trivial⟩ (fun v9 H locs hp9 hz9 ho9 hS => ?_) rfl
    obtain ⟨σ9, ⟨rfl, rfl⟩, hP⟩ := hp9
    refine W.eq (g2 := F0 m 13 ls [.int (-1)]) rfl ?_
    exact g_iret S hr hlk hS dX0_as_13 ⟨Nat.le_of_ble_eq_true rfl, Nat.le_of_ble_eq_true rfl⟩ ⟨by simp [spAs, c_5], by rw [show (spAs n nc cp cq v u).2 = 0 by simp [spAs, c_5]]; exact hP⟩
