/-! COMPONENT 46: copy (by program: gen/comp46.py) -/
set_option maxRecDepth 100000
theorem spCopy_in {la : Nat → Int32} {lo : Nat → Nat} {k o : Nat} {i j v : Int32} (hk : k < 4) (ho : o < 4) : spCopyQ la lo (nI k) i (nI o) j v = if la k = -9 then some (-11, 1) else if la o = -9 then some (-11, 1) else if ¬ la k = la o then some (-12, 2)
  else if i < 0 then some (-13, 3) else if j < 0 then some (-13, 3) else if v < 0 then some (-13, 3)
  else if lo k < i.toNatClampNeg then some (-13, 3) else if lo o < j.toNatClampNeg then some (-13, 3)
  else if lo k - i.toNatClampNeg < v.toNatClampNeg then some (-13, 3) else if lo o - j.toNatClampNeg < v.toNatClampNeg then some (-13, 3) else none := by
  unfold spCopyQ
  rw [show inR (nI k) 0 3 = true from inR_nI (k := 3) (by omega) (by decide), show inR (nI o) 0 3 = true from inR_nI (k := 3) (by omega) (by decide), nI_clamp (by omega), nI_clamp (by omega), if_neg (by decide), if_neg (by decide)]
theorem cpQ {la : Nat → Int32} {lo : Nat → Nat} {k o : Nat} {iv jv nv : Int32} (hk : k < 4) (ho : o < 4) (h1 : ¬ la k = -9) (h2 : ¬ la o = -9) (h3 : la k = la o) :
    (spCopyQ la lo (nI k) iv (nI o) jv nv = some (-13, 3) ∧ (iv < 0 ∨ jv < 0 ∨ nv < 0 ∨ iv.toInt + nv.toInt > lo k ∨ jv.toInt + nv.toInt > lo o)) ∨
    (spCopyQ la lo (nI k) iv (nI o) jv nv = none ∧ ∃ i j n, iv = nI i ∧ jv = nI j ∧ nv = nI n ∧ i + n ≤ lo k ∧ j + n ≤ lo o ∧ i < 2 ^ 31 ∧ j < 2 ^ 31 ∧ n < 2 ^ 31) := by
  rw [spCopy_in hk ho, if_neg h1, if_neg h2, if_neg (fun h => h h3)]
  by_cases a1 : iv < 0
  · rw [if_pos a1]; exact Or.inl ⟨rfl, Or.inl a1⟩
  rw [if_neg a1]
  by_cases a2 : jv < 0
  · rw [if_pos a2]; exact Or.inl ⟨rfl, Or.inr (Or.inl a2)⟩
  rw [if_neg a2]
  by_cases a3 : nv < 0
  · rw [if_pos a3]; exact Or.inl ⟨rfl, Or.inr (Or.inr (Or.inl a3))⟩
  rw [if_neg a3]
  obtain ⟨i, hi, rfl⟩ := nI_of a1
  obtain ⟨j, hj, rfl⟩ := nI_of a2
  obtain ⟨n, hn, rfl⟩ := nI_of a3
  rw [nI_clamp hi, nI_clamp hj, nI_clamp hn, nI_toInt hi, nI_toInt hj, nI_toInt hn]
  by_cases a4 : lo k < i
  · rw [if_pos a4]; exact Or.inl ⟨rfl, Or.inr (Or.inr (Or.inr (Or.inl (by omega))))⟩
  rw [if_neg a4]
  by_cases a5 : lo o < j
  · rw [if_pos a5]; exact Or.inl ⟨rfl, Or.inr (Or.inr (Or.inr (Or.inr (by omega))))⟩
  rw [if_neg a5]
  by_cases a6 : lo k - i < n
  · rw [if_pos a6]; exact Or.inl ⟨rfl, Or.inr (Or.inr (Or.inr (Or.inl (by omega))))⟩
  rw [if_neg a6]
  by_cases a7 : lo o - j < n
  · rw [if_pos a7]; exact Or.inl ⟨rfl, Or.inr (Or.inr (Or.inr (Or.inr (by omega))))⟩
  rw [if_neg a7]
  exact Or.inr ⟨rfl, i, j, n, rfl, rfl, rfl, by omega, by omega, hi, hj, hn⟩
theorem RSh.copy {σr : MS} {sh : Shs} (h : RSh σr sh) {k o w L M i j n : Nat} {f g : Nat → Int32} (hk : k < 4) (ho : o < 4) (hsk : sh k = some (w, L, f)) (hso : sh o = some (w, M, g)) (h4 : i + n ≤ L) (h5 : j + n ≤ M) : RSh ((σr.i 0 0).b 4 (cpF (σr.2.1 4) (60 * k + i) (60 * o + j) n)) (va_up sh o (some (w, M, va_cpy f g i j n))) := by
  intro x hx
  have e4 : ((σr.i 0 0).b 4 (cpF (σr.2.1 4) (60 * k + i) (60 * o + j) n)).2.1 4 = cpF (σr.2.1 4) (60 * k + i) (60 * o + j) n := up_b
  have e3 : ((σr.i 0 0).b 4 (cpF (σr.2.1 4) (60 * k + i) (60 * o + j) n)).2.1 3 = σr.2.1 3 := up_bn (by decide)
  have e2 : ((σr.i 0 0).b 4 (cpF (σr.2.1 4) (60 * k + i) (60 * o + j) n)).2.1 2 = σr.2.1 2 := up_bn (by decide)
  rw [e2, e3, e4]
  have h7 := (h k hk).2 w L f hsk
  have h8 := (h o ho).2 w M g hso
  by_cases e : x = o
  · subst e
    rw [va_up_self]
    refine ⟨(fun z => by cases z), fun w1 L1 f1 z => ?_⟩
    cases z
    refine ⟨h8.1, h8.2.1, h8.2.2.1, h8.2.2.2.1, fun y hy => ?_, fun y hy => ?_⟩
    · unfold cpF va_cpy
      by_cases e1 : j ≤ y ∧ y < j + n
      · rw [if_pos (by omega), if_pos e1, show 60 * k + i + (60 * x + y - (60 * x + j)) = 60 * k + (i + (y - j)) by omega]
        exact h7.2.2.2.2.1 _ (by omega)
      · rw [if_neg (by omega), if_neg e1]
        exact h8.2.2.2.2.1 y hy
    · unfold va_cpy
      by_cases e1 : j ≤ y ∧ y < j + n
      · rw [if_pos e1]; exact h7.2.2.2.2.2 _ (by omega)
      · rw [if_neg e1]; exact h8.2.2.2.2.2 y hy
  · rw [va_up_ne _ _ e]
    refine ⟨(h x hx).1, fun w1 L1 f1 z => ?_⟩
    have h9 := (h x hx).2 w1 L1 f1 z
    refine ⟨h9.1, h9.2.1, h9.2.2.1, h9.2.2.2.1, fun y hy => ?_, h9.2.2.2.2.2⟩
    unfold cpF
    rw [if_neg (by have := h9.2.1; have := h8.2.1; omega)]
    exact h9.2.2.2.2.1 y hy
/-- done, with the worlds around it -/
theorem cpGC {l : Launch} {D : va_G} {dA : Nat → ClassId} {a : Nat → Nat} {σ : MS} {sh : Shs} {so ro : Nat → Nat} {zs sz o w M : Nat} {g h : Nat → Int32} {y : MethodName} {code : ByteArray} {n : Nat} {ret : Option FieldType} {fr lc mc ms : Nat} {Kp : State → Prop} {av : List Value} {Pre : Heap → Prop} {v : Value} (hC : GC l y code n ret fr lc mc ms Kp av Pre (fun q => q = ro o) (fun v9 H => v9 = some v ∧ rowP D dA (ro o) w M h H)) (hI : kInj a) (hSA : SAp a sh so ro zs sz) (ho4 : o < 4) (hso : sh o = some (w, M, g)) :
    GC l y code n ret fr lc mc ms Kp av (fun H => Pre H ∧ va_P D vwCl (kW dA a σ) H ∧ SHT D dA (a 14) sh so ro H) (fun q => q = ro o) (fun v9 H => v9 = some v ∧ va_P D vwCl (kW dA a σ) H ∧ SHT D dA (a 14) (va_up sh o (some (w, M, h))) so ro H) := by
  have hson : sh o ≠ none := by rw [hso]; exact (fun z => by cases z)
  have hAp := hSA.2.1 o ho4 hson
  refine Met.mono hC (fun _ _ x => ⟨x.1, x.2.1, x.2.2.1⟩) (fun a9 s t9 t x q => ⟨?_, q.2⟩) (fun _ q => q)
  obtain ⟨v9, e, rfl, hr⟩ := q.1
  have ho1 : ∀ q, q < s.heap.size → ¬ (fun q => q = ro o) q → t.heap[q]? = s.heap[q]? := q.2.2
  have hSH := x.2.2.2.2
  refine ⟨_, e, rfl, kW_fr hI x.2.2.2.1 ho1 (fun q h z => hAp.2.2.2.1 (by rw [← show q = ro o from z]; exact h)), ?_, fun j hj w1 L1 f1 e1 => ?_⟩
  · rw [← shR_keep hso]
    exact hSH.1.fr ho1 (one_A (A := fun q => q = ro o) (fun z => hAp.2.2.2.2.2.1 z.symm))
  · by_cases e2 : j = o
    · subst e2
      rw [va_up_self] at e1
      cases e1
      have h0 := hSH.2 j hj w M g hso
      exact ⟨h0.1, h0.2.1, h0.2.2.1.fr ho1 (one_A (A := fun q => q = ro j) (hSA.2.2 j j hj hj hson hson).1), hr⟩
    · rw [va_up_ne _ _ e2] at e1
      have h0 := hSH.2 j hj w1 L1 f1 e1
      have h1 := hSA.2.2 j o hj ho4 (by rw [e1]; exact (fun z => by cases z)) hson
      exact ⟨h0.1, h0.2.1, h0.2.2.1.fr ho1 (one_A (A := fun q => q = ro o) h1.1), h0.2.2.2.fr ho1 (one_A (A := fun q => q = ro o) (h1.2 e2))⟩
set_option maxHeartbeats 8000000 in
theorem g0_copy (l : Launch) (hfl : NoTr l) (D : va_G) (dA : Nat → ClassId) (cT : ClassId) (zs zu ze : Nat) (a : Nat → Nat) (hI : kInj a) (σ σr : MS) (sh : Shs) (so ro : Nat → Nat) (sz : Nat) (hSA : SAp a sh so ro zs sz) (hRS : RSh σr sh) (lo : Nat → Nat) (hlo : ∀ k, k < 4 → lo k ≤ 60 ∧ σr.2.1 3 k = nI (lo k)) (v iv u jv nv : Int32) : GC l yX0_copy cX0_copy 6 (some .int) 15 10600 4 620 (K7 D dA cT zs zu ze) [.ref (a 0), .int v, .int iv, .int u, .int jv, .int nv] (fun H => va_P D vwCl (kW dA a σ) H ∧ SHT D dA (a 14) sh so ro H ∧ TH cT zs zu ze H ∧ sz ≤ H.size) (shA a sh ro sz) (fun v9 H => (∃ r9, spCopyQ (σr.2.1 2) lo v iv u jv nv = some r9 ∧ v9 = some (.int r9.1) ∧ SP D dA a σ (σr.i 0 r9.2) so ro sz H) ∨ (spCopyQ (σr.2.1 2) lo v iv u jv nv = none ∧ v9 = some (.int nv) ∧ SP D dA a σ ((σr.i 0 0).b 4 (cpF (σr.2.1 4) (60 * v.toNatClampNeg + iv.toNatClampNeg) (60 * u.toNatClampNeg + jv.toNatClampNeg) nv.toNatClampNeg)) so ro sz H)) := by
  refine GC.of (by decide) (Nat.le_of_ble_eq_true rfl) ?_
  intro p e s m below meth c ls S hr hlk hnm hK7 hPre hl
  have hK2 := hK7.1.1
  have hK := hK2.1
  have hx := S.1
  have hb := S.2.1
  have hl : lv_has ls 6 [(0, .ref (a 0)), (1, .int v), (2, .int iv), (3, .int u), (4, .int jv), (5, .int nv)] := hl
  have hS : va_S (shA a sh ro sz) s.heap s.heap [] := va_S.rf
  obtain ⟨hP, hSH, hTH, hsz⟩ := hPre
  have hsz0 := hsz
  refine lv_iload_n hx hb dX0_copy_0 rfl (lv_at hl 1 rfl) ?_
  refine rc_Si (rest := []) [.int v] 1 S hK (r0_noSheet l D dA v) wl_X0_274 wd_X0_X0_noSheet rfl ⟨Nat.le_of_ble_eq_true rfl, Nat.le_of_ble_eq_true rfl⟩ hl.1 (Nat.le_of_ble_eq_true rfl) dX0_copy_1 ⟨Nat.le_of_ble_eq_true rfl, Nat.le_of_ble_eq_true rfl⟩ trivial ?_ rfl
  refine lv_if_ne (tgt := 14) hx hb dX0_copy_4 (by decide) (fun c_4 => ?_) (fun c_4 => ?_)
  · have c_4 : inR v 0 3 = false := by have := b2i_ne0.mp c_4; simpa using this
    refine lv_aload_n hx hb dX0_copy_14 rfl (lv_at hl 0 rfl) ?_
    refine lv_iconst (v := (-1)) hx hb dX0_copy_15 (by decide) ?_
    refine gc_V (rest := []) [.int (-1)] 1 S Wm_K2 hK2 hS (fun q h => Or.inl h) (KC2.gc (KC.k2 (k0_refused l D dA a hI σ (fun _ => True) kStb_T (-1)))) wl_X0_277 wd_X0_X0_refused rfl ⟨Nat.le_of_ble_eq_true rfl, Nat.le_of_ble_eq_true rfl⟩ (k_recv hK hP) hl.1 (Nat.le_of_ble_eq_true rfl) dX0_copy_16 ⟨Nat.le_of_ble_eq_true rfl, Nat.le_of_ble_eq_true rfl⟩ ⟨hP, trivial⟩ (fun v9 H locs hp9 hz9 ho9 hS => ?_) rfl
    obtain ⟨σ9, ⟨rfl, rfl⟩, hP⟩ := hp9
    have hSH := hSH.kad hSA ho9
    refine W.eq (g2 := F0 m 19 ls [.int (-1)]) rfl ?_
    refine lv_goto (tgt := 40) hx hb dX0_copy_19 (by decide) ?_
    exact g_iret S hr hlk hS dX0_copy_40 ⟨Nat.le_of_ble_eq_true rfl, Nat.le_of_ble_eq_true rfl⟩ (Or.inl ⟨(-1, 0), by unfold spCopyQ; rw [if_pos c_4], rfl, SP_no hP hSH hRS⟩)
  · have c_4 : inR v 0 3 = true := by have := b2i_eq0.mp c_4; simpa using this
    have c4n : ¬ inR v 0 3 = false := by rw [c_4]; decide
    refine lv_iload_n hx hb dX0_copy_7 rfl (lv_at hl 3 rfl) ?_
    refine rc_Si (rest := []) [.int u] 1 S hK (r0_noSheet l D dA u) wl_X0_274 wd_X0_X0_noSheet rfl ⟨Nat.le_of_ble_eq_true rfl, Nat.le_of_ble_eq_true rfl⟩ hl.1 (Nat.le_of_ble_eq_true rfl) dX0_copy_8 ⟨Nat.le_of_ble_eq_true rfl, Nat.le_of_ble_eq_true rfl⟩ trivial ?_ rfl
    refine lv_if_eq (tgt := 22) hx hb dX0_copy_11 (by decide) (fun c_11 => ?_) (fun c_11 => ?_)
    · have c_11 : inR u 0 3 = true := by have := b2i_eq0.mp c_11; simpa using this
      obtain ⟨ka, hka9, rfl⟩ := inR_some (k := 3) (by decide) c_4
      have hka4 : ka < 4 := by omega
      obtain ⟨oa, hoa9, rfl⟩ := inR_some (k := 3) (by decide) c_11
      have hoa4 : oa < 4 := by omega
      refine g_new (C := RX12) (T := TX12) (N := 7) (ci := 9) (fs := [.null, .int 0, .int 0, .int 0, .int 0, .int 0, .null]) S in_X12 tyX12 tyX12_ok q1008 q1009 q91 hK hS (fun q h => Or.inr (Or.inr (Or.inr (Nat.le_trans hsz0 h)))) rfl (by decide) (Nat.le_of_ble_eq_true rfl) (Nat.le_of_ble_eq_true rfl) dX0_copy_22 (fun g9 H hg9 hPg hz1 ho1 hS => ?_)
      have ho1f : ∀ q, q < s.heap.size → ¬ (fun _ : Nat => False) q → H[q]? = s.heap[q]? := fun q h _ => ho1 q h
      have hP := kW_hi hI hSA hP ho1f (fun _ h => h.elim)
      have hSH := hSH.hi hSA ho1f (fun _ h => h.elim)
      have hTH := hTH.hi hSA ho1f (fun _ h => h.elim)
      have hg9s : sz ≤ g9 := by omega
      refine lv_dup hx hb dX0_copy_25 rfl ?_
      refine lv_aload_n hx hb dX0_copy_26 rfl (lv_at hl 0 rfl) ?_
      refine lv_iload_n hx hb dX0_copy_27 rfl (lv_at hl 1 rfl) ?_
      refine lv_iload_n hx hb dX0_copy_28 rfl (lv_at hl 2 rfl) ?_
      refine lv_iload_n hx hb dX0_copy_29 rfl (lv_at hl 3 rfl) ?_
      refine lv_iload hx hb dX0_copy_30 (lv_at hl 4 rfl) ?_
      refine lv_iload hx hb dX0_copy_32 (lv_at hl 5 rfl) ?_
      refine gc_I (rest := [.ref g9]) [.ref (a 0), .int (nI ka), .int iv, .int (nI oa), .int jv, .int nv] 6 S Wm_K2 hK2 hS (fun q h => Or.inr (Or.inr (Or.inr (by have h : q = g9 := h; omega)))) (g12_init l D dA g9 (a 0) .null (.int 0) (.int 0) (.int 0) (.int 0) (.int 0) .null (nI ka) iv (nI oa) jv nv) q1012 q91 q1010 q1011 rfl (by decide +kernel : yX12_init.cls ≠ "java/lang/invoke/MethodHandle" ∧ yX12_init.cls ≠ "java/lang/invoke/VarHandle" ∧ (parseMethodDescriptor yX12_init.desc).map (fun d => d.parameters.length) = some 6) rfl ⟨Nat.le_of_ble_eq_true rfl, Nat.le_of_ble_eq_true rfl⟩ hl.1 (Nat.le_of_ble_eq_true rfl) dX0_copy_34 ⟨Nat.le_of_ble_eq_true rfl, Nat.le_of_ble_eq_true rfl⟩ hPg (fun v9 H locs hp9 hz9 ho9 hS => ?_) rfl
      obtain ⟨rfl, hPg⟩ := hp9
      refine W.eq (g2 := F0 m 37 ls [.ref g9]) rfl ?_
      have hA9 : ∀ q, (fun q => q = g9) q → sz ≤ q := fun q h => by have h : q = g9 := h; omega
      have hP := kW_hi hI hSA hP ho9 hA9
      have hSH := hSH.hi hSA ho9 hA9
      have hTH := hTH.hi hSA ho9 hA9
      have hbk : ¬ kAd a g9 := fun h => by have := hSA.1.2.2.1 _ h; omega
      have hgz : g9 < H.size := one_lt hPg
      have hszH : sz ≤ H.size := by omega
      cases hsk : sh ka with
      | none =>
        refine gcw_U (x := ⟨"CallRounds$Copying", "tried", "()I"⟩) (owner := "CallRounds$Act") (C := RX12) (rest := []) [] 0 S Wm_K7 hK7 hS (fun q h => by rcases h with h | h; exact Or.inl h; exact Or.inr (Or.inr (Or.inr (Nat.le_trans hszH h)))) (tA_triedN (FR := 14) (LC := 10500) (MC := 3) (MS := 600) hI Wm_K7 (fun _ h => h) (C := RX12) (T := TX12) (N := 7) (ci := 9) rfl in_X12 rfl (by decide) (b := g9) (fs := [.ref (a 0), .int (nI ka), .int iv, .int (nI oa), .int jv, .int nv, .ref (a 0)]) rfl hbk q913 q914 q91 q915 ⟨by decide, by decide⟩ ⟨by decide, by decide⟩ ⟨by decide, by decide⟩ (A := fun q => kAd a q ∨ H.size ≤ q) (Ad := fun q => H.size ≤ q) (fun q h => Or.inl h) (fun q h => Or.inr h) (Ph := fun H' => SHT D dA (a 14) sh so ro H' ∧ TH cT zs zu ze H' ∧ H'.size = H.size) (fun H0 H1 h1 h2 hz h3 h4 => ⟨h2, h1, h4.1.kad hSA h3, h4.2.1.fr h3 hSA.1.2.2.2.2.1, hz.trans h4.2.2⟩) (t12_doneN l hfl D dA cT zs zu ze a (σ.i 13 0) sh so ro g9 ka oa H.size iv jv nv hka4 hoa4 (Or.inl hsk)) (fun q h z => by have := hSA.1.2.2.1 q h; have z : H.size ≤ q := z; omega) (by show ¬ H.size ≤ g9; omega)) q1034 q1035 q1036 q890 q65 q891 (dl_abs hK2 q888) (by decide +kernel) rfl ⟨Nat.le_of_ble_eq_true rfl, Nat.le_of_ble_eq_true rfl⟩ (va_recv hK hPg (ci := 9) (q0 := 0) rfl rfl) hl.1 (Nat.le_of_ble_eq_true rfl) dX0_copy_37 ⟨Nat.le_of_ble_eq_true rfl, Nat.le_of_ble_eq_true rfl⟩ ⟨hPg, hP, hSH, hTH, rfl⟩ (fun v9 H2 locs hp9 hz9 ho9 hS => ?_) rfl
        obtain ⟨rfl, hP⟩ := hp9
        refine W.eq (g2 := F0 m 40 ls [.int ((-10) - 1)]) rfl ?_
        have hSH := hSH.fr ho9 (fun z => by rcases z with z | z; exact hSA.1.2.1 z; (have := hSA.1.1; omega)) (fun k hk e => ⟨fun z => by rcases z with z | z; exact (hSA.2.1 k hk e).2.2.1 z; (have := (hSA.2.1 k hk e).1; omega), fun z => by rcases z with z | z; exact (hSA.2.1 k hk e).2.2.2.1 z; (have := (hSA.2.1 k hk e).2.1; omega)⟩)
        exact g_iret S hr hlk hS dX0_copy_40 ⟨Nat.le_of_ble_eq_true rfl, Nat.le_of_ble_eq_true rfl⟩ (Or.inl ⟨((-10) - 1, 1), by rw [spCopy_in hka4 hoa4, if_pos ((hRS ka hka4).1 hsk)]; rfl, rfl, SP_no hP hSH hRS⟩)
      | some q =>
        obtain ⟨w, L, f⟩ := q
        have hRk := (hRS ka hka4).2 w L f hsk
        have hla : ¬ σr.2.1 2 ka = -9 := (by rw [hRk.2.2.1]; exact nI_n9 (by have := hRk.1; omega))
        cases hso : sh oa with
        | none =>
          refine gcw_U (x := ⟨"CallRounds$Copying", "tried", "()I"⟩) (owner := "CallRounds$Act") (C := RX12) (rest := []) [] 0 S Wm_K7 hK7 hS (fun q h => by rcases h with h | h; exact Or.inl h; exact Or.inr (Or.inr (Or.inr (Nat.le_trans hszH h)))) (tA_triedN (FR := 14) (LC := 10500) (MC := 3) (MS := 600) hI Wm_K7 (fun _ h => h) (C := RX12) (T := TX12) (N := 7) (ci := 9) rfl in_X12 rfl (by decide) (b := g9) (fs := [.ref (a 0), .int (nI ka), .int iv, .int (nI oa), .int jv, .int nv, .ref (a 0)]) rfl hbk q913 q914 q91 q915 ⟨by decide, by decide⟩ ⟨by decide, by decide⟩ ⟨by decide, by decide⟩ (A := fun q => kAd a q ∨ H.size ≤ q) (Ad := fun q => H.size ≤ q) (fun q h => Or.inl h) (fun q h => Or.inr h) (Ph := fun H' => SHT D dA (a 14) sh so ro H' ∧ TH cT zs zu ze H' ∧ H'.size = H.size) (fun H0 H1 h1 h2 hz h3 h4 => ⟨h2, h1, h4.1.kad hSA h3, h4.2.1.fr h3 hSA.1.2.2.2.2.1, hz.trans h4.2.2⟩) (t12_doneN l hfl D dA cT zs zu ze a (σ.i 13 0) sh so ro g9 ka oa H.size iv jv nv hka4 hoa4 (Or.inr hso)) (fun q h z => by have := hSA.1.2.2.1 q h; have z : H.size ≤ q := z; omega) (by show ¬ H.size ≤ g9; omega)) q1034 q1035 q1036 q890 q65 q891 (dl_abs hK2 q888) (by decide +kernel) rfl ⟨Nat.le_of_ble_eq_true rfl, Nat.le_of_ble_eq_true rfl⟩ (va_recv hK hPg (ci := 9) (q0 := 0) rfl rfl) hl.1 (Nat.le_of_ble_eq_true rfl) dX0_copy_37 ⟨Nat.le_of_ble_eq_true rfl, Nat.le_of_ble_eq_true rfl⟩ ⟨hPg, hP, hSH, hTH, rfl⟩ (fun v9 H2 locs hp9 hz9 ho9 hS => ?_) rfl
          obtain ⟨rfl, hP⟩ := hp9
          refine W.eq (g2 := F0 m 40 ls [.int ((-10) - 1)]) rfl ?_
          have hSH := hSH.fr ho9 (fun z => by rcases z with z | z; exact hSA.1.2.1 z; (have := hSA.1.1; omega)) (fun k hk e => ⟨fun z => by rcases z with z | z; exact (hSA.2.1 k hk e).2.2.1 z; (have := (hSA.2.1 k hk e).1; omega), fun z => by rcases z with z | z; exact (hSA.2.1 k hk e).2.2.2.1 z; (have := (hSA.2.1 k hk e).2.1; omega)⟩)
          exact g_iret S hr hlk hS dX0_copy_40 ⟨Nat.le_of_ble_eq_true rfl, Nat.le_of_ble_eq_true rfl⟩ (Or.inl ⟨((-10) - 1, 1), by rw [spCopy_in hka4 hoa4, if_neg hla, if_pos ((hRS oa hoa4).1 hso)]; rfl, rfl, SP_no hP hSH hRS⟩)
        | some q =>
          obtain ⟨w2, M, g⟩ := q
          have hRo := (hRS oa hoa4).2 w2 M g hso
          have hlb : ¬ σr.2.1 2 oa = -9 := (by rw [hRo.2.2.1]; exact nI_n9 (by have := hRo.1; omega))
          by_cases hww : w = w2
          · subst hww
            have hloL : lo ka = L := (nI_eq (by have := (hlo ka hka4).1; omega) (by have := hRk.2.1; omega)).mp ((hlo ka hka4).2.symm.trans hRk.2.2.2.1)
            have hloM : lo oa = M := (nI_eq (by have := (hlo oa hoa4).1; omega) (by have := hRo.2.1; omega)).mp ((hlo oa hoa4).2.symm.trans hRo.2.2.2.1)
            rcases cpQ (iv := iv) (jv := jv) (nv := nv) (lo := lo) hka4 hoa4 hla hlb (hRk.2.2.1.trans hRo.2.2.1.symm) with ⟨hq, hbad⟩ | ⟨hq, i, j, n, hi, hj, hn, h4, h5, h31⟩
            · rw [hloL, hloM] at hbad
              refine gcw_U (x := ⟨"CallRounds$Copying", "tried", "()I"⟩) (owner := "CallRounds$Act") (C := RX12) (rest := []) [] 0 S Wm_K7 hK7 hS (fun q h => by rcases h with h | h; exact Or.inl h; exact Or.inr (Or.inr (Or.inr (Nat.le_trans hszH h)))) (tA_triedO (FR := 14) (LC := 10500) (MC := 3) (MS := 600) hI Wm_K7 (fun _ h => h) (C := RX12) (T := TX12) (N := 7) (ci := 9) rfl in_X12 rfl (by decide) (b := g9) (fs := [.ref (a 0), .int (nI ka), .int iv, .int (nI oa), .int jv, .int nv, .ref (a 0)]) rfl hbk q913 q914 q91 q915 ⟨by decide, by decide⟩ ⟨by decide, by decide⟩ ⟨by decide, by decide⟩ (A := fun q => kAd a q ∨ H.size ≤ q) (Ad := fun q => H.size ≤ q) (fun q h => Or.inl h) (fun q h => Or.inr h) (Ph := fun H' => SHT D dA (a 14) sh so ro H' ∧ TH cT zs zu ze H' ∧ H'.size = H.size) (fun H0 H1 h1 h2 hz h3 h4 => ⟨h2, h1, h4.1.kad hSA h3, h4.2.1.fr h3 hSA.1.2.2.2.2.1, hz.trans h4.2.2⟩) (t12_doneO l hfl D dA cT zs zu ze a (σ.i 13 0) sh so ro g9 ka oa H.size iv jv nv hka4 hoa4 w L M f g hsk hso hbad) (fun q h z => by have := hSA.1.2.2.1 q h; have z : H.size ≤ q := z; omega) (by show ¬ H.size ≤ g9; omega)) q1034 q1035 q1036 q890 q65 q891 (dl_abs hK2 q888) (by decide +kernel) rfl ⟨Nat.le_of_ble_eq_true rfl, Nat.le_of_ble_eq_true rfl⟩ (va_recv hK hPg (ci := 9) (q0 := 0) rfl rfl) hl.1 (Nat.le_of_ble_eq_true rfl) dX0_copy_37 ⟨Nat.le_of_ble_eq_true rfl, Nat.le_of_ble_eq_true rfl⟩ ⟨hPg, hP, hSH, hTH, rfl⟩ (fun v9 H2 locs hp9 hz9 ho9 hS => ?_) rfl
              obtain ⟨rfl, hP⟩ := hp9
              refine W.eq (g2 := F0 m 40 ls [.int ((-10) - 3)]) rfl ?_
              have hSH := hSH.fr ho9 (fun z => by rcases z with z | z; exact hSA.1.2.1 z; (have := hSA.1.1; omega)) (fun k hk e => ⟨fun z => by rcases z with z | z; exact (hSA.2.1 k hk e).2.2.1 z; (have := (hSA.2.1 k hk e).1; omega), fun z => by rcases z with z | z; exact (hSA.2.1 k hk e).2.2.2.1 z; (have := (hSA.2.1 k hk e).2.1; omega)⟩)
              exact g_iret S hr hlk hS dX0_copy_40 ⟨Nat.le_of_ble_eq_true rfl, Nat.le_of_ble_eq_true rfl⟩ (Or.inl ⟨((-10) - 3, 3), (by rw [hq]; rfl), rfl, SP_no hP hSH hRS⟩)
            · rw [hloL] at h4
              rw [hloM] at h5
              have hson : sh oa ≠ none := by rw [hso]; exact (fun z => by cases z)
              have hApo := hSA.2.1 oa hoa4 hson
              refine gcw_U (x := ⟨"CallRounds$Copying", "tried", "()I"⟩) (owner := "CallRounds$Act") (C := RX12) (rest := []) [] 0 S Wm_K7 hK7 hS (fun q h => by rcases h with h | h; exact Or.inl h; exact Or.inr (Or.inr (Or.inl ⟨oa, hoa4, hson, h⟩))) (gA_tried (FR := 14) (LC := 10500) (MC := 3) (MS := 600) hI Wm_K7 (fun _ h => h) (C := RX12) (T := TX12) (N := 7) (ci := 9) rfl in_X12 rfl (by decide) (b := g9) (fs := [.ref (a 0), .int (nI ka), .int iv, .int (nI oa), .int jv, .int nv, .ref (a 0)]) rfl hbk q913 q914 q91 q915 ⟨by decide, by decide⟩ ⟨by decide, by decide⟩ ⟨by decide, by decide⟩ (A := fun q => kAd a q ∨ q = ro oa) (Ad := fun q => q = ro oa) (fun q h => Or.inl h) (fun q h => Or.inr h) (Ph := fun H' => SHT D dA (a 14) sh so ro H' ∧ TH cT zs zu ze H' ∧ H'.size = H.size) (fun H0 H1 h1 h2 hz h3 h4 => ⟨⟨h2, h1, h4.1.kad hSA h3⟩, h1, h4.1.kad hSA h3⟩) (cpGC (g12_done l D dA cT zs zu ze a (σ.i 13 0) sh so ro g9 ka oa iv jv nv hka4 hoa4 (by omega) w L M i j n f g hsk hso hi hj hn h4 h5 (fun x hx => hRk.2.2.2.2.2 x hx)) hI hSA hoa4 hso) (fun v H h => ⟨nv, h.1⟩)) q1034 q1035 q1036 q890 q65 q891 (dl_abs hK2 q888) (by decide +kernel) rfl ⟨Nat.le_of_ble_eq_true rfl, Nat.le_of_ble_eq_true rfl⟩ (va_recv hK hPg (ci := 9) (q0 := 0) rfl rfl) hl.1 (Nat.le_of_ble_eq_true rfl) dX0_copy_37 ⟨Nat.le_of_ble_eq_true rfl, Nat.le_of_ble_eq_true rfl⟩ ⟨hPg, hP, hSH, hTH, rfl⟩ (fun v9 H2 locs hp9 hz9 ho9 hS => ?_) rfl
              obtain ⟨rfl, hP, hSH9⟩ := hp9
              refine W.eq (g2 := F0 m 40 ls [.int nv]) rfl ?_
              refine g_iret S hr hlk hS dX0_copy_40 ⟨Nat.le_of_ble_eq_true rfl, Nat.le_of_ble_eq_true rfl⟩ (Or.inr ⟨hq, rfl, ?_⟩)
              rw [nI_clamp (show ka < 2 ^ 31 by omega), nI_clamp (show oa < 2 ^ 31 by omega), hi, hj, hn, nI_clamp h31.1, nI_clamp h31.2.1, nI_clamp h31.2.2]
              exact ⟨by rw [show ((σr.i 0 0).b 4 (cpF (σr.2.1 4) (60 * ka + i) (60 * oa + j) n)).1 0 = 0 from up_i (σ := σr) (k := 0) (v := 0)]; exact hP, _, so, ro, hSH9, hRS.copy hka4 hoa4 hsk hso h4 h5, fun j => Or.inl ⟨rfl, rfl⟩⟩
          · refine gcw_U (x := ⟨"CallRounds$Copying", "tried", "()I"⟩) (owner := "CallRounds$Act") (C := RX12) (rest := []) [] 0 S Wm_K7 hK7 hS (fun q h => by rcases h with h | h; exact Or.inl h; exact Or.inr (Or.inr (Or.inr (Nat.le_trans hszH h)))) (tA_triedA (FR := 14) (LC := 10500) (MC := 3) (MS := 600) hI Wm_K7 (fun _ h => h) (C := RX12) (T := TX12) (N := 7) (ci := 9) rfl in_X12 rfl (by decide) (b := g9) (fs := [.ref (a 0), .int (nI ka), .int iv, .int (nI oa), .int jv, .int nv, .ref (a 0)]) rfl hbk q913 q914 q91 q915 ⟨by decide, by decide⟩ ⟨by decide, by decide⟩ ⟨by decide, by decide⟩ (A := fun q => kAd a q ∨ H.size ≤ q) (Ad := fun q => H.size ≤ q) (fun q h => Or.inl h) (fun q h => Or.inr h) (Ph := fun H' => SHT D dA (a 14) sh so ro H' ∧ TH cT zs zu ze H' ∧ H'.size = H.size) (fun H0 H1 h1 h2 hz h3 h4 => ⟨h2, h1, h4.1.kad hSA h3, h4.2.1.fr h3 hSA.1.2.2.2.2.1, hz.trans h4.2.2⟩) (t12_doneA l hfl D dA cT zs zu ze a (σ.i 13 0) sh so ro g9 ka oa H.size iv jv nv hka4 hoa4 w w2 L M f g hsk hso hww) (fun q h z => by have := hSA.1.2.2.1 q h; have z : H.size ≤ q := z; omega) (by show ¬ H.size ≤ g9; omega)) q1034 q1035 q1036 q890 q65 q891 (dl_abs hK2 q888) (by decide +kernel) rfl ⟨Nat.le_of_ble_eq_true rfl, Nat.le_of_ble_eq_true rfl⟩ (va_recv hK hPg (ci := 9) (q0 := 0) rfl rfl) hl.1 (Nat.le_of_ble_eq_true rfl) dX0_copy_37 ⟨Nat.le_of_ble_eq_true rfl, Nat.le_of_ble_eq_true rfl⟩ ⟨hPg, hP, hSH, hTH, rfl⟩ (fun v9 H2 locs hp9 hz9 ho9 hS => ?_) rfl
            obtain ⟨rfl, hP⟩ := hp9
            refine W.eq (g2 := F0 m 40 ls [.int ((-10) - 2)]) rfl ?_
            have hSH := hSH.fr ho9 (fun z => by rcases z with z | z; exact hSA.1.2.1 z; (have := hSA.1.1; omega)) (fun k hk e => ⟨fun z => by rcases z with z | z; exact (hSA.2.1 k hk e).2.2.1 z; (have := (hSA.2.1 k hk e).1; omega), fun z => by rcases z with z | z; exact (hSA.2.1 k hk e).2.2.2.1 z; (have := (hSA.2.1 k hk e).2.1; omega)⟩)
            exact g_iret S hr hlk hS dX0_copy_40 ⟨Nat.le_of_ble_eq_true rfl, Nat.le_of_ble_eq_true rfl⟩ (Or.inl ⟨((-10) - 2, 2), by rw [spCopy_in hka4 hoa4, if_neg hla, if_neg hlb, if_pos (by rw [hRk.2.2.1, hRo.2.2.1]; exact fun h => hww ((nI_eq (by have := hRk.1; omega) (by have := hRo.1; omega)).mp h))]; rfl, rfl, SP_no hP hSH hRS⟩)
    · have c_11 : inR u 0 3 = false := by have := b2i_ne0.mp c_11; simpa using this
      refine lv_aload_n hx hb dX0_copy_14 rfl (lv_at hl 0 rfl) ?_
      refine lv_iconst (v := (-1)) hx hb dX0_copy_15 (by decide) ?_
      refine gc_V (rest := []) [.int (-1)] 1 S Wm_K2 hK2 hS (fun q h => Or.inl h) (KC2.gc (KC.k2 (k0_refused l D dA a hI σ (fun _ => True) kStb_T (-1)))) wl_X0_277 wd_X0_X0_refused rfl ⟨Nat.le_of_ble_eq_true rfl, Nat.le_of_ble_eq_true rfl⟩ (k_recv hK hP) hl.1 (Nat.le_of_ble_eq_true rfl) dX0_copy_16 ⟨Nat.le_of_ble_eq_true rfl, Nat.le_of_ble_eq_true rfl⟩ ⟨hP, trivial⟩ (fun v9 H locs hp9 hz9 ho9 hS => ?_) rfl
      obtain ⟨σ9, ⟨rfl, rfl⟩, hP⟩ := hp9
      have hSH := hSH.kad hSA ho9
      refine W.eq (g2 := F0 m 19 ls [.int (-1)]) rfl ?_
      refine lv_goto (tgt := 40) hx hb dX0_copy_19 (by decide) ?_
      exact g_iret S hr hlk hS dX0_copy_40 ⟨Nat.le_of_ble_eq_true rfl, Nat.le_of_ble_eq_true rfl⟩ (Or.inl ⟨(-1, 0), by unfold spCopyQ; rw [if_neg c4n, if_pos c_11], rfl, SP_no hP hSH hRS⟩)
