/-! COMPONENT 34: a new net (by program: gen/comp34.py) -/
set_option maxRecDepth 100000
theorem LW_D {dA : Nat → ClassId} {A : Nat → Prop} {b ed cap : Nat} {mc : Int32} {nc : Nat} {f : Nat → Option Nat} (h3 : A b) (he : A ed) (hne : b ≠ ed) : va_D A (LW dA b ed cap mc nc f) := by
  by_cases h : cap = 0
  · subst h; rw [LW_z]; exact D1 h3
  · rw [LW_c (by omega)]; exact D2 h3 he hne
abbrev nA (a : Nat → Nat) (ed cb sz : Nat) : Nat → Prop := fun q => kAd a q ∨ ((q = a 3 ∨ (q = ed ∨ sz ≤ q)) ∨ q = cb)
theorem kx_neq {dA : Nat → ClassId} {a : Nat → Nat} {σ : MS} {ext : va_W} (hI : kInj a) (h : ∀ (k : Nat) (q : Nat × va_E), ext[k]? = some q → ¬ kAd a q.1) : ∀ (i j : Nat) (p q : Nat × va_E), (kW dA a σ)[i]? = some p → ext[j]? = some q → p.1 ≠ q.1 := fun i j u v hu hv e => h j v hv (by rw [← e]; exact (kW_D (dA := dA) (σ := σ) hI).2 i u hu)
theorem cons_neq {y : Nat} {e : va_E} {ws : va_W} (h : ∀ (k : Nat) (q : Nat × va_E), ws[k]? = some q → q.1 ≠ y) : ∀ (i j : Nat) (p q : Nat × va_E), ([(y, e)] : va_W)[i]? = some p → ws[j]? = some q → p.1 ≠ q.1 := fun i j u v hu hv e9 => by
  match i, hu with
  | 0, hu => cases hu; exact h j v hv e9.symm
  | i + 1, hu => simp at hu
/-- the net that was read -/
theorem KG.rd {σ : MS} {n mp : Nat} {net hh : Nat → Nat} {f g : Nat → Int32} (h : KG σ n net) (hmp : mp < 5) (hf : ∀ j, j < mp → f j = nI (hh j ||| 2 ^ j) ∧ hh j < 16) : KG ((σ.i 0 (nI mp)).b 1 (va_cpy f g 0 0 4)) mp (rdN mp hh net) := by
  refine ⟨hmp, (show va_up σ.1 0 (nI mp) 0 = nI mp from va_up_self _ _ _), fun q hq => ?_, fun q hq => ?_⟩
  · show va_up σ.2.1 1 (va_cpy f g 0 0 4) 1 q = _
    rw [va_up_self]
    show (if 0 ≤ q ∧ q < 0 + 4 then f (0 + (q - 0)) else g q) = _
    rw [if_pos (by omega), show 0 + (q - 0) = q by omega, rdN, if_pos hq]
    exact (hf q hq).1
  · unfold rdN
    split
    · rename_i h1; exact (hf q h1).2
    · exact h.2.2.2 q hq
set_option maxHeartbeats 4000000 in
theorem g4_init (l : Launch) (D : va_G) (dA : Nat → ClassId) (b cb sz : Nat) : GC l yX4_init cX4_init 2 none 1 30 1 4 (K2 D dA) [.ref b, .ref cb] (fun H => va_P D vwCl [(b, .inr (7, [.null, .int 0, .null, .int 0]))] H ∧ sz ≤ H.size) (fun q => q = b ∨ sz ≤ q) (fun v9 H => v9 = none ∧ ∃ yb, sz ≤ yb ∧ yb ≠ b ∧ va_P D vwCl [(b, .inr (7, [.ref cb, .int 0, .ref yb, .int 0]))] H ∧ va_P D vwCl [(yb, .inl (dA 0, 4, .inl (fun _ => 0)))] H) := by
  refine GC.of (by decide) (Nat.le_of_ble_eq_true rfl) ?_
  intro p e s m below meth c ls S hr hlk hnm hK2 hPre hl
  have hK := hK2.1
  have hx := S.1
  have hb := S.2.1
  have hl : lv_has ls 2 [(0, .ref b), (1, .ref cb)] := hl
  have hS : va_S (fun q => q = b ∨ sz ≤ q) s.heap s.heap [] := va_S.rf
  obtain ⟨hP, hsz⟩ := hPre
  have hAb : (fun q => q = b ∨ sz ≤ q) b := Or.inl rfl
  refine lv_aload_n hx hb dX4_init_0 rfl (lv_at hl 0 rfl) ?_
  refine W.objInit (rest := []) S.1 S.2.1 S.2.2.2.1 (S.2.2.2.2 _ q952) (S.2.2.2.2 _ q100) (S.2.2.2.2 _ q101) rfl (hl.1.trans S.2.2.1.symm) rfl dX4_init_1 (Nat.le_of_ble_eq_true rfl) (Nat.le_of_ble_eq_true rfl) ?_
  refine W.eq (g2 := F0 m 4 ls []) rfl ?_
  refine lv_aload_n hx hb dX4_init_4 rfl (lv_at hl 0 rfl) ?_
  refine lv_iconst (v := 4) hx hb dX4_init_5 (by decide) ?_
  refine g_newi (N := 4) (n := 4) S hK hS (by decide) (by decide) (by decide) (Nat.le_of_ble_eq_true rfl) (Nat.le_of_ble_eq_true rfl) dX4_init_6 (fun yb H hy9 hPy hz1 ho1 hS => ?_)
  have hys : sz ≤ yb := by rw [hy9]; exact hsz
  have hyb : yb ≠ b := fun h => by have := one_lt hP; omega
  have hP := hP.grow ho1
  refine rd_p2 (v := .ref yb) S hK hP ⟨_, rfl⟩ q956 (hnm.trans rfl) hS hAb dX4_init_8 (fun H locs hP ho1 hz1 hS => ?_)
  have hPy := hPy.off ho1 (one_ne hyb)
  refine lv_aload_n hx hb dX4_init_11 rfl (lv_at hl 0 rfl) ?_
  refine lv_aload_n hx hb dX4_init_12 rfl (lv_at hl 1 rfl) ?_
  refine rd_p0 (v := .ref cb) S hK hP ⟨_, rfl⟩ q953 (hnm.trans rfl) hS hAb dX4_init_13 (fun H locs hP ho1 hz1 hS => ?_)
  have hPy := hPy.off ho1 (one_ne hyb)
  exact g_vret S hr hlk hS dX4_init_16 ⟨Nat.le_of_ble_eq_true rfl, Nat.le_of_ble_eq_true rfl⟩ (⟨rfl, yb, hys, hyb, hP, hPy⟩)
set_option maxHeartbeats 4000000 in
theorem g0_newNet (l : Launch) (D : va_G) (dA : Nat → ClassId) (mi zs zf : Nat) (a : Nat → Nat) (hI : kInj a) (σ : MS) (n nc : Nat) (cp cq : Nat → Nat) (ed cap : Nat) (mc : Int32) (f : Nat → Option Nat) (rg : Nat → Nat) (net : Nat → Nat) (hG : KG σ n net) (hcq : ∀ j, j < nc → cp j < n ∧ cq j < n) (hcap : cap = 0 ∨ cap = 10 ∨ cap = 15) (sz : Nat) (hCA : CAp a ed nc rg zs sz) (hrA : ∀ j, j < nc → ¬ kAd a (rg j)) (cb L : Nat) (xs : Nat → Int32) (hL : L ≤ 60) (hcb : cb < sz ∧ ¬ kAd a cb ∧ cb ≠ a 3 ∧ cb ≠ ed ∧ ∀ j, j < nc → cb ≠ rg j) : GC l yX0_newNet cX0_newNet 3 (some .int) 3 68 2 8 (K4 D dA mi zs zf) [.ref (a 0), .ref cb] (fun H => va_P D vwCl (kW dA a σ) H ∧ DY D dA a n nc cp cq ed cap mc f rg H ∧ va_P D vwCl [(cb, .inl (dA 0, L, .inl xs))] H ∧ sz ≤ H.size) (nA a ed cb sz) (fun v9 H => (∃ ct, spRead xs L = some ct ∧ ct ≤ L ∧ v9 = some (.int (-100 - nI ct)) ∧ va_P D vwCl (kW dA a σ) H ∧ DY D dA a n nc cp cq ed cap mc f rg H) ∨ (spRead xs L = none ∧ ∃ (mp : Nat) (hh : Nat → Nat) (σ1 : MS) (f3 : Nat → Option Nat), rd1 xs L = (none, mp, hh) ∧ v9 = some (.int (nI mp)) ∧ KG σ1 mp (rdN mp hh net) ∧ (∀ k, k ≠ 0 → σ1.1 k = σ.1 k) ∧ (∀ k, k ≠ 1 → σ1.2.1 k = σ.2.1 k) ∧ va_P D vwCl (kW dA a σ1) H ∧ DY D dA a mp 0 cp cq ed cap (mc + 1) f3 rg H)) := by
  refine GC.of (by decide) (Nat.le_of_ble_eq_true rfl) ?_
  intro p e s m below meth c ls S hr hlk hnm hK4 hPre hl
  have hK2 := hK4.1
  have hK := hK2.1
  have hx := S.1
  have hb := S.2.1
  have hl : lv_has ls 3 [(0, .ref (a 0)), (1, .ref cb)] := hl
  have hS : va_S (nA a ed cb sz) s.heap s.heap [] := va_S.rf
  obtain ⟨hP, hDY, hCb, hsz⟩ := hPre
  have hn := hG.1
  refine g_new (C := RX4) (T := TX4) (N := 4) (ci := 7) (fs := [.null, .int 0, .null, .int 0]) S in_X4 tyX4 tyX4_ok q947 q948 q79 hK hS (fun q h => Or.inr (Or.inl (Or.inr (Or.inr (Nat.le_trans hsz h))))) rfl (by decide) (Nat.le_of_ble_eq_true rfl) (Nat.le_of_ble_eq_true rfl) dX0_newNet_0 (fun g9 H hg9 hPg hz1 ho1 hS => ?_)
  refine lv_dup hx hb dX0_newNet_3 rfl ?_
  refine lv_aload_n hx hb dX0_newNet_4 rfl (lv_at hl 1 rfl) ?_
  refine gc_I (rest := [.ref g9]) [.ref cb] 1 S Wm_K2 hK2 hS (fun q h => Or.inr (Or.inl (Or.inr (Or.inr (by rcases h with h | h; (have h : q = g9 := h; omega); omega))))) (g4_init l D dA g9 cb (g9 + 1)) q951 q79 q949 q950 rfl (by decide +kernel : yX4_init.cls ≠ "java/lang/invoke/MethodHandle" ∧ yX4_init.cls ≠ "java/lang/invoke/VarHandle" ∧ (parseMethodDescriptor yX4_init.desc).map (fun d => d.parameters.length) = some 1) rfl ⟨Nat.le_of_ble_eq_true rfl, Nat.le_of_ble_eq_true rfl⟩ hl.1 (Nat.le_of_ble_eq_true rfl) dX0_newNet_5 ⟨Nat.le_of_ble_eq_true rfl, Nat.le_of_ble_eq_true rfl⟩ (⟨hPg, by omega⟩) (fun v9 H locs hp9 hz9 ho9 hS => ?_) rfl
  obtain ⟨rfl, yb, hys, hyb, hPg, hPy⟩ := hp9
  refine W.eq (g2 := F0 m 8 ls [.ref g9]) rfl ?_
  have ho2 : ∀ q, q < s.heap.size → ¬ (fun _ : Nat => False) q → H[q]? = s.heap[q]? := fun q h _ => (ho9 q (by omega) (by intro h9; rcases h9 with h9 | h9; (have h9 : q = g9 := h9; omega); omega)).trans (ho1 q h)
  have hP := kW_fr hI hP ho2 (fun _ _ h => h)
  have hDY := hDY.fr ho2 id (fun _ => id) (fun _ _ => id)
  have hCb := hCb.fr ho2 (fun _ _ _ => id)
  have hPr : va_P D vwCl [(g9, .inr (7, [.ref cb, .int (nI 0), .ref yb, .int (nI 0)])), (yb, .inl (dA 0, 4, .inl (fun _ => 0))), (cb, .inl (dA 0, L, .inl xs))] H := va_P.app hPg (va_P.app hPy hCb)
  refine lv_astore_n (lv' := [(2, .ref g9), (0, .ref (a 0)), (1, .ref cb)]) hx hb dX0_newNet_8 rfl hl (by decide) rfl (fun ls hl => ?_)
  refine lv_aload_n hx hb dX0_newNet_9 rfl (lv_at hl 0 rfl) ?_
  refine gc_V (rest := []) [] 0 S Wm_K2 hK2 hS (fun q h => by rcases h with h | h | h; (exact Or.inr (Or.inl (Or.inr (Or.inr (by have h : q = g9 := h; omega))))); (exact Or.inr (Or.inl (Or.inr (Or.inr (by have h : q = yb := h; omega))))); exact Or.inr (Or.inr h)) (g4_does l D dA g9 yb cb L xs hL hyb.symm (by omega) (by omega) (fun _ => 0)) wl_X0_131 wd_X0_X4_doesRead rfl ⟨Nat.le_of_ble_eq_true rfl, Nat.le_of_ble_eq_true rfl⟩ (va_recv hK hPr (ci := 7) (q0 := 0) rfl rfl) hl.1 (Nat.le_of_ble_eq_true rfl) dX0_newNet_10 ⟨Nat.le_of_ble_eq_true rfl, Nat.le_of_ble_eq_true rfl⟩ hPr (fun v9 H locs hp9 hz9 ho9 hS => ?_) rfl
  have hne : ∀ q, q < sz → q ≠ cb → ¬ (fun q => q = g9 ∨ (q = yb ∨ q = cb)) q := fun q h1 h2 h9 => by rcases h9 with h9 | h9 | h9; (have h9 : q = g9 := h9; omega); (have h9 : q = yb := h9; omega); exact h2 h9
  have hP := kW_fr hI hP ho9 (fun q h => hne q (hCA.2.2.2.2.1 q h).1 (fun e => hcb.2.1 (by rw [← e]; exact h)))
  have hDY := hDY.fr ho9 (hne _ hCA.1 (fun e => hcb.2.2.1 e.symm)) (fun _ => hne _ hCA.2.1 (fun e => hcb.2.2.2.1 e.symm)) (fun j hj => hne _ (hCA.2.2.2.1 j hj).1 (fun e => hcb.2.2.2.2 j hj e.symm))
  rcases hp9 with ⟨rfl, hsp, mp, hh, f9, ct, hrd, hmp, hh2, hPr⟩ | ⟨ct, mp, f9, rfl, hsp, hct, hPr⟩
  · refine W.eq (g2 := F0 m 13 ls [.int 1]) rfl ?_
    refine lv_if_ne (tgt := 24) hx hb dX0_newNet_13 (by decide) (fun c_13 => ?_) (fun c_13 => absurd (c_13) (by decide))
    refine lv_aload_n hx hb dX0_newNet_24 rfl (lv_at hl 1 rfl) ?_
    refine lv_aload_n hx hb dX0_newNet_25 rfl (lv_at hl 0 rfl) ?_
    refine va_getN (v := .int (nI mp)) (D := D) (ci := 7) (C := RX4) (T := TX4) (N := 4) (host := "CallRounds") S.1 S.2.1 S.2.2.2.2 in_X4 S.2.2.2.1 hK hPr 0 rfl rfl 3 (by decide) (va_tabs rfl rfl (hK2.2.1 _ q959 rfl)) (fun _ h9 => h9) rfl dX0_newNet_26 ?_
    refine k_put1 hI S hK hP (Or.inl ⟨0, by decide, rfl⟩) hS 0 (by decide) rfl fl_X0_45 rfl rfl (by decide +kernel) dX0_newNet_29 (fun H locs hP hz1 ho1 hS => ?_)
    have hk0 : kAd a (a 0) := ⟨0, by decide, rfl⟩
    have h0s := (hCA.2.2.2.2.1 _ hk0)
    have hDY := hDY.fr (A := fun q => q = a 0) (fun q _ h => ho1 q h) (fun h => h0s.2.1 h.symm) (fun _ h => h0s.2.2 h.symm) (fun j hj h => hrA j hj (by rw [show rg j = a 0 from h]; exact hk0))
    have hPy : va_P D vwCl [(yb, .inl (dA 0, 4, .inl f9))] H := (show va_P D vwCl [(yb, .inl (dA 0, 4, .inl f9))] _ from hPr.sub [1] rfl).off ho1 (one_ne (by omega))
    have hPr := (show va_P D vwCl [(g9, .inr (7, [.ref cb, .int (nI ct), .ref yb, .int (nI mp)]))] _ from hPr.sub [0] rfl).off ho1 (one_ne (by omega))
    refine lv_aload_n hx hb dX0_newNet_32 rfl (lv_at hl 0 rfl) ?_
    refine va_getN (v := .ref yb) (D := D) (ci := 7) (C := RX4) (T := TX4) (N := 4) (host := "CallRounds") S.1 S.2.1 S.2.2.2.2 in_X4 S.2.2.2.1 hK hPr 0 rfl rfl 2 (by decide) (va_tabs rfl rfl (hK2.2.1 _ q957 rfl)) (fun _ h9 => h9) rfl dX0_newNet_33 ?_
    refine lv_iconst (v := 0) hx hb dX0_newNet_36 (by decide) ?_
    refine lv_aload_n hx hb dX0_newNet_37 rfl (lv_at hl 1 rfl) ?_
    refine k_get (v := .ref (a 1)) S hK hP 1 (by decide) fl_X0_11 rfl dX0_newNet_38 rfl ?_
    refine lv_iconst (v := 0) hx hb dX0_newNet_41 (by decide) ?_
    refine lv_iconst (v := 4) hx hb dX0_newNet_42 (by decide) ?_
    have hne3 : ∀ (k : Nat) (q : Nat × va_E), ([(yb, (Sum.inl (dA 0, 4, .inl f9) : va_E))] ++ LW dA (a 3) ed cap mc nc f)[k]? = some q → ¬ kAd a q.1 := fun k q hq h9 => by
      have h8 := hCA.2.2.2.2.1 _ h9
      cases k with
      | zero => cases hq; exact absurd h8.1 (by omega)
      | succ k =>
        rcases LW_at (show (LW dA (a 3) ed cap mc nc f)[k]? = some q from hq) with e | e
        · exact h8.2.1 e
        · exact h8.2.2 e.1
    have hDx : va_D (nA a ed cb sz) (kW dA a (σ.i 0 (nI mp)) ++ ([(yb, (Sum.inl (dA 0, 4, .inl f9) : va_E))] ++ LW dA (a 3) ed cap mc nc f)) := va_D.app (kD hI (fun q h => Or.inl h)) (va_D.app (D1 (Or.inr (Or.inl (Or.inr (Or.inr (by omega)))))) (LW_D (Or.inr (Or.inl (Or.inl rfl))) (Or.inr (Or.inl (Or.inr (Or.inl rfl)))) hCA.2.2.1) (cons_neq (fun k q hq h9 => by rcases LW_at hq with e | e; (have := hCA.1; omega); (have := e.1; have := hCA.2.1; omega)))) (kx_neq hI hne3)
    refine n_cpyX (rest := []) (j := 0) (Nat.le_refl 4) S hK hP (va_P.app hPy hDY.1) rfl hDx hS q642 hl.1 (Nat.le_of_ble_eq_true rfl) (Nat.le_of_ble_eq_true rfl) dX0_newNet_43 (fun H locs hP hX hS => ?_)
    have hL9 := P_r hX
    have hKG := hG.rd (g := (σ.i 0 (nI mp)).2.1 1) hmp hh2
    obtain ⟨σ1, hσ1⟩ : ∃ x, x = (σ.i 0 (nI mp)).b 1 (va_cpy f9 ((σ.i 0 (nI mp)).2.1 1) 0 0 4) := ⟨_, rfl⟩
    rw [← hσ1] at hP hKG
    refine lv_aload_n hx hb dX0_newNet_46 rfl (lv_at hl 1 rfl) ?_
    refine k_get (v := .ref (a 3)) S hK hP 3 (by decide) fl_X0_18 rfl dX0_newNet_47 rfl ?_
    refine gc_F (rest := []) [] 0 S (hK.1 2 (RJ2, TJ2, 3) rfl).2 (hK2.2.fw (C := RJ2) (x := ⟨"java/util/List", "clear", "()V"⟩) (y := yJ2_clear) (by simp [fxI]) q996 q994 q203) Wm_K4 hK4 hS (fun q h => by rcases h with h | h; (exact Or.inr (Or.inl (Or.inl h))); exact Or.inr (Or.inl (Or.inr (Or.inl h.1)))) (gj_clear l D dA mi zs zf (a 3) ed cap nc mc f hCA.2.2.1 (by omega) hDY.2.1) (lw_F q990 q993 q995 q63 q997) (by decide +kernel) rfl ⟨Nat.le_of_ble_eq_true rfl, Nat.le_of_ble_eq_true rfl⟩ (va_recv hK hL9 (ci := 2) (q0 := 0) rfl rfl) hl.1 (Nat.le_of_ble_eq_true rfl) dX0_newNet_50 ⟨Nat.le_of_ble_eq_true rfl, Nat.le_of_ble_eq_true rfl⟩ (hL9) (fun v9 H locs hp9 hz9 ho9 hS => ?_) rfl
    obtain ⟨rfl, f3, hL9⟩ := hp9
    refine W.eq (g2 := F0 m 55 ls []) rfl ?_
    have hP := kW_fr hI hP ho9 (fun q h h9 => by have := hCA.2.2.2.2.1 q h; rcases h9 with h9 | h9; exact this.2.1 h9; exact this.2.2 h9.1)
    have hDY0 : DY D dA a mp 0 cp cq ed cap (mc + 1) f3 rg H := ⟨hL9, Nat.zero_le _, hDY.2.2.1, fun j hj => absurd hj (Nat.not_lt_zero j)⟩
    refine lv_aload_n hx hb dX0_newNet_55 rfl (lv_at hl 1 rfl) ?_
    refine k_get (v := .int (σ1.1 0)) S hK hP 0 (by decide) fl_X0_45 rfl dX0_newNet_56 rfl ?_
    refine topi (z := nI mp) (by rw [hσ1]; rfl) ?_
    exact g_iret S hr hlk hS dX0_newNet_59 ⟨Nat.le_of_ble_eq_true rfl, Nat.le_of_ble_eq_true rfl⟩ (Or.inr ⟨hsp, mp, hh, σ1, f3, hrd, rfl, hKG, fun k hk => by rw [hσ1]; exact va_up_ne _ _ hk, fun k hk => by rw [hσ1]; exact va_up_ne _ _ hk, hP, hDY0⟩)
  · refine W.eq (g2 := F0 m 13 ls [.int 0]) rfl ?_
    refine lv_if_ne (tgt := 24) hx hb dX0_newNet_13 (by decide) (fun c_13 => absurd (by decide) c_13) (fun c_13 => ?_)
    refine lv_bipush (v := (-100)) hx hb dX0_newNet_16 (by decide) ?_
    refine lv_aload_n hx hb dX0_newNet_18 rfl (lv_at hl 0 rfl) ?_
    refine va_getN (v := .int (nI ct)) (D := D) (ci := 7) (C := RX4) (T := TX4) (N := 4) (host := "CallRounds") S.1 S.2.1 S.2.2.2.2 in_X4 S.2.2.2.1 hK hPr 0 rfl rfl 1 (by decide) (va_tabs rfl rfl (hK2.2.1 _ q955 rfl)) (fun _ h9 => h9) rfl dX0_newNet_19 ?_
    refine lv_isub hx hb dX0_newNet_22 ?_
    exact g_iret S hr hlk hS dX0_newNet_23 ⟨Nat.le_of_ble_eq_true rfl, Nat.le_of_ble_eq_true rfl⟩ (Or.inl ⟨ct, hsp, hct, rfl, hP, hDY⟩)
