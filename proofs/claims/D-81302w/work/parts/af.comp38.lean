/-! COMPONENT 38: sheets with handlers (by program: gen/comp38.py) -/
set_option maxRecDepth 100000
section AST
variable {p : Program} {l : Launch} {e : Env} {R : Room} {s : State} {m : MethodId} {args : Array Value} {below : List Frame} {meth : Method} {c : Code} {H : Heap} {locs : List Loc} {cells slots : Nat} {Q : State → Prop}
variable {cc : ByteArray} {pc nL : Nat} {ls : Array Slot} {rest : List Value} {D : va_G} {dA : Nat → ClassId} {A0 : Nat → Prop} {H0 : Heap} {own : String}
/-- an object is put into an array of its class: all other cells stay -/
theorem g_astq (S : CallFix p m c cc nL s args lw_all own) (hK : va_K D vwCl (tyL dA) s) (hS : va_S A0 H0 H locs) (t0 ci : Nat) {r : vw_C} {a n v : Nat} {vs : List Value} {f : Nat → Option Nat} (hP : va_P D vwCl [(a, .inl (dA t0, n, .inr (.inr (.inr (.inr f)))))] H) (ht : (tyL dA)[t0]? = some (dA t0, .object r.1)) (hv : va_P D vwCl [(v, .inr (ci, vs))] H) (hc : vwCl[ci]? = some r) (hA : A0 a) {i : Int32} (hin : vp_in i n) (hdg : decode cc pc = .ok (.aastore, 1))
    (kk : ∀ (H1 : Heap) (locs1 : List Loc), va_P D vwCl [(a, .inl (dA t0, n, .inr (.inr (.inr (.inr (va_up f i.toNatClampNeg (some v)))))))] H1 → H1.size = H.size → (∀ q, q ≠ a → H1[q]? = H[q]?) → va_S A0 H0 H1 locs1 → W p l e R s m args below meth c H1 locs1 cells slots Q (F0 m (pc + 1) ls rest)) : W p l e R s m args below meth c H locs cells slots Q (F0 m pc ls (.ref v :: .int i :: .ref a :: rest)) := by
  have hlt : i.toNatClampNeg < n := Nat.not_le.mp fun q => hin (Or.inr q)
  have h0 : ¬ i < 0 := fun q => hin (Or.inl q)
  obtain ⟨r', hr', cellV, g1, g2, g3, -⟩ := hv 0 _ rfl
  have hcls := (hK.1 ci r hc).2
  obtain ⟨kA, comp, k1, k2, k3, -⟩ := (hK.2 t0 _ ht).2
  have hcomp : comp = D.1 ci := Option.some.inj (k3.symm.trans hcls.1)
  subst hcomp
  obtain ⟨kC, hkC, -⟩ := hcls.2
  refine W.aast S.1 S.2.1 (hP 0 _ rfl) (fun q h => by cases h) (fun h => by cases h) k1 k2 rfl hkC ⟨h0, by show _ < (arrV _ _ _).slots.size; rw [arrV_size]; exact hlt⟩ g1 (fun q h => by rw [g3] at h; cases h) (by rw [g2]; exact hkC) (by rw [g2]; exact va_assign hcls) rfl rfl hdg fun H1 e z oq => ?_
  refine kk H1 _ (fun k q hq => ?_) z oq (hS.put z oq hA)
  match k, hq with
  | 0, hq =>
    cases hq
    show H1[a]? = some (vp_cell _ _)
    rw [e]
    rw [vp_cell_q, vp_cell_q, arrV_store]
    congr 2
    funext q
    by_cases hq : q = i.toNatClampNeg
    · subst hq
      simp [updV, va_up, va_rf]
    · simp [updV, va_up, hq]
  | k + 1, hq => simp at hq
end AST
theorem SHT.hi {D : va_G} {dA : Nat → ClassId} {a : Nat → Nat} {sh : Shs} {so ro : Nat → Nat} {zs sz : Nat} {A : Nat → Prop} (hSA : SAp a sh so ro zs sz) {H H1 : Heap} (h : SHT D dA (a 14) sh so ro H) (o1 : ∀ q, q < H.size → ¬ A q → H1[q]? = H[q]?) (hA : ∀ q, A q → sz ≤ q) : SHT D dA (a 14) sh so ro H1 := h.fr o1 (fun z => absurd (hA _ z) (Nat.not_le.mpr hSA.1.1)) (fun k hk e => ⟨fun z => absurd (hA _ z) (Nat.not_le.mpr (hSA.2.1 k hk e).1), fun z => absurd (hA _ z) (Nat.not_le.mpr (hSA.2.1 k hk e).2.1)⟩)
theorem kW_hi {D : va_G} {dA : Nat → ClassId} {a : Nat → Nat} {σ : MS} {sh : Shs} {so ro : Nat → Nat} {zs sz : Nat} {A : Nat → Prop} (hI : kInj a) (hSA : SAp a sh so ro zs sz) {H H1 : Heap} (h : va_P D vwCl (kW dA a σ) H) (o1 : ∀ q, q < H.size → ¬ A q → H1[q]? = H[q]?) (hA : ∀ q, A q → sz ≤ q) : va_P D vwCl (kW dA a σ) H1 := kW_fr hI h o1 (fun q hq z => absurd (hA _ z) (Nat.not_le.mpr (hSA.1.2.2.1 q hq)))
theorem TH.hi {a : Nat → Nat} {sh : Shs} {so ro : Nat → Nat} {cT : ClassId} {zs zu ze sz : Nat} {A : Nat → Prop} (hSA : SAp a sh so ro zs sz) {H H1 : Heap} (h : TH cT zs zu ze H) (o1 : ∀ q, q < H.size → ¬ A q → H1[q]? = H[q]?) (hA : ∀ q, A q → sz ≤ q) : TH cT zs zu ze H1 := h.fr o1 (fun z => absurd (hA _ z) (Nat.not_le.mpr hSA.1.2.2.2.1))
theorem up_ii {σ : MS} {k : Nat} {u v : Int32} : (σ.i k u).i k v = σ.i k v := by
  have h : va_up (va_up σ.1 k u) k v = va_up σ.1 k v := by
    funext j
    by_cases e : j = k
    · subst e; rw [va_up_self, va_up_self]
    · rw [va_up_ne _ _ e, va_up_ne _ _ e, va_up_ne _ _ e]
  show (va_up (va_up σ.1 k u) k v, _) = (va_up σ.1 k v, _)
  rw [h]
  rfl
theorem SP_no {D : va_G} {dA : Nat → ClassId} {a : Nat → Nat} {σ σr : MS} {sh : Shs} {so ro : Nat → Nat} {sz : Nat} {v : Int32} {H : Heap} (h1 : va_P D vwCl (kW dA a (σ.i 13 v)) H) (h2 : SHT D dA (a 14) sh so ro H) (h3 : RSh σr sh) : SP D dA a σ (σr.i 0 v) so ro sz H := ⟨by rw [up_i]; exact h1, sh, so, ro, h2, h3.same rfl, fun j => Or.inl ⟨rfl, rfl⟩⟩
theorem fit_0 : ∀ w, w < 3 → fits (ldT w) (.int 0) = true
  | 0, _ => by decide
  | 1, _ => by decide
  | 2, _ => by decide
  | w + 3, h => by omega
theorem clrA_at {f : Nat → Int32} {b : Nat} : ∀ n x, clrA f b n x = if b ≤ x ∧ x < b + n then 0 else f x
  | 0, x => by rw [if_neg (by omega)]; rfl
  | n + 1, x => by
    show upd (clrA f b n) (b + n) 0 x = _
    by_cases e : x = b + n
    · subst e; rw [updS, if_pos (by omega)]
    · rw [updN _ _ e, clrA_at n x]
      by_cases h : b ≤ x ∧ x < b + n
      · rw [if_pos h, if_pos (by omega)]
      · rw [if_neg h, if_neg (by omega)]
theorem inL_02 (w : Int32) : inL w.toInt64 0 2 = inR w 0 2 := inL_eq w 0 2
theorem shR_new {sh : Shs} {so : Nat → Nat} {k g : Nat} {q : Nat × Nat × (Nat → Int32)} : va_up (shR sh so) k (some g) = shR (va_up sh k (some q)) (va_up so k g) := by
  funext j
  by_cases e : j = k
  · subst e
    rw [va_up_self]
    unfold shR
    rw [va_up_self, va_up_self]; rfl
  · rw [va_up_ne _ _ e]
    unfold shR
    rw [va_up_ne _ _ e, va_up_ne _ _ e]
theorem mSheet_ok {σ : MS} {k w N : Nat} (hk : k < 4) (hw : w < 3) (hN : N ≤ 60) : mSheet σ (nI k) (nI w) (nI N) = (1, (((σ.i 0 0).b 2 (upd (σ.2.1 2) k (nI w))).b 3 (upd (σ.2.1 3) k (nI N))).b 4 (clrA (σ.2.1 4) (60 * k) 60)) := by
  unfold mSheet
  rw [show inR (nI k) 0 3 = true from inR_nI (k := 3) (by omega) (by decide), show inR (nI w) 0 2 = true from inR_nI (k := 2) (by omega) (by decide), nI_clamp (by omega), if_neg (by decide), if_neg (by decide), if_neg (fun h => h (nI_le (b := 60) hN (by decide))), if_neg (fun h => h (nI_pos' (by omega)))]
theorem RSh.new {σr : MS} {sh : Shs} (h : RSh σr sh) {k w N : Nat} (hk : k < 4) (hw : w < 3) (hN : N ≤ 60) : RSh ((((σr.i 0 0).b 2 (upd (σr.2.1 2) k (nI w))).b 3 (upd (σr.2.1 3) k (nI N))).b 4 (clrA (σr.2.1 4) (60 * k) 60)) (va_up sh k (some (w, N, fun _ => 0))) := by
  intro j hj
  have h4 : ((((σr.i 0 0).b 2 (upd (σr.2.1 2) k (nI w))).b 3 (upd (σr.2.1 3) k (nI N))).b 4 (clrA (σr.2.1 4) (60 * k) 60)).2.1 4 = clrA (σr.2.1 4) (60 * k) 60 := up_b
  have h3 : ((((σr.i 0 0).b 2 (upd (σr.2.1 2) k (nI w))).b 3 (upd (σr.2.1 3) k (nI N))).b 4 (clrA (σr.2.1 4) (60 * k) 60)).2.1 3 = upd (σr.2.1 3) k (nI N) := (up_bn (by decide)).trans up_b
  have h2 : ((((σr.i 0 0).b 2 (upd (σr.2.1 2) k (nI w))).b 3 (upd (σr.2.1 3) k (nI N))).b 4 (clrA (σr.2.1 4) (60 * k) 60)).2.1 2 = upd (σr.2.1 2) k (nI w) := (up_bn (by decide)).trans ((up_bn (by decide)).trans up_b)
  rw [h2, h3, h4]
  by_cases e : j = k
  · subst e
    rw [updS, updS, va_up_self]
    refine ⟨(fun z => by cases z), fun w1 L1 f1 z => ?_⟩
    cases z
    exact ⟨hw, hN, rfl, rfl, (fun i hi => by rw [clrA_at, if_pos (by omega)]), fun i hi => fit_0 _ hw⟩
  · rw [updN _ _ e, updN _ _ e, va_up_ne _ _ e]
    refine ⟨(h j hj).1, fun w1 L1 f1 z => ?_⟩
    have h9 := (h j hj).2 w1 L1 f1 z
    exact ⟨h9.1, h9.2.1, h9.2.2.1, h9.2.2.2.1, (fun i hi => by rw [clrA_at, if_neg (by omega)]; exact h9.2.2.2.2.1 i hi), h9.2.2.2.2.2⟩
set_option maxHeartbeats 4000000 in
theorem g0_sheet (l : Launch) (hfl : NoTr l) (D : va_G) (dA : Nat → ClassId) (cT : ClassId) (zs zu ze : Nat) (a : Nat → Nat) (hI : kInj a) (σ σr : MS) (sh : Shs) (so ro : Nat → Nat) (sz : Nat) (hSA : SAp a sh so ro zs sz) (hRS : RSh σr sh) (v u z : Int32) : GCW l yX0_sheet cX0_sheet 5 (some .int) [(43, 62, 63, 289)] 9 10300 4 400 (K7 D dA cT zs zu ze) [.ref (a 0), .int v, .int u, .int z] (fun H => va_P D vwCl (kW dA a σ) H ∧ SHT D dA (a 14) sh so ro H ∧ TH cT zs zu ze H ∧ sz ≤ H.size) (shA a sh ro sz) (fun v9 H => v9 = some (.int (mSheet σr v u z).1) ∧ SP D dA a σ (mSheet σr v u z).2 so ro sz H) := by
  refine GCW.of (by decide) (Nat.le_of_ble_eq_true rfl) ?_
  intro p e s m below meth c ls S hr hlk htab hK7 hPre hl
  have hK2 := hK7.1.1
  have hK := hK2.1
  have hx := S.1
  have hb := S.2.1
  have hl : lv_has ls 5 [(0, .ref (a 0)), (1, .int v), (2, .int u), (3, .int z)] := hl
  have hS : va_S (shA a sh ro sz) s.heap s.heap [] := va_S.rf
  obtain ⟨hP, hSH, hTH, hsz⟩ := hPre
  have hsz0 := hsz
  refine lv_iload_n hx hb dX0_sheet_0 rfl (lv_at hl 1 rfl) ?_
  refine rc_Si (rest := []) [.int v] 1 S hK (r0_noSheet l D dA v) wl_X0_274 wd_X0_X0_noSheet rfl ⟨Nat.le_of_ble_eq_true rfl, Nat.le_of_ble_eq_true rfl⟩ hl.1 (Nat.le_of_ble_eq_true rfl) dX0_sheet_1 ⟨Nat.le_of_ble_eq_true rfl, Nat.le_of_ble_eq_true rfl⟩ trivial ?_ rfl
  refine lv_if_eq (tgt := 13) hx hb dX0_sheet_4 (by decide) (fun c_4 => ?_) (fun c_4 => ?_)
  · have c_4 : inR v 0 3 = true := by have := b2i_eq0.mp c_4; simpa using this
    have c4n : ¬ inR v 0 3 = false := by rw [c_4]; decide
    refine lv_iload_n hx hb dX0_sheet_13 rfl (lv_at hl 2 rfl) ?_
    refine lv_i2l hx hb dX0_sheet_14 rfl ?_
    refine lv_lconst (v := 0) hx hb dX0_sheet_15 (by decide) ?_
    refine lv_ldc2 (v := 2) hx hb S.2.2.2.1 (S.2.2.2.2 _ q749) dX0_sheet_16 ?_
    refine rc_Si (rest := []) [.long (Int32.toInt64 u), .long 0, .long 2] 3 S hK (r0_in l D dA (Int32.toInt64 u) 0 2) wl_X0_49 wd_X0_X0_in rfl ⟨Nat.le_of_ble_eq_true rfl, Nat.le_of_ble_eq_true rfl⟩ hl.1 (Nat.le_of_ble_eq_true rfl) dX0_sheet_19 ⟨Nat.le_of_ble_eq_true rfl, Nat.le_of_ble_eq_true rfl⟩ trivial ?_ rfl
    refine topi (z := b2i (inR u 0 2)) (congrArg b2i (inL_02 u)) ?_
    refine lv_if_eq (tgt := 31) hx hb dX0_sheet_22 (by decide) (fun c_22 => ?_) (fun c_22 => ?_)
    · have c_22 : inR u 0 2 = false := b2i_eq0.mp c_22
      refine lv_aload_n hx hb dX0_sheet_31 rfl (lv_at hl 0 rfl) ?_
      refine lv_bipush (v := (-2)) hx hb dX0_sheet_32 (by decide) ?_
      refine gc_V (rest := []) [.int (-2)] 1 S Wm_K2 hK2 hS (fun q h => Or.inl h) (KC2.gc (KC.k2 (k0_refused l D dA a hI σ (fun _ => True) kStb_T (-2)))) wl_X0_277 wd_X0_X0_refused rfl ⟨Nat.le_of_ble_eq_true rfl, Nat.le_of_ble_eq_true rfl⟩ (k_recv hK hP) hl.1 (Nat.le_of_ble_eq_true rfl) dX0_sheet_34 ⟨Nat.le_of_ble_eq_true rfl, Nat.le_of_ble_eq_true rfl⟩ ⟨hP, trivial⟩ (fun v9 H locs hp9 hz9 ho9 hS => ?_) rfl
      obtain ⟨σ9, ⟨rfl, rfl⟩, hP⟩ := hp9
      have hSH := hSH.kad hSA ho9
      refine W.eq (g2 := F0 m 37 ls [.int (-2)]) rfl ?_
      refine g_iret S hr hlk hS dX0_sheet_37 ⟨Nat.le_of_ble_eq_true rfl, Nat.le_of_ble_eq_true rfl⟩ ?_
      rw [show mSheet σr v u z = ((-2), σr.i 0 0) from by unfold mSheet; rw [if_neg c4n, if_pos c_22]]
      exact ⟨rfl, SP_no hP hSH hRS⟩
    · have c_22 : inR u 0 2 = true := b2i_ne0.mp c_22
      have c22n : ¬ inR u 0 2 = false := by rw [c_22]; decide
      refine lv_iload_n hx hb dX0_sheet_25 rfl (lv_at hl 3 rfl) ?_
      refine lv_bipush (v := 60) hx hb dX0_sheet_26 (by decide) ?_
      refine lv_icmp_le (tgt := 38) hx hb dX0_sheet_28 (by decide) (fun c_28 => ?_) (fun c_28 => ?_)
      · obtain ⟨w, hw9, rfl⟩ := inR_some (k := 2) (by decide) c_22
        obtain ⟨ka, hka9, rfl⟩ := inR_some (k := 3) (by decide) c_4
        have hka4 : ka < 4 := by omega
        have hin : inR (nI ka) 0 3 = true := inR_nI (k := 3) (by omega) (by decide)
        have hcl : (nI ka).toNatClampNeg = ka := nI_clamp (by omega)
        refine lv_aload_n hx hb dX0_sheet_38 rfl (lv_at hl 0 rfl) ?_
        refine lv_iconst (v := 0) hx hb dX0_sheet_39 (by decide) ?_
        refine k_put1 hI S hK hP (Or.inl ⟨0, by decide, rfl⟩) hS 13 (by decide) rfl fl_X0_263 rfl rfl (by decide +kernel) dX0_sheet_40 (fun H locs hP hz1 ho1 hS => ?_)
        have hk0 : kAd a (a 0) := ⟨0, by decide, rfl⟩
        have hSH := hSH.kad hSA (fun q _ h => ho1 q (fun e => h (by rw [e]; exact hk0)))
        have hTH := hTH.fr (A := kAd a) (fun q _ h => ho1 q (fun e => h (by rw [e]; exact hk0))) hSA.1.2.2.2.2.1
        have hsz : sz ≤ H.size := by rw [hz1]; exact hsz
        refine lv_aload_n hx hb dX0_sheet_43 rfl (lv_at hl 0 rfl) ?_
        refine k_get (v := .ref (a 14)) S hK hP 14 (by decide) fl_X0_41 rfl dX0_sheet_44 rfl ?_
        refine lv_iload_n hx hb dX0_sheet_47 rfl (lv_at hl 1 rfl) ?_
        refine g_new (C := RX11) (T := TX11) (N := 1) (ci := 6) (fs := [.null]) S in_X11 tyX11 tyX11_ok q130 q750 q90 hK hS (fun q h => Or.inr (Or.inr (Or.inr (Nat.le_trans hsz0 h)))) rfl (by decide) (Nat.le_of_ble_eq_true rfl) (Nat.le_of_ble_eq_true rfl) dX0_sheet_48 (fun g9 H hg9 hPg hz1 ho1 hS => ?_)
        have ho1f : ∀ q, q < _ → ¬ (fun _ : Nat => False) q → H[q]? = _ := fun q h _ => ho1 q h
        have hP := kW_hi hI hSA hP ho1f (fun _ h => h.elim)
        have hSH := hSH.hi hSA ho1f (fun _ h => h.elim)
        have hTH := hTH.hi hSA ho1f (fun _ h => h.elim)
        have hg9s : sz ≤ g9 := by omega
        refine lv_dup hx hb dX0_sheet_51 rfl ?_
        refine lv_iload_n hx hb dX0_sheet_52 rfl (lv_at hl 2 rfl) ?_
        refine lv_iload_n hx hb dX0_sheet_53 rfl (lv_at hl 3 rfl) ?_
        by_cases hz0 : z < 0
        · refine tc_S (rest := [.ref g9, .ref g9, .int (nI ka), .ref (a 14)]) [.int (nI w), .int z] 2 S Wm_K7 hK7 hS (fun q h => h.elim) (t0_rowN l hfl D dA cT zs zu ze w (by omega) z hz0) wl_X0_282 wd_X0_X0_rowOf rfl ⟨Nat.le_of_ble_eq_true rfl, Nat.le_of_ble_eq_true rfl⟩ hl.1 (Nat.le_of_ble_eq_true rfl) dX0_sheet_54 ⟨Nat.le_of_ble_eq_true rfl, Nat.le_of_ble_eq_true rfl⟩ hTH (fun x9 H locs hx9 hz9 ho9 hS => ?_) rfl
          refine WT.caught (hpc := 63) rfl htab ?_ ?_
          · exact GT.hit (C := "java/lang/NegativeArraySizeException") (name := "java/lang/NegativeArraySizeException") (ct := 289) rfl S.2.2.2.1 (S.2.2.2.2 _ q655) (va_any rfl (hK2.2.1 _ q719 rfl)) hx9 rfl rfl (by decide) rfl
          · have hP := kW_hi hI hSA hP ho9 (fun _ h => h.elim)
            have hSH := hSH.hi hSA ho9 (fun _ h => h.elim)
            refine lv_astore (lv' := [(4, .ref x9), (0, .ref (a 0)), (1, .int (nI ka)), (2, .int (nI w)), (3, .int z)]) hx hb dX0_sheet_63 hl (by decide) rfl (fun ls hl => ?_)
            refine lv_aload_n hx hb dX0_sheet_65 rfl (lv_at hl 1 rfl) ?_
            refine lv_iconst (v := 4) hx hb dX0_sheet_66 (by decide) ?_
            refine gc_V (rest := []) [.int 4] 1 S Wm_K2 hK2 hS (fun q h => Or.inl h) (KC2.gc (KC.k2 (k0_fails l D dA a hI (σ.i 13 0) (fun _ => True) kStb_T 4))) wl_X0_291 wd_X0_X0_fails rfl ⟨Nat.le_of_ble_eq_true rfl, Nat.le_of_ble_eq_true rfl⟩ (k_recv hK hP) hl.1 (Nat.le_of_ble_eq_true rfl) dX0_sheet_67 ⟨Nat.le_of_ble_eq_true rfl, Nat.le_of_ble_eq_true rfl⟩ ⟨hP, trivial⟩ (fun v9 H locs hp9 hz9 ho9 hS => ?_) rfl
            obtain ⟨σ9, ⟨rfl, rfl⟩, hP⟩ := hp9
            have hSH := hSH.kad hSA ho9
            refine W.eq (g2 := F0 m 70 ls [.int ((-10) - 4)]) rfl ?_
            rw [up_ii] at hP
            refine g_iret S hr hlk hS dX0_sheet_70 ⟨Nat.le_of_ble_eq_true rfl, Nat.le_of_ble_eq_true rfl⟩ ?_
            rw [show mSheet σr (nI ka) (nI w) z = (-14, σr.i 0 4) from by unfold mSheet; rw [if_neg c4n, if_neg c22n, if_neg (fun h => h c_28), if_pos (Int32.not_le.mpr hz0)]]
            exact ⟨rfl, SP_no hP hSH hRS⟩
        · obtain ⟨N, hN9, rfl⟩ := nI_of2 (M := 60) (n := 60) rfl hz0 c_28
          refine gc_S (rest := [.ref g9, .ref g9, .int (nI ka), .ref (a 14)]) [.int (nI w), .int (nI N)] 2 S Wm_K7 hK7 hS (fun q h => Or.inr (Or.inr (Or.inr (by omega)))) (g0_rowOf l D dA cT zs zu ze w N (g9 + 1) (by omega) hN9) wl_X0_282 wd_X0_X0_rowOf rfl ⟨Nat.le_of_ble_eq_true rfl, Nat.le_of_ble_eq_true rfl⟩ hl.1 (Nat.le_of_ble_eq_true rfl) dX0_sheet_54 ⟨Nat.le_of_ble_eq_true rfl, Nat.le_of_ble_eq_true rfl⟩ (by omega) (fun v9 H locs hp9 hz9 ho9 hS => ?_) rfl
          obtain ⟨y, hy9, rfl, hPy⟩ := hp9
          refine W.eq (g2 := F0 m 57 ls [.ref y, .ref g9, .ref g9, .int (nI ka), .ref (a 14)]) rfl ?_
          have hA9 : ∀ q, (fun q => g9 + 1 ≤ q) q → sz ≤ q := fun q h => by have h : g9 + 1 ≤ q := h; omega
          have hP := kW_hi hI hSA hP ho9 hA9
          have hSH := hSH.hi hSA ho9 hA9
          have hPg := hPg.fr ho9 (one_A (A := fun q => g9 + 1 ≤ q) (by omega))
          refine gc_I (rest := [.ref g9, .int (nI ka), .ref (a 14)]) [.ref y] 1 S Wm_K2 hK2 hS (fun q h => Or.inr (Or.inr (Or.inr (by have h : q = g9 := h; omega)))) (g11_init l D dA g9 y) q756 q90 q754 q755 rfl (by decide +kernel : yX11_init.cls ≠ "java/lang/invoke/MethodHandle" ∧ yX11_init.cls ≠ "java/lang/invoke/VarHandle" ∧ (parseMethodDescriptor yX11_init.desc).map (fun d => d.parameters.length) = some 1) rfl ⟨Nat.le_of_ble_eq_true rfl, Nat.le_of_ble_eq_true rfl⟩ hl.1 (Nat.le_of_ble_eq_true rfl) dX0_sheet_57 ⟨Nat.le_of_ble_eq_true rfl, Nat.le_of_ble_eq_true rfl⟩ hPg (fun v9 H locs hp9 hz9 ho9 hS => ?_) rfl
          obtain ⟨rfl, hPg⟩ := hp9
          refine W.eq (g2 := F0 m 60 ls [.ref g9, .int (nI ka), .ref (a 14)]) rfl ?_
          have hA9 : ∀ q, (fun q => q = g9) q → sz ≤ q := fun q h => by have h : q = g9 := h; omega
          have hP := kW_hi hI hSA hP ho9 hA9
          have hSH := hSH.hi hSA ho9 hA9
          have hPy := hPy.fr ho9 (one_A (A := fun q => q = g9) (by omega))
          refine g_astq (r := (RX11, TX11, 1)) (i := nI ka) S hK hS 4 6 hSH.1 rfl hPg rfl (Or.inr (Or.inl rfl)) (vp_in_nI (N := 4) hka4 (by decide)) dX0_sheet_60 (fun H locs hP1 hz1 ho1 hS => ?_)
          rw [hcl, shR_new (q := (w, N, fun _ => 0))] at hP1
          have hP := kW_fr (A := fun q => q = a 14) hI hP (fun q _ h => ho1 q h) (fun q h z => hSA.1.2.1 (by rw [← show q = a 14 from z]; exact h))
          have hPg := hPg.off ho1 (one_ne (by have := hSA.1.1; omega))
          have hPy := hPy.off ho1 (one_ne (by have := hSA.1.1; omega))
          refine lv_iconst (v := 1) hx hb dX0_sheet_61 (by decide) ?_
          refine g_iret S hr hlk hS dX0_sheet_62 ⟨Nat.le_of_ble_eq_true rfl, Nat.le_of_ble_eq_true rfl⟩ ?_
          rw [mSheet_ok hka4 (show w < 3 by omega) hN9]
          refine ⟨rfl, hP, va_up sh ka (some (w, N, fun _ => 0)), va_up so ka g9, va_up ro ka y, ⟨hP1, fun j hj w1 L1 f1 e1 => ?_⟩, hRS.new hka4 (by omega) hN9, fun j => ?_⟩
          · by_cases e2 : j = ka
            · subst e2
              rw [va_up_self] at e1
              cases e1
              rw [va_up_self, va_up_self]
              exact ⟨by omega, hN9, hPg, hPy⟩
            · rw [va_up_ne _ _ e2] at e1
              rw [va_up_ne _ _ e2, va_up_ne _ _ e2]
              have h0 := hSH.2 j hj w1 L1 f1 e1
              have h1 := hSA.2.1 j hj (by rw [e1]; exact fun z => by cases z)
              exact ⟨h0.1, h0.2.1, h0.2.2.1.off ho1 (one_ne h1.2.2.2.2.1), h0.2.2.2.off ho1 (one_ne h1.2.2.2.2.2.1)⟩
          · by_cases e2 : j = ka
            · subst e2
              rw [va_up_self, va_up_self]
              exact Or.inr ⟨hg9s, by omega, by omega⟩
            · rw [va_up_ne _ _ e2, va_up_ne _ _ e2]
              exact Or.inl ⟨rfl, rfl⟩
      · refine lv_aload_n hx hb dX0_sheet_31 rfl (lv_at hl 0 rfl) ?_
        refine lv_bipush (v := (-2)) hx hb dX0_sheet_32 (by decide) ?_
        refine gc_V (rest := []) [.int (-2)] 1 S Wm_K2 hK2 hS (fun q h => Or.inl h) (KC2.gc (KC.k2 (k0_refused l D dA a hI σ (fun _ => True) kStb_T (-2)))) wl_X0_277 wd_X0_X0_refused rfl ⟨Nat.le_of_ble_eq_true rfl, Nat.le_of_ble_eq_true rfl⟩ (k_recv hK hP) hl.1 (Nat.le_of_ble_eq_true rfl) dX0_sheet_34 ⟨Nat.le_of_ble_eq_true rfl, Nat.le_of_ble_eq_true rfl⟩ ⟨hP, trivial⟩ (fun v9 H locs hp9 hz9 ho9 hS => ?_) rfl
        obtain ⟨σ9, ⟨rfl, rfl⟩, hP⟩ := hp9
        have hSH := hSH.kad hSA ho9
        refine W.eq (g2 := F0 m 37 ls [.int (-2)]) rfl ?_
        refine g_iret S hr hlk hS dX0_sheet_37 ⟨Nat.le_of_ble_eq_true rfl, Nat.le_of_ble_eq_true rfl⟩ ?_
        rw [show mSheet σr v u z = ((-2), σr.i 0 0) from by unfold mSheet; rw [if_neg c4n, if_neg c22n, if_pos c_28]]
        exact ⟨rfl, SP_no hP hSH hRS⟩
  · have c_4 : inR v 0 3 = false := by have := b2i_ne0.mp c_4; simpa using this
    refine lv_aload_n hx hb dX0_sheet_7 rfl (lv_at hl 0 rfl) ?_
    refine lv_iconst (v := (-1)) hx hb dX0_sheet_8 (by decide) ?_
    refine gc_V (rest := []) [.int (-1)] 1 S Wm_K2 hK2 hS (fun q h => Or.inl h) (KC2.gc (KC.k2 (k0_refused l D dA a hI σ (fun _ => True) kStb_T (-1)))) wl_X0_277 wd_X0_X0_refused rfl ⟨Nat.le_of_ble_eq_true rfl, Nat.le_of_ble_eq_true rfl⟩ (k_recv hK hP) hl.1 (Nat.le_of_ble_eq_true rfl) dX0_sheet_9 ⟨Nat.le_of_ble_eq_true rfl, Nat.le_of_ble_eq_true rfl⟩ ⟨hP, trivial⟩ (fun v9 H locs hp9 hz9 ho9 hS => ?_) rfl
    obtain ⟨σ9, ⟨rfl, rfl⟩, hP⟩ := hp9
    have hSH := hSH.kad hSA ho9
    refine W.eq (g2 := F0 m 12 ls [.int (-1)]) rfl ?_
    refine g_iret S hr hlk hS dX0_sheet_12 ⟨Nat.le_of_ble_eq_true rfl, Nat.le_of_ble_eq_true rfl⟩ ?_
    rw [show mSheet σr v u z = ((-1), σr.i 0 0) from by unfold mSheet; rw [if_pos c_4]]
    exact ⟨rfl, SP_no hP hSH hRS⟩
