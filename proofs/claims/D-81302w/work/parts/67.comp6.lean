/-! COMPONENT 6: may (by program: gen/comp6.py) -/
set_option maxRecDepth 100000
set_option maxHeartbeats 4000000 in
theorem r0_may (l : Launch) (D : va_G) (dA : Nat → ClassId) (a : Nat → Nat) (σ : MS) (n nc : Nat) (cp cq : Nat → Nat) (ed cap : Nat) (mc : Int32) (f : Nat → Option Nat) (rg : Nat → Nat) (net : Nat → Nat) (hG : KG σ n net) (hcq : ∀ j, j < nc → cp j < n ∧ cq j < n) (rv v : Int32) : RC2 l yX0_may cX0_may 5 (some .int) 4 84 D dA [.ref (a 0), .int rv, .int v] (fun H => va_P D vwCl (kW dA a σ) H ∧ DY D dA a n nc cp cq ed cap mc f rg H) (fun v9 => v9 = some (.int (spMay n net (stAt n cp cq nc) (fun r => tkN n r cp cq nc) rv v))) := by
  refine RC2.of (by decide) (Nat.le_of_ble_eq_true rfl) ?_
  intro p e s m below meth c ls S hr hlk hK2 hP9 hl
  have hx := S.1
  have hb := S.2.1
  have hl : lv_has ls 5 [(0, .ref (a 0)), (1, .int rv), (2, .int v)] := hl
  have hK := hK2.1
  have hP := hP9.1
  have hDY := hP9.2
  have hn := hG.1
  have h0 := hG.2.1
  have hnet := hG.2.2.2
  have hc4 : ∀ j, j < nc → cp j < 4 ∧ cq j < 4 := fun j hj => ⟨by have := (hcq j hj).1; omega, by have := (hcq j hj).2; omega⟩
  have hv : vld n (stAt n cp cq nc) := vld_stAt hn nc hcq
  have hs := hv.1
  have ht8 : (tk8 cp cq nc) < 256 := tk8_lt nc hc4
  refine lv_iload_n hx hb dX0_may_0 rfl (lv_at hl 1 rfl) ?_
  refine rc_Si (rest := []) [.int rv] 1 S hK (r0_noRule l D dA rv) wl_X0_157 wd_X0_X0_noRule rfl ⟨Nat.le_of_ble_eq_true rfl, Nat.le_of_ble_eq_true rfl⟩ hl.1 (Nat.le_of_ble_eq_true rfl) dX0_may_1 ⟨Nat.le_refl 0, Nat.le_refl 0⟩ (trivial) ?_ rfl
  refine lv_if_ne (tgt := 15) hx hb dX0_may_4 (by decide) (fun c_4 => ?_) (fun c_4 => ?_)
  · have c_4 := b2i_ne0.mp c_4
    have c_4 : inR rv 0 3 = false := by simpa using c_4
    refine lv_iconst (v := (-1)) hx hb dX0_may_15 (by decide) ?_
    exact r_iret S hr hlk dX0_may_16 (congrArg (fun z : Int32 => some (Value.int z)) (show (-1) = spMay n net (stAt n cp cq nc) (fun r => tkN n r cp cq nc) rv v from by simp [spMay, *]))
  · have c_4 := b2i_eq0.mp c_4
    have c_4 : inR rv 0 3 = true := by simpa using c_4
    refine lv_aload_n hx hb dX0_may_7 rfl (lv_at hl 0 rfl) ?_
    refine lv_iload_n hx hb dX0_may_8 rfl (lv_at hl 2 rfl) ?_
    refine rc_Vi (rest := []) [.int v] 1 S hK (r0_noPerson l D dA a σ n hn (h0) v) wl_X0_89 wd_X0_X0_noPerson rfl ⟨Nat.le_of_ble_eq_true rfl, Nat.le_of_ble_eq_true rfl⟩ (k_recv hK hP) hl.1 (Nat.le_of_ble_eq_true rfl) dX0_may_9 ⟨Nat.le_refl 0, Nat.le_refl 0⟩ (hP) ?_ rfl
    refine lv_if_eq (tgt := 17) hx hb dX0_may_12 (by decide) (fun c_12 => ?_) (fun c_12 => ?_)
    · have c_12 := b2i_eq0.mp c_12
      have c_12 : inP v n = true := by simpa using c_12
      obtain ⟨r, hr9, rfl⟩ := inR_some (k := 3) (by decide) c_4
      have hr4 : r < 4 := by omega
      obtain ⟨pa, hpa, rfl⟩ := inP_some (by omega) c_12
      have hpa4 : pa < 4 := by omega
      have htk := tk8_tok (r := r) hn nc hc4
      refine lv_iconst (v := 0) hx hb dX0_may_17 (by decide) ?_
      refine lv_istore_n (lv' := [(3, .int 0), (0, .ref (a 0)), (1, .int (nI r)), (2, .int (nI pa))]) hx hb dX0_may_18 rfl hl (by decide) rfl (fun ls hl => ?_)
      refine lv_iconst (v := 0) hx hb dX0_may_19 (by decide) ?_
      refine lv_istore (lv' := [(4, .int 0), (3, .int 0), (0, .ref (a 0)), (1, .int (nI r)), (2, .int (nI pa))]) hx hb dX0_may_20 hl (by decide) rfl (fun ls hl => ?_)
      have hloop22 : ∀ (k22 i22 : Nat), i22 + k22 = n → ∀ (ls : Array Slot), lv_has ls 5 [(4, .int (nI i22)), (3, .int (nI (mayS net r (stAt n cp cq nc) (tkN n r cp cq nc) pa i22))), (0, .ref (a 0)), (1, .int (nI r)), (2, .int (nI pa))] → W p l e ({ frames := 4, cells := 0, slots := 0, locals := 84 }) s m [.ref (a 0), .int (nI r), .int (nI pa)].toArray below meth c s.heap [] 0 0 (RZ below (fun v9 => v9 = some (.int (spMay n net (stAt n cp cq nc) (fun r => tkN n r cp cq nc) (nI r) (nI pa)))) [.ref (a 0), .int (nI r), .int (nI pa)] s) (F0 m 22 ls []) := by
        intro k22
        induction k22 with
        | zero =>
          intro i22 hi22 ls hl
          have hi22 : i22 = n := by omega
          refine lv_iload hx hb dX0_may_22 (lv_at hl 0 rfl) ?_
          refine lv_aload_n hx hb dX0_may_24 rfl (lv_at hl 2 rfl) ?_
          refine k_get (v := .int (σ.1 0)) S hK hP 0 (by decide) fl_X0_45 rfl dX0_may_25 rfl ?_
          refine topi (z := nI n) (h0) ?_
          refine lv_icmp_ge (tgt := 67) hx hb dX0_may_28 (by decide) (fun c_28 => ?_) (fun c_28 => absurd (show nI n ≤ nI i22 from nI_le (by omega) (by omega)) c_28)
          refine lv_iload_n hx hb dX0_may_67 rfl (lv_at hl 1 rfl) ?_
          exact r_iret S hr hlk dX0_may_68 (congrArg (fun z : Int32 => some (Value.int z)) (show nI (mayS net r (stAt n cp cq nc) (tkN n r cp cq nc) pa i22) = spMay n net (stAt n cp cq nc) (fun r => tkN n r cp cq nc) (nI r) (nI pa) from by rw [hi22]; simp [spMay, show inR (nI r) 0 3 = true from inR_nI (k := 3) (show r ≤ 3 by omega) (by decide), inR_nI (k := 3) (show r ≤ 3 by omega) (by decide), inP_nI hpa (Nat.lt_trans hn (by decide)), nI_clamp (show r < 2 ^ 31 by omega), nI_clamp (show pa < 2 ^ 31 by omega)]))
        | succ k22 ih22 =>
          intro i22 hi22 ls hl
          have hlt22 : i22 < n := by omega
          refine lv_iload hx hb dX0_may_22 (lv_at hl 0 rfl) ?_
          refine lv_aload_n hx hb dX0_may_24 rfl (lv_at hl 2 rfl) ?_
          refine k_get (v := .int (σ.1 0)) S hK hP 0 (by decide) fl_X0_45 rfl dX0_may_25 rfl ?_
          refine topi (z := nI n) (h0) ?_
          refine lv_icmp_ge (tgt := 67) hx hb dX0_may_28 (by decide) (fun c_28 => absurd c_28 (show ¬ nI n ≤ nI i22 from nI_ge (by omega) (by omega))) (fun c_28 => ?_)
          refine lv_iload_n hx hb dX0_may_31 rfl (lv_at hl 1 rfl) ?_
          refine lv_aload_n hx hb dX0_may_32 rfl (lv_at hl 2 rfl) ?_
          refine lv_iload_n hx hb dX0_may_33 rfl (lv_at hl 3 rfl) ?_
          refine lv_aload_n hx hb dX0_may_34 rfl (lv_at hl 2 rfl) ?_
          refine rc2_V (rest := [.int (nI r), .ref (a 0), .int (nI (mayS net r (stAt n cp cq nc) (tkN n r cp cq nc) pa i22))]) [] 0 S hK2 (r0_secretsNow l D dA a σ n nc cp cq ed cap mc f rg hn h0) wl_X0_93 wd_X0_X0_secretsNow rfl ⟨Nat.le_of_ble_eq_true rfl, Nat.le_of_ble_eq_true rfl⟩ (k_recv hK hP) hl.1 (Nat.le_of_ble_eq_true rfl) dX0_may_35 ⟨Nat.le_refl 0, Nat.le_refl 0⟩ ⟨hP, hDY⟩ (fun v9 hv9 => ?_) rfl
          subst hv9
          refine W.eq (g2 := F0 m 38 ls [.int (nI (stAt n cp cq nc)), .int (nI r), .ref (a 0), .int (nI (mayS net r (stAt n cp cq nc) (tkN n r cp cq nc) pa i22))]) rfl ?_
          refine lv_aload_n hx hb dX0_may_38 rfl (lv_at hl 2 rfl) ?_
          refine rc2_V (rest := [.int (nI (stAt n cp cq nc)), .int (nI r), .ref (a 0), .int (nI (mayS net r (stAt n cp cq nc) (tkN n r cp cq nc) pa i22))]) [] 0 S hK2 (r0_tokensNow l D dA a σ n nc cp cq ed cap mc f rg hn h0) wl_X0_99 wd_X0_X0_tokensNow rfl ⟨Nat.le_of_ble_eq_true rfl, Nat.le_of_ble_eq_true rfl⟩ (k_recv hK hP) hl.1 (Nat.le_of_ble_eq_true rfl) dX0_may_39 ⟨Nat.le_refl 0, Nat.le_refl 0⟩ ⟨hP, hDY⟩ (fun v9 hv9 => ?_) rfl
          subst hv9
          refine W.eq (g2 := F0 m 42 ls [.int (nI (tk8 cp cq nc)), .int (nI (stAt n cp cq nc)), .int (nI r), .ref (a 0), .int (nI (mayS net r (stAt n cp cq nc) (tkN n r cp cq nc) pa i22))]) rfl ?_
          refine lv_iload_n hx hb dX0_may_42 rfl (lv_at hl 4 rfl) ?_
          refine lv_iload hx hb dX0_may_43 (lv_at hl 0 rfl) ?_
          refine rc_Vi (rest := [.int (nI (mayS net r (stAt n cp cq nc) (tkN n r cp cq nc) pa i22))]) [.int (nI r), .int (nI (stAt n cp cq nc)), .int (nI (tk8 cp cq nc)), .int (nI pa), .int (nI i22)] 5 S hK (r0_mayRing l D dA a σ n net hG r (stAt n cp cq nc) (tk8 cp cq nc) pa i22 (by omega) hv (ht8) (by first | assumption | omega | decide) (by first | assumption | omega | decide)) wl_X0_160 wd_X0_X0_mayRing rfl ⟨Nat.le_of_ble_eq_true rfl, Nat.le_of_ble_eq_true rfl⟩ (k_recv hK hP) hl.1 (Nat.le_of_ble_eq_true rfl) dX0_may_45 ⟨Nat.le_refl 0, Nat.le_refl 0⟩ (hP) ?_ rfl
          refine lv_if_eq (tgt := 58) hx hb dX0_may_48 (by decide) (fun c_48 => ?_) (fun c_48 => ?_)
          · have c_48 := b2i_eq0.mp c_48
            rw [mayB_tok htk hpa] at c_48
            refine lv_iconst (v := 0) hx hb dX0_may_58 (by decide) ?_
            refine lv_ior hx hb dX0_may_59 ?_
            refine lv_istore_n (lv' := [(3, .int ((nI (mayS net r (stAt n cp cq nc) (tkN n r cp cq nc) pa i22)) ||| 0)), (4, .int (nI i22)), (0, .ref (a 0)), (1, .int (nI r)), (2, .int (nI pa))]) hx hb dX0_may_60 rfl hl (by decide) rfl (fun ls hl => ?_)
            refine lv_iinc (v := nI (i22 + 1)) (lv' := [(4, .int (nI (i22 + 1))), (3, .int ((nI (mayS net r (stAt n cp cq nc) (tkN n r cp cq nc) pa i22)) ||| 0)), (0, .ref (a 0)), (1, .int (nI r)), (2, .int (nI pa))]) hx hb dX0_may_61 hl (k := 1) rfl (nI_1 _) (by decide) rfl (fun ls hl => ?_)
            refine lv_goto (tgt := 22) hx hb dX0_may_64 (by decide) ?_
            have e22_3 : nI (mayS net r (stAt n cp cq nc) (tkN n r cp cq nc) pa (i22 + 1)) = (nI (mayS net r (stAt n cp cq nc) (tkN n r cp cq nc) pa i22)) ||| 0 := by rw [mayS, c_48]; exact (nI_or _ _).symm
            exact ih22 (i22 + 1) (by omega) ls (by rw [e22_3]; exact lv_sub hl [0, 1, 2, 3, 4] rfl)
          · have c_48 := b2i_ne0.mp c_48
            rw [mayB_tok htk hpa] at c_48
            refine lv_iconst (v := 1) hx hb dX0_may_51 (by decide) ?_
            refine lv_iload hx hb dX0_may_52 (lv_at hl 0 rfl) ?_
            refine lv_ishl hx hb dX0_may_54 ?_
            refine lv_goto (tgt := 59) hx hb dX0_may_55 (by decide) ?_
            refine topi (z := nI (2 ^ i22)) (shl1 _ (by omega)) ?_
            refine lv_ior hx hb dX0_may_59 ?_
            refine lv_istore_n (lv' := [(3, .int ((nI (mayS net r (stAt n cp cq nc) (tkN n r cp cq nc) pa i22)) ||| (nI (2 ^ i22)))), (4, .int (nI i22)), (0, .ref (a 0)), (1, .int (nI r)), (2, .int (nI pa))]) hx hb dX0_may_60 rfl hl (by decide) rfl (fun ls hl => ?_)
            refine lv_iinc (v := nI (i22 + 1)) (lv' := [(4, .int (nI (i22 + 1))), (3, .int ((nI (mayS net r (stAt n cp cq nc) (tkN n r cp cq nc) pa i22)) ||| (nI (2 ^ i22)))), (0, .ref (a 0)), (1, .int (nI r)), (2, .int (nI pa))]) hx hb dX0_may_61 hl (k := 1) rfl (nI_1 _) (by decide) rfl (fun ls hl => ?_)
            refine lv_goto (tgt := 22) hx hb dX0_may_64 (by decide) ?_
            have e22_3 : nI (mayS net r (stAt n cp cq nc) (tkN n r cp cq nc) pa (i22 + 1)) = (nI (mayS net r (stAt n cp cq nc) (tkN n r cp cq nc) pa i22)) ||| (nI (2 ^ i22)) := by rw [mayS, c_48]; exact (nI_or _ _).symm
            exact ih22 (i22 + 1) (by omega) ls (by rw [e22_3]; exact lv_sub hl [0, 1, 2, 3, 4] rfl)
      exact hloop22 (n) 0 (by omega) ls (lv_sub hl [0, 1, 2, 3, 4] rfl)
    · have c_12 := b2i_ne0.mp c_12
      have c_12 : inP v n = false := by simpa using c_12
      refine lv_iconst (v := (-1)) hx hb dX0_may_15 (by decide) ?_
      exact r_iret S hr hlk dX0_may_16 (congrArg (fun z : Int32 => some (Value.int z)) (show (-1) = spMay n net (stAt n cp cq nc) (fun r => tkN n r cp cq nc) rv v from by simp [spMay, *]))
