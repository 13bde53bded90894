/-! COMPONENT 17: sun, many, verdictFirst, layNet (by program: gen/comp17.py) -/
set_option maxRecDepth 100000
set_option maxHeartbeats 4000000 in
theorem r0_sun (l : Launch) (D : va_G) (dA : Nat → ClassId) (a : Nat → Nat) (σ : MS) (n : Nat) (net : Nat → Nat) (hG : KG σ n net) (hNV : NV n net) : RC l yX0_sun cX0_sun 4 (some .int) 2 48 D dA [.ref (a 0)] (fun H => va_P D vwCl (kW dA a σ) H) (fun v9 => v9 = some (.int (spSun n net))) := by
  refine RC.of (by decide) (Nat.le_of_ble_eq_true rfl) ?_
  intro p e s m below meth c ls S hr hlk hK hP hl
  have hx := S.1
  have hb := S.2.1
  have hl : lv_has ls 4 [(0, .ref (a 0))] := hl
  have hP : va_P D vwCl (kW dA a σ) s.heap := hP
  have hn := hG.1
  have hnet := hG.2.2.2
  have htd : ∀ q, q < 4 → tdN net q < 16 := fun q hq => Nat.or_lt_two_pow (n := 4) (hnet q hq) (pw16 hq)
  refine lv_aload_n hx hb dX0_sun_0 rfl (lv_at hl 0 rfl) ?_
  refine k_get (v := .int (σ.1 0)) S hK hP 0 (by decide) fl_X0_45 rfl dX0_sun_1 rfl ?_
  refine topi (z := nI n) (hG.2.1) ?_
  refine lv_if_ne (tgt := 10) hx hb dX0_sun_4 (by decide) (fun c_4 => ?_) (fun c_4 => ?_)
  · have c_4 : ¬ n = 0 := fun h => c_4 (congrArg nI h)
    refine lv_iconst (v := 1) hx hb dX0_sun_10 (by decide) ?_
    refine lv_istore_n (lv' := [(1, .int 1), (0, .ref (a 0))]) hx hb dX0_sun_11 rfl hl (by decide) rfl (fun ls hl => ?_)
    refine lv_iconst (v := 0) hx hb dX0_sun_12 (by decide) ?_
    refine lv_istore_n (lv' := [(2, .int 0), (1, .int 1), (0, .ref (a 0))]) hx hb dX0_sun_13 rfl hl (by decide) rfl (fun ls hl => ?_)
    have hloop14 : ∀ (k14 i14 : Nat), i14 + k14 = n → ∀ (ls : Array Slot), lv_has ls 4 [(2, .int (nI i14)), (1, .int (b2i (snP net n i14))), (0, .ref (a 0))] → W p l e ({ frames := 2, cells := 0, slots := 0, locals := 48 }) s m [.ref (a 0)].toArray below meth c s.heap [] 0 0 (RZ below (fun v9 => v9 = some (.int (spSun n net))) [.ref (a 0)] s) (F0 m 14 ls []) := by
      intro k14
      induction k14 with
      | zero =>
        intro i14 hi14 ls hl
        have hi14 : i14 = n := by omega
        refine lv_iload_n hx hb dX0_sun_14 rfl (lv_at hl 0 rfl) ?_
        refine lv_aload_n hx hb dX0_sun_15 rfl (lv_at hl 2 rfl) ?_
        refine k_get (v := .int (σ.1 0)) S hK hP 0 (by decide) fl_X0_45 rfl dX0_sun_16 rfl ?_
        refine topi (z := nI n) (hG.2.1) ?_
        refine lv_icmp_ge (tgt := 77) hx hb dX0_sun_19 (by decide) (fun c_19 => ?_) (fun c_19 => absurd (show nI n ≤ nI i14 from nI_le (by omega) (by omega)) c_19)
        refine lv_iload_n hx hb dX0_sun_77 rfl (lv_at hl 1 rfl) ?_
        refine lv_if_eq (tgt := 85) hx hb dX0_sun_78 (by decide) (fun c_78 => ?_) (fun c_78 => ?_)
        · have c_78 := b2i_eq0.mp c_78
          refine lv_iconst (v := 0) hx hb dX0_sun_85 (by decide) ?_
          exact r_iret S hr hlk dX0_sun_86 (congrArg (fun z : Int32 => some (Value.int z)) (show 0 = spSun n net from by rw [hi14, snP_n, ← sun_eq hn hNV] at c_78; simp [spSun, c_4, c_78, b2i]))
        · have c_78 := b2i_ne0.mp c_78
          refine lv_iconst (v := 1) hx hb dX0_sun_81 (by decide) ?_
          refine lv_goto (tgt := 86) hx hb dX0_sun_82 (by decide) ?_
          exact r_iret S hr hlk dX0_sun_86 (congrArg (fun z : Int32 => some (Value.int z)) (show 1 = spSun n net from by rw [hi14, snP_n, ← sun_eq hn hNV] at c_78; simp [spSun, c_4, c_78, b2i]))
      | succ k14 ih14 =>
        intro i14 hi14 ls hl
        have hlt14 : i14 < n := by omega
        refine lv_iload_n hx hb dX0_sun_14 rfl (lv_at hl 0 rfl) ?_
        refine lv_aload_n hx hb dX0_sun_15 rfl (lv_at hl 2 rfl) ?_
        refine k_get (v := .int (σ.1 0)) S hK hP 0 (by decide) fl_X0_45 rfl dX0_sun_16 rfl ?_
        refine topi (z := nI n) (hG.2.1) ?_
        refine lv_icmp_ge (tgt := 77) hx hb dX0_sun_19 (by decide) (fun c_19 => absurd c_19 (show ¬ nI n ≤ nI i14 from nI_ge (by omega) (by omega))) (fun c_19 => ?_)
        refine lv_iconst (v := 0) hx hb dX0_sun_22 (by decide) ?_
        refine lv_istore_n (lv' := [(3, .int 0), (2, .int (nI i14)), (1, .int (b2i (snP net n i14))), (0, .ref (a 0))]) hx hb dX0_sun_23 rfl hl (by decide) rfl (fun ls hl => ?_)
        have hloop24 : ∀ (k24 i24 : Nat), i24 + k24 = n → ∀ (ls : Array Slot), lv_has ls 4 [(3, .int (nI i24)), (2, .int (nI i14)), (1, .int (b2i (snQ net n i14 (snP net n i14) i24))), (0, .ref (a 0))] → W p l e ({ frames := 2, cells := 0, slots := 0, locals := 48 }) s m [.ref (a 0)].toArray below meth c s.heap [] 0 0 (RZ below (fun v9 => v9 = some (.int (spSun n net))) [.ref (a 0)] s) (F0 m 24 ls []) := by
          intro k24
          induction k24 with
          | zero =>
            intro i24 hi24 ls hl
            have hi24 : i24 = n := by omega
            refine lv_iload_n hx hb dX0_sun_24 rfl (lv_at hl 0 rfl) ?_
            refine lv_aload_n hx hb dX0_sun_25 rfl (lv_at hl 3 rfl) ?_
            refine k_get (v := .int (σ.1 0)) S hK hP 0 (by decide) fl_X0_45 rfl dX0_sun_26 rfl ?_
            refine topi (z := nI n) (hG.2.1) ?_
            refine lv_icmp_ge (tgt := 71) hx hb dX0_sun_29 (by decide) (fun c_29 => ?_) (fun c_29 => absurd (show nI n ≤ nI i24 from nI_le (by omega) (by omega)) c_29)
            refine lv_iinc (v := nI (i14 + 1)) (lv' := [(2, .int (nI (i14 + 1))), (3, .int (nI i24)), (1, .int (b2i (snQ net n i14 (snP net n i14) i24))), (0, .ref (a 0))]) hx hb dX0_sun_71 hl (k := 1) rfl (nI_1 _) (by decide) rfl (fun ls hl => ?_)
            refine lv_goto (tgt := 14) hx hb dX0_sun_74 (by decide) ?_
            have e14_1 : b2i (snP net n (i14 + 1)) = b2i (snQ net n i14 (snP net n i14) i24) := by rw [hi24]; rfl
            exact ih14 (i14 + 1) (by omega) ls (by rw [e14_1]; exact lv_sub hl [0, 2, 3] rfl)
          | succ k24 ih24 =>
            intro i24 hi24 ls hl
            have hlt24 : i24 < n := by omega
            refine lv_iload_n hx hb dX0_sun_24 rfl (lv_at hl 0 rfl) ?_
            refine lv_aload_n hx hb dX0_sun_25 rfl (lv_at hl 3 rfl) ?_
            refine k_get (v := .int (σ.1 0)) S hK hP 0 (by decide) fl_X0_45 rfl dX0_sun_26 rfl ?_
            refine topi (z := nI n) (hG.2.1) ?_
            refine lv_icmp_ge (tgt := 71) hx hb dX0_sun_29 (by decide) (fun c_29 => absurd c_29 (show ¬ nI n ≤ nI i24 from nI_ge (by omega) (by omega))) (fun c_29 => ?_)
            refine lv_iload_n hx hb dX0_sun_32 rfl (lv_at hl 2 rfl) ?_
            refine lv_aload_n hx hb dX0_sun_33 rfl (lv_at hl 3 rfl) ?_
            refine k_get (v := .ref (a 1)) S hK hP 1 (by decide) fl_X0_11 rfl dX0_sun_34 rfl ?_
            refine lv_iload_n hx hb dX0_sun_37 rfl (lv_at hl 0 rfl) ?_
            refine k_aldn (j := i24) (v := nI (tdN net i24)) S hK hP 1 (by decide) rfl (show i24 < 4 by omega) dX0_sun_38 (hG.2.2.1 i24 (by omega)) ?_
            refine lv_iconst (v := 1) hx hb dX0_sun_39 (by decide) ?_
            refine lv_iload_n hx hb dX0_sun_40 rfl (lv_at hl 0 rfl) ?_
            refine lv_ishl hx hb dX0_sun_41 ?_
            refine topi (z := nI (2 ^ i24)) (shl1 _ (by omega)) ?_
            refine lv_icmp_eq (tgt := 58) hx hb dX0_sun_42 (by decide) (fun c_42 => ?_) (fun c_42 => ?_)
            · have c_42 : net i24 = 0 := (td_0 (hNV i24 hlt24).2).mp (nI_inj (by have := htd i24 (by omega); omega) (by have := pw16 (p := i24) (by omega); omega) c_42)
              refine lv_iconst (v := 1) hx hb dX0_sun_58 (by decide) ?_
              refine lv_goto (tgt := 63) hx hb dX0_sun_59 (by decide) ?_
              refine lv_iand hx hb dX0_sun_63 ?_
              refine lv_istore_n (lv' := [(1, .int ((b2i (snQ net n i14 (snP net n i14) i24)) &&& 1)), (3, .int (nI i24)), (2, .int (nI i14)), (0, .ref (a 0))]) hx hb dX0_sun_64 rfl hl (by decide) rfl (fun ls hl => ?_)
              refine lv_iinc (v := nI (i24 + 1)) (lv' := [(3, .int (nI (i24 + 1))), (1, .int ((b2i (snQ net n i14 (snP net n i14) i24)) &&& 1)), (2, .int (nI i14)), (0, .ref (a 0))]) hx hb dX0_sun_65 hl (k := 1) rfl (nI_1 _) (by decide) rfl (fun ls hl => ?_)
              refine lv_goto (tgt := 24) hx hb dX0_sun_68 (by decide) ?_
              have e24_1 : b2i (snQ net n i14 (snP net n i14) (i24 + 1)) = (b2i (snQ net n i14 (snP net n i14) i24)) &&& 1 := by first | (simp [snQ, c_42, c_55, b2i_1]; done) | (simp [snQ, c_42, b2i_1]; done) | (simp [snQ, c_42, c_55, b2i]; done)
              exact ih24 (i24 + 1) (by omega) ls (by rw [e24_1]; exact lv_sub hl [0, 2, 1, 3] rfl)
            · have c_42 : ¬ net i24 = 0 := fun h9 => c_42 (congrArg nI ((td_0 (hNV i24 hlt24).2).mpr h9))
              have h16a : ctI net false n i14 n < 16 := ctI_lt hn (by omega) n
              refine lv_aload_n hx hb dX0_sun_45 rfl (lv_at hl 3 rfl) ?_
              refine lv_iload_n hx hb dX0_sun_46 rfl (lv_at hl 1 rfl) ?_
              refine lv_iconst (v := 0) hx hb dX0_sun_47 (by decide) ?_
              refine rc_Vi (rest := [.int (b2i (snQ net n i14 (snP net n i14) i24))]) [.int (nI i14), .int 0] 2 S hK (r0_cameTo l D dA a σ n net hG i14 false (by first | assumption | omega | decide)) wl_X0_224 wd_X0_X0_cameTo rfl ⟨Nat.le_of_ble_eq_true rfl, Nat.le_of_ble_eq_true rfl⟩ (k_recv hK hP) hl.1 (Nat.le_of_ble_eq_true rfl) dX0_sun_48 ⟨Nat.le_refl 0, Nat.le_refl 0⟩ (hP) ?_ rfl
              refine lv_iload_n hx hb dX0_sun_51 rfl (lv_at hl 0 rfl) ?_
              refine rc_Si (rest := [.int (b2i (snQ net n i14 (snP net n i14) i24))]) [.int (nI (ctI net false n i14 n)), .int (nI i24)] 2 S hK (r0_isIn l D dA (ctI net false n i14 n) i24 (by first | assumption | omega | decide) (by first | assumption | omega | decide)) wl_X0_57 wd_X0_X0_isIn rfl ⟨Nat.le_of_ble_eq_true rfl, Nat.le_of_ble_eq_true rfl⟩ hl.1 (Nat.le_of_ble_eq_true rfl) dX0_sun_52 ⟨Nat.le_refl 0, Nat.le_refl 0⟩ (trivial) ?_ rfl
              refine lv_if_eq (tgt := 62) hx hb dX0_sun_55 (by decide) (fun c_55 => ?_) (fun c_55 => ?_)
              · have c_55 := b2i_eq0.mp c_55
                refine lv_iconst (v := 0) hx hb dX0_sun_62 (by decide) ?_
                refine lv_iand hx hb dX0_sun_63 ?_
                refine lv_istore_n (lv' := [(1, .int ((b2i (snQ net n i14 (snP net n i14) i24)) &&& 0)), (3, .int (nI i24)), (2, .int (nI i14)), (0, .ref (a 0))]) hx hb dX0_sun_64 rfl hl (by decide) rfl (fun ls hl => ?_)
                refine lv_iinc (v := nI (i24 + 1)) (lv' := [(3, .int (nI (i24 + 1))), (1, .int ((b2i (snQ net n i14 (snP net n i14) i24)) &&& 0)), (2, .int (nI i14)), (0, .ref (a 0))]) hx hb dX0_sun_65 hl (k := 1) rfl (nI_1 _) (by decide) rfl (fun ls hl => ?_)
                refine lv_goto (tgt := 24) hx hb dX0_sun_68 (by decide) ?_
                have e24_1 : b2i (snQ net n i14 (snP net n i14) (i24 + 1)) = (b2i (snQ net n i14 (snP net n i14) i24)) &&& 0 := by first | (simp [snQ, c_42, c_55, b2i_1]; done) | (simp [snQ, c_42, b2i_1]; done) | (simp [snQ, c_42, c_55, b2i]; done)
                exact ih24 (i24 + 1) (by omega) ls (by rw [e24_1]; exact lv_sub hl [0, 2, 1, 3] rfl)
              · have c_55 := b2i_ne0.mp c_55
                refine lv_iconst (v := 1) hx hb dX0_sun_58 (by decide) ?_
                refine lv_goto (tgt := 63) hx hb dX0_sun_59 (by decide) ?_
                refine lv_iand hx hb dX0_sun_63 ?_
                refine lv_istore_n (lv' := [(1, .int ((b2i (snQ net n i14 (snP net n i14) i24)) &&& 1)), (3, .int (nI i24)), (2, .int (nI i14)), (0, .ref (a 0))]) hx hb dX0_sun_64 rfl hl (by decide) rfl (fun ls hl => ?_)
                refine lv_iinc (v := nI (i24 + 1)) (lv' := [(3, .int (nI (i24 + 1))), (1, .int ((b2i (snQ net n i14 (snP net n i14) i24)) &&& 1)), (2, .int (nI i14)), (0, .ref (a 0))]) hx hb dX0_sun_65 hl (k := 1) rfl (nI_1 _) (by decide) rfl (fun ls hl => ?_)
                refine lv_goto (tgt := 24) hx hb dX0_sun_68 (by decide) ?_
                have e24_1 : b2i (snQ net n i14 (snP net n i14) (i24 + 1)) = (b2i (snQ net n i14 (snP net n i14) i24)) &&& 1 := by first | (simp [snQ, c_42, c_55, b2i_1]; done) | (simp [snQ, c_42, b2i_1]; done) | (simp [snQ, c_42, c_55, b2i]; done)
                exact ih24 (i24 + 1) (by omega) ls (by rw [e24_1]; exact lv_sub hl [0, 2, 1, 3] rfl)
        exact hloop24 (n) 0 (by omega) ls (lv_sub hl [0, 1, 2, 3] rfl)
    exact hloop14 (n) 0 (by omega) ls (lv_sub hl [0, 1, 2] rfl)
  · have c_4 : n = 0 := nI_inj (by omega) (by decide) c_4
    refine lv_bipush (v := (-3)) hx hb dX0_sun_7 (by decide) ?_
    exact r_iret S hr hlk dX0_sun_9 (congrArg (fun z : Int32 => some (Value.int z)) (show (-3) = spSun n net from by simp [spSun, *]))
set_option maxHeartbeats 4000000 in
theorem rj_bitCount (l : Launch) (D : va_G) (dA : Nat → ClassId) (x : Nat) (hx9 : x < 16) : RC l yJ18_bitCount cJ18_bitCount 1 (some .int) 0 0 D dA [.int (nI x)] (fun _ => True) (fun v9 => v9 = some (.int (nI (bts x 16)))) := by
  refine RC.of (by decide) (Nat.le_of_ble_eq_true rfl) ?_
  intro p e s m below meth c ls S hr hlk hK hP hl
  have hx := S.1
  have hb := S.2.1
  have hl : lv_has ls 1 [(0, .int (nI x))] := hl
  refine lv_iload_n hx hb dJ18_bitCount_0 rfl (lv_at hl 0 rfl) ?_
  refine lv_iload_n hx hb dJ18_bitCount_1 rfl (lv_at hl 0 rfl) ?_
  refine lv_iconst (v := 1) hx hb dJ18_bitCount_2 (by decide) ?_
  refine lv_iushr (v := us (nI x) 1) hx hb dJ18_bitCount_3 rfl ?_
  refine lv_ldcw (v := 1431655765) hx hb S.2.2.2.1 (S.2.2.2.2 _ q1070) dJ18_bitCount_4 ?_
  refine lv_iand hx hb dJ18_bitCount_7 ?_
  refine lv_isub hx hb dJ18_bitCount_8 ?_
  refine topi (z := bc1 (nI x)) (rfl) ?_
  refine lv_istore_n (lv' := [(0, .int (bc1 (nI x)))]) hx hb dJ18_bitCount_9 rfl hl (by decide) rfl (fun ls hl => ?_)
  refine lv_iload_n hx hb dJ18_bitCount_10 rfl (lv_at hl 0 rfl) ?_
  refine lv_ldcw (v := 858993459) hx hb S.2.2.2.1 (S.2.2.2.2 _ q1071) dJ18_bitCount_11 ?_
  refine lv_iand hx hb dJ18_bitCount_14 ?_
  refine lv_iload_n hx hb dJ18_bitCount_15 rfl (lv_at hl 0 rfl) ?_
  refine lv_iconst (v := 2) hx hb dJ18_bitCount_16 (by decide) ?_
  refine lv_iushr (v := us (bc1 (nI x)) 2) hx hb dJ18_bitCount_17 rfl ?_
  refine lv_ldcw (v := 858993459) hx hb S.2.2.2.1 (S.2.2.2.2 _ q1071) dJ18_bitCount_18 ?_
  refine lv_iand hx hb dJ18_bitCount_21 ?_
  refine lv_iadd hx hb dJ18_bitCount_22 ?_
  refine topi (z := bc2 (nI x)) (rfl) ?_
  refine lv_istore_n (lv' := [(0, .int (bc2 (nI x)))]) hx hb dJ18_bitCount_23 rfl hl (by decide) rfl (fun ls hl => ?_)
  refine lv_iload_n hx hb dJ18_bitCount_24 rfl (lv_at hl 0 rfl) ?_
  refine lv_iload_n hx hb dJ18_bitCount_25 rfl (lv_at hl 0 rfl) ?_
  refine lv_iconst (v := 4) hx hb dJ18_bitCount_26 (by decide) ?_
  refine lv_iushr (v := us (bc2 (nI x)) 4) hx hb dJ18_bitCount_27 rfl ?_
  refine lv_iadd hx hb dJ18_bitCount_28 ?_
  refine lv_ldcw (v := 252645135) hx hb S.2.2.2.1 (S.2.2.2.2 _ q1072) dJ18_bitCount_29 ?_
  refine lv_iand hx hb dJ18_bitCount_32 ?_
  refine topi (z := bc3 (nI x)) (rfl) ?_
  refine lv_istore_n (lv' := [(0, .int (bc3 (nI x)))]) hx hb dJ18_bitCount_33 rfl hl (by decide) rfl (fun ls hl => ?_)
  refine lv_iload_n hx hb dJ18_bitCount_34 rfl (lv_at hl 0 rfl) ?_
  refine lv_iload_n hx hb dJ18_bitCount_35 rfl (lv_at hl 0 rfl) ?_
  refine lv_bipush (v := 8) hx hb dJ18_bitCount_36 (by decide) ?_
  refine lv_iushr (v := us (bc3 (nI x)) 8) hx hb dJ18_bitCount_38 rfl ?_
  refine lv_iadd hx hb dJ18_bitCount_39 ?_
  refine topi (z := bc4 (nI x)) (rfl) ?_
  refine lv_istore_n (lv' := [(0, .int (bc4 (nI x)))]) hx hb dJ18_bitCount_40 rfl hl (by decide) rfl (fun ls hl => ?_)
  refine lv_iload_n hx hb dJ18_bitCount_41 rfl (lv_at hl 0 rfl) ?_
  refine lv_iload_n hx hb dJ18_bitCount_42 rfl (lv_at hl 0 rfl) ?_
  refine lv_bipush (v := 16) hx hb dJ18_bitCount_43 (by decide) ?_
  refine lv_iushr (v := us (bc4 (nI x)) 16) hx hb dJ18_bitCount_45 rfl ?_
  refine lv_iadd hx hb dJ18_bitCount_46 ?_
  refine topi (z := bc5 (nI x)) (rfl) ?_
  refine lv_istore_n (lv' := [(0, .int (bc5 (nI x)))]) hx hb dJ18_bitCount_47 rfl hl (by decide) rfl (fun ls hl => ?_)
  refine lv_iload_n hx hb dJ18_bitCount_48 rfl (lv_at hl 0 rfl) ?_
  refine lv_bipush (v := 63) hx hb dJ18_bitCount_49 (by decide) ?_
  refine lv_iand hx hb dJ18_bitCount_51 ?_
  exact r_iret S hr hlk dJ18_bitCount_52 (congrArg (fun z : Int32 => some (Value.int z)) (show (bc5 (nI x)) &&& 63 = nI (bts x 16) from bc_eq x hx9))
set_option maxHeartbeats 4000000 in
theorem r0_many (l : Launch) (D : va_G) (dA : Nat → ClassId) (a : Nat → Nat) (σ : MS) (n nc : Nat) (cp cq : Nat → Nat) (ed cap : Nat) (mc : Int32) (f : Nat → Option Nat) (rg : Nat → Nat) (net : Nat → Nat) (hG : KG σ n net) (hcq : ∀ j, j < nc → cp j < n ∧ cq j < n) (hNV : NV n net) (wv : Int32) : RC2 l yX0_many cX0_many 5 (some .int) 4 84 D dA [.ref (a 0), .int wv] (fun H => va_P D vwCl (kW dA a σ) H ∧ DY D dA a n nc cp cq ed cap mc f rg H) (fun v9 => v9 = some (.int (spMany n net nc (stAt n cp cq nc) wv))) := by
  refine RC2.of (by decide) (Nat.le_of_ble_eq_true rfl) ?_
  intro p e s m below meth c ls S hr hlk hK2 hP9 hl
  have hx := S.1
  have hb := S.2.1
  have hl : lv_has ls 5 [(0, .ref (a 0)), (1, .int wv)] := hl
  have hK := hK2.1
  have hP := hP9.1
  have hDY := hP9.2
  have hn := hG.1
  have h0 := hG.2.1
  have hnet := hG.2.2.2
  have hc4 : ∀ j, j < nc → cp j < 4 ∧ cq j < 4 := fun j hj => ⟨by have := (hcq j hj).1; omega, by have := (hcq j hj).2; omega⟩
  have hv : vld n (stAt n cp cq nc) := vld_stAt hn nc hcq
  have hs := hv.1
  have ht8 : (tk8 cp cq nc) < 256 := tk8_lt nc hc4
  have htd : ∀ q, q < 4 → tdN net q < 16 := fun q hq => Nat.or_lt_two_pow (n := 4) (hnet q hq) (pw16 hq)
  refine lv_iconst (v := 0) hx hb dX0_many_0 (by decide) ?_
  refine lv_istore_n (lv' := [(2, .int 0), (0, .ref (a 0)), (1, .int wv)]) hx hb dX0_many_1 rfl hl (by decide) rfl (fun ls hl => ?_)
  refine lv_iconst (v := 0) hx hb dX0_many_2 (by decide) ?_
  refine lv_istore_n (lv' := [(3, .int 0), (2, .int 0), (0, .ref (a 0)), (1, .int wv)]) hx hb dX0_many_3 rfl hl (by decide) rfl (fun ls hl => ?_)
  refine lv_iconst (v := 0) hx hb dX0_many_4 (by decide) ?_
  refine lv_istore (lv' := [(4, .int 0), (3, .int 0), (2, .int 0), (0, .ref (a 0)), (1, .int wv)]) hx hb dX0_many_5 hl (by decide) rfl (fun ls hl => ?_)
  have hloop7 : ∀ (k7 i7 : Nat), i7 + k7 = n → ∀ (ls : Array Slot), lv_has ls 5 [(4, .int (nI i7)), (3, .int (nI (numN net i7))), (2, .int (nI (expN n (stAt n cp cq nc) i7))), (0, .ref (a 0)), (1, .int wv)] → W p l e ({ frames := 4, cells := 0, slots := 0, locals := 84 }) s m [.ref (a 0), .int wv].toArray below meth c s.heap [] 0 0 (RZ below (fun v9 => v9 = some (.int (spMany n net nc (stAt n cp cq nc) wv))) [.ref (a 0), .int wv] s) (F0 m 7 ls []) := by
    intro k7
    induction k7 with
    | zero =>
      intro i7 hi7 ls hl
      have hi7 : i7 = n := by omega
      refine lv_iload hx hb dX0_many_7 (lv_at hl 0 rfl) ?_
      refine lv_aload_n hx hb dX0_many_9 rfl (lv_at hl 3 rfl) ?_
      refine k_get (v := .int (σ.1 0)) S hK hP 0 (by decide) fl_X0_45 rfl dX0_many_10 rfl ?_
      refine topi (z := nI n) (h0) ?_
      refine lv_icmp_ge (tgt := 61) hx hb dX0_many_13 (by decide) (fun c_13 => ?_) (fun c_13 => absurd (show nI n ≤ nI i7 from nI_le (by omega) (by omega)) c_13)
      refine lv_iload_n hx hb dX0_many_61 rfl (lv_at hl 4 rfl) ?_
      refine lv_if_ne (tgt := 72) hx hb dX0_many_62 (by decide) (fun c_62 => ?_) (fun c_62 => ?_)
      · refine lv_iload_n hx hb dX0_many_72 rfl (lv_at hl 4 rfl) ?_
        refine lv_iconst (v := 1) hx hb dX0_many_73 (by decide) ?_
        refine lv_icmp_ne (tgt := 89) hx hb dX0_many_74 (by decide) (fun c_74 => ?_) (fun c_74 => ?_)
        · refine lv_iload_n hx hb dX0_many_89 rfl (lv_at hl 4 rfl) ?_
          refine lv_iconst (v := 2) hx hb dX0_many_90 (by decide) ?_
          refine lv_icmp_ne (tgt := 98) hx hb dX0_many_91 (by decide) (fun c_91 => ?_) (fun c_91 => ?_)
          · refine lv_iload_n hx hb dX0_many_98 rfl (lv_at hl 4 rfl) ?_
            refine lv_iconst (v := 3) hx hb dX0_many_99 (by decide) ?_
            refine lv_icmp_ne (tgt := 107) hx hb dX0_many_100 (by decide) (fun c_100 => ?_) (fun c_100 => ?_)
            · refine lv_bipush (v := (-2)) hx hb dX0_many_107 (by decide) ?_
              exact r_iret S hr hlk dX0_many_109 (congrArg (fun z : Int32 => some (Value.int z)) (show (-2) = spMany n net nc (stAt n cp cq nc) wv from by simp [spMany, hi7, *]))
            · refine lv_iload_n hx hb dX0_many_103 rfl (lv_at hl 1 rfl) ?_
              refine lv_goto (tgt := 109) hx hb dX0_many_104 (by decide) ?_
              exact r_iret S hr hlk dX0_many_109 (congrArg (fun z : Int32 => some (Value.int z)) (show nI (numN net i7) = spMany n net nc (stAt n cp cq nc) wv from by simp [spMany, hi7, *]))
          · refine lv_iload_n hx hb dX0_many_94 rfl (lv_at hl 2 rfl) ?_
            refine lv_goto (tgt := 109) hx hb dX0_many_95 (by decide) ?_
            exact r_iret S hr hlk dX0_many_109 (congrArg (fun z : Int32 => some (Value.int z)) (show nI (expN n (stAt n cp cq nc) i7) = spMany n net nc (stAt n cp cq nc) wv from by simp [spMany, hi7, *]))
        · refine lv_aload_n hx hb dX0_many_77 rfl (lv_at hl 3 rfl) ?_
          refine k_get (v := .ref (a 3)) S hK hP 3 (by decide) fl_X0_18 rfl dX0_many_78 rfl ?_
          refine rc_Fr (X := .int (nI nc)) (rest := []) [] 0 S hK (hK.1 2 (RJ2, TJ2, 3) rfl).2 (hK2.2.fw (C := RJ2) (x := ⟨"java/util/List", "size", "()I"⟩) (y := yJ2_size) (by simp [fxI]) q220 q218 q203) (rj_size l D dA (a 3) ed cap mc nc f hDY.2.2.1) (lw_F q214 q217 q219 q63 q221) (by decide +kernel) rfl ⟨Nat.le_of_ble_eq_true rfl, Nat.le_of_ble_eq_true rfl⟩ (va_recv hK hDY.1 (ci := 2) (q0 := 0) rfl rfl) hl.1 (Nat.le_of_ble_eq_true rfl) dX0_many_81 ⟨Nat.le_refl 0, Nat.le_refl 0⟩ hDY.1 ?_ rfl
          refine lv_goto (tgt := 109) hx hb dX0_many_86 (by decide) ?_
          exact r_iret S hr hlk dX0_many_109 (congrArg (fun z : Int32 => some (Value.int z)) (show nI nc = spMany n net nc (stAt n cp cq nc) wv from by simp [spMany, hi7, *]))
      · refine lv_aload_n hx hb dX0_many_65 rfl (lv_at hl 3 rfl) ?_
        refine k_get (v := .int (σ.1 0)) S hK hP 0 (by decide) fl_X0_45 rfl dX0_many_66 rfl ?_
        refine topi (z := nI n) (h0) ?_
        refine lv_goto (tgt := 109) hx hb dX0_many_69 (by decide) ?_
        exact r_iret S hr hlk dX0_many_109 (congrArg (fun z : Int32 => some (Value.int z)) (show nI n = spMany n net nc (stAt n cp cq nc) wv from by simp [spMany, hi7, *]))
    | succ k7 ih7 =>
      intro i7 hi7 ls hl
      have hlt7 : i7 < n := by omega
      have h16 := hs4_lt (stAt n cp cq nc) i7
      have ht1 := htd i7 (by omega)
      refine lv_iload hx hb dX0_many_7 (lv_at hl 0 rfl) ?_
      refine lv_aload_n hx hb dX0_many_9 rfl (lv_at hl 3 rfl) ?_
      refine k_get (v := .int (σ.1 0)) S hK hP 0 (by decide) fl_X0_45 rfl dX0_many_10 rfl ?_
      refine topi (z := nI n) (h0) ?_
      refine lv_icmp_ge (tgt := 61) hx hb dX0_many_13 (by decide) (fun c_13 => absurd c_13 (show ¬ nI n ≤ nI i7 from nI_ge (by omega) (by omega))) (fun c_13 => ?_)
      refine lv_iload_n hx hb dX0_many_16 rfl (lv_at hl 2 rfl) ?_
      refine lv_aload_n hx hb dX0_many_17 rfl (lv_at hl 3 rfl) ?_
      refine rc2_V (rest := [.int (nI (expN n (stAt n cp cq nc) i7))]) [] 0 S hK2 (r0_secretsNow l D dA a σ n nc cp cq ed cap mc f rg hn h0) wl_X0_93 wd_X0_X0_secretsNow rfl ⟨Nat.le_of_ble_eq_true rfl, Nat.le_of_ble_eq_true rfl⟩ (k_recv hK hP) hl.1 (Nat.le_of_ble_eq_true rfl) dX0_many_18 ⟨Nat.le_refl 0, Nat.le_refl 0⟩ ⟨hP, hDY⟩ (fun v9 hv9 => ?_) rfl
      subst hv9
      refine W.eq (g2 := F0 m 21 ls [.int (nI (stAt n cp cq nc)), .int (nI (expN n (stAt n cp cq nc) i7))]) rfl ?_
      refine lv_iload hx hb dX0_many_21 (lv_at hl 0 rfl) ?_
      refine rc_Si (rest := [.int (nI (expN n (stAt n cp cq nc) i7))]) [.int (nI (stAt n cp cq nc)), .int (nI i7)] 2 S hK (r0_hasOf l D dA (stAt n cp cq nc) i7 (by first | assumption | omega | decide) (by first | assumption | omega | decide)) wl_X0_53 wd_X0_X0_hasOf rfl ⟨Nat.le_of_ble_eq_true rfl, Nat.le_of_ble_eq_true rfl⟩ hl.1 (Nat.le_of_ble_eq_true rfl) dX0_many_23 ⟨Nat.le_refl 0, Nat.le_refl 0⟩ (trivial) ?_ rfl
      refine lv_aload_n hx hb dX0_many_26 rfl (lv_at hl 3 rfl) ?_
      refine rc_Vi (rest := [.int (nI (hs4 (stAt n cp cq nc) i7)), .int (nI (expN n (stAt n cp cq nc) i7))]) [] 0 S hK (r0_all l D dA a σ n hn (h0)) wl_X0_61 wd_X0_X0_all rfl ⟨Nat.le_of_ble_eq_true rfl, Nat.le_of_ble_eq_true rfl⟩ (k_recv hK hP) hl.1 (Nat.le_of_ble_eq_true rfl) dX0_many_27 ⟨Nat.le_refl 0, Nat.le_refl 0⟩ (hP) ?_ rfl
      refine lv_icmp_ne (tgt := 37) hx hb dX0_many_30 (by decide) (fun c_30 => ?_) (fun c_30 => ?_)
      · have c_30 : ¬ hs4 (stAt n cp cq nc) i7 = al n := fun h => c_30 (congrArg nI h)
        refine lv_iconst (v := 0) hx hb dX0_many_37 (by decide) ?_
        refine lv_iadd hx hb dX0_many_38 ?_
        refine lv_istore_n (lv' := [(2, .int ((nI (expN n (stAt n cp cq nc) i7)) + 0)), (4, .int (nI i7)), (3, .int (nI (numN net i7))), (0, .ref (a 0)), (1, .int wv)]) hx hb dX0_many_39 rfl hl (by decide) rfl (fun ls hl => ?_)
        refine lv_iload_n hx hb dX0_many_40 rfl (lv_at hl 2 rfl) ?_
        refine lv_aload_n hx hb dX0_many_41 rfl (lv_at hl 3 rfl) ?_
        refine k_get (v := .ref (a 1)) S hK hP 1 (by decide) fl_X0_11 rfl dX0_many_42 rfl ?_
        refine lv_iload hx hb dX0_many_45 (lv_at hl 1 rfl) ?_
        refine k_aldn (j := i7) (v := nI (tdN net i7)) S hK hP 1 (by decide) rfl (show i7 < 4 by omega) dX0_many_47 (hG.2.2.1 i7 (by omega)) ?_
        refine rc_Si (rest := [.int (nI (numN net i7))]) [.int (nI (tdN net i7))] 1 S hK (rj_bitCount l D dA (tdN net i7) (by first | assumption | omega | decide)) wl_X0_360 wd_X0_J18_bitCount rfl ⟨Nat.le_of_ble_eq_true rfl, Nat.le_of_ble_eq_true rfl⟩ hl.1 (Nat.le_of_ble_eq_true rfl) dX0_many_48 ⟨Nat.le_refl 0, Nat.le_refl 0⟩ (trivial) ?_ rfl
        refine lv_iconst (v := 1) hx hb dX0_many_51 (by decide) ?_
        refine lv_isub hx hb dX0_many_52 ?_
        refine topi (z := nI (bts (net i7) 16)) (num_s (hnet i7 (by omega)) (by omega) (hNV i7 hlt7).2) ?_
        refine lv_iadd hx hb dX0_many_53 ?_
        refine lv_istore_n (lv' := [(3, .int ((nI (numN net i7)) + (nI (bts (net i7) 16)))), (2, .int ((nI (expN n (stAt n cp cq nc) i7)) + 0)), (4, .int (nI i7)), (0, .ref (a 0)), (1, .int wv)]) hx hb dX0_many_54 rfl hl (by decide) rfl (fun ls hl => ?_)
        refine lv_iinc (v := nI (i7 + 1)) (lv' := [(4, .int (nI (i7 + 1))), (3, .int ((nI (numN net i7)) + (nI (bts (net i7) 16)))), (2, .int ((nI (expN n (stAt n cp cq nc) i7)) + 0)), (0, .ref (a 0)), (1, .int wv)]) hx hb dX0_many_55 hl (k := 2) rfl (nI_1 _) (by decide) rfl (fun ls hl => ?_)
        refine lv_goto (tgt := 7) hx hb dX0_many_58 (by decide) ?_
        have e7_3 : nI (numN net (i7 + 1)) = (nI (numN net i7)) + (nI (bts (net i7) 16)) := by rw [numN]; exact (nI_add _ _).symm
        have e7_2 : nI (expN n (stAt n cp cq nc) (i7 + 1)) = (nI (expN n (stAt n cp cq nc) i7)) + 0 := by rw [expN, if_neg c_30]; exact (Int32.add_zero _).symm
        exact ih7 (i7 + 1) (by omega) ls (by rw [e7_3, e7_2]; exact lv_sub hl [0, 1, 2, 3, 4] rfl)
      · have c_30 : hs4 (stAt n cp cq nc) i7 = al n := nI_inj (Nat.lt_trans (hs4_lt _ _) (by decide)) (Nat.lt_trans (al_lt n hn) (by decide)) c_30
        refine lv_iconst (v := 1) hx hb dX0_many_33 (by decide) ?_
        refine lv_goto (tgt := 38) hx hb dX0_many_34 (by decide) ?_
        refine lv_iadd hx hb dX0_many_38 ?_
        refine lv_istore_n (lv' := [(2, .int ((nI (expN n (stAt n cp cq nc) i7)) + 1)), (4, .int (nI i7)), (3, .int (nI (numN net i7))), (0, .ref (a 0)), (1, .int wv)]) hx hb dX0_many_39 rfl hl (by decide) rfl (fun ls hl => ?_)
        refine lv_iload_n hx hb dX0_many_40 rfl (lv_at hl 2 rfl) ?_
        refine lv_aload_n hx hb dX0_many_41 rfl (lv_at hl 3 rfl) ?_
        refine k_get (v := .ref (a 1)) S hK hP 1 (by decide) fl_X0_11 rfl dX0_many_42 rfl ?_
        refine lv_iload hx hb dX0_many_45 (lv_at hl 1 rfl) ?_
        refine k_aldn (j := i7) (v := nI (tdN net i7)) S hK hP 1 (by decide) rfl (show i7 < 4 by omega) dX0_many_47 (hG.2.2.1 i7 (by omega)) ?_
        refine rc_Si (rest := [.int (nI (numN net i7))]) [.int (nI (tdN net i7))] 1 S hK (rj_bitCount l D dA (tdN net i7) (by first | assumption | omega | decide)) wl_X0_360 wd_X0_J18_bitCount rfl ⟨Nat.le_of_ble_eq_true rfl, Nat.le_of_ble_eq_true rfl⟩ hl.1 (Nat.le_of_ble_eq_true rfl) dX0_many_48 ⟨Nat.le_refl 0, Nat.le_refl 0⟩ (trivial) ?_ rfl
        refine lv_iconst (v := 1) hx hb dX0_many_51 (by decide) ?_
        refine lv_isub hx hb dX0_many_52 ?_
        refine topi (z := nI (bts (net i7) 16)) (num_s (hnet i7 (by omega)) (by omega) (hNV i7 hlt7).2) ?_
        refine lv_iadd hx hb dX0_many_53 ?_
        refine lv_istore_n (lv' := [(3, .int ((nI (numN net i7)) + (nI (bts (net i7) 16)))), (2, .int ((nI (expN n (stAt n cp cq nc) i7)) + 1)), (4, .int (nI i7)), (0, .ref (a 0)), (1, .int wv)]) hx hb dX0_many_54 rfl hl (by decide) rfl (fun ls hl => ?_)
        refine lv_iinc (v := nI (i7 + 1)) (lv' := [(4, .int (nI (i7 + 1))), (3, .int ((nI (numN net i7)) + (nI (bts (net i7) 16)))), (2, .int ((nI (expN n (stAt n cp cq nc) i7)) + 1)), (0, .ref (a 0)), (1, .int wv)]) hx hb dX0_many_55 hl (k := 2) rfl (nI_1 _) (by decide) rfl (fun ls hl => ?_)
        refine lv_goto (tgt := 7) hx hb dX0_many_58 (by decide) ?_
        have e7_3 : nI (numN net (i7 + 1)) = (nI (numN net i7)) + (nI (bts (net i7) 16)) := by rw [numN]; exact (nI_add _ _).symm
        have e7_2 : nI (expN n (stAt n cp cq nc) (i7 + 1)) = (nI (expN n (stAt n cp cq nc) i7)) + 1 := by rw [expN, if_pos c_30]; exact (nI_1 _).symm
        exact ih7 (i7 + 1) (by omega) ls (by rw [e7_3, e7_2]; exact lv_sub hl [0, 1, 2, 3, 4] rfl)
  exact hloop7 (n) 0 (by omega) ls (lv_sub hl [0, 1, 2, 3, 4] rfl)
set_option maxHeartbeats 4000000 in
theorem k0_verdictFirst (l : Launch) (D : va_G) (dA : Nat → ClassId) (a : Nat → Nat) (hI : kInj a) (σ : MS) (Ph : Heap → Prop) (hSt : kStb a Ph) (n : Nat) (net : Nat → Nat) (hG : KG σ n net) (T : Nat) (hSN : SNc σ T) (hT : T < 2 ^ 30) (hn0 : 0 < n) (r : Nat) (hr4 : r < 4) : KC l yX0_verdictFirst cX0_verdictFirst 2 (some .int) 20 661 D dA a [.ref (a 0), .int (nI r)] σ Ph (fun v9 σ9 => v9 = some (.int (vrd (val net n r (st0 n) (al n)))) ∧ FRc (σ.i 9 (nI (T + 1))) σ9 (nI (T + 1))) := by
  refine KC.of (by decide) (Nat.le_of_ble_eq_true rfl) ?_
  intro p e s m below meth c ls S hr hlk hK hM hPh hl
  have hx := S.1
  have hb := S.2.1
  have hl : lv_has ls 2 [(0, .ref (a 0)), (1, .int (nI r))] := hl
  have hn := hG.1
  have hnet := hG.2.2.2
  have hv := vld_0 n hn
  have hs := hv.1
  have h0 := hG.2.1
  refine lv_aload_n hx hb dX0_verdictFirst_0 rfl (lv_at hl 0 rfl) ?_
  refine lv_dup hx hb dX0_verdictFirst_1 rfl ?_
  refine k_get (v := .int (σ.1 9)) S hK hM.1 9 (by decide) fl_X0_167 rfl dX0_verdictFirst_2 rfl ?_
  refine topi (z := nI T) (hSN.1) ?_
  refine lv_iconst (v := 1) hx hb dX0_verdictFirst_5 (by decide) ?_
  refine lv_iadd hx hb dX0_verdictFirst_6 ?_
  refine topi (z := nI (T + 1)) (nI_1 T) ?_
  refine k_put hI S hK hM 9 (by decide) rfl fl_X0_167 rfl rfl (by decide +kernel) dX0_verdictFirst_7 (fun H locs hM => ?_)
  refine lv_aload_n hx hb dX0_verdictFirst_10 rfl (lv_at hl 0 rfl) ?_
  refine lv_aload_n hx hb dX0_verdictFirst_11 rfl (lv_at hl 0 rfl) ?_
  refine lv_iload_n hx hb dX0_verdictFirst_12 rfl (lv_at hl 1 rfl) ?_
  refine lv_aload_n hx hb dX0_verdictFirst_13 rfl (lv_at hl 0 rfl) ?_
  refine rc_Vi (rest := [.int (nI r), .ref (a 0), .ref (a 0)]) [] 0 S hK (r0_atFirst l D dA a (σ.i 9 (nI (T + 1))) n hn (hG.2.1)) wl_X0_71 wd_X0_X0_atFirst rfl ⟨Nat.le_of_ble_eq_true rfl, Nat.le_of_ble_eq_true rfl⟩ (k_recv hK hM.1) hl.1 (Nat.le_of_ble_eq_true rfl) dX0_verdictFirst_14 ⟨Nat.le_refl 0, Nat.le_refl 0⟩ (hM.1) ?_ rfl
  refine lv_sipush (v := 255) hx hb dX0_verdictFirst_17 (by decide) ?_
  refine kc_V (rest := [.ref (a 0)]) [.int (nI r), .int (nI (st0 n)), .int 255] 3 S hK hM (k0_lay l D dA a hI Ph hSt n net r hr4 (nI (T + 1)) 15 (by omega) (σ.i 9 (nI (T + 1))) (st0 n) 255 ⟨hG.1, hG.2.1, hG.2.2.1, hG.2.2.2⟩ rfl (TBc.none hSN hT) hv (by decide) (mu_vld (by omega) hv)) wl_X0_173 wd_X0_X0_lay rfl ⟨Nat.le_of_ble_eq_true rfl, Nat.le_of_ble_eq_true rfl⟩ hl.1 (Nat.le_of_ble_eq_true rfl) dX0_verdictFirst_20 ⟨Nat.le_refl 0, Nat.le_refl 0⟩ (hSt.at hM hPh) (fun v σ20 H locs hq hM => ?_) rfl
  obtain ⟨rfl, hFR, hTB, hin⟩ := hq
  refine W.eq (g2 := F0 m 23 ls [.int (nI (sOf r (st0 n) 255)), .ref (a 0)]) rfl ?_
  have hLP := hTB _ _ hv (by decide) hin
  rw [val_tok (tkE_15 hn)] at hLP
  have hvo := val_ok (net := net) (r := r) (t := al n) hn hv (mu_vld (by omega) hv)
  have hsl := sOf_lt (r := r) (s := st0 n) (tt := 255) (by decide)
  refine rc_Vi (rest := []) [.int (nI (sOf r (st0 n) 255))] 1 S hK (r0_verdictAt l D dA a σ20 (sOf r (st0 n) 255) hsl (val net n r (st0 n) (al n)) (Nat.lt_of_le_of_lt hvo.1.1 (by decide)) hvo.1.2.1 hvo.2 hLP) wl_X0_192 wd_X0_X0_verdictAt rfl ⟨Nat.le_of_ble_eq_true rfl, Nat.le_of_ble_eq_true rfl⟩ (k_recv hK hM.1) hl.1 (Nat.le_of_ble_eq_true rfl) dX0_verdictFirst_23 ⟨Nat.le_refl 0, Nat.le_refl 0⟩ (hM.1) ?_ rfl
  exact k_iret S hr hlk hM dX0_verdictFirst_26 (⟨rfl, hFR⟩)
set_option maxHeartbeats 4000000 in
theorem k0_layNet (l : Launch) (D : va_G) (dA : Nat → ClassId) (a : Nat → Nat) (hI : kInj a) (σ : MS) (Ph : Heap → Prop) (hSt : kStb a Ph) (nv num : Nat) (hnv : nv < 5) (hnum : num < 2 ^ 31) : KC l yX0_layNet cX0_layNet 6 none 0 0 D dA a [.ref (a 0), .int (nI nv), .int (nI num)] σ Ph (fun v9 σ9 => v9 = none ∧ LNo σ σ9 nv num nv) := by
  refine KC.of (by decide) (Nat.le_of_ble_eq_true rfl) ?_
  intro p e s m below meth c ls S hr hlk hK hM hPh hl
  have hx := S.1
  have hb := S.2.1
  have hl : lv_has ls 6 [(0, .ref (a 0)), (1, .int (nI nv)), (2, .int (nI num))] := hl
  refine lv_aload_n hx hb dX0_layNet_0 rfl (lv_at hl 0 rfl) ?_
  refine lv_iload_n hx hb dX0_layNet_1 rfl (lv_at hl 1 rfl) ?_
  refine k_put hI S hK hM 0 (by decide) rfl fl_X0_45 rfl rfl (by decide +kernel) dX0_layNet_2 (fun H locs hM => ?_)
  refine lv_iload_n hx hb dX0_layNet_5 rfl (lv_at hl 2 rfl) ?_
  refine lv_istore_n (lv' := [(3, .int (nI num)), (0, .ref (a 0)), (1, .int (nI nv)), (2, .int (nI num))]) hx hb dX0_layNet_6 rfl hl (by decide) rfl (fun ls hl => ?_)
  refine lv_iconst (v := 0) hx hb dX0_layNet_7 (by decide) ?_
  refine lv_istore (lv' := [(4, .int 0), (3, .int (nI num)), (0, .ref (a 0)), (1, .int (nI nv)), (2, .int (nI num))]) hx hb dX0_layNet_8 hl (by decide) rfl (fun ls hl => ?_)
  have hloop10 : ∀ (k10 i10 : Nat), i10 + k10 = nv → ∀ (ω10 : MS) (H : Heap) (locs : List Loc), KB D dA a ω10 s.heap H locs → LNo σ ω10 nv num i10 → ∀ (ls : Array Slot), lv_has ls 6 [(4, .int (nI i10)), (3, .int (nI (nlL nv num i10))), (0, .ref (a 0)), (1, .int (nI nv)), (2, .int (nI num))] → W p l e ({ frames := 0, cells := 0, slots := 0, locals := 0 }) s m [.ref (a 0), .int (nI nv), .int (nI num)].toArray below meth c H locs 0 0 (KZ below D dA a (fun v9 σ9 => v9 = none ∧ LNo σ σ9 nv num nv) [.ref (a 0), .int (nI nv), .int (nI num)] s) (F0 m 10 ls []) := by
    intro k10
    induction k10 with
    | zero =>
      intro i10 hi10 ω10 H locs hM hw10 ls hl
      have hi10 : i10 = nv := by omega
      refine lv_iload hx hb dX0_layNet_10 (lv_at hl 0 rfl) ?_
      refine lv_iload_n hx hb dX0_layNet_12 rfl (lv_at hl 3 rfl) ?_
      refine lv_icmp_ge (tgt := 75) hx hb dX0_layNet_13 (by decide) (fun c_13 => ?_) (fun c_13 => absurd (show nI nv ≤ nI i10 from nI_le (by omega) (by omega)) c_13)
      exact k_vret S hr hlk hM dX0_layNet_75 (⟨rfl, by rw [hi10] at hw10; exact hw10⟩)
    | succ k10 ih10 =>
      intro i10 hi10 ω10 H locs hM hw10 ls hl
      have hlt10 : i10 < nv := by omega
      refine lv_iload hx hb dX0_layNet_10 (lv_at hl 0 rfl) ?_
      refine lv_iload_n hx hb dX0_layNet_12 rfl (lv_at hl 3 rfl) ?_
      refine lv_icmp_ge (tgt := 75) hx hb dX0_layNet_13 (by decide) (fun c_13 => absurd c_13 (show ¬ nI nv ≤ nI i10 from nI_ge (by omega) (by omega))) (fun c_13 => ?_)
      refine lv_aload_n hx hb dX0_layNet_16 rfl (lv_at hl 2 rfl) ?_
      refine k_get (v := .ref (a 1)) S hK hM.1 1 (by decide) fl_X0_11 rfl dX0_layNet_17 rfl ?_
      refine lv_iload hx hb dX0_layNet_20 (lv_at hl 0 rfl) ?_
      refine lv_iconst (v := 1) hx hb dX0_layNet_22 (by decide) ?_
      refine lv_iload hx hb dX0_layNet_23 (lv_at hl 0 rfl) ?_
      refine lv_ishl hx hb dX0_layNet_25 ?_
      refine topi (z := nI (2 ^ i10)) (shl1 _ (by omega)) ?_
      refine k_astn (j := i10) hI S hK hM 1 (by decide) rfl (show i10 < 4 by omega) dX0_layNet_26 (fun H locs hM => ?_)
      refine lv_iconst (v := 0) hx hb dX0_layNet_27 (by decide) ?_
      refine lv_istore (lv' := [(5, .int 0), (4, .int (nI i10)), (3, .int (nI (nlL nv num i10))), (0, .ref (a 0)), (1, .int (nI nv)), (2, .int (nI num))]) hx hb dX0_layNet_28 hl (by decide) rfl (fun ls hl => ?_)
      have hloop30 : ∀ (k30 i30 : Nat), i30 + k30 = nv → ∀ (ω30 : MS) (H : Heap) (locs : List Loc), KB D dA a ω30 s.heap H locs → LNi σ ω30 nv num i10 i30 → ∀ (ls : Array Slot), lv_has ls 6 [(5, .int (nI i30)), (4, .int (nI i10)), (3, .int (nI (nlQ i10 i30 (0, nlL nv num i10)).2)), (0, .ref (a 0)), (1, .int (nI nv)), (2, .int (nI num))] → W p l e ({ frames := 0, cells := 0, slots := 0, locals := 0 }) s m [.ref (a 0), .int (nI nv), .int (nI num)].toArray below meth c H locs 0 0 (KZ below D dA a (fun v9 σ9 => v9 = none ∧ LNo σ σ9 nv num nv) [.ref (a 0), .int (nI nv), .int (nI num)] s) (F0 m 30 ls []) := by
        intro k30
        induction k30 with
        | zero =>
          intro i30 hi30 ω30 H locs hM hw30 ls hl
          have hi30 : i30 = nv := by omega
          refine lv_iload hx hb dX0_layNet_30 (lv_at hl 0 rfl) ?_
          refine lv_iload_n hx hb dX0_layNet_32 rfl (lv_at hl 4 rfl) ?_
          refine lv_icmp_ge (tgt := 69) hx hb dX0_layNet_33 (by decide) (fun c_33 => ?_) (fun c_33 => absurd (show nI nv ≤ nI i30 from nI_le (by omega) (by omega)) c_33)
          refine lv_iinc (v := nI (i10 + 1)) (lv' := [(4, .int (nI (i10 + 1))), (5, .int (nI i30)), (3, .int (nI (nlQ i10 i30 (0, nlL nv num i10)).2)), (0, .ref (a 0)), (1, .int (nI nv)), (2, .int (nI num))]) hx hb dX0_layNet_69 hl (k := 1) rfl (nI_1 _) (by decide) rfl (fun ls hl => ?_)
          refine lv_goto (tgt := 10) hx hb dX0_layNet_72 (by decide) ?_
          have e10_3 : nI (nlL nv num (i10 + 1)) = nI (nlQ i10 i30 (0, nlL nv num i10)).2 := by rw [hi30]; rfl
          exact ih10 (i10 + 1) (by omega) _ _ _ hM (by rw [hi30] at hw30; exact hw30.o) ls (by rw [e10_3]; exact lv_sub hl [0, 2, 3, 4, 5] rfl)
        | succ k30 ih30 =>
          intro i30 hi30 ω30 H locs hM hw30 ls hl
          have hlt30 : i30 < nv := by omega
          have hle : (nlQ i10 i30 (0, nlL nv num i10)).2 < 2 ^ 31 := Nat.lt_of_le_of_lt (nlQ_lt i30 (by omega)).2 (Nat.lt_of_le_of_lt (nlL_le hnv i10) hnum)
          refine lv_iload hx hb dX0_layNet_30 (lv_at hl 0 rfl) ?_
          refine lv_iload_n hx hb dX0_layNet_32 rfl (lv_at hl 4 rfl) ?_
          refine lv_icmp_ge (tgt := 69) hx hb dX0_layNet_33 (by decide) (fun c_33 => absurd c_33 (show ¬ nI nv ≤ nI i30 from nI_ge (by omega) (by omega))) (fun c_33 => ?_)
          refine lv_iload hx hb dX0_layNet_36 (lv_at hl 1 rfl) ?_
          refine lv_iload hx hb dX0_layNet_38 (lv_at hl 0 rfl) ?_
          refine lv_icmp_eq (tgt := 63) hx hb dX0_layNet_40 (by decide) (fun c_40 => ?_) (fun c_40 => ?_)
          · have c_40 : i10 = i30 := nI_inj (by omega) (by omega) c_40
            refine lv_iinc (v := nI (i30 + 1)) (lv' := [(5, .int (nI (i30 + 1))), (4, .int (nI i10)), (3, .int (nI (nlQ i10 i30 (0, nlL nv num i10)).2)), (0, .ref (a 0)), (1, .int (nI nv)), (2, .int (nI num))]) hx hb dX0_layNet_63 hl (k := 0) rfl (nI_1 _) (by decide) rfl (fun ls hl => ?_)
            refine lv_goto (tgt := 30) hx hb dX0_layNet_66 (by decide) ?_
            have e30_3 : nI (nlQ i10 (i30 + 1) (0, nlL nv num i10)).2 = nI (nlQ i10 i30 (0, nlL nv num i10)).2 := by rw [nlQ_e c_40]
            exact ih30 (i30 + 1) (by omega) _ _ _ hM (hw30.s c_40) ls (by rw [e30_3]; exact lv_sub hl [0, 1, 2, 3, 4, 5] rfl)
          · have c_40 : ¬ i10 = i30 := fun h => c_40 (congrArg nI h)
            refine lv_aload_n hx hb dX0_layNet_43 rfl (lv_at hl 3 rfl) ?_
            refine k_get (v := .ref (a 1)) S hK hM.1 1 (by decide) fl_X0_11 rfl dX0_layNet_44 rfl ?_
            refine lv_iload hx hb dX0_layNet_47 (lv_at hl 1 rfl) ?_
            refine lv_dup2_11 hx hb dX0_layNet_49 rfl rfl ?_
            refine k_aldn (j := i10) (v := nI ((nlQ i10 i30 (0, nlL nv num i10)).1 ||| 2 ^ i10)) S hK hM.1 1 (by decide) rfl (show i10 < 4 by omega) dX0_layNet_50 (hw30.g) ?_
            refine lv_iload_n hx hb dX0_layNet_51 rfl (lv_at hl 2 rfl) ?_
            refine lv_iconst (v := 1) hx hb dX0_layNet_52 (by decide) ?_
            refine lv_iand hx hb dX0_layNet_53 ?_
            refine lv_iload hx hb dX0_layNet_54 (lv_at hl 0 rfl) ?_
            refine lv_ishl hx hb dX0_layNet_56 ?_
            refine topi (z := nI (((nlQ i10 i30 (0, nlL nv num i10)).2 &&& 1) <<< i30)) (left_sh (by omega)) ?_
            refine lv_ior hx hb dX0_layNet_57 ?_
            refine topi (z := nI (((nlQ i10 i30 (0, nlL nv num i10)).1 ||| 2 ^ i10) ||| (((nlQ i10 i30 (0, nlL nv num i10)).2 &&& 1) <<< i30))) (nI_or _ _) ?_
            refine k_astn (j := i10) hI S hK hM 1 (by decide) rfl (show i10 < 4 by omega) dX0_layNet_58 (fun H locs hM => ?_)
            refine lv_iload_n hx hb dX0_layNet_59 rfl (lv_at hl 2 rfl) ?_
            refine lv_iconst (v := 1) hx hb dX0_layNet_60 (by decide) ?_
            refine lv_ishr hx hb dX0_layNet_61 ?_
            refine topi (z := nI ((nlQ i10 i30 (0, nlL nv num i10)).2 >>> 1)) (left_sr hle) ?_
            refine lv_istore_n (lv' := [(3, .int (nI ((nlQ i10 i30 (0, nlL nv num i10)).2 >>> 1))), (5, .int (nI i30)), (4, .int (nI i10)), (0, .ref (a 0)), (1, .int (nI nv)), (2, .int (nI num))]) hx hb dX0_layNet_62 rfl hl (by decide) rfl (fun ls hl => ?_)
            refine lv_iinc (v := nI (i30 + 1)) (lv' := [(5, .int (nI (i30 + 1))), (3, .int (nI ((nlQ i10 i30 (0, nlL nv num i10)).2 >>> 1))), (4, .int (nI i10)), (0, .ref (a 0)), (1, .int (nI nv)), (2, .int (nI num))]) hx hb dX0_layNet_63 hl (k := 1) rfl (nI_1 _) (by decide) rfl (fun ls hl => ?_)
            refine lv_goto (tgt := 30) hx hb dX0_layNet_66 (by decide) ?_
            have e30_3 : nI (nlQ i10 (i30 + 1) (0, nlL nv num i10)).2 = nI ((nlQ i10 i30 (0, nlL nv num i10)).2 >>> 1) := by rw [nlQ_s c_40]
            exact ih30 (i30 + 1) (by omega) _ _ _ hM (hw30.p c_40 rfl) ls (by rw [e30_3]; exact lv_sub hl [0, 2, 1, 3, 4, 5] rfl)
      exact hloop30 (nv) 0 (by omega) _ _ _ hM (hw10.r rfl) ls (lv_sub hl [0, 1, 2, 3, 4, 5] rfl)
  exact hloop10 (nv) 0 (by omega) _ _ _ hM (LNo.a) ls (lv_sub hl [0, 1, 2, 3, 4] rfl)
