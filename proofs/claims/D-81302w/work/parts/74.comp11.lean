/-! COMPONENT 11: ofPerson (by program: gen/comp11.py) -/
set_option maxRecDepth 100000
set_option maxHeartbeats 4000000 in
theorem r0_ofPerson (l : Launch) (D : va_G) (dA : Nat → ClassId) (a : Nat → Nat) (σ : MS) (n nc : Nat) (cp cq : Nat → Nat) (ed cap : Nat) (mc : Int32) (f : Nat → Option Nat) (rg : Nat → Nat) (net : Nat → Nat) (hG : KG σ n net) (hcq : ∀ j, j < nc → cp j < n ∧ cq j < n) (v w : Int32) : RC2 l yX0_ofPerson cX0_ofPerson 4 (some .int) 4 84 D dA [.ref (a 0), .int v, .int w] (fun H => va_P D vwCl (kW dA a σ) H ∧ DY D dA a n nc cp cq ed cap mc f rg H) (fun v9 => v9 = some (.int (spOfPerson n net (stAt n cp cq nc) (tkN n 2 cp cq nc) (tkN n 3 cp cq nc) v w))) := by
  refine RC2.of (by decide) (Nat.le_of_ble_eq_true rfl) ?_
  intro p e s m below meth c ls S hr hlk hK2 hP9 hl
  have hx := S.1
  have hb := S.2.1
  have hl : lv_has ls 4 [(0, .ref (a 0)), (1, .int v), (2, .int w)] := hl
  have hK := hK2.1
  have hP := hP9.1
  have hDY := hP9.2
  have hn := hG.1
  have h0 := hG.2.1
  have hnet := hG.2.2.2
  have hc4 : ∀ j, j < nc → cp j < 4 ∧ cq j < 4 := fun j hj => ⟨by have := (hcq j hj).1; omega, by have := (hcq j hj).2; omega⟩
  have hv : vld n (stAt n cp cq nc) := vld_stAt hn nc hcq
  have hs := hv.1
  have ht8 : (tk8 cp cq nc) < 256 := tk8_lt nc hc4
  refine lv_aload_n hx hb dX0_ofPerson_0 rfl (lv_at hl 0 rfl) ?_
  refine lv_iload_n hx hb dX0_ofPerson_1 rfl (lv_at hl 1 rfl) ?_
  refine rc_Vi (rest := []) [.int v] 1 S hK (r0_noPerson l D dA a σ n hn (h0) v) wl_X0_89 wd_X0_X0_noPerson rfl ⟨Nat.le_of_ble_eq_true rfl, Nat.le_of_ble_eq_true rfl⟩ (k_recv hK hP) hl.1 (Nat.le_of_ble_eq_true rfl) dX0_ofPerson_2 ⟨Nat.le_refl 0, Nat.le_refl 0⟩ (hP) ?_ rfl
  refine lv_if_eq (tgt := 10) hx hb dX0_ofPerson_5 (by decide) (fun c_5 => ?_) (fun c_5 => ?_)
  · have c_5 := b2i_eq0.mp c_5
    have c_5 : inP v n = true := by simpa using c_5
    obtain ⟨pa, hpa, rfl⟩ := inP_some (by omega) c_5
    have hpa4 : pa < 4 := by omega
    have h16 := hs4_lt (stAt n cp cq nc) pa
    refine lv_aload_n hx hb dX0_ofPerson_10 rfl (lv_at hl 0 rfl) ?_
    refine rc2_V (rest := []) [] 0 S hK2 (r0_secretsNow l D dA a σ n nc cp cq ed cap mc f rg hn h0) wl_X0_93 wd_X0_X0_secretsNow rfl ⟨Nat.le_of_ble_eq_true rfl, Nat.le_of_ble_eq_true rfl⟩ (k_recv hK hP) hl.1 (Nat.le_of_ble_eq_true rfl) dX0_ofPerson_11 ⟨Nat.le_refl 0, Nat.le_refl 0⟩ ⟨hP, hDY⟩ (fun v9 hv9 => ?_) rfl
    subst hv9
    refine W.eq (g2 := F0 m 14 ls [.int (nI (stAt n cp cq nc))]) rfl ?_
    refine lv_istore_n (lv' := [(3, .int (nI (stAt n cp cq nc))), (0, .ref (a 0)), (1, .int (nI pa)), (2, .int w)]) hx hb dX0_ofPerson_14 rfl hl (by decide) rfl (fun ls hl => ?_)
    refine lv_iload_n hx hb dX0_ofPerson_15 rfl (lv_at hl 3 rfl) ?_
    by_cases c_16_0 : w = 0
    · refine lv_tableIn (off := 40) (tgt := 56) hx hb dX0_ofPerson_16 (by rw [c_16_0]; decide) (by rw [c_16_0]; decide) (by rw [c_16_0]; rfl) (by decide) ?_
      refine lv_iload_n hx hb dX0_ofPerson_56 rfl (lv_at hl 0 rfl) ?_
      refine lv_iload_n hx hb dX0_ofPerson_57 rfl (lv_at hl 2 rfl) ?_
      refine rc_Si (rest := []) [.int (nI (stAt n cp cq nc)), .int (nI pa)] 2 S hK (r0_hasOf l D dA (stAt n cp cq nc) pa (by first | assumption | omega | decide) (by first | assumption | omega | decide)) wl_X0_53 wd_X0_X0_hasOf rfl ⟨Nat.le_of_ble_eq_true rfl, Nat.le_of_ble_eq_true rfl⟩ hl.1 (Nat.le_of_ble_eq_true rfl) dX0_ofPerson_58 ⟨Nat.le_refl 0, Nat.le_refl 0⟩ (trivial) ?_ rfl
      exact r_iret S hr hlk dX0_ofPerson_61 (congrArg (fun z : Int32 => some (Value.int z)) (show nI (hs4 (stAt n cp cq nc) pa) = spOfPerson n net (stAt n cp cq nc) (tkN n 2 cp cq nc) (tkN n 3 cp cq nc) (nI pa) w from by simp [spOfPerson, spOfP, inP_nI hpa (show n < 2 ^ 31 by omega), nI_clamp (show pa < 2 ^ 31 by omega), *]))
    by_cases c_16_1 : w = 1
    · refine lv_tableIn (off := 46) (tgt := 62) hx hb dX0_ofPerson_16 (by rw [c_16_1]; decide) (by rw [c_16_1]; decide) (by rw [c_16_1]; rfl) (by decide) ?_
      refine lv_aload_n hx hb dX0_ofPerson_62 rfl (lv_at hl 1 rfl) ?_
      refine lv_iload_n hx hb dX0_ofPerson_63 rfl (lv_at hl 0 rfl) ?_
      refine lv_iload_n hx hb dX0_ofPerson_64 rfl (lv_at hl 2 rfl) ?_
      refine rc_Vi (rest := []) [.int (nI (stAt n cp cq nc)), .int (nI pa)] 2 S hK (r0_numbersOf l D dA a σ n net hG (stAt n cp cq nc) pa (hv) (by first | assumption | omega | decide)) wl_X0_96 wd_X0_X0_numbersOf rfl ⟨Nat.le_of_ble_eq_true rfl, Nat.le_of_ble_eq_true rfl⟩ (k_recv hK hP) hl.1 (Nat.le_of_ble_eq_true rfl) dX0_ofPerson_65 ⟨Nat.le_refl 0, Nat.le_refl 0⟩ (hP) ?_ rfl
      exact r_iret S hr hlk dX0_ofPerson_68 (congrArg (fun z : Int32 => some (Value.int z)) (show nI (numA net (stAt n cp cq nc) pa 4) = spOfPerson n net (stAt n cp cq nc) (tkN n 2 cp cq nc) (tkN n 3 cp cq nc) (nI pa) w from by simp [spOfPerson, spOfP, inP_nI hpa (show n < 2 ^ 31 by omega), nI_clamp (show pa < 2 ^ 31 by omega), *]))
    by_cases c_16_2 : w = 2
    · refine lv_tableIn (off := 53) (tgt := 69) hx hb dX0_ofPerson_16 (by rw [c_16_2]; decide) (by rw [c_16_2]; decide) (by rw [c_16_2]; rfl) (by decide) ?_
      refine lv_aload_n hx hb dX0_ofPerson_69 rfl (lv_at hl 1 rfl) ?_
      refine k_get (v := .ref (a 1)) S hK hP 1 (by decide) fl_X0_11 rfl dX0_ofPerson_70 rfl ?_
      refine lv_iload_n hx hb dX0_ofPerson_73 rfl (lv_at hl 2 rfl) ?_
      refine k_aldn (j := pa) (v := nI (net pa ||| 2 ^ pa)) S hK hP 1 (by decide) rfl (show pa < 4 by omega) dX0_ofPerson_74 (hG.2.2.1 pa hpa) ?_
      exact r_iret S hr hlk dX0_ofPerson_75 (congrArg (fun z : Int32 => some (Value.int z)) (show nI (net pa ||| 2 ^ pa) = spOfPerson n net (stAt n cp cq nc) (tkN n 2 cp cq nc) (tkN n 3 cp cq nc) (nI pa) w from by simp [spOfPerson, spOfP, inP_nI hpa (show n < 2 ^ 31 by omega), nI_clamp (show pa < 2 ^ 31 by omega), *]))
    by_cases c_16_3 : w = 3
    · refine lv_tableIn (off := 60) (tgt := 76) hx hb dX0_ofPerson_16 (by rw [c_16_3]; decide) (by rw [c_16_3]; decide) (by rw [c_16_3]; rfl) (by decide) ?_
      refine lv_iload_n hx hb dX0_ofPerson_76 rfl (lv_at hl 0 rfl) ?_
      refine lv_iload_n hx hb dX0_ofPerson_77 rfl (lv_at hl 2 rfl) ?_
      refine rc_Si (rest := []) [.int (nI (stAt n cp cq nc)), .int (nI pa)] 2 S hK (r0_hasOf l D dA (stAt n cp cq nc) pa (by first | assumption | omega | decide) (by first | assumption | omega | decide)) wl_X0_53 wd_X0_X0_hasOf rfl ⟨Nat.le_of_ble_eq_true rfl, Nat.le_of_ble_eq_true rfl⟩ hl.1 (Nat.le_of_ble_eq_true rfl) dX0_ofPerson_78 ⟨Nat.le_refl 0, Nat.le_refl 0⟩ (trivial) ?_ rfl
      refine lv_aload_n hx hb dX0_ofPerson_81 rfl (lv_at hl 1 rfl) ?_
      refine rc_Vi (rest := [.int (nI (hs4 (stAt n cp cq nc) pa))]) [] 0 S hK (r0_all l D dA a σ n hn (h0)) wl_X0_61 wd_X0_X0_all rfl ⟨Nat.le_of_ble_eq_true rfl, Nat.le_of_ble_eq_true rfl⟩ (k_recv hK hP) hl.1 (Nat.le_of_ble_eq_true rfl) dX0_ofPerson_82 ⟨Nat.le_refl 0, Nat.le_refl 0⟩ (hP) ?_ rfl
      refine lv_icmp_ne (tgt := 92) hx hb dX0_ofPerson_85 (by decide) (fun c_85 => ?_) (fun c_85 => ?_)
      · have c_85 : ¬ hs4 (stAt n cp cq nc) pa = al n := fun h => c_85 (congrArg nI h)
        refine lv_iconst (v := 0) hx hb dX0_ofPerson_92 (by decide) ?_
        exact r_iret S hr hlk dX0_ofPerson_93 (congrArg (fun z : Int32 => some (Value.int z)) (show 0 = spOfPerson n net (stAt n cp cq nc) (tkN n 2 cp cq nc) (tkN n 3 cp cq nc) (nI pa) w from by simp [spOfPerson, spOfP, inP_nI hpa (show n < 2 ^ 31 by omega), nI_clamp (show pa < 2 ^ 31 by omega), *]))
      · have c_85 : hs4 (stAt n cp cq nc) pa = al n := nI_inj (Nat.lt_trans (hs4_lt _ _) (by decide)) (Nat.lt_trans (al_lt n hn) (by decide)) c_85
        refine lv_iconst (v := 1) hx hb dX0_ofPerson_88 (by decide) ?_
        refine lv_goto (tgt := 93) hx hb dX0_ofPerson_89 (by decide) ?_
        exact r_iret S hr hlk dX0_ofPerson_93 (congrArg (fun z : Int32 => some (Value.int z)) (show 1 = spOfPerson n net (stAt n cp cq nc) (tkN n 2 cp cq nc) (tkN n 3 cp cq nc) (nI pa) w from by simp [spOfPerson, spOfP, inP_nI hpa (show n < 2 ^ 31 by omega), nI_clamp (show pa < 2 ^ 31 by omega), *]))
    by_cases c_16_4 : w = 4
    · refine lv_tableIn (off := 78) (tgt := 94) hx hb dX0_ofPerson_16 (by rw [c_16_4]; decide) (by rw [c_16_4]; decide) (by rw [c_16_4]; rfl) (by decide) ?_
      refine lv_aload_n hx hb dX0_ofPerson_94 rfl (lv_at hl 1 rfl) ?_
      refine rc2_V (rest := []) [] 0 S hK2 (r0_tokensNow l D dA a σ n nc cp cq ed cap mc f rg hn h0) wl_X0_99 wd_X0_X0_tokensNow rfl ⟨Nat.le_of_ble_eq_true rfl, Nat.le_of_ble_eq_true rfl⟩ (k_recv hK hP) hl.1 (Nat.le_of_ble_eq_true rfl) dX0_ofPerson_95 ⟨Nat.le_refl 0, Nat.le_refl 0⟩ ⟨hP, hDY⟩ (fun v9 hv9 => ?_) rfl
      subst hv9
      refine W.eq (g2 := F0 m 98 ls [.int (nI (tk8 cp cq nc))]) rfl ?_
      refine lv_iload_n hx hb dX0_ofPerson_98 rfl (lv_at hl 2 rfl) ?_
      refine lv_ishr hx hb dX0_ofPerson_99 ?_
      refine lv_iconst (v := 1) hx hb dX0_ofPerson_100 (by decide) ?_
      refine lv_iand hx hb dX0_ofPerson_101 ?_
      refine topi (z := nI (tkN n 2 cp cq nc >>> pa &&& 1)) (bit8_e2 ht8 (by omega) hpa (tk8_tok (r := 2) hn nc hc4)) ?_
      exact r_iret S hr hlk dX0_ofPerson_102 (congrArg (fun z : Int32 => some (Value.int z)) (show nI (tkN n 2 cp cq nc >>> pa &&& 1) = spOfPerson n net (stAt n cp cq nc) (tkN n 2 cp cq nc) (tkN n 3 cp cq nc) (nI pa) w from by simp [spOfPerson, spOfP, inP_nI hpa (show n < 2 ^ 31 by omega), nI_clamp (show pa < 2 ^ 31 by omega), *]))
    by_cases c_16_5 : w = 5
    · refine lv_tableIn (off := 87) (tgt := 103) hx hb dX0_ofPerson_16 (by rw [c_16_5]; decide) (by rw [c_16_5]; decide) (by rw [c_16_5]; rfl) (by decide) ?_
      refine lv_aload_n hx hb dX0_ofPerson_103 rfl (lv_at hl 1 rfl) ?_
      refine rc2_V (rest := []) [] 0 S hK2 (r0_tokensNow l D dA a σ n nc cp cq ed cap mc f rg hn h0) wl_X0_99 wd_X0_X0_tokensNow rfl ⟨Nat.le_of_ble_eq_true rfl, Nat.le_of_ble_eq_true rfl⟩ (k_recv hK hP) hl.1 (Nat.le_of_ble_eq_true rfl) dX0_ofPerson_104 ⟨Nat.le_refl 0, Nat.le_refl 0⟩ ⟨hP, hDY⟩ (fun v9 hv9 => ?_) rfl
      subst hv9
      refine W.eq (g2 := F0 m 107 ls [.int (nI (tk8 cp cq nc))]) rfl ?_
      refine lv_iconst (v := 4) hx hb dX0_ofPerson_107 (by decide) ?_
      refine lv_iload_n hx hb dX0_ofPerson_108 rfl (lv_at hl 2 rfl) ?_
      refine lv_iadd hx hb dX0_ofPerson_109 ?_
      refine lv_ishr hx hb dX0_ofPerson_110 ?_
      refine lv_iconst (v := 1) hx hb dX0_ofPerson_111 (by decide) ?_
      refine lv_iand hx hb dX0_ofPerson_112 ?_
      refine topi (z := nI (tkN n 3 cp cq nc >>> pa &&& 1)) (bit8_e3 ht8 (by omega) hpa (tk8_tok (r := 3) hn nc hc4)) ?_
      exact r_iret S hr hlk dX0_ofPerson_113 (congrArg (fun z : Int32 => some (Value.int z)) (show nI (tkN n 3 cp cq nc >>> pa &&& 1) = spOfPerson n net (stAt n cp cq nc) (tkN n 2 cp cq nc) (tkN n 3 cp cq nc) (nI pa) w from by simp [spOfPerson, spOfP, inP_nI hpa (show n < 2 ^ 31 by omega), nI_clamp (show pa < 2 ^ 31 by omega), *]))
    refine lv_tableOut (tgt := 114) hx hb dX0_ofPerson_16 (sw_out0_5 c_16_0 c_16_1 c_16_2 c_16_3 c_16_4 c_16_5) (by decide) ?_
    refine lv_bipush (v := (-2)) hx hb dX0_ofPerson_114 (by decide) ?_
    exact r_iret S hr hlk dX0_ofPerson_116 (congrArg (fun z : Int32 => some (Value.int z)) (show (-2) = spOfPerson n net (stAt n cp cq nc) (tkN n 2 cp cq nc) (tkN n 3 cp cq nc) (nI pa) w from by simp [spOfPerson, spOfP, inP_nI hpa (show n < 2 ^ 31 by omega), nI_clamp (show pa < 2 ^ 31 by omega), *]))
  · have c_5 := b2i_ne0.mp c_5
    have c_5 : inP v n = false := by simpa using c_5
    refine lv_iconst (v := (-1)) hx hb dX0_ofPerson_8 (by decide) ?_
    exact r_iret S hr hlk dX0_ofPerson_9 (congrArg (fun z : Int32 => some (Value.int z)) (show (-1) = spOfPerson n net (stAt n cp cq nc) (tkN n 2 cp cq nc) (tkN n 3 cp cq nc) v w from by simp [spOfPerson, *]))
