/-! COMPONENT 14: rows of which one sees the same (by program: gen/comp14.py) -/
set_option maxRecDepth 100000
set_option maxHeartbeats 4000000 in
theorem r0_seesSame (l : Launch) (D : va_G) (dA : Nat → ClassId) (a : Nat → Nat) (σ : MS) (n nc : Nat) (cp cq : Nat → Nat) (ed cap : Nat) (mc : Int32) (f : Nat → Option Nat) (rg : Nat → Nat) (hn : n < 5) (hcq : ∀ j, j < nc → cp j < n ∧ cq j < n) (pa stp fa ta th : Nat) (hpa : pa < 4) (hst : stp < nc) (hfa : fa < 4) (hta : ta < 4) (hth : th < 65536) : RC2 l yX0_seesSame cX0_seesSame 8 (some .boolean) 1 21 D dA [.ref (a 0), .int (nI pa), .ref (rg stp), .int (nI fa), .int (nI ta), .int (nI th)] (fun H => va_P D vwCl (kW dA a σ) H ∧ DY D dA a n nc cp cq ed cap mc f rg H) (fun v9 => v9 = some (.int (b2i (seB n cp cq pa stp fa ta th)))) := by
  refine RC2.of (by decide) (Nat.le_of_ble_eq_true rfl) ?_
  intro p e s m below meth c ls S hr hlk hK2 hP9 hl
  have hx := S.1
  have hb := S.2.1
  have hl : lv_has ls 8 [(0, .ref (a 0)), (1, .int (nI pa)), (2, .ref (rg stp)), (3, .int (nI fa)), (4, .int (nI ta)), (5, .int (nI th))] := hl
  have hK := hK2.1
  have hP := hP9.1
  have hDY := hP9.2
  have hc4 : ∀ j, j < nc → cp j < 4 ∧ cq j < 4 := fun j hj => ⟨by have := (hcq j hj).1; omega, by have := (hcq j hj).2; omega⟩
  have h1 := hc4 stp hst
  have hsn := stAt_lt (n := n) hn (stp + 1) (fun j hj => hc4 j (by omega))
  have h16 := hs4_lt th pa
  have h17 := hs4_lt (stAt n cp cq (stp + 1)) pa
  refine lv_iload_n hx hb dX0_seesSame_0 rfl (lv_at hl 3 rfl) ?_
  refine lv_iload_n hx hb dX0_seesSame_1 rfl (lv_at hl 1 rfl) ?_
  refine lv_icmp_eq (tgt := 11) hx hb dX0_seesSame_2 (by decide) (fun c_2 => ?_) (fun c_2 => ?_)
  · have c_2 : fa = pa := nI_inj (by omega) (by omega) c_2
    refine lv_iconst (v := 1) hx hb dX0_seesSame_11 (by decide) ?_
    refine lv_goto (tgt := 16) hx hb dX0_seesSame_12 (by decide) ?_
    refine lv_istore (lv' := [(6, .int 1), (0, .ref (a 0)), (1, .int (nI pa)), (2, .ref (rg stp)), (3, .int (nI fa)), (4, .int (nI ta)), (5, .int (nI th))]) hx hb dX0_seesSame_16 hl (by decide) rfl (fun ls hl => ?_)
    refine lv_aload_n hx hb dX0_seesSame_18 rfl (lv_at hl 3 rfl) ?_
    refine g_get (v := .int (nI (cp stp))) S hK (knd_lt n cp cq stp) (hDY.2.2.2 stp (by omega)).2 1 (by decide) fl_X0_195 dX0_seesSame_19 rfl ?_
    refine lv_iload_n hx hb dX0_seesSame_22 rfl (lv_at hl 2 rfl) ?_
    refine lv_icmp_eq (tgt := 34) hx hb dX0_seesSame_23 (by decide) (fun c_23 => ?_) (fun c_23 => ?_)
    · have c_23 : cp stp = pa := nI_inj (by omega) (by omega) c_23
      refine lv_iconst (v := 1) hx hb dX0_seesSame_34 (by decide) ?_
      refine lv_goto (tgt := 39) hx hb dX0_seesSame_35 (by decide) ?_
      refine lv_istore (lv' := [(7, .int 1), (6, .int 1), (0, .ref (a 0)), (1, .int (nI pa)), (2, .ref (rg stp)), (3, .int (nI fa)), (4, .int (nI ta)), (5, .int (nI th))]) hx hb dX0_seesSame_39 hl (by decide) rfl (fun ls hl => ?_)
      refine lv_iload hx hb dX0_seesSame_41 (lv_at hl 1 rfl) ?_
      refine lv_iload hx hb dX0_seesSame_43 (lv_at hl 0 rfl) ?_
      refine lv_icmp_ne (tgt := 91) hx hb dX0_seesSame_45 (by decide) (fun c_45 => absurd (by decide) c_45) (fun c_45 => ?_)
      refine lv_iload hx hb dX0_seesSame_48 (lv_at hl 1 rfl) ?_
      refine lv_if_eq (tgt := 87) hx hb dX0_seesSame_50 (by decide) (fun c_50 => absurd c_50 (by decide)) (fun c_50 => ?_)
      refine lv_iload_n hx hb dX0_seesSame_53 rfl (lv_at hl 5 rfl) ?_
      refine lv_aload_n hx hb dX0_seesSame_54 rfl (lv_at hl 4 rfl) ?_
      refine g_get (v := .int (nI (cp stp))) S hK (knd_lt n cp cq stp) (hDY.2.2.2 stp (by omega)).2 1 (by decide) fl_X0_195 dX0_seesSame_55 rfl ?_
      refine lv_icmp_ne (tgt := 91) hx hb dX0_seesSame_58 (by decide) (fun c_58 => ?_) (fun c_58 => ?_)
      · have c_58 : ¬ fa = cp stp := fun h => c_58 (congrArg nI h)
        refine lv_iconst (v := 0) hx hb dX0_seesSame_91 (by decide) ?_
        exact r_zret S hr hlk dX0_seesSame_92 (by decide) (congrArg (fun z : Int32 => some (Value.int z)) (show 0 = b2i (seB n cp cq pa stp fa ta th) from by first | (exfalso; omega) | (simp [seB, b2i, *]; done) | (simp [seB, b2i, *]; omega)))
      · have c_58 : fa = cp stp := nI_inj (by omega) (by omega) c_58
        refine lv_iload hx hb dX0_seesSame_61 (lv_at hl 6 rfl) ?_
        refine lv_aload_n hx hb dX0_seesSame_63 rfl (lv_at hl 4 rfl) ?_
        refine g_get (v := .int (nI (cq stp))) S hK (knd_lt n cp cq stp) (hDY.2.2.2 stp (by omega)).2 2 (by decide) fl_X0_198 dX0_seesSame_64 rfl ?_
        refine lv_icmp_ne (tgt := 91) hx hb dX0_seesSame_67 (by decide) (fun c_67 => ?_) (fun c_67 => ?_)
        · have c_67 : ¬ ta = cq stp := fun h => c_67 (congrArg nI h)
          refine lv_iconst (v := 0) hx hb dX0_seesSame_91 (by decide) ?_
          exact r_zret S hr hlk dX0_seesSame_92 (by decide) (congrArg (fun z : Int32 => some (Value.int z)) (show 0 = b2i (seB n cp cq pa stp fa ta th) from by first | (exfalso; omega) | (simp [seB, b2i, *]; done) | (simp [seB, b2i, *]; omega)))
        · have c_67 : ta = cq stp := nI_inj (by omega) (by omega) c_67
          refine lv_iload hx hb dX0_seesSame_70 (lv_at hl 7 rfl) ?_
          refine lv_iload_n hx hb dX0_seesSame_72 rfl (lv_at hl 3 rfl) ?_
          refine rc_Si (rest := []) [.int (nI th), .int (nI pa)] 2 S hK (r0_hasOf l D dA th pa (by first | assumption | omega | decide) (by first | assumption | omega | decide)) wl_X0_53 wd_X0_X0_hasOf rfl ⟨Nat.le_of_ble_eq_true rfl, Nat.le_of_ble_eq_true rfl⟩ hl.1 (Nat.le_of_ble_eq_true rfl) dX0_seesSame_73 ⟨Nat.le_refl 0, Nat.le_refl 0⟩ (trivial) ?_ rfl
          refine lv_aload_n hx hb dX0_seesSame_76 rfl (lv_at hl 4 rfl) ?_
          refine g_get (v := .int (nI (stAt n cp cq (stp + 1)))) S hK (knd_lt n cp cq stp) (hDY.2.2.2 stp (by omega)).2 3 (by decide) fl_X0_83 dX0_seesSame_77 rfl ?_
          refine lv_iload_n hx hb dX0_seesSame_80 rfl (lv_at hl 3 rfl) ?_
          refine rc_Si (rest := [.int (nI (hs4 th pa))]) [.int (nI (stAt n cp cq (stp + 1))), .int (nI pa)] 2 S hK (r0_hasOf l D dA (stAt n cp cq (stp + 1)) pa (by first | assumption | omega | decide) (by first | assumption | omega | decide)) wl_X0_53 wd_X0_X0_hasOf rfl ⟨Nat.le_of_ble_eq_true rfl, Nat.le_of_ble_eq_true rfl⟩ hl.1 (Nat.le_of_ble_eq_true rfl) dX0_seesSame_81 ⟨Nat.le_refl 0, Nat.le_refl 0⟩ (trivial) ?_ rfl
          refine lv_icmp_ne (tgt := 91) hx hb dX0_seesSame_84 (by decide) (fun c_84 => ?_) (fun c_84 => ?_)
          · have c_84 : ¬ hs4 th pa = hs4 (stAt n cp cq (stp + 1)) pa := fun h => c_84 (congrArg nI h)
            refine lv_iconst (v := 0) hx hb dX0_seesSame_91 (by decide) ?_
            exact r_zret S hr hlk dX0_seesSame_92 (by decide) (congrArg (fun z : Int32 => some (Value.int z)) (show 0 = b2i (seB n cp cq pa stp fa ta th) from by first | (exfalso; omega) | (simp [seB, b2i, *]; done) | (simp [seB, b2i, *]; omega)))
          · have c_84 : hs4 th pa = hs4 (stAt n cp cq (stp + 1)) pa := nI_inj (by omega) (by omega) c_84
            refine lv_iconst (v := 1) hx hb dX0_seesSame_87 (by decide) ?_
            refine lv_goto (tgt := 92) hx hb dX0_seesSame_88 (by decide) ?_
            exact r_zret S hr hlk dX0_seesSame_92 (by decide) (congrArg (fun z : Int32 => some (Value.int z)) (show 1 = b2i (seB n cp cq pa stp fa ta th) from by first | (exfalso; omega) | (simp [seB, b2i, *]; done) | (simp [seB, b2i, *]; omega)))
    · have c_23 : ¬ cp stp = pa := fun h => c_23 (congrArg nI h)
      refine lv_aload_n hx hb dX0_seesSame_26 rfl (lv_at hl 3 rfl) ?_
      refine g_get (v := .int (nI (cq stp))) S hK (knd_lt n cp cq stp) (hDY.2.2.2 stp (by omega)).2 2 (by decide) fl_X0_198 dX0_seesSame_27 rfl ?_
      refine lv_iload_n hx hb dX0_seesSame_30 rfl (lv_at hl 2 rfl) ?_
      refine lv_icmp_ne (tgt := 38) hx hb dX0_seesSame_31 (by decide) (fun c_31 => ?_) (fun c_31 => ?_)
      · have c_31 : ¬ cq stp = pa := fun h => c_31 (congrArg nI h)
        refine lv_iconst (v := 0) hx hb dX0_seesSame_38 (by decide) ?_
        refine lv_istore (lv' := [(7, .int 0), (6, .int 1), (0, .ref (a 0)), (1, .int (nI pa)), (2, .ref (rg stp)), (3, .int (nI fa)), (4, .int (nI ta)), (5, .int (nI th))]) hx hb dX0_seesSame_39 hl (by decide) rfl (fun ls hl => ?_)
        refine lv_iload hx hb dX0_seesSame_41 (lv_at hl 1 rfl) ?_
        refine lv_iload hx hb dX0_seesSame_43 (lv_at hl 0 rfl) ?_
        refine lv_icmp_ne (tgt := 91) hx hb dX0_seesSame_45 (by decide) (fun c_45 => ?_) (fun c_45 => absurd (c_45) (by decide))
        refine lv_iconst (v := 0) hx hb dX0_seesSame_91 (by decide) ?_
        exact r_zret S hr hlk dX0_seesSame_92 (by decide) (congrArg (fun z : Int32 => some (Value.int z)) (show 0 = b2i (seB n cp cq pa stp fa ta th) from by first | (exfalso; omega) | (simp [seB, b2i, *]; done) | (simp [seB, b2i, *]; omega)))
      · have c_31 : cq stp = pa := nI_inj (by omega) (by omega) c_31
        refine lv_iconst (v := 1) hx hb dX0_seesSame_34 (by decide) ?_
        refine lv_goto (tgt := 39) hx hb dX0_seesSame_35 (by decide) ?_
        refine lv_istore (lv' := [(7, .int 1), (6, .int 1), (0, .ref (a 0)), (1, .int (nI pa)), (2, .ref (rg stp)), (3, .int (nI fa)), (4, .int (nI ta)), (5, .int (nI th))]) hx hb dX0_seesSame_39 hl (by decide) rfl (fun ls hl => ?_)
        refine lv_iload hx hb dX0_seesSame_41 (lv_at hl 1 rfl) ?_
        refine lv_iload hx hb dX0_seesSame_43 (lv_at hl 0 rfl) ?_
        refine lv_icmp_ne (tgt := 91) hx hb dX0_seesSame_45 (by decide) (fun c_45 => absurd (by decide) c_45) (fun c_45 => ?_)
        refine lv_iload hx hb dX0_seesSame_48 (lv_at hl 1 rfl) ?_
        refine lv_if_eq (tgt := 87) hx hb dX0_seesSame_50 (by decide) (fun c_50 => absurd c_50 (by decide)) (fun c_50 => ?_)
        refine lv_iload_n hx hb dX0_seesSame_53 rfl (lv_at hl 5 rfl) ?_
        refine lv_aload_n hx hb dX0_seesSame_54 rfl (lv_at hl 4 rfl) ?_
        refine g_get (v := .int (nI (cp stp))) S hK (knd_lt n cp cq stp) (hDY.2.2.2 stp (by omega)).2 1 (by decide) fl_X0_195 dX0_seesSame_55 rfl ?_
        refine lv_icmp_ne (tgt := 91) hx hb dX0_seesSame_58 (by decide) (fun c_58 => ?_) (fun c_58 => ?_)
        · have c_58 : ¬ fa = cp stp := fun h => c_58 (congrArg nI h)
          refine lv_iconst (v := 0) hx hb dX0_seesSame_91 (by decide) ?_
          exact r_zret S hr hlk dX0_seesSame_92 (by decide) (congrArg (fun z : Int32 => some (Value.int z)) (show 0 = b2i (seB n cp cq pa stp fa ta th) from by first | (exfalso; omega) | (simp [seB, b2i, *]; done) | (simp [seB, b2i, *]; omega)))
        · have c_58 : fa = cp stp := nI_inj (by omega) (by omega) c_58
          refine lv_iload hx hb dX0_seesSame_61 (lv_at hl 6 rfl) ?_
          refine lv_aload_n hx hb dX0_seesSame_63 rfl (lv_at hl 4 rfl) ?_
          refine g_get (v := .int (nI (cq stp))) S hK (knd_lt n cp cq stp) (hDY.2.2.2 stp (by omega)).2 2 (by decide) fl_X0_198 dX0_seesSame_64 rfl ?_
          refine lv_icmp_ne (tgt := 91) hx hb dX0_seesSame_67 (by decide) (fun c_67 => ?_) (fun c_67 => ?_)
          · have c_67 : ¬ ta = cq stp := fun h => c_67 (congrArg nI h)
            refine lv_iconst (v := 0) hx hb dX0_seesSame_91 (by decide) ?_
            exact r_zret S hr hlk dX0_seesSame_92 (by decide) (congrArg (fun z : Int32 => some (Value.int z)) (show 0 = b2i (seB n cp cq pa stp fa ta th) from by first | (exfalso; omega) | (simp [seB, b2i, *]; done) | (simp [seB, b2i, *]; omega)))
          · have c_67 : ta = cq stp := nI_inj (by omega) (by omega) c_67
            refine lv_iload hx hb dX0_seesSame_70 (lv_at hl 7 rfl) ?_
            refine lv_iload_n hx hb dX0_seesSame_72 rfl (lv_at hl 3 rfl) ?_
            refine rc_Si (rest := []) [.int (nI th), .int (nI pa)] 2 S hK (r0_hasOf l D dA th pa (by first | assumption | omega | decide) (by first | assumption | omega | decide)) wl_X0_53 wd_X0_X0_hasOf rfl ⟨Nat.le_of_ble_eq_true rfl, Nat.le_of_ble_eq_true rfl⟩ hl.1 (Nat.le_of_ble_eq_true rfl) dX0_seesSame_73 ⟨Nat.le_refl 0, Nat.le_refl 0⟩ (trivial) ?_ rfl
            refine lv_aload_n hx hb dX0_seesSame_76 rfl (lv_at hl 4 rfl) ?_
            refine g_get (v := .int (nI (stAt n cp cq (stp + 1)))) S hK (knd_lt n cp cq stp) (hDY.2.2.2 stp (by omega)).2 3 (by decide) fl_X0_83 dX0_seesSame_77 rfl ?_
            refine lv_iload_n hx hb dX0_seesSame_80 rfl (lv_at hl 3 rfl) ?_
            refine rc_Si (rest := [.int (nI (hs4 th pa))]) [.int (nI (stAt n cp cq (stp + 1))), .int (nI pa)] 2 S hK (r0_hasOf l D dA (stAt n cp cq (stp + 1)) pa (by first | assumption | omega | decide) (by first | assumption | omega | decide)) wl_X0_53 wd_X0_X0_hasOf rfl ⟨Nat.le_of_ble_eq_true rfl, Nat.le_of_ble_eq_true rfl⟩ hl.1 (Nat.le_of_ble_eq_true rfl) dX0_seesSame_81 ⟨Nat.le_refl 0, Nat.le_refl 0⟩ (trivial) ?_ rfl
            refine lv_icmp_ne (tgt := 91) hx hb dX0_seesSame_84 (by decide) (fun c_84 => ?_) (fun c_84 => ?_)
            · have c_84 : ¬ hs4 th pa = hs4 (stAt n cp cq (stp + 1)) pa := fun h => c_84 (congrArg nI h)
              refine lv_iconst (v := 0) hx hb dX0_seesSame_91 (by decide) ?_
              exact r_zret S hr hlk dX0_seesSame_92 (by decide) (congrArg (fun z : Int32 => some (Value.int z)) (show 0 = b2i (seB n cp cq pa stp fa ta th) from by first | (exfalso; omega) | (simp [seB, b2i, *]; done) | (simp [seB, b2i, *]; omega)))
            · have c_84 : hs4 th pa = hs4 (stAt n cp cq (stp + 1)) pa := nI_inj (by omega) (by omega) c_84
              refine lv_iconst (v := 1) hx hb dX0_seesSame_87 (by decide) ?_
              refine lv_goto (tgt := 92) hx hb dX0_seesSame_88 (by decide) ?_
              exact r_zret S hr hlk dX0_seesSame_92 (by decide) (congrArg (fun z : Int32 => some (Value.int z)) (show 1 = b2i (seB n cp cq pa stp fa ta th) from by first | (exfalso; omega) | (simp [seB, b2i, *]; done) | (simp [seB, b2i, *]; omega)))
  · have c_2 : ¬ fa = pa := fun h => c_2 (congrArg nI h)
    refine lv_iload hx hb dX0_seesSame_5 (lv_at hl 4 rfl) ?_
    refine lv_iload_n hx hb dX0_seesSame_7 rfl (lv_at hl 1 rfl) ?_
    refine lv_icmp_ne (tgt := 15) hx hb dX0_seesSame_8 (by decide) (fun c_8 => ?_) (fun c_8 => ?_)
    · have c_8 : ¬ ta = pa := fun h => c_8 (congrArg nI h)
      refine lv_iconst (v := 0) hx hb dX0_seesSame_15 (by decide) ?_
      refine lv_istore (lv' := [(6, .int 0), (0, .ref (a 0)), (1, .int (nI pa)), (2, .ref (rg stp)), (3, .int (nI fa)), (4, .int (nI ta)), (5, .int (nI th))]) hx hb dX0_seesSame_16 hl (by decide) rfl (fun ls hl => ?_)
      refine lv_aload_n hx hb dX0_seesSame_18 rfl (lv_at hl 3 rfl) ?_
      refine g_get (v := .int (nI (cp stp))) S hK (knd_lt n cp cq stp) (hDY.2.2.2 stp (by omega)).2 1 (by decide) fl_X0_195 dX0_seesSame_19 rfl ?_
      refine lv_iload_n hx hb dX0_seesSame_22 rfl (lv_at hl 2 rfl) ?_
      refine lv_icmp_eq (tgt := 34) hx hb dX0_seesSame_23 (by decide) (fun c_23 => ?_) (fun c_23 => ?_)
      · have c_23 : cp stp = pa := nI_inj (by omega) (by omega) c_23
        refine lv_iconst (v := 1) hx hb dX0_seesSame_34 (by decide) ?_
        refine lv_goto (tgt := 39) hx hb dX0_seesSame_35 (by decide) ?_
        refine lv_istore (lv' := [(7, .int 1), (6, .int 0), (0, .ref (a 0)), (1, .int (nI pa)), (2, .ref (rg stp)), (3, .int (nI fa)), (4, .int (nI ta)), (5, .int (nI th))]) hx hb dX0_seesSame_39 hl (by decide) rfl (fun ls hl => ?_)
        refine lv_iload hx hb dX0_seesSame_41 (lv_at hl 1 rfl) ?_
        refine lv_iload hx hb dX0_seesSame_43 (lv_at hl 0 rfl) ?_
        refine lv_icmp_ne (tgt := 91) hx hb dX0_seesSame_45 (by decide) (fun c_45 => ?_) (fun c_45 => absurd (c_45) (by decide))
        refine lv_iconst (v := 0) hx hb dX0_seesSame_91 (by decide) ?_
        exact r_zret S hr hlk dX0_seesSame_92 (by decide) (congrArg (fun z : Int32 => some (Value.int z)) (show 0 = b2i (seB n cp cq pa stp fa ta th) from by first | (exfalso; omega) | (simp [seB, b2i, *]; done) | (simp [seB, b2i, *]; omega)))
      · have c_23 : ¬ cp stp = pa := fun h => c_23 (congrArg nI h)
        refine lv_aload_n hx hb dX0_seesSame_26 rfl (lv_at hl 3 rfl) ?_
        refine g_get (v := .int (nI (cq stp))) S hK (knd_lt n cp cq stp) (hDY.2.2.2 stp (by omega)).2 2 (by decide) fl_X0_198 dX0_seesSame_27 rfl ?_
        refine lv_iload_n hx hb dX0_seesSame_30 rfl (lv_at hl 2 rfl) ?_
        refine lv_icmp_ne (tgt := 38) hx hb dX0_seesSame_31 (by decide) (fun c_31 => ?_) (fun c_31 => ?_)
        · have c_31 : ¬ cq stp = pa := fun h => c_31 (congrArg nI h)
          refine lv_iconst (v := 0) hx hb dX0_seesSame_38 (by decide) ?_
          refine lv_istore (lv' := [(7, .int 0), (6, .int 0), (0, .ref (a 0)), (1, .int (nI pa)), (2, .ref (rg stp)), (3, .int (nI fa)), (4, .int (nI ta)), (5, .int (nI th))]) hx hb dX0_seesSame_39 hl (by decide) rfl (fun ls hl => ?_)
          refine lv_iload hx hb dX0_seesSame_41 (lv_at hl 1 rfl) ?_
          refine lv_iload hx hb dX0_seesSame_43 (lv_at hl 0 rfl) ?_
          refine lv_icmp_ne (tgt := 91) hx hb dX0_seesSame_45 (by decide) (fun c_45 => absurd (by decide) c_45) (fun c_45 => ?_)
          refine lv_iload hx hb dX0_seesSame_48 (lv_at hl 1 rfl) ?_
          refine lv_if_eq (tgt := 87) hx hb dX0_seesSame_50 (by decide) (fun c_50 => ?_) (fun c_50 => absurd (by decide) c_50)
          refine lv_iconst (v := 1) hx hb dX0_seesSame_87 (by decide) ?_
          refine lv_goto (tgt := 92) hx hb dX0_seesSame_88 (by decide) ?_
          exact r_zret S hr hlk dX0_seesSame_92 (by decide) (congrArg (fun z : Int32 => some (Value.int z)) (show 1 = b2i (seB n cp cq pa stp fa ta th) from by first | (exfalso; omega) | (simp [seB, b2i, *]; done) | (simp [seB, b2i, *]; omega)))
        · have c_31 : cq stp = pa := nI_inj (by omega) (by omega) c_31
          refine lv_iconst (v := 1) hx hb dX0_seesSame_34 (by decide) ?_
          refine lv_goto (tgt := 39) hx hb dX0_seesSame_35 (by decide) ?_
          refine lv_istore (lv' := [(7, .int 1), (6, .int 0), (0, .ref (a 0)), (1, .int (nI pa)), (2, .ref (rg stp)), (3, .int (nI fa)), (4, .int (nI ta)), (5, .int (nI th))]) hx hb dX0_seesSame_39 hl (by decide) rfl (fun ls hl => ?_)
          refine lv_iload hx hb dX0_seesSame_41 (lv_at hl 1 rfl) ?_
          refine lv_iload hx hb dX0_seesSame_43 (lv_at hl 0 rfl) ?_
          refine lv_icmp_ne (tgt := 91) hx hb dX0_seesSame_45 (by decide) (fun c_45 => ?_) (fun c_45 => absurd (c_45) (by decide))
          refine lv_iconst (v := 0) hx hb dX0_seesSame_91 (by decide) ?_
          exact r_zret S hr hlk dX0_seesSame_92 (by decide) (congrArg (fun z : Int32 => some (Value.int z)) (show 0 = b2i (seB n cp cq pa stp fa ta th) from by first | (exfalso; omega) | (simp [seB, b2i, *]; done) | (simp [seB, b2i, *]; omega)))
    · have c_8 : ta = pa := nI_inj (by omega) (by omega) c_8
      refine lv_iconst (v := 1) hx hb dX0_seesSame_11 (by decide) ?_
      refine lv_goto (tgt := 16) hx hb dX0_seesSame_12 (by decide) ?_
      refine lv_istore (lv' := [(6, .int 1), (0, .ref (a 0)), (1, .int (nI pa)), (2, .ref (rg stp)), (3, .int (nI fa)), (4, .int (nI ta)), (5, .int (nI th))]) hx hb dX0_seesSame_16 hl (by decide) rfl (fun ls hl => ?_)
      refine lv_aload_n hx hb dX0_seesSame_18 rfl (lv_at hl 3 rfl) ?_
      refine g_get (v := .int (nI (cp stp))) S hK (knd_lt n cp cq stp) (hDY.2.2.2 stp (by omega)).2 1 (by decide) fl_X0_195 dX0_seesSame_19 rfl ?_
      refine lv_iload_n hx hb dX0_seesSame_22 rfl (lv_at hl 2 rfl) ?_
      refine lv_icmp_eq (tgt := 34) hx hb dX0_seesSame_23 (by decide) (fun c_23 => ?_) (fun c_23 => ?_)
      · have c_23 : cp stp = pa := nI_inj (by omega) (by omega) c_23
        refine lv_iconst (v := 1) hx hb dX0_seesSame_34 (by decide) ?_
        refine lv_goto (tgt := 39) hx hb dX0_seesSame_35 (by decide) ?_
        refine lv_istore (lv' := [(7, .int 1), (6, .int 1), (0, .ref (a 0)), (1, .int (nI pa)), (2, .ref (rg stp)), (3, .int (nI fa)), (4, .int (nI ta)), (5, .int (nI th))]) hx hb dX0_seesSame_39 hl (by decide) rfl (fun ls hl => ?_)
        refine lv_iload hx hb dX0_seesSame_41 (lv_at hl 1 rfl) ?_
        refine lv_iload hx hb dX0_seesSame_43 (lv_at hl 0 rfl) ?_
        refine lv_icmp_ne (tgt := 91) hx hb dX0_seesSame_45 (by decide) (fun c_45 => absurd (by decide) c_45) (fun c_45 => ?_)
        refine lv_iload hx hb dX0_seesSame_48 (lv_at hl 1 rfl) ?_
        refine lv_if_eq (tgt := 87) hx hb dX0_seesSame_50 (by decide) (fun c_50 => absurd c_50 (by decide)) (fun c_50 => ?_)
        refine lv_iload_n hx hb dX0_seesSame_53 rfl (lv_at hl 5 rfl) ?_
        refine lv_aload_n hx hb dX0_seesSame_54 rfl (lv_at hl 4 rfl) ?_
        refine g_get (v := .int (nI (cp stp))) S hK (knd_lt n cp cq stp) (hDY.2.2.2 stp (by omega)).2 1 (by decide) fl_X0_195 dX0_seesSame_55 rfl ?_
        refine lv_icmp_ne (tgt := 91) hx hb dX0_seesSame_58 (by decide) (fun c_58 => ?_) (fun c_58 => ?_)
        · have c_58 : ¬ fa = cp stp := fun h => c_58 (congrArg nI h)
          refine lv_iconst (v := 0) hx hb dX0_seesSame_91 (by decide) ?_
          exact r_zret S hr hlk dX0_seesSame_92 (by decide) (congrArg (fun z : Int32 => some (Value.int z)) (show 0 = b2i (seB n cp cq pa stp fa ta th) from by first | (exfalso; omega) | (simp [seB, b2i, *]; done) | (simp [seB, b2i, *]; omega)))
        · have c_58 : fa = cp stp := nI_inj (by omega) (by omega) c_58
          refine lv_iload hx hb dX0_seesSame_61 (lv_at hl 6 rfl) ?_
          refine lv_aload_n hx hb dX0_seesSame_63 rfl (lv_at hl 4 rfl) ?_
          refine g_get (v := .int (nI (cq stp))) S hK (knd_lt n cp cq stp) (hDY.2.2.2 stp (by omega)).2 2 (by decide) fl_X0_198 dX0_seesSame_64 rfl ?_
          refine lv_icmp_ne (tgt := 91) hx hb dX0_seesSame_67 (by decide) (fun c_67 => ?_) (fun c_67 => ?_)
          · have c_67 : ¬ ta = cq stp := fun h => c_67 (congrArg nI h)
            refine lv_iconst (v := 0) hx hb dX0_seesSame_91 (by decide) ?_
            exact r_zret S hr hlk dX0_seesSame_92 (by decide) (congrArg (fun z : Int32 => some (Value.int z)) (show 0 = b2i (seB n cp cq pa stp fa ta th) from by first | (exfalso; omega) | (simp [seB, b2i, *]; done) | (simp [seB, b2i, *]; omega)))
          · have c_67 : ta = cq stp := nI_inj (by omega) (by omega) c_67
            refine lv_iload hx hb dX0_seesSame_70 (lv_at hl 7 rfl) ?_
            refine lv_iload_n hx hb dX0_seesSame_72 rfl (lv_at hl 3 rfl) ?_
            refine rc_Si (rest := []) [.int (nI th), .int (nI pa)] 2 S hK (r0_hasOf l D dA th pa (by first | assumption | omega | decide) (by first | assumption | omega | decide)) wl_X0_53 wd_X0_X0_hasOf rfl ⟨Nat.le_of_ble_eq_true rfl, Nat.le_of_ble_eq_true rfl⟩ hl.1 (Nat.le_of_ble_eq_true rfl) dX0_seesSame_73 ⟨Nat.le_refl 0, Nat.le_refl 0⟩ (trivial) ?_ rfl
            refine lv_aload_n hx hb dX0_seesSame_76 rfl (lv_at hl 4 rfl) ?_
            refine g_get (v := .int (nI (stAt n cp cq (stp + 1)))) S hK (knd_lt n cp cq stp) (hDY.2.2.2 stp (by omega)).2 3 (by decide) fl_X0_83 dX0_seesSame_77 rfl ?_
            refine lv_iload_n hx hb dX0_seesSame_80 rfl (lv_at hl 3 rfl) ?_
            refine rc_Si (rest := [.int (nI (hs4 th pa))]) [.int (nI (stAt n cp cq (stp + 1))), .int (nI pa)] 2 S hK (r0_hasOf l D dA (stAt n cp cq (stp + 1)) pa (by first | assumption | omega | decide) (by first | assumption | omega | decide)) wl_X0_53 wd_X0_X0_hasOf rfl ⟨Nat.le_of_ble_eq_true rfl, Nat.le_of_ble_eq_true rfl⟩ hl.1 (Nat.le_of_ble_eq_true rfl) dX0_seesSame_81 ⟨Nat.le_refl 0, Nat.le_refl 0⟩ (trivial) ?_ rfl
            refine lv_icmp_ne (tgt := 91) hx hb dX0_seesSame_84 (by decide) (fun c_84 => ?_) (fun c_84 => ?_)
            · have c_84 : ¬ hs4 th pa = hs4 (stAt n cp cq (stp + 1)) pa := fun h => c_84 (congrArg nI h)
              refine lv_iconst (v := 0) hx hb dX0_seesSame_91 (by decide) ?_
              exact r_zret S hr hlk dX0_seesSame_92 (by decide) (congrArg (fun z : Int32 => some (Value.int z)) (show 0 = b2i (seB n cp cq pa stp fa ta th) from by first | (exfalso; omega) | (simp [seB, b2i, *]; done) | (simp [seB, b2i, *]; omega)))
            · have c_84 : hs4 th pa = hs4 (stAt n cp cq (stp + 1)) pa := nI_inj (by omega) (by omega) c_84
              refine lv_iconst (v := 1) hx hb dX0_seesSame_87 (by decide) ?_
              refine lv_goto (tgt := 92) hx hb dX0_seesSame_88 (by decide) ?_
              exact r_zret S hr hlk dX0_seesSame_92 (by decide) (congrArg (fun z : Int32 => some (Value.int z)) (show 1 = b2i (seB n cp cq pa stp fa ta th) from by first | (exfalso; omega) | (simp [seB, b2i, *]; done) | (simp [seB, b2i, *]; omega)))
      · have c_23 : ¬ cp stp = pa := fun h => c_23 (congrArg nI h)
        refine lv_aload_n hx hb dX0_seesSame_26 rfl (lv_at hl 3 rfl) ?_
        refine g_get (v := .int (nI (cq stp))) S hK (knd_lt n cp cq stp) (hDY.2.2.2 stp (by omega)).2 2 (by decide) fl_X0_198 dX0_seesSame_27 rfl ?_
        refine lv_iload_n hx hb dX0_seesSame_30 rfl (lv_at hl 2 rfl) ?_
        refine lv_icmp_ne (tgt := 38) hx hb dX0_seesSame_31 (by decide) (fun c_31 => ?_) (fun c_31 => ?_)
        · have c_31 : ¬ cq stp = pa := fun h => c_31 (congrArg nI h)
          refine lv_iconst (v := 0) hx hb dX0_seesSame_38 (by decide) ?_
          refine lv_istore (lv' := [(7, .int 0), (6, .int 1), (0, .ref (a 0)), (1, .int (nI pa)), (2, .ref (rg stp)), (3, .int (nI fa)), (4, .int (nI ta)), (5, .int (nI th))]) hx hb dX0_seesSame_39 hl (by decide) rfl (fun ls hl => ?_)
          refine lv_iload hx hb dX0_seesSame_41 (lv_at hl 1 rfl) ?_
          refine lv_iload hx hb dX0_seesSame_43 (lv_at hl 0 rfl) ?_
          refine lv_icmp_ne (tgt := 91) hx hb dX0_seesSame_45 (by decide) (fun c_45 => ?_) (fun c_45 => absurd (c_45) (by decide))
          refine lv_iconst (v := 0) hx hb dX0_seesSame_91 (by decide) ?_
          exact r_zret S hr hlk dX0_seesSame_92 (by decide) (congrArg (fun z : Int32 => some (Value.int z)) (show 0 = b2i (seB n cp cq pa stp fa ta th) from by first | (exfalso; omega) | (simp [seB, b2i, *]; done) | (simp [seB, b2i, *]; omega)))
        · have c_31 : cq stp = pa := nI_inj (by omega) (by omega) c_31
          refine lv_iconst (v := 1) hx hb dX0_seesSame_34 (by decide) ?_
          refine lv_goto (tgt := 39) hx hb dX0_seesSame_35 (by decide) ?_
          refine lv_istore (lv' := [(7, .int 1), (6, .int 1), (0, .ref (a 0)), (1, .int (nI pa)), (2, .ref (rg stp)), (3, .int (nI fa)), (4, .int (nI ta)), (5, .int (nI th))]) hx hb dX0_seesSame_39 hl (by decide) rfl (fun ls hl => ?_)
          refine lv_iload hx hb dX0_seesSame_41 (lv_at hl 1 rfl) ?_
          refine lv_iload hx hb dX0_seesSame_43 (lv_at hl 0 rfl) ?_
          refine lv_icmp_ne (tgt := 91) hx hb dX0_seesSame_45 (by decide) (fun c_45 => absurd (by decide) c_45) (fun c_45 => ?_)
          refine lv_iload hx hb dX0_seesSame_48 (lv_at hl 1 rfl) ?_
          refine lv_if_eq (tgt := 87) hx hb dX0_seesSame_50 (by decide) (fun c_50 => absurd c_50 (by decide)) (fun c_50 => ?_)
          refine lv_iload_n hx hb dX0_seesSame_53 rfl (lv_at hl 5 rfl) ?_
          refine lv_aload_n hx hb dX0_seesSame_54 rfl (lv_at hl 4 rfl) ?_
          refine g_get (v := .int (nI (cp stp))) S hK (knd_lt n cp cq stp) (hDY.2.2.2 stp (by omega)).2 1 (by decide) fl_X0_195 dX0_seesSame_55 rfl ?_
          refine lv_icmp_ne (tgt := 91) hx hb dX0_seesSame_58 (by decide) (fun c_58 => ?_) (fun c_58 => ?_)
          · have c_58 : ¬ fa = cp stp := fun h => c_58 (congrArg nI h)
            refine lv_iconst (v := 0) hx hb dX0_seesSame_91 (by decide) ?_
            exact r_zret S hr hlk dX0_seesSame_92 (by decide) (congrArg (fun z : Int32 => some (Value.int z)) (show 0 = b2i (seB n cp cq pa stp fa ta th) from by first | (exfalso; omega) | (simp [seB, b2i, *]; done) | (simp [seB, b2i, *]; omega)))
          · have c_58 : fa = cp stp := nI_inj (by omega) (by omega) c_58
            refine lv_iload hx hb dX0_seesSame_61 (lv_at hl 6 rfl) ?_
            refine lv_aload_n hx hb dX0_seesSame_63 rfl (lv_at hl 4 rfl) ?_
            refine g_get (v := .int (nI (cq stp))) S hK (knd_lt n cp cq stp) (hDY.2.2.2 stp (by omega)).2 2 (by decide) fl_X0_198 dX0_seesSame_64 rfl ?_
            refine lv_icmp_ne (tgt := 91) hx hb dX0_seesSame_67 (by decide) (fun c_67 => ?_) (fun c_67 => ?_)
            · have c_67 : ¬ ta = cq stp := fun h => c_67 (congrArg nI h)
              refine lv_iconst (v := 0) hx hb dX0_seesSame_91 (by decide) ?_
              exact r_zret S hr hlk dX0_seesSame_92 (by decide) (congrArg (fun z : Int32 => some (Value.int z)) (show 0 = b2i (seB n cp cq pa stp fa ta th) from by first | (exfalso; omega) | (simp [seB, b2i, *]; done) | (simp [seB, b2i, *]; omega)))
            · have c_67 : ta = cq stp := nI_inj (by omega) (by omega) c_67
              refine lv_iload hx hb dX0_seesSame_70 (lv_at hl 7 rfl) ?_
              refine lv_iload_n hx hb dX0_seesSame_72 rfl (lv_at hl 3 rfl) ?_
              refine rc_Si (rest := []) [.int (nI th), .int (nI pa)] 2 S hK (r0_hasOf l D dA th pa (by first | assumption | omega | decide) (by first | assumption | omega | decide)) wl_X0_53 wd_X0_X0_hasOf rfl ⟨Nat.le_of_ble_eq_true rfl, Nat.le_of_ble_eq_true rfl⟩ hl.1 (Nat.le_of_ble_eq_true rfl) dX0_seesSame_73 ⟨Nat.le_refl 0, Nat.le_refl 0⟩ (trivial) ?_ rfl
              refine lv_aload_n hx hb dX0_seesSame_76 rfl (lv_at hl 4 rfl) ?_
              refine g_get (v := .int (nI (stAt n cp cq (stp + 1)))) S hK (knd_lt n cp cq stp) (hDY.2.2.2 stp (by omega)).2 3 (by decide) fl_X0_83 dX0_seesSame_77 rfl ?_
              refine lv_iload_n hx hb dX0_seesSame_80 rfl (lv_at hl 3 rfl) ?_
              refine rc_Si (rest := [.int (nI (hs4 th pa))]) [.int (nI (stAt n cp cq (stp + 1))), .int (nI pa)] 2 S hK (r0_hasOf l D dA (stAt n cp cq (stp + 1)) pa (by first | assumption | omega | decide) (by first | assumption | omega | decide)) wl_X0_53 wd_X0_X0_hasOf rfl ⟨Nat.le_of_ble_eq_true rfl, Nat.le_of_ble_eq_true rfl⟩ hl.1 (Nat.le_of_ble_eq_true rfl) dX0_seesSame_81 ⟨Nat.le_refl 0, Nat.le_refl 0⟩ (trivial) ?_ rfl
              refine lv_icmp_ne (tgt := 91) hx hb dX0_seesSame_84 (by decide) (fun c_84 => ?_) (fun c_84 => ?_)
              · have c_84 : ¬ hs4 th pa = hs4 (stAt n cp cq (stp + 1)) pa := fun h => c_84 (congrArg nI h)
                refine lv_iconst (v := 0) hx hb dX0_seesSame_91 (by decide) ?_
                exact r_zret S hr hlk dX0_seesSame_92 (by decide) (congrArg (fun z : Int32 => some (Value.int z)) (show 0 = b2i (seB n cp cq pa stp fa ta th) from by first | (exfalso; omega) | (simp [seB, b2i, *]; done) | (simp [seB, b2i, *]; omega)))
              · have c_84 : hs4 th pa = hs4 (stAt n cp cq (stp + 1)) pa := nI_inj (by omega) (by omega) c_84
                refine lv_iconst (v := 1) hx hb dX0_seesSame_87 (by decide) ?_
                refine lv_goto (tgt := 92) hx hb dX0_seesSame_88 (by decide) ?_
                exact r_zret S hr hlk dX0_seesSame_92 (by decide) (congrArg (fun z : Int32 => some (Value.int z)) (show 1 = b2i (seB n cp cq pa stp fa ta th) from by first | (exfalso; omega) | (simp [seB, b2i, *]; done) | (simp [seB, b2i, *]; omega)))
set_option maxHeartbeats 4000000 in
theorem k0_alkS (l : Launch) (D : va_G) (dA : Nat → ClassId) (a : Nat → Nat) (hI : kInj a) (σ : MS) (Ph : Heap → Prop) (hSt : kStb a Ph) (n nc : Nat) (cp cq : Nat → Nat) (ed cap : Nat) (mc : Int32) (f : Nat → Option Nat) (rg : Nat → Nat) (hDYf : ∀ H, Ph H → DY D dA a n nc cp cq ed cap mc f rg H) (net : Nat → Nat) (hcq : ∀ j, j < nc → cp j < n ∧ cq j < n) (hn0 : 0 < n) (hnc : nc ≤ 4) (pa : Nat) (hpa : pa < 4) (fu : Nat) (IH : ∀ (g : Nat), fu = g + 1 → ∀ (σ : MS) (m0 i0 : Nat) (b0 : Bool) (stp sx : Nat), KG σ n net → σ.1 10 = nI m0 → σ.1 11 = nI i0 → σ.1 12 = b2i b0 → stp + g = nc → vld n sx → KC2 l yX0_layAlike cX0_layAlike 7 none (5 + (g + 1)) (200 + 33 * (g + 1)) D dA a [.ref (a 0), .int (nI pa), .int (nI stp), .int (nI sx)] σ Ph (fun v9 σ9 => v9 = none ∧ σ9 = AL n σ m0 i0 b0 (akR n net cp cq pa g stp sx))) (m0 i0 : Nat) (b0 : Bool) (stp sx : Nat) (hG : KG σ n net) (h10 : σ.1 10 = nI m0) (h11 : σ.1 11 = nI i0) (h12 : σ.1 12 = b2i b0) (hfu : stp + fu = nc) (hv : vld n sx) : KC2 l yX0_layAlike cX0_layAlike 7 none (5 + (fu + 1)) (200 + 33 * (fu + 1)) D dA a [.ref (a 0), .int (nI pa), .int (nI stp), .int (nI sx)] σ Ph (fun v9 σ9 => v9 = none ∧ σ9 = AL n σ m0 i0 b0 (akR n net cp cq pa fu stp sx)) := by
  refine KC2.of (by decide) (Nat.le_of_ble_eq_true rfl) ?_
  intro p e s m below meth c ls S hr hlk hK2 hM hPh hl
  have hK := hK2.1
  have hx := S.1
  have hb := S.2.1
  have hl : lv_has ls 7 [(0, .ref (a 0)), (1, .int (nI pa)), (2, .int (nI stp)), (3, .int (nI sx))] := hl
  have hn := hG.1
  have h0 := hG.2.1
  have hnet := hG.2.2.2
  have hs := hv.1
  refine lv_iload_n hx hb dX0_layAlike_0 rfl (lv_at hl 2 rfl) ?_
  refine lv_aload_n hx hb dX0_layAlike_1 rfl (lv_at hl 0 rfl) ?_
  refine k_get (v := .ref (a 3)) S hK hM.1 3 (by decide) fl_X0_18 rfl dX0_layAlike_2 rfl ?_
  have hDY := hDYf _ (hSt.at hM hPh)
  refine rc_Fr (X := .int (nI nc)) (rest := [.int (nI stp)]) [] 0 S hK (hK.1 2 (RJ2, TJ2, 3) rfl).2 (hK2.2.fw (C := RJ2) (x := ⟨"java/util/List", "size", "()I"⟩) (y := yJ2_size) (by simp [fxI]) q220 q218 q203) (rj_size l D dA (a 3) ed cap mc nc f hDY.2.2.1) (lw_F q214 q217 q219 q63 q221) (by decide +kernel) rfl ⟨by show (_ : Nat) ≤ 5 + (fu + 1); omega, by show (_ : Nat) ≤ 200 + 33 * (fu + 1); omega⟩ (va_recv hK hDY.1 (ci := 2) (q0 := 0) rfl rfl) hl.1 (Nat.le_of_ble_eq_true rfl) dX0_layAlike_5 ⟨Nat.le_refl 0, Nat.le_refl 0⟩ hDY.1 ?_ rfl
  refine lv_icmp_ne (tgt := 48) hx hb dX0_layAlike_10 (by decide) (fun c_10 => ?_) (fun c_10 => ?_)
  · have c_10 : ¬ stp = nc := fun h => c_10 (congrArg nI h)
    obtain ⟨g9, hg9⟩ : ∃ g, fu = g + 1 := ⟨fu - 1, by omega⟩
    refine lv_iconst (v := 0) hx hb dX0_layAlike_48 (by decide) ?_
    refine lv_istore (lv' := [(4, .int 0), (0, .ref (a 0)), (1, .int (nI pa)), (2, .int (nI stp)), (3, .int (nI sx))]) hx hb dX0_layAlike_49 hl (by decide) rfl (fun ls hl => ?_)
    have hM := KB.cg hM (show (AL n σ m0 i0 b0 (akP (akR n net cp cq pa g9) n net cp cq pa stp sx (4 * 0))) = σ from AL_nil h10 h11 h12)
    have hloop51 : ∀ (k51 i51 : Nat), i51 + k51 = n → ∀ (H : Heap) (locs : List Loc), KB D dA a (AL n σ m0 i0 b0 (akP (akR n net cp cq pa g9) n net cp cq pa stp sx (4 * i51))) s.heap H locs → ∀ (ls : Array Slot), lv_has ls 7 [(4, .int (nI i51)), (0, .ref (a 0)), (1, .int (nI pa)), (2, .int (nI stp)), (3, .int (nI sx))] → W p l e ({ frames := (5 + (fu + 1)), cells := 0, slots := 0, locals := (200 + 33 * (fu + 1)) }) s m [.ref (a 0), .int (nI pa), .int (nI stp), .int (nI sx)].toArray below meth c H locs 0 0 (KZ below D dA a (fun v9 σ9 => v9 = none ∧ σ9 = AL n σ m0 i0 b0 (akR n net cp cq pa fu stp sx)) [.ref (a 0), .int (nI pa), .int (nI stp), .int (nI sx)] s) (F0 m 51 ls []) := by
      intro k51
      induction k51 with
      | zero =>
        intro i51 hi51 H locs hM ls hl
        have hi51 : i51 = n := by omega
        refine lv_iload hx hb dX0_layAlike_51 (lv_at hl 0 rfl) ?_
        refine lv_aload_n hx hb dX0_layAlike_53 rfl (lv_at hl 1 rfl) ?_
        refine k_get (v := .int ((AL n σ m0 i0 b0 (akP (akR n net cp cq pa g9) n net cp cq pa stp sx (4 * i51))).1 0)) S hK hM.1 0 (by decide) fl_X0_45 rfl dX0_layAlike_54 rfl ?_
        refine topi (z := nI n) (hG.2.1) ?_
        refine lv_icmp_ge (tgt := 153) hx hb dX0_layAlike_57 (by decide) (fun c_57 => ?_) (fun c_57 => absurd (show nI n ≤ nI i51 from nI_le (by omega) (by omega)) c_57)
        exact k_vret S hr hlk hM dX0_layAlike_153 (⟨rfl, by rw [hi51, hg9]; show _ = AL n σ m0 i0 b0 (akP (akR n net cp cq pa g9) n net cp cq pa stp sx 16); rw [akP_all hn]⟩)
      | succ k51 ih51 =>
        intro i51 hi51 H locs hM ls hl
        have hlt51 : i51 < n := by omega
        refine lv_iload hx hb dX0_layAlike_51 (lv_at hl 0 rfl) ?_
        refine lv_aload_n hx hb dX0_layAlike_53 rfl (lv_at hl 1 rfl) ?_
        refine k_get (v := .int ((AL n σ m0 i0 b0 (akP (akR n net cp cq pa g9) n net cp cq pa stp sx (4 * i51))).1 0)) S hK hM.1 0 (by decide) fl_X0_45 rfl dX0_layAlike_54 rfl ?_
        refine topi (z := nI n) (hG.2.1) ?_
        refine lv_icmp_ge (tgt := 153) hx hb dX0_layAlike_57 (by decide) (fun c_57 => absurd c_57 (show ¬ nI n ≤ nI i51 from nI_ge (by omega) (by omega))) (fun c_57 => ?_)
        refine lv_iconst (v := 0) hx hb dX0_layAlike_60 (by decide) ?_
        refine lv_istore (lv' := [(5, .int 0), (4, .int (nI i51)), (0, .ref (a 0)), (1, .int (nI pa)), (2, .int (nI stp)), (3, .int (nI sx))]) hx hb dX0_layAlike_61 hl (by decide) rfl (fun ls hl => ?_)
        have hM := KB.cg hM (show (AL n σ m0 i0 b0 (akP (akR n net cp cq pa g9) n net cp cq pa stp sx (4 * i51 + 0))) = (AL n σ m0 i0 b0 (akP (akR n net cp cq pa g9) n net cp cq pa stp sx (4 * i51))) from rfl)
        have hloop63 : ∀ (k63 i63 : Nat), i63 + k63 = n → ∀ (H : Heap) (locs : List Loc), KB D dA a (AL n σ m0 i0 b0 (akP (akR n net cp cq pa g9) n net cp cq pa stp sx (4 * i51 + i63))) s.heap H locs → ∀ (ls : Array Slot), lv_has ls 7 [(5, .int (nI i63)), (4, .int (nI i51)), (0, .ref (a 0)), (1, .int (nI pa)), (2, .int (nI stp)), (3, .int (nI sx))] → W p l e ({ frames := (5 + (fu + 1)), cells := 0, slots := 0, locals := (200 + 33 * (fu + 1)) }) s m [.ref (a 0), .int (nI pa), .int (nI stp), .int (nI sx)].toArray below meth c H locs 0 0 (KZ below D dA a (fun v9 σ9 => v9 = none ∧ σ9 = AL n σ m0 i0 b0 (akR n net cp cq pa fu stp sx)) [.ref (a 0), .int (nI pa), .int (nI stp), .int (nI sx)] s) (F0 m 63 ls []) := by
          intro k63
          induction k63 with
          | zero =>
            intro i63 hi63 H locs hM ls hl
            have hi63 : i63 = n := by omega
            refine lv_iload hx hb dX0_layAlike_63 (lv_at hl 0 rfl) ?_
            refine lv_aload_n hx hb dX0_layAlike_65 rfl (lv_at hl 2 rfl) ?_
            refine k_get (v := .int ((AL n σ m0 i0 b0 (akP (akR n net cp cq pa g9) n net cp cq pa stp sx (4 * i51 + i63))).1 0)) S hK hM.1 0 (by decide) fl_X0_45 rfl dX0_layAlike_66 rfl ?_
            refine topi (z := nI n) (hG.2.1) ?_
            refine lv_icmp_ge (tgt := 147) hx hb dX0_layAlike_69 (by decide) (fun c_69 => ?_) (fun c_69 => absurd (show nI n ≤ nI i63 from nI_le (by omega) (by omega)) c_69)
            refine lv_iinc (v := nI (i51 + 1)) (lv' := [(4, .int (nI (i51 + 1))), (5, .int (nI i63)), (0, .ref (a 0)), (1, .int (nI pa)), (2, .int (nI stp)), (3, .int (nI sx))]) hx hb dX0_layAlike_147 hl (k := 1) rfl (nI_1 _) (by decide) rfl (fun ls hl => ?_)
            refine lv_goto (tgt := 51) hx hb dX0_layAlike_150 (by decide) ?_
            have hM : KB D dA a (AL n σ m0 i0 b0 (akP (akR n net cp cq pa g9) n net cp cq pa stp sx (4 * (i51 + 1)))) s.heap H locs := by rw [show (AL n σ m0 i0 b0 (akP (akR n net cp cq pa g9) n net cp cq pa stp sx (4 * (i51 + 1)))) = (AL n σ m0 i0 b0 (akP (akR n net cp cq pa g9) n net cp cq pa stp sx (4 * i51 + i63))) from by rw [hi63, akP_row hn]]; exact hM
            exact ih51 (i51 + 1) (by omega) _ _ hM ls (lv_sub hl [0, 2, 3, 4, 5] rfl)
          | succ k63 ih63 =>
            intro i63 hi63 H locs hM ls hl
            have hlt63 : i63 < n := by omega
            refine lv_iload hx hb dX0_layAlike_63 (lv_at hl 0 rfl) ?_
            refine lv_aload_n hx hb dX0_layAlike_65 rfl (lv_at hl 2 rfl) ?_
            refine k_get (v := .int ((AL n σ m0 i0 b0 (akP (akR n net cp cq pa g9) n net cp cq pa stp sx (4 * i51 + i63))).1 0)) S hK hM.1 0 (by decide) fl_X0_45 rfl dX0_layAlike_66 rfl ?_
            refine topi (z := nI n) (hG.2.1) ?_
            refine lv_icmp_ge (tgt := 147) hx hb dX0_layAlike_69 (by decide) (fun c_69 => absurd c_69 (show ¬ nI n ≤ nI i63 from nI_ge (by omega) (by omega))) (fun c_69 => ?_)
            refine lv_iload_n hx hb dX0_layAlike_72 rfl (lv_at hl 5 rfl) ?_
            refine lv_iload hx hb dX0_layAlike_73 (lv_at hl 1 rfl) ?_
            refine lv_iload hx hb dX0_layAlike_75 (lv_at hl 0 rfl) ?_
            refine rc_Si (rest := []) [.int (nI sx), .int (nI i51), .int (nI i63)] 3 S hK (r0_behind l D dA sx i51 i63 (by first | assumption | omega | decide) (by first | assumption | omega | decide) (by first | assumption | omega | decide)) wl_X0_170 wd_X0_X0_behind rfl ⟨by show (_ : Nat) ≤ 5 + (fu + 1); omega, by show (_ : Nat) ≤ 200 + 33 * (fu + 1); omega⟩ hl.1 (Nat.le_of_ble_eq_true rfl) dX0_layAlike_77 ⟨Nat.le_refl 0, Nat.le_refl 0⟩ (trivial) ?_ rfl
            refine lv_istore (lv' := [(6, .int (nI (aft sx i51 i63))), (5, .int (nI i63)), (4, .int (nI i51)), (0, .ref (a 0)), (1, .int (nI pa)), (2, .int (nI stp)), (3, .int (nI sx))]) hx hb dX0_layAlike_80 hl (by decide) rfl (fun ls hl => ?_)
            have hth := aft_lt hs (show i51 < 4 by omega) (show i63 < 4 by omega)
            have hnum : numA net sx i51 4 < 16 := numA_lt hnet 4 (by omega)
            refine lv_iload hx hb dX0_layAlike_82 (lv_at hl 2 rfl) ?_
            refine lv_iload hx hb dX0_layAlike_84 (lv_at hl 1 rfl) ?_
            refine lv_icmp_eq (tgt := 141) hx hb dX0_layAlike_86 (by decide) (fun c_86 => ?_) (fun c_86 => ?_)
            · have c_86 : i51 = i63 := nI_inj (by omega) (by omega) c_86
              have hno : okA n net cp cq pa stp sx i51 i63 = false := by simp [okA, *]
              refine lv_iinc (v := nI (i63 + 1)) (lv' := [(5, .int (nI (i63 + 1))), (6, .int (nI (aft sx i51 i63))), (4, .int (nI i51)), (0, .ref (a 0)), (1, .int (nI pa)), (2, .int (nI stp)), (3, .int (nI sx))]) hx hb dX0_layAlike_141 hl (k := 1) rfl (nI_1 _) (by decide) rfl (fun ls hl => ?_)
              refine lv_goto (tgt := 63) hx hb dX0_layAlike_144 (by decide) ?_
              have hM : KB D dA a (AL n σ m0 i0 b0 (akP (akR n net cp cq pa g9) n net cp cq pa stp sx (4 * i51 + (i63 + 1)))) s.heap H locs := by rw [show (AL n σ m0 i0 b0 (akP (akR n net cp cq pa g9) n net cp cq pa stp sx (4 * i51 + (i63 + 1)))) = (AL n σ m0 i0 b0 (akP (akR n net cp cq pa g9) n net cp cq pa stp sx (4 * i51 + i63))) from by rw [akP_f hlt51 hlt63 hn hno]]; exact hM
              exact ih63 (i63 + 1) (by omega) _ _ hM ls (lv_sub hl [0, 2, 3, 4, 5, 6] rfl)
            · have c_86 : ¬ i51 = i63 := fun h => c_86 (congrArg nI h)
              refine lv_aload_n hx hb dX0_layAlike_89 rfl (lv_at hl 3 rfl) ?_
              refine lv_iload_n hx hb dX0_layAlike_90 rfl (lv_at hl 6 rfl) ?_
              refine lv_iload hx hb dX0_layAlike_91 (lv_at hl 2 rfl) ?_
              refine rc_Vi (rest := []) [.int (nI sx), .int (nI i51)] 2 S hK (r0_numbersOf l D dA a (AL n σ m0 i0 b0 (akP (akR n net cp cq pa g9) n net cp cq pa stp sx (4 * i51 + i63))) n net ⟨hG.1, hG.2.1, hG.2.2.1, hG.2.2.2⟩ sx i51 (hv) (by first | assumption | omega | decide)) wl_X0_96 wd_X0_X0_numbersOf rfl ⟨by show (_ : Nat) ≤ 5 + (fu + 1); omega, by show (_ : Nat) ≤ 200 + 33 * (fu + 1); omega⟩ (k_recv hK hM.1) hl.1 (Nat.le_of_ble_eq_true rfl) dX0_layAlike_93 ⟨Nat.le_refl 0, Nat.le_refl 0⟩ (hM.1) ?_ rfl
              refine lv_iload hx hb dX0_layAlike_96 (lv_at hl 1 rfl) ?_
              refine rc_Si (rest := []) [.int (nI (numA net sx i51 4)), .int (nI i63)] 2 S hK (r0_isIn l D dA (numA net sx i51 4) i63 (by first | assumption | omega | decide) (by first | assumption | omega | decide)) wl_X0_57 wd_X0_X0_isIn rfl ⟨by show (_ : Nat) ≤ 5 + (fu + 1); omega, by show (_ : Nat) ≤ 200 + 33 * (fu + 1); omega⟩ hl.1 (Nat.le_of_ble_eq_true rfl) dX0_layAlike_98 ⟨Nat.le_refl 0, Nat.le_refl 0⟩ (trivial) ?_ rfl
              refine lv_if_eq (tgt := 141) hx hb dX0_layAlike_101 (by decide) (fun c_101 => ?_) (fun c_101 => ?_)
              · have c_101 := b2i_eq0.mp c_101
                have hno : okA n net cp cq pa stp sx i51 i63 = false := by simp [okA, c_101]
                refine lv_iinc (v := nI (i63 + 1)) (lv' := [(5, .int (nI (i63 + 1))), (6, .int (nI (aft sx i51 i63))), (4, .int (nI i51)), (0, .ref (a 0)), (1, .int (nI pa)), (2, .int (nI stp)), (3, .int (nI sx))]) hx hb dX0_layAlike_141 hl (k := 1) rfl (nI_1 _) (by decide) rfl (fun ls hl => ?_)
                refine lv_goto (tgt := 63) hx hb dX0_layAlike_144 (by decide) ?_
                have hM : KB D dA a (AL n σ m0 i0 b0 (akP (akR n net cp cq pa g9) n net cp cq pa stp sx (4 * i51 + (i63 + 1)))) s.heap H locs := by rw [show (AL n σ m0 i0 b0 (akP (akR n net cp cq pa g9) n net cp cq pa stp sx (4 * i51 + (i63 + 1)))) = (AL n σ m0 i0 b0 (akP (akR n net cp cq pa g9) n net cp cq pa stp sx (4 * i51 + i63))) from by rw [akP_f hlt51 hlt63 hn hno]]; exact hM
                exact ih63 (i63 + 1) (by omega) _ _ hM ls (lv_sub hl [0, 2, 3, 4, 5, 6] rfl)
              · have c_101 := b2i_ne0.mp c_101
                refine lv_aload_n hx hb dX0_layAlike_104 rfl (lv_at hl 3 rfl) ?_
                refine lv_iload_n hx hb dX0_layAlike_105 rfl (lv_at hl 4 rfl) ?_
                refine lv_aload_n hx hb dX0_layAlike_106 rfl (lv_at hl 3 rfl) ?_
                refine k_get (v := .ref (a 3)) S hK hM.1 3 (by decide) fl_X0_18 rfl dX0_layAlike_107 rfl ?_
                refine lv_iload_n hx hb dX0_layAlike_110 rfl (lv_at hl 5 rfl) ?_
                have hDY := hDYf _ (hSt.at hM hPh)
                refine rc_Fr (X := .ref (rg stp)) (rest := [.int (nI pa), .ref (a 0)]) [.int (nI stp)] 1 S hK (hK.1 2 (RJ2, TJ2, 3) rfl).2 (hK2.2.fw (C := RJ2) (x := ⟨"java/util/List", "get", "(I)Ljava/lang/Object;"⟩) (y := yJ2_get) (by simp [fxI]) q229 q227 q203) (rj_get l D dA (a 3) ed cap mc nc f hDY.2.2.1 hDY.2.1 stp (rg stp) (by omega) (hDY.2.2.2 _ (by omega)).1) (lw_F q223 q226 q228 q63 q230) (by decide +kernel) rfl ⟨by show (_ : Nat) ≤ 5 + (fu + 1); omega, by show (_ : Nat) ≤ 200 + 33 * (fu + 1); omega⟩ (va_recv hK hDY.1 (ci := 2) (q0 := 0) rfl rfl) hl.1 (Nat.le_of_ble_eq_true rfl) dX0_layAlike_111 ⟨Nat.le_refl 0, Nat.le_refl 0⟩ hDY.1 ?_ rfl
                have hDY := hDYf _ (hSt.at hM hPh)
                refine g_cast S hK2 (knd_lt n cp cq stp) (hDY.2.2.2 stp (by omega)).2 q241 dX0_layAlike_116 ?_
                refine lv_iload hx hb dX0_layAlike_119 (lv_at hl 2 rfl) ?_
                refine lv_iload hx hb dX0_layAlike_121 (lv_at hl 1 rfl) ?_
                refine lv_iload hx hb dX0_layAlike_123 (lv_at hl 0 rfl) ?_
                refine rc2_V (rest := []) [.int (nI pa), .ref (rg stp), .int (nI i51), .int (nI i63), .int (nI (aft sx i51 i63))] 5 S hK2 (r0_seesSame l D dA a (AL n σ m0 i0 b0 (akP (akR n net cp cq pa g9) n net cp cq pa stp sx (4 * i51 + i63))) n nc cp cq ed cap mc f rg hn hcq pa stp i51 i63 (aft sx i51 i63) (by omega) (by omega) (by omega) (by omega) (by omega)) wl_X0_211 wd_X0_X0_seesSame rfl ⟨by show (_ : Nat) ≤ 5 + (fu + 1); omega, by show (_ : Nat) ≤ 200 + 33 * (fu + 1); omega⟩ (k_recv hK hM.1) hl.1 (Nat.le_of_ble_eq_true rfl) dX0_layAlike_125 ⟨Nat.le_refl 0, Nat.le_refl 0⟩ ⟨hM.1, (hDYf _ (hSt.at hM hPh))⟩ (fun v9 hv9 => ?_) rfl
                subst hv9
                refine W.eq (g2 := F0 m 128 ls [.int (b2i (seB n cp cq pa stp i51 i63 (aft sx i51 i63)))]) rfl ?_
                refine lv_if_eq (tgt := 141) hx hb dX0_layAlike_128 (by decide) (fun c_128 => ?_) (fun c_128 => ?_)
                · have c_128 := b2i_eq0.mp c_128
                  have hno : okA n net cp cq pa stp sx i51 i63 = false := by simp [okA, c_128]
                  refine lv_iinc (v := nI (i63 + 1)) (lv' := [(5, .int (nI (i63 + 1))), (6, .int (nI (aft sx i51 i63))), (4, .int (nI i51)), (0, .ref (a 0)), (1, .int (nI pa)), (2, .int (nI stp)), (3, .int (nI sx))]) hx hb dX0_layAlike_141 hl (k := 1) rfl (nI_1 _) (by decide) rfl (fun ls hl => ?_)
                  refine lv_goto (tgt := 63) hx hb dX0_layAlike_144 (by decide) ?_
                  have hM : KB D dA a (AL n σ m0 i0 b0 (akP (akR n net cp cq pa g9) n net cp cq pa stp sx (4 * i51 + (i63 + 1)))) s.heap H locs := by rw [show (AL n σ m0 i0 b0 (akP (akR n net cp cq pa g9) n net cp cq pa stp sx (4 * i51 + (i63 + 1)))) = (AL n σ m0 i0 b0 (akP (akR n net cp cq pa g9) n net cp cq pa stp sx (4 * i51 + i63))) from by rw [akP_f hlt51 hlt63 hn hno]]; exact hM
                  exact ih63 (i63 + 1) (by omega) _ _ hM ls (lv_sub hl [0, 2, 3, 4, 5, 6] rfl)
                · have c_128 := b2i_ne0.mp c_128
                  have hyes : okA n net cp cq pa stp sx i51 i63 = true := by simp [okA, c_86, c_101, c_128, hlt51, hlt63]
                  refine lv_aload_n hx hb dX0_layAlike_131 rfl (lv_at hl 3 rfl) ?_
                  refine lv_iload_n hx hb dX0_layAlike_132 rfl (lv_at hl 4 rfl) ?_
                  refine lv_iload_n hx hb dX0_layAlike_133 rfl (lv_at hl 5 rfl) ?_
                  refine lv_iconst (v := 1) hx hb dX0_layAlike_134 (by decide) ?_
                  refine lv_iadd hx hb dX0_layAlike_135 ?_
                  refine topi (z := nI (stp + 1)) (nI_1 _) ?_
                  refine lv_iload hx hb dX0_layAlike_136 (lv_at hl 0 rfl) ?_
                  refine kc2_V (rest := []) [.int (nI pa), .int (nI (stp + 1)), .int (nI (aft sx i51 i63))] 3 S hK2 hM (IH g9 hg9 (AL n σ m0 i0 b0 (akP (akR n net cp cq pa g9) n net cp cq pa stp sx (4 * i51 + i63))) _ _ _ (stp + 1) (aft sx i51 i63) ⟨hG.1, hG.2.1, hG.2.2.1, hG.2.2.2⟩ rfl rfl rfl (by omega) (vld_aft hn hv hlt51 hlt63)) wl_X0_215 wd_X0_X0_layAlike rfl ⟨by show (_ : Nat) ≤ 5 + (fu + 1); omega, by show (_ : Nat) ≤ 200 + 33 * (fu + 1); omega⟩ hl.1 (Nat.le_of_ble_eq_true rfl) dX0_layAlike_138 ⟨Nat.le_refl 0, Nat.le_refl 0⟩ (hSt.at hM hPh) (fun v σ138 H locs hq hM => ?_) rfl
                  obtain ⟨rfl, rfl⟩ := hq
                  refine W.eq (g2 := F0 m 141 ls []) rfl ?_
                  refine lv_iinc (v := nI (i63 + 1)) (lv' := [(5, .int (nI (i63 + 1))), (6, .int (nI (aft sx i51 i63))), (4, .int (nI i51)), (0, .ref (a 0)), (1, .int (nI pa)), (2, .int (nI stp)), (3, .int (nI sx))]) hx hb dX0_layAlike_141 hl (k := 1) rfl (nI_1 _) (by decide) rfl (fun ls hl => ?_)
                  refine lv_goto (tgt := 63) hx hb dX0_layAlike_144 (by decide) ?_
                  have hM : KB D dA a (AL n σ m0 i0 b0 (akP (akR n net cp cq pa g9) n net cp cq pa stp sx (4 * i51 + (i63 + 1)))) s.heap H locs := by rw [show (AL n σ m0 i0 b0 (akP (akR n net cp cq pa g9) n net cp cq pa stp sx (4 * i51 + (i63 + 1)))) = (AL n (AL n σ m0 i0 b0 (akP (akR n net cp cq pa g9) n net cp cq pa stp sx (4 * i51 + i63))) (m0 + (akP (akR n net cp cq pa g9) n net cp cq pa stp sx (4 * i51 + i63)).length) (andL i0 (akP (akR n net cp cq pa g9) n net cp cq pa stp sx (4 * i51 + i63))) (b0 && (akP (akR n net cp cq pa g9) n net cp cq pa stp sx (4 * i51 + i63)).all (exB n)) (akR n net cp cq pa g9 (stp + 1) (aft sx i51 i63))) from by rw [akP_t hlt51 hlt63 hn hyes]; exact AL_app.symm]; exact hM
                  exact ih63 (i63 + 1) (by omega) _ _ hM ls (lv_sub hl [0, 2, 3, 4, 5, 6] rfl)
        exact hloop63 (n) 0 (by omega) _ _ hM ls (lv_sub hl [0, 1, 2, 3, 4, 5] rfl)
    exact hloop51 (n) 0 (by omega) _ _ hM ls (lv_sub hl [0, 1, 2, 3, 4] rfl)
  · have c_10 : stp = nc := nI_inj (by omega) (by omega) c_10
    refine lv_aload_n hx hb dX0_layAlike_13 rfl (lv_at hl 0 rfl) ?_
    refine lv_dup hx hb dX0_layAlike_14 rfl ?_
    refine k_get (v := .int (σ.1 10)) S hK hM.1 10 (by decide) fl_X0_201 rfl dX0_layAlike_15 rfl ?_
    refine topi (z := nI m0) (h10) ?_
    refine lv_iconst (v := 1) hx hb dX0_layAlike_18 (by decide) ?_
    refine lv_iadd hx hb dX0_layAlike_19 ?_
    refine topi (z := nI (m0 + 1)) (nI_1 _) ?_
    refine k_put hI S hK hM 10 (by decide) rfl fl_X0_201 rfl rfl (by decide +kernel) dX0_layAlike_20 (fun H locs hM => ?_)
    refine lv_aload_n hx hb dX0_layAlike_23 rfl (lv_at hl 0 rfl) ?_
    refine lv_dup hx hb dX0_layAlike_24 rfl ?_
    refine k_get (v := .int (σ.1 11)) S hK hM.1 11 (by decide) fl_X0_204 rfl dX0_layAlike_25 rfl ?_
    refine topi (z := nI i0) (h11) ?_
    refine lv_iload_n hx hb dX0_layAlike_28 rfl (lv_at hl 3 rfl) ?_
    refine lv_iand hx hb dX0_layAlike_29 ?_
    refine topi (z := nI (i0 &&& sx)) (nI_and _ _) ?_
    refine k_put hI S hK hM 11 (by decide) rfl fl_X0_204 rfl rfl (by decide +kernel) dX0_layAlike_30 (fun H locs hM => ?_)
    refine lv_aload_n hx hb dX0_layAlike_33 rfl (lv_at hl 0 rfl) ?_
    refine lv_dup hx hb dX0_layAlike_34 rfl ?_
    refine k_get (v := .int (σ.1 12)) S hK hM.1 12 (by decide) fl_X0_207 rfl dX0_layAlike_35 rfl ?_
    refine topi (z := b2i b0) (h12) ?_
    refine lv_aload_n hx hb dX0_layAlike_38 rfl (lv_at hl 0 rfl) ?_
    refine lv_iload_n hx hb dX0_layAlike_39 rfl (lv_at hl 3 rfl) ?_
    refine rc_Vi (rest := [.int (b2i b0), .ref (a 0)]) [.int (nI sx)] 1 S hK (r0_areExperts l D dA a ((σ.i 10 (nI (m0 + 1))).i 11 (nI (i0 &&& sx))) n hn (hG.2.1) sx (by first | assumption | omega | decide)) wl_X0_184 wd_X0_X0_areExperts rfl ⟨by show (_ : Nat) ≤ 5 + (fu + 1); omega, by show (_ : Nat) ≤ 200 + 33 * (fu + 1); omega⟩ (k_recv hK hM.1) hl.1 (Nat.le_of_ble_eq_true rfl) dX0_layAlike_40 ⟨Nat.le_refl 0, Nat.le_refl 0⟩ (hM.1) ?_ rfl
    refine lv_iand hx hb dX0_layAlike_43 ?_
    refine topi (z := b2i (b0 && exB n sx)) (b2i_and _ _) ?_
    refine k_putz hI S hK hM fl_X0_207 dX0_layAlike_44 (b2i_nar _) (b2i_fit _) (fun H locs hM => ?_)
    exact k_vret S hr hlk hM dX0_layAlike_47 (⟨rfl, by rw [show fu = 0 by omega]; show _ = AL n σ m0 i0 b0 [sx]; simp [AL, andL]⟩)
/-- the rows from a step on, to any depth -/
theorem k0_layAlike (l : Launch) (D : va_G) (dA : Nat → ClassId) (a : Nat → Nat) (hI : kInj a) (Ph : Heap → Prop) (hSt : kStb a Ph) (n nc : Nat) (cp cq : Nat → Nat) (ed cap : Nat) (mc : Int32) (f : Nat → Option Nat) (rg : Nat → Nat) (hDYf : ∀ H, Ph H → DY D dA a n nc cp cq ed cap mc f rg H) (net : Nat → Nat) (hcq : ∀ j, j < nc → cp j < n ∧ cq j < n) (hn0 : 0 < n) (hnc : nc ≤ 4) (pa : Nat) (hpa : pa < 4) : ∀ (fu : Nat) (σ : MS) (m0 i0 : Nat) (b0 : Bool) (stp sx : Nat), KG σ n net → σ.1 10 = nI m0 → σ.1 11 = nI i0 → σ.1 12 = b2i b0 → stp + fu = nc → vld n sx → KC2 l yX0_layAlike cX0_layAlike 7 none (5 + (fu + 1)) (200 + 33 * (fu + 1)) D dA a [.ref (a 0), .int (nI pa), .int (nI stp), .int (nI sx)] σ Ph (fun v9 σ9 => v9 = none ∧ σ9 = AL n σ m0 i0 b0 (akR n net cp cq pa fu stp sx))
  | 0, σ, m0, i0, b0, stp, sx, h1, h2, h3, h4, h5, h6 => k0_alkS l D dA a hI σ Ph hSt n nc cp cq ed cap mc f rg hDYf net hcq hn0 hnc pa hpa 0 (fun _ h => absurd h (by omega)) m0 i0 b0 stp sx h1 h2 h3 h4 h5 h6
  | g + 1, σ, m0, i0, b0, stp, sx, h1, h2, h3, h4, h5, h6 => k0_alkS l D dA a hI σ Ph hSt n nc cp cq ed cap mc f rg hDYf net hcq hn0 hnc pa hpa (g + 1) (fun g' e σ' m' i' b' st' s' a1 a2 a3 a4 a5 a6 => by cases (show g' = g by omega); exact k0_layAlike l D dA a hI Ph hSt n nc cp cq ed cap mc f rg hDYf net hcq hn0 hnc pa hpa g σ' m' i' b' st' s' a1 a2 a3 a4 a5 a6) m0 i0 b0 stp sx h1 h2 h3 h4 h5 h6
