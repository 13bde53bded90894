/-! COMPONENT 2: mayRing, stateOf, verdictAt (by program: gen/comp2.py) -/
set_option maxRecDepth 100000
set_option maxHeartbeats 4000000 in
theorem r0_mayRing (l : Launch) (D : va_G) (dA : Nat → ClassId) (a : Nat → Nat) (σ : MS) (n : Nat) (net : Nat → Nat) (hG : KG σ n net) (r sx tt pa qa : Nat) (hr4 : r < 4) (hv : vld n sx) (ht : tt < 256) (hp : pa < 4) (hqn : qa < n) : RC l yX0_mayRing cX0_mayRing 7 (some .boolean) 2 45 D dA [.ref (a 0), .int (nI r), .int (nI sx), .int (nI tt), .int (nI pa), .int (nI qa)] (fun H => va_P D vwCl (kW dA a σ) H) (fun v9 => v9 = some (.int (b2i (mayB net r sx (tof r tt) pa qa)))) := by
  refine RC.of (by decide) (Nat.le_of_ble_eq_true rfl) ?_
  intro p e s m below meth c ls S hr hlk hK hP hl
  have hx := S.1
  have hb := S.2.1
  have hl : lv_has ls 7 [(0, .ref (a 0)), (1, .int (nI r)), (2, .int (nI sx)), (3, .int (nI tt)), (4, .int (nI pa)), (5, .int (nI qa))] := hl
  have hP : va_P D vwCl (kW dA a σ) s.heap := hP
  have hn := hG.1
  have hnet := hG.2.2.2
  have hs := hv.1
  have hq : qa < 4 := by omega
  have h1 := hs4_lt sx pa
  have h2 := hs4_lt sx qa
  have hnum : numA net sx pa 4 < 16 := numA_lt hnet 4 (by omega)
  have htf := tof_lt (r := r) ht
  refine lv_iload hx hb dX0_mayRing_0 (lv_at hl 4 rfl) ?_
  refine lv_iload hx hb dX0_mayRing_2 (lv_at hl 5 rfl) ?_
  refine lv_icmp_eq (tgt := 41) hx hb dX0_mayRing_4 (by decide) (fun c_4 => ?_) (fun c_4 => ?_)
  · have c_4 : pa = qa := nI_inj (by omega) (by omega) c_4
    refine lv_iconst (v := 0) hx hb dX0_mayRing_41 (by decide) ?_
    refine lv_istore (lv' := [(6, .int 0), (0, .ref (a 0)), (1, .int (nI r)), (2, .int (nI sx)), (3, .int (nI tt)), (4, .int (nI pa)), (5, .int (nI qa))]) hx hb dX0_mayRing_42 hl (by decide) rfl (fun ls hl => ?_)
    refine lv_iload hx hb dX0_mayRing_44 (lv_at hl 0 rfl) ?_
    refine lv_if_eq (tgt := 85) hx hb dX0_mayRing_46 (by decide) (fun c_46 => ?_) (fun c_46 => absurd (by decide) c_46)
    refine lv_iconst (v := 0) hx hb dX0_mayRing_85 (by decide) ?_
    exact r_zret S hr hlk dX0_mayRing_86 (by decide) (congrArg (fun z : Int32 => some (Value.int z)) (show 0 = b2i (mayB net r sx (tof r tt) pa qa) from by rw [may_c hv hqn hn hr4 (fun h => tof_01 h) hp]; first | (rw [c_78]; simp [b2i, *]; done) | (simp [b2i, *]; done)))
  · have c_4 : ¬ pa = qa := fun h => c_4 (congrArg nI h)
    refine lv_aload_n hx hb dX0_mayRing_7 rfl (lv_at hl 0 rfl) ?_
    refine lv_iload_n hx hb dX0_mayRing_8 rfl (lv_at hl 2 rfl) ?_
    refine lv_iload hx hb dX0_mayRing_9 (lv_at hl 4 rfl) ?_
    refine rc_Vi (rest := []) [.int (nI sx), .int (nI pa)] 2 S hK (r0_numbersOf l D dA a σ n net hG sx pa (by first | assumption | omega | decide) (by first | assumption | omega | decide)) wl_X0_96 wd_X0_X0_numbersOf rfl ⟨Nat.le_of_ble_eq_true rfl, Nat.le_of_ble_eq_true rfl⟩ (k_recv hK hP) hl.1 (Nat.le_of_ble_eq_true rfl) dX0_mayRing_11 ⟨Nat.le_refl 0, Nat.le_refl 0⟩ (hP) ?_ rfl
    refine lv_iload hx hb dX0_mayRing_14 (lv_at hl 5 rfl) ?_
    refine rc_Si (rest := []) [.int (nI (numA net sx pa 4)), .int (nI qa)] 2 S hK (r0_isIn l D dA (numA net sx pa 4) qa (by first | assumption | omega | decide) (by first | assumption | omega | decide)) wl_X0_57 wd_X0_X0_isIn rfl ⟨Nat.le_of_ble_eq_true rfl, Nat.le_of_ble_eq_true rfl⟩ hl.1 (Nat.le_of_ble_eq_true rfl) dX0_mayRing_16 ⟨Nat.le_refl 0, Nat.le_refl 0⟩ (trivial) ?_ rfl
    refine lv_if_eq (tgt := 41) hx hb dX0_mayRing_19 (by decide) (fun c_19 => ?_) (fun c_19 => ?_)
    · have c_19 := b2i_eq0.mp c_19
      refine lv_iconst (v := 0) hx hb dX0_mayRing_41 (by decide) ?_
      refine lv_istore (lv' := [(6, .int 0), (0, .ref (a 0)), (1, .int (nI r)), (2, .int (nI sx)), (3, .int (nI tt)), (4, .int (nI pa)), (5, .int (nI qa))]) hx hb dX0_mayRing_42 hl (by decide) rfl (fun ls hl => ?_)
      refine lv_iload hx hb dX0_mayRing_44 (lv_at hl 0 rfl) ?_
      refine lv_if_eq (tgt := 85) hx hb dX0_mayRing_46 (by decide) (fun c_46 => ?_) (fun c_46 => absurd (by decide) c_46)
      refine lv_iconst (v := 0) hx hb dX0_mayRing_85 (by decide) ?_
      exact r_zret S hr hlk dX0_mayRing_86 (by decide) (congrArg (fun z : Int32 => some (Value.int z)) (show 0 = b2i (mayB net r sx (tof r tt) pa qa) from by rw [may_c hv hqn hn hr4 (fun h => tof_01 h) hp]; first | (rw [c_78]; simp [b2i, *]; done) | (simp [b2i, *]; done)))
    · have c_19 := b2i_ne0.mp c_19
      refine lv_iload_n hx hb dX0_mayRing_22 rfl (lv_at hl 2 rfl) ?_
      refine lv_iload hx hb dX0_mayRing_23 (lv_at hl 4 rfl) ?_
      refine rc_Si (rest := []) [.int (nI sx), .int (nI pa)] 2 S hK (r0_hasOf l D dA sx pa (by first | assumption | omega | decide) (by first | assumption | omega | decide)) wl_X0_53 wd_X0_X0_hasOf rfl ⟨Nat.le_of_ble_eq_true rfl, Nat.le_of_ble_eq_true rfl⟩ hl.1 (Nat.le_of_ble_eq_true rfl) dX0_mayRing_25 ⟨Nat.le_refl 0, Nat.le_refl 0⟩ (trivial) ?_ rfl
      refine lv_iload_n hx hb dX0_mayRing_28 rfl (lv_at hl 2 rfl) ?_
      refine lv_iload hx hb dX0_mayRing_29 (lv_at hl 5 rfl) ?_
      refine rc_Si (rest := [.int (nI (hs4 sx pa))]) [.int (nI sx), .int (nI qa)] 2 S hK (r0_hasOf l D dA sx qa (by first | assumption | omega | decide) (by first | assumption | omega | decide)) wl_X0_53 wd_X0_X0_hasOf rfl ⟨Nat.le_of_ble_eq_true rfl, Nat.le_of_ble_eq_true rfl⟩ hl.1 (Nat.le_of_ble_eq_true rfl) dX0_mayRing_31 ⟨Nat.le_refl 0, Nat.le_refl 0⟩ (trivial) ?_ rfl
      refine lv_icmp_eq (tgt := 41) hx hb dX0_mayRing_34 (by decide) (fun c_34 => ?_) (fun c_34 => ?_)
      · have c_34 : hs4 sx pa = hs4 sx qa := nI_inj (by omega) (by omega) c_34
        refine lv_iconst (v := 0) hx hb dX0_mayRing_41 (by decide) ?_
        refine lv_istore (lv' := [(6, .int 0), (0, .ref (a 0)), (1, .int (nI r)), (2, .int (nI sx)), (3, .int (nI tt)), (4, .int (nI pa)), (5, .int (nI qa))]) hx hb dX0_mayRing_42 hl (by decide) rfl (fun ls hl => ?_)
        refine lv_iload hx hb dX0_mayRing_44 (lv_at hl 0 rfl) ?_
        refine lv_if_eq (tgt := 85) hx hb dX0_mayRing_46 (by decide) (fun c_46 => ?_) (fun c_46 => absurd (by decide) c_46)
        refine lv_iconst (v := 0) hx hb dX0_mayRing_85 (by decide) ?_
        exact r_zret S hr hlk dX0_mayRing_86 (by decide) (congrArg (fun z : Int32 => some (Value.int z)) (show 0 = b2i (mayB net r sx (tof r tt) pa qa) from by rw [may_c hv hqn hn hr4 (fun h => tof_01 h) hp]; first | (rw [c_78]; simp [b2i, *]; done) | (simp [b2i, *]; done)))
      · have c_34 : ¬ hs4 sx pa = hs4 sx qa := fun h => c_34 (congrArg nI h)
        refine lv_iconst (v := 1) hx hb dX0_mayRing_37 (by decide) ?_
        refine lv_goto (tgt := 42) hx hb dX0_mayRing_38 (by decide) ?_
        refine lv_istore (lv' := [(6, .int 1), (0, .ref (a 0)), (1, .int (nI r)), (2, .int (nI sx)), (3, .int (nI tt)), (4, .int (nI pa)), (5, .int (nI qa))]) hx hb dX0_mayRing_42 hl (by decide) rfl (fun ls hl => ?_)
        refine lv_iload hx hb dX0_mayRing_44 (lv_at hl 0 rfl) ?_
        refine lv_if_eq (tgt := 85) hx hb dX0_mayRing_46 (by decide) (fun c_46 => absurd c_46 (by decide)) (fun c_46 => ?_)
        refine lv_iload_n hx hb dX0_mayRing_49 rfl (lv_at hl 2 rfl) ?_
        refine lv_iconst (v := 1) hx hb dX0_mayRing_50 (by decide) ?_
        refine lv_icmp_ne (tgt := 68) hx hb dX0_mayRing_51 (by decide) (fun c_51 => ?_) (fun c_51 => ?_)
        · have c_51 : ¬ r = 1 := fun h => c_51 (congrArg nI h)
          refine lv_iload_n hx hb dX0_mayRing_68 rfl (lv_at hl 4 rfl) ?_
          refine lv_iload_n hx hb dX0_mayRing_69 rfl (lv_at hl 2 rfl) ?_
          refine rc_Si (rest := []) [.int (nI tt), .int (nI r)] 2 S hK (r0_tokensOf l D dA tt r (by first | assumption | omega | decide) (by first | assumption | omega | decide)) wl_X0_154 wd_X0_X0_tokensOf rfl ⟨Nat.le_of_ble_eq_true rfl, Nat.le_of_ble_eq_true rfl⟩ hl.1 (Nat.le_of_ble_eq_true rfl) dX0_mayRing_70 ⟨Nat.le_refl 0, Nat.le_refl 0⟩ (trivial) ?_ rfl
          refine lv_iload hx hb dX0_mayRing_73 (lv_at hl 5 rfl) ?_
          refine rc_Si (rest := []) [.int (nI (tof r tt)), .int (nI pa)] 2 S hK (r0_isIn l D dA (tof r tt) pa (by first | assumption | omega | decide) (by first | assumption | omega | decide)) wl_X0_57 wd_X0_X0_isIn rfl ⟨Nat.le_of_ble_eq_true rfl, Nat.le_of_ble_eq_true rfl⟩ hl.1 (Nat.le_of_ble_eq_true rfl) dX0_mayRing_75 ⟨Nat.le_refl 0, Nat.le_refl 0⟩ (trivial) ?_ rfl
          refine lv_if_eq (tgt := 85) hx hb dX0_mayRing_78 (by decide) (fun c_78 => ?_) (fun c_78 => ?_)
          · have c_78 := b2i_eq0.mp c_78
            refine lv_iconst (v := 0) hx hb dX0_mayRing_85 (by decide) ?_
            exact r_zret S hr hlk dX0_mayRing_86 (by decide) (congrArg (fun z : Int32 => some (Value.int z)) (show 0 = b2i (mayB net r sx (tof r tt) pa qa) from by rw [may_c hv hqn hn hr4 (fun h => tof_01 h) hp]; first | (rw [c_78]; simp [b2i, *]; done) | (simp [b2i, *]; done)))
          · have c_78 := b2i_ne0.mp c_78
            refine lv_iconst (v := 1) hx hb dX0_mayRing_81 (by decide) ?_
            refine lv_goto (tgt := 86) hx hb dX0_mayRing_82 (by decide) ?_
            exact r_zret S hr hlk dX0_mayRing_86 (by decide) (congrArg (fun z : Int32 => some (Value.int z)) (show 1 = b2i (mayB net r sx (tof r tt) pa qa) from by rw [may_c hv hqn hn hr4 (fun h => tof_01 h) hp]; first | (rw [c_78]; simp [b2i, *]; done) | (simp [b2i, *]; done)))
        · have c_51 : r = 1 := nI_inj (by omega) (by omega) c_51
          refine lv_iload_n hx hb dX0_mayRing_54 rfl (lv_at hl 3 rfl) ?_
          refine lv_iload hx hb dX0_mayRing_55 (lv_at hl 5 rfl) ?_
          refine rc_Si (rest := []) [.int (nI sx), .int (nI pa)] 2 S hK (r0_hasOf l D dA sx pa (by first | assumption | omega | decide) (by first | assumption | omega | decide)) wl_X0_53 wd_X0_X0_hasOf rfl ⟨Nat.le_of_ble_eq_true rfl, Nat.le_of_ble_eq_true rfl⟩ hl.1 (Nat.le_of_ble_eq_true rfl) dX0_mayRing_57 ⟨Nat.le_refl 0, Nat.le_refl 0⟩ (trivial) ?_ rfl
          refine lv_iload hx hb dX0_mayRing_60 (lv_at hl 6 rfl) ?_
          refine rc_Si (rest := []) [.int (nI (hs4 sx pa)), .int (nI qa)] 2 S hK (r0_isIn l D dA (hs4 sx pa) qa (by first | assumption | omega | decide) (by first | assumption | omega | decide)) wl_X0_57 wd_X0_X0_isIn rfl ⟨Nat.le_of_ble_eq_true rfl, Nat.le_of_ble_eq_true rfl⟩ hl.1 (Nat.le_of_ble_eq_true rfl) dX0_mayRing_62 ⟨Nat.le_refl 0, Nat.le_refl 0⟩ (trivial) ?_ rfl
          refine lv_if_ne (tgt := 85) hx hb dX0_mayRing_65 (by decide) (fun c_65 => ?_) (fun c_65 => ?_)
          · have c_65 := b2i_ne0.mp c_65
            refine lv_iconst (v := 0) hx hb dX0_mayRing_85 (by decide) ?_
            exact r_zret S hr hlk dX0_mayRing_86 (by decide) (congrArg (fun z : Int32 => some (Value.int z)) (show 0 = b2i (mayB net r sx (tof r tt) pa qa) from by rw [may_c hv hqn hn hr4 (fun h => tof_01 h) hp]; first | (rw [c_78]; simp [b2i, *]; done) | (simp [b2i, *]; done)))
          · have c_65 := b2i_eq0.mp c_65
            refine lv_iload_n hx hb dX0_mayRing_68 rfl (lv_at hl 4 rfl) ?_
            refine lv_iload_n hx hb dX0_mayRing_69 rfl (lv_at hl 2 rfl) ?_
            refine rc_Si (rest := []) [.int (nI tt), .int (nI r)] 2 S hK (r0_tokensOf l D dA tt r (by first | assumption | omega | decide) (by first | assumption | omega | decide)) wl_X0_154 wd_X0_X0_tokensOf rfl ⟨Nat.le_of_ble_eq_true rfl, Nat.le_of_ble_eq_true rfl⟩ hl.1 (Nat.le_of_ble_eq_true rfl) dX0_mayRing_70 ⟨Nat.le_refl 0, Nat.le_refl 0⟩ (trivial) ?_ rfl
            refine lv_iload hx hb dX0_mayRing_73 (lv_at hl 5 rfl) ?_
            refine rc_Si (rest := []) [.int (nI (tof r tt)), .int (nI pa)] 2 S hK (r0_isIn l D dA (tof r tt) pa (by first | assumption | omega | decide) (by first | assumption | omega | decide)) wl_X0_57 wd_X0_X0_isIn rfl ⟨Nat.le_of_ble_eq_true rfl, Nat.le_of_ble_eq_true rfl⟩ hl.1 (Nat.le_of_ble_eq_true rfl) dX0_mayRing_75 ⟨Nat.le_refl 0, Nat.le_refl 0⟩ (trivial) ?_ rfl
            refine lv_if_eq (tgt := 85) hx hb dX0_mayRing_78 (by decide) (fun c_78 => ?_) (fun c_78 => ?_)
            · have c_78 := b2i_eq0.mp c_78
              refine lv_iconst (v := 0) hx hb dX0_mayRing_85 (by decide) ?_
              exact r_zret S hr hlk dX0_mayRing_86 (by decide) (congrArg (fun z : Int32 => some (Value.int z)) (show 0 = b2i (mayB net r sx (tof r tt) pa qa) from by rw [may_c hv hqn hn hr4 (fun h => tof_01 h) hp]; first | (rw [c_78]; simp [b2i, *]; done) | (simp [b2i, *]; done)))
            · have c_78 := b2i_ne0.mp c_78
              refine lv_iconst (v := 1) hx hb dX0_mayRing_81 (by decide) ?_
              refine lv_goto (tgt := 86) hx hb dX0_mayRing_82 (by decide) ?_
              exact r_zret S hr hlk dX0_mayRing_86 (by decide) (congrArg (fun z : Int32 => some (Value.int z)) (show 1 = b2i (mayB net r sx (tof r tt) pa qa) from by rw [may_c hv hqn hn hr4 (fun h => tof_01 h) hp]; first | (rw [c_78]; simp [b2i, *]; done) | (simp [b2i, *]; done)))
set_option maxHeartbeats 4000000 in
theorem r0_stateOf (l : Launch) (D : va_G) (dA : Nat → ClassId) (r sx tt : Nat) (hr4 : r < 4) (hs : sx < 65536) (ht : tt < 256) : RC l yX0_stateOf cX0_stateOf 5 (some .int) 1 21 D dA [.int (nI r), .int (nI sx), .int (nI tt)] (fun _ => True) (fun v9 => v9 = some (.int (nI (sOf r sx tt)))) := by
  refine RC.of (by decide) (Nat.le_of_ble_eq_true rfl) ?_
  intro p e s m below meth c ls S hr hlk hK hP hl
  have hx := S.1
  have hb := S.2.1
  have hl : lv_has ls 5 [(0, .int (nI r)), (1, .int (nI sx)), (2, .int (nI tt))] := hl
  refine lv_iconst (v := 0) hx hb dX0_stateOf_0 (by decide) ?_
  refine lv_istore_n (lv' := [(3, .int 0), (0, .int (nI r)), (1, .int (nI sx)), (2, .int (nI tt))]) hx hb dX0_stateOf_1 rfl hl (by decide) rfl (fun ls hl => ?_)
  refine lv_iconst (v := 1) hx hb dX0_stateOf_2 (by decide) ?_
  refine lv_istore (lv' := [(4, .int 1), (3, .int 0), (0, .int (nI r)), (1, .int (nI sx)), (2, .int (nI tt))]) hx hb dX0_stateOf_3 hl (by decide) rfl (fun ls hl => ?_)
  have hloop5 : ∀ (k5 i5 : Nat), i5 + k5 = 15 → ∀ (ls : Array Slot), lv_has ls 5 [(4, .int (nI i5)), (3, .int (nI (soA sx i5))), (0, .int (nI r)), (1, .int (nI sx)), (2, .int (nI tt))] → W p l e ({ frames := 1, cells := 0, slots := 0, locals := 21 }) s m [.int (nI r), .int (nI sx), .int (nI tt)].toArray below meth c s.heap [] 0 0 (RZ below (fun v9 => v9 = some (.int (nI (sOf r sx tt)))) [.int (nI r), .int (nI sx), .int (nI tt)] s) (F0 m 5 ls []) := by
    intro k5
    induction k5 with
    | zero =>
      intro i5 hi5 ls hl
      have hi5 : i5 = 15 := by omega
      refine lv_iload hx hb dX0_stateOf_5 (lv_at hl 0 rfl) ?_
      refine lv_bipush (v := 15) hx hb dX0_stateOf_7 (by decide) ?_
      refine lv_icmp_ge (tgt := 40) hx hb dX0_stateOf_9 (by decide) (fun c_9 => ?_) (fun c_9 => absurd (show nI 15 ≤ nI i5 from nI_le (by omega) (by omega)) c_9)
      refine lv_bipush (v := 16) hx hb dX0_stateOf_40 (by decide) ?_
      refine lv_iload_n hx hb dX0_stateOf_42 rfl (lv_at hl 1 rfl) ?_
      refine lv_imul hx hb dX0_stateOf_43 ?_
      refine lv_iload_n hx hb dX0_stateOf_44 rfl (lv_at hl 2 rfl) ?_
      refine lv_iconst (v := 2) hx hb dX0_stateOf_45 (by decide) ?_
      refine lv_icmp_ge (tgt := 53) hx hb dX0_stateOf_46 (by decide) (fun c_46 => ?_) (fun c_46 => ?_)
      · have c_46 : ¬ r < 2 := fun h => nI_ge h (by decide) c_46
        refine lv_iload_n hx hb dX0_stateOf_53 rfl (lv_at hl 4 rfl) ?_
        refine lv_iload_n hx hb dX0_stateOf_54 rfl (lv_at hl 2 rfl) ?_
        refine rc_Si (rest := [.int (16 * (nI (soA sx i5)))]) [.int (nI tt), .int (nI r)] 2 S hK (r0_tokensOf l D dA tt r (by first | assumption | omega | decide) (by first | assumption | omega | decide)) wl_X0_154 wd_X0_X0_tokensOf rfl ⟨Nat.le_of_ble_eq_true rfl, Nat.le_of_ble_eq_true rfl⟩ hl.1 (Nat.le_of_ble_eq_true rfl) dX0_stateOf_55 ⟨Nat.le_refl 0, Nat.le_refl 0⟩ (trivial) ?_ rfl
        refine lv_iadd hx hb dX0_stateOf_58 ?_
        exact r_iret S hr hlk dX0_stateOf_59 (congrArg (fun z : Int32 => some (Value.int z)) (show (16 * (nI (soA sx i5))) + (nI (tof r tt)) = nI (sOf r sx tt) from by rw [show (16 : Int32) * nI (soA sx i5) = nI (16 * soA sx i5) from pk_mul 16 _, hi5, sOf, if_neg c_46]; exact nI_add _ _))
      · have c_46 : r < 2 := Nat.lt_of_not_le (fun h => c_46 (nI_le h (by omega)))
        refine lv_iconst (v := 0) hx hb dX0_stateOf_49 (by decide) ?_
        refine lv_goto (tgt := 58) hx hb dX0_stateOf_50 (by decide) ?_
        refine lv_iadd hx hb dX0_stateOf_58 ?_
        exact r_iret S hr hlk dX0_stateOf_59 (congrArg (fun z : Int32 => some (Value.int z)) (show (16 * (nI (soA sx i5))) + 0 = nI (sOf r sx tt) from by rw [show (16 : Int32) * nI (soA sx i5) = nI (16 * soA sx i5) from pk_mul 16 _, hi5, sOf, if_pos c_46]; exact Int32.add_zero _))
    | succ k5 ih5 =>
      intro i5 hi5 ls hl
      have hlt5 : i5 < 15 := by omega
      have hso := soA_lt sx i5
      refine lv_iload hx hb dX0_stateOf_5 (lv_at hl 0 rfl) ?_
      refine lv_bipush (v := 15) hx hb dX0_stateOf_7 (by decide) ?_
      refine lv_icmp_ge (tgt := 40) hx hb dX0_stateOf_9 (by decide) (fun c_9 => absurd c_9 (show ¬ nI 15 ≤ nI i5 from nI_ge (by omega) (by omega))) (fun c_9 => ?_)
      refine lv_iload hx hb dX0_stateOf_12 (lv_at hl 0 rfl) ?_
      refine lv_iconst (v := 5) hx hb dX0_stateOf_14 (by decide) ?_
      refine lv_irem hx hb dX0_stateOf_15 (by decide) ?_
      refine lv_if_ne (tgt := 23) hx hb dX0_stateOf_16 (by decide) (fun c_16 => ?_) (fun c_16 => ?_)
      · have c_16 : ¬ i5 % 5 = 0 := fun h => c_16 ((pk_rem (d := 5) (show i5 < 2 ^ 31 by omega) (by decide) (by decide)).trans (by rw [h]; rfl))
        refine lv_iconst (v := 2) hx hb dX0_stateOf_23 (by decide) ?_
        refine lv_iload_n hx hb dX0_stateOf_24 rfl (lv_at hl 1 rfl) ?_
        refine lv_imul hx hb dX0_stateOf_25 ?_
        refine lv_iload_n hx hb dX0_stateOf_26 rfl (lv_at hl 3 rfl) ?_
        refine lv_iload hx hb dX0_stateOf_27 (lv_at hl 0 rfl) ?_
        refine lv_ishr hx hb dX0_stateOf_29 ?_
        refine lv_iconst (v := 1) hx hb dX0_stateOf_30 (by decide) ?_
        refine lv_iand hx hb dX0_stateOf_31 ?_
        refine lv_iadd hx hb dX0_stateOf_32 ?_
        refine lv_istore_n (lv' := [(3, .int ((2 * (nI (soA sx i5))) + (((nI sx) >>> ((nI i5) &&& 31)) &&& 1))), (4, .int (nI i5)), (0, .int (nI r)), (1, .int (nI sx)), (2, .int (nI tt))]) hx hb dX0_stateOf_33 rfl hl (by decide) rfl (fun ls hl => ?_)
        refine lv_iinc (v := nI (i5 + 1)) (lv' := [(4, .int (nI (i5 + 1))), (3, .int ((2 * (nI (soA sx i5))) + (((nI sx) >>> ((nI i5) &&& 31)) &&& 1))), (0, .int (nI r)), (1, .int (nI sx)), (2, .int (nI tt))]) hx hb dX0_stateOf_34 hl (k := 1) rfl (nI_1 _) (by decide) rfl (fun ls hl => ?_)
        refine lv_goto (tgt := 5) hx hb dX0_stateOf_37 (by decide) ?_
        have e5_3 : nI (soA sx (i5 + 1)) = (2 * (nI (soA sx i5))) + (((nI sx) >>> ((nI i5) &&& 31)) &&& 1) := by rw [soA_1 c_16]; exact (by rw [bit_eq (by omega) (by omega), show (2 : Int32) * nI (soA sx i5) = nI (2 * soA sx i5) from pk_mul 2 _, nI_add])
        exact ih5 (i5 + 1) (by omega) ls (by rw [e5_3]; exact lv_sub hl [0, 1, 2, 3, 4] rfl)
      · have c_16 : i5 % 5 = 0 := nI_inj (by omega) (by decide) ((pk_rem (d := 5) (show i5 < 2 ^ 31 by omega) (by decide) (by decide)).symm.trans c_16)
        refine lv_iload_n hx hb dX0_stateOf_19 rfl (lv_at hl 1 rfl) ?_
        refine lv_goto (tgt := 33) hx hb dX0_stateOf_20 (by decide) ?_
        refine lv_istore_n (lv' := [(3, .int (nI (soA sx i5))), (4, .int (nI i5)), (0, .int (nI r)), (1, .int (nI sx)), (2, .int (nI tt))]) hx hb dX0_stateOf_33 rfl hl (by decide) rfl (fun ls hl => ?_)
        refine lv_iinc (v := nI (i5 + 1)) (lv' := [(4, .int (nI (i5 + 1))), (3, .int (nI (soA sx i5))), (0, .int (nI r)), (1, .int (nI sx)), (2, .int (nI tt))]) hx hb dX0_stateOf_34 hl (k := 1) rfl (nI_1 _) (by decide) rfl (fun ls hl => ?_)
        refine lv_goto (tgt := 5) hx hb dX0_stateOf_37 (by decide) ?_
        have e5_3 : nI (soA sx (i5 + 1)) = nI (soA sx i5) := by rw [soA_0 c_16]
        exact ih5 (i5 + 1) (by omega) ls (by rw [e5_3]; exact lv_sub hl [0, 1, 2, 3, 4] rfl)
  exact hloop5 (15 - 1) 1 (by omega) ls (lv_sub hl [0, 1, 2, 3, 4] rfl)
set_option maxHeartbeats 4000000 in
theorem r0_verdictAt (l : Launch) (D : va_G) (dA : Nat → ClassId) (a : Nat → Nat) (σ : MS) (pl : Nat) (hpl : pl < 65536) (x : V4) (hx3 : x.1 < 2 ^ 63) (hg : x.2.1 ≤ x.1) (hx1 : 1 ≤ x.1) (hL : LPc σ pl x) : RC l yX0_verdictAt cX0_verdictAt 2 (some .int) 0 0 D dA [.ref (a 0), .int (nI pl)] (fun H => va_P D vwCl (kW dA a σ) H) (fun v9 => v9 = some (.int (vrd x))) := by
  refine RC.of (by decide) (Nat.le_of_ble_eq_true rfl) ?_
  intro p e s m below meth c ls S hr hlk hK hP hl
  have hx := S.1
  have hb := S.2.1
  have hl : lv_has ls 2 [(0, .ref (a 0)), (1, .int (nI pl))] := hl
  have hP : va_P D vwCl (kW dA a σ) s.heap := hP
  refine lv_aload_n hx hb dX0_verdictAt_0 rfl (lv_at hl 0 rfl) ?_
  refine k_get (v := .ref (a 6)) S hK hP 6 (by decide) fl_X0_30 rfl dX0_verdictAt_1 rfl ?_
  refine lv_iload_n hx hb dX0_verdictAt_4 rfl (lv_at hl 1 rfl) ?_
  refine k_lldn (j := pl) (v := lN x.2.1) S hK hP 6 (by decide) rfl (show pl < 65536 from hpl) dX0_verdictAt_5 (hL.2.1) ?_
  refine lv_aload_n hx hb dX0_verdictAt_6 rfl (lv_at hl 0 rfl) ?_
  refine k_get (v := .ref (a 5)) S hK hP 5 (by decide) fl_X0_26 rfl dX0_verdictAt_7 rfl ?_
  refine lv_iload_n hx hb dX0_verdictAt_10 rfl (lv_at hl 1 rfl) ?_
  refine k_lldn (j := pl) (v := lN x.1) S hK hP 5 (by decide) rfl (show pl < 65536 from hpl) dX0_verdictAt_11 (hL.1) ?_
  refine W.lcmp hx hb dX0_verdictAt_12 ?_
  refine lv_if_ne (tgt := 20) hx hb dX0_verdictAt_13 (by decide) (fun c_13 => ?_) (fun c_13 => ?_)
  · have c_13 := mt (lg_cmp_eq _ _).mpr c_13
    refine lv_aload_n hx hb dX0_verdictAt_20 rfl (lv_at hl 0 rfl) ?_
    refine k_get (v := .ref (a 6)) S hK hP 6 (by decide) fl_X0_30 rfl dX0_verdictAt_21 rfl ?_
    refine lv_iload_n hx hb dX0_verdictAt_24 rfl (lv_at hl 1 rfl) ?_
    refine k_lldn (j := pl) (v := lN x.2.1) S hK hP 6 (by decide) rfl (show pl < 65536 from hpl) dX0_verdictAt_25 (hL.2.1) ?_
    refine lv_lconst (v := 0) hx hb dX0_verdictAt_26 (by decide) ?_
    refine W.lcmp hx hb dX0_verdictAt_27 ?_
    refine lv_if_le (tgt := 35) hx hb dX0_verdictAt_28 (by decide) (fun c_28 => ?_) (fun c_28 => ?_)
    · have c_28 := (lg_cmp_le _ _).mp c_28
      refine lv_iconst (v := 0) hx hb dX0_verdictAt_35 (by decide) ?_
      exact r_iret S hr hlk dX0_verdictAt_36 (congrArg (fun z : Int32 => some (Value.int z)) (show 0 = vrd x from vrd_0 hx3 hg c_28))
    · have c_28 := mt (lg_cmp_le _ _).mpr c_28
      refine lv_iconst (v := 1) hx hb dX0_verdictAt_31 (by decide) ?_
      refine lv_goto (tgt := 36) hx hb dX0_verdictAt_32 (by decide) ?_
      exact r_iret S hr hlk dX0_verdictAt_36 (congrArg (fun z : Int32 => some (Value.int z)) (show 1 = vrd x from vrd_1 hx3 hg c_13 c_28))
  · have c_13 := (lg_cmp_eq _ _).mp c_13
    refine lv_iconst (v := 2) hx hb dX0_verdictAt_16 (by decide) ?_
    refine lv_goto (tgt := 36) hx hb dX0_verdictAt_17 (by decide) ?_
    exact r_iret S hr hlk dX0_verdictAt_36 (congrArg (fun z : Int32 => some (Value.int z)) (show 2 = vrd x from vrd_2 hx3 hg hx1 c_13))
