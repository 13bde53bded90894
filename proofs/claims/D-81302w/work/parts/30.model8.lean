/-! MODEL 8: joined, sun (by program: gen/model8.py) -/
set_option maxRecDepth 100000
set_option maxHeartbeats 4000000 in
theorem r1_isJoined (l : Launch) (D : va_G) (dA : Nat → ClassId) (b : Nat) (f : Nat → Int32) (net : Nat → Nat) (n : Nat) (hf : ∀ q, q < n → f q = nI (net q)) (hnet : ∀ q, q < n → net q < 16) (hn : n < 5) : RC l yX1_isJoined cX1_isJoined 6 (some .boolean) 1 21 D dA [.ref b, .int (nI n)] (fun H => H[b]? = some (vp_cell (dA 0) (4, .inl f))) (fun v9 => v9 = some (.int (b2i (jnB net n)))) := by
  refine RC.of (by decide) (Nat.le_of_ble_eq_true rfl) ?_
  intro p e s m below meth c ls S hr hlk hK hP hl
  have hx := S.1
  have hb := S.2.1
  have hl : lv_has ls 6 [(0, .ref b), (1, .int (nI n))] := hl
  refine lv_iconst (v := 1) hx hb dX1_isJoined_0 (by decide) ?_
  refine lv_istore_n (lv' := [(2, .int 1), (0, .ref b), (1, .int (nI n))]) hx hb dX1_isJoined_1 rfl hl (by decide) rfl (fun ls hl => ?_)
  refine lv_iconst (v := 0) hx hb dX1_isJoined_2 (by decide) ?_
  refine lv_istore_n (lv' := [(3, .int 0), (2, .int 1), (0, .ref b), (1, .int (nI n))]) hx hb dX1_isJoined_3 rfl hl (by decide) rfl (fun ls hl => ?_)
  have hloop4 : ∀ (k4 i4 : Nat), i4 + k4 = n → ∀ (ls : Array Slot), lv_has ls 6 [(3, .int (nI i4)), (2, .int (nI (jA net n i4))), (0, .ref b), (1, .int (nI n))] → W p l e ({ frames := 1, cells := 0, slots := 0, locals := 21 }) s m [.ref b, .int (nI n)].toArray below meth c s.heap [] 0 0 (RZ below (fun v9 => v9 = some (.int (b2i (jnB net n)))) [.ref b, .int (nI n)] s) (F0 m 4 ls []) := by
    intro k4
    induction k4 with
    | zero =>
      intro i4 hi4 ls hl
      have hi4 : i4 = n := by omega
      refine lv_iload_n hx hb dX1_isJoined_4 rfl (lv_at hl 0 rfl) ?_
      refine lv_iload_n hx hb dX1_isJoined_5 rfl (lv_at hl 3 rfl) ?_
      refine lv_icmp_ge (tgt := 94) hx hb dX1_isJoined_6 (by decide) (fun c_6 => ?_) (fun c_6 => absurd (show nI n ≤ nI i4 from nI_le (by omega) (by omega)) c_6)
      refine lv_iload_n hx hb dX1_isJoined_94 rfl (lv_at hl 3 rfl) ?_
      refine lv_if_le (tgt := 111) hx hb dX1_isJoined_95 (by decide) (fun c_95 => ?_) (fun c_95 => ?_)
      · have c_95 : n = 0 := by have := (nI_leI (b := 0) (by omega) (by decide)).mp c_95; omega
        refine lv_iconst (v := 0) hx hb dX1_isJoined_111 (by decide) ?_
        exact r_zret S hr hlk dX1_isJoined_112 (by decide) (congrArg (fun z : Int32 => some (Value.int z)) (show 0 = b2i (jnB net n) from by simp [jnB, b2i, *]))
      · have c_95 : ¬ n = 0 := fun h => c_95 (by rw [h]; decide)
        refine lv_iload_n hx hb dX1_isJoined_98 rfl (lv_at hl 1 rfl) ?_
        refine lv_iconst (v := 1) hx hb dX1_isJoined_99 (by decide) ?_
        refine lv_iload_n hx hb dX1_isJoined_100 rfl (lv_at hl 3 rfl) ?_
        refine lv_ishl hx hb dX1_isJoined_101 ?_
        refine lv_iconst (v := 1) hx hb dX1_isJoined_102 (by decide) ?_
        refine lv_isub hx hb dX1_isJoined_103 ?_
        refine topi (z := nI (al n)) (al_eq n hn) ?_
        refine lv_icmp_ne (tgt := 111) hx hb dX1_isJoined_104 (by decide) (fun c_104 => ?_) (fun c_104 => ?_)
        · have c_104 : ¬ jA net n n = al n := fun h => c_104 (by rw [hi4, h])
          refine lv_iconst (v := 0) hx hb dX1_isJoined_111 (by decide) ?_
          exact r_zret S hr hlk dX1_isJoined_112 (by decide) (congrArg (fun z : Int32 => some (Value.int z)) (show 0 = b2i (jnB net n) from by simp [jnB, b2i, *]))
        · have c_104 : jA net n n = al n := by rw [hi4] at c_104; exact nI_inj (Nat.lt_trans (jA_lt hn n) (by decide)) (Nat.lt_trans (al_lt n hn) (by decide)) c_104
          refine lv_iconst (v := 1) hx hb dX1_isJoined_107 (by decide) ?_
          refine lv_goto (tgt := 112) hx hb dX1_isJoined_108 (by decide) ?_
          exact r_zret S hr hlk dX1_isJoined_112 (by decide) (congrArg (fun z : Int32 => some (Value.int z)) (show 1 = b2i (jnB net n) from by simp [jnB, b2i, *]))
    | succ k4 ih4 =>
      intro i4 hi4 ls hl
      have hlt4 : i4 < n := by omega
      refine lv_iload_n hx hb dX1_isJoined_4 rfl (lv_at hl 0 rfl) ?_
      refine lv_iload_n hx hb dX1_isJoined_5 rfl (lv_at hl 3 rfl) ?_
      refine lv_icmp_ge (tgt := 94) hx hb dX1_isJoined_6 (by decide) (fun c_6 => absurd c_6 (show ¬ nI n ≤ nI i4 from nI_ge (by omega) (by omega))) (fun c_6 => ?_)
      refine lv_iconst (v := 0) hx hb dX1_isJoined_9 (by decide) ?_
      refine lv_istore (lv' := [(4, .int 0), (3, .int (nI i4)), (2, .int (nI (jA net n i4))), (0, .ref b), (1, .int (nI n))]) hx hb dX1_isJoined_10 hl (by decide) rfl (fun ls hl => ?_)
      have hloop12 : ∀ (k12 i12 : Nat), i12 + k12 = n → ∀ (ls : Array Slot), lv_has ls 6 [(4, .int (nI i12)), (3, .int (nI i4)), (2, .int (nI (jP net n (jA net n i4) i12))), (0, .ref b), (1, .int (nI n))] → W p l e ({ frames := 1, cells := 0, slots := 0, locals := 21 }) s m [.ref b, .int (nI n)].toArray below meth c s.heap [] 0 0 (RZ below (fun v9 => v9 = some (.int (b2i (jnB net n)))) [.ref b, .int (nI n)] s) (F0 m 12 ls []) := by
        intro k12
        induction k12 with
        | zero =>
          intro i12 hi12 ls hl
          have hi12 : i12 = n := by omega
          refine lv_iload hx hb dX1_isJoined_12 (lv_at hl 0 rfl) ?_
          refine lv_iload_n hx hb dX1_isJoined_14 rfl (lv_at hl 4 rfl) ?_
          refine lv_icmp_ge (tgt := 88) hx hb dX1_isJoined_15 (by decide) (fun c_15 => ?_) (fun c_15 => absurd (show nI n ≤ nI i12 from nI_le (by omega) (by omega)) c_15)
          refine lv_iinc (v := nI (i4 + 1)) (lv' := [(3, .int (nI (i4 + 1))), (4, .int (nI i12)), (2, .int (nI (jP net n (jA net n i4) i12))), (0, .ref b), (1, .int (nI n))]) hx hb dX1_isJoined_88 hl (k := 1) rfl (nI_1 _) (by decide) rfl (fun ls hl => ?_)
          refine lv_goto (tgt := 4) hx hb dX1_isJoined_91 (by decide) ?_
          have e4_2 : nI (jA net n (i4 + 1)) = nI (jP net n (jA net n i4) i12) := by rw [hi12]; rfl
          exact ih4 (i4 + 1) (by omega) ls (by rw [e4_2]; exact lv_sub hl [0, 2, 3, 4] rfl)
        | succ k12 ih12 =>
          intro i12 hi12 ls hl
          have hlt12 : i12 < n := by omega
          refine lv_iload hx hb dX1_isJoined_12 (lv_at hl 0 rfl) ?_
          refine lv_iload_n hx hb dX1_isJoined_14 rfl (lv_at hl 4 rfl) ?_
          refine lv_icmp_ge (tgt := 88) hx hb dX1_isJoined_15 (by decide) (fun c_15 => absurd c_15 (show ¬ nI n ≤ nI i12 from nI_ge (by omega) (by omega))) (fun c_15 => ?_)
          refine lv_iconst (v := 0) hx hb dX1_isJoined_18 (by decide) ?_
          refine lv_istore (lv' := [(5, .int 0), (4, .int (nI i12)), (3, .int (nI i4)), (2, .int (nI (jP net n (jA net n i4) i12))), (0, .ref b), (1, .int (nI n))]) hx hb dX1_isJoined_19 hl (by decide) rfl (fun ls hl => ?_)
          have hloop21 : ∀ (k21 i21 : Nat), i21 + k21 = n → ∀ (ls : Array Slot), lv_has ls 6 [(5, .int (nI i21)), (4, .int (nI i12)), (3, .int (nI i4)), (2, .int (nI (jQ net i12 (jP net n (jA net n i4) i12) i21))), (0, .ref b), (1, .int (nI n))] → W p l e ({ frames := 1, cells := 0, slots := 0, locals := 21 }) s m [.ref b, .int (nI n)].toArray below meth c s.heap [] 0 0 (RZ below (fun v9 => v9 = some (.int (b2i (jnB net n)))) [.ref b, .int (nI n)] s) (F0 m 21 ls []) := by
            intro k21
            induction k21 with
            | zero =>
              intro i21 hi21 ls hl
              have hi21 : i21 = n := by omega
              refine lv_iload hx hb dX1_isJoined_21 (lv_at hl 0 rfl) ?_
              refine lv_iload_n hx hb dX1_isJoined_23 rfl (lv_at hl 5 rfl) ?_
              refine lv_icmp_ge (tgt := 82) hx hb dX1_isJoined_24 (by decide) (fun c_24 => ?_) (fun c_24 => absurd (show nI n ≤ nI i21 from nI_le (by omega) (by omega)) c_24)
              refine lv_iinc (v := nI (i12 + 1)) (lv' := [(4, .int (nI (i12 + 1))), (5, .int (nI i21)), (3, .int (nI i4)), (2, .int (nI (jQ net i12 (jP net n (jA net n i4) i12) i21))), (0, .ref b), (1, .int (nI n))]) hx hb dX1_isJoined_82 hl (k := 1) rfl (nI_1 _) (by decide) rfl (fun ls hl => ?_)
              refine lv_goto (tgt := 12) hx hb dX1_isJoined_85 (by decide) ?_
              have e12_2 : nI (jP net n (jA net n i4) (i12 + 1)) = nI (jQ net i12 (jP net n (jA net n i4) i12) i21) := by rw [hi21]; rfl
              exact ih12 (i12 + 1) (by omega) ls (by rw [e12_2]; exact lv_sub hl [0, 2, 3, 4, 5] rfl)
            | succ k21 ih21 =>
              intro i21 hi21 ls hl
              have hlt21 : i21 < n := by omega
              have hj9 : jQ net i12 (jP net n (jA net n i4) i12) i21 < 16 := jQ_lt (by omega) (jP_lt hn (jA_lt hn i4) i12 (by omega)) i21 (by omega)
              have hb9 := hnet i12 (by omega)
              refine lv_iload hx hb dX1_isJoined_21 (lv_at hl 0 rfl) ?_
              refine lv_iload_n hx hb dX1_isJoined_23 rfl (lv_at hl 5 rfl) ?_
              refine lv_icmp_ge (tgt := 82) hx hb dX1_isJoined_24 (by decide) (fun c_24 => absurd c_24 (show ¬ nI n ≤ nI i21 from nI_ge (by omega) (by omega))) (fun c_24 => ?_)
              refine lv_iload hx hb dX1_isJoined_27 (lv_at hl 1 rfl) ?_
              refine lv_iload hx hb dX1_isJoined_29 (lv_at hl 0 rfl) ?_
              refine lv_icmp_eq (tgt := 76) hx hb dX1_isJoined_31 (by decide) (fun c_31 => ?_) (fun c_31 => ?_)
              · have c_31 : i12 = i21 := nI_inj (by omega) (by omega) c_31
                refine lv_iinc (v := nI (i21 + 1)) (lv' := [(5, .int (nI (i21 + 1))), (4, .int (nI i12)), (3, .int (nI i4)), (2, .int (nI (jQ net i12 (jP net n (jA net n i4) i12) i21))), (0, .ref b), (1, .int (nI n))]) hx hb dX1_isJoined_76 hl (k := 0) rfl (nI_1 _) (by decide) rfl (fun ls hl => ?_)
                refine lv_goto (tgt := 21) hx hb dX1_isJoined_79 (by decide) ?_
                have e21_2 : nI (jQ net i12 (jP net n (jA net n i4) i12) (i21 + 1)) = nI (jQ net i12 (jP net n (jA net n i4) i12) i21) := by exact jQ_e c_31
                exact ih21 (i21 + 1) (by omega) ls (by rw [e21_2]; exact lv_sub hl [0, 1, 2, 3, 4, 5] rfl)
              · have c_31 : ¬ i12 = i21 := fun h => c_31 (congrArg nI h)
                refine lv_aload_n hx hb dX1_isJoined_34 rfl (lv_at hl 4 rfl) ?_
                refine lv_iload hx hb dX1_isJoined_35 (lv_at hl 1 rfl) ?_
                refine c_aldn (j := i12) (v := nI (net i12)) S hK hP (show i12 < 4 by omega) (by decide) dX1_isJoined_37 (hf i12 (by omega)) ?_
                refine lv_iload hx hb dX1_isJoined_38 (lv_at hl 0 rfl) ?_
                refine rc_Si (rest := []) [.int (nI (net i12)), .int (nI i21)] 2 S hK (r1_has l D dA (net i12) i21 (by first | assumption | omega | decide) (by first | assumption | omega | decide)) wl_X1_106 wd_X1_X1_has rfl ⟨Nat.le_of_ble_eq_true rfl, Nat.le_of_ble_eq_true rfl⟩ hl.1 (Nat.le_of_ble_eq_true rfl) dX1_isJoined_40 ⟨Nat.le_refl 0, Nat.le_refl 0⟩ (trivial) ?_ rfl
                refine lv_if_eq (tgt := 76) hx hb dX1_isJoined_43 (by decide) (fun c_43 => ?_) (fun c_43 => ?_)
                · have c_43 := b2i_eq0.mp c_43
                  refine lv_iinc (v := nI (i21 + 1)) (lv' := [(5, .int (nI (i21 + 1))), (4, .int (nI i12)), (3, .int (nI i4)), (2, .int (nI (jQ net i12 (jP net n (jA net n i4) i12) i21))), (0, .ref b), (1, .int (nI n))]) hx hb dX1_isJoined_76 hl (k := 0) rfl (nI_1 _) (by decide) rfl (fun ls hl => ?_)
                  refine lv_goto (tgt := 21) hx hb dX1_isJoined_79 (by decide) ?_
                  have e21_2 : nI (jQ net i12 (jP net n (jA net n i4) i12) (i21 + 1)) = nI (jQ net i12 (jP net n (jA net n i4) i12) i21) := by exact jQ_n c_31 c_43
                  exact ih21 (i21 + 1) (by omega) ls (by rw [e21_2]; exact lv_sub hl [0, 1, 2, 3, 4, 5] rfl)
                · have c_43 := b2i_ne0.mp c_43
                  refine lv_iload_n hx hb dX1_isJoined_46 rfl (lv_at hl 3 rfl) ?_
                  refine lv_iload hx hb dX1_isJoined_47 (lv_at hl 1 rfl) ?_
                  refine rc_Si (rest := []) [.int (nI (jQ net i12 (jP net n (jA net n i4) i12) i21)), .int (nI i12)] 2 S hK (r1_has l D dA (jQ net i12 (jP net n (jA net n i4) i12) i21) i12 (by first | assumption | omega | decide) (by first | assumption | omega | decide)) wl_X1_106 wd_X1_X1_has rfl ⟨Nat.le_of_ble_eq_true rfl, Nat.le_of_ble_eq_true rfl⟩ hl.1 (Nat.le_of_ble_eq_true rfl) dX1_isJoined_49 ⟨Nat.le_refl 0, Nat.le_refl 0⟩ (trivial) ?_ rfl
                  refine lv_if_ne (tgt := 64) hx hb dX1_isJoined_52 (by decide) (fun c_52 => ?_) (fun c_52 => ?_)
                  · have c_52 := b2i_ne0.mp c_52
                    refine lv_iload_n hx hb dX1_isJoined_64 rfl (lv_at hl 3 rfl) ?_
                    refine lv_iconst (v := 1) hx hb dX1_isJoined_65 (by decide) ?_
                    refine lv_iload hx hb dX1_isJoined_66 (lv_at hl 1 rfl) ?_
                    refine lv_ishl hx hb dX1_isJoined_68 ?_
                    refine topi (z := nI (2 ^ i12)) (shl1 _ (by omega)) ?_
                    refine lv_iconst (v := 1) hx hb dX1_isJoined_69 (by decide) ?_
                    refine lv_iload hx hb dX1_isJoined_70 (lv_at hl 0 rfl) ?_
                    refine lv_ishl hx hb dX1_isJoined_72 ?_
                    refine topi (z := nI (2 ^ i21)) (shl1 _ (by omega)) ?_
                    refine lv_ior hx hb dX1_isJoined_73 ?_
                    refine lv_ior hx hb dX1_isJoined_74 ?_
                    refine lv_istore_n (lv' := [(2, .int ((nI (jQ net i12 (jP net n (jA net n i4) i12) i21)) ||| ((nI (2 ^ i12)) ||| (nI (2 ^ i21))))), (5, .int (nI i21)), (4, .int (nI i12)), (3, .int (nI i4)), (0, .ref b), (1, .int (nI n))]) hx hb dX1_isJoined_75 rfl hl (by decide) rfl (fun ls hl => ?_)
                    refine lv_iinc (v := nI (i21 + 1)) (lv' := [(5, .int (nI (i21 + 1))), (2, .int ((nI (jQ net i12 (jP net n (jA net n i4) i12) i21)) ||| ((nI (2 ^ i12)) ||| (nI (2 ^ i21))))), (4, .int (nI i12)), (3, .int (nI i4)), (0, .ref b), (1, .int (nI n))]) hx hb dX1_isJoined_76 hl (k := 1) rfl (nI_1 _) (by decide) rfl (fun ls hl => ?_)
                    refine lv_goto (tgt := 21) hx hb dX1_isJoined_79 (by decide) ?_
                    have e21_2 : nI (jQ net i12 (jP net n (jA net n i4) i12) (i21 + 1)) = (nI (jQ net i12 (jP net n (jA net n i4) i12) i21)) ||| ((nI (2 ^ i12)) ||| (nI (2 ^ i21))) := by exact jQ_1 c_31 c_43 c_52
                    exact ih21 (i21 + 1) (by omega) ls (by rw [e21_2]; exact lv_sub hl [0, 2, 3, 1, 4, 5] rfl)
                  · have c_52 := b2i_eq0.mp c_52
                    refine lv_iload_n hx hb dX1_isJoined_55 rfl (lv_at hl 3 rfl) ?_
                    refine lv_iload hx hb dX1_isJoined_56 (lv_at hl 0 rfl) ?_
                    refine rc_Si (rest := []) [.int (nI (jQ net i12 (jP net n (jA net n i4) i12) i21)), .int (nI i21)] 2 S hK (r1_has l D dA (jQ net i12 (jP net n (jA net n i4) i12) i21) i21 (by first | assumption | omega | decide) (by first | assumption | omega | decide)) wl_X1_106 wd_X1_X1_has rfl ⟨Nat.le_of_ble_eq_true rfl, Nat.le_of_ble_eq_true rfl⟩ hl.1 (Nat.le_of_ble_eq_true rfl) dX1_isJoined_58 ⟨Nat.le_refl 0, Nat.le_refl 0⟩ (trivial) ?_ rfl
                    refine lv_if_eq (tgt := 76) hx hb dX1_isJoined_61 (by decide) (fun c_61 => ?_) (fun c_61 => ?_)
                    · have c_61 := b2i_eq0.mp c_61
                      refine lv_iinc (v := nI (i21 + 1)) (lv' := [(5, .int (nI (i21 + 1))), (4, .int (nI i12)), (3, .int (nI i4)), (2, .int (nI (jQ net i12 (jP net n (jA net n i4) i12) i21))), (0, .ref b), (1, .int (nI n))]) hx hb dX1_isJoined_76 hl (k := 0) rfl (nI_1 _) (by decide) rfl (fun ls hl => ?_)
                      refine lv_goto (tgt := 21) hx hb dX1_isJoined_79 (by decide) ?_
                      have e21_2 : nI (jQ net i12 (jP net n (jA net n i4) i12) (i21 + 1)) = nI (jQ net i12 (jP net n (jA net n i4) i12) i21) := by exact jQ_0 c_31 c_43 c_52 c_61
                      exact ih21 (i21 + 1) (by omega) ls (by rw [e21_2]; exact lv_sub hl [0, 1, 2, 3, 4, 5] rfl)
                    · have c_61 := b2i_ne0.mp c_61
                      refine lv_iload_n hx hb dX1_isJoined_64 rfl (lv_at hl 3 rfl) ?_
                      refine lv_iconst (v := 1) hx hb dX1_isJoined_65 (by decide) ?_
                      refine lv_iload hx hb dX1_isJoined_66 (lv_at hl 1 rfl) ?_
                      refine lv_ishl hx hb dX1_isJoined_68 ?_
                      refine topi (z := nI (2 ^ i12)) (shl1 _ (by omega)) ?_
                      refine lv_iconst (v := 1) hx hb dX1_isJoined_69 (by decide) ?_
                      refine lv_iload hx hb dX1_isJoined_70 (lv_at hl 0 rfl) ?_
                      refine lv_ishl hx hb dX1_isJoined_72 ?_
                      refine topi (z := nI (2 ^ i21)) (shl1 _ (by omega)) ?_
                      refine lv_ior hx hb dX1_isJoined_73 ?_
                      refine lv_ior hx hb dX1_isJoined_74 ?_
                      refine lv_istore_n (lv' := [(2, .int ((nI (jQ net i12 (jP net n (jA net n i4) i12) i21)) ||| ((nI (2 ^ i12)) ||| (nI (2 ^ i21))))), (5, .int (nI i21)), (4, .int (nI i12)), (3, .int (nI i4)), (0, .ref b), (1, .int (nI n))]) hx hb dX1_isJoined_75 rfl hl (by decide) rfl (fun ls hl => ?_)
                      refine lv_iinc (v := nI (i21 + 1)) (lv' := [(5, .int (nI (i21 + 1))), (2, .int ((nI (jQ net i12 (jP net n (jA net n i4) i12) i21)) ||| ((nI (2 ^ i12)) ||| (nI (2 ^ i21))))), (4, .int (nI i12)), (3, .int (nI i4)), (0, .ref b), (1, .int (nI n))]) hx hb dX1_isJoined_76 hl (k := 1) rfl (nI_1 _) (by decide) rfl (fun ls hl => ?_)
                      refine lv_goto (tgt := 21) hx hb dX1_isJoined_79 (by decide) ?_
                      have e21_2 : nI (jQ net i12 (jP net n (jA net n i4) i12) (i21 + 1)) = (nI (jQ net i12 (jP net n (jA net n i4) i12) i21)) ||| ((nI (2 ^ i12)) ||| (nI (2 ^ i21))) := by exact jQ_2 c_31 c_43 c_52 c_61
                      exact ih21 (i21 + 1) (by omega) ls (by rw [e21_2]; exact lv_sub hl [0, 2, 3, 1, 4, 5] rfl)
          exact hloop21 (n) 0 (by omega) ls (lv_sub hl [0, 1, 2, 3, 4, 5] rfl)
      exact hloop12 (n) 0 (by omega) ls (lv_sub hl [0, 1, 2, 3, 4] rfl)
  exact hloop4 (n) 0 (by omega) ls (lv_sub hl [0, 1, 2, 3] rfl)
set_option maxHeartbeats 4000000 in
theorem r1_joined (l : Launch) (D : va_G) (dA : Nat → ClassId) (a : Nat → Nat) (σ : MS) (n : Nat) (net : Nat → Nat) (nc : Nat) (cp cq : Nat → Nat) (hG : MG σ n net nc cp cq) : RC l yX1_joined cX1_joined 1 (some .int) 2 46 D dA [.ref (a 0)] (fun H => va_P D vwCl (mW dA a σ) H) (fun v9 => v9 = some (.int (spJoined n net))) := by
  refine RC.of (by decide) (Nat.le_of_ble_eq_true rfl) ?_
  intro p e s m below meth c ls S hr hlk hK hP hl
  have hx := S.1
  have hb := S.2.1
  have hl : lv_has ls 1 [(0, .ref (a 0))] := hl
  have hP : va_P D vwCl (mW dA a σ) s.heap := hP
  have hn := hG.1
  have hnc := hG.2.2.2.1
  refine lv_aload_n hx hb dX1_joined_0 rfl (lv_at hl 0 rfl) ?_
  refine m_get (v := .int (σ.1 5)) S hK hP 5 (by decide) fl_X1_82 rfl dX1_joined_1 rfl ?_
  refine topi (z := nI n) (hG.2.1) ?_
  refine lv_if_ne (tgt := 12) hx hb dX1_joined_4 (by decide) (fun c_4 => ?_) (fun c_4 => ?_)
  · have c_4 : ¬ n = 0 := fun h => c_4 (congrArg nI h)
    refine lv_aload_n hx hb dX1_joined_12 rfl (lv_at hl 0 rfl) ?_
    refine m_get (v := .ref (a 6)) S hK hP 6 (by decide) fl_X1_19 rfl dX1_joined_13 rfl ?_
    refine lv_aload_n hx hb dX1_joined_16 rfl (lv_at hl 0 rfl) ?_
    refine m_get (v := .int (σ.1 5)) S hK hP 5 (by decide) fl_X1_82 rfl dX1_joined_17 rfl ?_
    refine topi (z := nI n) (hG.2.1) ?_
    refine rc_Si (rest := []) [.ref (a 6), .int (nI n)] 2 S hK (r1_isJoined l D dA (a 6) (σ.2.1 6) net n (fun q hq9 => (hG.2.2.1 q (Nat.lt_of_lt_of_le hq9 (by omega))).1) (fun q hq9 => (hG.2.2.1 q (Nat.lt_of_lt_of_le hq9 (by omega))).2) (by omega)) wl_X1_213 wd_X1_X1_isJoined rfl ⟨Nat.le_of_ble_eq_true rfl, Nat.le_of_ble_eq_true rfl⟩ hl.1 (Nat.le_of_ble_eq_true rfl) dX1_joined_20 ⟨Nat.le_refl 0, Nat.le_refl 0⟩ (m_cell hP 6 (by decide) rfl) ?_ rfl
    refine lv_if_eq (tgt := 30) hx hb dX1_joined_23 (by decide) (fun c_23 => ?_) (fun c_23 => ?_)
    · have c_23 := b2i_eq0.mp c_23
      refine lv_iconst (v := 0) hx hb dX1_joined_30 (by decide) ?_
      exact r_iret S hr hlk dX1_joined_31 (congrArg (fun z : Int32 => some (Value.int z)) (show 0 = spJoined n net from by simp [spJoined, b2i, *]))
    · have c_23 := b2i_ne0.mp c_23
      refine lv_iconst (v := 1) hx hb dX1_joined_26 (by decide) ?_
      refine lv_goto (tgt := 31) hx hb dX1_joined_27 (by decide) ?_
      exact r_iret S hr hlk dX1_joined_31 (congrArg (fun z : Int32 => some (Value.int z)) (show 1 = spJoined n net from by simp [spJoined, b2i, *]))
  · have c_4 : n = 0 := nI_inj (by omega) (by decide) c_4
    refine lv_bipush (v := (-3)) hx hb dX1_joined_7 (by decide) ?_
    refine lv_goto (tgt := 31) hx hb dX1_joined_9 (by decide) ?_
    exact r_iret S hr hlk dX1_joined_31 (congrArg (fun z : Int32 => some (Value.int z)) (show (-3) = spJoined n net from by simp [spJoined, b2i, *]))
set_option maxHeartbeats 4000000 in
theorem r1_sun (l : Launch) (D : va_G) (dA : Nat → ClassId) (a : Nat → Nat) (σ : MS) (n : Nat) (net : Nat → Nat) (nc : Nat) (cp cq : Nat → Nat) (hG : MG σ n net nc cp cq) : RC l yX1_sun cX1_sun 6 (some .int) 1 21 D dA [.ref (a 0)] (fun H => va_P D vwCl (mW dA a σ) H) (fun v9 => v9 = some (.int (spSun n net))) := by
  refine RC.of (by decide) (Nat.le_of_ble_eq_true rfl) ?_
  intro p e s m below meth c ls S hr hlk hK hP hl
  have hx := S.1
  have hb := S.2.1
  have hl : lv_has ls 6 [(0, .ref (a 0))] := hl
  have hP : va_P D vwCl (mW dA a σ) s.heap := hP
  have hn := hG.1
  have hnc := hG.2.2.2.1
  have hnet : ∀ q, q < 4 → net q < 16 := fun q hq => (hG.2.2.1 q hq).2
  have hw16 := wnt_lt (net := net) n (by omega)
  refine lv_aload_n hx hb dX1_sun_0 rfl (lv_at hl 0 rfl) ?_
  refine m_get (v := .int (σ.1 5)) S hK hP 5 (by decide) fl_X1_82 rfl dX1_sun_1 rfl ?_
  refine topi (z := nI n) (hG.2.1) ?_
  refine lv_if_ne (tgt := 10) hx hb dX1_sun_4 (by decide) (fun c_4 => ?_) (fun c_4 => ?_)
  · have c_4 : ¬ n = 0 := fun h => c_4 (congrArg nI h)
    refine lv_iconst (v := 0) hx hb dX1_sun_10 (by decide) ?_
    refine lv_istore_n (lv' := [(1, .int 0), (0, .ref (a 0))]) hx hb dX1_sun_11 rfl hl (by decide) rfl (fun ls hl => ?_)
    refine lv_iconst (v := 0) hx hb dX1_sun_12 (by decide) ?_
    refine lv_istore_n (lv' := [(2, .int 0), (1, .int 0), (0, .ref (a 0))]) hx hb dX1_sun_13 rfl hl (by decide) rfl (fun ls hl => ?_)
    have hloop14 : ∀ (k14 i14 : Nat), i14 + k14 = n → ∀ (ls : Array Slot), lv_has ls 6 [(2, .int (nI i14)), (1, .int (nI (wnt net i14))), (0, .ref (a 0))] → W p l e ({ frames := 1, cells := 0, slots := 0, locals := 21 }) s m [.ref (a 0)].toArray below meth c s.heap [] 0 0 (RZ below (fun v9 => v9 = some (.int (spSun n net))) [.ref (a 0)] s) (F0 m 14 ls []) := by
      intro k14
      induction k14 with
      | zero =>
        intro i14 hi14 ls hl
        have hi14 : i14 = n := by omega
        refine lv_iload_n hx hb dX1_sun_14 rfl (lv_at hl 0 rfl) ?_
        refine lv_aload_n hx hb dX1_sun_15 rfl (lv_at hl 2 rfl) ?_
        refine m_get (v := .int (σ.1 5)) S hK hP 5 (by decide) fl_X1_82 rfl dX1_sun_16 rfl ?_
        refine topi (z := nI n) (hG.2.1) ?_
        refine lv_icmp_ge (tgt := 47) hx hb dX1_sun_19 (by decide) (fun c_19 => ?_) (fun c_19 => absurd (show nI n ≤ nI i14 from nI_le (by omega) (by omega)) c_19)
        rw [hi14] at hl
        refine lv_iconst (v := 0) hx hb dX1_sun_47 (by decide) ?_
        refine lv_istore_n (lv' := [(2, .int 0), (1, .int (nI (wnt net n))), (0, .ref (a 0))]) hx hb dX1_sun_48 rfl hl (by decide) rfl (fun ls hl => ?_)
        have hloop49 : ∀ (k49 i49 : Nat), i49 + k49 = n → (∀ j, j < i49 → wnt net n &&& (15 ^^^ sA net n j n) = 0) → ∀ (ls : Array Slot), lv_has ls 6 [(2, .int (nI i49)), (1, .int (nI (wnt net n))), (0, .ref (a 0))] → W p l e ({ frames := 1, cells := 0, slots := 0, locals := 21 }) s m [.ref (a 0)].toArray below meth c s.heap [] 0 0 (RZ below (fun v9 => v9 = some (.int (spSun n net))) [.ref (a 0)] s) (F0 m 49 ls []) := by
          intro k49
          induction k49 with
          | zero =>
            intro i49 hi49 hinv49 ls hl
            have hi49 : i49 = n := by omega
            refine lv_iload_n hx hb dX1_sun_49 rfl (lv_at hl 0 rfl) ?_
            refine lv_aload_n hx hb dX1_sun_50 rfl (lv_at hl 2 rfl) ?_
            refine m_get (v := .int (σ.1 5)) S hK hP 5 (by decide) fl_X1_82 rfl dX1_sun_51 rfl ?_
            refine topi (z := nI n) (hG.2.1) ?_
            refine lv_icmp_ge (tgt := 136) hx hb dX1_sun_54 (by decide) (fun c_54 => ?_) (fun c_54 => absurd (show nI n ≤ nI i49 from nI_le (by omega) (by omega)) c_54)
            refine lv_iconst (v := 1) hx hb dX1_sun_136 (by decide) ?_
            exact r_iret S hr hlk dX1_sun_137 (congrArg (fun z : Int32 => some (Value.int z)) (show 1 = spSun n net from by rw [spSun, if_neg c_4, sunB_true (fun j hj => hinv49 j (by omega))]; rfl))
          | succ k49 ih49 =>
            intro i49 hi49 hinv49 ls hl
            have hlt49 : i49 < n := by omega
            refine lv_iload_n hx hb dX1_sun_49 rfl (lv_at hl 0 rfl) ?_
            refine lv_aload_n hx hb dX1_sun_50 rfl (lv_at hl 2 rfl) ?_
            refine m_get (v := .int (σ.1 5)) S hK hP 5 (by decide) fl_X1_82 rfl dX1_sun_51 rfl ?_
            refine topi (z := nI n) (hG.2.1) ?_
            refine lv_icmp_ge (tgt := 136) hx hb dX1_sun_54 (by decide) (fun c_54 => absurd c_54 (show ¬ nI n ≤ nI i49 from nI_ge (by omega) (by omega))) (fun c_54 => ?_)
            refine lv_iconst (v := 1) hx hb dX1_sun_57 (by decide) ?_
            refine lv_iload_n hx hb dX1_sun_58 rfl (lv_at hl 0 rfl) ?_
            refine lv_ishl hx hb dX1_sun_59 ?_
            refine topi (z := nI (2 ^ i49)) (shl1 _ (by omega)) ?_
            refine lv_istore_n (lv' := [(3, .int (nI (2 ^ i49))), (2, .int (nI i49)), (1, .int (nI (wnt net n))), (0, .ref (a 0))]) hx hb dX1_sun_60 rfl hl (by decide) rfl (fun ls hl => ?_)
            refine lv_iconst (v := 0) hx hb dX1_sun_61 (by decide) ?_
            refine lv_istore (lv' := [(4, .int 0), (3, .int (nI (2 ^ i49))), (2, .int (nI i49)), (1, .int (nI (wnt net n))), (0, .ref (a 0))]) hx hb dX1_sun_62 hl (by decide) rfl (fun ls hl => ?_)
            have hloop64 : ∀ (k64 i64 : Nat), i64 + k64 = n → ∀ (ls : Array Slot), lv_has ls 6 [(4, .int (nI i64)), (3, .int (nI (sA net n i49 i64))), (2, .int (nI i49)), (1, .int (nI (wnt net n))), (0, .ref (a 0))] → W p l e ({ frames := 1, cells := 0, slots := 0, locals := 21 }) s m [.ref (a 0)].toArray below meth c s.heap [] 0 0 (RZ below (fun v9 => v9 = some (.int (spSun n net))) [.ref (a 0)] s) (F0 m 64 ls []) := by
              intro k64
              induction k64 with
              | zero =>
                intro i64 hi64 ls hl
                have hi64 : i64 = n := by omega
                refine lv_iload hx hb dX1_sun_64 (lv_at hl 0 rfl) ?_
                refine lv_aload_n hx hb dX1_sun_66 rfl (lv_at hl 4 rfl) ?_
                refine m_get (v := .int (σ.1 5)) S hK hP 5 (by decide) fl_X1_82 rfl dX1_sun_67 rfl ?_
                refine topi (z := nI n) (hG.2.1) ?_
                refine lv_icmp_ge (tgt := 120) hx hb dX1_sun_70 (by decide) (fun c_70 => ?_) (fun c_70 => absurd (show nI n ≤ nI i64 from nI_le (by omega) (by omega)) c_70)
                rw [hi64] at hl
                refine lv_iload_n hx hb dX1_sun_120 rfl (lv_at hl 3 rfl) ?_
                refine lv_iload_n hx hb dX1_sun_121 rfl (lv_at hl 1 rfl) ?_
                refine lv_iconst (v := (-1)) hx hb dX1_sun_122 (by decide) ?_
                refine lv_ixor hx hb dX1_sun_123 ?_
                refine lv_iand hx hb dX1_sun_124 ?_
                refine topi (z := nI (wnt net n &&& (15 ^^^ sA net n i49 n))) (andn_eq _ hw16 _ (sA_lt hnet hn (by omega) n)) ?_
                refine lv_if_eq (tgt := 130) hx hb dX1_sun_125 (by decide) (fun c_125 => ?_) (fun c_125 => ?_)
                · have c_125 : wnt net n &&& (15 ^^^ sA net n i49 n) = 0 := nI_inj (Nat.lt_trans (Nat.lt_of_le_of_lt Nat.and_le_left hw16) (by decide)) (by decide) c_125
                  refine lv_iinc (v := nI (i49 + 1)) (lv' := [(2, .int (nI (i49 + 1))), (4, .int (nI n)), (3, .int (nI (sA net n i49 n))), (1, .int (nI (wnt net n))), (0, .ref (a 0))]) hx hb dX1_sun_130 hl (k := 2) rfl (nI_1 _) (by decide) rfl (fun ls hl => ?_)
                  refine lv_goto (tgt := 49) hx hb dX1_sun_133 (by decide) ?_
                  exact ih49 (i49 + 1) (by omega) (lt_s hinv49 c_125) ls (lv_sub hl [0, 3, 4] rfl)
                · have c_125 : ¬ wnt net n &&& (15 ^^^ sA net n i49 n) = 0 := fun h => c_125 (congrArg nI h)
                  refine lv_iconst (v := 0) hx hb dX1_sun_128 (by decide) ?_
                  exact r_iret S hr hlk dX1_sun_129 (congrArg (fun z : Int32 => some (Value.int z)) (show 0 = spSun n net from by rw [spSun, if_neg c_4, sunB_false hlt49 c_125]; rfl))
              | succ k64 ih64 =>
                intro i64 hi64 ls hl
                have hlt64 : i64 < n := by omega
                refine lv_iload hx hb dX1_sun_64 (lv_at hl 0 rfl) ?_
                refine lv_aload_n hx hb dX1_sun_66 rfl (lv_at hl 4 rfl) ?_
                refine m_get (v := .int (σ.1 5)) S hK hP 5 (by decide) fl_X1_82 rfl dX1_sun_67 rfl ?_
                refine topi (z := nI n) (hG.2.1) ?_
                refine lv_icmp_ge (tgt := 120) hx hb dX1_sun_70 (by decide) (fun c_70 => absurd c_70 (show ¬ nI n ≤ nI i64 from nI_ge (by omega) (by omega))) (fun c_70 => ?_)
                refine lv_iconst (v := 0) hx hb dX1_sun_73 (by decide) ?_
                refine lv_istore (lv' := [(5, .int 0), (4, .int (nI i64)), (3, .int (nI (sA net n i49 i64))), (2, .int (nI i49)), (1, .int (nI (wnt net n))), (0, .ref (a 0))]) hx hb dX1_sun_74 hl (by decide) rfl (fun ls hl => ?_)
                have hloop76 : ∀ (k76 i76 : Nat), i76 + k76 = n → ∀ (ls : Array Slot), lv_has ls 6 [(5, .int (nI i76)), (4, .int (nI i64)), (3, .int (nI (sQ net (sA net n i49 i64) i76))), (2, .int (nI i49)), (1, .int (nI (wnt net n))), (0, .ref (a 0))] → W p l e ({ frames := 1, cells := 0, slots := 0, locals := 21 }) s m [.ref (a 0)].toArray below meth c s.heap [] 0 0 (RZ below (fun v9 => v9 = some (.int (spSun n net))) [.ref (a 0)] s) (F0 m 76 ls []) := by
                  intro k76
                  induction k76 with
                  | zero =>
                    intro i76 hi76 ls hl
                    have hi76 : i76 = n := by omega
                    refine lv_iload hx hb dX1_sun_76 (lv_at hl 0 rfl) ?_
                    refine lv_aload_n hx hb dX1_sun_78 rfl (lv_at hl 5 rfl) ?_
                    refine m_get (v := .int (σ.1 5)) S hK hP 5 (by decide) fl_X1_82 rfl dX1_sun_79 rfl ?_
                    refine topi (z := nI n) (hG.2.1) ?_
                    refine lv_icmp_ge (tgt := 114) hx hb dX1_sun_82 (by decide) (fun c_82 => ?_) (fun c_82 => absurd (show nI n ≤ nI i76 from nI_le (by omega) (by omega)) c_82)
                    refine lv_iinc (v := nI (i64 + 1)) (lv' := [(4, .int (nI (i64 + 1))), (5, .int (nI i76)), (3, .int (nI (sQ net (sA net n i49 i64) i76))), (2, .int (nI i49)), (1, .int (nI (wnt net n))), (0, .ref (a 0))]) hx hb dX1_sun_114 hl (k := 1) rfl (nI_1 _) (by decide) rfl (fun ls hl => ?_)
                    refine lv_goto (tgt := 64) hx hb dX1_sun_117 (by decide) ?_
                    have e64_3 : nI (sA net n i49 (i64 + 1)) = nI (sQ net (sA net n i49 i64) i76) := by rw [hi76]; rfl
                    exact ih64 (i64 + 1) (by omega) ls (by rw [e64_3]; exact lv_sub hl [0, 2, 3, 4, 5] rfl)
                  | succ k76 ih76 =>
                    intro i76 hi76 ls hl
                    have hlt76 : i76 < n := by omega
                    have hs9 : sQ net (sA net n i49 i64) i76 < 16 := sQ_lt hnet (sA_lt hnet hn (by omega) i64) i76 (by omega)
                    refine lv_iload hx hb dX1_sun_76 (lv_at hl 0 rfl) ?_
                    refine lv_aload_n hx hb dX1_sun_78 rfl (lv_at hl 5 rfl) ?_
                    refine m_get (v := .int (σ.1 5)) S hK hP 5 (by decide) fl_X1_82 rfl dX1_sun_79 rfl ?_
                    refine topi (z := nI n) (hG.2.1) ?_
                    refine lv_icmp_ge (tgt := 114) hx hb dX1_sun_82 (by decide) (fun c_82 => absurd c_82 (show ¬ nI n ≤ nI i76 from nI_ge (by omega) (by omega))) (fun c_82 => ?_)
                    refine lv_iload_n hx hb dX1_sun_85 rfl (lv_at hl 2 rfl) ?_
                    refine lv_iload_n hx hb dX1_sun_86 rfl (lv_at hl 2 rfl) ?_
                    refine lv_iload hx hb dX1_sun_87 (lv_at hl 0 rfl) ?_
                    refine rc_Si (rest := [.int (nI (sQ net (sA net n i49 i64) i76))]) [.int (nI (sQ net (sA net n i49 i64) i76)), .int (nI i76)] 2 S hK (r1_has l D dA (sQ net (sA net n i49 i64) i76) i76 (by first | assumption | omega | decide) (by first | assumption | omega | decide)) wl_X1_106 wd_X1_X1_has rfl ⟨Nat.le_of_ble_eq_true rfl, Nat.le_of_ble_eq_true rfl⟩ hl.1 (Nat.le_of_ble_eq_true rfl) dX1_sun_89 ⟨Nat.le_refl 0, Nat.le_refl 0⟩ (trivial) ?_ rfl
                    refine lv_if_eq (tgt := 105) hx hb dX1_sun_92 (by decide) (fun c_92 => ?_) (fun c_92 => ?_)
                    · have c_92 := b2i_eq0.mp c_92
                      refine lv_iconst (v := 0) hx hb dX1_sun_105 (by decide) ?_
                      refine lv_ior hx hb dX1_sun_106 ?_
                      refine lv_istore_n (lv' := [(3, .int ((nI (sQ net (sA net n i49 i64) i76)) ||| 0)), (5, .int (nI i76)), (4, .int (nI i64)), (2, .int (nI i49)), (1, .int (nI (wnt net n))), (0, .ref (a 0))]) hx hb dX1_sun_107 rfl hl (by decide) rfl (fun ls hl => ?_)
                      refine lv_iinc (v := nI (i76 + 1)) (lv' := [(5, .int (nI (i76 + 1))), (3, .int ((nI (sQ net (sA net n i49 i64) i76)) ||| 0)), (4, .int (nI i64)), (2, .int (nI i49)), (1, .int (nI (wnt net n))), (0, .ref (a 0))]) hx hb dX1_sun_108 hl (k := 1) rfl (nI_1 _) (by decide) rfl (fun ls hl => ?_)
                      refine lv_goto (tgt := 76) hx hb dX1_sun_111 (by decide) ?_
                      have e76_3 : nI (sQ net (sA net n i49 i64) (i76 + 1)) = (nI (sQ net (sA net n i49 i64) i76)) ||| 0 := by exact sQ_2 c_92
                      exact ih76 (i76 + 1) (by omega) ls (by rw [e76_3]; exact lv_sub hl [0, 2, 1, 3, 4, 5] rfl)
                    · have c_92 := b2i_ne0.mp c_92
                      refine lv_aload_n hx hb dX1_sun_95 rfl (lv_at hl 5 rfl) ?_
                      refine m_get (v := .ref (a 6)) S hK hP 6 (by decide) fl_X1_19 rfl dX1_sun_96 rfl ?_
                      refine lv_iload hx hb dX1_sun_99 (lv_at hl 0 rfl) ?_
                      refine m_aldn (j := i76) (v := nI (net i76)) S hK hP 6 (by decide) rfl (show i76 < 4 by omega) dX1_sun_101 ((hG.2.2.1 i76 (by omega)).1) ?_
                      refine lv_goto (tgt := 106) hx hb dX1_sun_102 (by decide) ?_
                      refine lv_ior hx hb dX1_sun_106 ?_
                      refine lv_istore_n (lv' := [(3, .int ((nI (sQ net (sA net n i49 i64) i76)) ||| (nI (net i76)))), (5, .int (nI i76)), (4, .int (nI i64)), (2, .int (nI i49)), (1, .int (nI (wnt net n))), (0, .ref (a 0))]) hx hb dX1_sun_107 rfl hl (by decide) rfl (fun ls hl => ?_)
                      refine lv_iinc (v := nI (i76 + 1)) (lv' := [(5, .int (nI (i76 + 1))), (3, .int ((nI (sQ net (sA net n i49 i64) i76)) ||| (nI (net i76)))), (4, .int (nI i64)), (2, .int (nI i49)), (1, .int (nI (wnt net n))), (0, .ref (a 0))]) hx hb dX1_sun_108 hl (k := 1) rfl (nI_1 _) (by decide) rfl (fun ls hl => ?_)
                      refine lv_goto (tgt := 76) hx hb dX1_sun_111 (by decide) ?_
                      have e76_3 : nI (sQ net (sA net n i49 i64) (i76 + 1)) = (nI (sQ net (sA net n i49 i64) i76)) ||| (nI (net i76)) := by exact sQ_1 c_92
                      exact ih76 (i76 + 1) (by omega) ls (by rw [e76_3]; exact lv_sub hl [0, 2, 1, 3, 4, 5] rfl)
                exact hloop76 (n) 0 (by omega) ls (lv_sub hl [0, 1, 2, 3, 4, 5] rfl)
            exact hloop64 (n) 0 (by omega) ls (lv_sub hl [0, 1, 2, 3, 4] rfl)
        exact hloop49 (n) 0 (by omega) (fun j hj => absurd hj (Nat.not_lt_zero j)) ls (lv_sub hl [0, 1, 2] rfl)
      | succ k14 ih14 =>
        intro i14 hi14 ls hl
        have hlt14 : i14 < n := by omega
        refine lv_iload_n hx hb dX1_sun_14 rfl (lv_at hl 0 rfl) ?_
        refine lv_aload_n hx hb dX1_sun_15 rfl (lv_at hl 2 rfl) ?_
        refine m_get (v := .int (σ.1 5)) S hK hP 5 (by decide) fl_X1_82 rfl dX1_sun_16 rfl ?_
        refine topi (z := nI n) (hG.2.1) ?_
        refine lv_icmp_ge (tgt := 47) hx hb dX1_sun_19 (by decide) (fun c_19 => absurd c_19 (show ¬ nI n ≤ nI i14 from nI_ge (by omega) (by omega))) (fun c_19 => ?_)
        refine lv_iload_n hx hb dX1_sun_22 rfl (lv_at hl 1 rfl) ?_
        refine lv_aload_n hx hb dX1_sun_23 rfl (lv_at hl 2 rfl) ?_
        refine m_get (v := .ref (a 6)) S hK hP 6 (by decide) fl_X1_19 rfl dX1_sun_24 rfl ?_
        refine lv_iload_n hx hb dX1_sun_27 rfl (lv_at hl 0 rfl) ?_
        refine m_aldn (j := i14) (v := nI (net i14)) S hK hP 6 (by decide) rfl (show i14 < 4 by omega) dX1_sun_28 ((hG.2.2.1 i14 (by omega)).1) ?_
        refine lv_if_eq (tgt := 38) hx hb dX1_sun_29 (by decide) (fun c_29 => ?_) (fun c_29 => ?_)
        · have c_29 : net i14 = 0 := nI_inj (Nat.lt_trans (hnet i14 (by omega)) (by decide)) (by decide) c_29
          refine lv_iconst (v := 0) hx hb dX1_sun_38 (by decide) ?_
          refine lv_ior hx hb dX1_sun_39 ?_
          refine lv_istore_n (lv' := [(1, .int ((nI (wnt net i14)) ||| 0)), (2, .int (nI i14)), (0, .ref (a 0))]) hx hb dX1_sun_40 rfl hl (by decide) rfl (fun ls hl => ?_)
          refine lv_iinc (v := nI (i14 + 1)) (lv' := [(2, .int (nI (i14 + 1))), (1, .int ((nI (wnt net i14)) ||| 0)), (0, .ref (a 0))]) hx hb dX1_sun_41 hl (k := 1) rfl (nI_1 _) (by decide) rfl (fun ls hl => ?_)
          refine lv_goto (tgt := 14) hx hb dX1_sun_44 (by decide) ?_
          have e14_1 : nI (wnt net (i14 + 1)) = (nI (wnt net i14)) ||| 0 := by exact wnt_1 c_29
          exact ih14 (i14 + 1) (by omega) ls (by rw [e14_1]; exact lv_sub hl [0, 1, 2] rfl)
        · have c_29 : ¬ net i14 = 0 := fun h => c_29 (congrArg nI h)
          refine lv_iconst (v := 1) hx hb dX1_sun_32 (by decide) ?_
          refine lv_iload_n hx hb dX1_sun_33 rfl (lv_at hl 0 rfl) ?_
          refine lv_ishl hx hb dX1_sun_34 ?_
          refine lv_goto (tgt := 39) hx hb dX1_sun_35 (by decide) ?_
          refine topi (z := nI (2 ^ i14)) (shl1 _ (by omega)) ?_
          refine lv_ior hx hb dX1_sun_39 ?_
          refine lv_istore_n (lv' := [(1, .int ((nI (wnt net i14)) ||| (nI (2 ^ i14)))), (2, .int (nI i14)), (0, .ref (a 0))]) hx hb dX1_sun_40 rfl hl (by decide) rfl (fun ls hl => ?_)
          refine lv_iinc (v := nI (i14 + 1)) (lv' := [(2, .int (nI (i14 + 1))), (1, .int ((nI (wnt net i14)) ||| (nI (2 ^ i14)))), (0, .ref (a 0))]) hx hb dX1_sun_41 hl (k := 1) rfl (nI_1 _) (by decide) rfl (fun ls hl => ?_)
          refine lv_goto (tgt := 14) hx hb dX1_sun_44 (by decide) ?_
          have e14_1 : nI (wnt net (i14 + 1)) = (nI (wnt net i14)) ||| (nI (2 ^ i14)) := by exact wnt_2 c_29
          exact ih14 (i14 + 1) (by omega) ls (by rw [e14_1]; exact lv_sub hl [0, 1, 2] rfl)
    exact hloop14 (n) 0 (by omega) ls (lv_sub hl [0, 1, 2] rfl)
  · have c_4 : n = 0 := nI_inj (by omega) (by decide) c_4
    refine lv_bipush (v := (-3)) hx hb dX1_sun_7 (by decide) ?_
    exact r_iret S hr hlk dX1_sun_9 (congrArg (fun z : Int32 => some (Value.int z)) (show (-3) = spSun n net from by simp [spSun, *]))
