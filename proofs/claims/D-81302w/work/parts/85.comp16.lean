/-! COMPONENT 16: to whom one can come (by program: gen/comp16.py) -/
set_option maxRecDepth 100000
set_option maxHeartbeats 4000000 in
theorem r0_cameTo (l : Launch) (D : va_G) (dA : Nat → ClassId) (a : Nat → Nat) (σ : MS) (n : Nat) (net : Nat → Nat) (hG : KG σ n net) (pa : Nat) (bw : Bool) (hpa : pa < n) : RC l yX0_cameTo cX0_cameTo 8 (some .int) 1 21 D dA [.ref (a 0), .int (nI pa), .int (b2i bw)] (fun H => va_P D vwCl (kW dA a σ) H) (fun v9 => v9 = some (.int (nI (ctI net bw n pa n)))) := by
  refine RC.of (by decide) (Nat.le_of_ble_eq_true rfl) ?_
  intro p e s m below meth c ls S hr hlk hK hP hl
  have hx := S.1
  have hb := S.2.1
  have hl : lv_has ls 8 [(0, .ref (a 0)), (1, .int (nI pa)), (2, .int (b2i bw))] := hl
  have hP : va_P D vwCl (kW dA a σ) s.heap := hP
  have hn := hG.1
  have hnet := hG.2.2.2
  have htd : ∀ q, q < 4 → tdN net q < 16 := fun q hq => Nat.or_lt_two_pow (n := 4) (hnet q hq) (pw16 hq)
  refine lv_iconst (v := 1) hx hb dX0_cameTo_0 (by decide) ?_
  refine lv_iload_n hx hb dX0_cameTo_1 rfl (lv_at hl 1 rfl) ?_
  refine lv_ishl hx hb dX0_cameTo_2 ?_
  refine topi (z := nI (2 ^ pa)) (shl1 _ (by omega)) ?_
  refine lv_istore_n (lv' := [(3, .int (nI (2 ^ pa))), (0, .ref (a 0)), (1, .int (nI pa)), (2, .int (b2i bw))]) hx hb dX0_cameTo_3 rfl hl (by decide) rfl (fun ls hl => ?_)
  refine lv_iconst (v := 0) hx hb dX0_cameTo_4 (by decide) ?_
  refine lv_istore (lv' := [(4, .int 0), (3, .int (nI (2 ^ pa))), (0, .ref (a 0)), (1, .int (nI pa)), (2, .int (b2i bw))]) hx hb dX0_cameTo_5 hl (by decide) rfl (fun ls hl => ?_)
  have hloop7 : ∀ (k7 i7 : Nat), i7 + k7 = n + 1 → ∀ (ls : Array Slot), lv_has ls 8 [(4, .int (nI (wsI net bw n pa i7))), (3, .int (nI (ctI net bw n pa i7))), (0, .ref (a 0)), (1, .int (nI pa)), (2, .int (b2i bw))] → W p l e ({ frames := 1, cells := 0, slots := 0, locals := 21 }) s m [.ref (a 0), .int (nI pa), .int (b2i bw)].toArray below meth c s.heap [] 0 0 (RZ below (fun v9 => v9 = some (.int (nI (ctI net bw n pa n)))) [.ref (a 0), .int (nI pa), .int (b2i bw)] s) (F0 m 7 ls []) := by
    intro k7
    induction k7 with
    | zero =>
      intro i7 hi7 ls hl
      have hi7 : i7 = n + 1 := by omega
      have h16a : ctI net bw n pa i7 < 16 := ctI_lt hn (by omega) i7
      have h16b : wsI net bw n pa i7 < 16 := wsI_lt hn (by omega) i7
      refine lv_iload_n hx hb dX0_cameTo_7 rfl (lv_at hl 1 rfl) ?_
      refine lv_iload hx hb dX0_cameTo_8 (lv_at hl 0 rfl) ?_
      refine lv_icmp_eq (tgt := 121) hx hb dX0_cameTo_10 (by decide) (fun c_10 => ?_) (fun c_10 => absurd (by rw [hi7]; exact congrArg nI (ctI_fix hn hpa)) c_10)
      refine lv_iload_n hx hb dX0_cameTo_121 rfl (lv_at hl 1 rfl) ?_
      exact r_iret S hr hlk dX0_cameTo_122 (congrArg (fun z : Int32 => some (Value.int z)) (show nI (ctI net bw n pa i7) = nI (ctI net bw n pa n) from by rw [ctI_end (by omega) (by first | exact c_10 | exact nI_inj (by omega) (by omega) c_10)]))
    | succ k7 ih7 =>
      intro i7 hi7 ls hl
      have hlt7 : i7 < n + 1 := by omega
      have h16a : ctI net bw n pa i7 < 16 := ctI_lt hn (by omega) i7
      have h16b : wsI net bw n pa i7 < 16 := wsI_lt hn (by omega) i7
      refine lv_iload_n hx hb dX0_cameTo_7 rfl (lv_at hl 1 rfl) ?_
      refine lv_iload hx hb dX0_cameTo_8 (lv_at hl 0 rfl) ?_
      refine lv_icmp_eq (tgt := 121) hx hb dX0_cameTo_10 (by decide) (fun c_10 => ?_) (fun c_10 => ?_)
      · have c_10 : ctI net bw n pa i7 = wsI net bw n pa i7 := nI_inj (by omega) (by omega) c_10
        refine lv_iload_n hx hb dX0_cameTo_121 rfl (lv_at hl 1 rfl) ?_
        exact r_iret S hr hlk dX0_cameTo_122 (congrArg (fun z : Int32 => some (Value.int z)) (show nI (ctI net bw n pa i7) = nI (ctI net bw n pa n) from by rw [ctI_end (by omega) (by first | exact c_10 | exact nI_inj (by omega) (by omega) c_10)]))
      · refine lv_iload_n hx hb dX0_cameTo_13 rfl (lv_at hl 1 rfl) ?_
        refine lv_istore (lv' := [(4, .int (nI (ctI net bw n pa i7))), (3, .int (nI (ctI net bw n pa i7))), (0, .ref (a 0)), (1, .int (nI pa)), (2, .int (b2i bw))]) hx hb dX0_cameTo_14 hl (by decide) rfl (fun ls hl => ?_)
        refine lv_iconst (v := 0) hx hb dX0_cameTo_16 (by decide) ?_
        refine lv_istore (lv' := [(5, .int 0), (4, .int (nI (ctI net bw n pa i7))), (3, .int (nI (ctI net bw n pa i7))), (0, .ref (a 0)), (1, .int (nI pa)), (2, .int (b2i bw))]) hx hb dX0_cameTo_17 hl (by decide) rfl (fun ls hl => ?_)
        have hloop19 : ∀ (k19 i19 : Nat), i19 + k19 = n → ∀ (ls : Array Slot), lv_has ls 8 [(5, .int (nI i19)), (4, .int (nI (ctI net bw n pa i7))), (3, .int (nI (ctP net bw n (ctI net bw n pa i7) i19))), (0, .ref (a 0)), (1, .int (nI pa)), (2, .int (b2i bw))] → W p l e ({ frames := 1, cells := 0, slots := 0, locals := 21 }) s m [.ref (a 0), .int (nI pa), .int (b2i bw)].toArray below meth c s.heap [] 0 0 (RZ below (fun v9 => v9 = some (.int (nI (ctI net bw n pa n)))) [.ref (a 0), .int (nI pa), .int (b2i bw)] s) (F0 m 19 ls []) := by
          intro k19
          induction k19 with
          | zero =>
            intro i19 hi19 ls hl
            have hi19 : i19 = n := by omega
            refine lv_iload hx hb dX0_cameTo_19 (lv_at hl 0 rfl) ?_
            refine lv_aload_n hx hb dX0_cameTo_21 rfl (lv_at hl 3 rfl) ?_
            refine k_get (v := .int (σ.1 0)) S hK hP 0 (by decide) fl_X0_45 rfl dX0_cameTo_22 rfl ?_
            refine topi (z := nI n) (hG.2.1) ?_
            refine lv_icmp_ge (tgt := 118) hx hb dX0_cameTo_25 (by decide) (fun c_25 => ?_) (fun c_25 => absurd (show nI n ≤ nI i19 from nI_le (by omega) (by omega)) c_25)
            refine lv_goto (tgt := 7) hx hb dX0_cameTo_118 (by decide) ?_
            have e7_4 : nI (wsI net bw n pa (i7 + 1)) = nI (ctI net bw n pa i7) := by rfl
            have e7_3 : nI (ctI net bw n pa (i7 + 1)) = nI (ctP net bw n (ctI net bw n pa i7) i19) := by rw [hi19]; rfl
            exact ih7 (i7 + 1) (by omega) ls (by rw [e7_4, e7_3]; exact lv_sub hl [1, 2, 3, 4, 5] rfl)
          | succ k19 ih19 =>
            intro i19 hi19 ls hl
            have hlt19 : i19 < n := by omega
            have h16c : ctP net bw n (ctI net bw n pa i7) i19 < 16 := ctP_lt hn h16a i19
            refine lv_iload hx hb dX0_cameTo_19 (lv_at hl 0 rfl) ?_
            refine lv_aload_n hx hb dX0_cameTo_21 rfl (lv_at hl 3 rfl) ?_
            refine k_get (v := .int (σ.1 0)) S hK hP 0 (by decide) fl_X0_45 rfl dX0_cameTo_22 rfl ?_
            refine topi (z := nI n) (hG.2.1) ?_
            refine lv_icmp_ge (tgt := 118) hx hb dX0_cameTo_25 (by decide) (fun c_25 => absurd c_25 (show ¬ nI n ≤ nI i19 from nI_ge (by omega) (by omega))) (fun c_25 => ?_)
            refine lv_iconst (v := 0) hx hb dX0_cameTo_28 (by decide) ?_
            refine lv_istore (lv' := [(6, .int 0), (5, .int (nI i19)), (4, .int (nI (ctI net bw n pa i7))), (3, .int (nI (ctP net bw n (ctI net bw n pa i7) i19))), (0, .ref (a 0)), (1, .int (nI pa)), (2, .int (b2i bw))]) hx hb dX0_cameTo_29 hl (by decide) rfl (fun ls hl => ?_)
            have hloop31 : ∀ (k31 i31 : Nat), i31 + k31 = n → ∀ (ls : Array Slot), lv_has ls 8 [(6, .int (nI i31)), (5, .int (nI i19)), (4, .int (nI (ctI net bw n pa i7))), (3, .int (nI (ctQ net bw i19 (ctP net bw n (ctI net bw n pa i7) i19) i31))), (0, .ref (a 0)), (1, .int (nI pa)), (2, .int (b2i bw))] → W p l e ({ frames := 1, cells := 0, slots := 0, locals := 21 }) s m [.ref (a 0), .int (nI pa), .int (b2i bw)].toArray below meth c s.heap [] 0 0 (RZ below (fun v9 => v9 = some (.int (nI (ctI net bw n pa n)))) [.ref (a 0), .int (nI pa), .int (b2i bw)] s) (F0 m 31 ls []) := by
              intro k31
              induction k31 with
              | zero =>
                intro i31 hi31 ls hl
                have hi31 : i31 = n := by omega
                refine lv_iload hx hb dX0_cameTo_31 (lv_at hl 0 rfl) ?_
                refine lv_aload_n hx hb dX0_cameTo_33 rfl (lv_at hl 4 rfl) ?_
                refine k_get (v := .int (σ.1 0)) S hK hP 0 (by decide) fl_X0_45 rfl dX0_cameTo_34 rfl ?_
                refine topi (z := nI n) (hG.2.1) ?_
                refine lv_icmp_ge (tgt := 112) hx hb dX0_cameTo_37 (by decide) (fun c_37 => ?_) (fun c_37 => absurd (show nI n ≤ nI i31 from nI_le (by omega) (by omega)) c_37)
                refine lv_iinc (v := nI (i19 + 1)) (lv' := [(5, .int (nI (i19 + 1))), (6, .int (nI i31)), (4, .int (nI (ctI net bw n pa i7))), (3, .int (nI (ctQ net bw i19 (ctP net bw n (ctI net bw n pa i7) i19) i31))), (0, .ref (a 0)), (1, .int (nI pa)), (2, .int (b2i bw))]) hx hb dX0_cameTo_112 hl (k := 1) rfl (nI_1 _) (by decide) rfl (fun ls hl => ?_)
                refine lv_goto (tgt := 19) hx hb dX0_cameTo_115 (by decide) ?_
                have e19_3 : nI (ctP net bw n (ctI net bw n pa i7) (i19 + 1)) = nI (ctQ net bw i19 (ctP net bw n (ctI net bw n pa i7) i19) i31) := by rw [hi31]; rfl
                exact ih19 (i19 + 1) (by omega) ls (by rw [e19_3]; exact lv_sub hl [0, 2, 3, 4, 5, 6] rfl)
              | succ k31 ih31 =>
                intro i31 hi31 ls hl
                have hlt31 : i31 < n := by omega
                have h16d : (ctQ net bw i19 (ctP net bw n (ctI net bw n pa i7) i19) i31) < 16 := ctQ_lt h16c i31 (by omega)
                have ht1 := htd i19 (by omega)
                have ht2 := htd i31 (by omega)
                refine lv_iload hx hb dX0_cameTo_31 (lv_at hl 0 rfl) ?_
                refine lv_aload_n hx hb dX0_cameTo_33 rfl (lv_at hl 4 rfl) ?_
                refine k_get (v := .int (σ.1 0)) S hK hP 0 (by decide) fl_X0_45 rfl dX0_cameTo_34 rfl ?_
                refine topi (z := nI n) (hG.2.1) ?_
                refine lv_icmp_ge (tgt := 112) hx hb dX0_cameTo_37 (by decide) (fun c_37 => absurd c_37 (show ¬ nI n ≤ nI i31 from nI_ge (by omega) (by omega))) (fun c_37 => ?_)
                refine lv_aload_n hx hb dX0_cameTo_40 rfl (lv_at hl 4 rfl) ?_
                refine k_get (v := .ref (a 1)) S hK hP 1 (by decide) fl_X0_11 rfl dX0_cameTo_41 rfl ?_
                refine lv_iload hx hb dX0_cameTo_44 (lv_at hl 1 rfl) ?_
                refine k_aldn (j := i19) (v := nI (tdN net i19)) S hK hP 1 (by decide) rfl (show i19 < 4 by omega) dX0_cameTo_46 (hG.2.2.1 i19 (by omega)) ?_
                refine lv_iload hx hb dX0_cameTo_47 (lv_at hl 0 rfl) ?_
                refine rc_Si (rest := []) [.int (nI (tdN net i19)), .int (nI i31)] 2 S hK (r0_isIn l D dA (tdN net i19) i31 (by first | assumption | omega | decide) (by first | assumption | omega | decide)) wl_X0_57 wd_X0_X0_isIn rfl ⟨Nat.le_of_ble_eq_true rfl, Nat.le_of_ble_eq_true rfl⟩ hl.1 (Nat.le_of_ble_eq_true rfl) dX0_cameTo_49 ⟨Nat.le_refl 0, Nat.le_refl 0⟩ (trivial) ?_ rfl
                refine lv_if_ne (tgt := 74) hx hb dX0_cameTo_52 (by decide) (fun c_52 => ?_) (fun c_52 => ?_)
                · have c_52 := b2i_ne0.mp c_52
                  have hgo : goB net bw i19 i31 = true := by simp [goB, c_52]
                  refine lv_iconst (v := 1) hx hb dX0_cameTo_74 (by decide) ?_
                  refine lv_goto (tgt := 79) hx hb dX0_cameTo_75 (by decide) ?_
                  refine lv_istore (lv' := [(7, .int 1), (6, .int (nI i31)), (5, .int (nI i19)), (4, .int (nI (ctI net bw n pa i7))), (3, .int (nI (ctQ net bw i19 (ctP net bw n (ctI net bw n pa i7) i19) i31))), (0, .ref (a 0)), (1, .int (nI pa)), (2, .int (b2i bw))]) hx hb dX0_cameTo_79 hl (by decide) rfl (fun ls hl => ?_)
                  refine lv_iload_n hx hb dX0_cameTo_81 rfl (lv_at hl 4 rfl) ?_
                  refine lv_iload hx hb dX0_cameTo_82 (lv_at hl 0 rfl) ?_
                  refine lv_if_eq (tgt := 103) hx hb dX0_cameTo_84 (by decide) (fun c_84 => absurd c_84 (by decide)) (fun c_84 => ?_)
                  refine lv_iload_n hx hb dX0_cameTo_87 rfl (lv_at hl 4 rfl) ?_
                  refine lv_iload hx hb dX0_cameTo_88 (lv_at hl 2 rfl) ?_
                  refine rc_Si (rest := [.int (nI (ctQ net bw i19 (ctP net bw n (ctI net bw n pa i7) i19) i31))]) [.int (nI (ctQ net bw i19 (ctP net bw n (ctI net bw n pa i7) i19) i31)), .int (nI i19)] 2 S hK (r0_isIn l D dA (ctQ net bw i19 (ctP net bw n (ctI net bw n pa i7) i19) i31) i19 (by first | assumption | omega | decide) (by first | assumption | omega | decide)) wl_X0_57 wd_X0_X0_isIn rfl ⟨Nat.le_of_ble_eq_true rfl, Nat.le_of_ble_eq_true rfl⟩ hl.1 (Nat.le_of_ble_eq_true rfl) dX0_cameTo_90 ⟨Nat.le_refl 0, Nat.le_refl 0⟩ (trivial) ?_ rfl
                  refine lv_if_eq (tgt := 103) hx hb dX0_cameTo_93 (by decide) (fun c_93 => ?_) (fun c_93 => ?_)
                  · have c_93 := b2i_eq0.mp c_93
                    have hnx : (goB net bw i19 i31 && (ctQ net bw i19 (ctP net bw n (ctI net bw n pa i7) i19) i31).testBit i19) = false := by rw [c_93, Bool.and_false]
                    refine lv_iconst (v := 0) hx hb dX0_cameTo_103 (by decide) ?_
                    refine lv_ior hx hb dX0_cameTo_104 ?_
                    refine lv_istore_n (lv' := [(3, .int ((nI (ctQ net bw i19 (ctP net bw n (ctI net bw n pa i7) i19) i31)) ||| 0)), (7, .int 1), (6, .int (nI i31)), (5, .int (nI i19)), (4, .int (nI (ctI net bw n pa i7))), (0, .ref (a 0)), (1, .int (nI pa)), (2, .int (b2i bw))]) hx hb dX0_cameTo_105 rfl hl (by decide) rfl (fun ls hl => ?_)
                    refine lv_iinc (v := nI (i31 + 1)) (lv' := [(6, .int (nI (i31 + 1))), (3, .int ((nI (ctQ net bw i19 (ctP net bw n (ctI net bw n pa i7) i19) i31)) ||| 0)), (7, .int 1), (5, .int (nI i19)), (4, .int (nI (ctI net bw n pa i7))), (0, .ref (a 0)), (1, .int (nI pa)), (2, .int (b2i bw))]) hx hb dX0_cameTo_106 hl (k := 2) rfl (nI_1 _) (by decide) rfl (fun ls hl => ?_)
                    refine lv_goto (tgt := 31) hx hb dX0_cameTo_109 (by decide) ?_
                    have e31_3 : nI (ctQ net bw i19 (ctP net bw n (ctI net bw n pa i7) i19) (i31 + 1)) = (nI (ctQ net bw i19 (ctP net bw n (ctI net bw n pa i7) i19) i31)) ||| 0 := by rw [ctQ, if_neg (show ¬ (goB net bw i19 i31 && (ctQ net bw i19 (ctP net bw n (ctI net bw n pa i7) i19) i31).testBit i19) = true by first | (rw [hnx]; decide) | (rw [hgo, Bool.false_and]; decide))]; exact (nI_or _ 0).symm
                    exact ih31 (i31 + 1) (by omega) ls (by rw [e31_3]; exact lv_sub hl [0, 3, 4, 1, 5, 6, 7] rfl)
                  · have c_93 := b2i_ne0.mp c_93
                    have hnx : (goB net bw i19 i31 && (ctQ net bw i19 (ctP net bw n (ctI net bw n pa i7) i19) i31).testBit i19) = true := by rw [c_93, hgo]; rfl
                    refine lv_iconst (v := 1) hx hb dX0_cameTo_96 (by decide) ?_
                    refine lv_iload hx hb dX0_cameTo_97 (lv_at hl 1 rfl) ?_
                    refine lv_ishl hx hb dX0_cameTo_99 ?_
                    refine lv_goto (tgt := 104) hx hb dX0_cameTo_100 (by decide) ?_
                    refine topi (z := nI (2 ^ i31)) (shl1 _ (by omega)) ?_
                    refine lv_ior hx hb dX0_cameTo_104 ?_
                    refine lv_istore_n (lv' := [(3, .int ((nI (ctQ net bw i19 (ctP net bw n (ctI net bw n pa i7) i19) i31)) ||| (nI (2 ^ i31)))), (7, .int 1), (6, .int (nI i31)), (5, .int (nI i19)), (4, .int (nI (ctI net bw n pa i7))), (0, .ref (a 0)), (1, .int (nI pa)), (2, .int (b2i bw))]) hx hb dX0_cameTo_105 rfl hl (by decide) rfl (fun ls hl => ?_)
                    refine lv_iinc (v := nI (i31 + 1)) (lv' := [(6, .int (nI (i31 + 1))), (3, .int ((nI (ctQ net bw i19 (ctP net bw n (ctI net bw n pa i7) i19) i31)) ||| (nI (2 ^ i31)))), (7, .int 1), (5, .int (nI i19)), (4, .int (nI (ctI net bw n pa i7))), (0, .ref (a 0)), (1, .int (nI pa)), (2, .int (b2i bw))]) hx hb dX0_cameTo_106 hl (k := 2) rfl (nI_1 _) (by decide) rfl (fun ls hl => ?_)
                    refine lv_goto (tgt := 31) hx hb dX0_cameTo_109 (by decide) ?_
                    have e31_3 : nI (ctQ net bw i19 (ctP net bw n (ctI net bw n pa i7) i19) (i31 + 1)) = (nI (ctQ net bw i19 (ctP net bw n (ctI net bw n pa i7) i19) i31)) ||| (nI (2 ^ i31)) := by rw [ctQ, hnx, if_pos rfl]; exact (nI_or _ _).symm
                    exact ih31 (i31 + 1) (by omega) ls (by rw [e31_3]; exact lv_sub hl [0, 3, 4, 1, 5, 6, 7] rfl)
                · have c_52 := b2i_eq0.mp c_52
                  refine lv_iload_n hx hb dX0_cameTo_55 rfl (lv_at hl 6 rfl) ?_
                  refine lv_if_eq (tgt := 78) hx hb dX0_cameTo_56 (by decide) (fun c_56 => ?_) (fun c_56 => ?_)
                  · have c_56 := b2i_eq0.mp c_56
                    have hgo : goB net bw i19 i31 = false := by simp [goB, c_52, c_56]
                    refine lv_iconst (v := 0) hx hb dX0_cameTo_78 (by decide) ?_
                    refine lv_istore (lv' := [(7, .int 0), (6, .int (nI i31)), (5, .int (nI i19)), (4, .int (nI (ctI net bw n pa i7))), (3, .int (nI (ctQ net bw i19 (ctP net bw n (ctI net bw n pa i7) i19) i31))), (0, .ref (a 0)), (1, .int (nI pa)), (2, .int (b2i bw))]) hx hb dX0_cameTo_79 hl (by decide) rfl (fun ls hl => ?_)
                    refine lv_iload_n hx hb dX0_cameTo_81 rfl (lv_at hl 4 rfl) ?_
                    refine lv_iload hx hb dX0_cameTo_82 (lv_at hl 0 rfl) ?_
                    refine lv_if_eq (tgt := 103) hx hb dX0_cameTo_84 (by decide) (fun c_84 => ?_) (fun c_84 => absurd (by decide) c_84)
                    refine lv_iconst (v := 0) hx hb dX0_cameTo_103 (by decide) ?_
                    refine lv_ior hx hb dX0_cameTo_104 ?_
                    refine lv_istore_n (lv' := [(3, .int ((nI (ctQ net bw i19 (ctP net bw n (ctI net bw n pa i7) i19) i31)) ||| 0)), (7, .int 0), (6, .int (nI i31)), (5, .int (nI i19)), (4, .int (nI (ctI net bw n pa i7))), (0, .ref (a 0)), (1, .int (nI pa)), (2, .int (b2i bw))]) hx hb dX0_cameTo_105 rfl hl (by decide) rfl (fun ls hl => ?_)
                    refine lv_iinc (v := nI (i31 + 1)) (lv' := [(6, .int (nI (i31 + 1))), (3, .int ((nI (ctQ net bw i19 (ctP net bw n (ctI net bw n pa i7) i19) i31)) ||| 0)), (7, .int 0), (5, .int (nI i19)), (4, .int (nI (ctI net bw n pa i7))), (0, .ref (a 0)), (1, .int (nI pa)), (2, .int (b2i bw))]) hx hb dX0_cameTo_106 hl (k := 2) rfl (nI_1 _) (by decide) rfl (fun ls hl => ?_)
                    refine lv_goto (tgt := 31) hx hb dX0_cameTo_109 (by decide) ?_
                    have e31_3 : nI (ctQ net bw i19 (ctP net bw n (ctI net bw n pa i7) i19) (i31 + 1)) = (nI (ctQ net bw i19 (ctP net bw n (ctI net bw n pa i7) i19) i31)) ||| 0 := by rw [ctQ, if_neg (show ¬ (goB net bw i19 i31 && (ctQ net bw i19 (ctP net bw n (ctI net bw n pa i7) i19) i31).testBit i19) = true by first | (rw [hnx]; decide) | (rw [hgo, Bool.false_and]; decide))]; exact (nI_or _ 0).symm
                    exact ih31 (i31 + 1) (by omega) ls (by rw [e31_3]; exact lv_sub hl [0, 3, 4, 1, 5, 6, 7] rfl)
                  · have c_56 := b2i_ne0.mp c_56
                    refine lv_aload_n hx hb dX0_cameTo_59 rfl (lv_at hl 4 rfl) ?_
                    refine k_get (v := .ref (a 1)) S hK hP 1 (by decide) fl_X0_11 rfl dX0_cameTo_60 rfl ?_
                    refine lv_iload hx hb dX0_cameTo_63 (lv_at hl 0 rfl) ?_
                    refine k_aldn (j := i31) (v := nI (tdN net i31)) S hK hP 1 (by decide) rfl (show i31 < 4 by omega) dX0_cameTo_65 (hG.2.2.1 i31 (by omega)) ?_
                    refine lv_iload hx hb dX0_cameTo_66 (lv_at hl 1 rfl) ?_
                    refine rc_Si (rest := []) [.int (nI (tdN net i31)), .int (nI i19)] 2 S hK (r0_isIn l D dA (tdN net i31) i19 (by first | assumption | omega | decide) (by first | assumption | omega | decide)) wl_X0_57 wd_X0_X0_isIn rfl ⟨Nat.le_of_ble_eq_true rfl, Nat.le_of_ble_eq_true rfl⟩ hl.1 (Nat.le_of_ble_eq_true rfl) dX0_cameTo_68 ⟨Nat.le_refl 0, Nat.le_refl 0⟩ (trivial) ?_ rfl
                    refine lv_if_eq (tgt := 78) hx hb dX0_cameTo_71 (by decide) (fun c_71 => ?_) (fun c_71 => ?_)
                    · have c_71 := b2i_eq0.mp c_71
                      have hgo : goB net bw i19 i31 = false := by simp [goB, c_52, c_71]
                      refine lv_iconst (v := 0) hx hb dX0_cameTo_78 (by decide) ?_
                      refine lv_istore (lv' := [(7, .int 0), (6, .int (nI i31)), (5, .int (nI i19)), (4, .int (nI (ctI net bw n pa i7))), (3, .int (nI (ctQ net bw i19 (ctP net bw n (ctI net bw n pa i7) i19) i31))), (0, .ref (a 0)), (1, .int (nI pa)), (2, .int (b2i bw))]) hx hb dX0_cameTo_79 hl (by decide) rfl (fun ls hl => ?_)
                      refine lv_iload_n hx hb dX0_cameTo_81 rfl (lv_at hl 4 rfl) ?_
                      refine lv_iload hx hb dX0_cameTo_82 (lv_at hl 0 rfl) ?_
                      refine lv_if_eq (tgt := 103) hx hb dX0_cameTo_84 (by decide) (fun c_84 => ?_) (fun c_84 => absurd (by decide) c_84)
                      refine lv_iconst (v := 0) hx hb dX0_cameTo_103 (by decide) ?_
                      refine lv_ior hx hb dX0_cameTo_104 ?_
                      refine lv_istore_n (lv' := [(3, .int ((nI (ctQ net bw i19 (ctP net bw n (ctI net bw n pa i7) i19) i31)) ||| 0)), (7, .int 0), (6, .int (nI i31)), (5, .int (nI i19)), (4, .int (nI (ctI net bw n pa i7))), (0, .ref (a 0)), (1, .int (nI pa)), (2, .int (b2i bw))]) hx hb dX0_cameTo_105 rfl hl (by decide) rfl (fun ls hl => ?_)
                      refine lv_iinc (v := nI (i31 + 1)) (lv' := [(6, .int (nI (i31 + 1))), (3, .int ((nI (ctQ net bw i19 (ctP net bw n (ctI net bw n pa i7) i19) i31)) ||| 0)), (7, .int 0), (5, .int (nI i19)), (4, .int (nI (ctI net bw n pa i7))), (0, .ref (a 0)), (1, .int (nI pa)), (2, .int (b2i bw))]) hx hb dX0_cameTo_106 hl (k := 2) rfl (nI_1 _) (by decide) rfl (fun ls hl => ?_)
                      refine lv_goto (tgt := 31) hx hb dX0_cameTo_109 (by decide) ?_
                      have e31_3 : nI (ctQ net bw i19 (ctP net bw n (ctI net bw n pa i7) i19) (i31 + 1)) = (nI (ctQ net bw i19 (ctP net bw n (ctI net bw n pa i7) i19) i31)) ||| 0 := by rw [ctQ, if_neg (show ¬ (goB net bw i19 i31 && (ctQ net bw i19 (ctP net bw n (ctI net bw n pa i7) i19) i31).testBit i19) = true by first | (rw [hnx]; decide) | (rw [hgo, Bool.false_and]; decide))]; exact (nI_or _ 0).symm
                      exact ih31 (i31 + 1) (by omega) ls (by rw [e31_3]; exact lv_sub hl [0, 3, 4, 1, 5, 6, 7] rfl)
                    · have c_71 := b2i_ne0.mp c_71
                      have hgo : goB net bw i19 i31 = true := by simp [goB, c_56, c_71]
                      refine lv_iconst (v := 1) hx hb dX0_cameTo_74 (by decide) ?_
                      refine lv_goto (tgt := 79) hx hb dX0_cameTo_75 (by decide) ?_
                      refine lv_istore (lv' := [(7, .int 1), (6, .int (nI i31)), (5, .int (nI i19)), (4, .int (nI (ctI net bw n pa i7))), (3, .int (nI (ctQ net bw i19 (ctP net bw n (ctI net bw n pa i7) i19) i31))), (0, .ref (a 0)), (1, .int (nI pa)), (2, .int (b2i bw))]) hx hb dX0_cameTo_79 hl (by decide) rfl (fun ls hl => ?_)
                      refine lv_iload_n hx hb dX0_cameTo_81 rfl (lv_at hl 4 rfl) ?_
                      refine lv_iload hx hb dX0_cameTo_82 (lv_at hl 0 rfl) ?_
                      refine lv_if_eq (tgt := 103) hx hb dX0_cameTo_84 (by decide) (fun c_84 => absurd c_84 (by decide)) (fun c_84 => ?_)
                      refine lv_iload_n hx hb dX0_cameTo_87 rfl (lv_at hl 4 rfl) ?_
                      refine lv_iload hx hb dX0_cameTo_88 (lv_at hl 2 rfl) ?_
                      refine rc_Si (rest := [.int (nI (ctQ net bw i19 (ctP net bw n (ctI net bw n pa i7) i19) i31))]) [.int (nI (ctQ net bw i19 (ctP net bw n (ctI net bw n pa i7) i19) i31)), .int (nI i19)] 2 S hK (r0_isIn l D dA (ctQ net bw i19 (ctP net bw n (ctI net bw n pa i7) i19) i31) i19 (by first | assumption | omega | decide) (by first | assumption | omega | decide)) wl_X0_57 wd_X0_X0_isIn rfl ⟨Nat.le_of_ble_eq_true rfl, Nat.le_of_ble_eq_true rfl⟩ hl.1 (Nat.le_of_ble_eq_true rfl) dX0_cameTo_90 ⟨Nat.le_refl 0, Nat.le_refl 0⟩ (trivial) ?_ rfl
                      refine lv_if_eq (tgt := 103) hx hb dX0_cameTo_93 (by decide) (fun c_93 => ?_) (fun c_93 => ?_)
                      · have c_93 := b2i_eq0.mp c_93
                        have hnx : (goB net bw i19 i31 && (ctQ net bw i19 (ctP net bw n (ctI net bw n pa i7) i19) i31).testBit i19) = false := by rw [c_93, Bool.and_false]
                        refine lv_iconst (v := 0) hx hb dX0_cameTo_103 (by decide) ?_
                        refine lv_ior hx hb dX0_cameTo_104 ?_
                        refine lv_istore_n (lv' := [(3, .int ((nI (ctQ net bw i19 (ctP net bw n (ctI net bw n pa i7) i19) i31)) ||| 0)), (7, .int 1), (6, .int (nI i31)), (5, .int (nI i19)), (4, .int (nI (ctI net bw n pa i7))), (0, .ref (a 0)), (1, .int (nI pa)), (2, .int (b2i bw))]) hx hb dX0_cameTo_105 rfl hl (by decide) rfl (fun ls hl => ?_)
                        refine lv_iinc (v := nI (i31 + 1)) (lv' := [(6, .int (nI (i31 + 1))), (3, .int ((nI (ctQ net bw i19 (ctP net bw n (ctI net bw n pa i7) i19) i31)) ||| 0)), (7, .int 1), (5, .int (nI i19)), (4, .int (nI (ctI net bw n pa i7))), (0, .ref (a 0)), (1, .int (nI pa)), (2, .int (b2i bw))]) hx hb dX0_cameTo_106 hl (k := 2) rfl (nI_1 _) (by decide) rfl (fun ls hl => ?_)
                        refine lv_goto (tgt := 31) hx hb dX0_cameTo_109 (by decide) ?_
                        have e31_3 : nI (ctQ net bw i19 (ctP net bw n (ctI net bw n pa i7) i19) (i31 + 1)) = (nI (ctQ net bw i19 (ctP net bw n (ctI net bw n pa i7) i19) i31)) ||| 0 := by rw [ctQ, if_neg (show ¬ (goB net bw i19 i31 && (ctQ net bw i19 (ctP net bw n (ctI net bw n pa i7) i19) i31).testBit i19) = true by first | (rw [hnx]; decide) | (rw [hgo, Bool.false_and]; decide))]; exact (nI_or _ 0).symm
                        exact ih31 (i31 + 1) (by omega) ls (by rw [e31_3]; exact lv_sub hl [0, 3, 4, 1, 5, 6, 7] rfl)
                      · have c_93 := b2i_ne0.mp c_93
                        have hnx : (goB net bw i19 i31 && (ctQ net bw i19 (ctP net bw n (ctI net bw n pa i7) i19) i31).testBit i19) = true := by rw [c_93, hgo]; rfl
                        refine lv_iconst (v := 1) hx hb dX0_cameTo_96 (by decide) ?_
                        refine lv_iload hx hb dX0_cameTo_97 (lv_at hl 1 rfl) ?_
                        refine lv_ishl hx hb dX0_cameTo_99 ?_
                        refine lv_goto (tgt := 104) hx hb dX0_cameTo_100 (by decide) ?_
                        refine topi (z := nI (2 ^ i31)) (shl1 _ (by omega)) ?_
                        refine lv_ior hx hb dX0_cameTo_104 ?_
                        refine lv_istore_n (lv' := [(3, .int ((nI (ctQ net bw i19 (ctP net bw n (ctI net bw n pa i7) i19) i31)) ||| (nI (2 ^ i31)))), (7, .int 1), (6, .int (nI i31)), (5, .int (nI i19)), (4, .int (nI (ctI net bw n pa i7))), (0, .ref (a 0)), (1, .int (nI pa)), (2, .int (b2i bw))]) hx hb dX0_cameTo_105 rfl hl (by decide) rfl (fun ls hl => ?_)
                        refine lv_iinc (v := nI (i31 + 1)) (lv' := [(6, .int (nI (i31 + 1))), (3, .int ((nI (ctQ net bw i19 (ctP net bw n (ctI net bw n pa i7) i19) i31)) ||| (nI (2 ^ i31)))), (7, .int 1), (5, .int (nI i19)), (4, .int (nI (ctI net bw n pa i7))), (0, .ref (a 0)), (1, .int (nI pa)), (2, .int (b2i bw))]) hx hb dX0_cameTo_106 hl (k := 2) rfl (nI_1 _) (by decide) rfl (fun ls hl => ?_)
                        refine lv_goto (tgt := 31) hx hb dX0_cameTo_109 (by decide) ?_
                        have e31_3 : nI (ctQ net bw i19 (ctP net bw n (ctI net bw n pa i7) i19) (i31 + 1)) = (nI (ctQ net bw i19 (ctP net bw n (ctI net bw n pa i7) i19) i31)) ||| (nI (2 ^ i31)) := by rw [ctQ, hnx, if_pos rfl]; exact (nI_or _ _).symm
                        exact ih31 (i31 + 1) (by omega) ls (by rw [e31_3]; exact lv_sub hl [0, 3, 4, 1, 5, 6, 7] rfl)
            exact hloop31 (n) 0 (by omega) ls (lv_sub hl [0, 1, 2, 3, 4, 5, 6] rfl)
        exact hloop19 (n) 0 (by omega) ls (lv_sub hl [0, 1, 2, 3, 4, 5] rfl)
  exact hloop7 (n + 1) 0 (by omega) ls (lv_sub hl [0, 1, 2, 3, 4] rfl)
set_option maxHeartbeats 4000000 in
theorem r0_isJoined (l : Launch) (D : va_G) (dA : Nat → ClassId) (a : Nat → Nat) (σ : MS) (n : Nat) (net : Nat → Nat) (hG : KG σ n net) (hn0 : 0 < n) : RC l yX0_isJoined cX0_isJoined 1 (some .boolean) 2 48 D dA [.ref (a 0)] (fun H => va_P D vwCl (kW dA a σ) H) (fun v9 => v9 = some (.int (b2i (jnB net n)))) := by
  refine RC.of (by decide) (Nat.le_of_ble_eq_true rfl) ?_
  intro p e s m below meth c ls S hr hlk hK hP hl
  have hx := S.1
  have hb := S.2.1
  have hl : lv_has ls 1 [(0, .ref (a 0))] := hl
  have hP : va_P D vwCl (kW dA a σ) s.heap := hP
  have hn := hG.1
  have hnet := hG.2.2.2
  have h16a : ctI net true n 0 n < 16 := ctI_lt hn (by omega) n
  refine lv_aload_n hx hb dX0_isJoined_0 rfl (lv_at hl 0 rfl) ?_
  refine lv_iconst (v := 0) hx hb dX0_isJoined_1 (by decide) ?_
  refine lv_iconst (v := 1) hx hb dX0_isJoined_2 (by decide) ?_
  refine rc_Vi (rest := []) [.int 0, .int 1] 2 S hK (r0_cameTo l D dA a σ n net hG 0 true (by first | assumption | omega | decide)) wl_X0_224 wd_X0_X0_cameTo rfl ⟨Nat.le_of_ble_eq_true rfl, Nat.le_of_ble_eq_true rfl⟩ (k_recv hK hP) hl.1 (Nat.le_of_ble_eq_true rfl) dX0_isJoined_3 ⟨Nat.le_refl 0, Nat.le_refl 0⟩ (hP) ?_ rfl
  refine lv_aload_n hx hb dX0_isJoined_6 rfl (lv_at hl 0 rfl) ?_
  refine rc_Vi (rest := [.int (nI (ctI net true n 0 n))]) [] 0 S hK (r0_all l D dA a σ n hn (hG.2.1)) wl_X0_61 wd_X0_X0_all rfl ⟨Nat.le_of_ble_eq_true rfl, Nat.le_of_ble_eq_true rfl⟩ (k_recv hK hP) hl.1 (Nat.le_of_ble_eq_true rfl) dX0_isJoined_7 ⟨Nat.le_refl 0, Nat.le_refl 0⟩ (hP) ?_ rfl
  refine lv_icmp_ne (tgt := 17) hx hb dX0_isJoined_10 (by decide) (fun c_10 => ?_) (fun c_10 => ?_)
  · have c_10 : ¬ ctI net true n 0 n = al n := fun h => c_10 (congrArg nI h)
    refine lv_iconst (v := 0) hx hb dX0_isJoined_17 (by decide) ?_
    exact r_zret S hr hlk dX0_isJoined_18 (by decide) (congrArg (fun z : Int32 => some (Value.int z)) (show 0 = b2i (jnB net n) from by rw [joined_eq hn hn0]; simp [b2i, c_10]))
  · have c_10 : ctI net true n 0 n = al n := nI_inj (by omega) (Nat.lt_trans (al_lt n hn) (by decide)) c_10
    refine lv_iconst (v := 1) hx hb dX0_isJoined_13 (by decide) ?_
    refine lv_goto (tgt := 18) hx hb dX0_isJoined_14 (by decide) ?_
    exact r_zret S hr hlk dX0_isJoined_18 (by decide) (congrArg (fun z : Int32 => some (Value.int z)) (show 1 = b2i (jnB net n) from by rw [joined_eq hn hn0]; simp [b2i, c_10]))
set_option maxHeartbeats 4000000 in
theorem r0_joined (l : Launch) (D : va_G) (dA : Nat → ClassId) (a : Nat → Nat) (σ : MS) (n : Nat) (net : Nat → Nat) (hG : KG σ n net) : RC l yX0_joined cX0_joined 1 (some .int) 3 68 D dA [.ref (a 0)] (fun H => va_P D vwCl (kW dA a σ) H) (fun v9 => v9 = some (.int (spJoined n net))) := by
  refine RC.of (by decide) (Nat.le_of_ble_eq_true rfl) ?_
  intro p e s m below meth c ls S hr hlk hK hP hl
  have hx := S.1
  have hb := S.2.1
  have hl : lv_has ls 1 [(0, .ref (a 0))] := hl
  have hP : va_P D vwCl (kW dA a σ) s.heap := hP
  have hn := hG.1
  have hnet := hG.2.2.2
  refine lv_aload_n hx hb dX0_joined_0 rfl (lv_at hl 0 rfl) ?_
  refine k_get (v := .int (σ.1 0)) S hK hP 0 (by decide) fl_X0_45 rfl dX0_joined_1 rfl ?_
  refine topi (z := nI n) (hG.2.1) ?_
  refine lv_if_ne (tgt := 12) hx hb dX0_joined_4 (by decide) (fun c_4 => ?_) (fun c_4 => ?_)
  · have c_4 : ¬ n = 0 := fun h => c_4 (congrArg nI h)
    refine lv_aload_n hx hb dX0_joined_12 rfl (lv_at hl 0 rfl) ?_
    refine rc_Vi (rest := []) [] 0 S hK (r0_isJoined l D dA a σ n net hG (by first | assumption | omega | decide)) wl_X0_228 wd_X0_X0_isJoined rfl ⟨Nat.le_of_ble_eq_true rfl, Nat.le_of_ble_eq_true rfl⟩ (k_recv hK hP) hl.1 (Nat.le_of_ble_eq_true rfl) dX0_joined_13 ⟨Nat.le_refl 0, Nat.le_refl 0⟩ (hP) ?_ rfl
    refine lv_if_eq (tgt := 23) hx hb dX0_joined_16 (by decide) (fun c_16 => ?_) (fun c_16 => ?_)
    · have c_16 := b2i_eq0.mp c_16
      refine lv_iconst (v := 0) hx hb dX0_joined_23 (by decide) ?_
      exact r_iret S hr hlk dX0_joined_24 (congrArg (fun z : Int32 => some (Value.int z)) (show 0 = spJoined n net from by simp [spJoined, *, b2i]))
    · have c_16 := b2i_ne0.mp c_16
      refine lv_iconst (v := 1) hx hb dX0_joined_19 (by decide) ?_
      refine lv_goto (tgt := 24) hx hb dX0_joined_20 (by decide) ?_
      exact r_iret S hr hlk dX0_joined_24 (congrArg (fun z : Int32 => some (Value.int z)) (show 1 = spJoined n net from by simp [spJoined, *, b2i]))
  · have c_4 : n = 0 := nI_inj (by omega) (by decide) c_4
    refine lv_bipush (v := (-3)) hx hb dX0_joined_7 (by decide) ?_
    refine lv_goto (tgt := 24) hx hb dX0_joined_9 (by decide) ?_
    exact r_iret S hr hlk dX0_joined_24 (congrArg (fun z : Int32 => some (Value.int z)) (show (-3) = spJoined n net from by simp [spJoined, *, b2i]))
