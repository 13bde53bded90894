/-! COMPONENT 18: isWithin (by program: gen/comp18.py) -/
set_option maxRecDepth 100000
set_option maxHeartbeats 4000000 in
theorem k0_wiS (l : Launch) (D : va_G) (dA : Nat → ClassId) (a : Nat → Nat) (hI : kInj a) (σ : MS) (Ph : Heap → Prop) (hSt : kStb a Ph) (n : Nat) (net : Nat → Nat) (r o rr : Nat) (hr4 : r < 4) (ho4 : o < 4) (hrr4 : rr < 4) (hrr : mxI (nI r) (nI o) = nI rr) (hro : r = rr ∨ r < 2) (hoo : o = rr ∨ o < 2) (tn : Int32) (d : Nat) (hd : d ≤ 15) (IH : ∀ (σ : MS) (sx tt : Nat), KG σ n net → σ.1 9 = tn → vld n sx → tt < 256 → mu sx + 1 ≤ d → KC l yX0_isWithin cX0_isWithin 8 (some .boolean) (3 + d) (100 + 40 * d) D dA a [.ref (a 0), .int (nI r), .int (nI o), .int (nI sx), .int (nI tt)] σ Ph (fun v9 σ9 => ∃ b, v9 = some (.int (b2i b)) ∧ FRc σ σ9 tn ∧ (b = true → σ9.2.1 4 (pW rr sx (tof rr tt)) = tn ∧ WTc σ σ9 tn n net r o rr) ∧ (b = false → vio n net r o rr sx (tof rr tt)))) (sx tt : Nat) (hG : KG σ n net) (h9 : σ.1 9 = tn) (hv : vld n sx) (ht : tt < 256) (hmu : mu sx ≤ d) : KC l yX0_isWithin cX0_isWithin 8 (some .boolean) (3 + (d + 1)) (100 + 40 * (d + 1)) D dA a [.ref (a 0), .int (nI r), .int (nI o), .int (nI sx), .int (nI tt)] σ Ph (fun v9 σ9 => ∃ b, v9 = some (.int (b2i b)) ∧ FRc σ σ9 tn ∧ (b = true → σ9.2.1 4 (pW rr sx (tof rr tt)) = tn ∧ WTc σ σ9 tn n net r o rr) ∧ (b = false → vio n net r o rr sx (tof rr tt))) := by
  refine KC.of (by decide) (Nat.le_of_ble_eq_true rfl) ?_
  intro p e s m below meth c ls S hr hlk hK hM hPh hl
  have hx := S.1
  have hb := S.2.1
  have hl : lv_has ls 8 [(0, .ref (a 0)), (1, .int (nI r)), (2, .int (nI o)), (3, .int (nI sx)), (4, .int (nI tt))] := hl
  have hn := hG.1
  have hnet := hG.2.2.2
  have hs := hv.1
  have hGw := hG
  have hsl0 := sOf_lt (r := rr) (s := sx) ht
  have h9w := h9
  refine lv_iload_n hx hb dX0_isWithin_0 rfl (lv_at hl 1 rfl) ?_
  refine lv_iload_n hx hb dX0_isWithin_1 rfl (lv_at hl 2 rfl) ?_
  refine va_mmax (rest := []) S.1 S.2.1 (S.2.2.1.trans hl.1.symm) S.2.2.2.1 (S.2.2.2.2 _ q491) (S.2.2.2.2 _ q368) (S.2.2.2.2 _ q78) (S.2.2.2.2 _ q369) (by show 1 ≤ 3 + (d + 1); omega) (by show 0 + 13 ≤ 100 + 40 * (d + 1); omega) (Nat.le_refl 0) (Nat.le_refl 0) dX0_isWithin_2 ?_
  refine W.eq (g2 := F0 m 5 ls [.int (mxI (nI r) (nI o))]) rfl ?_
  refine topi (z := nI rr) (hrr) ?_
  refine lv_iload_n hx hb dX0_isWithin_5 rfl (lv_at hl 3 rfl) ?_
  refine lv_iload hx hb dX0_isWithin_6 (lv_at hl 4 rfl) ?_
  refine rc_Si (rest := []) [.int (nI rr), .int (nI sx), .int (nI tt)] 3 S hK (r0_stateOf l D dA rr sx tt (by omega) (by first | assumption | omega | decide) (ht)) wl_X0_164 wd_X0_X0_stateOf rfl ⟨by show (_ : Nat) ≤ 3 + (d + 1); omega, by show (_ : Nat) ≤ 100 + 40 * (d + 1); omega⟩ hl.1 (Nat.le_of_ble_eq_true rfl) dX0_isWithin_8 ⟨Nat.le_refl 0, Nat.le_refl 0⟩ (trivial) ?_ rfl
  refine lv_istore (lv' := [(5, .int (nI (sOf rr sx tt))), (0, .ref (a 0)), (1, .int (nI r)), (2, .int (nI o)), (3, .int (nI sx)), (4, .int (nI tt))]) hx hb dX0_isWithin_11 hl (by decide) rfl (fun ls hl => ?_)
  refine lv_aload_n hx hb dX0_isWithin_13 rfl (lv_at hl 1 rfl) ?_
  refine k_get (v := .ref (a 4)) S hK hM.1 4 (by decide) fl_X0_23 rfl dX0_isWithin_14 rfl ?_
  refine lv_iload hx hb dX0_isWithin_17 (lv_at hl 0 rfl) ?_
  refine k_aldn (j := sOf rr sx tt) (v := (σ.2.1 4) (sOf rr sx tt)) S hK hM.1 4 (by decide) rfl (hsl0) dX0_isWithin_19 (rfl) ?_
  refine lv_aload_n hx hb dX0_isWithin_20 rfl (lv_at hl 1 rfl) ?_
  refine k_get (v := .int (σ.1 9)) S hK hM.1 9 (by decide) fl_X0_167 rfl dX0_isWithin_21 rfl ?_
  refine topi (z := tn) (h9w) ?_
  refine lv_icmp_ne (tgt := 29) hx hb dX0_isWithin_24 (by decide) (fun c_24 => ?_) (fun c_24 => ?_)
  · refine lv_aload_n hx hb dX0_isWithin_29 rfl (lv_at hl 1 rfl) ?_
    refine k_get (v := .ref (a 4)) S hK hM.1 4 (by decide) fl_X0_23 rfl dX0_isWithin_30 rfl ?_
    refine lv_iload hx hb dX0_isWithin_33 (lv_at hl 0 rfl) ?_
    refine lv_aload_n hx hb dX0_isWithin_35 rfl (lv_at hl 1 rfl) ?_
    refine k_get (v := .int (σ.1 9)) S hK hM.1 9 (by decide) fl_X0_167 rfl dX0_isWithin_36 rfl ?_
    refine topi (z := tn) (h9w) ?_
    refine k_astn (j := sOf rr sx tt) hI S hK hM 4 (by decide) rfl (hsl0) dX0_isWithin_39 (fun H locs hM => ?_)
    refine lv_iconst (v := 0) hx hb dX0_isWithin_40 (by decide) ?_
    refine lv_istore (lv' := [(6, .int 0), (5, .int (nI (sOf rr sx tt))), (0, .ref (a 0)), (1, .int (nI r)), (2, .int (nI o)), (3, .int (nI sx)), (4, .int (nI tt))]) hx hb dX0_isWithin_41 hl (by decide) rfl (fun ls hl => ?_)
    have hloop43 : ∀ (k43 i43 : Nat), i43 + k43 = n → ∀ (ω43 : MS) (H : Heap) (locs : List Loc), KB D dA a ω43 s.heap H locs → WIw σ ω43 tn n net r o rr sx (tof rr tt) (4 * i43) → ∀ (ls : Array Slot), lv_has ls 8 [(6, .int (nI i43)), (5, .int (nI (sOf rr sx tt))), (0, .ref (a 0)), (1, .int (nI r)), (2, .int (nI o)), (3, .int (nI sx)), (4, .int (nI tt))] → W p l e ({ frames := (3 + (d + 1)), cells := 0, slots := 0, locals := (100 + 40 * (d + 1)) }) s m [.ref (a 0), .int (nI r), .int (nI o), .int (nI sx), .int (nI tt)].toArray below meth c H locs 0 0 (KZ below D dA a (fun v9 σ9 => ∃ b, v9 = some (.int (b2i b)) ∧ FRc σ σ9 tn ∧ (b = true → σ9.2.1 4 (pW rr sx (tof rr tt)) = tn ∧ WTc σ σ9 tn n net r o rr) ∧ (b = false → vio n net r o rr sx (tof rr tt))) [.ref (a 0), .int (nI r), .int (nI o), .int (nI sx), .int (nI tt)] s) (F0 m 43 ls []) := by
      intro k43
      induction k43 with
      | zero =>
        intro i43 hi43 ω43 H locs hM hw43 ls hl
        have hi43 : i43 = n := by omega
        have hGw := hG.fr hw43.1
        have h9w := (congrFun hw43.1.1 9).trans h9
        refine lv_iload hx hb dX0_isWithin_43 (lv_at hl 0 rfl) ?_
        refine lv_aload_n hx hb dX0_isWithin_45 rfl (lv_at hl 2 rfl) ?_
        refine k_get (v := .int (ω43.1 0)) S hK hM.1 0 (by decide) fl_X0_45 rfl dX0_isWithin_46 rfl ?_
        refine topi (z := nI n) (hGw.2.1) ?_
        refine lv_icmp_ge (tgt := 134) hx hb dX0_isWithin_49 (by decide) (fun c_49 => ?_) (fun c_49 => absurd (show nI n ≤ nI i43 from nI_le (by omega) (by omega)) c_49)
        refine lv_iconst (v := 1) hx hb dX0_isWithin_134 (by decide) ?_
        exact k_zret S hr hlk hM dX0_isWithin_135 (by decide) (⟨true, rfl, hw43.1, fun _ => (by rw [hi43] at hw43; exact hw43.e hn), fun h => by cases h⟩)
      | succ k43 ih43 =>
        intro i43 hi43 ω43 H locs hM hw43 ls hl
        have hlt43 : i43 < n := by omega
        have hGw := hG.fr hw43.1
        have h9w := (congrFun hw43.1.1 9).trans h9
        refine lv_iload hx hb dX0_isWithin_43 (lv_at hl 0 rfl) ?_
        refine lv_aload_n hx hb dX0_isWithin_45 rfl (lv_at hl 2 rfl) ?_
        refine k_get (v := .int (ω43.1 0)) S hK hM.1 0 (by decide) fl_X0_45 rfl dX0_isWithin_46 rfl ?_
        refine topi (z := nI n) (hGw.2.1) ?_
        refine lv_icmp_ge (tgt := 134) hx hb dX0_isWithin_49 (by decide) (fun c_49 => absurd c_49 (show ¬ nI n ≤ nI i43 from nI_ge (by omega) (by omega))) (fun c_49 => ?_)
        refine lv_iconst (v := 0) hx hb dX0_isWithin_52 (by decide) ?_
        refine lv_istore (lv' := [(7, .int 0), (6, .int (nI i43)), (5, .int (nI (sOf rr sx tt))), (0, .ref (a 0)), (1, .int (nI r)), (2, .int (nI o)), (3, .int (nI sx)), (4, .int (nI tt))]) hx hb dX0_isWithin_53 hl (by decide) rfl (fun ls hl => ?_)
        have hloop55 : ∀ (k55 i55 : Nat), i55 + k55 = n → ∀ (ω55 : MS) (H : Heap) (locs : List Loc), KB D dA a ω55 s.heap H locs → WIw σ ω55 tn n net r o rr sx (tof rr tt) (4 * i43 + i55) → ∀ (ls : Array Slot), lv_has ls 8 [(7, .int (nI i55)), (6, .int (nI i43)), (5, .int (nI (sOf rr sx tt))), (0, .ref (a 0)), (1, .int (nI r)), (2, .int (nI o)), (3, .int (nI sx)), (4, .int (nI tt))] → W p l e ({ frames := (3 + (d + 1)), cells := 0, slots := 0, locals := (100 + 40 * (d + 1)) }) s m [.ref (a 0), .int (nI r), .int (nI o), .int (nI sx), .int (nI tt)].toArray below meth c H locs 0 0 (KZ below D dA a (fun v9 σ9 => ∃ b, v9 = some (.int (b2i b)) ∧ FRc σ σ9 tn ∧ (b = true → σ9.2.1 4 (pW rr sx (tof rr tt)) = tn ∧ WTc σ σ9 tn n net r o rr) ∧ (b = false → vio n net r o rr sx (tof rr tt))) [.ref (a 0), .int (nI r), .int (nI o), .int (nI sx), .int (nI tt)] s) (F0 m 55 ls []) := by
          intro k55
          induction k55 with
          | zero =>
            intro i55 hi55 ω55 H locs hM hw55 ls hl
            have hi55 : i55 = n := by omega
            have hGw := hG.fr hw55.1
            have h9w := (congrFun hw55.1.1 9).trans h9
            refine lv_iload hx hb dX0_isWithin_55 (lv_at hl 0 rfl) ?_
            refine lv_aload_n hx hb dX0_isWithin_57 rfl (lv_at hl 3 rfl) ?_
            refine k_get (v := .int (ω55.1 0)) S hK hM.1 0 (by decide) fl_X0_45 rfl dX0_isWithin_58 rfl ?_
            refine topi (z := nI n) (hGw.2.1) ?_
            refine lv_icmp_ge (tgt := 128) hx hb dX0_isWithin_61 (by decide) (fun c_61 => ?_) (fun c_61 => absurd (show nI n ≤ nI i55 from nI_le (by omega) (by omega)) c_61)
            refine lv_iinc (v := nI (i43 + 1)) (lv' := [(6, .int (nI (i43 + 1))), (7, .int (nI i55)), (5, .int (nI (sOf rr sx tt))), (0, .ref (a 0)), (1, .int (nI r)), (2, .int (nI o)), (3, .int (nI sx)), (4, .int (nI tt))]) hx hb dX0_isWithin_128 hl (k := 1) rfl (nI_1 _) (by decide) rfl (fun ls hl => ?_)
            refine lv_goto (tgt := 43) hx hb dX0_isWithin_131 (by decide) ?_
            exact ih43 (i43 + 1) (by omega) _ _ _ hM (by rw [hi55] at hw55; exact hw55.r) ls (lv_sub hl [0, 2, 3, 4, 5, 6, 7] rfl)
          | succ k55 ih55 =>
            intro i55 hi55 ω55 H locs hM hw55 ls hl
            have hlt55 : i55 < n := by omega
            have hGw := hG.fr hw55.1
            have h9w := (congrFun hw55.1.1 9).trans h9
            refine lv_iload hx hb dX0_isWithin_55 (lv_at hl 0 rfl) ?_
            refine lv_aload_n hx hb dX0_isWithin_57 rfl (lv_at hl 3 rfl) ?_
            refine k_get (v := .int (ω55.1 0)) S hK hM.1 0 (by decide) fl_X0_45 rfl dX0_isWithin_58 rfl ?_
            refine topi (z := nI n) (hGw.2.1) ?_
            refine lv_icmp_ge (tgt := 128) hx hb dX0_isWithin_61 (by decide) (fun c_61 => absurd c_61 (show ¬ nI n ≤ nI i55 from nI_ge (by omega) (by omega))) (fun c_61 => ?_)
            refine lv_aload_n hx hb dX0_isWithin_64 rfl (lv_at hl 3 rfl) ?_
            refine lv_iload_n hx hb dX0_isWithin_65 rfl (lv_at hl 4 rfl) ?_
            refine lv_iload_n hx hb dX0_isWithin_66 rfl (lv_at hl 6 rfl) ?_
            refine lv_iload hx hb dX0_isWithin_67 (lv_at hl 7 rfl) ?_
            refine lv_iload hx hb dX0_isWithin_69 (lv_at hl 1 rfl) ?_
            refine lv_iload hx hb dX0_isWithin_71 (lv_at hl 0 rfl) ?_
            refine rc_Vi (rest := []) [.int (nI r), .int (nI sx), .int (nI tt), .int (nI i43), .int (nI i55)] 5 S hK (r0_mayRing l D dA a ω55 n net hGw r sx tt i43 i55 (by omega) hv (ht) (by first | assumption | omega | decide) (by first | assumption | omega | decide)) wl_X0_160 wd_X0_X0_mayRing rfl ⟨by show (_ : Nat) ≤ 3 + (d + 1); omega, by show (_ : Nat) ≤ 100 + 40 * (d + 1); omega⟩ (k_recv hK hM.1) hl.1 (Nat.le_of_ble_eq_true rfl) dX0_isWithin_73 ⟨Nat.le_refl 0, Nat.le_refl 0⟩ (hM.1) ?_ rfl
            refine lv_if_eq (tgt := 122) hx hb dX0_isWithin_76 (by decide) (fun c_76 => ?_) (fun c_76 => ?_)
            · have c_76 := b2i_eq0.mp c_76
              rw [mayB_rr hro] at c_76
              refine lv_iinc (v := nI (i55 + 1)) (lv' := [(7, .int (nI (i55 + 1))), (6, .int (nI i43)), (5, .int (nI (sOf rr sx tt))), (0, .ref (a 0)), (1, .int (nI r)), (2, .int (nI o)), (3, .int (nI sx)), (4, .int (nI tt))]) hx hb dX0_isWithin_122 hl (k := 0) rfl (nI_1 _) (by decide) rfl (fun ls hl => ?_)
              refine lv_goto (tgt := 55) hx hb dX0_isWithin_125 (by decide) ?_
              exact ih55 (i55 + 1) (by omega) _ _ _ hM (hw55.f (by omega) c_76) ls (lv_sub hl [0, 1, 2, 3, 4, 5, 6, 7] rfl)
            · have c_76 := b2i_ne0.mp c_76
              rw [mayB_rr hro] at c_76
              refine lv_aload_n hx hb dX0_isWithin_79 rfl (lv_at hl 3 rfl) ?_
              refine lv_iload_n hx hb dX0_isWithin_80 rfl (lv_at hl 5 rfl) ?_
              refine lv_iload_n hx hb dX0_isWithin_81 rfl (lv_at hl 6 rfl) ?_
              refine lv_iload hx hb dX0_isWithin_82 (lv_at hl 7 rfl) ?_
              refine lv_iload hx hb dX0_isWithin_84 (lv_at hl 1 rfl) ?_
              refine lv_iload hx hb dX0_isWithin_86 (lv_at hl 0 rfl) ?_
              refine rc_Vi (rest := []) [.int (nI o), .int (nI sx), .int (nI tt), .int (nI i43), .int (nI i55)] 5 S hK (r0_mayRing l D dA a ω55 n net hGw o sx tt i43 i55 (by omega) hv (ht) (by first | assumption | omega | decide) (by first | assumption | omega | decide)) wl_X0_160 wd_X0_X0_mayRing rfl ⟨by show (_ : Nat) ≤ 3 + (d + 1); omega, by show (_ : Nat) ≤ 100 + 40 * (d + 1); omega⟩ (k_recv hK hM.1) hl.1 (Nat.le_of_ble_eq_true rfl) dX0_isWithin_88 ⟨Nat.le_refl 0, Nat.le_refl 0⟩ (hM.1) ?_ rfl
              refine lv_if_eq (tgt := 120) hx hb dX0_isWithin_91 (by decide) (fun c_91 => ?_) (fun c_91 => ?_)
              · have c_91 := b2i_eq0.mp c_91
                rw [mayB_rr hoo] at c_91
                refine lv_iconst (v := 0) hx hb dX0_isWithin_120 (by decide) ?_
                exact k_zret S hr hlk hM dX0_isWithin_121 (by decide) (⟨false, rfl, hw55.1, (fun h => by cases h), fun _ => vio_here hlt43 hlt55 c_76 c_91⟩)
              · have c_91 := b2i_ne0.mp c_91
                rw [mayB_rr hoo] at c_91
                refine lv_aload_n hx hb dX0_isWithin_94 rfl (lv_at hl 3 rfl) ?_
                refine lv_iload_n hx hb dX0_isWithin_95 rfl (lv_at hl 4 rfl) ?_
                refine lv_iload_n hx hb dX0_isWithin_96 rfl (lv_at hl 5 rfl) ?_
                refine lv_iload_n hx hb dX0_isWithin_97 rfl (lv_at hl 6 rfl) ?_
                refine lv_iload hx hb dX0_isWithin_98 (lv_at hl 1 rfl) ?_
                refine lv_iload hx hb dX0_isWithin_100 (lv_at hl 0 rfl) ?_
                refine rc_Si (rest := [.int (nI o), .int (nI r), .ref (a 0)]) [.int (nI sx), .int (nI i43), .int (nI i55)] 3 S hK (r0_behind l D dA sx i43 i55 (by first | assumption | omega | decide) (by first | assumption | omega | decide) (by first | assumption | omega | decide)) wl_X0_170 wd_X0_X0_behind rfl ⟨by show (_ : Nat) ≤ 3 + (d + 1); omega, by show (_ : Nat) ≤ 100 + 40 * (d + 1); omega⟩ hl.1 (Nat.le_of_ble_eq_true rfl) dX0_isWithin_102 ⟨Nat.le_refl 0, Nat.le_refl 0⟩ (trivial) ?_ rfl
                refine lv_iload hx hb dX0_isWithin_105 (lv_at hl 7 rfl) ?_
                refine lv_iload hx hb dX0_isWithin_107 (lv_at hl 1 rfl) ?_
                refine lv_iload hx hb dX0_isWithin_109 (lv_at hl 0 rfl) ?_
                refine rc_Si (rest := [.int (nI (aft sx i43 i55)), .int (nI o), .int (nI r), .ref (a 0)]) [.int (nI tt), .int (nI i43), .int (nI i55)] 3 S hK (r0_tokensBehind l D dA tt i43 i55 (by first | assumption | omega | decide) (by first | assumption | omega | decide) (by first | assumption | omega | decide)) wl_X0_102 wd_X0_X0_tokensBehind rfl ⟨by show (_ : Nat) ≤ 3 + (d + 1); omega, by show (_ : Nat) ≤ 100 + 40 * (d + 1); omega⟩ hl.1 (Nat.le_of_ble_eq_true rfl) dX0_isWithin_111 ⟨Nat.le_refl 0, Nat.le_refl 0⟩ (trivial) ?_ rfl
                refine kc_V (rest := []) [.int (nI r), .int (nI o), .int (nI (aft sx i43 i55)), .int (nI (tb8 tt i43 i55))] 4 S hK hM (IH ω55 _ _ hGw h9w (vld_aft hn hv hlt43 hlt55) (tb8_lt tt ht i43 (by omega) i55 (by omega)) (by have := mu_aft (s := sx) (show i43 < 4 by omega) (show i55 < 4 by omega) (may_ne hv hlt55 hn c_76); omega)) wl_X0_259 wd_X0_X0_isWithin rfl ⟨by show (_ : Nat) ≤ 3 + (d + 1); omega, by show (_ : Nat) ≤ 100 + 40 * (d + 1); omega⟩ hl.1 (Nat.le_of_ble_eq_true rfl) dX0_isWithin_114 ⟨Nat.le_refl 0, Nat.le_refl 0⟩ (hSt.at hM hPh) (fun v σ114 H locs hq hM => ?_) rfl
                obtain ⟨b9, rfl, hFR9, ht9, hf9⟩ := hq
                rw [tof_tb ht (by omega) (by omega)] at ht9 hf9
                refine W.eq (g2 := F0 m 117 ls [.int (b2i b9)]) rfl ?_
                refine lv_if_ne (tgt := 122) hx hb dX0_isWithin_117 (by decide) (fun c_117 => ?_) (fun c_117 => ?_)
                · have c_117 := b2i_ne0.mp c_117
                  refine lv_iinc (v := nI (i55 + 1)) (lv' := [(7, .int (nI (i55 + 1))), (6, .int (nI i43)), (5, .int (nI (sOf rr sx tt))), (0, .ref (a 0)), (1, .int (nI r)), (2, .int (nI o)), (3, .int (nI sx)), (4, .int (nI tt))]) hx hb dX0_isWithin_122 hl (k := 0) rfl (nI_1 _) (by decide) rfl (fun ls hl => ?_)
                  refine lv_goto (tgt := 55) hx hb dX0_isWithin_125 (by decide) ?_
                  exact ih55 (i55 + 1) (by omega) _ _ _ hM (hw55.t (by omega) c_91 hFR9 (ht9 c_117).1 (ht9 c_117).2) ls (lv_sub hl [0, 1, 2, 3, 4, 5, 6, 7] rfl)
                · have c_117 := b2i_eq0.mp c_117
                  refine lv_iconst (v := 0) hx hb dX0_isWithin_120 (by decide) ?_
                  exact k_zret S hr hlk hM dX0_isWithin_121 (by decide) (⟨false, rfl, hw55.1.tr hFR9, (fun h => by cases h), fun _ => vio_step hlt43 hlt55 c_76 (hf9 c_117)⟩)
        exact hloop55 (n) 0 (by omega) _ _ _ hM (hw43) ls (lv_sub hl [0, 1, 2, 3, 4, 5, 6, 7] rfl)
    exact hloop43 (n) 0 (by omega) _ _ _ hM (WIw.a hv (okT_of ht)) ls (lv_sub hl [0, 1, 2, 3, 4, 5, 6] rfl)
  · refine lv_iconst (v := 1) hx hb dX0_isWithin_27 (by decide) ?_
    exact k_zret S hr hlk hM dX0_isWithin_28 (by decide) (⟨true, rfl, FRc.rf, fun _ => ⟨c_24, fun _ _ _ _ h1 h2 => absurd h1 h2⟩, fun h => by cases h⟩)
theorem k0_isWithin (l : Launch) (D : va_G) (dA : Nat → ClassId) (a : Nat → Nat) (hI : kInj a) (Ph : Heap → Prop) (hSt : kStb a Ph) (n : Nat) (net : Nat → Nat) (r o rr : Nat) (hr4 : r < 4) (ho4 : o < 4) (hrr4 : rr < 4) (hrr : mxI (nI r) (nI o) = nI rr) (hro : r = rr ∨ r < 2) (hoo : o = rr ∨ o < 2) (tn : Int32) : ∀ (d : Nat), d ≤ 15 → ∀ (σ : MS) (sx tt : Nat), KG σ n net → σ.1 9 = tn → vld n sx → tt < 256 → mu sx ≤ d →
    KC l yX0_isWithin cX0_isWithin 8 (some .boolean) (3 + (d + 1)) (100 + 40 * (d + 1)) D dA a [.ref (a 0), .int (nI r), .int (nI o), .int (nI sx), .int (nI tt)] σ Ph (fun v9 σ9 => ∃ b, v9 = some (.int (b2i b)) ∧ FRc σ σ9 tn ∧ (b = true → σ9.2.1 4 (pW rr sx (tof rr tt)) = tn ∧ WTc σ σ9 tn n net r o rr) ∧ (b = false → vio n net r o rr sx (tof rr tt)))
  | 0, hd, σ, sx, tt, h1, h2, h4, h5, h6 => k0_wiS l D dA a hI σ Ph hSt n net r o rr hr4 ho4 hrr4 hrr hro hoo tn 0 hd (fun _ _ _ _ _ _ _ h => absurd h (by omega)) sx tt h1 h2 h4 h5 h6
  | d + 1, hd, σ, sx, tt, h1, h2, h4, h5, h6 => k0_wiS l D dA a hI σ Ph hSt n net r o rr hr4 ho4 hrr4 hrr hro hoo tn (d + 1) hd (fun σ' sx' tt' g1 g2 g4 g5 g6 => k0_isWithin l D dA a hI Ph hSt n net r o rr hr4 ho4 hrr4 hrr hro hoo tn d (by omega) σ' sx' tt' g1 g2 g4 g5 (by omega)) sx tt h1 h2 h4 h5 h6
set_option maxHeartbeats 4000000 in
theorem k0_within (l : Launch) (D : va_G) (dA : Nat → ClassId) (a : Nat → Nat) (hI : kInj a) (σ : MS) (Ph : Heap → Prop) (hSt : kStb a Ph) (n nc : Nat) (cp cq : Nat → Nat) (ed cap : Nat) (mc : Int32) (f : Nat → Option Nat) (rg : Nat → Nat) (hDYf : ∀ H, Ph H → DY D dA a n nc cp cq ed cap mc f rg H) (net : Nat → Nat) (hG : KG σ n net) (hcq : ∀ j, j < nc → cp j < n ∧ cq j < n) (T : Nat) (hSN : SNc σ T) (hT : T < 2 ^ 30) (rv ov : Int32) : KC2 l yX0_within cX0_within 3 (some .int) 20 767 D dA a [.ref (a 0), .int rv, .int ov] σ Ph (fun v9 σ9 => (∃ v, v9 = some (.int v) ∧ WAm n net (stAt n cp cq nc) (fun r => tkN n r cp cq nc) rv ov v) ∧ PTc σ σ9 T) := by
  refine KC2.of (by decide) (Nat.le_of_ble_eq_true rfl) ?_
  intro p e s m below meth c ls S hr hlk hK2 hM hPh hl
  have hK := hK2.1
  have hx := S.1
  have hb := S.2.1
  have hl : lv_has ls 3 [(0, .ref (a 0)), (1, .int rv), (2, .int ov)] := hl
  have hn := hG.1
  have h0 := hG.2.1
  have hnet := hG.2.2.2
  have hc4 : ∀ j, j < nc → cp j < 4 ∧ cq j < 4 := fun j hj => ⟨by have := (hcq j hj).1; omega, by have := (hcq j hj).2; omega⟩
  have hv : vld n (stAt n cp cq nc) := vld_stAt hn nc hcq
  have hs := hv.1
  have ht8 : (tk8 cp cq nc) < 256 := tk8_lt nc hc4
  refine lv_iload_n hx hb dX0_within_0 rfl (lv_at hl 1 rfl) ?_
  refine rc_Si (rest := []) [.int rv] 1 S hK (r0_noRule l D dA rv) wl_X0_157 wd_X0_X0_noRule rfl ⟨Nat.le_of_ble_eq_true rfl, Nat.le_of_ble_eq_true rfl⟩ hl.1 (Nat.le_of_ble_eq_true rfl) dX0_within_1 ⟨Nat.le_refl 0, Nat.le_refl 0⟩ (trivial) ?_ rfl
  refine lv_if_ne (tgt := 14) hx hb dX0_within_4 (by decide) (fun c_4 => ?_) (fun c_4 => ?_)
  · have c_4 := b2i_ne0.mp c_4
    have c_4 : inR rv 0 3 = false := by simpa using c_4
    refine lv_iconst (v := (-1)) hx hb dX0_within_14 (by decide) ?_
    exact k_iret S hr hlk hM dX0_within_15 (⟨⟨_, rfl, by unfold WAm; simp [*]⟩, PTc.rf hSN⟩)
  · have c_4 := b2i_eq0.mp c_4
    have c_4 : inR rv 0 3 = true := by simpa using c_4
    refine lv_iload_n hx hb dX0_within_7 rfl (lv_at hl 2 rfl) ?_
    refine rc_Si (rest := []) [.int ov] 1 S hK (r0_noRule l D dA ov) wl_X0_157 wd_X0_X0_noRule rfl ⟨Nat.le_of_ble_eq_true rfl, Nat.le_of_ble_eq_true rfl⟩ hl.1 (Nat.le_of_ble_eq_true rfl) dX0_within_8 ⟨Nat.le_refl 0, Nat.le_refl 0⟩ (trivial) ?_ rfl
    refine lv_if_eq (tgt := 16) hx hb dX0_within_11 (by decide) (fun c_11 => ?_) (fun c_11 => ?_)
    · have c_11 := b2i_eq0.mp c_11
      have c_11 : inR ov 0 3 = true := by simpa using c_11
      obtain ⟨r, hr9, rfl⟩ := inR_some (k := 3) (by decide) c_4
      have hr4 : r < 4 := by omega
      obtain ⟨o, ho9, rfl⟩ := inR_some (k := 3) (by decide) c_11
      have ho4 : o < 4 := by omega
      refine lv_iload_n hx hb dX0_within_16 rfl (lv_at hl 1 rfl) ?_
      refine lv_iload_n hx hb dX0_within_17 rfl (lv_at hl 2 rfl) ?_
      refine lv_icmp_eq (tgt := 34) hx hb dX0_within_18 (by decide) (fun c_18 => ?_) (fun c_18 => ?_)
      · have c_18 : r = o := nI_inj (by omega) (by omega) c_18
        have hout : ¬ (1 < r ∧ 1 < o ∧ ¬ r = o) := by omega
        refine lv_aload_n hx hb dX0_within_34 rfl (lv_at hl 0 rfl) ?_
        refine k_get (v := .int (σ.1 0)) S hK hM.1 0 (by decide) fl_X0_45 rfl dX0_within_35 rfl ?_
        refine topi (z := nI n) (h0) ?_
        refine lv_if_ne (tgt := 44) hx hb dX0_within_38 (by decide) (fun c_38 => ?_) (fun c_38 => ?_)
        · have c_38 : ¬ n = 0 := fun h => c_38 (congrArg nI h)
          refine lv_aload_n hx hb dX0_within_44 rfl (lv_at hl 0 rfl) ?_
          refine lv_dup hx hb dX0_within_45 rfl ?_
          refine k_get (v := .int (σ.1 9)) S hK hM.1 9 (by decide) fl_X0_167 rfl dX0_within_46 rfl ?_
          refine topi (z := nI T) (hSN.1) ?_
          refine lv_iconst (v := 1) hx hb dX0_within_49 (by decide) ?_
          refine lv_iadd hx hb dX0_within_50 ?_
          refine topi (z := nI (T + 1)) (nI_1 T) ?_
          refine k_put hI S hK hM 9 (by decide) rfl fl_X0_167 rfl rfl (by decide +kernel) dX0_within_51 (fun H locs hM => ?_)
          refine lv_aload_n hx hb dX0_within_54 rfl (lv_at hl 0 rfl) ?_
          refine lv_iload_n hx hb dX0_within_55 rfl (lv_at hl 1 rfl) ?_
          refine lv_iload_n hx hb dX0_within_56 rfl (lv_at hl 2 rfl) ?_
          refine lv_aload_n hx hb dX0_within_57 rfl (lv_at hl 0 rfl) ?_
          refine rc2_V (rest := [.int (nI o), .int (nI r), .ref (a 0)]) [] 0 S hK2 (r0_secretsNow l D dA a (σ.i 9 (nI (T + 1))) n nc cp cq ed cap mc f rg hn h0) wl_X0_93 wd_X0_X0_secretsNow rfl ⟨Nat.le_of_ble_eq_true rfl, Nat.le_of_ble_eq_true rfl⟩ (k_recv hK hM.1) hl.1 (Nat.le_of_ble_eq_true rfl) dX0_within_58 ⟨Nat.le_refl 0, Nat.le_refl 0⟩ ⟨hM.1, (hDYf _ (hSt.at hM hPh))⟩ (fun v9 hv9 => ?_) rfl
          subst hv9
          refine W.eq (g2 := F0 m 61 ls [.int (nI (stAt n cp cq nc)), .int (nI o), .int (nI r), .ref (a 0)]) rfl ?_
          refine lv_aload_n hx hb dX0_within_61 rfl (lv_at hl 0 rfl) ?_
          refine rc2_V (rest := [.int (nI (stAt n cp cq nc)), .int (nI o), .int (nI r), .ref (a 0)]) [] 0 S hK2 (r0_tokensNow l D dA a (σ.i 9 (nI (T + 1))) n nc cp cq ed cap mc f rg hn h0) wl_X0_99 wd_X0_X0_tokensNow rfl ⟨Nat.le_of_ble_eq_true rfl, Nat.le_of_ble_eq_true rfl⟩ (k_recv hK hM.1) hl.1 (Nat.le_of_ble_eq_true rfl) dX0_within_62 ⟨Nat.le_refl 0, Nat.le_refl 0⟩ ⟨hM.1, (hDYf _ (hSt.at hM hPh))⟩ (fun v9 hv9 => ?_) rfl
          subst hv9
          refine W.eq (g2 := F0 m 65 ls [.int (nI (tk8 cp cq nc)), .int (nI (stAt n cp cq nc)), .int (nI o), .int (nI r), .ref (a 0)]) rfl ?_
          refine kc_V (rest := []) [.int (nI r), .int (nI o), .int (nI (stAt n cp cq nc)), .int (nI (tk8 cp cq nc))] 4 S hK hM (k0_isWithin l D dA a hI Ph hSt n net r o (wmx r o) hr4 ho4 (wmx_lt hr4 ho4) (wmx_I hr4 ho4) (wmx_ok hout).1 (wmx_ok hout).2.1 (nI (T + 1)) 15 (by omega) (σ.i 9 (nI (T + 1))) (stAt n cp cq nc) (tk8 cp cq nc) ⟨hG.1, hG.2.1, hG.2.2.1, hG.2.2.2⟩ rfl hv ht8 (mu_vld (by omega) hv)) wl_X0_259 wd_X0_X0_isWithin rfl ⟨Nat.le_of_ble_eq_true rfl, Nat.le_of_ble_eq_true rfl⟩ hl.1 (Nat.le_of_ble_eq_true rfl) dX0_within_65 ⟨Nat.le_refl 0, Nat.le_refl 0⟩ (hSt.at hM hPh) (fun v σ65 H locs hq hM => ?_) rfl
          obtain ⟨b9, rfl, hFR, ht9, hf9⟩ := hq
          refine W.eq (g2 := F0 m 68 ls [.int (b2i b9)]) rfl ?_
          have hwi := wi_tok (n := n) (net := net) (r := r) (o := o) (s0 := (stAt n cp cq nc)) (tt := (tk8 cp cq nc)) hout (tk8_tok (r := wrt r o) hn nc hc4)
          refine lv_if_eq (tgt := 75) hx hb dX0_within_68 (by decide) (fun c_68 => ?_) (fun c_68 => ?_)
          · have c_68 := b2i_eq0.mp c_68
            refine lv_iconst (v := 0) hx hb dX0_within_75 (by decide) ?_
            exact k_iret S hr hlk hM dX0_within_76 (⟨⟨_, rfl, (WAm.i hr4 ho4).mpr (by rw [if_neg hout, if_neg c_38]; exact Or.inr ⟨rfl, fun h9 => (hf9 c_68).wi (hwi.mpr h9)⟩)⟩, PTc.lay hSN hFR⟩)
          · have c_68 := b2i_ne0.mp c_68
            refine lv_iconst (v := 1) hx hb dX0_within_71 (by decide) ?_
            refine lv_goto (tgt := 76) hx hb dX0_within_72 (by decide) ?_
            exact k_iret S hr hlk hM dX0_within_76 (⟨⟨_, rfl, (WAm.i hr4 ho4).mpr (by rw [if_neg hout, if_neg c_38]; exact Or.inl ⟨rfl, hwi.mp (WTc.wi hn hv (okT_of ht8) (fun pl => hSN.un hT pl) (ht9 c_68).1 (ht9 c_68).2)⟩)⟩, PTc.lay hSN hFR⟩)
        · have c_38 : n = 0 := nI_inj (by omega) (by decide) c_38
          refine lv_bipush (v := (-3)) hx hb dX0_within_41 (by decide) ?_
          exact k_iret S hr hlk hM dX0_within_43 (⟨⟨_, rfl, (WAm.i hr4 ho4).mpr (by rw [if_neg hout, if_pos c_38])⟩, PTc.rf hSN⟩)
      · have c_18 : ¬ r = o := fun h => c_18 (congrArg nI h)
        refine lv_iload_n hx hb dX0_within_21 rfl (lv_at hl 1 rfl) ?_
        refine lv_iconst (v := 1) hx hb dX0_within_22 (by decide) ?_
        refine lv_icmp_le (tgt := 34) hx hb dX0_within_23 (by decide) (fun c_23 => ?_) (fun c_23 => ?_)
        · have c_23 : r ≤ 1 := (nI_leI (by omega) (by decide)).mp c_23
          have hout : ¬ (1 < r ∧ 1 < o ∧ ¬ r = o) := by omega
          refine lv_aload_n hx hb dX0_within_34 rfl (lv_at hl 0 rfl) ?_
          refine k_get (v := .int (σ.1 0)) S hK hM.1 0 (by decide) fl_X0_45 rfl dX0_within_35 rfl ?_
          refine topi (z := nI n) (h0) ?_
          refine lv_if_ne (tgt := 44) hx hb dX0_within_38 (by decide) (fun c_38 => ?_) (fun c_38 => ?_)
          · have c_38 : ¬ n = 0 := fun h => c_38 (congrArg nI h)
            refine lv_aload_n hx hb dX0_within_44 rfl (lv_at hl 0 rfl) ?_
            refine lv_dup hx hb dX0_within_45 rfl ?_
            refine k_get (v := .int (σ.1 9)) S hK hM.1 9 (by decide) fl_X0_167 rfl dX0_within_46 rfl ?_
            refine topi (z := nI T) (hSN.1) ?_
            refine lv_iconst (v := 1) hx hb dX0_within_49 (by decide) ?_
            refine lv_iadd hx hb dX0_within_50 ?_
            refine topi (z := nI (T + 1)) (nI_1 T) ?_
            refine k_put hI S hK hM 9 (by decide) rfl fl_X0_167 rfl rfl (by decide +kernel) dX0_within_51 (fun H locs hM => ?_)
            refine lv_aload_n hx hb dX0_within_54 rfl (lv_at hl 0 rfl) ?_
            refine lv_iload_n hx hb dX0_within_55 rfl (lv_at hl 1 rfl) ?_
            refine lv_iload_n hx hb dX0_within_56 rfl (lv_at hl 2 rfl) ?_
            refine lv_aload_n hx hb dX0_within_57 rfl (lv_at hl 0 rfl) ?_
            refine rc2_V (rest := [.int (nI o), .int (nI r), .ref (a 0)]) [] 0 S hK2 (r0_secretsNow l D dA a (σ.i 9 (nI (T + 1))) n nc cp cq ed cap mc f rg hn h0) wl_X0_93 wd_X0_X0_secretsNow rfl ⟨Nat.le_of_ble_eq_true rfl, Nat.le_of_ble_eq_true rfl⟩ (k_recv hK hM.1) hl.1 (Nat.le_of_ble_eq_true rfl) dX0_within_58 ⟨Nat.le_refl 0, Nat.le_refl 0⟩ ⟨hM.1, (hDYf _ (hSt.at hM hPh))⟩ (fun v9 hv9 => ?_) rfl
            subst hv9
            refine W.eq (g2 := F0 m 61 ls [.int (nI (stAt n cp cq nc)), .int (nI o), .int (nI r), .ref (a 0)]) rfl ?_
            refine lv_aload_n hx hb dX0_within_61 rfl (lv_at hl 0 rfl) ?_
            refine rc2_V (rest := [.int (nI (stAt n cp cq nc)), .int (nI o), .int (nI r), .ref (a 0)]) [] 0 S hK2 (r0_tokensNow l D dA a (σ.i 9 (nI (T + 1))) n nc cp cq ed cap mc f rg hn h0) wl_X0_99 wd_X0_X0_tokensNow rfl ⟨Nat.le_of_ble_eq_true rfl, Nat.le_of_ble_eq_true rfl⟩ (k_recv hK hM.1) hl.1 (Nat.le_of_ble_eq_true rfl) dX0_within_62 ⟨Nat.le_refl 0, Nat.le_refl 0⟩ ⟨hM.1, (hDYf _ (hSt.at hM hPh))⟩ (fun v9 hv9 => ?_) rfl
            subst hv9
            refine W.eq (g2 := F0 m 65 ls [.int (nI (tk8 cp cq nc)), .int (nI (stAt n cp cq nc)), .int (nI o), .int (nI r), .ref (a 0)]) rfl ?_
            refine kc_V (rest := []) [.int (nI r), .int (nI o), .int (nI (stAt n cp cq nc)), .int (nI (tk8 cp cq nc))] 4 S hK hM (k0_isWithin l D dA a hI Ph hSt n net r o (wmx r o) hr4 ho4 (wmx_lt hr4 ho4) (wmx_I hr4 ho4) (wmx_ok hout).1 (wmx_ok hout).2.1 (nI (T + 1)) 15 (by omega) (σ.i 9 (nI (T + 1))) (stAt n cp cq nc) (tk8 cp cq nc) ⟨hG.1, hG.2.1, hG.2.2.1, hG.2.2.2⟩ rfl hv ht8 (mu_vld (by omega) hv)) wl_X0_259 wd_X0_X0_isWithin rfl ⟨Nat.le_of_ble_eq_true rfl, Nat.le_of_ble_eq_true rfl⟩ hl.1 (Nat.le_of_ble_eq_true rfl) dX0_within_65 ⟨Nat.le_refl 0, Nat.le_refl 0⟩ (hSt.at hM hPh) (fun v σ65 H locs hq hM => ?_) rfl
            obtain ⟨b9, rfl, hFR, ht9, hf9⟩ := hq
            refine W.eq (g2 := F0 m 68 ls [.int (b2i b9)]) rfl ?_
            have hwi := wi_tok (n := n) (net := net) (r := r) (o := o) (s0 := (stAt n cp cq nc)) (tt := (tk8 cp cq nc)) hout (tk8_tok (r := wrt r o) hn nc hc4)
            refine lv_if_eq (tgt := 75) hx hb dX0_within_68 (by decide) (fun c_68 => ?_) (fun c_68 => ?_)
            · have c_68 := b2i_eq0.mp c_68
              refine lv_iconst (v := 0) hx hb dX0_within_75 (by decide) ?_
              exact k_iret S hr hlk hM dX0_within_76 (⟨⟨_, rfl, (WAm.i hr4 ho4).mpr (by rw [if_neg hout, if_neg c_38]; exact Or.inr ⟨rfl, fun h9 => (hf9 c_68).wi (hwi.mpr h9)⟩)⟩, PTc.lay hSN hFR⟩)
            · have c_68 := b2i_ne0.mp c_68
              refine lv_iconst (v := 1) hx hb dX0_within_71 (by decide) ?_
              refine lv_goto (tgt := 76) hx hb dX0_within_72 (by decide) ?_
              exact k_iret S hr hlk hM dX0_within_76 (⟨⟨_, rfl, (WAm.i hr4 ho4).mpr (by rw [if_neg hout, if_neg c_38]; exact Or.inl ⟨rfl, hwi.mp (WTc.wi hn hv (okT_of ht8) (fun pl => hSN.un hT pl) (ht9 c_68).1 (ht9 c_68).2)⟩)⟩, PTc.lay hSN hFR⟩)
          · have c_38 : n = 0 := nI_inj (by omega) (by decide) c_38
            refine lv_bipush (v := (-3)) hx hb dX0_within_41 (by decide) ?_
            exact k_iret S hr hlk hM dX0_within_43 (⟨⟨_, rfl, (WAm.i hr4 ho4).mpr (by rw [if_neg hout, if_pos c_38])⟩, PTc.rf hSN⟩)
        · have c_23 : ¬ r ≤ 1 := fun h => c_23 ((nI_leI (by omega) (by decide)).mpr h)
          refine lv_iload_n hx hb dX0_within_26 rfl (lv_at hl 2 rfl) ?_
          refine lv_iconst (v := 1) hx hb dX0_within_27 (by decide) ?_
          refine lv_icmp_le (tgt := 34) hx hb dX0_within_28 (by decide) (fun c_28 => ?_) (fun c_28 => ?_)
          · have c_28 : o ≤ 1 := (nI_leI (by omega) (by decide)).mp c_28
            have hout : ¬ (1 < r ∧ 1 < o ∧ ¬ r = o) := by omega
            refine lv_aload_n hx hb dX0_within_34 rfl (lv_at hl 0 rfl) ?_
            refine k_get (v := .int (σ.1 0)) S hK hM.1 0 (by decide) fl_X0_45 rfl dX0_within_35 rfl ?_
            refine topi (z := nI n) (h0) ?_
            refine lv_if_ne (tgt := 44) hx hb dX0_within_38 (by decide) (fun c_38 => ?_) (fun c_38 => ?_)
            · have c_38 : ¬ n = 0 := fun h => c_38 (congrArg nI h)
              refine lv_aload_n hx hb dX0_within_44 rfl (lv_at hl 0 rfl) ?_
              refine lv_dup hx hb dX0_within_45 rfl ?_
              refine k_get (v := .int (σ.1 9)) S hK hM.1 9 (by decide) fl_X0_167 rfl dX0_within_46 rfl ?_
              refine topi (z := nI T) (hSN.1) ?_
              refine lv_iconst (v := 1) hx hb dX0_within_49 (by decide) ?_
              refine lv_iadd hx hb dX0_within_50 ?_
              refine topi (z := nI (T + 1)) (nI_1 T) ?_
              refine k_put hI S hK hM 9 (by decide) rfl fl_X0_167 rfl rfl (by decide +kernel) dX0_within_51 (fun H locs hM => ?_)
              refine lv_aload_n hx hb dX0_within_54 rfl (lv_at hl 0 rfl) ?_
              refine lv_iload_n hx hb dX0_within_55 rfl (lv_at hl 1 rfl) ?_
              refine lv_iload_n hx hb dX0_within_56 rfl (lv_at hl 2 rfl) ?_
              refine lv_aload_n hx hb dX0_within_57 rfl (lv_at hl 0 rfl) ?_
              refine rc2_V (rest := [.int (nI o), .int (nI r), .ref (a 0)]) [] 0 S hK2 (r0_secretsNow l D dA a (σ.i 9 (nI (T + 1))) n nc cp cq ed cap mc f rg hn h0) wl_X0_93 wd_X0_X0_secretsNow rfl ⟨Nat.le_of_ble_eq_true rfl, Nat.le_of_ble_eq_true rfl⟩ (k_recv hK hM.1) hl.1 (Nat.le_of_ble_eq_true rfl) dX0_within_58 ⟨Nat.le_refl 0, Nat.le_refl 0⟩ ⟨hM.1, (hDYf _ (hSt.at hM hPh))⟩ (fun v9 hv9 => ?_) rfl
              subst hv9
              refine W.eq (g2 := F0 m 61 ls [.int (nI (stAt n cp cq nc)), .int (nI o), .int (nI r), .ref (a 0)]) rfl ?_
              refine lv_aload_n hx hb dX0_within_61 rfl (lv_at hl 0 rfl) ?_
              refine rc2_V (rest := [.int (nI (stAt n cp cq nc)), .int (nI o), .int (nI r), .ref (a 0)]) [] 0 S hK2 (r0_tokensNow l D dA a (σ.i 9 (nI (T + 1))) n nc cp cq ed cap mc f rg hn h0) wl_X0_99 wd_X0_X0_tokensNow rfl ⟨Nat.le_of_ble_eq_true rfl, Nat.le_of_ble_eq_true rfl⟩ (k_recv hK hM.1) hl.1 (Nat.le_of_ble_eq_true rfl) dX0_within_62 ⟨Nat.le_refl 0, Nat.le_refl 0⟩ ⟨hM.1, (hDYf _ (hSt.at hM hPh))⟩ (fun v9 hv9 => ?_) rfl
              subst hv9
              refine W.eq (g2 := F0 m 65 ls [.int (nI (tk8 cp cq nc)), .int (nI (stAt n cp cq nc)), .int (nI o), .int (nI r), .ref (a 0)]) rfl ?_
              refine kc_V (rest := []) [.int (nI r), .int (nI o), .int (nI (stAt n cp cq nc)), .int (nI (tk8 cp cq nc))] 4 S hK hM (k0_isWithin l D dA a hI Ph hSt n net r o (wmx r o) hr4 ho4 (wmx_lt hr4 ho4) (wmx_I hr4 ho4) (wmx_ok hout).1 (wmx_ok hout).2.1 (nI (T + 1)) 15 (by omega) (σ.i 9 (nI (T + 1))) (stAt n cp cq nc) (tk8 cp cq nc) ⟨hG.1, hG.2.1, hG.2.2.1, hG.2.2.2⟩ rfl hv ht8 (mu_vld (by omega) hv)) wl_X0_259 wd_X0_X0_isWithin rfl ⟨Nat.le_of_ble_eq_true rfl, Nat.le_of_ble_eq_true rfl⟩ hl.1 (Nat.le_of_ble_eq_true rfl) dX0_within_65 ⟨Nat.le_refl 0, Nat.le_refl 0⟩ (hSt.at hM hPh) (fun v σ65 H locs hq hM => ?_) rfl
              obtain ⟨b9, rfl, hFR, ht9, hf9⟩ := hq
              refine W.eq (g2 := F0 m 68 ls [.int (b2i b9)]) rfl ?_
              have hwi := wi_tok (n := n) (net := net) (r := r) (o := o) (s0 := (stAt n cp cq nc)) (tt := (tk8 cp cq nc)) hout (tk8_tok (r := wrt r o) hn nc hc4)
              refine lv_if_eq (tgt := 75) hx hb dX0_within_68 (by decide) (fun c_68 => ?_) (fun c_68 => ?_)
              · have c_68 := b2i_eq0.mp c_68
                refine lv_iconst (v := 0) hx hb dX0_within_75 (by decide) ?_
                exact k_iret S hr hlk hM dX0_within_76 (⟨⟨_, rfl, (WAm.i hr4 ho4).mpr (by rw [if_neg hout, if_neg c_38]; exact Or.inr ⟨rfl, fun h9 => (hf9 c_68).wi (hwi.mpr h9)⟩)⟩, PTc.lay hSN hFR⟩)
              · have c_68 := b2i_ne0.mp c_68
                refine lv_iconst (v := 1) hx hb dX0_within_71 (by decide) ?_
                refine lv_goto (tgt := 76) hx hb dX0_within_72 (by decide) ?_
                exact k_iret S hr hlk hM dX0_within_76 (⟨⟨_, rfl, (WAm.i hr4 ho4).mpr (by rw [if_neg hout, if_neg c_38]; exact Or.inl ⟨rfl, hwi.mp (WTc.wi hn hv (okT_of ht8) (fun pl => hSN.un hT pl) (ht9 c_68).1 (ht9 c_68).2)⟩)⟩, PTc.lay hSN hFR⟩)
            · have c_38 : n = 0 := nI_inj (by omega) (by decide) c_38
              refine lv_bipush (v := (-3)) hx hb dX0_within_41 (by decide) ?_
              exact k_iret S hr hlk hM dX0_within_43 (⟨⟨_, rfl, (WAm.i hr4 ho4).mpr (by rw [if_neg hout, if_pos c_38])⟩, PTc.rf hSN⟩)
          · have c_28 : ¬ o ≤ 1 := fun h => c_28 ((nI_leI (by omega) (by decide)).mpr h)
            refine lv_bipush (v := (-2)) hx hb dX0_within_31 (by decide) ?_
            exact k_iret S hr hlk hM dX0_within_33 (⟨⟨_, rfl, (WAm.i hr4 ho4).mpr (by rw [if_pos ⟨by omega, by omega, c_18⟩])⟩, PTc.rf hSN⟩)
    · have c_11 := b2i_ne0.mp c_11
      have c_11 : inR ov 0 3 = false := by simpa using c_11
      refine lv_iconst (v := (-1)) hx hb dX0_within_14 (by decide) ?_
      exact k_iret S hr hlk hM dX0_within_15 (⟨⟨_, rfl, by unfold WAm; simp [*]⟩, PTc.rf hSN⟩)
