/-! COMPONENT 29: a search tells (by program: gen/comp29.py) -/
set_option maxRecDepth 100000
theorem fnd_pq {g : Nat → Bool} {kv : Int32} {p q : Nat} (hp : p < 4) (hq : q < 4) (h : kthB g kv (4 * p + q) = true) : fnd g kv (4 * p + (q + 1)) = 10 * nI p + nI q := by
  show fnd g kv (4 * p + q + 1) = _
  rw [fnd_t (by omega) h, show (4 * p + q) / 4 = p by omega, show (4 * p + q) % 4 = q by omega, show (10 : Int32) * nI p = nI (10 * p) from pk_mul 10 p, nI_add]
theorem kv_neg {kv : Int32} (h : inR kv (-1) 11 = true) (h2 : kv < 0) : kv = -1 := by
  simp only [inR, Bool.and_eq_true, Bool.not_eq_true', decide_eq_false_iff_not] at h
  have h3 := h.1
  rw [Int32.lt_iff_toInt_lt] at h2 h3
  apply Int32.toInt_inj.mp
  have e1 : (-1 : Int32).toInt = -1 := by decide
  have e2 : (0 : Int32).toInt = 0 := by decide
  omega
theorem kv_pos {kv : Int32} (h : ¬ kv < 0) : ¬ kv = -1 := fun e => h (by rw [e]; decide)
set_option maxHeartbeats 4000000 in
theorem k9_tells (l : Launch) (D : va_G) (dA : Nat → ClassId) (a : Nat → Nat) (hI : kInj a) (σ : MS) (Ph : Heap → Prop) (hSt : kStb a Ph) (b : Nat) (n : Nat) (net : Nat → Nat) (hG : KG σ n net) (hRf : ∀ H, Ph H → va_P D vwCl [(b, .inr (11, [.ref (a 0), .ref (a 0)]))] H) (T : Nat) (hSN : SNc σ T) (hT : T < 2 ^ 29) (kv : Int32) (hkv : inR kv (-1) 11 = true) : KC2 l yX8_tells cX8_tells 6 (some .int) 4 91 D dA a [.ref b, .int kv] σ Ph (fun v9 σ9 => v9 = some (.int (spSearch (inN n (brB net n)) kv)) ∧ PTc σ σ9 T) := by
  refine KC2.of (by decide) (Nat.le_of_ble_eq_true rfl) ?_
  intro p e s m below meth c ls S hr hlk hK2 hM hPh hl
  have hK := hK2.1
  have hx := S.1
  have hb := S.2.1
  have hl : lv_has ls 6 [(0, .ref b), (1, .int kv)] := hl
  have hn := hG.1
  refine lv_iconst (v := 0) hx hb dX8_tells_0 (by decide) ?_
  refine lv_istore_n (lv' := [(2, .int 0), (0, .ref b), (1, .int kv)]) hx hb dX8_tells_1 rfl hl (by decide) rfl (fun ls hl => ?_)
  refine lv_bipush (v := (-9)) hx hb dX8_tells_2 (by decide) ?_
  refine lv_istore_n (lv' := [(3, .int (-9)), (2, .int 0), (0, .ref b), (1, .int kv)]) hx hb dX8_tells_4 rfl hl (by decide) rfl (fun ls hl => ?_)
  refine lv_iconst (v := 0) hx hb dX8_tells_5 (by decide) ?_
  refine lv_istore (lv' := [(4, .int 0), (3, .int (-9)), (2, .int 0), (0, .ref b), (1, .int kv)]) hx hb dX8_tells_6 hl (by decide) rfl (fun ls hl => ?_)
  have hloop8 : ∀ (k8 i8 : Nat), i8 + k8 = n → ∀ (ω8 : MS) (H : Heap) (locs : List Loc), KB D dA a ω8 s.heap H locs → PTd σ ω8 T (4 * i8) → ∀ (ls : Array Slot), lv_has ls 6 [(4, .int (nI i8)), (3, .int (fnd (inN n (brB net n)) kv (4 * i8))), (2, .int (nI (cN (inN n (brB net n)) (4 * i8)))), (0, .ref b), (1, .int kv)] → W p l e ({ frames := 4, cells := 0, slots := 0, locals := 91 }) s m [.ref b, .int kv].toArray below meth c H locs 0 0 (KZ below D dA a (fun v9 σ9 => v9 = some (.int (spSearch (inN n (brB net n)) kv)) ∧ PTc σ σ9 T) [.ref b, .int kv] s) (F0 m 8 ls []) := by
    intro k8
    induction k8 with
    | zero =>
      intro i8 hi8 ω8 H locs hM hw8 ls hl
      have hi8 : i8 = n := by omega
      have hGw := hw8.kg hG
      refine lv_iload hx hb dX8_tells_8 (lv_at hl 0 rfl) ?_
      refine lv_aload_n hx hb dX8_tells_10 rfl (lv_at hl 3 rfl) ?_
      have hR := hRf _ (hSt.at hM hPh)
      refine va_get (v := .ref (a 0)) (D := D) (ci := 11) (C := RX9) (T := TX9) (N := 2) S.1 S.2.1 S.2.2.2.2 in_X9 S.2.2.2.1 hK hR 0 rfl rfl 0 (by decide) (S.2.2.2.2 _ q573) (fun _ h9 => h9) rfl dX8_tells_11 ?_
      refine k_getN (v := .int (ω8.1 0)) S hK hM.1 0 (by decide) (hK2.2.1 _ q132 rfl) rfl dX8_tells_14 rfl ?_
      refine topi (z := nI n) (hGw.2.1) ?_
      refine lv_icmp_ge (tgt := 86) hx hb dX8_tells_17 (by decide) (fun c_17 => ?_) (fun c_17 => absurd (show nI n ≤ nI i8 from nI_le (by omega) (by omega)) c_17)
      refine lv_iload_n hx hb dX8_tells_86 rfl (lv_at hl 4 rfl) ?_
      refine lv_if_ge (tgt := 94) hx hb dX8_tells_87 (by decide) (fun c_87 => ?_) (fun c_87 => ?_)
      · refine lv_iload_n hx hb dX8_tells_94 rfl (lv_at hl 1 rfl) ?_
        exact k_iret S hr hlk hM dX8_tells_95 (⟨(congrArg (fun z : Int32 => some (Value.int z)) (by rw [sp_fnd, if_neg (kv_pos (by first | exact c_87 | exact Int32.not_lt.mpr c_87)), fnd_all hn, hi8])), hw8.pt (by omega)⟩)
      · refine lv_iload_n hx hb dX8_tells_90 rfl (lv_at hl 2 rfl) ?_
        refine lv_goto (tgt := 95) hx hb dX8_tells_91 (by decide) ?_
        exact k_iret S hr hlk hM dX8_tells_95 (⟨(congrArg (fun z : Int32 => some (Value.int z)) (by rw [sp_fnd, if_pos (kv_neg hkv (by first | exact c_87 | exact Int32.not_le.mp c_87)), cN_all hn, hi8])), hw8.pt (by omega)⟩)
    | succ k8 ih8 =>
      intro i8 hi8 ω8 H locs hM hw8 ls hl
      have hlt8 : i8 < n := by omega
      have hGw := hw8.kg hG
      refine lv_iload hx hb dX8_tells_8 (lv_at hl 0 rfl) ?_
      refine lv_aload_n hx hb dX8_tells_10 rfl (lv_at hl 3 rfl) ?_
      have hR := hRf _ (hSt.at hM hPh)
      refine va_get (v := .ref (a 0)) (D := D) (ci := 11) (C := RX9) (T := TX9) (N := 2) S.1 S.2.1 S.2.2.2.2 in_X9 S.2.2.2.1 hK hR 0 rfl rfl 0 (by decide) (S.2.2.2.2 _ q573) (fun _ h9 => h9) rfl dX8_tells_11 ?_
      refine k_getN (v := .int (ω8.1 0)) S hK hM.1 0 (by decide) (hK2.2.1 _ q132 rfl) rfl dX8_tells_14 rfl ?_
      refine topi (z := nI n) (hGw.2.1) ?_
      refine lv_icmp_ge (tgt := 86) hx hb dX8_tells_17 (by decide) (fun c_17 => absurd c_17 (show ¬ nI n ≤ nI i8 from nI_ge (by omega) (by omega))) (fun c_17 => ?_)
      refine lv_iconst (v := 0) hx hb dX8_tells_20 (by decide) ?_
      refine lv_istore (lv' := [(5, .int 0), (4, .int (nI i8)), (3, .int (fnd (inN n (brB net n)) kv (4 * i8))), (2, .int (nI (cN (inN n (brB net n)) (4 * i8)))), (0, .ref b), (1, .int kv)]) hx hb dX8_tells_21 hl (by decide) rfl (fun ls hl => ?_)
      have hloop23 : ∀ (k23 i23 : Nat), i23 + k23 = n → ∀ (ω23 : MS) (H : Heap) (locs : List Loc), KB D dA a ω23 s.heap H locs → PTd σ ω23 T (4 * i8 + i23) → ∀ (ls : Array Slot), lv_has ls 6 [(5, .int (nI i23)), (4, .int (nI i8)), (3, .int (fnd (inN n (brB net n)) kv (4 * i8 + i23))), (2, .int (nI (cN (inN n (brB net n)) (4 * i8 + i23)))), (0, .ref b), (1, .int kv)] → W p l e ({ frames := 4, cells := 0, slots := 0, locals := 91 }) s m [.ref b, .int kv].toArray below meth c H locs 0 0 (KZ below D dA a (fun v9 σ9 => v9 = some (.int (spSearch (inN n (brB net n)) kv)) ∧ PTc σ σ9 T) [.ref b, .int kv] s) (F0 m 23 ls []) := by
        intro k23
        induction k23 with
        | zero =>
          intro i23 hi23 ω23 H locs hM hw23 ls hl
          have hi23 : i23 = n := by omega
          have hGw := hw23.kg hG
          refine lv_iload hx hb dX8_tells_23 (lv_at hl 0 rfl) ?_
          refine lv_aload_n hx hb dX8_tells_25 rfl (lv_at hl 4 rfl) ?_
          have hR := hRf _ (hSt.at hM hPh)
          refine va_get (v := .ref (a 0)) (D := D) (ci := 11) (C := RX9) (T := TX9) (N := 2) S.1 S.2.1 S.2.2.2.2 in_X9 S.2.2.2.1 hK hR 0 rfl rfl 0 (by decide) (S.2.2.2.2 _ q573) (fun _ h9 => h9) rfl dX8_tells_26 ?_
          refine k_getN (v := .int (ω23.1 0)) S hK hM.1 0 (by decide) (hK2.2.1 _ q132 rfl) rfl dX8_tells_29 rfl ?_
          refine topi (z := nI n) (hGw.2.1) ?_
          refine lv_icmp_ge (tgt := 80) hx hb dX8_tells_32 (by decide) (fun c_32 => ?_) (fun c_32 => absurd (show nI n ≤ nI i23 from nI_le (by omega) (by omega)) c_32)
          refine lv_iinc (v := nI (i8 + 1)) (lv' := [(4, .int (nI (i8 + 1))), (5, .int (nI i23)), (3, .int (fnd (inN n (brB net n)) kv (4 * i8 + i23))), (2, .int (nI (cN (inN n (brB net n)) (4 * i8 + i23)))), (0, .ref b), (1, .int kv)]) hx hb dX8_tells_80 hl (k := 1) rfl (nI_1 _) (by decide) rfl (fun ls hl => ?_)
          refine lv_goto (tgt := 8) hx hb dX8_tells_83 (by decide) ?_
          have e8_3 : fnd (inN n (brB net n)) kv (4 * (i8 + 1)) = fnd (inN n (brB net n)) kv (4 * i8 + i23) := by rw [hi23]; exact fnd_row hn
          have e8_2 : nI (cN (inN n (brB net n)) (4 * (i8 + 1))) = nI (cN (inN n (brB net n)) (4 * i8 + i23)) := by rw [hi23]; exact congrArg nI (cN_row hn)
          exact ih8 (i8 + 1) (by omega) _ _ _ hM (hw23.wk (by omega)) ls (by rw [e8_3, e8_2]; exact lv_sub hl [0, 2, 3, 4, 5] rfl)
        | succ k23 ih23 =>
          intro i23 hi23 ω23 H locs hM hw23 ls hl
          have hlt23 : i23 < n := by omega
          have hGw := hw23.kg hG
          refine lv_iload hx hb dX8_tells_23 (lv_at hl 0 rfl) ?_
          refine lv_aload_n hx hb dX8_tells_25 rfl (lv_at hl 4 rfl) ?_
          have hR := hRf _ (hSt.at hM hPh)
          refine va_get (v := .ref (a 0)) (D := D) (ci := 11) (C := RX9) (T := TX9) (N := 2) S.1 S.2.1 S.2.2.2.2 in_X9 S.2.2.2.1 hK hR 0 rfl rfl 0 (by decide) (S.2.2.2.2 _ q573) (fun _ h9 => h9) rfl dX8_tells_26 ?_
          refine k_getN (v := .int (ω23.1 0)) S hK hM.1 0 (by decide) (hK2.2.1 _ q132 rfl) rfl dX8_tells_29 rfl ?_
          refine topi (z := nI n) (hGw.2.1) ?_
          refine lv_icmp_ge (tgt := 80) hx hb dX8_tells_32 (by decide) (fun c_32 => absurd c_32 (show ¬ nI n ≤ nI i23 from nI_ge (by omega) (by omega))) (fun c_32 => ?_)
          refine lv_iload hx hb dX8_tells_35 (lv_at hl 1 rfl) ?_
          refine lv_iload hx hb dX8_tells_37 (lv_at hl 0 rfl) ?_
          refine lv_icmp_eq (tgt := 74) hx hb dX8_tells_39 (by decide) (fun c_39 => ?_) (fun c_39 => ?_)
          · have c_39 : i8 = i23 := nI_inj (by omega) (by omega) c_39
            have hgb : (inN n (brB net n)) (4 * i8 + i23) = false := by rw [inN_in hlt8 hlt23 hn]; simp [brB, meB, *]
            have hkt : kthB (inN n (brB net n)) kv (4 * i8 + i23) = false := kth_f hgb
            refine lv_iinc (v := nI (i23 + 1)) (lv' := [(5, .int (nI (i23 + 1))), (4, .int (nI i8)), (3, .int (fnd (inN n (brB net n)) kv (4 * i8 + i23))), (2, .int (nI (cN (inN n (brB net n)) (4 * i8 + i23)))), (0, .ref b), (1, .int kv)]) hx hb dX8_tells_74 hl (k := 0) rfl (nI_1 _) (by decide) rfl (fun ls hl => ?_)
            refine lv_goto (tgt := 23) hx hb dX8_tells_77 (by decide) ?_
            have e23_3 : fnd (inN n (brB net n)) kv (4 * i8 + (i23 + 1)) = fnd (inN n (brB net n)) kv (4 * i8 + i23) := by exact fnd_f hkt
            have e23_2 : nI (cN (inN n (brB net n)) (4 * i8 + (i23 + 1))) = nI (cN (inN n (brB net n)) (4 * i8 + i23)) := by exact congrArg nI (cN_f hgb)
            exact ih23 (i23 + 1) (by omega) _ _ _ hM (hw23.wk (by omega)) ls (by rw [e23_3, e23_2]; exact lv_sub hl [0, 1, 2, 3, 4, 5] rfl)
          · have c_39 : ¬ i8 = i23 := fun h => c_39 (congrArg nI h)
            refine lv_aload_n hx hb dX8_tells_42 rfl (lv_at hl 4 rfl) ?_
            refine lv_iload hx hb dX8_tells_43 (lv_at hl 1 rfl) ?_
            refine lv_iload hx hb dX8_tells_45 (lv_at hl 0 rfl) ?_
            have hR := hRf _ (hSt.at hM hPh)
            obtain ⟨T1, hT1, hSN1⟩ := hw23.2.2
            refine kc2_U (x := ⟨"CallRounds$Search", "isOne", "(II)Z"⟩) (rest := []) [.int (nI i8), .int (nI i23)] 2 S hK2 hM (k9_isOne l D dA a hI ω23 Ph hSt b n net (hw23.kg hG) hRf i8 i23 hlt8 hlt23 c_39 T1 hSN1) (lw_U q585 q587 q588 q589 q88 q590) (dl_abs hK2 q586) (by decide +kernel) rfl ⟨Nat.le_of_ble_eq_true rfl, Nat.le_of_ble_eq_true rfl⟩ (va_recv hK hR (ci := 11) (q0 := 0) rfl rfl) hl.1 (Nat.le_of_ble_eq_true rfl) dX8_tells_47 ⟨Nat.le_refl 0, Nat.le_refl 0⟩ (hSt.at hM hPh) (fun v9 σ47 H locs hq hM => ?_) rfl
            obtain ⟨rfl, hPd⟩ := hq
            refine W.eq (g2 := F0 m 50 ls [.int (b2i (brB net n i8 i23))]) rfl ?_
            refine lv_if_eq (tgt := 74) hx hb dX8_tells_50 (by decide) (fun c_50 => ?_) (fun c_50 => ?_)
            · have c_50 := b2i_eq0.mp c_50
              have hgb : (inN n (brB net n)) (4 * i8 + i23) = false := by rw [inN_in hlt8 hlt23 hn]; exact c_50
              have hkt : kthB (inN n (brB net n)) kv (4 * i8 + i23) = false := kth_f hgb
              refine lv_iinc (v := nI (i23 + 1)) (lv' := [(5, .int (nI (i23 + 1))), (4, .int (nI i8)), (3, .int (fnd (inN n (brB net n)) kv (4 * i8 + i23))), (2, .int (nI (cN (inN n (brB net n)) (4 * i8 + i23)))), (0, .ref b), (1, .int kv)]) hx hb dX8_tells_74 hl (k := 0) rfl (nI_1 _) (by decide) rfl (fun ls hl => ?_)
              refine lv_goto (tgt := 23) hx hb dX8_tells_77 (by decide) ?_
              have e23_3 : fnd (inN n (brB net n)) kv (4 * i8 + (i23 + 1)) = fnd (inN n (brB net n)) kv (4 * i8 + i23) := by exact fnd_f hkt
              have e23_2 : nI (cN (inN n (brB net n)) (4 * i8 + (i23 + 1))) = nI (cN (inN n (brB net n)) (4 * i8 + i23)) := by exact congrArg nI (cN_f hgb)
              exact ih23 (i23 + 1) (by omega) _ _ _ hM (hw23.tr hT1 hPd) ls (by rw [e23_3, e23_2]; exact lv_sub hl [0, 1, 2, 3, 4, 5] rfl)
            · have c_50 := b2i_ne0.mp c_50
              have hgb : (inN n (brB net n)) (4 * i8 + i23) = true := by rw [inN_in hlt8 hlt23 hn]; exact c_50
              refine lv_iload_n hx hb dX8_tells_53 rfl (lv_at hl 3 rfl) ?_
              refine lv_iload_n hx hb dX8_tells_54 rfl (lv_at hl 5 rfl) ?_
              refine lv_icmp_ne (tgt := 69) hx hb dX8_tells_55 (by decide) (fun c_55 => ?_) (fun c_55 => ?_)
              · have hkt : kthB (inN n (brB net n)) kv (4 * i8 + i23) = false := kth_n c_55
                refine lv_iload_n hx hb dX8_tells_69 rfl (lv_at hl 2 rfl) ?_
                refine lv_istore_n (lv' := [(3, .int (fnd (inN n (brB net n)) kv (4 * i8 + i23))), (5, .int (nI i23)), (4, .int (nI i8)), (2, .int (nI (cN (inN n (brB net n)) (4 * i8 + i23)))), (0, .ref b), (1, .int kv)]) hx hb dX8_tells_70 rfl hl (by decide) rfl (fun ls hl => ?_)
                refine lv_iinc (v := nI ((cN (inN n (brB net n)) (4 * i8 + i23)) + 1)) (lv' := [(2, .int (nI ((cN (inN n (brB net n)) (4 * i8 + i23)) + 1))), (3, .int (fnd (inN n (brB net n)) kv (4 * i8 + i23))), (5, .int (nI i23)), (4, .int (nI i8)), (0, .ref b), (1, .int kv)]) hx hb dX8_tells_71 hl (k := 3) rfl (nI_1 _) (by decide) rfl (fun ls hl => ?_)
                refine lv_iinc (v := nI (i23 + 1)) (lv' := [(5, .int (nI (i23 + 1))), (2, .int (nI ((cN (inN n (brB net n)) (4 * i8 + i23)) + 1))), (3, .int (fnd (inN n (brB net n)) kv (4 * i8 + i23))), (4, .int (nI i8)), (0, .ref b), (1, .int kv)]) hx hb dX8_tells_74 hl (k := 2) rfl (nI_1 _) (by decide) rfl (fun ls hl => ?_)
                refine lv_goto (tgt := 23) hx hb dX8_tells_77 (by decide) ?_
                have e23_3 : fnd (inN n (brB net n)) kv (4 * i8 + (i23 + 1)) = fnd (inN n (brB net n)) kv (4 * i8 + i23) := by exact fnd_f hkt
                have e23_2 : nI (cN (inN n (brB net n)) (4 * i8 + (i23 + 1))) = nI ((cN (inN n (brB net n)) (4 * i8 + i23)) + 1) := by exact congrArg nI (cN_t hgb)
                exact ih23 (i23 + 1) (by omega) _ _ _ hM (hw23.tr hT1 hPd) ls (by rw [e23_3, e23_2]; exact lv_sub hl [0, 3, 2, 1, 4, 5] rfl)
              · have hkt : kthB (inN n (brB net n)) kv (4 * i8 + i23) = true := kth_t hgb c_55
                refine lv_bipush (v := 10) hx hb dX8_tells_58 (by decide) ?_
                refine lv_iload hx hb dX8_tells_60 (lv_at hl 1 rfl) ?_
                refine lv_imul hx hb dX8_tells_62 ?_
                refine lv_iload hx hb dX8_tells_63 (lv_at hl 0 rfl) ?_
                refine lv_iadd hx hb dX8_tells_65 ?_
                refine lv_goto (tgt := 70) hx hb dX8_tells_66 (by decide) ?_
                refine lv_istore_n (lv' := [(3, .int ((10 * (nI i8)) + (nI i23))), (5, .int (nI i23)), (4, .int (nI i8)), (2, .int (nI (cN (inN n (brB net n)) (4 * i8 + i23)))), (0, .ref b), (1, .int kv)]) hx hb dX8_tells_70 rfl hl (by decide) rfl (fun ls hl => ?_)
                refine lv_iinc (v := nI ((cN (inN n (brB net n)) (4 * i8 + i23)) + 1)) (lv' := [(2, .int (nI ((cN (inN n (brB net n)) (4 * i8 + i23)) + 1))), (3, .int ((10 * (nI i8)) + (nI i23))), (5, .int (nI i23)), (4, .int (nI i8)), (0, .ref b), (1, .int kv)]) hx hb dX8_tells_71 hl (k := 3) rfl (nI_1 _) (by decide) rfl (fun ls hl => ?_)
                refine lv_iinc (v := nI (i23 + 1)) (lv' := [(5, .int (nI (i23 + 1))), (2, .int (nI ((cN (inN n (brB net n)) (4 * i8 + i23)) + 1))), (3, .int ((10 * (nI i8)) + (nI i23))), (4, .int (nI i8)), (0, .ref b), (1, .int kv)]) hx hb dX8_tells_74 hl (k := 2) rfl (nI_1 _) (by decide) rfl (fun ls hl => ?_)
                refine lv_goto (tgt := 23) hx hb dX8_tells_77 (by decide) ?_
                have e23_3 : fnd (inN n (brB net n)) kv (4 * i8 + (i23 + 1)) = (10 * (nI i8)) + (nI i23) := by exact fnd_pq (by omega) (by omega) hkt
                have e23_2 : nI (cN (inN n (brB net n)) (4 * i8 + (i23 + 1))) = nI ((cN (inN n (brB net n)) (4 * i8 + i23)) + 1) := by exact congrArg nI (cN_t hgb)
                exact ih23 (i23 + 1) (by omega) _ _ _ hM (hw23.tr hT1 hPd) ls (by rw [e23_3, e23_2]; exact lv_sub hl [0, 3, 2, 1, 4, 5] rfl)
      exact hloop23 (n) 0 (by omega) _ _ _ hM (hw8) ls (lv_sub hl [0, 1, 2, 3, 4, 5] rfl)
  exact hloop8 (n) 0 (by omega) _ _ _ hM (PTd.rf hSN) ls (lv_sub hl [0, 1, 2, 3, 4] rfl)
set_option maxHeartbeats 4000000 in
theorem k10_tells (l : Launch) (D : va_G) (dA : Nat → ClassId) (a : Nat → Nat) (hI : kInj a) (σ : MS) (Ph : Heap → Prop) (hSt : kStb a Ph) (b : Nat) (n : Nat) (net : Nat → Nat) (hG : KG σ n net) (r : Nat) (hr4 : r < 4) (hRf : ∀ H, Ph H → va_P D vwCl [(b, .inr (12, [.ref (a 0), .int (nI r), .ref (a 0)]))] H) (T : Nat) (hSN : SNc σ T) (hT : T < 2 ^ 29) (kv : Int32) (hkv : inR kv (-1) 11 = true) : KC2 l yX8_tells cX8_tells 6 (some .int) 22 705 D dA a [.ref b, .int kv] σ Ph (fun v9 σ9 => v9 = some (.int (spSearch (inN n (meB net n r)) kv)) ∧ PTc σ σ9 T) := by
  refine KC2.of (by decide) (Nat.le_of_ble_eq_true rfl) ?_
  intro p e s m below meth c ls S hr hlk hK2 hM hPh hl
  have hK := hK2.1
  have hx := S.1
  have hb := S.2.1
  have hl : lv_has ls 6 [(0, .ref b), (1, .int kv)] := hl
  have hn := hG.1
  refine lv_iconst (v := 0) hx hb dX8_tells_0 (by decide) ?_
  refine lv_istore_n (lv' := [(2, .int 0), (0, .ref b), (1, .int kv)]) hx hb dX8_tells_1 rfl hl (by decide) rfl (fun ls hl => ?_)
  refine lv_bipush (v := (-9)) hx hb dX8_tells_2 (by decide) ?_
  refine lv_istore_n (lv' := [(3, .int (-9)), (2, .int 0), (0, .ref b), (1, .int kv)]) hx hb dX8_tells_4 rfl hl (by decide) rfl (fun ls hl => ?_)
  refine lv_iconst (v := 0) hx hb dX8_tells_5 (by decide) ?_
  refine lv_istore (lv' := [(4, .int 0), (3, .int (-9)), (2, .int 0), (0, .ref b), (1, .int kv)]) hx hb dX8_tells_6 hl (by decide) rfl (fun ls hl => ?_)
  have hloop8 : ∀ (k8 i8 : Nat), i8 + k8 = n → ∀ (ω8 : MS) (H : Heap) (locs : List Loc), KB D dA a ω8 s.heap H locs → PTd σ ω8 T (4 * i8) → ∀ (ls : Array Slot), lv_has ls 6 [(4, .int (nI i8)), (3, .int (fnd (inN n (meB net n r)) kv (4 * i8))), (2, .int (nI (cN (inN n (meB net n r)) (4 * i8)))), (0, .ref b), (1, .int kv)] → W p l e ({ frames := 22, cells := 0, slots := 0, locals := 705 }) s m [.ref b, .int kv].toArray below meth c H locs 0 0 (KZ below D dA a (fun v9 σ9 => v9 = some (.int (spSearch (inN n (meB net n r)) kv)) ∧ PTc σ σ9 T) [.ref b, .int kv] s) (F0 m 8 ls []) := by
    intro k8
    induction k8 with
    | zero =>
      intro i8 hi8 ω8 H locs hM hw8 ls hl
      have hi8 : i8 = n := by omega
      have hGw := hw8.kg hG
      refine lv_iload hx hb dX8_tells_8 (lv_at hl 0 rfl) ?_
      refine lv_aload_n hx hb dX8_tells_10 rfl (lv_at hl 3 rfl) ?_
      have hR := hRf _ (hSt.at hM hPh)
      refine va_get (v := .ref (a 0)) (D := D) (ci := 12) (C := RX10) (T := TX10) (N := 3) S.1 S.2.1 S.2.2.2.2 in_X10 S.2.2.2.1 hK hR 0 rfl rfl 0 (by decide) (S.2.2.2.2 _ q573) (fun _ h9 => h9) rfl dX8_tells_11 ?_
      refine k_getN (v := .int (ω8.1 0)) S hK hM.1 0 (by decide) (hK2.2.1 _ q132 rfl) rfl dX8_tells_14 rfl ?_
      refine topi (z := nI n) (hGw.2.1) ?_
      refine lv_icmp_ge (tgt := 86) hx hb dX8_tells_17 (by decide) (fun c_17 => ?_) (fun c_17 => absurd (show nI n ≤ nI i8 from nI_le (by omega) (by omega)) c_17)
      refine lv_iload_n hx hb dX8_tells_86 rfl (lv_at hl 4 rfl) ?_
      refine lv_if_ge (tgt := 94) hx hb dX8_tells_87 (by decide) (fun c_87 => ?_) (fun c_87 => ?_)
      · refine lv_iload_n hx hb dX8_tells_94 rfl (lv_at hl 1 rfl) ?_
        exact k_iret S hr hlk hM dX8_tells_95 (⟨(congrArg (fun z : Int32 => some (Value.int z)) (by rw [sp_fnd, if_neg (kv_pos (by first | exact c_87 | exact Int32.not_lt.mpr c_87)), fnd_all hn, hi8])), hw8.pt (by omega)⟩)
      · refine lv_iload_n hx hb dX8_tells_90 rfl (lv_at hl 2 rfl) ?_
        refine lv_goto (tgt := 95) hx hb dX8_tells_91 (by decide) ?_
        exact k_iret S hr hlk hM dX8_tells_95 (⟨(congrArg (fun z : Int32 => some (Value.int z)) (by rw [sp_fnd, if_pos (kv_neg hkv (by first | exact c_87 | exact Int32.not_le.mp c_87)), cN_all hn, hi8])), hw8.pt (by omega)⟩)
    | succ k8 ih8 =>
      intro i8 hi8 ω8 H locs hM hw8 ls hl
      have hlt8 : i8 < n := by omega
      have hGw := hw8.kg hG
      refine lv_iload hx hb dX8_tells_8 (lv_at hl 0 rfl) ?_
      refine lv_aload_n hx hb dX8_tells_10 rfl (lv_at hl 3 rfl) ?_
      have hR := hRf _ (hSt.at hM hPh)
      refine va_get (v := .ref (a 0)) (D := D) (ci := 12) (C := RX10) (T := TX10) (N := 3) S.1 S.2.1 S.2.2.2.2 in_X10 S.2.2.2.1 hK hR 0 rfl rfl 0 (by decide) (S.2.2.2.2 _ q573) (fun _ h9 => h9) rfl dX8_tells_11 ?_
      refine k_getN (v := .int (ω8.1 0)) S hK hM.1 0 (by decide) (hK2.2.1 _ q132 rfl) rfl dX8_tells_14 rfl ?_
      refine topi (z := nI n) (hGw.2.1) ?_
      refine lv_icmp_ge (tgt := 86) hx hb dX8_tells_17 (by decide) (fun c_17 => absurd c_17 (show ¬ nI n ≤ nI i8 from nI_ge (by omega) (by omega))) (fun c_17 => ?_)
      refine lv_iconst (v := 0) hx hb dX8_tells_20 (by decide) ?_
      refine lv_istore (lv' := [(5, .int 0), (4, .int (nI i8)), (3, .int (fnd (inN n (meB net n r)) kv (4 * i8))), (2, .int (nI (cN (inN n (meB net n r)) (4 * i8)))), (0, .ref b), (1, .int kv)]) hx hb dX8_tells_21 hl (by decide) rfl (fun ls hl => ?_)
      have hloop23 : ∀ (k23 i23 : Nat), i23 + k23 = n → ∀ (ω23 : MS) (H : Heap) (locs : List Loc), KB D dA a ω23 s.heap H locs → PTd σ ω23 T (4 * i8 + i23) → ∀ (ls : Array Slot), lv_has ls 6 [(5, .int (nI i23)), (4, .int (nI i8)), (3, .int (fnd (inN n (meB net n r)) kv (4 * i8 + i23))), (2, .int (nI (cN (inN n (meB net n r)) (4 * i8 + i23)))), (0, .ref b), (1, .int kv)] → W p l e ({ frames := 22, cells := 0, slots := 0, locals := 705 }) s m [.ref b, .int kv].toArray below meth c H locs 0 0 (KZ below D dA a (fun v9 σ9 => v9 = some (.int (spSearch (inN n (meB net n r)) kv)) ∧ PTc σ σ9 T) [.ref b, .int kv] s) (F0 m 23 ls []) := by
        intro k23
        induction k23 with
        | zero =>
          intro i23 hi23 ω23 H locs hM hw23 ls hl
          have hi23 : i23 = n := by omega
          have hGw := hw23.kg hG
          refine lv_iload hx hb dX8_tells_23 (lv_at hl 0 rfl) ?_
          refine lv_aload_n hx hb dX8_tells_25 rfl (lv_at hl 4 rfl) ?_
          have hR := hRf _ (hSt.at hM hPh)
          refine va_get (v := .ref (a 0)) (D := D) (ci := 12) (C := RX10) (T := TX10) (N := 3) S.1 S.2.1 S.2.2.2.2 in_X10 S.2.2.2.1 hK hR 0 rfl rfl 0 (by decide) (S.2.2.2.2 _ q573) (fun _ h9 => h9) rfl dX8_tells_26 ?_
          refine k_getN (v := .int (ω23.1 0)) S hK hM.1 0 (by decide) (hK2.2.1 _ q132 rfl) rfl dX8_tells_29 rfl ?_
          refine topi (z := nI n) (hGw.2.1) ?_
          refine lv_icmp_ge (tgt := 80) hx hb dX8_tells_32 (by decide) (fun c_32 => ?_) (fun c_32 => absurd (show nI n ≤ nI i23 from nI_le (by omega) (by omega)) c_32)
          refine lv_iinc (v := nI (i8 + 1)) (lv' := [(4, .int (nI (i8 + 1))), (5, .int (nI i23)), (3, .int (fnd (inN n (meB net n r)) kv (4 * i8 + i23))), (2, .int (nI (cN (inN n (meB net n r)) (4 * i8 + i23)))), (0, .ref b), (1, .int kv)]) hx hb dX8_tells_80 hl (k := 1) rfl (nI_1 _) (by decide) rfl (fun ls hl => ?_)
          refine lv_goto (tgt := 8) hx hb dX8_tells_83 (by decide) ?_
          have e8_3 : fnd (inN n (meB net n r)) kv (4 * (i8 + 1)) = fnd (inN n (meB net n r)) kv (4 * i8 + i23) := by rw [hi23]; exact fnd_row hn
          have e8_2 : nI (cN (inN n (meB net n r)) (4 * (i8 + 1))) = nI (cN (inN n (meB net n r)) (4 * i8 + i23)) := by rw [hi23]; exact congrArg nI (cN_row hn)
          exact ih8 (i8 + 1) (by omega) _ _ _ hM (hw23.wk (by omega)) ls (by rw [e8_3, e8_2]; exact lv_sub hl [0, 2, 3, 4, 5] rfl)
        | succ k23 ih23 =>
          intro i23 hi23 ω23 H locs hM hw23 ls hl
          have hlt23 : i23 < n := by omega
          have hGw := hw23.kg hG
          refine lv_iload hx hb dX8_tells_23 (lv_at hl 0 rfl) ?_
          refine lv_aload_n hx hb dX8_tells_25 rfl (lv_at hl 4 rfl) ?_
          have hR := hRf _ (hSt.at hM hPh)
          refine va_get (v := .ref (a 0)) (D := D) (ci := 12) (C := RX10) (T := TX10) (N := 3) S.1 S.2.1 S.2.2.2.2 in_X10 S.2.2.2.1 hK hR 0 rfl rfl 0 (by decide) (S.2.2.2.2 _ q573) (fun _ h9 => h9) rfl dX8_tells_26 ?_
          refine k_getN (v := .int (ω23.1 0)) S hK hM.1 0 (by decide) (hK2.2.1 _ q132 rfl) rfl dX8_tells_29 rfl ?_
          refine topi (z := nI n) (hGw.2.1) ?_
          refine lv_icmp_ge (tgt := 80) hx hb dX8_tells_32 (by decide) (fun c_32 => absurd c_32 (show ¬ nI n ≤ nI i23 from nI_ge (by omega) (by omega))) (fun c_32 => ?_)
          refine lv_iload hx hb dX8_tells_35 (lv_at hl 1 rfl) ?_
          refine lv_iload hx hb dX8_tells_37 (lv_at hl 0 rfl) ?_
          refine lv_icmp_eq (tgt := 74) hx hb dX8_tells_39 (by decide) (fun c_39 => ?_) (fun c_39 => ?_)
          · have c_39 : i8 = i23 := nI_inj (by omega) (by omega) c_39
            have hgb : (inN n (meB net n r)) (4 * i8 + i23) = false := by rw [inN_in hlt8 hlt23 hn]; simp [brB, meB, *]
            have hkt : kthB (inN n (meB net n r)) kv (4 * i8 + i23) = false := kth_f hgb
            refine lv_iinc (v := nI (i23 + 1)) (lv' := [(5, .int (nI (i23 + 1))), (4, .int (nI i8)), (3, .int (fnd (inN n (meB net n r)) kv (4 * i8 + i23))), (2, .int (nI (cN (inN n (meB net n r)) (4 * i8 + i23)))), (0, .ref b), (1, .int kv)]) hx hb dX8_tells_74 hl (k := 0) rfl (nI_1 _) (by decide) rfl (fun ls hl => ?_)
            refine lv_goto (tgt := 23) hx hb dX8_tells_77 (by decide) ?_
            have e23_3 : fnd (inN n (meB net n r)) kv (4 * i8 + (i23 + 1)) = fnd (inN n (meB net n r)) kv (4 * i8 + i23) := by exact fnd_f hkt
            have e23_2 : nI (cN (inN n (meB net n r)) (4 * i8 + (i23 + 1))) = nI (cN (inN n (meB net n r)) (4 * i8 + i23)) := by exact congrArg nI (cN_f hgb)
            exact ih23 (i23 + 1) (by omega) _ _ _ hM (hw23.wk (by omega)) ls (by rw [e23_3, e23_2]; exact lv_sub hl [0, 1, 2, 3, 4, 5] rfl)
          · have c_39 : ¬ i8 = i23 := fun h => c_39 (congrArg nI h)
            refine lv_aload_n hx hb dX8_tells_42 rfl (lv_at hl 4 rfl) ?_
            refine lv_iload hx hb dX8_tells_43 (lv_at hl 1 rfl) ?_
            refine lv_iload hx hb dX8_tells_45 (lv_at hl 0 rfl) ?_
            have hR := hRf _ (hSt.at hM hPh)
            obtain ⟨T1, hT1, hSN1⟩ := hw23.2.2
            refine kc2_U (x := ⟨"CallRounds$Search", "isOne", "(II)Z"⟩) (rest := []) [.int (nI i8), .int (nI i23)] 2 S hK2 hM (k10_isOne l D dA a hI ω23 Ph hSt b n net (hw23.kg hG) r hr4 hRf i8 i23 hlt8 hlt23 c_39 T1 hSN1 (by omega)) (lw_U q585 q587 q593 q594 q89 q595) (dl_abs hK2 q586) (by decide +kernel) rfl ⟨Nat.le_of_ble_eq_true rfl, Nat.le_of_ble_eq_true rfl⟩ (va_recv hK hR (ci := 12) (q0 := 0) rfl rfl) hl.1 (Nat.le_of_ble_eq_true rfl) dX8_tells_47 ⟨Nat.le_refl 0, Nat.le_refl 0⟩ (hSt.at hM hPh) (fun v9 σ47 H locs hq hM => ?_) rfl
            obtain ⟨rfl, hPd⟩ := hq
            refine W.eq (g2 := F0 m 50 ls [.int (b2i (meB net n r i8 i23))]) rfl ?_
            refine lv_if_eq (tgt := 74) hx hb dX8_tells_50 (by decide) (fun c_50 => ?_) (fun c_50 => ?_)
            · have c_50 := b2i_eq0.mp c_50
              have hgb : (inN n (meB net n r)) (4 * i8 + i23) = false := by rw [inN_in hlt8 hlt23 hn]; exact c_50
              have hkt : kthB (inN n (meB net n r)) kv (4 * i8 + i23) = false := kth_f hgb
              refine lv_iinc (v := nI (i23 + 1)) (lv' := [(5, .int (nI (i23 + 1))), (4, .int (nI i8)), (3, .int (fnd (inN n (meB net n r)) kv (4 * i8 + i23))), (2, .int (nI (cN (inN n (meB net n r)) (4 * i8 + i23)))), (0, .ref b), (1, .int kv)]) hx hb dX8_tells_74 hl (k := 0) rfl (nI_1 _) (by decide) rfl (fun ls hl => ?_)
              refine lv_goto (tgt := 23) hx hb dX8_tells_77 (by decide) ?_
              have e23_3 : fnd (inN n (meB net n r)) kv (4 * i8 + (i23 + 1)) = fnd (inN n (meB net n r)) kv (4 * i8 + i23) := by exact fnd_f hkt
              have e23_2 : nI (cN (inN n (meB net n r)) (4 * i8 + (i23 + 1))) = nI (cN (inN n (meB net n r)) (4 * i8 + i23)) := by exact congrArg nI (cN_f hgb)
              exact ih23 (i23 + 1) (by omega) _ _ _ hM (hw23.tr hT1 hPd) ls (by rw [e23_3, e23_2]; exact lv_sub hl [0, 1, 2, 3, 4, 5] rfl)
            · have c_50 := b2i_ne0.mp c_50
              have hgb : (inN n (meB net n r)) (4 * i8 + i23) = true := by rw [inN_in hlt8 hlt23 hn]; exact c_50
              refine lv_iload_n hx hb dX8_tells_53 rfl (lv_at hl 3 rfl) ?_
              refine lv_iload_n hx hb dX8_tells_54 rfl (lv_at hl 5 rfl) ?_
              refine lv_icmp_ne (tgt := 69) hx hb dX8_tells_55 (by decide) (fun c_55 => ?_) (fun c_55 => ?_)
              · have hkt : kthB (inN n (meB net n r)) kv (4 * i8 + i23) = false := kth_n c_55
                refine lv_iload_n hx hb dX8_tells_69 rfl (lv_at hl 2 rfl) ?_
                refine lv_istore_n (lv' := [(3, .int (fnd (inN n (meB net n r)) kv (4 * i8 + i23))), (5, .int (nI i23)), (4, .int (nI i8)), (2, .int (nI (cN (inN n (meB net n r)) (4 * i8 + i23)))), (0, .ref b), (1, .int kv)]) hx hb dX8_tells_70 rfl hl (by decide) rfl (fun ls hl => ?_)
                refine lv_iinc (v := nI ((cN (inN n (meB net n r)) (4 * i8 + i23)) + 1)) (lv' := [(2, .int (nI ((cN (inN n (meB net n r)) (4 * i8 + i23)) + 1))), (3, .int (fnd (inN n (meB net n r)) kv (4 * i8 + i23))), (5, .int (nI i23)), (4, .int (nI i8)), (0, .ref b), (1, .int kv)]) hx hb dX8_tells_71 hl (k := 3) rfl (nI_1 _) (by decide) rfl (fun ls hl => ?_)
                refine lv_iinc (v := nI (i23 + 1)) (lv' := [(5, .int (nI (i23 + 1))), (2, .int (nI ((cN (inN n (meB net n r)) (4 * i8 + i23)) + 1))), (3, .int (fnd (inN n (meB net n r)) kv (4 * i8 + i23))), (4, .int (nI i8)), (0, .ref b), (1, .int kv)]) hx hb dX8_tells_74 hl (k := 2) rfl (nI_1 _) (by decide) rfl (fun ls hl => ?_)
                refine lv_goto (tgt := 23) hx hb dX8_tells_77 (by decide) ?_
                have e23_3 : fnd (inN n (meB net n r)) kv (4 * i8 + (i23 + 1)) = fnd (inN n (meB net n r)) kv (4 * i8 + i23) := by exact fnd_f hkt
                have e23_2 : nI (cN (inN n (meB net n r)) (4 * i8 + (i23 + 1))) = nI ((cN (inN n (meB net n r)) (4 * i8 + i23)) + 1) := by exact congrArg nI (cN_t hgb)
                exact ih23 (i23 + 1) (by omega) _ _ _ hM (hw23.tr hT1 hPd) ls (by rw [e23_3, e23_2]; exact lv_sub hl [0, 3, 2, 1, 4, 5] rfl)
              · have hkt : kthB (inN n (meB net n r)) kv (4 * i8 + i23) = true := kth_t hgb c_55
                refine lv_bipush (v := 10) hx hb dX8_tells_58 (by decide) ?_
                refine lv_iload hx hb dX8_tells_60 (lv_at hl 1 rfl) ?_
                refine lv_imul hx hb dX8_tells_62 ?_
                refine lv_iload hx hb dX8_tells_63 (lv_at hl 0 rfl) ?_
                refine lv_iadd hx hb dX8_tells_65 ?_
                refine lv_goto (tgt := 70) hx hb dX8_tells_66 (by decide) ?_
                refine lv_istore_n (lv' := [(3, .int ((10 * (nI i8)) + (nI i23))), (5, .int (nI i23)), (4, .int (nI i8)), (2, .int (nI (cN (inN n (meB net n r)) (4 * i8 + i23)))), (0, .ref b), (1, .int kv)]) hx hb dX8_tells_70 rfl hl (by decide) rfl (fun ls hl => ?_)
                refine lv_iinc (v := nI ((cN (inN n (meB net n r)) (4 * i8 + i23)) + 1)) (lv' := [(2, .int (nI ((cN (inN n (meB net n r)) (4 * i8 + i23)) + 1))), (3, .int ((10 * (nI i8)) + (nI i23))), (5, .int (nI i23)), (4, .int (nI i8)), (0, .ref b), (1, .int kv)]) hx hb dX8_tells_71 hl (k := 3) rfl (nI_1 _) (by decide) rfl (fun ls hl => ?_)
                refine lv_iinc (v := nI (i23 + 1)) (lv' := [(5, .int (nI (i23 + 1))), (2, .int (nI ((cN (inN n (meB net n r)) (4 * i8 + i23)) + 1))), (3, .int ((10 * (nI i8)) + (nI i23))), (4, .int (nI i8)), (0, .ref b), (1, .int kv)]) hx hb dX8_tells_74 hl (k := 2) rfl (nI_1 _) (by decide) rfl (fun ls hl => ?_)
                refine lv_goto (tgt := 23) hx hb dX8_tells_77 (by decide) ?_
                have e23_3 : fnd (inN n (meB net n r)) kv (4 * i8 + (i23 + 1)) = (10 * (nI i8)) + (nI i23) := by exact fnd_pq (by omega) (by omega) hkt
                have e23_2 : nI (cN (inN n (meB net n r)) (4 * i8 + (i23 + 1))) = nI ((cN (inN n (meB net n r)) (4 * i8 + i23)) + 1) := by exact congrArg nI (cN_t hgb)
                exact ih23 (i23 + 1) (by omega) _ _ _ hM (hw23.tr hT1 hPd) ls (by rw [e23_3, e23_2]; exact lv_sub hl [0, 3, 2, 1, 4, 5] rfl)
      exact hloop23 (n) 0 (by omega) _ _ _ hM (hw8) ls (lv_sub hl [0, 1, 2, 3, 4, 5] rfl)
  exact hloop8 (n) 0 (by omega) _ _ _ hM (PTd.rf hSN) ls (lv_sub hl [0, 1, 2, 3, 4] rfl)
