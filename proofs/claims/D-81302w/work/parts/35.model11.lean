/-! MODEL 11: rows of calls (by program: gen/model11.py) -/
set_option maxRecDepth 100000
set_option maxHeartbeats 4000000 in
theorem m1_layRow (l : Launch) (D : va_G) (dA : Nat → ClassId) (a : Nat → Nat) (hI : mInj a) (σ : MS) (n : Nat) (net : Nat → Nat) (nc : Nat) (cp cq : Nat → Nat) (hG : MG σ n net nc cp cq) (hnc4 : nc ≤ 4) (num : Nat) (hnum : num < 65536) : MC l yX1_layRow cX1_layRow 5 (some .int) 2 45 D dA a [.ref (a 0), .int (nI num)] σ (fun v9 σ9 => RWm σ σ9 ∧ σ9.1 = σ.1 ∧ ((rwA n net (rwP num) (rwQ num) nc = false ∧ v9 = some (.int (-1))) ∨ (rwA n net (rwP num) (rwQ num) nc = true ∧ v9 = some (.int (nI (stAt n (rwP num) (rwQ num) nc))) ∧ ∀ j, j < nc → σ9.2.1 24 j = nI (rwP num j) ∧ σ9.2.1 25 j = nI (rwQ num j)))) := by
  refine MC.of (by decide) (Nat.le_of_ble_eq_true rfl) ?_
  intro p e s m below meth c ls S hr hlk hK hM hl
  have hx := S.1
  have hb := S.2.1
  have hl : lv_has ls 5 [(0, .ref (a 0)), (1, .int (nI num))] := hl
  have hn := hG.1
  have hnc := hG.2.2.2.1
  have hnet : ∀ q, q < 4 → net q < 16 := fun q hq => (hG.2.2.1 q hq).2
  have hGw := hG
  refine lv_iload_n hx hb dX1_layRow_0 rfl (lv_at hl 1 rfl) ?_
  refine topi (z := nI (num / 16 ^ 0)) (by rw [Nat.pow_zero, Nat.div_one]) ?_
  refine lv_istore_n (lv' := [(2, .int (nI (num / 16 ^ 0))), (0, .ref (a 0)), (1, .int (nI num))]) hx hb dX1_layRow_1 rfl hl (by decide) rfl (fun ls hl => ?_)
  refine lv_aload_n hx hb dX1_layRow_2 rfl (lv_at hl 1 rfl) ?_
  refine lv_aload_n hx hb dX1_layRow_3 rfl (lv_at hl 1 rfl) ?_
  refine m_get (v := .int (σ.1 5)) S hK hM.1 5 (by decide) fl_X1_82 rfl dX1_layRow_4 rfl ?_
  refine topi (z := nI n) (hGw.2.1) ?_
  refine rc_Vi (rest := []) [.int (nI n)] 1 S hK (r1_startOf l D dA (a 0) n (by first | assumption | omega | decide)) wl_X1_114 wd_X1_X1_startOf rfl ⟨Nat.le_of_ble_eq_true rfl, Nat.le_of_ble_eq_true rfl⟩ (m_recv hK hM.1) hl.1 (Nat.le_of_ble_eq_true rfl) dX1_layRow_7 ⟨Nat.le_refl 0, Nat.le_refl 0⟩ (trivial) ?_ rfl
  refine lv_istore_n (lv' := [(3, .int (nI (st0 n))), (2, .int (nI (num / 16 ^ 0))), (0, .ref (a 0)), (1, .int (nI num))]) hx hb dX1_layRow_10 rfl hl (by decide) rfl (fun ls hl => ?_)
  refine lv_iconst (v := 0) hx hb dX1_layRow_11 (by decide) ?_
  refine lv_istore (lv' := [(4, .int 0), (3, .int (nI (st0 n))), (2, .int (nI (num / 16 ^ 0))), (0, .ref (a 0)), (1, .int (nI num))]) hx hb dX1_layRow_12 hl (by decide) rfl (fun ls hl => ?_)
  have hloop14 : ∀ (k14 i14 : Nat), i14 + k14 = nc → rwA n net (rwP num) (rwQ num) i14 = true → ∀ (ω14 : MS) (H : Heap) (locs : List Loc), MB D dA a ω14 s.heap H locs → (RWm σ ω14 ∧ (∀ j, j < i14 → ω14.2.1 24 j = nI (rwP num j) ∧ ω14.2.1 25 j = nI (rwQ num j)) ∧ ω14.1 = σ.1) → ∀ (ls : Array Slot), lv_has ls 5 [(4, .int (nI i14)), (3, .int (nI (stAt n (rwP num) (rwQ num) i14))), (2, .int (nI (num / 16 ^ i14))), (0, .ref (a 0)), (1, .int (nI num))] → W p l e ({ frames := 2, cells := 0, slots := 0, locals := 45 }) s m [.ref (a 0), .int (nI num)].toArray below meth c H locs 0 0 (MZ below D dA a (fun v9 σ9 => RWm σ σ9 ∧ σ9.1 = σ.1 ∧ ((rwA n net (rwP num) (rwQ num) nc = false ∧ v9 = some (.int (-1))) ∨ (rwA n net (rwP num) (rwQ num) nc = true ∧ v9 = some (.int (nI (stAt n (rwP num) (rwQ num) nc))) ∧ ∀ j, j < nc → σ9.2.1 24 j = nI (rwP num j) ∧ σ9.2.1 25 j = nI (rwQ num j)))) [.ref (a 0), .int (nI num)] s) (F0 m 14 ls []) := by
    intro k14
    induction k14 with
    | zero =>
      intro i14 hi14 hinv14 ω14 H locs hM hw14 ls hl
      have hi14 : i14 = nc := by omega
      have hGw := hG.pu hw14.1.pu
      refine lv_iload hx hb dX1_layRow_14 (lv_at hl 0 rfl) ?_
      refine lv_aload_n hx hb dX1_layRow_16 rfl (lv_at hl 3 rfl) ?_
      refine m_get (v := .int (ω14.1 9)) S hK hM.1 9 (by decide) fl_X1_103 rfl dX1_layRow_17 rfl ?_
      refine topi (z := nI nc) (hGw.2.2.2.2.1) ?_
      refine lv_icmp_ge (tgt := 151) hx hb dX1_layRow_20 (by decide) (fun c_20 => ?_) (fun c_20 => absurd (show nI nc ≤ nI i14 from nI_le (by omega) (by omega)) c_20)
      refine lv_iload_n hx hb dX1_layRow_151 rfl (lv_at hl 1 rfl) ?_
      exact m_iret S hr hlk hM dX1_layRow_152 (⟨hw14.1, hw14.2.2, Or.inr ⟨by rw [← hi14]; exact hinv14, by rw [hi14], fun j hj => hw14.2.1 j (by omega)⟩⟩)
    | succ k14 ih14 =>
      intro i14 hi14 hinv14 ω14 H locs hM hw14 ls hl
      have hlt14 : i14 < nc := by omega
      have hGw := hG.pu hw14.1.pu
      have hxp := rwP_lt num i14
      have hxq := rwQ_lt num i14
      have hl9 : num / 16 ^ i14 < 2 ^ 31 := Nat.lt_of_le_of_lt (Nat.div_le_self _ _) (by omega)
      have hs9 : stAt n (rwP num) (rwQ num) i14 < 65536 := stAt_lt hn i14 (fun j _ => ⟨rwP_lt num j, rwQ_lt num j⟩)
      refine lv_iload hx hb dX1_layRow_14 (lv_at hl 0 rfl) ?_
      refine lv_aload_n hx hb dX1_layRow_16 rfl (lv_at hl 3 rfl) ?_
      refine m_get (v := .int (ω14.1 9)) S hK hM.1 9 (by decide) fl_X1_103 rfl dX1_layRow_17 rfl ?_
      refine topi (z := nI nc) (hGw.2.2.2.2.1) ?_
      refine lv_icmp_ge (tgt := 151) hx hb dX1_layRow_20 (by decide) (fun c_20 => absurd c_20 (show ¬ nI nc ≤ nI i14 from nI_ge (by omega) (by omega))) (fun c_20 => ?_)
      refine lv_aload_n hx hb dX1_layRow_23 rfl (lv_at hl 3 rfl) ?_
      refine m_get (v := .ref (a 24)) S hK hM.1 24 (by decide) fl_X1_60 rfl dX1_layRow_24 rfl ?_
      refine lv_iload hx hb dX1_layRow_27 (lv_at hl 0 rfl) ?_
      refine lv_iload_n hx hb dX1_layRow_29 rfl (lv_at hl 2 rfl) ?_
      refine lv_bipush (v := 16) hx hb dX1_layRow_30 (by decide) ?_
      refine lv_irem hx hb dX1_layRow_32 (by decide) ?_
      refine lv_iconst (v := 4) hx hb dX1_layRow_33 (by decide) ?_
      refine lv_idiv hx hb dX1_layRow_34 (by decide) ?_
      refine topi (z := nI (rwP num i14)) (rwP_eq _ hl9) ?_
      refine m_astn (j := i14) hI S hK hM 24 (by decide) rfl (show i14 < 4 by omega) dX1_layRow_35 (fun H locs hM => ?_)
      refine lv_aload_n hx hb dX1_layRow_36 rfl (lv_at hl 3 rfl) ?_
      refine m_get (v := .ref (a 25)) S hK hM.1 25 (by decide) fl_X1_63 rfl dX1_layRow_37 rfl ?_
      refine lv_iload hx hb dX1_layRow_40 (lv_at hl 0 rfl) ?_
      refine lv_iload_n hx hb dX1_layRow_42 rfl (lv_at hl 2 rfl) ?_
      refine lv_iconst (v := 4) hx hb dX1_layRow_43 (by decide) ?_
      refine lv_irem hx hb dX1_layRow_44 (by decide) ?_
      refine topi (z := nI (rwQ num i14)) (rwQ_eq _ hl9) ?_
      refine m_astn (j := i14) hI S hK hM 25 (by decide) rfl (show i14 < 4 by omega) dX1_layRow_45 (fun H locs hM => ?_)
      have hM : MB D dA a ((ω14.b 24 (upd (ω14.2.1 24) i14 (nI (rwP num i14)))).b 25 (upd (ω14.2.1 25) i14 (nI (rwQ num i14)))) s.heap H locs := hM
      refine lv_iload_n hx hb dX1_layRow_46 rfl (lv_at hl 2 rfl) ?_
      refine lv_bipush (v := 16) hx hb dX1_layRow_47 (by decide) ?_
      refine lv_idiv hx hb dX1_layRow_49 (by decide) ?_
      refine lv_istore_n (lv' := [(2, .int ((nI (num / 16 ^ i14)) / 16)), (4, .int (nI i14)), (3, .int (nI (stAt n (rwP num) (rwQ num) i14))), (0, .ref (a 0)), (1, .int (nI num))]) hx hb dX1_layRow_50 rfl hl (by decide) rfl (fun ls hl => ?_)
      refine lv_aload_n hx hb dX1_layRow_51 rfl (lv_at hl 3 rfl) ?_
      refine lv_aload_n hx hb dX1_layRow_52 rfl (lv_at hl 3 rfl) ?_
      refine m_get (v := .ref (a 24)) S hK hM.1 24 (by decide) fl_X1_60 rfl dX1_layRow_53 rfl ?_
      refine lv_iload hx hb dX1_layRow_56 (lv_at hl 1 rfl) ?_
      refine m_aldn (j := i14) (v := nI (rwP num i14)) S hK hM.1 24 (by decide) rfl (show i14 < 4 by omega) dX1_layRow_58 (show upd (ω14.2.1 24) i14 (nI (rwP num i14)) i14 = nI (rwP num i14) from pk_us) ?_
      refine rc_Vi (rest := []) [.int (nI (rwP num i14))] 1 S hK (r1_isPerson l D dA a ((ω14.b 24 (upd (ω14.2.1 24) i14 (nI (rwP num i14)))).b 25 (upd (ω14.2.1 25) i14 (nI (rwQ num i14)))) n (hGw.2.1) (nI (rwP num i14))) wl_X1_125 wd_X1_X1_isPerson rfl ⟨Nat.le_of_ble_eq_true rfl, Nat.le_of_ble_eq_true rfl⟩ (m_recv hK hM.1) hl.1 (Nat.le_of_ble_eq_true rfl) dX1_layRow_59 ⟨Nat.le_refl 0, Nat.le_refl 0⟩ (hM.1) ?_ rfl
      refine lv_if_eq (tgt := 124) hx hb dX1_layRow_62 (by decide) (fun c_62 => ?_) (fun c_62 => ?_)
      · have c_62 := b2i_eq0.mp c_62
        have c_62 : ¬ rwP num i14 < n := fun h9 => by rw [inP_nI h9 (by omega)] at c_62; cases c_62
        have hrc : rwC n net (rwP num) (rwQ num) i14 = false := by simp [rwC, *]
        refine lv_iconst (v := (-1)) hx hb dX1_layRow_124 (by decide) ?_
        exact m_iret S hr hlk hM dX1_layRow_125 (⟨hw14.1.b24, hw14.2.2, Or.inl ⟨rwA_f hrc nc hlt14, rfl⟩⟩)
      · have c_62 := b2i_ne0.mp c_62
        have c_62 : rwP num i14 < n := by
          obtain ⟨j9, hj9, e9⟩ := inP_some (by omega) c_62
          rw [nI_inj (by omega) (by omega) e9]; exact hj9
        refine lv_aload_n hx hb dX1_layRow_65 rfl (lv_at hl 3 rfl) ?_
        refine lv_aload_n hx hb dX1_layRow_66 rfl (lv_at hl 3 rfl) ?_
        refine m_get (v := .ref (a 25)) S hK hM.1 25 (by decide) fl_X1_63 rfl dX1_layRow_67 rfl ?_
        refine lv_iload hx hb dX1_layRow_70 (lv_at hl 1 rfl) ?_
        refine m_aldn (j := i14) (v := nI (rwQ num i14)) S hK hM.1 25 (by decide) rfl (show i14 < 4 by omega) dX1_layRow_72 (show upd (ω14.2.1 25) i14 (nI (rwQ num i14)) i14 = nI (rwQ num i14) from pk_us) ?_
        refine rc_Vi (rest := []) [.int (nI (rwQ num i14))] 1 S hK (r1_isPerson l D dA a ((ω14.b 24 (upd (ω14.2.1 24) i14 (nI (rwP num i14)))).b 25 (upd (ω14.2.1 25) i14 (nI (rwQ num i14)))) n (hGw.2.1) (nI (rwQ num i14))) wl_X1_125 wd_X1_X1_isPerson rfl ⟨Nat.le_of_ble_eq_true rfl, Nat.le_of_ble_eq_true rfl⟩ (m_recv hK hM.1) hl.1 (Nat.le_of_ble_eq_true rfl) dX1_layRow_73 ⟨Nat.le_refl 0, Nat.le_refl 0⟩ (hM.1) ?_ rfl
        refine lv_if_eq (tgt := 124) hx hb dX1_layRow_76 (by decide) (fun c_76 => ?_) (fun c_76 => ?_)
        · have c_76 := b2i_eq0.mp c_76
          have c_76 : ¬ rwQ num i14 < n := fun h9 => by rw [inP_nI h9 (by omega)] at c_76; cases c_76
          have hrc : rwC n net (rwP num) (rwQ num) i14 = false := by simp [rwC, *]
          refine lv_iconst (v := (-1)) hx hb dX1_layRow_124 (by decide) ?_
          exact m_iret S hr hlk hM dX1_layRow_125 (⟨hw14.1.b24, hw14.2.2, Or.inl ⟨rwA_f hrc nc hlt14, rfl⟩⟩)
        · have c_76 := b2i_ne0.mp c_76
          have c_76 : rwQ num i14 < n := by
            obtain ⟨j9, hj9, e9⟩ := inP_some (by omega) c_76
            rw [nI_inj (by omega) (by omega) e9]; exact hj9
          refine lv_aload_n hx hb dX1_layRow_79 rfl (lv_at hl 3 rfl) ?_
          refine m_get (v := .ref (a 24)) S hK hM.1 24 (by decide) fl_X1_60 rfl dX1_layRow_80 rfl ?_
          refine lv_iload hx hb dX1_layRow_83 (lv_at hl 1 rfl) ?_
          refine m_aldn (j := i14) (v := nI (rwP num i14)) S hK hM.1 24 (by decide) rfl (show i14 < 4 by omega) dX1_layRow_85 (show upd (ω14.2.1 24) i14 (nI (rwP num i14)) i14 = nI (rwP num i14) from pk_us) ?_
          refine lv_aload_n hx hb dX1_layRow_86 rfl (lv_at hl 3 rfl) ?_
          refine m_get (v := .ref (a 25)) S hK hM.1 25 (by decide) fl_X1_63 rfl dX1_layRow_87 rfl ?_
          refine lv_iload hx hb dX1_layRow_90 (lv_at hl 1 rfl) ?_
          refine m_aldn (j := i14) (v := nI (rwQ num i14)) S hK hM.1 25 (by decide) rfl (show i14 < 4 by omega) dX1_layRow_92 (show upd (ω14.2.1 25) i14 (nI (rwQ num i14)) i14 = nI (rwQ num i14) from pk_us) ?_
          refine lv_icmp_eq (tgt := 124) hx hb dX1_layRow_93 (by decide) (fun c_93 => ?_) (fun c_93 => ?_)
          · have c_93 : rwP num i14 = rwQ num i14 := nI_inj (by omega) (by omega) c_93
            have hrc : rwC n net (rwP num) (rwQ num) i14 = false := by simp [rwC, *]
            refine lv_iconst (v := (-1)) hx hb dX1_layRow_124 (by decide) ?_
            exact m_iret S hr hlk hM dX1_layRow_125 (⟨hw14.1.b24, hw14.2.2, Or.inl ⟨rwA_f hrc nc hlt14, rfl⟩⟩)
          · have c_93 : ¬ rwP num i14 = rwQ num i14 := fun h => c_93 (congrArg nI h)
            have hnum9 : numA net (stAt n (rwP num) (rwQ num) i14) (rwP num i14) 4 < 16 := numA_lt hnet 4 (by omega)
            refine lv_aload_n hx hb dX1_layRow_96 rfl (lv_at hl 3 rfl) ?_
            refine m_get (v := .ref (a 6)) S hK hM.1 6 (by decide) fl_X1_19 rfl dX1_layRow_97 rfl ?_
            refine lv_iload_n hx hb dX1_layRow_100 rfl (lv_at hl 2 rfl) ?_
            refine lv_aload_n hx hb dX1_layRow_101 rfl (lv_at hl 3 rfl) ?_
            refine m_get (v := .ref (a 24)) S hK hM.1 24 (by decide) fl_X1_60 rfl dX1_layRow_102 rfl ?_
            refine lv_iload hx hb dX1_layRow_105 (lv_at hl 1 rfl) ?_
            refine m_aldn (j := i14) (v := nI (rwP num i14)) S hK hM.1 24 (by decide) rfl (show i14 < 4 by omega) dX1_layRow_107 (show upd (ω14.2.1 24) i14 (nI (rwP num i14)) i14 = nI (rwP num i14) from pk_us) ?_
            refine rc_Si (rest := []) [.ref (a 6), .int (nI (stAt n (rwP num) (rwQ num) i14)), .int (nI (rwP num i14))] 3 S hK (r1_numbersOf l D dA (a 6) _ net (stAt n (rwP num) (rwQ num) i14) (rwP num i14) (fun q hq => (hGw.2.2.1 q hq).1) (by first | assumption | omega | decide) (by first | assumption | omega | decide)) wl_X1_131 wd_X1_X1_numbersOf rfl ⟨Nat.le_of_ble_eq_true rfl, Nat.le_of_ble_eq_true rfl⟩ hl.1 (Nat.le_of_ble_eq_true rfl) dX1_layRow_108 ⟨Nat.le_refl 0, Nat.le_refl 0⟩ (m_cell hM.1 6 (by decide) rfl) ?_ rfl
            refine lv_aload_n hx hb dX1_layRow_111 rfl (lv_at hl 3 rfl) ?_
            refine m_get (v := .ref (a 25)) S hK hM.1 25 (by decide) fl_X1_63 rfl dX1_layRow_112 rfl ?_
            refine lv_iload hx hb dX1_layRow_115 (lv_at hl 1 rfl) ?_
            refine m_aldn (j := i14) (v := nI (rwQ num i14)) S hK hM.1 25 (by decide) rfl (show i14 < 4 by omega) dX1_layRow_117 (show upd (ω14.2.1 25) i14 (nI (rwQ num i14)) i14 = nI (rwQ num i14) from pk_us) ?_
            refine rc_Si (rest := []) [.int (nI (numA net (stAt n (rwP num) (rwQ num) i14) (rwP num i14) 4)), .int (nI (rwQ num i14))] 2 S hK (r1_has l D dA (numA net (stAt n (rwP num) (rwQ num) i14) (rwP num i14) 4) (rwQ num i14) (by first | assumption | omega | decide) (by first | assumption | omega | decide)) wl_X1_106 wd_X1_X1_has rfl ⟨Nat.le_of_ble_eq_true rfl, Nat.le_of_ble_eq_true rfl⟩ hl.1 (Nat.le_of_ble_eq_true rfl) dX1_layRow_118 ⟨Nat.le_refl 0, Nat.le_refl 0⟩ (trivial) ?_ rfl
            refine lv_if_ne (tgt := 126) hx hb dX1_layRow_121 (by decide) (fun c_121 => ?_) (fun c_121 => ?_)
            · have c_121 := b2i_ne0.mp c_121
              refine lv_iload_n hx hb dX1_layRow_126 rfl (lv_at hl 2 rfl) ?_
              refine lv_aload_n hx hb dX1_layRow_127 rfl (lv_at hl 3 rfl) ?_
              refine m_get (v := .ref (a 24)) S hK hM.1 24 (by decide) fl_X1_60 rfl dX1_layRow_128 rfl ?_
              refine lv_iload hx hb dX1_layRow_131 (lv_at hl 1 rfl) ?_
              refine m_aldn (j := i14) (v := nI (rwP num i14)) S hK hM.1 24 (by decide) rfl (show i14 < 4 by omega) dX1_layRow_133 (show upd (ω14.2.1 24) i14 (nI (rwP num i14)) i14 = nI (rwP num i14) from pk_us) ?_
              refine lv_aload_n hx hb dX1_layRow_134 rfl (lv_at hl 3 rfl) ?_
              refine m_get (v := .ref (a 25)) S hK hM.1 25 (by decide) fl_X1_63 rfl dX1_layRow_135 rfl ?_
              refine lv_iload hx hb dX1_layRow_138 (lv_at hl 1 rfl) ?_
              refine m_aldn (j := i14) (v := nI (rwQ num i14)) S hK hM.1 25 (by decide) rfl (show i14 < 4 by omega) dX1_layRow_140 (show upd (ω14.2.1 25) i14 (nI (rwQ num i14)) i14 = nI (rwQ num i14) from pk_us) ?_
              refine rc_Si (rest := []) [.int (nI (stAt n (rwP num) (rwQ num) i14)), .int (nI (rwP num i14)), .int (nI (rwQ num i14))] 3 S hK (r1_afterCall l D dA (stAt n (rwP num) (rwQ num) i14) (rwP num i14) (rwQ num i14) (by first | assumption | omega | decide) (by first | assumption | omega | decide) (by first | assumption | omega | decide)) wl_X1_117 wd_X1_X1_afterCall rfl ⟨Nat.le_of_ble_eq_true rfl, Nat.le_of_ble_eq_true rfl⟩ hl.1 (Nat.le_of_ble_eq_true rfl) dX1_layRow_141 ⟨Nat.le_refl 0, Nat.le_refl 0⟩ (trivial) ?_ rfl
              refine lv_istore_n (lv' := [(3, .int (nI (aft (stAt n (rwP num) (rwQ num) i14) (rwP num i14) (rwQ num i14)))), (2, .int ((nI (num / 16 ^ i14)) / 16)), (4, .int (nI i14)), (0, .ref (a 0)), (1, .int (nI num))]) hx hb dX1_layRow_144 rfl hl (by decide) rfl (fun ls hl => ?_)
              refine lv_iinc (v := nI (i14 + 1)) (lv' := [(4, .int (nI (i14 + 1))), (3, .int (nI (aft (stAt n (rwP num) (rwQ num) i14) (rwP num i14) (rwQ num i14)))), (2, .int ((nI (num / 16 ^ i14)) / 16)), (0, .ref (a 0)), (1, .int (nI num))]) hx hb dX1_layRow_145 hl (k := 2) rfl (nI_1 _) (by decide) rfl (fun ls hl => ?_)
              refine lv_goto (tgt := 14) hx hb dX1_layRow_148 (by decide) ?_
              have e14_3 : nI (stAt n (rwP num) (rwQ num) (i14 + 1)) = nI (aft (stAt n (rwP num) (rwQ num) i14) (rwP num i14) (rwQ num i14)) := by rfl
              have e14_2 : nI (num / 16 ^ (i14 + 1)) = (nI (num / 16 ^ i14)) / 16 := by exact (rw_next (by omega)).symm
              exact ih14 (i14 + 1) (by omega) (rwA_s hinv14 (by simp [rwC, *])) _ _ _ hM (⟨hw14.1.b24, fun j hj => (by by_cases h9 : j = i14; (subst h9; exact ⟨pk_us, pk_us⟩); exact ⟨(pk_un h9).trans (hw14.2.1 j (by omega)).1, (pk_un h9).trans (hw14.2.1 j (by omega)).2⟩), hw14.2.2⟩) ls (by rw [e14_3, e14_2]; exact lv_sub hl [0, 1, 2, 3, 4] rfl)
            · have c_121 := b2i_eq0.mp c_121
              have hrc : rwC n net (rwP num) (rwQ num) i14 = false := by simp [rwC, *]
              refine lv_iconst (v := (-1)) hx hb dX1_layRow_124 (by decide) ?_
              exact m_iret S hr hlk hM dX1_layRow_125 (⟨hw14.1.b24, hw14.2.2, Or.inl ⟨rwA_f hrc nc hlt14, rfl⟩⟩)
  exact hloop14 (nc) 0 (by omega) (rfl) _ _ _ hM (⟨RWm.rf, fun j hj => absurd hj (Nat.not_lt_zero j), rfl⟩) ls (lv_sub hl [0, 1, 2, 3, 4] rfl)
set_option maxHeartbeats 4000000 in
theorem r1_seesAlike (l : Launch) (D : va_G) (dA : Nat → ClassId) (a : Nat → Nat) (σ : MS) (n : Nat) (net : Nat → Nat) (nc : Nat) (cp cq : Nat → Nat) (hG : MG σ n net nc cp cq) (hnc4 : nc ≤ 4) (xp xq : Nat → Nat) (hrow : ∀ j, j < nc → σ.2.1 24 j = nI (xp j) ∧ σ.2.1 25 j = nI (xq j) ∧ xp j < 4 ∧ xq j < 4) (pa : Nat) (hpa : pa < 4) : RC l yX1_seesAlike cX1_seesAlike 7 (some .boolean) 2 44 D dA [.ref (a 0), .int (nI pa)] (fun H => va_P D vwCl (mW dA a σ) H) (fun v9 => v9 = some (.int (b2i (seA n cp cq xp xq pa nc)))) := by
  refine RC.of (by decide) (Nat.le_of_ble_eq_true rfl) ?_
  intro p e s m below meth c ls S hr hlk hK hP hl
  have hx := S.1
  have hb := S.2.1
  have hl : lv_has ls 7 [(0, .ref (a 0)), (1, .int (nI pa))] := hl
  have hP : va_P D vwCl (mW dA a σ) s.heap := hP
  have hn := hG.1
  have hnc := hG.2.2.2.1
  refine lv_aload_n hx hb dX1_seesAlike_0 rfl (lv_at hl 0 rfl) ?_
  refine lv_aload_n hx hb dX1_seesAlike_1 rfl (lv_at hl 0 rfl) ?_
  refine m_get (v := .int (σ.1 5)) S hK hP 5 (by decide) fl_X1_82 rfl dX1_seesAlike_2 rfl ?_
  refine topi (z := nI n) (hG.2.1) ?_
  refine rc_Vi (rest := []) [.int (nI n)] 1 S hK (r1_startOf l D dA (a 0) n (by first | assumption | omega | decide)) wl_X1_114 wd_X1_X1_startOf rfl ⟨Nat.le_of_ble_eq_true rfl, Nat.le_of_ble_eq_true rfl⟩ (m_recv hK hP) hl.1 (Nat.le_of_ble_eq_true rfl) dX1_seesAlike_5 ⟨Nat.le_refl 0, Nat.le_refl 0⟩ (trivial) ?_ rfl
  refine lv_istore_n (lv' := [(2, .int (nI (st0 n))), (0, .ref (a 0)), (1, .int (nI pa))]) hx hb dX1_seesAlike_8 rfl hl (by decide) rfl (fun ls hl => ?_)
  refine lv_iload_n hx hb dX1_seesAlike_9 rfl (lv_at hl 0 rfl) ?_
  refine lv_istore_n (lv' := [(3, .int (nI (st0 n))), (2, .int (nI (st0 n))), (0, .ref (a 0)), (1, .int (nI pa))]) hx hb dX1_seesAlike_10 rfl hl (by decide) rfl (fun ls hl => ?_)
  refine lv_iconst (v := 0) hx hb dX1_seesAlike_11 (by decide) ?_
  refine lv_istore (lv' := [(4, .int 0), (3, .int (nI (st0 n))), (2, .int (nI (st0 n))), (0, .ref (a 0)), (1, .int (nI pa))]) hx hb dX1_seesAlike_12 hl (by decide) rfl (fun ls hl => ?_)
  have hloop14 : ∀ (k14 i14 : Nat), i14 + k14 = nc → seA n cp cq xp xq pa i14 = true → ∀ (ls : Array Slot), lv_has ls 7 [(4, .int (nI i14)), (3, .int (nI (stAt n xp xq i14))), (2, .int (nI (stAt n cp cq i14))), (0, .ref (a 0)), (1, .int (nI pa))] → W p l e ({ frames := 2, cells := 0, slots := 0, locals := 44 }) s m [.ref (a 0), .int (nI pa)].toArray below meth c s.heap [] 0 0 (RZ below (fun v9 => v9 = some (.int (b2i (seA n cp cq xp xq pa nc)))) [.ref (a 0), .int (nI pa)] s) (F0 m 14 ls []) := by
    intro k14
    induction k14 with
    | zero =>
      intro i14 hi14 hinv14 ls hl
      have hi14 : i14 = nc := by omega
      refine lv_iload hx hb dX1_seesAlike_14 (lv_at hl 0 rfl) ?_
      refine lv_aload_n hx hb dX1_seesAlike_16 rfl (lv_at hl 3 rfl) ?_
      refine m_get (v := .int (σ.1 9)) S hK hP 9 (by decide) fl_X1_103 rfl dX1_seesAlike_17 rfl ?_
      refine topi (z := nI nc) (hG.2.2.2.2.1) ?_
      refine lv_icmp_ge (tgt := 186) hx hb dX1_seesAlike_20 (by decide) (fun c_20 => ?_) (fun c_20 => absurd (show nI nc ≤ nI i14 from nI_le (by omega) (by omega)) c_20)
      refine lv_iconst (v := 1) hx hb dX1_seesAlike_186 (by decide) ?_
      exact r_zret S hr hlk dX1_seesAlike_187 (by decide) (congrArg (fun z : Int32 => some (Value.int z)) (show 1 = b2i (seA n cp cq xp xq pa nc) from by rw [← hi14, hinv14]; rfl))
    | succ k14 ih14 =>
      intro i14 hi14 hinv14 ls hl
      have hlt14 : i14 < nc := by omega
      have hcj := hG.2.2.2.2.2 i14 (by omega)
      have hrj := hrow i14 (by omega)
      have hsA : stAt n cp cq i14 < 65536 := stAt_lt hn i14 (fun j hj => ⟨by have := (hG.2.2.2.2.2 j (by omega)).2.2; omega, by have := (hG.2.2.2.2.2 j (by omega)).2.2; omega⟩)
      have hsB : stAt n xp xq i14 < 65536 := stAt_lt hn i14 (fun j hj => ⟨(hrow j (by omega)).2.2.1, (hrow j (by omega)).2.2.2⟩)
      have hsA1 : stAt n cp cq (i14 + 1) < 65536 := aft_lt hsA (by omega) (by omega)
      have hsB1 : stAt n xp xq (i14 + 1) < 65536 := aft_lt hsB (by omega) (by omega)
      have hz1 := hs4_lt (stAt n cp cq (i14 + 1)) pa
      have hz2 := hs4_lt (stAt n xp xq (i14 + 1)) pa
      refine lv_iload hx hb dX1_seesAlike_14 (lv_at hl 0 rfl) ?_
      refine lv_aload_n hx hb dX1_seesAlike_16 rfl (lv_at hl 3 rfl) ?_
      refine m_get (v := .int (σ.1 9)) S hK hP 9 (by decide) fl_X1_103 rfl dX1_seesAlike_17 rfl ?_
      refine topi (z := nI nc) (hG.2.2.2.2.1) ?_
      refine lv_icmp_ge (tgt := 186) hx hb dX1_seesAlike_20 (by decide) (fun c_20 => absurd c_20 (show ¬ nI nc ≤ nI i14 from nI_ge (by omega) (by omega))) (fun c_20 => ?_)
      refine lv_aload_n hx hb dX1_seesAlike_23 rfl (lv_at hl 3 rfl) ?_
      refine m_get (v := .ref (a 10)) S hK hP 10 (by decide) fl_X1_25 rfl dX1_seesAlike_24 rfl ?_
      refine lv_iload hx hb dX1_seesAlike_27 (lv_at hl 0 rfl) ?_
      refine m_aldn (j := i14) (v := nI (cp i14)) S hK hP 10 (by decide) rfl (show i14 < 12 by omega) dX1_seesAlike_29 ((hG.2.2.2.2.2 i14 (by omega)).1) ?_
      refine lv_iload_n hx hb dX1_seesAlike_30 rfl (lv_at hl 4 rfl) ?_
      refine lv_icmp_eq (tgt := 45) hx hb dX1_seesAlike_31 (by decide) (fun c_31 => ?_) (fun c_31 => ?_)
      · have c_31 : cp i14 = pa := nI_inj (by omega) (by omega) c_31
        refine lv_iconst (v := 1) hx hb dX1_seesAlike_45 (by decide) ?_
        refine lv_goto (tgt := 50) hx hb dX1_seesAlike_46 (by decide) ?_
        have hA : cp i14 = pa ∨ cq i14 = pa := by first | exact Or.inl c_31 | exact Or.inr c_42
        refine lv_istore (lv' := [(5, .int 1), (4, .int (nI i14)), (3, .int (nI (stAt n xp xq i14))), (2, .int (nI (stAt n cp cq i14))), (0, .ref (a 0)), (1, .int (nI pa))]) hx hb dX1_seesAlike_50 hl (by decide) rfl (fun ls hl => ?_)
        refine lv_aload_n hx hb dX1_seesAlike_52 rfl (lv_at hl 4 rfl) ?_
        refine m_get (v := .ref (a 24)) S hK hP 24 (by decide) fl_X1_60 rfl dX1_seesAlike_53 rfl ?_
        refine lv_iload hx hb dX1_seesAlike_56 (lv_at hl 1 rfl) ?_
        refine m_aldn (j := i14) (v := nI (xp i14)) S hK hP 24 (by decide) rfl (show i14 < 4 by omega) dX1_seesAlike_58 ((hrow i14 (by omega)).1) ?_
        refine lv_iload_n hx hb dX1_seesAlike_59 rfl (lv_at hl 5 rfl) ?_
        refine lv_icmp_eq (tgt := 74) hx hb dX1_seesAlike_60 (by decide) (fun c_60 => ?_) (fun c_60 => ?_)
        · have c_60 : xp i14 = pa := nI_inj (by omega) (by omega) c_60
          refine lv_iconst (v := 1) hx hb dX1_seesAlike_74 (by decide) ?_
          refine lv_goto (tgt := 79) hx hb dX1_seesAlike_75 (by decide) ?_
          have hB : xp i14 = pa ∨ xq i14 = pa := by first | exact Or.inl c_60 | exact Or.inr c_71
          refine lv_istore (lv' := [(6, .int 1), (5, .int 1), (4, .int (nI i14)), (3, .int (nI (stAt n xp xq i14))), (2, .int (nI (stAt n cp cq i14))), (0, .ref (a 0)), (1, .int (nI pa))]) hx hb dX1_seesAlike_79 hl (by decide) rfl (fun ls hl => ?_)
          refine lv_iload_n hx hb dX1_seesAlike_81 rfl (lv_at hl 4 rfl) ?_
          refine lv_aload_n hx hb dX1_seesAlike_82 rfl (lv_at hl 5 rfl) ?_
          refine m_get (v := .ref (a 10)) S hK hP 10 (by decide) fl_X1_25 rfl dX1_seesAlike_83 rfl ?_
          refine lv_iload hx hb dX1_seesAlike_86 (lv_at hl 2 rfl) ?_
          refine m_aldn (j := i14) (v := nI (cp i14)) S hK hP 10 (by decide) rfl (show i14 < 12 by omega) dX1_seesAlike_88 ((hG.2.2.2.2.2 i14 (by omega)).1) ?_
          refine lv_aload_n hx hb dX1_seesAlike_89 rfl (lv_at hl 5 rfl) ?_
          refine m_get (v := .ref (a 11)) S hK hP 11 (by decide) fl_X1_28 rfl dX1_seesAlike_90 rfl ?_
          refine lv_iload hx hb dX1_seesAlike_93 (lv_at hl 2 rfl) ?_
          refine m_aldn (j := i14) (v := nI (cq i14)) S hK hP 11 (by decide) rfl (show i14 < 12 by omega) dX1_seesAlike_95 ((hG.2.2.2.2.2 i14 (by omega)).2.1) ?_
          refine rc_Si (rest := []) [.int (nI (stAt n cp cq i14)), .int (nI (cp i14)), .int (nI (cq i14))] 3 S hK (r1_afterCall l D dA (stAt n cp cq i14) (cp i14) (cq i14) (by first | assumption | omega | decide) (by first | assumption | omega | decide) (by first | assumption | omega | decide)) wl_X1_117 wd_X1_X1_afterCall rfl ⟨Nat.le_of_ble_eq_true rfl, Nat.le_of_ble_eq_true rfl⟩ hl.1 (Nat.le_of_ble_eq_true rfl) dX1_seesAlike_96 ⟨Nat.le_refl 0, Nat.le_refl 0⟩ (trivial) ?_ rfl
          refine topi (z := nI (stAt n cp cq (i14 + 1))) (rfl) ?_
          refine lv_istore_n (lv' := [(2, .int (nI (stAt n cp cq (i14 + 1)))), (6, .int 1), (5, .int 1), (4, .int (nI i14)), (3, .int (nI (stAt n xp xq i14))), (0, .ref (a 0)), (1, .int (nI pa))]) hx hb dX1_seesAlike_99 rfl hl (by decide) rfl (fun ls hl => ?_)
          refine lv_iload_n hx hb dX1_seesAlike_100 rfl (lv_at hl 4 rfl) ?_
          refine lv_aload_n hx hb dX1_seesAlike_101 rfl (lv_at hl 5 rfl) ?_
          refine m_get (v := .ref (a 24)) S hK hP 24 (by decide) fl_X1_60 rfl dX1_seesAlike_102 rfl ?_
          refine lv_iload hx hb dX1_seesAlike_105 (lv_at hl 3 rfl) ?_
          refine m_aldn (j := i14) (v := nI (xp i14)) S hK hP 24 (by decide) rfl (show i14 < 4 by omega) dX1_seesAlike_107 ((hrow i14 (by omega)).1) ?_
          refine lv_aload_n hx hb dX1_seesAlike_108 rfl (lv_at hl 5 rfl) ?_
          refine m_get (v := .ref (a 25)) S hK hP 25 (by decide) fl_X1_63 rfl dX1_seesAlike_109 rfl ?_
          refine lv_iload hx hb dX1_seesAlike_112 (lv_at hl 3 rfl) ?_
          refine m_aldn (j := i14) (v := nI (xq i14)) S hK hP 25 (by decide) rfl (show i14 < 4 by omega) dX1_seesAlike_114 ((hrow i14 (by omega)).2.1) ?_
          refine rc_Si (rest := []) [.int (nI (stAt n xp xq i14)), .int (nI (xp i14)), .int (nI (xq i14))] 3 S hK (r1_afterCall l D dA (stAt n xp xq i14) (xp i14) (xq i14) (by first | assumption | omega | decide) (by first | assumption | omega | decide) (by first | assumption | omega | decide)) wl_X1_117 wd_X1_X1_afterCall rfl ⟨Nat.le_of_ble_eq_true rfl, Nat.le_of_ble_eq_true rfl⟩ hl.1 (Nat.le_of_ble_eq_true rfl) dX1_seesAlike_115 ⟨Nat.le_refl 0, Nat.le_refl 0⟩ (trivial) ?_ rfl
          refine topi (z := nI (stAt n xp xq (i14 + 1))) (rfl) ?_
          refine lv_istore_n (lv' := [(3, .int (nI (stAt n xp xq (i14 + 1)))), (2, .int (nI (stAt n cp cq (i14 + 1)))), (6, .int 1), (5, .int 1), (4, .int (nI i14)), (0, .ref (a 0)), (1, .int (nI pa))]) hx hb dX1_seesAlike_118 rfl hl (by decide) rfl (fun ls hl => ?_)
          refine lv_iload hx hb dX1_seesAlike_119 (lv_at hl 3 rfl) ?_
          refine lv_iload hx hb dX1_seesAlike_121 (lv_at hl 2 rfl) ?_
          refine lv_icmp_ne (tgt := 178) hx hb dX1_seesAlike_123 (by decide) (fun c_123 => absurd (by decide) c_123) (fun c_123 => ?_)
          refine lv_iload hx hb dX1_seesAlike_126 (lv_at hl 3 rfl) ?_
          refine lv_if_eq (tgt := 180) hx hb dX1_seesAlike_128 (by decide) (fun c_128 => absurd c_128 (by decide)) (fun c_128 => ?_)
          refine lv_aload_n hx hb dX1_seesAlike_131 rfl (lv_at hl 5 rfl) ?_
          refine m_get (v := .ref (a 10)) S hK hP 10 (by decide) fl_X1_25 rfl dX1_seesAlike_132 rfl ?_
          refine lv_iload hx hb dX1_seesAlike_135 (lv_at hl 4 rfl) ?_
          refine m_aldn (j := i14) (v := nI (cp i14)) S hK hP 10 (by decide) rfl (show i14 < 12 by omega) dX1_seesAlike_137 ((hG.2.2.2.2.2 i14 (by omega)).1) ?_
          refine lv_aload_n hx hb dX1_seesAlike_138 rfl (lv_at hl 5 rfl) ?_
          refine m_get (v := .ref (a 24)) S hK hP 24 (by decide) fl_X1_60 rfl dX1_seesAlike_139 rfl ?_
          refine lv_iload hx hb dX1_seesAlike_142 (lv_at hl 4 rfl) ?_
          refine m_aldn (j := i14) (v := nI (xp i14)) S hK hP 24 (by decide) rfl (show i14 < 4 by omega) dX1_seesAlike_144 ((hrow i14 (by omega)).1) ?_
          refine lv_icmp_ne (tgt := 178) hx hb dX1_seesAlike_145 (by decide) (fun c_145 => ?_) (fun c_145 => ?_)
          · have c_145 : ¬ cp i14 = xp i14 := fun h => c_145 (congrArg nI h)
            have hsc : seC n cp cq xp xq pa i14 = false := by first | (rw [seC, decide_eq_true hA, decide_eq_true hB, decide_eq_true c_145, decide_eq_true c_162, decide_eq_false c_175] <;> rfl) | (rw [seC, decide_eq_true hA, decide_eq_true hB, decide_eq_true c_145, decide_eq_false c_162] <;> rfl) | (rw [seC, decide_eq_true hA, decide_eq_true hB, decide_eq_false c_145] <;> rfl)
            refine lv_iconst (v := 0) hx hb dX1_seesAlike_178 (by decide) ?_
            exact r_zret S hr hlk dX1_seesAlike_179 (by decide) (congrArg (fun z : Int32 => some (Value.int z)) (show 0 = b2i (seA n cp cq xp xq pa nc) from by rw [seA_f hsc nc hlt14]; rfl))
          · have c_145 : cp i14 = xp i14 := nI_inj (by omega) (by omega) c_145
            refine lv_aload_n hx hb dX1_seesAlike_148 rfl (lv_at hl 5 rfl) ?_
            refine m_get (v := .ref (a 11)) S hK hP 11 (by decide) fl_X1_28 rfl dX1_seesAlike_149 rfl ?_
            refine lv_iload hx hb dX1_seesAlike_152 (lv_at hl 4 rfl) ?_
            refine m_aldn (j := i14) (v := nI (cq i14)) S hK hP 11 (by decide) rfl (show i14 < 12 by omega) dX1_seesAlike_154 ((hG.2.2.2.2.2 i14 (by omega)).2.1) ?_
            refine lv_aload_n hx hb dX1_seesAlike_155 rfl (lv_at hl 5 rfl) ?_
            refine m_get (v := .ref (a 25)) S hK hP 25 (by decide) fl_X1_63 rfl dX1_seesAlike_156 rfl ?_
            refine lv_iload hx hb dX1_seesAlike_159 (lv_at hl 4 rfl) ?_
            refine m_aldn (j := i14) (v := nI (xq i14)) S hK hP 25 (by decide) rfl (show i14 < 4 by omega) dX1_seesAlike_161 ((hrow i14 (by omega)).2.1) ?_
            refine lv_icmp_ne (tgt := 178) hx hb dX1_seesAlike_162 (by decide) (fun c_162 => ?_) (fun c_162 => ?_)
            · have c_162 : ¬ cq i14 = xq i14 := fun h => c_162 (congrArg nI h)
              have hsc : seC n cp cq xp xq pa i14 = false := by first | (rw [seC, decide_eq_true hA, decide_eq_true hB, decide_eq_true c_145, decide_eq_true c_162, decide_eq_false c_175] <;> rfl) | (rw [seC, decide_eq_true hA, decide_eq_true hB, decide_eq_true c_145, decide_eq_false c_162] <;> rfl) | (rw [seC, decide_eq_true hA, decide_eq_true hB, decide_eq_false c_145] <;> rfl)
              refine lv_iconst (v := 0) hx hb dX1_seesAlike_178 (by decide) ?_
              exact r_zret S hr hlk dX1_seesAlike_179 (by decide) (congrArg (fun z : Int32 => some (Value.int z)) (show 0 = b2i (seA n cp cq xp xq pa nc) from by rw [seA_f hsc nc hlt14]; rfl))
            · have c_162 : cq i14 = xq i14 := nI_inj (by omega) (by omega) c_162
              refine lv_iload_n hx hb dX1_seesAlike_165 rfl (lv_at hl 1 rfl) ?_
              refine lv_iload_n hx hb dX1_seesAlike_166 rfl (lv_at hl 6 rfl) ?_
              refine rc_Si (rest := []) [.int (nI (stAt n cp cq (i14 + 1))), .int (nI pa)] 2 S hK (r1_of l D dA (stAt n cp cq (i14 + 1)) pa (by first | assumption | omega | decide) (by first | assumption | omega | decide)) wl_X1_110 wd_X1_X1_of rfl ⟨Nat.le_of_ble_eq_true rfl, Nat.le_of_ble_eq_true rfl⟩ hl.1 (Nat.le_of_ble_eq_true rfl) dX1_seesAlike_167 ⟨Nat.le_refl 0, Nat.le_refl 0⟩ (trivial) ?_ rfl
              refine lv_iload_n hx hb dX1_seesAlike_170 rfl (lv_at hl 0 rfl) ?_
              refine lv_iload_n hx hb dX1_seesAlike_171 rfl (lv_at hl 6 rfl) ?_
              refine rc_Si (rest := [.int (nI (hs4 (stAt n cp cq (i14 + 1)) pa))]) [.int (nI (stAt n xp xq (i14 + 1))), .int (nI pa)] 2 S hK (r1_of l D dA (stAt n xp xq (i14 + 1)) pa (by first | assumption | omega | decide) (by first | assumption | omega | decide)) wl_X1_110 wd_X1_X1_of rfl ⟨Nat.le_of_ble_eq_true rfl, Nat.le_of_ble_eq_true rfl⟩ hl.1 (Nat.le_of_ble_eq_true rfl) dX1_seesAlike_172 ⟨Nat.le_refl 0, Nat.le_refl 0⟩ (trivial) ?_ rfl
              refine lv_icmp_eq (tgt := 180) hx hb dX1_seesAlike_175 (by decide) (fun c_175 => ?_) (fun c_175 => ?_)
              · have c_175 : hs4 (stAt n cp cq (i14 + 1)) pa = hs4 (stAt n xp xq (i14 + 1)) pa := nI_inj (by omega) (by omega) c_175
                refine lv_iinc (v := nI (i14 + 1)) (lv' := [(4, .int (nI (i14 + 1))), (3, .int (nI (stAt n xp xq (i14 + 1)))), (2, .int (nI (stAt n cp cq (i14 + 1)))), (6, .int 1), (5, .int 1), (0, .ref (a 0)), (1, .int (nI pa))]) hx hb dX1_seesAlike_180 hl (k := 4) rfl (nI_1 _) (by decide) rfl (fun ls hl => ?_)
                refine lv_goto (tgt := 14) hx hb dX1_seesAlike_183 (by decide) ?_
                exact ih14 (i14 + 1) (by omega) (seA_s hinv14 (by rw [seC, decide_eq_true hA, decide_eq_true hB, decide_eq_true c_145, decide_eq_true c_162, decide_eq_true c_175] <;> rfl)) ls (lv_sub hl [0, 1, 2, 5, 6] rfl)
              · have c_175 : ¬ hs4 (stAt n cp cq (i14 + 1)) pa = hs4 (stAt n xp xq (i14 + 1)) pa := fun h => c_175 (congrArg nI h)
                have hsc : seC n cp cq xp xq pa i14 = false := by first | (rw [seC, decide_eq_true hA, decide_eq_true hB, decide_eq_true c_145, decide_eq_true c_162, decide_eq_false c_175] <;> rfl) | (rw [seC, decide_eq_true hA, decide_eq_true hB, decide_eq_true c_145, decide_eq_false c_162] <;> rfl) | (rw [seC, decide_eq_true hA, decide_eq_true hB, decide_eq_false c_145] <;> rfl)
                refine lv_iconst (v := 0) hx hb dX1_seesAlike_178 (by decide) ?_
                exact r_zret S hr hlk dX1_seesAlike_179 (by decide) (congrArg (fun z : Int32 => some (Value.int z)) (show 0 = b2i (seA n cp cq xp xq pa nc) from by rw [seA_f hsc nc hlt14]; rfl))
        · have c_60 : ¬ xp i14 = pa := fun h => c_60 (congrArg nI h)
          refine lv_aload_n hx hb dX1_seesAlike_63 rfl (lv_at hl 4 rfl) ?_
          refine m_get (v := .ref (a 25)) S hK hP 25 (by decide) fl_X1_63 rfl dX1_seesAlike_64 rfl ?_
          refine lv_iload hx hb dX1_seesAlike_67 (lv_at hl 1 rfl) ?_
          refine m_aldn (j := i14) (v := nI (xq i14)) S hK hP 25 (by decide) rfl (show i14 < 4 by omega) dX1_seesAlike_69 ((hrow i14 (by omega)).2.1) ?_
          refine lv_iload_n hx hb dX1_seesAlike_70 rfl (lv_at hl 5 rfl) ?_
          refine lv_icmp_ne (tgt := 78) hx hb dX1_seesAlike_71 (by decide) (fun c_71 => ?_) (fun c_71 => ?_)
          · have c_71 : ¬ xq i14 = pa := fun h => c_71 (congrArg nI h)
            refine lv_iconst (v := 0) hx hb dX1_seesAlike_78 (by decide) ?_
            have hB : ¬ (xp i14 = pa ∨ xq i14 = pa) := fun h => h.elim c_60 c_71
            refine lv_istore (lv' := [(6, .int 0), (5, .int 1), (4, .int (nI i14)), (3, .int (nI (stAt n xp xq i14))), (2, .int (nI (stAt n cp cq i14))), (0, .ref (a 0)), (1, .int (nI pa))]) hx hb dX1_seesAlike_79 hl (by decide) rfl (fun ls hl => ?_)
            refine lv_iload_n hx hb dX1_seesAlike_81 rfl (lv_at hl 4 rfl) ?_
            refine lv_aload_n hx hb dX1_seesAlike_82 rfl (lv_at hl 5 rfl) ?_
            refine m_get (v := .ref (a 10)) S hK hP 10 (by decide) fl_X1_25 rfl dX1_seesAlike_83 rfl ?_
            refine lv_iload hx hb dX1_seesAlike_86 (lv_at hl 2 rfl) ?_
            refine m_aldn (j := i14) (v := nI (cp i14)) S hK hP 10 (by decide) rfl (show i14 < 12 by omega) dX1_seesAlike_88 ((hG.2.2.2.2.2 i14 (by omega)).1) ?_
            refine lv_aload_n hx hb dX1_seesAlike_89 rfl (lv_at hl 5 rfl) ?_
            refine m_get (v := .ref (a 11)) S hK hP 11 (by decide) fl_X1_28 rfl dX1_seesAlike_90 rfl ?_
            refine lv_iload hx hb dX1_seesAlike_93 (lv_at hl 2 rfl) ?_
            refine m_aldn (j := i14) (v := nI (cq i14)) S hK hP 11 (by decide) rfl (show i14 < 12 by omega) dX1_seesAlike_95 ((hG.2.2.2.2.2 i14 (by omega)).2.1) ?_
            refine rc_Si (rest := []) [.int (nI (stAt n cp cq i14)), .int (nI (cp i14)), .int (nI (cq i14))] 3 S hK (r1_afterCall l D dA (stAt n cp cq i14) (cp i14) (cq i14) (by first | assumption | omega | decide) (by first | assumption | omega | decide) (by first | assumption | omega | decide)) wl_X1_117 wd_X1_X1_afterCall rfl ⟨Nat.le_of_ble_eq_true rfl, Nat.le_of_ble_eq_true rfl⟩ hl.1 (Nat.le_of_ble_eq_true rfl) dX1_seesAlike_96 ⟨Nat.le_refl 0, Nat.le_refl 0⟩ (trivial) ?_ rfl
            refine topi (z := nI (stAt n cp cq (i14 + 1))) (rfl) ?_
            refine lv_istore_n (lv' := [(2, .int (nI (stAt n cp cq (i14 + 1)))), (6, .int 0), (5, .int 1), (4, .int (nI i14)), (3, .int (nI (stAt n xp xq i14))), (0, .ref (a 0)), (1, .int (nI pa))]) hx hb dX1_seesAlike_99 rfl hl (by decide) rfl (fun ls hl => ?_)
            refine lv_iload_n hx hb dX1_seesAlike_100 rfl (lv_at hl 4 rfl) ?_
            refine lv_aload_n hx hb dX1_seesAlike_101 rfl (lv_at hl 5 rfl) ?_
            refine m_get (v := .ref (a 24)) S hK hP 24 (by decide) fl_X1_60 rfl dX1_seesAlike_102 rfl ?_
            refine lv_iload hx hb dX1_seesAlike_105 (lv_at hl 3 rfl) ?_
            refine m_aldn (j := i14) (v := nI (xp i14)) S hK hP 24 (by decide) rfl (show i14 < 4 by omega) dX1_seesAlike_107 ((hrow i14 (by omega)).1) ?_
            refine lv_aload_n hx hb dX1_seesAlike_108 rfl (lv_at hl 5 rfl) ?_
            refine m_get (v := .ref (a 25)) S hK hP 25 (by decide) fl_X1_63 rfl dX1_seesAlike_109 rfl ?_
            refine lv_iload hx hb dX1_seesAlike_112 (lv_at hl 3 rfl) ?_
            refine m_aldn (j := i14) (v := nI (xq i14)) S hK hP 25 (by decide) rfl (show i14 < 4 by omega) dX1_seesAlike_114 ((hrow i14 (by omega)).2.1) ?_
            refine rc_Si (rest := []) [.int (nI (stAt n xp xq i14)), .int (nI (xp i14)), .int (nI (xq i14))] 3 S hK (r1_afterCall l D dA (stAt n xp xq i14) (xp i14) (xq i14) (by first | assumption | omega | decide) (by first | assumption | omega | decide) (by first | assumption | omega | decide)) wl_X1_117 wd_X1_X1_afterCall rfl ⟨Nat.le_of_ble_eq_true rfl, Nat.le_of_ble_eq_true rfl⟩ hl.1 (Nat.le_of_ble_eq_true rfl) dX1_seesAlike_115 ⟨Nat.le_refl 0, Nat.le_refl 0⟩ (trivial) ?_ rfl
            refine topi (z := nI (stAt n xp xq (i14 + 1))) (rfl) ?_
            refine lv_istore_n (lv' := [(3, .int (nI (stAt n xp xq (i14 + 1)))), (2, .int (nI (stAt n cp cq (i14 + 1)))), (6, .int 0), (5, .int 1), (4, .int (nI i14)), (0, .ref (a 0)), (1, .int (nI pa))]) hx hb dX1_seesAlike_118 rfl hl (by decide) rfl (fun ls hl => ?_)
            refine lv_iload hx hb dX1_seesAlike_119 (lv_at hl 3 rfl) ?_
            refine lv_iload hx hb dX1_seesAlike_121 (lv_at hl 2 rfl) ?_
            refine lv_icmp_ne (tgt := 178) hx hb dX1_seesAlike_123 (by decide) (fun c_123 => ?_) (fun c_123 => absurd (c_123) (by decide))
            have hsc : seC n cp cq xp xq pa i14 = false := by rw [seC, decide_eq_true hA, decide_eq_false hB] <;> rfl
            refine lv_iconst (v := 0) hx hb dX1_seesAlike_178 (by decide) ?_
            exact r_zret S hr hlk dX1_seesAlike_179 (by decide) (congrArg (fun z : Int32 => some (Value.int z)) (show 0 = b2i (seA n cp cq xp xq pa nc) from by rw [seA_f hsc nc hlt14]; rfl))
          · have c_71 : xq i14 = pa := nI_inj (by omega) (by omega) c_71
            refine lv_iconst (v := 1) hx hb dX1_seesAlike_74 (by decide) ?_
            refine lv_goto (tgt := 79) hx hb dX1_seesAlike_75 (by decide) ?_
            have hB : xp i14 = pa ∨ xq i14 = pa := by first | exact Or.inl c_60 | exact Or.inr c_71
            refine lv_istore (lv' := [(6, .int 1), (5, .int 1), (4, .int (nI i14)), (3, .int (nI (stAt n xp xq i14))), (2, .int (nI (stAt n cp cq i14))), (0, .ref (a 0)), (1, .int (nI pa))]) hx hb dX1_seesAlike_79 hl (by decide) rfl (fun ls hl => ?_)
            refine lv_iload_n hx hb dX1_seesAlike_81 rfl (lv_at hl 4 rfl) ?_
            refine lv_aload_n hx hb dX1_seesAlike_82 rfl (lv_at hl 5 rfl) ?_
            refine m_get (v := .ref (a 10)) S hK hP 10 (by decide) fl_X1_25 rfl dX1_seesAlike_83 rfl ?_
            refine lv_iload hx hb dX1_seesAlike_86 (lv_at hl 2 rfl) ?_
            refine m_aldn (j := i14) (v := nI (cp i14)) S hK hP 10 (by decide) rfl (show i14 < 12 by omega) dX1_seesAlike_88 ((hG.2.2.2.2.2 i14 (by omega)).1) ?_
            refine lv_aload_n hx hb dX1_seesAlike_89 rfl (lv_at hl 5 rfl) ?_
            refine m_get (v := .ref (a 11)) S hK hP 11 (by decide) fl_X1_28 rfl dX1_seesAlike_90 rfl ?_
            refine lv_iload hx hb dX1_seesAlike_93 (lv_at hl 2 rfl) ?_
            refine m_aldn (j := i14) (v := nI (cq i14)) S hK hP 11 (by decide) rfl (show i14 < 12 by omega) dX1_seesAlike_95 ((hG.2.2.2.2.2 i14 (by omega)).2.1) ?_
            refine rc_Si (rest := []) [.int (nI (stAt n cp cq i14)), .int (nI (cp i14)), .int (nI (cq i14))] 3 S hK (r1_afterCall l D dA (stAt n cp cq i14) (cp i14) (cq i14) (by first | assumption | omega | decide) (by first | assumption | omega | decide) (by first | assumption | omega | decide)) wl_X1_117 wd_X1_X1_afterCall rfl ⟨Nat.le_of_ble_eq_true rfl, Nat.le_of_ble_eq_true rfl⟩ hl.1 (Nat.le_of_ble_eq_true rfl) dX1_seesAlike_96 ⟨Nat.le_refl 0, Nat.le_refl 0⟩ (trivial) ?_ rfl
            refine topi (z := nI (stAt n cp cq (i14 + 1))) (rfl) ?_
            refine lv_istore_n (lv' := [(2, .int (nI (stAt n cp cq (i14 + 1)))), (6, .int 1), (5, .int 1), (4, .int (nI i14)), (3, .int (nI (stAt n xp xq i14))), (0, .ref (a 0)), (1, .int (nI pa))]) hx hb dX1_seesAlike_99 rfl hl (by decide) rfl (fun ls hl => ?_)
            refine lv_iload_n hx hb dX1_seesAlike_100 rfl (lv_at hl 4 rfl) ?_
            refine lv_aload_n hx hb dX1_seesAlike_101 rfl (lv_at hl 5 rfl) ?_
            refine m_get (v := .ref (a 24)) S hK hP 24 (by decide) fl_X1_60 rfl dX1_seesAlike_102 rfl ?_
            refine lv_iload hx hb dX1_seesAlike_105 (lv_at hl 3 rfl) ?_
            refine m_aldn (j := i14) (v := nI (xp i14)) S hK hP 24 (by decide) rfl (show i14 < 4 by omega) dX1_seesAlike_107 ((hrow i14 (by omega)).1) ?_
            refine lv_aload_n hx hb dX1_seesAlike_108 rfl (lv_at hl 5 rfl) ?_
            refine m_get (v := .ref (a 25)) S hK hP 25 (by decide) fl_X1_63 rfl dX1_seesAlike_109 rfl ?_
            refine lv_iload hx hb dX1_seesAlike_112 (lv_at hl 3 rfl) ?_
            refine m_aldn (j := i14) (v := nI (xq i14)) S hK hP 25 (by decide) rfl (show i14 < 4 by omega) dX1_seesAlike_114 ((hrow i14 (by omega)).2.1) ?_
            refine rc_Si (rest := []) [.int (nI (stAt n xp xq i14)), .int (nI (xp i14)), .int (nI (xq i14))] 3 S hK (r1_afterCall l D dA (stAt n xp xq i14) (xp i14) (xq i14) (by first | assumption | omega | decide) (by first | assumption | omega | decide) (by first | assumption | omega | decide)) wl_X1_117 wd_X1_X1_afterCall rfl ⟨Nat.le_of_ble_eq_true rfl, Nat.le_of_ble_eq_true rfl⟩ hl.1 (Nat.le_of_ble_eq_true rfl) dX1_seesAlike_115 ⟨Nat.le_refl 0, Nat.le_refl 0⟩ (trivial) ?_ rfl
            refine topi (z := nI (stAt n xp xq (i14 + 1))) (rfl) ?_
            refine lv_istore_n (lv' := [(3, .int (nI (stAt n xp xq (i14 + 1)))), (2, .int (nI (stAt n cp cq (i14 + 1)))), (6, .int 1), (5, .int 1), (4, .int (nI i14)), (0, .ref (a 0)), (1, .int (nI pa))]) hx hb dX1_seesAlike_118 rfl hl (by decide) rfl (fun ls hl => ?_)
            refine lv_iload hx hb dX1_seesAlike_119 (lv_at hl 3 rfl) ?_
            refine lv_iload hx hb dX1_seesAlike_121 (lv_at hl 2 rfl) ?_
            refine lv_icmp_ne (tgt := 178) hx hb dX1_seesAlike_123 (by decide) (fun c_123 => absurd (by decide) c_123) (fun c_123 => ?_)
            refine lv_iload hx hb dX1_seesAlike_126 (lv_at hl 3 rfl) ?_
            refine lv_if_eq (tgt := 180) hx hb dX1_seesAlike_128 (by decide) (fun c_128 => absurd c_128 (by decide)) (fun c_128 => ?_)
            refine lv_aload_n hx hb dX1_seesAlike_131 rfl (lv_at hl 5 rfl) ?_
            refine m_get (v := .ref (a 10)) S hK hP 10 (by decide) fl_X1_25 rfl dX1_seesAlike_132 rfl ?_
            refine lv_iload hx hb dX1_seesAlike_135 (lv_at hl 4 rfl) ?_
            refine m_aldn (j := i14) (v := nI (cp i14)) S hK hP 10 (by decide) rfl (show i14 < 12 by omega) dX1_seesAlike_137 ((hG.2.2.2.2.2 i14 (by omega)).1) ?_
            refine lv_aload_n hx hb dX1_seesAlike_138 rfl (lv_at hl 5 rfl) ?_
            refine m_get (v := .ref (a 24)) S hK hP 24 (by decide) fl_X1_60 rfl dX1_seesAlike_139 rfl ?_
            refine lv_iload hx hb dX1_seesAlike_142 (lv_at hl 4 rfl) ?_
            refine m_aldn (j := i14) (v := nI (xp i14)) S hK hP 24 (by decide) rfl (show i14 < 4 by omega) dX1_seesAlike_144 ((hrow i14 (by omega)).1) ?_
            refine lv_icmp_ne (tgt := 178) hx hb dX1_seesAlike_145 (by decide) (fun c_145 => ?_) (fun c_145 => ?_)
            · have c_145 : ¬ cp i14 = xp i14 := fun h => c_145 (congrArg nI h)
              have hsc : seC n cp cq xp xq pa i14 = false := by first | (rw [seC, decide_eq_true hA, decide_eq_true hB, decide_eq_true c_145, decide_eq_true c_162, decide_eq_false c_175] <;> rfl) | (rw [seC, decide_eq_true hA, decide_eq_true hB, decide_eq_true c_145, decide_eq_false c_162] <;> rfl) | (rw [seC, decide_eq_true hA, decide_eq_true hB, decide_eq_false c_145] <;> rfl)
              refine lv_iconst (v := 0) hx hb dX1_seesAlike_178 (by decide) ?_
              exact r_zret S hr hlk dX1_seesAlike_179 (by decide) (congrArg (fun z : Int32 => some (Value.int z)) (show 0 = b2i (seA n cp cq xp xq pa nc) from by rw [seA_f hsc nc hlt14]; rfl))
            · have c_145 : cp i14 = xp i14 := nI_inj (by omega) (by omega) c_145
              refine lv_aload_n hx hb dX1_seesAlike_148 rfl (lv_at hl 5 rfl) ?_
              refine m_get (v := .ref (a 11)) S hK hP 11 (by decide) fl_X1_28 rfl dX1_seesAlike_149 rfl ?_
              refine lv_iload hx hb dX1_seesAlike_152 (lv_at hl 4 rfl) ?_
              refine m_aldn (j := i14) (v := nI (cq i14)) S hK hP 11 (by decide) rfl (show i14 < 12 by omega) dX1_seesAlike_154 ((hG.2.2.2.2.2 i14 (by omega)).2.1) ?_
              refine lv_aload_n hx hb dX1_seesAlike_155 rfl (lv_at hl 5 rfl) ?_
              refine m_get (v := .ref (a 25)) S hK hP 25 (by decide) fl_X1_63 rfl dX1_seesAlike_156 rfl ?_
              refine lv_iload hx hb dX1_seesAlike_159 (lv_at hl 4 rfl) ?_
              refine m_aldn (j := i14) (v := nI (xq i14)) S hK hP 25 (by decide) rfl (show i14 < 4 by omega) dX1_seesAlike_161 ((hrow i14 (by omega)).2.1) ?_
              refine lv_icmp_ne (tgt := 178) hx hb dX1_seesAlike_162 (by decide) (fun c_162 => ?_) (fun c_162 => ?_)
              · have c_162 : ¬ cq i14 = xq i14 := fun h => c_162 (congrArg nI h)
                have hsc : seC n cp cq xp xq pa i14 = false := by first | (rw [seC, decide_eq_true hA, decide_eq_true hB, decide_eq_true c_145, decide_eq_true c_162, decide_eq_false c_175] <;> rfl) | (rw [seC, decide_eq_true hA, decide_eq_true hB, decide_eq_true c_145, decide_eq_false c_162] <;> rfl) | (rw [seC, decide_eq_true hA, decide_eq_true hB, decide_eq_false c_145] <;> rfl)
                refine lv_iconst (v := 0) hx hb dX1_seesAlike_178 (by decide) ?_
                exact r_zret S hr hlk dX1_seesAlike_179 (by decide) (congrArg (fun z : Int32 => some (Value.int z)) (show 0 = b2i (seA n cp cq xp xq pa nc) from by rw [seA_f hsc nc hlt14]; rfl))
              · have c_162 : cq i14 = xq i14 := nI_inj (by omega) (by omega) c_162
                refine lv_iload_n hx hb dX1_seesAlike_165 rfl (lv_at hl 1 rfl) ?_
                refine lv_iload_n hx hb dX1_seesAlike_166 rfl (lv_at hl 6 rfl) ?_
                refine rc_Si (rest := []) [.int (nI (stAt n cp cq (i14 + 1))), .int (nI pa)] 2 S hK (r1_of l D dA (stAt n cp cq (i14 + 1)) pa (by first | assumption | omega | decide) (by first | assumption | omega | decide)) wl_X1_110 wd_X1_X1_of rfl ⟨Nat.le_of_ble_eq_true rfl, Nat.le_of_ble_eq_true rfl⟩ hl.1 (Nat.le_of_ble_eq_true rfl) dX1_seesAlike_167 ⟨Nat.le_refl 0, Nat.le_refl 0⟩ (trivial) ?_ rfl
                refine lv_iload_n hx hb dX1_seesAlike_170 rfl (lv_at hl 0 rfl) ?_
                refine lv_iload_n hx hb dX1_seesAlike_171 rfl (lv_at hl 6 rfl) ?_
                refine rc_Si (rest := [.int (nI (hs4 (stAt n cp cq (i14 + 1)) pa))]) [.int (nI (stAt n xp xq (i14 + 1))), .int (nI pa)] 2 S hK (r1_of l D dA (stAt n xp xq (i14 + 1)) pa (by first | assumption | omega | decide) (by first | assumption | omega | decide)) wl_X1_110 wd_X1_X1_of rfl ⟨Nat.le_of_ble_eq_true rfl, Nat.le_of_ble_eq_true rfl⟩ hl.1 (Nat.le_of_ble_eq_true rfl) dX1_seesAlike_172 ⟨Nat.le_refl 0, Nat.le_refl 0⟩ (trivial) ?_ rfl
                refine lv_icmp_eq (tgt := 180) hx hb dX1_seesAlike_175 (by decide) (fun c_175 => ?_) (fun c_175 => ?_)
                · have c_175 : hs4 (stAt n cp cq (i14 + 1)) pa = hs4 (stAt n xp xq (i14 + 1)) pa := nI_inj (by omega) (by omega) c_175
                  refine lv_iinc (v := nI (i14 + 1)) (lv' := [(4, .int (nI (i14 + 1))), (3, .int (nI (stAt n xp xq (i14 + 1)))), (2, .int (nI (stAt n cp cq (i14 + 1)))), (6, .int 1), (5, .int 1), (0, .ref (a 0)), (1, .int (nI pa))]) hx hb dX1_seesAlike_180 hl (k := 4) rfl (nI_1 _) (by decide) rfl (fun ls hl => ?_)
                  refine lv_goto (tgt := 14) hx hb dX1_seesAlike_183 (by decide) ?_
                  exact ih14 (i14 + 1) (by omega) (seA_s hinv14 (by rw [seC, decide_eq_true hA, decide_eq_true hB, decide_eq_true c_145, decide_eq_true c_162, decide_eq_true c_175] <;> rfl)) ls (lv_sub hl [0, 1, 2, 5, 6] rfl)
                · have c_175 : ¬ hs4 (stAt n cp cq (i14 + 1)) pa = hs4 (stAt n xp xq (i14 + 1)) pa := fun h => c_175 (congrArg nI h)
                  have hsc : seC n cp cq xp xq pa i14 = false := by first | (rw [seC, decide_eq_true hA, decide_eq_true hB, decide_eq_true c_145, decide_eq_true c_162, decide_eq_false c_175] <;> rfl) | (rw [seC, decide_eq_true hA, decide_eq_true hB, decide_eq_true c_145, decide_eq_false c_162] <;> rfl) | (rw [seC, decide_eq_true hA, decide_eq_true hB, decide_eq_false c_145] <;> rfl)
                  refine lv_iconst (v := 0) hx hb dX1_seesAlike_178 (by decide) ?_
                  exact r_zret S hr hlk dX1_seesAlike_179 (by decide) (congrArg (fun z : Int32 => some (Value.int z)) (show 0 = b2i (seA n cp cq xp xq pa nc) from by rw [seA_f hsc nc hlt14]; rfl))
      · have c_31 : ¬ cp i14 = pa := fun h => c_31 (congrArg nI h)
        refine lv_aload_n hx hb dX1_seesAlike_34 rfl (lv_at hl 3 rfl) ?_
        refine m_get (v := .ref (a 11)) S hK hP 11 (by decide) fl_X1_28 rfl dX1_seesAlike_35 rfl ?_
        refine lv_iload hx hb dX1_seesAlike_38 (lv_at hl 0 rfl) ?_
        refine m_aldn (j := i14) (v := nI (cq i14)) S hK hP 11 (by decide) rfl (show i14 < 12 by omega) dX1_seesAlike_40 ((hG.2.2.2.2.2 i14 (by omega)).2.1) ?_
        refine lv_iload_n hx hb dX1_seesAlike_41 rfl (lv_at hl 4 rfl) ?_
        refine lv_icmp_ne (tgt := 49) hx hb dX1_seesAlike_42 (by decide) (fun c_42 => ?_) (fun c_42 => ?_)
        · have c_42 : ¬ cq i14 = pa := fun h => c_42 (congrArg nI h)
          refine lv_iconst (v := 0) hx hb dX1_seesAlike_49 (by decide) ?_
          have hA : ¬ (cp i14 = pa ∨ cq i14 = pa) := fun h => h.elim c_31 c_42
          refine lv_istore (lv' := [(5, .int 0), (4, .int (nI i14)), (3, .int (nI (stAt n xp xq i14))), (2, .int (nI (stAt n cp cq i14))), (0, .ref (a 0)), (1, .int (nI pa))]) hx hb dX1_seesAlike_50 hl (by decide) rfl (fun ls hl => ?_)
          refine lv_aload_n hx hb dX1_seesAlike_52 rfl (lv_at hl 4 rfl) ?_
          refine m_get (v := .ref (a 24)) S hK hP 24 (by decide) fl_X1_60 rfl dX1_seesAlike_53 rfl ?_
          refine lv_iload hx hb dX1_seesAlike_56 (lv_at hl 1 rfl) ?_
          refine m_aldn (j := i14) (v := nI (xp i14)) S hK hP 24 (by decide) rfl (show i14 < 4 by omega) dX1_seesAlike_58 ((hrow i14 (by omega)).1) ?_
          refine lv_iload_n hx hb dX1_seesAlike_59 rfl (lv_at hl 5 rfl) ?_
          refine lv_icmp_eq (tgt := 74) hx hb dX1_seesAlike_60 (by decide) (fun c_60 => ?_) (fun c_60 => ?_)
          · have c_60 : xp i14 = pa := nI_inj (by omega) (by omega) c_60
            refine lv_iconst (v := 1) hx hb dX1_seesAlike_74 (by decide) ?_
            refine lv_goto (tgt := 79) hx hb dX1_seesAlike_75 (by decide) ?_
            have hB : xp i14 = pa ∨ xq i14 = pa := by first | exact Or.inl c_60 | exact Or.inr c_71
            refine lv_istore (lv' := [(6, .int 1), (5, .int 0), (4, .int (nI i14)), (3, .int (nI (stAt n xp xq i14))), (2, .int (nI (stAt n cp cq i14))), (0, .ref (a 0)), (1, .int (nI pa))]) hx hb dX1_seesAlike_79 hl (by decide) rfl (fun ls hl => ?_)
            refine lv_iload_n hx hb dX1_seesAlike_81 rfl (lv_at hl 4 rfl) ?_
            refine lv_aload_n hx hb dX1_seesAlike_82 rfl (lv_at hl 5 rfl) ?_
            refine m_get (v := .ref (a 10)) S hK hP 10 (by decide) fl_X1_25 rfl dX1_seesAlike_83 rfl ?_
            refine lv_iload hx hb dX1_seesAlike_86 (lv_at hl 2 rfl) ?_
            refine m_aldn (j := i14) (v := nI (cp i14)) S hK hP 10 (by decide) rfl (show i14 < 12 by omega) dX1_seesAlike_88 ((hG.2.2.2.2.2 i14 (by omega)).1) ?_
            refine lv_aload_n hx hb dX1_seesAlike_89 rfl (lv_at hl 5 rfl) ?_
            refine m_get (v := .ref (a 11)) S hK hP 11 (by decide) fl_X1_28 rfl dX1_seesAlike_90 rfl ?_
            refine lv_iload hx hb dX1_seesAlike_93 (lv_at hl 2 rfl) ?_
            refine m_aldn (j := i14) (v := nI (cq i14)) S hK hP 11 (by decide) rfl (show i14 < 12 by omega) dX1_seesAlike_95 ((hG.2.2.2.2.2 i14 (by omega)).2.1) ?_
            refine rc_Si (rest := []) [.int (nI (stAt n cp cq i14)), .int (nI (cp i14)), .int (nI (cq i14))] 3 S hK (r1_afterCall l D dA (stAt n cp cq i14) (cp i14) (cq i14) (by first | assumption | omega | decide) (by first | assumption | omega | decide) (by first | assumption | omega | decide)) wl_X1_117 wd_X1_X1_afterCall rfl ⟨Nat.le_of_ble_eq_true rfl, Nat.le_of_ble_eq_true rfl⟩ hl.1 (Nat.le_of_ble_eq_true rfl) dX1_seesAlike_96 ⟨Nat.le_refl 0, Nat.le_refl 0⟩ (trivial) ?_ rfl
            refine topi (z := nI (stAt n cp cq (i14 + 1))) (rfl) ?_
            refine lv_istore_n (lv' := [(2, .int (nI (stAt n cp cq (i14 + 1)))), (6, .int 1), (5, .int 0), (4, .int (nI i14)), (3, .int (nI (stAt n xp xq i14))), (0, .ref (a 0)), (1, .int (nI pa))]) hx hb dX1_seesAlike_99 rfl hl (by decide) rfl (fun ls hl => ?_)
            refine lv_iload_n hx hb dX1_seesAlike_100 rfl (lv_at hl 4 rfl) ?_
            refine lv_aload_n hx hb dX1_seesAlike_101 rfl (lv_at hl 5 rfl) ?_
            refine m_get (v := .ref (a 24)) S hK hP 24 (by decide) fl_X1_60 rfl dX1_seesAlike_102 rfl ?_
            refine lv_iload hx hb dX1_seesAlike_105 (lv_at hl 3 rfl) ?_
            refine m_aldn (j := i14) (v := nI (xp i14)) S hK hP 24 (by decide) rfl (show i14 < 4 by omega) dX1_seesAlike_107 ((hrow i14 (by omega)).1) ?_
            refine lv_aload_n hx hb dX1_seesAlike_108 rfl (lv_at hl 5 rfl) ?_
            refine m_get (v := .ref (a 25)) S hK hP 25 (by decide) fl_X1_63 rfl dX1_seesAlike_109 rfl ?_
            refine lv_iload hx hb dX1_seesAlike_112 (lv_at hl 3 rfl) ?_
            refine m_aldn (j := i14) (v := nI (xq i14)) S hK hP 25 (by decide) rfl (show i14 < 4 by omega) dX1_seesAlike_114 ((hrow i14 (by omega)).2.1) ?_
            refine rc_Si (rest := []) [.int (nI (stAt n xp xq i14)), .int (nI (xp i14)), .int (nI (xq i14))] 3 S hK (r1_afterCall l D dA (stAt n xp xq i14) (xp i14) (xq i14) (by first | assumption | omega | decide) (by first | assumption | omega | decide) (by first | assumption | omega | decide)) wl_X1_117 wd_X1_X1_afterCall rfl ⟨Nat.le_of_ble_eq_true rfl, Nat.le_of_ble_eq_true rfl⟩ hl.1 (Nat.le_of_ble_eq_true rfl) dX1_seesAlike_115 ⟨Nat.le_refl 0, Nat.le_refl 0⟩ (trivial) ?_ rfl
            refine topi (z := nI (stAt n xp xq (i14 + 1))) (rfl) ?_
            refine lv_istore_n (lv' := [(3, .int (nI (stAt n xp xq (i14 + 1)))), (2, .int (nI (stAt n cp cq (i14 + 1)))), (6, .int 1), (5, .int 0), (4, .int (nI i14)), (0, .ref (a 0)), (1, .int (nI pa))]) hx hb dX1_seesAlike_118 rfl hl (by decide) rfl (fun ls hl => ?_)
            refine lv_iload hx hb dX1_seesAlike_119 (lv_at hl 3 rfl) ?_
            refine lv_iload hx hb dX1_seesAlike_121 (lv_at hl 2 rfl) ?_
            refine lv_icmp_ne (tgt := 178) hx hb dX1_seesAlike_123 (by decide) (fun c_123 => ?_) (fun c_123 => absurd (c_123) (by decide))
            have hsc : seC n cp cq xp xq pa i14 = false := by rw [seC, decide_eq_false hA, decide_eq_true hB] <;> rfl
            refine lv_iconst (v := 0) hx hb dX1_seesAlike_178 (by decide) ?_
            exact r_zret S hr hlk dX1_seesAlike_179 (by decide) (congrArg (fun z : Int32 => some (Value.int z)) (show 0 = b2i (seA n cp cq xp xq pa nc) from by rw [seA_f hsc nc hlt14]; rfl))
          · have c_60 : ¬ xp i14 = pa := fun h => c_60 (congrArg nI h)
            refine lv_aload_n hx hb dX1_seesAlike_63 rfl (lv_at hl 4 rfl) ?_
            refine m_get (v := .ref (a 25)) S hK hP 25 (by decide) fl_X1_63 rfl dX1_seesAlike_64 rfl ?_
            refine lv_iload hx hb dX1_seesAlike_67 (lv_at hl 1 rfl) ?_
            refine m_aldn (j := i14) (v := nI (xq i14)) S hK hP 25 (by decide) rfl (show i14 < 4 by omega) dX1_seesAlike_69 ((hrow i14 (by omega)).2.1) ?_
            refine lv_iload_n hx hb dX1_seesAlike_70 rfl (lv_at hl 5 rfl) ?_
            refine lv_icmp_ne (tgt := 78) hx hb dX1_seesAlike_71 (by decide) (fun c_71 => ?_) (fun c_71 => ?_)
            · have c_71 : ¬ xq i14 = pa := fun h => c_71 (congrArg nI h)
              refine lv_iconst (v := 0) hx hb dX1_seesAlike_78 (by decide) ?_
              have hB : ¬ (xp i14 = pa ∨ xq i14 = pa) := fun h => h.elim c_60 c_71
              refine lv_istore (lv' := [(6, .int 0), (5, .int 0), (4, .int (nI i14)), (3, .int (nI (stAt n xp xq i14))), (2, .int (nI (stAt n cp cq i14))), (0, .ref (a 0)), (1, .int (nI pa))]) hx hb dX1_seesAlike_79 hl (by decide) rfl (fun ls hl => ?_)
              refine lv_iload_n hx hb dX1_seesAlike_81 rfl (lv_at hl 4 rfl) ?_
              refine lv_aload_n hx hb dX1_seesAlike_82 rfl (lv_at hl 5 rfl) ?_
              refine m_get (v := .ref (a 10)) S hK hP 10 (by decide) fl_X1_25 rfl dX1_seesAlike_83 rfl ?_
              refine lv_iload hx hb dX1_seesAlike_86 (lv_at hl 2 rfl) ?_
              refine m_aldn (j := i14) (v := nI (cp i14)) S hK hP 10 (by decide) rfl (show i14 < 12 by omega) dX1_seesAlike_88 ((hG.2.2.2.2.2 i14 (by omega)).1) ?_
              refine lv_aload_n hx hb dX1_seesAlike_89 rfl (lv_at hl 5 rfl) ?_
              refine m_get (v := .ref (a 11)) S hK hP 11 (by decide) fl_X1_28 rfl dX1_seesAlike_90 rfl ?_
              refine lv_iload hx hb dX1_seesAlike_93 (lv_at hl 2 rfl) ?_
              refine m_aldn (j := i14) (v := nI (cq i14)) S hK hP 11 (by decide) rfl (show i14 < 12 by omega) dX1_seesAlike_95 ((hG.2.2.2.2.2 i14 (by omega)).2.1) ?_
              refine rc_Si (rest := []) [.int (nI (stAt n cp cq i14)), .int (nI (cp i14)), .int (nI (cq i14))] 3 S hK (r1_afterCall l D dA (stAt n cp cq i14) (cp i14) (cq i14) (by first | assumption | omega | decide) (by first | assumption | omega | decide) (by first | assumption | omega | decide)) wl_X1_117 wd_X1_X1_afterCall rfl ⟨Nat.le_of_ble_eq_true rfl, Nat.le_of_ble_eq_true rfl⟩ hl.1 (Nat.le_of_ble_eq_true rfl) dX1_seesAlike_96 ⟨Nat.le_refl 0, Nat.le_refl 0⟩ (trivial) ?_ rfl
              refine topi (z := nI (stAt n cp cq (i14 + 1))) (rfl) ?_
              refine lv_istore_n (lv' := [(2, .int (nI (stAt n cp cq (i14 + 1)))), (6, .int 0), (5, .int 0), (4, .int (nI i14)), (3, .int (nI (stAt n xp xq i14))), (0, .ref (a 0)), (1, .int (nI pa))]) hx hb dX1_seesAlike_99 rfl hl (by decide) rfl (fun ls hl => ?_)
              refine lv_iload_n hx hb dX1_seesAlike_100 rfl (lv_at hl 4 rfl) ?_
              refine lv_aload_n hx hb dX1_seesAlike_101 rfl (lv_at hl 5 rfl) ?_
              refine m_get (v := .ref (a 24)) S hK hP 24 (by decide) fl_X1_60 rfl dX1_seesAlike_102 rfl ?_
              refine lv_iload hx hb dX1_seesAlike_105 (lv_at hl 3 rfl) ?_
              refine m_aldn (j := i14) (v := nI (xp i14)) S hK hP 24 (by decide) rfl (show i14 < 4 by omega) dX1_seesAlike_107 ((hrow i14 (by omega)).1) ?_
              refine lv_aload_n hx hb dX1_seesAlike_108 rfl (lv_at hl 5 rfl) ?_
              refine m_get (v := .ref (a 25)) S hK hP 25 (by decide) fl_X1_63 rfl dX1_seesAlike_109 rfl ?_
              refine lv_iload hx hb dX1_seesAlike_112 (lv_at hl 3 rfl) ?_
              refine m_aldn (j := i14) (v := nI (xq i14)) S hK hP 25 (by decide) rfl (show i14 < 4 by omega) dX1_seesAlike_114 ((hrow i14 (by omega)).2.1) ?_
              refine rc_Si (rest := []) [.int (nI (stAt n xp xq i14)), .int (nI (xp i14)), .int (nI (xq i14))] 3 S hK (r1_afterCall l D dA (stAt n xp xq i14) (xp i14) (xq i14) (by first | assumption | omega | decide) (by first | assumption | omega | decide) (by first | assumption | omega | decide)) wl_X1_117 wd_X1_X1_afterCall rfl ⟨Nat.le_of_ble_eq_true rfl, Nat.le_of_ble_eq_true rfl⟩ hl.1 (Nat.le_of_ble_eq_true rfl) dX1_seesAlike_115 ⟨Nat.le_refl 0, Nat.le_refl 0⟩ (trivial) ?_ rfl
              refine topi (z := nI (stAt n xp xq (i14 + 1))) (rfl) ?_
              refine lv_istore_n (lv' := [(3, .int (nI (stAt n xp xq (i14 + 1)))), (2, .int (nI (stAt n cp cq (i14 + 1)))), (6, .int 0), (5, .int 0), (4, .int (nI i14)), (0, .ref (a 0)), (1, .int (nI pa))]) hx hb dX1_seesAlike_118 rfl hl (by decide) rfl (fun ls hl => ?_)
              refine lv_iload hx hb dX1_seesAlike_119 (lv_at hl 3 rfl) ?_
              refine lv_iload hx hb dX1_seesAlike_121 (lv_at hl 2 rfl) ?_
              refine lv_icmp_ne (tgt := 178) hx hb dX1_seesAlike_123 (by decide) (fun c_123 => absurd (by decide) c_123) (fun c_123 => ?_)
              refine lv_iload hx hb dX1_seesAlike_126 (lv_at hl 3 rfl) ?_
              refine lv_if_eq (tgt := 180) hx hb dX1_seesAlike_128 (by decide) (fun c_128 => ?_) (fun c_128 => absurd (by decide) c_128)
              refine lv_iinc (v := nI (i14 + 1)) (lv' := [(4, .int (nI (i14 + 1))), (3, .int (nI (stAt n xp xq (i14 + 1)))), (2, .int (nI (stAt n cp cq (i14 + 1)))), (6, .int 0), (5, .int 0), (0, .ref (a 0)), (1, .int (nI pa))]) hx hb dX1_seesAlike_180 hl (k := 4) rfl (nI_1 _) (by decide) rfl (fun ls hl => ?_)
              refine lv_goto (tgt := 14) hx hb dX1_seesAlike_183 (by decide) ?_
              exact ih14 (i14 + 1) (by omega) (seA_s hinv14 (by rw [seC, decide_eq_false hA, decide_eq_false hB] <;> rfl)) ls (lv_sub hl [0, 1, 2, 5, 6] rfl)
            · have c_71 : xq i14 = pa := nI_inj (by omega) (by omega) c_71
              refine lv_iconst (v := 1) hx hb dX1_seesAlike_74 (by decide) ?_
              refine lv_goto (tgt := 79) hx hb dX1_seesAlike_75 (by decide) ?_
              have hB : xp i14 = pa ∨ xq i14 = pa := by first | exact Or.inl c_60 | exact Or.inr c_71
              refine lv_istore (lv' := [(6, .int 1), (5, .int 0), (4, .int (nI i14)), (3, .int (nI (stAt n xp xq i14))), (2, .int (nI (stAt n cp cq i14))), (0, .ref (a 0)), (1, .int (nI pa))]) hx hb dX1_seesAlike_79 hl (by decide) rfl (fun ls hl => ?_)
              refine lv_iload_n hx hb dX1_seesAlike_81 rfl (lv_at hl 4 rfl) ?_
              refine lv_aload_n hx hb dX1_seesAlike_82 rfl (lv_at hl 5 rfl) ?_
              refine m_get (v := .ref (a 10)) S hK hP 10 (by decide) fl_X1_25 rfl dX1_seesAlike_83 rfl ?_
              refine lv_iload hx hb dX1_seesAlike_86 (lv_at hl 2 rfl) ?_
              refine m_aldn (j := i14) (v := nI (cp i14)) S hK hP 10 (by decide) rfl (show i14 < 12 by omega) dX1_seesAlike_88 ((hG.2.2.2.2.2 i14 (by omega)).1) ?_
              refine lv_aload_n hx hb dX1_seesAlike_89 rfl (lv_at hl 5 rfl) ?_
              refine m_get (v := .ref (a 11)) S hK hP 11 (by decide) fl_X1_28 rfl dX1_seesAlike_90 rfl ?_
              refine lv_iload hx hb dX1_seesAlike_93 (lv_at hl 2 rfl) ?_
              refine m_aldn (j := i14) (v := nI (cq i14)) S hK hP 11 (by decide) rfl (show i14 < 12 by omega) dX1_seesAlike_95 ((hG.2.2.2.2.2 i14 (by omega)).2.1) ?_
              refine rc_Si (rest := []) [.int (nI (stAt n cp cq i14)), .int (nI (cp i14)), .int (nI (cq i14))] 3 S hK (r1_afterCall l D dA (stAt n cp cq i14) (cp i14) (cq i14) (by first | assumption | omega | decide) (by first | assumption | omega | decide) (by first | assumption | omega | decide)) wl_X1_117 wd_X1_X1_afterCall rfl ⟨Nat.le_of_ble_eq_true rfl, Nat.le_of_ble_eq_true rfl⟩ hl.1 (Nat.le_of_ble_eq_true rfl) dX1_seesAlike_96 ⟨Nat.le_refl 0, Nat.le_refl 0⟩ (trivial) ?_ rfl
              refine topi (z := nI (stAt n cp cq (i14 + 1))) (rfl) ?_
              refine lv_istore_n (lv' := [(2, .int (nI (stAt n cp cq (i14 + 1)))), (6, .int 1), (5, .int 0), (4, .int (nI i14)), (3, .int (nI (stAt n xp xq i14))), (0, .ref (a 0)), (1, .int (nI pa))]) hx hb dX1_seesAlike_99 rfl hl (by decide) rfl (fun ls hl => ?_)
              refine lv_iload_n hx hb dX1_seesAlike_100 rfl (lv_at hl 4 rfl) ?_
              refine lv_aload_n hx hb dX1_seesAlike_101 rfl (lv_at hl 5 rfl) ?_
              refine m_get (v := .ref (a 24)) S hK hP 24 (by decide) fl_X1_60 rfl dX1_seesAlike_102 rfl ?_
              refine lv_iload hx hb dX1_seesAlike_105 (lv_at hl 3 rfl) ?_
              refine m_aldn (j := i14) (v := nI (xp i14)) S hK hP 24 (by decide) rfl (show i14 < 4 by omega) dX1_seesAlike_107 ((hrow i14 (by omega)).1) ?_
              refine lv_aload_n hx hb dX1_seesAlike_108 rfl (lv_at hl 5 rfl) ?_
              refine m_get (v := .ref (a 25)) S hK hP 25 (by decide) fl_X1_63 rfl dX1_seesAlike_109 rfl ?_
              refine lv_iload hx hb dX1_seesAlike_112 (lv_at hl 3 rfl) ?_
              refine m_aldn (j := i14) (v := nI (xq i14)) S hK hP 25 (by decide) rfl (show i14 < 4 by omega) dX1_seesAlike_114 ((hrow i14 (by omega)).2.1) ?_
              refine rc_Si (rest := []) [.int (nI (stAt n xp xq i14)), .int (nI (xp i14)), .int (nI (xq i14))] 3 S hK (r1_afterCall l D dA (stAt n xp xq i14) (xp i14) (xq i14) (by first | assumption | omega | decide) (by first | assumption | omega | decide) (by first | assumption | omega | decide)) wl_X1_117 wd_X1_X1_afterCall rfl ⟨Nat.le_of_ble_eq_true rfl, Nat.le_of_ble_eq_true rfl⟩ hl.1 (Nat.le_of_ble_eq_true rfl) dX1_seesAlike_115 ⟨Nat.le_refl 0, Nat.le_refl 0⟩ (trivial) ?_ rfl
              refine topi (z := nI (stAt n xp xq (i14 + 1))) (rfl) ?_
              refine lv_istore_n (lv' := [(3, .int (nI (stAt n xp xq (i14 + 1)))), (2, .int (nI (stAt n cp cq (i14 + 1)))), (6, .int 1), (5, .int 0), (4, .int (nI i14)), (0, .ref (a 0)), (1, .int (nI pa))]) hx hb dX1_seesAlike_118 rfl hl (by decide) rfl (fun ls hl => ?_)
              refine lv_iload hx hb dX1_seesAlike_119 (lv_at hl 3 rfl) ?_
              refine lv_iload hx hb dX1_seesAlike_121 (lv_at hl 2 rfl) ?_
              refine lv_icmp_ne (tgt := 178) hx hb dX1_seesAlike_123 (by decide) (fun c_123 => ?_) (fun c_123 => absurd (c_123) (by decide))
              have hsc : seC n cp cq xp xq pa i14 = false := by rw [seC, decide_eq_false hA, decide_eq_true hB] <;> rfl
              refine lv_iconst (v := 0) hx hb dX1_seesAlike_178 (by decide) ?_
              exact r_zret S hr hlk dX1_seesAlike_179 (by decide) (congrArg (fun z : Int32 => some (Value.int z)) (show 0 = b2i (seA n cp cq xp xq pa nc) from by rw [seA_f hsc nc hlt14]; rfl))
        · have c_42 : cq i14 = pa := nI_inj (by omega) (by omega) c_42
          refine lv_iconst (v := 1) hx hb dX1_seesAlike_45 (by decide) ?_
          refine lv_goto (tgt := 50) hx hb dX1_seesAlike_46 (by decide) ?_
          have hA : cp i14 = pa ∨ cq i14 = pa := by first | exact Or.inl c_31 | exact Or.inr c_42
          refine lv_istore (lv' := [(5, .int 1), (4, .int (nI i14)), (3, .int (nI (stAt n xp xq i14))), (2, .int (nI (stAt n cp cq i14))), (0, .ref (a 0)), (1, .int (nI pa))]) hx hb dX1_seesAlike_50 hl (by decide) rfl (fun ls hl => ?_)
          refine lv_aload_n hx hb dX1_seesAlike_52 rfl (lv_at hl 4 rfl) ?_
          refine m_get (v := .ref (a 24)) S hK hP 24 (by decide) fl_X1_60 rfl dX1_seesAlike_53 rfl ?_
          refine lv_iload hx hb dX1_seesAlike_56 (lv_at hl 1 rfl) ?_
          refine m_aldn (j := i14) (v := nI (xp i14)) S hK hP 24 (by decide) rfl (show i14 < 4 by omega) dX1_seesAlike_58 ((hrow i14 (by omega)).1) ?_
          refine lv_iload_n hx hb dX1_seesAlike_59 rfl (lv_at hl 5 rfl) ?_
          refine lv_icmp_eq (tgt := 74) hx hb dX1_seesAlike_60 (by decide) (fun c_60 => ?_) (fun c_60 => ?_)
          · have c_60 : xp i14 = pa := nI_inj (by omega) (by omega) c_60
            refine lv_iconst (v := 1) hx hb dX1_seesAlike_74 (by decide) ?_
            refine lv_goto (tgt := 79) hx hb dX1_seesAlike_75 (by decide) ?_
            have hB : xp i14 = pa ∨ xq i14 = pa := by first | exact Or.inl c_60 | exact Or.inr c_71
            refine lv_istore (lv' := [(6, .int 1), (5, .int 1), (4, .int (nI i14)), (3, .int (nI (stAt n xp xq i14))), (2, .int (nI (stAt n cp cq i14))), (0, .ref (a 0)), (1, .int (nI pa))]) hx hb dX1_seesAlike_79 hl (by decide) rfl (fun ls hl => ?_)
            refine lv_iload_n hx hb dX1_seesAlike_81 rfl (lv_at hl 4 rfl) ?_
            refine lv_aload_n hx hb dX1_seesAlike_82 rfl (lv_at hl 5 rfl) ?_
            refine m_get (v := .ref (a 10)) S hK hP 10 (by decide) fl_X1_25 rfl dX1_seesAlike_83 rfl ?_
            refine lv_iload hx hb dX1_seesAlike_86 (lv_at hl 2 rfl) ?_
            refine m_aldn (j := i14) (v := nI (cp i14)) S hK hP 10 (by decide) rfl (show i14 < 12 by omega) dX1_seesAlike_88 ((hG.2.2.2.2.2 i14 (by omega)).1) ?_
            refine lv_aload_n hx hb dX1_seesAlike_89 rfl (lv_at hl 5 rfl) ?_
            refine m_get (v := .ref (a 11)) S hK hP 11 (by decide) fl_X1_28 rfl dX1_seesAlike_90 rfl ?_
            refine lv_iload hx hb dX1_seesAlike_93 (lv_at hl 2 rfl) ?_
            refine m_aldn (j := i14) (v := nI (cq i14)) S hK hP 11 (by decide) rfl (show i14 < 12 by omega) dX1_seesAlike_95 ((hG.2.2.2.2.2 i14 (by omega)).2.1) ?_
            refine rc_Si (rest := []) [.int (nI (stAt n cp cq i14)), .int (nI (cp i14)), .int (nI (cq i14))] 3 S hK (r1_afterCall l D dA (stAt n cp cq i14) (cp i14) (cq i14) (by first | assumption | omega | decide) (by first | assumption | omega | decide) (by first | assumption | omega | decide)) wl_X1_117 wd_X1_X1_afterCall rfl ⟨Nat.le_of_ble_eq_true rfl, Nat.le_of_ble_eq_true rfl⟩ hl.1 (Nat.le_of_ble_eq_true rfl) dX1_seesAlike_96 ⟨Nat.le_refl 0, Nat.le_refl 0⟩ (trivial) ?_ rfl
            refine topi (z := nI (stAt n cp cq (i14 + 1))) (rfl) ?_
            refine lv_istore_n (lv' := [(2, .int (nI (stAt n cp cq (i14 + 1)))), (6, .int 1), (5, .int 1), (4, .int (nI i14)), (3, .int (nI (stAt n xp xq i14))), (0, .ref (a 0)), (1, .int (nI pa))]) hx hb dX1_seesAlike_99 rfl hl (by decide) rfl (fun ls hl => ?_)
            refine lv_iload_n hx hb dX1_seesAlike_100 rfl (lv_at hl 4 rfl) ?_
            refine lv_aload_n hx hb dX1_seesAlike_101 rfl (lv_at hl 5 rfl) ?_
            refine m_get (v := .ref (a 24)) S hK hP 24 (by decide) fl_X1_60 rfl dX1_seesAlike_102 rfl ?_
            refine lv_iload hx hb dX1_seesAlike_105 (lv_at hl 3 rfl) ?_
            refine m_aldn (j := i14) (v := nI (xp i14)) S hK hP 24 (by decide) rfl (show i14 < 4 by omega) dX1_seesAlike_107 ((hrow i14 (by omega)).1) ?_
            refine lv_aload_n hx hb dX1_seesAlike_108 rfl (lv_at hl 5 rfl) ?_
            refine m_get (v := .ref (a 25)) S hK hP 25 (by decide) fl_X1_63 rfl dX1_seesAlike_109 rfl ?_
            refine lv_iload hx hb dX1_seesAlike_112 (lv_at hl 3 rfl) ?_
            refine m_aldn (j := i14) (v := nI (xq i14)) S hK hP 25 (by decide) rfl (show i14 < 4 by omega) dX1_seesAlike_114 ((hrow i14 (by omega)).2.1) ?_
            refine rc_Si (rest := []) [.int (nI (stAt n xp xq i14)), .int (nI (xp i14)), .int (nI (xq i14))] 3 S hK (r1_afterCall l D dA (stAt n xp xq i14) (xp i14) (xq i14) (by first | assumption | omega | decide) (by first | assumption | omega | decide) (by first | assumption | omega | decide)) wl_X1_117 wd_X1_X1_afterCall rfl ⟨Nat.le_of_ble_eq_true rfl, Nat.le_of_ble_eq_true rfl⟩ hl.1 (Nat.le_of_ble_eq_true rfl) dX1_seesAlike_115 ⟨Nat.le_refl 0, Nat.le_refl 0⟩ (trivial) ?_ rfl
            refine topi (z := nI (stAt n xp xq (i14 + 1))) (rfl) ?_
            refine lv_istore_n (lv' := [(3, .int (nI (stAt n xp xq (i14 + 1)))), (2, .int (nI (stAt n cp cq (i14 + 1)))), (6, .int 1), (5, .int 1), (4, .int (nI i14)), (0, .ref (a 0)), (1, .int (nI pa))]) hx hb dX1_seesAlike_118 rfl hl (by decide) rfl (fun ls hl => ?_)
            refine lv_iload hx hb dX1_seesAlike_119 (lv_at hl 3 rfl) ?_
            refine lv_iload hx hb dX1_seesAlike_121 (lv_at hl 2 rfl) ?_
            refine lv_icmp_ne (tgt := 178) hx hb dX1_seesAlike_123 (by decide) (fun c_123 => absurd (by decide) c_123) (fun c_123 => ?_)
            refine lv_iload hx hb dX1_seesAlike_126 (lv_at hl 3 rfl) ?_
            refine lv_if_eq (tgt := 180) hx hb dX1_seesAlike_128 (by decide) (fun c_128 => absurd c_128 (by decide)) (fun c_128 => ?_)
            refine lv_aload_n hx hb dX1_seesAlike_131 rfl (lv_at hl 5 rfl) ?_
            refine m_get (v := .ref (a 10)) S hK hP 10 (by decide) fl_X1_25 rfl dX1_seesAlike_132 rfl ?_
            refine lv_iload hx hb dX1_seesAlike_135 (lv_at hl 4 rfl) ?_
            refine m_aldn (j := i14) (v := nI (cp i14)) S hK hP 10 (by decide) rfl (show i14 < 12 by omega) dX1_seesAlike_137 ((hG.2.2.2.2.2 i14 (by omega)).1) ?_
            refine lv_aload_n hx hb dX1_seesAlike_138 rfl (lv_at hl 5 rfl) ?_
            refine m_get (v := .ref (a 24)) S hK hP 24 (by decide) fl_X1_60 rfl dX1_seesAlike_139 rfl ?_
            refine lv_iload hx hb dX1_seesAlike_142 (lv_at hl 4 rfl) ?_
            refine m_aldn (j := i14) (v := nI (xp i14)) S hK hP 24 (by decide) rfl (show i14 < 4 by omega) dX1_seesAlike_144 ((hrow i14 (by omega)).1) ?_
            refine lv_icmp_ne (tgt := 178) hx hb dX1_seesAlike_145 (by decide) (fun c_145 => ?_) (fun c_145 => ?_)
            · have c_145 : ¬ cp i14 = xp i14 := fun h => c_145 (congrArg nI h)
              have hsc : seC n cp cq xp xq pa i14 = false := by first | (rw [seC, decide_eq_true hA, decide_eq_true hB, decide_eq_true c_145, decide_eq_true c_162, decide_eq_false c_175] <;> rfl) | (rw [seC, decide_eq_true hA, decide_eq_true hB, decide_eq_true c_145, decide_eq_false c_162] <;> rfl) | (rw [seC, decide_eq_true hA, decide_eq_true hB, decide_eq_false c_145] <;> rfl)
              refine lv_iconst (v := 0) hx hb dX1_seesAlike_178 (by decide) ?_
              exact r_zret S hr hlk dX1_seesAlike_179 (by decide) (congrArg (fun z : Int32 => some (Value.int z)) (show 0 = b2i (seA n cp cq xp xq pa nc) from by rw [seA_f hsc nc hlt14]; rfl))
            · have c_145 : cp i14 = xp i14 := nI_inj (by omega) (by omega) c_145
              refine lv_aload_n hx hb dX1_seesAlike_148 rfl (lv_at hl 5 rfl) ?_
              refine m_get (v := .ref (a 11)) S hK hP 11 (by decide) fl_X1_28 rfl dX1_seesAlike_149 rfl ?_
              refine lv_iload hx hb dX1_seesAlike_152 (lv_at hl 4 rfl) ?_
              refine m_aldn (j := i14) (v := nI (cq i14)) S hK hP 11 (by decide) rfl (show i14 < 12 by omega) dX1_seesAlike_154 ((hG.2.2.2.2.2 i14 (by omega)).2.1) ?_
              refine lv_aload_n hx hb dX1_seesAlike_155 rfl (lv_at hl 5 rfl) ?_
              refine m_get (v := .ref (a 25)) S hK hP 25 (by decide) fl_X1_63 rfl dX1_seesAlike_156 rfl ?_
              refine lv_iload hx hb dX1_seesAlike_159 (lv_at hl 4 rfl) ?_
              refine m_aldn (j := i14) (v := nI (xq i14)) S hK hP 25 (by decide) rfl (show i14 < 4 by omega) dX1_seesAlike_161 ((hrow i14 (by omega)).2.1) ?_
              refine lv_icmp_ne (tgt := 178) hx hb dX1_seesAlike_162 (by decide) (fun c_162 => ?_) (fun c_162 => ?_)
              · have c_162 : ¬ cq i14 = xq i14 := fun h => c_162 (congrArg nI h)
                have hsc : seC n cp cq xp xq pa i14 = false := by first | (rw [seC, decide_eq_true hA, decide_eq_true hB, decide_eq_true c_145, decide_eq_true c_162, decide_eq_false c_175] <;> rfl) | (rw [seC, decide_eq_true hA, decide_eq_true hB, decide_eq_true c_145, decide_eq_false c_162] <;> rfl) | (rw [seC, decide_eq_true hA, decide_eq_true hB, decide_eq_false c_145] <;> rfl)
                refine lv_iconst (v := 0) hx hb dX1_seesAlike_178 (by decide) ?_
                exact r_zret S hr hlk dX1_seesAlike_179 (by decide) (congrArg (fun z : Int32 => some (Value.int z)) (show 0 = b2i (seA n cp cq xp xq pa nc) from by rw [seA_f hsc nc hlt14]; rfl))
              · have c_162 : cq i14 = xq i14 := nI_inj (by omega) (by omega) c_162
                refine lv_iload_n hx hb dX1_seesAlike_165 rfl (lv_at hl 1 rfl) ?_
                refine lv_iload_n hx hb dX1_seesAlike_166 rfl (lv_at hl 6 rfl) ?_
                refine rc_Si (rest := []) [.int (nI (stAt n cp cq (i14 + 1))), .int (nI pa)] 2 S hK (r1_of l D dA (stAt n cp cq (i14 + 1)) pa (by first | assumption | omega | decide) (by first | assumption | omega | decide)) wl_X1_110 wd_X1_X1_of rfl ⟨Nat.le_of_ble_eq_true rfl, Nat.le_of_ble_eq_true rfl⟩ hl.1 (Nat.le_of_ble_eq_true rfl) dX1_seesAlike_167 ⟨Nat.le_refl 0, Nat.le_refl 0⟩ (trivial) ?_ rfl
                refine lv_iload_n hx hb dX1_seesAlike_170 rfl (lv_at hl 0 rfl) ?_
                refine lv_iload_n hx hb dX1_seesAlike_171 rfl (lv_at hl 6 rfl) ?_
                refine rc_Si (rest := [.int (nI (hs4 (stAt n cp cq (i14 + 1)) pa))]) [.int (nI (stAt n xp xq (i14 + 1))), .int (nI pa)] 2 S hK (r1_of l D dA (stAt n xp xq (i14 + 1)) pa (by first | assumption | omega | decide) (by first | assumption | omega | decide)) wl_X1_110 wd_X1_X1_of rfl ⟨Nat.le_of_ble_eq_true rfl, Nat.le_of_ble_eq_true rfl⟩ hl.1 (Nat.le_of_ble_eq_true rfl) dX1_seesAlike_172 ⟨Nat.le_refl 0, Nat.le_refl 0⟩ (trivial) ?_ rfl
                refine lv_icmp_eq (tgt := 180) hx hb dX1_seesAlike_175 (by decide) (fun c_175 => ?_) (fun c_175 => ?_)
                · have c_175 : hs4 (stAt n cp cq (i14 + 1)) pa = hs4 (stAt n xp xq (i14 + 1)) pa := nI_inj (by omega) (by omega) c_175
                  refine lv_iinc (v := nI (i14 + 1)) (lv' := [(4, .int (nI (i14 + 1))), (3, .int (nI (stAt n xp xq (i14 + 1)))), (2, .int (nI (stAt n cp cq (i14 + 1)))), (6, .int 1), (5, .int 1), (0, .ref (a 0)), (1, .int (nI pa))]) hx hb dX1_seesAlike_180 hl (k := 4) rfl (nI_1 _) (by decide) rfl (fun ls hl => ?_)
                  refine lv_goto (tgt := 14) hx hb dX1_seesAlike_183 (by decide) ?_
                  exact ih14 (i14 + 1) (by omega) (seA_s hinv14 (by rw [seC, decide_eq_true hA, decide_eq_true hB, decide_eq_true c_145, decide_eq_true c_162, decide_eq_true c_175] <;> rfl)) ls (lv_sub hl [0, 1, 2, 5, 6] rfl)
                · have c_175 : ¬ hs4 (stAt n cp cq (i14 + 1)) pa = hs4 (stAt n xp xq (i14 + 1)) pa := fun h => c_175 (congrArg nI h)
                  have hsc : seC n cp cq xp xq pa i14 = false := by first | (rw [seC, decide_eq_true hA, decide_eq_true hB, decide_eq_true c_145, decide_eq_true c_162, decide_eq_false c_175] <;> rfl) | (rw [seC, decide_eq_true hA, decide_eq_true hB, decide_eq_true c_145, decide_eq_false c_162] <;> rfl) | (rw [seC, decide_eq_true hA, decide_eq_true hB, decide_eq_false c_145] <;> rfl)
                  refine lv_iconst (v := 0) hx hb dX1_seesAlike_178 (by decide) ?_
                  exact r_zret S hr hlk dX1_seesAlike_179 (by decide) (congrArg (fun z : Int32 => some (Value.int z)) (show 0 = b2i (seA n cp cq xp xq pa nc) from by rw [seA_f hsc nc hlt14]; rfl))
          · have c_60 : ¬ xp i14 = pa := fun h => c_60 (congrArg nI h)
            refine lv_aload_n hx hb dX1_seesAlike_63 rfl (lv_at hl 4 rfl) ?_
            refine m_get (v := .ref (a 25)) S hK hP 25 (by decide) fl_X1_63 rfl dX1_seesAlike_64 rfl ?_
            refine lv_iload hx hb dX1_seesAlike_67 (lv_at hl 1 rfl) ?_
            refine m_aldn (j := i14) (v := nI (xq i14)) S hK hP 25 (by decide) rfl (show i14 < 4 by omega) dX1_seesAlike_69 ((hrow i14 (by omega)).2.1) ?_
            refine lv_iload_n hx hb dX1_seesAlike_70 rfl (lv_at hl 5 rfl) ?_
            refine lv_icmp_ne (tgt := 78) hx hb dX1_seesAlike_71 (by decide) (fun c_71 => ?_) (fun c_71 => ?_)
            · have c_71 : ¬ xq i14 = pa := fun h => c_71 (congrArg nI h)
              refine lv_iconst (v := 0) hx hb dX1_seesAlike_78 (by decide) ?_
              have hB : ¬ (xp i14 = pa ∨ xq i14 = pa) := fun h => h.elim c_60 c_71
              refine lv_istore (lv' := [(6, .int 0), (5, .int 1), (4, .int (nI i14)), (3, .int (nI (stAt n xp xq i14))), (2, .int (nI (stAt n cp cq i14))), (0, .ref (a 0)), (1, .int (nI pa))]) hx hb dX1_seesAlike_79 hl (by decide) rfl (fun ls hl => ?_)
              refine lv_iload_n hx hb dX1_seesAlike_81 rfl (lv_at hl 4 rfl) ?_
              refine lv_aload_n hx hb dX1_seesAlike_82 rfl (lv_at hl 5 rfl) ?_
              refine m_get (v := .ref (a 10)) S hK hP 10 (by decide) fl_X1_25 rfl dX1_seesAlike_83 rfl ?_
              refine lv_iload hx hb dX1_seesAlike_86 (lv_at hl 2 rfl) ?_
              refine m_aldn (j := i14) (v := nI (cp i14)) S hK hP 10 (by decide) rfl (show i14 < 12 by omega) dX1_seesAlike_88 ((hG.2.2.2.2.2 i14 (by omega)).1) ?_
              refine lv_aload_n hx hb dX1_seesAlike_89 rfl (lv_at hl 5 rfl) ?_
              refine m_get (v := .ref (a 11)) S hK hP 11 (by decide) fl_X1_28 rfl dX1_seesAlike_90 rfl ?_
              refine lv_iload hx hb dX1_seesAlike_93 (lv_at hl 2 rfl) ?_
              refine m_aldn (j := i14) (v := nI (cq i14)) S hK hP 11 (by decide) rfl (show i14 < 12 by omega) dX1_seesAlike_95 ((hG.2.2.2.2.2 i14 (by omega)).2.1) ?_
              refine rc_Si (rest := []) [.int (nI (stAt n cp cq i14)), .int (nI (cp i14)), .int (nI (cq i14))] 3 S hK (r1_afterCall l D dA (stAt n cp cq i14) (cp i14) (cq i14) (by first | assumption | omega | decide) (by first | assumption | omega | decide) (by first | assumption | omega | decide)) wl_X1_117 wd_X1_X1_afterCall rfl ⟨Nat.le_of_ble_eq_true rfl, Nat.le_of_ble_eq_true rfl⟩ hl.1 (Nat.le_of_ble_eq_true rfl) dX1_seesAlike_96 ⟨Nat.le_refl 0, Nat.le_refl 0⟩ (trivial) ?_ rfl
              refine topi (z := nI (stAt n cp cq (i14 + 1))) (rfl) ?_
              refine lv_istore_n (lv' := [(2, .int (nI (stAt n cp cq (i14 + 1)))), (6, .int 0), (5, .int 1), (4, .int (nI i14)), (3, .int (nI (stAt n xp xq i14))), (0, .ref (a 0)), (1, .int (nI pa))]) hx hb dX1_seesAlike_99 rfl hl (by decide) rfl (fun ls hl => ?_)
              refine lv_iload_n hx hb dX1_seesAlike_100 rfl (lv_at hl 4 rfl) ?_
              refine lv_aload_n hx hb dX1_seesAlike_101 rfl (lv_at hl 5 rfl) ?_
              refine m_get (v := .ref (a 24)) S hK hP 24 (by decide) fl_X1_60 rfl dX1_seesAlike_102 rfl ?_
              refine lv_iload hx hb dX1_seesAlike_105 (lv_at hl 3 rfl) ?_
              refine m_aldn (j := i14) (v := nI (xp i14)) S hK hP 24 (by decide) rfl (show i14 < 4 by omega) dX1_seesAlike_107 ((hrow i14 (by omega)).1) ?_
              refine lv_aload_n hx hb dX1_seesAlike_108 rfl (lv_at hl 5 rfl) ?_
              refine m_get (v := .ref (a 25)) S hK hP 25 (by decide) fl_X1_63 rfl dX1_seesAlike_109 rfl ?_
              refine lv_iload hx hb dX1_seesAlike_112 (lv_at hl 3 rfl) ?_
              refine m_aldn (j := i14) (v := nI (xq i14)) S hK hP 25 (by decide) rfl (show i14 < 4 by omega) dX1_seesAlike_114 ((hrow i14 (by omega)).2.1) ?_
              refine rc_Si (rest := []) [.int (nI (stAt n xp xq i14)), .int (nI (xp i14)), .int (nI (xq i14))] 3 S hK (r1_afterCall l D dA (stAt n xp xq i14) (xp i14) (xq i14) (by first | assumption | omega | decide) (by first | assumption | omega | decide) (by first | assumption | omega | decide)) wl_X1_117 wd_X1_X1_afterCall rfl ⟨Nat.le_of_ble_eq_true rfl, Nat.le_of_ble_eq_true rfl⟩ hl.1 (Nat.le_of_ble_eq_true rfl) dX1_seesAlike_115 ⟨Nat.le_refl 0, Nat.le_refl 0⟩ (trivial) ?_ rfl
              refine topi (z := nI (stAt n xp xq (i14 + 1))) (rfl) ?_
              refine lv_istore_n (lv' := [(3, .int (nI (stAt n xp xq (i14 + 1)))), (2, .int (nI (stAt n cp cq (i14 + 1)))), (6, .int 0), (5, .int 1), (4, .int (nI i14)), (0, .ref (a 0)), (1, .int (nI pa))]) hx hb dX1_seesAlike_118 rfl hl (by decide) rfl (fun ls hl => ?_)
              refine lv_iload hx hb dX1_seesAlike_119 (lv_at hl 3 rfl) ?_
              refine lv_iload hx hb dX1_seesAlike_121 (lv_at hl 2 rfl) ?_
              refine lv_icmp_ne (tgt := 178) hx hb dX1_seesAlike_123 (by decide) (fun c_123 => ?_) (fun c_123 => absurd (c_123) (by decide))
              have hsc : seC n cp cq xp xq pa i14 = false := by rw [seC, decide_eq_true hA, decide_eq_false hB] <;> rfl
              refine lv_iconst (v := 0) hx hb dX1_seesAlike_178 (by decide) ?_
              exact r_zret S hr hlk dX1_seesAlike_179 (by decide) (congrArg (fun z : Int32 => some (Value.int z)) (show 0 = b2i (seA n cp cq xp xq pa nc) from by rw [seA_f hsc nc hlt14]; rfl))
            · have c_71 : xq i14 = pa := nI_inj (by omega) (by omega) c_71
              refine lv_iconst (v := 1) hx hb dX1_seesAlike_74 (by decide) ?_
              refine lv_goto (tgt := 79) hx hb dX1_seesAlike_75 (by decide) ?_
              have hB : xp i14 = pa ∨ xq i14 = pa := by first | exact Or.inl c_60 | exact Or.inr c_71
              refine lv_istore (lv' := [(6, .int 1), (5, .int 1), (4, .int (nI i14)), (3, .int (nI (stAt n xp xq i14))), (2, .int (nI (stAt n cp cq i14))), (0, .ref (a 0)), (1, .int (nI pa))]) hx hb dX1_seesAlike_79 hl (by decide) rfl (fun ls hl => ?_)
              refine lv_iload_n hx hb dX1_seesAlike_81 rfl (lv_at hl 4 rfl) ?_
              refine lv_aload_n hx hb dX1_seesAlike_82 rfl (lv_at hl 5 rfl) ?_
              refine m_get (v := .ref (a 10)) S hK hP 10 (by decide) fl_X1_25 rfl dX1_seesAlike_83 rfl ?_
              refine lv_iload hx hb dX1_seesAlike_86 (lv_at hl 2 rfl) ?_
              refine m_aldn (j := i14) (v := nI (cp i14)) S hK hP 10 (by decide) rfl (show i14 < 12 by omega) dX1_seesAlike_88 ((hG.2.2.2.2.2 i14 (by omega)).1) ?_
              refine lv_aload_n hx hb dX1_seesAlike_89 rfl (lv_at hl 5 rfl) ?_
              refine m_get (v := .ref (a 11)) S hK hP 11 (by decide) fl_X1_28 rfl dX1_seesAlike_90 rfl ?_
              refine lv_iload hx hb dX1_seesAlike_93 (lv_at hl 2 rfl) ?_
              refine m_aldn (j := i14) (v := nI (cq i14)) S hK hP 11 (by decide) rfl (show i14 < 12 by omega) dX1_seesAlike_95 ((hG.2.2.2.2.2 i14 (by omega)).2.1) ?_
              refine rc_Si (rest := []) [.int (nI (stAt n cp cq i14)), .int (nI (cp i14)), .int (nI (cq i14))] 3 S hK (r1_afterCall l D dA (stAt n cp cq i14) (cp i14) (cq i14) (by first | assumption | omega | decide) (by first | assumption | omega | decide) (by first | assumption | omega | decide)) wl_X1_117 wd_X1_X1_afterCall rfl ⟨Nat.le_of_ble_eq_true rfl, Nat.le_of_ble_eq_true rfl⟩ hl.1 (Nat.le_of_ble_eq_true rfl) dX1_seesAlike_96 ⟨Nat.le_refl 0, Nat.le_refl 0⟩ (trivial) ?_ rfl
              refine topi (z := nI (stAt n cp cq (i14 + 1))) (rfl) ?_
              refine lv_istore_n (lv' := [(2, .int (nI (stAt n cp cq (i14 + 1)))), (6, .int 1), (5, .int 1), (4, .int (nI i14)), (3, .int (nI (stAt n xp xq i14))), (0, .ref (a 0)), (1, .int (nI pa))]) hx hb dX1_seesAlike_99 rfl hl (by decide) rfl (fun ls hl => ?_)
              refine lv_iload_n hx hb dX1_seesAlike_100 rfl (lv_at hl 4 rfl) ?_
              refine lv_aload_n hx hb dX1_seesAlike_101 rfl (lv_at hl 5 rfl) ?_
              refine m_get (v := .ref (a 24)) S hK hP 24 (by decide) fl_X1_60 rfl dX1_seesAlike_102 rfl ?_
              refine lv_iload hx hb dX1_seesAlike_105 (lv_at hl 3 rfl) ?_
              refine m_aldn (j := i14) (v := nI (xp i14)) S hK hP 24 (by decide) rfl (show i14 < 4 by omega) dX1_seesAlike_107 ((hrow i14 (by omega)).1) ?_
              refine lv_aload_n hx hb dX1_seesAlike_108 rfl (lv_at hl 5 rfl) ?_
              refine m_get (v := .ref (a 25)) S hK hP 25 (by decide) fl_X1_63 rfl dX1_seesAlike_109 rfl ?_
              refine lv_iload hx hb dX1_seesAlike_112 (lv_at hl 3 rfl) ?_
              refine m_aldn (j := i14) (v := nI (xq i14)) S hK hP 25 (by decide) rfl (show i14 < 4 by omega) dX1_seesAlike_114 ((hrow i14 (by omega)).2.1) ?_
              refine rc_Si (rest := []) [.int (nI (stAt n xp xq i14)), .int (nI (xp i14)), .int (nI (xq i14))] 3 S hK (r1_afterCall l D dA (stAt n xp xq i14) (xp i14) (xq i14) (by first | assumption | omega | decide) (by first | assumption | omega | decide) (by first | assumption | omega | decide)) wl_X1_117 wd_X1_X1_afterCall rfl ⟨Nat.le_of_ble_eq_true rfl, Nat.le_of_ble_eq_true rfl⟩ hl.1 (Nat.le_of_ble_eq_true rfl) dX1_seesAlike_115 ⟨Nat.le_refl 0, Nat.le_refl 0⟩ (trivial) ?_ rfl
              refine topi (z := nI (stAt n xp xq (i14 + 1))) (rfl) ?_
              refine lv_istore_n (lv' := [(3, .int (nI (stAt n xp xq (i14 + 1)))), (2, .int (nI (stAt n cp cq (i14 + 1)))), (6, .int 1), (5, .int 1), (4, .int (nI i14)), (0, .ref (a 0)), (1, .int (nI pa))]) hx hb dX1_seesAlike_118 rfl hl (by decide) rfl (fun ls hl => ?_)
              refine lv_iload hx hb dX1_seesAlike_119 (lv_at hl 3 rfl) ?_
              refine lv_iload hx hb dX1_seesAlike_121 (lv_at hl 2 rfl) ?_
              refine lv_icmp_ne (tgt := 178) hx hb dX1_seesAlike_123 (by decide) (fun c_123 => absurd (by decide) c_123) (fun c_123 => ?_)
              refine lv_iload hx hb dX1_seesAlike_126 (lv_at hl 3 rfl) ?_
              refine lv_if_eq (tgt := 180) hx hb dX1_seesAlike_128 (by decide) (fun c_128 => absurd c_128 (by decide)) (fun c_128 => ?_)
              refine lv_aload_n hx hb dX1_seesAlike_131 rfl (lv_at hl 5 rfl) ?_
              refine m_get (v := .ref (a 10)) S hK hP 10 (by decide) fl_X1_25 rfl dX1_seesAlike_132 rfl ?_
              refine lv_iload hx hb dX1_seesAlike_135 (lv_at hl 4 rfl) ?_
              refine m_aldn (j := i14) (v := nI (cp i14)) S hK hP 10 (by decide) rfl (show i14 < 12 by omega) dX1_seesAlike_137 ((hG.2.2.2.2.2 i14 (by omega)).1) ?_
              refine lv_aload_n hx hb dX1_seesAlike_138 rfl (lv_at hl 5 rfl) ?_
              refine m_get (v := .ref (a 24)) S hK hP 24 (by decide) fl_X1_60 rfl dX1_seesAlike_139 rfl ?_
              refine lv_iload hx hb dX1_seesAlike_142 (lv_at hl 4 rfl) ?_
              refine m_aldn (j := i14) (v := nI (xp i14)) S hK hP 24 (by decide) rfl (show i14 < 4 by omega) dX1_seesAlike_144 ((hrow i14 (by omega)).1) ?_
              refine lv_icmp_ne (tgt := 178) hx hb dX1_seesAlike_145 (by decide) (fun c_145 => ?_) (fun c_145 => ?_)
              · have c_145 : ¬ cp i14 = xp i14 := fun h => c_145 (congrArg nI h)
                have hsc : seC n cp cq xp xq pa i14 = false := by first | (rw [seC, decide_eq_true hA, decide_eq_true hB, decide_eq_true c_145, decide_eq_true c_162, decide_eq_false c_175] <;> rfl) | (rw [seC, decide_eq_true hA, decide_eq_true hB, decide_eq_true c_145, decide_eq_false c_162] <;> rfl) | (rw [seC, decide_eq_true hA, decide_eq_true hB, decide_eq_false c_145] <;> rfl)
                refine lv_iconst (v := 0) hx hb dX1_seesAlike_178 (by decide) ?_
                exact r_zret S hr hlk dX1_seesAlike_179 (by decide) (congrArg (fun z : Int32 => some (Value.int z)) (show 0 = b2i (seA n cp cq xp xq pa nc) from by rw [seA_f hsc nc hlt14]; rfl))
              · have c_145 : cp i14 = xp i14 := nI_inj (by omega) (by omega) c_145
                refine lv_aload_n hx hb dX1_seesAlike_148 rfl (lv_at hl 5 rfl) ?_
                refine m_get (v := .ref (a 11)) S hK hP 11 (by decide) fl_X1_28 rfl dX1_seesAlike_149 rfl ?_
                refine lv_iload hx hb dX1_seesAlike_152 (lv_at hl 4 rfl) ?_
                refine m_aldn (j := i14) (v := nI (cq i14)) S hK hP 11 (by decide) rfl (show i14 < 12 by omega) dX1_seesAlike_154 ((hG.2.2.2.2.2 i14 (by omega)).2.1) ?_
                refine lv_aload_n hx hb dX1_seesAlike_155 rfl (lv_at hl 5 rfl) ?_
                refine m_get (v := .ref (a 25)) S hK hP 25 (by decide) fl_X1_63 rfl dX1_seesAlike_156 rfl ?_
                refine lv_iload hx hb dX1_seesAlike_159 (lv_at hl 4 rfl) ?_
                refine m_aldn (j := i14) (v := nI (xq i14)) S hK hP 25 (by decide) rfl (show i14 < 4 by omega) dX1_seesAlike_161 ((hrow i14 (by omega)).2.1) ?_
                refine lv_icmp_ne (tgt := 178) hx hb dX1_seesAlike_162 (by decide) (fun c_162 => ?_) (fun c_162 => ?_)
                · have c_162 : ¬ cq i14 = xq i14 := fun h => c_162 (congrArg nI h)
                  have hsc : seC n cp cq xp xq pa i14 = false := by first | (rw [seC, decide_eq_true hA, decide_eq_true hB, decide_eq_true c_145, decide_eq_true c_162, decide_eq_false c_175] <;> rfl) | (rw [seC, decide_eq_true hA, decide_eq_true hB, decide_eq_true c_145, decide_eq_false c_162] <;> rfl) | (rw [seC, decide_eq_true hA, decide_eq_true hB, decide_eq_false c_145] <;> rfl)
                  refine lv_iconst (v := 0) hx hb dX1_seesAlike_178 (by decide) ?_
                  exact r_zret S hr hlk dX1_seesAlike_179 (by decide) (congrArg (fun z : Int32 => some (Value.int z)) (show 0 = b2i (seA n cp cq xp xq pa nc) from by rw [seA_f hsc nc hlt14]; rfl))
                · have c_162 : cq i14 = xq i14 := nI_inj (by omega) (by omega) c_162
                  refine lv_iload_n hx hb dX1_seesAlike_165 rfl (lv_at hl 1 rfl) ?_
                  refine lv_iload_n hx hb dX1_seesAlike_166 rfl (lv_at hl 6 rfl) ?_
                  refine rc_Si (rest := []) [.int (nI (stAt n cp cq (i14 + 1))), .int (nI pa)] 2 S hK (r1_of l D dA (stAt n cp cq (i14 + 1)) pa (by first | assumption | omega | decide) (by first | assumption | omega | decide)) wl_X1_110 wd_X1_X1_of rfl ⟨Nat.le_of_ble_eq_true rfl, Nat.le_of_ble_eq_true rfl⟩ hl.1 (Nat.le_of_ble_eq_true rfl) dX1_seesAlike_167 ⟨Nat.le_refl 0, Nat.le_refl 0⟩ (trivial) ?_ rfl
                  refine lv_iload_n hx hb dX1_seesAlike_170 rfl (lv_at hl 0 rfl) ?_
                  refine lv_iload_n hx hb dX1_seesAlike_171 rfl (lv_at hl 6 rfl) ?_
                  refine rc_Si (rest := [.int (nI (hs4 (stAt n cp cq (i14 + 1)) pa))]) [.int (nI (stAt n xp xq (i14 + 1))), .int (nI pa)] 2 S hK (r1_of l D dA (stAt n xp xq (i14 + 1)) pa (by first | assumption | omega | decide) (by first | assumption | omega | decide)) wl_X1_110 wd_X1_X1_of rfl ⟨Nat.le_of_ble_eq_true rfl, Nat.le_of_ble_eq_true rfl⟩ hl.1 (Nat.le_of_ble_eq_true rfl) dX1_seesAlike_172 ⟨Nat.le_refl 0, Nat.le_refl 0⟩ (trivial) ?_ rfl
                  refine lv_icmp_eq (tgt := 180) hx hb dX1_seesAlike_175 (by decide) (fun c_175 => ?_) (fun c_175 => ?_)
                  · have c_175 : hs4 (stAt n cp cq (i14 + 1)) pa = hs4 (stAt n xp xq (i14 + 1)) pa := nI_inj (by omega) (by omega) c_175
                    refine lv_iinc (v := nI (i14 + 1)) (lv' := [(4, .int (nI (i14 + 1))), (3, .int (nI (stAt n xp xq (i14 + 1)))), (2, .int (nI (stAt n cp cq (i14 + 1)))), (6, .int 1), (5, .int 1), (0, .ref (a 0)), (1, .int (nI pa))]) hx hb dX1_seesAlike_180 hl (k := 4) rfl (nI_1 _) (by decide) rfl (fun ls hl => ?_)
                    refine lv_goto (tgt := 14) hx hb dX1_seesAlike_183 (by decide) ?_
                    exact ih14 (i14 + 1) (by omega) (seA_s hinv14 (by rw [seC, decide_eq_true hA, decide_eq_true hB, decide_eq_true c_145, decide_eq_true c_162, decide_eq_true c_175] <;> rfl)) ls (lv_sub hl [0, 1, 2, 5, 6] rfl)
                  · have c_175 : ¬ hs4 (stAt n cp cq (i14 + 1)) pa = hs4 (stAt n xp xq (i14 + 1)) pa := fun h => c_175 (congrArg nI h)
                    have hsc : seC n cp cq xp xq pa i14 = false := by first | (rw [seC, decide_eq_true hA, decide_eq_true hB, decide_eq_true c_145, decide_eq_true c_162, decide_eq_false c_175] <;> rfl) | (rw [seC, decide_eq_true hA, decide_eq_true hB, decide_eq_true c_145, decide_eq_false c_162] <;> rfl) | (rw [seC, decide_eq_true hA, decide_eq_true hB, decide_eq_false c_145] <;> rfl)
                    refine lv_iconst (v := 0) hx hb dX1_seesAlike_178 (by decide) ?_
                    exact r_zret S hr hlk dX1_seesAlike_179 (by decide) (congrArg (fun z : Int32 => some (Value.int z)) (show 0 = b2i (seA n cp cq xp xq pa nc) from by rw [seA_f hsc nc hlt14]; rfl))
  exact hloop14 (nc) 0 (by omega) (rfl) ls (lv_sub hl [0, 1, 2, 3, 4] rfl)
