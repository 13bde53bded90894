/-! MODEL 16: within (by program: gen/model16.py) -/
set_option maxRecDepth 100000
set_option maxHeartbeats 4000000 in
theorem m1_within (l : Launch) (D : va_G) (dA : Nat → ClassId) (a : Nat → Nat) (hI : mInj a) (σ : MS) (n : Nat) (net : Nat → Nat) (nc : Nat) (cp cq : Nat → Nat) (hG : MG σ n net nc cp cq) (T : Nat) (hSN : SNm σ T) (hT : T < 2 ^ 30) (rv ov : Int32) : MC l yX1_within cX1_within 14 (some .int) 3 70 D dA a [.ref (a 0), .int rv, .int ov] σ (fun v9 σ9 => ∃ u9, v9 = some (.int u9) ∧ WAm n net (stAt n cp cq nc) (fun r => tkN n r cp cq nc) rv ov u9 ∧ PTm σ σ9 T) := by
  refine MC.of (by decide) (Nat.le_of_ble_eq_true rfl) ?_
  intro p e s m below meth c ls S hr hlk hK hM hl
  have hx := S.1
  have hb := S.2.1
  have hl : lv_has ls 14 [(0, .ref (a 0)), (1, .int rv), (2, .int ov)] := hl
  have hn := hG.1
  have hnc := hG.2.2.2.1
  have hst : stAt n cp cq nc < 65536 := stAt_lt hn nc (fun i hi => ⟨by have := (hG.2.2.2.2.2 i (by omega)).2.2; omega, by have := (hG.2.2.2.2.2 i (by omega)).2.2; omega⟩)
  have htk : ∀ r, tkN n r cp cq nc < 16 := fun r => tkN_lt hn nc (fun j hj => by have := (hG.2.2.2.2.2 j (by omega)).2.2; omega)
  have hvl : vld n (stAt n cp cq nc) := vld_stAt hn nc (fun j hj => (hG.2.2.2.2.2 j hj).2.2)
  have hGw := hG
  refine lv_iload_n hx hb dX1_within_0 rfl (lv_at hl 1 rfl) ?_
  refine rc_Si (rest := []) [.int rv] 1 S hK (r1_isRule l D dA rv) wl_X1_150 wd_X1_X1_isRule rfl ⟨Nat.le_of_ble_eq_true rfl, Nat.le_of_ble_eq_true rfl⟩ hl.1 (Nat.le_of_ble_eq_true rfl) dX1_within_1 ⟨Nat.le_refl 0, Nat.le_refl 0⟩ (trivial) ?_ rfl
  refine lv_if_eq (tgt := 14) hx hb dX1_within_4 (by decide) (fun c_4 => ?_) (fun c_4 => ?_)
  · have c_4 := b2i_eq0.mp c_4
    refine lv_iconst (v := (-1)) hx hb dX1_within_14 (by decide) ?_
    exact m_iret S hr hlk hM dX1_within_15 (⟨_, rfl, by unfold WAm; simp [*], PTm.rf hSN⟩)
  · have c_4 := b2i_ne0.mp c_4
    refine lv_iload_n hx hb dX1_within_7 rfl (lv_at hl 2 rfl) ?_
    refine rc_Si (rest := []) [.int ov] 1 S hK (r1_isRule l D dA ov) wl_X1_150 wd_X1_X1_isRule rfl ⟨Nat.le_of_ble_eq_true rfl, Nat.le_of_ble_eq_true rfl⟩ hl.1 (Nat.le_of_ble_eq_true rfl) dX1_within_8 ⟨Nat.le_refl 0, Nat.le_refl 0⟩ (trivial) ?_ rfl
    refine lv_if_ne (tgt := 16) hx hb dX1_within_11 (by decide) (fun c_11 => ?_) (fun c_11 => ?_)
    · have c_11 := b2i_ne0.mp c_11
      obtain ⟨r, hr9, rfl⟩ := inR_some (k := 3) (by decide) c_4
      have hr4 : r < 4 := by omega
      obtain ⟨o, ho9, rfl⟩ := inR_some (k := 3) (by decide) c_11
      have ho4 : o < 4 := by omega
      have hrt4 := wrt_lt hr4 ho4
      have htr := htk (wrt r o)
      refine lv_iload_n hx hb dX1_within_16 rfl (lv_at hl 1 rfl) ?_
      refine lv_iload_n hx hb dX1_within_17 rfl (lv_at hl 2 rfl) ?_
      refine lv_iadd hx hb dX1_within_18 ?_
      refine topi (z := nI (r + o)) (nI_add _ _) ?_
      refine lv_iconst (v := 5) hx hb dX1_within_19 (by decide) ?_
      refine lv_icmp_ne (tgt := 36) hx hb dX1_within_20 (by decide) (fun c_20 => ?_) (fun c_20 => ?_)
      · have c_20 : ¬ r + o = 5 := fun h => c_20 (congrArg nI h)
        have hnn : ¬ (1 < r ∧ 1 < o ∧ ¬ r = o) := by omega
        refine lv_aload_n hx hb dX1_within_36 rfl (lv_at hl 0 rfl) ?_
        refine m_get (v := .int (σ.1 5)) S hK hM.1 5 (by decide) fl_X1_82 rfl dX1_within_37 rfl ?_
        refine topi (z := nI n) (hGw.2.1) ?_
        refine lv_if_ne (tgt := 46) hx hb dX1_within_40 (by decide) (fun c_40 => ?_) (fun c_40 => ?_)
        · have c_40 : ¬ n = 0 := fun h => c_40 (congrArg nI h)
          refine lv_iload_n hx hb dX1_within_46 rfl (lv_at hl 1 rfl) ?_
          refine lv_iconst (v := 1) hx hb dX1_within_47 (by decide) ?_
          refine lv_icmp_le (tgt := 55) hx hb dX1_within_48 (by decide) (fun c_48 => ?_) (fun c_48 => ?_)
          · have c_48 : r ≤ 1 := Nat.le_of_not_lt (fun h => nI_ge h (by omega) c_48)
            refine lv_iload_n hx hb dX1_within_55 rfl (lv_at hl 2 rfl) ?_
            skip
            refine topi (z := nI (wrt r o)) (by rw [wrt, if_neg (by omega)]) ?_
            refine lv_istore_n (lv' := [(3, .int (nI (wrt r o))), (0, .ref (a 0)), (1, .int (nI r)), (2, .int (nI o))]) hx hb dX1_within_56 rfl hl (by decide) rfl (fun ls hl => ?_)
            refine lv_aload_n hx hb dX1_within_57 rfl (lv_at hl 1 rfl) ?_
            refine lv_aload_n hx hb dX1_within_58 rfl (lv_at hl 1 rfl) ?_
            refine m_get (v := .ref (a 6)) S hK hM.1 6 (by decide) fl_X1_19 rfl dX1_within_59 rfl ?_
            refine lv_aload_n hx hb dX1_within_62 rfl (lv_at hl 1 rfl) ?_
            refine m_get (v := .int (σ.1 5)) S hK hM.1 5 (by decide) fl_X1_82 rfl dX1_within_63 rfl ?_
            refine topi (z := nI n) (hGw.2.1) ?_
            refine lv_iload_n hx hb dX1_within_66 rfl (lv_at hl 2 rfl) ?_
            refine mc_Vv (rest := []) [.ref (a 6), .int (nI n), .int (nI r)] 3 S hK hM (m1_lookAt l D dA a hI σ (a 6) (nI n) (nI r)) wl_X1_184 wd_X1_X1_lookAt rfl ⟨Nat.le_of_ble_eq_true rfl, Nat.le_of_ble_eq_true rfl⟩ hl.1 (Nat.le_of_ble_eq_true rfl) dX1_within_67 ⟨Nat.le_refl 0, Nat.le_refl 0⟩ (fun H locs hM => ?_) rfl
            have hM : MB D dA a ((((σ.i 17 ((σ.1 17) + 1)).r (a 6)).i 22 (nI n)).i 23 (nI r)) s.heap H locs := hM
            have hWF : WFm σ ((((σ.i 17 ((σ.1 17) + 1)).r (a 6)).i 22 (nI n)).i 23 (nI r)) := WFm.lk
            have hS2 : SN2 ((((σ.i 17 ((σ.1 17) + 1)).r (a 6)).i 22 (nI n)).i 23 (nI r)) T := ⟨turn1 hSN, fun pl => (hSN.2 pl).elim fun x hx => ⟨x, by omega, hx.2⟩⟩
            have hu : ∀ pl, ¬ ((((σ.i 17 ((σ.1 17) + 1)).r (a 6)).i 22 (nI n)).i 23 (nI r)).2.1 12 pl = nI (T + 1) := fun pl => hSN.un hT pl
            have hGw := hG.pu hWF.pu
            have h17 := hS2.1
            generalize hω0 : ((((σ.i 17 ((σ.1 17) + 1)).r (a 6)).i 22 (nI n)).i 23 (nI r)) = ω0 at hM hWF hS2 hu hGw h17
            refine lv_iconst (v := 0) hx hb dX1_within_70 (by decide) ?_
            refine lv_istore (lv' := [(4, .int 0), (3, .int (nI (wrt r o))), (0, .ref (a 0)), (1, .int (nI r)), (2, .int (nI o))]) hx hb dX1_within_71 hl (by decide) rfl (fun ls hl => ?_)
            refine lv_iconst (v := 1) hx hb dX1_within_73 (by decide) ?_
            refine lv_istore (lv' := [(5, .int 1), (4, .int 0), (3, .int (nI (wrt r o))), (0, .ref (a 0)), (1, .int (nI r)), (2, .int (nI o))]) hx hb dX1_within_74 hl (by decide) rfl (fun ls hl => ?_)
            refine lv_aload_n hx hb dX1_within_76 rfl (lv_at hl 3 rfl) ?_
            refine m_get (v := .ref (a 29)) S hK hM.1 29 (by decide) fl_X1_69 rfl dX1_within_77 rfl ?_
            refine lv_iconst (v := 0) hx hb dX1_within_80 (by decide) ?_
            refine lv_aload_n hx hb dX1_within_81 rfl (lv_at hl 3 rfl) ?_
            refine lv_aload_n hx hb dX1_within_82 rfl (lv_at hl 3 rfl) ?_
            refine m_get (v := .int (ω0.1 9)) S hK hM.1 9 (by decide) fl_X1_103 rfl dX1_within_83 rfl ?_
            refine topi (z := nI nc) (hGw.2.2.2.2.1) ?_
            refine rc_Vi (rest := [.int 0, .ref (a 29)]) [.int (nI nc)] 1 S hK (r1_stateAt l D dA a ω0 n net nc cp cq hGw nc (by first | assumption | omega | decide)) wl_X1_128 wd_X1_X1_stateAt rfl ⟨Nat.le_of_ble_eq_true rfl, Nat.le_of_ble_eq_true rfl⟩ (m_recv hK hM.1) hl.1 (Nat.le_of_ble_eq_true rfl) dX1_within_86 ⟨Nat.le_refl 0, Nat.le_refl 0⟩ (hM.1) ?_ rfl
            refine lv_aload_n hx hb dX1_within_89 rfl (lv_at hl 3 rfl) ?_
            refine lv_iload_n hx hb dX1_within_90 rfl (lv_at hl 2 rfl) ?_
            refine rc_Vi (rest := [.int (nI (stAt n cp cq nc)), .int 0, .ref (a 29)]) [.int (nI (wrt r o))] 1 S hK (r1_tokensNow l D dA a ω0 n net nc cp cq hGw (wrt r o) (by first | assumption | omega | decide)) wl_X1_135 wd_X1_X1_tokensNow rfl ⟨Nat.le_of_ble_eq_true rfl, Nat.le_of_ble_eq_true rfl⟩ (m_recv hK hM.1) hl.1 (Nat.le_of_ble_eq_true rfl) dX1_within_91 ⟨Nat.le_refl 0, Nat.le_refl 0⟩ (hM.1) ?_ rfl
            refine lv_bipush (v := 16) hx hb dX1_within_94 (by decide) ?_
            refine lv_ishl hx hb dX1_within_96 ?_
            refine lv_ior hx hb dX1_within_97 ?_
            refine topi (z := nI (qcd (stAt n cp cq nc) (tkN n (wrt r o) cp cq nc))) (qcd_i hst (htk _)) ?_
            refine m_astn (j := 0) hI S hK hM 29 (by decide) rfl (by decide) dX1_within_98 (fun H locs hM => ?_)
            have hGw : MG (ω0.b 29 (upd (ω0.2.1 29) 0 (nI (qcd (stAt n cp cq nc) (tkN n (wrt r o) cp cq nc))))) n net nc cp cq := hGw.pu ⟨rfl, rfl, rfl, rfl, rfl, rfl, rfl, rfl, rfl, rfl⟩
            refine lv_aload_n hx hb dX1_within_99 rfl (lv_at hl 3 rfl) ?_
            refine m_get (v := .ref (a 12)) S hK hM.1 12 (by decide) fl_X1_32 rfl dX1_within_100 rfl ?_
            refine lv_aload_n hx hb dX1_within_103 rfl (lv_at hl 3 rfl) ?_
            refine lv_aload_n hx hb dX1_within_104 rfl (lv_at hl 3 rfl) ?_
            refine m_get (v := .int (ω0.1 9)) S hK hM.1 9 (by decide) fl_X1_103 rfl dX1_within_105 rfl ?_
            refine topi (z := nI nc) (hGw.2.2.2.2.1) ?_
            refine rc_Vi (rest := [.ref (a 12)]) [.int (nI nc)] 1 S hK (r1_stateAt l D dA a (ω0.b 29 (upd (ω0.2.1 29) 0 (nI (qcd (stAt n cp cq nc) (tkN n (wrt r o) cp cq nc))))) n net nc cp cq hGw nc (by first | assumption | omega | decide)) wl_X1_128 wd_X1_X1_stateAt rfl ⟨Nat.le_of_ble_eq_true rfl, Nat.le_of_ble_eq_true rfl⟩ (m_recv hK hM.1) hl.1 (Nat.le_of_ble_eq_true rfl) dX1_within_108 ⟨Nat.le_refl 0, Nat.le_refl 0⟩ (hM.1) ?_ rfl
            refine lv_aload_n hx hb dX1_within_111 rfl (lv_at hl 3 rfl) ?_
            refine lv_iload_n hx hb dX1_within_112 rfl (lv_at hl 2 rfl) ?_
            refine rc_Vi (rest := [.int (nI (stAt n cp cq nc)), .ref (a 12)]) [.int (nI (wrt r o))] 1 S hK (r1_tokensNow l D dA a (ω0.b 29 (upd (ω0.2.1 29) 0 (nI (qcd (stAt n cp cq nc) (tkN n (wrt r o) cp cq nc))))) n net nc cp cq hGw (wrt r o) (by first | assumption | omega | decide)) wl_X1_135 wd_X1_X1_tokensNow rfl ⟨Nat.le_of_ble_eq_true rfl, Nat.le_of_ble_eq_true rfl⟩ (m_recv hK hM.1) hl.1 (Nat.le_of_ble_eq_true rfl) dX1_within_113 ⟨Nat.le_refl 0, Nat.le_refl 0⟩ (hM.1) ?_ rfl
            refine rc_Si (rest := [.ref (a 12)]) [.int (nI (stAt n cp cq nc)), .int (nI (tkN n (wrt r o) cp cq nc))] 2 S hK (r1_placeOf l D dA (stAt n cp cq nc) (tkN n (wrt r o) cp cq nc) (by first | assumption | omega | decide) (by first | assumption | omega | decide)) wl_X1_158 wd_X1_X1_placeOf rfl ⟨Nat.le_of_ble_eq_true rfl, Nat.le_of_ble_eq_true rfl⟩ hl.1 (Nat.le_of_ble_eq_true rfl) dX1_within_116 ⟨Nat.le_refl 0, Nat.le_refl 0⟩ (trivial) ?_ rfl
            refine lv_aload_n hx hb dX1_within_119 rfl (lv_at hl 3 rfl) ?_
            refine m_get (v := .int (ω0.1 17)) S hK hM.1 17 (by decide) fl_X1_161 rfl dX1_within_120 rfl ?_
            refine topi (z := nI (T + 1)) (h17) ?_
            refine m_astn (j := plc (stAt n cp cq nc) (tkN n (wrt r o) cp cq nc)) hI S hK hM 12 (by decide) rfl (plc_lt _ _) dX1_within_123 (fun H locs hM => ?_)
            have hM : MB D dA a ((ω0.b 29 (upd (ω0.2.1 29) 0 (nI (qcd (stAt n cp cq nc) (tkN n (wrt r o) cp cq nc))))).b 12 (upd (ω0.2.1 12) (plc (stAt n cp cq nc) (tkN n (wrt r o) cp cq nc)) (nI (T + 1)))) s.heap H locs := hM
            have hloop124 : ∀ (k124 fi : Nat), fi + k124 = 65536 → ∀ (la : Nat) (qs qt : Nat → Nat) (ω124 : MS) (H : Heap) (locs : List Loc), MB D dA a ω124 s.heap H locs → (WFm σ ω124 ∧ SN2 ω124 T ∧ QIm ω124 n net r o (wrt r o) (stAt n cp cq nc) (tkN n (wrt r o) cp cq nc) (nI (T + 1)) la qs qt fi 0) → ∀ (ls : Array Slot), lv_has ls 14 [(0, .ref (a 0)), (1, .int (nI r)), (2, .int (nI o)), (3, .int (nI (wrt r o))), (4, .int (nI fi)), (5, .int (nI la))] → W p l e ({ frames := 3, cells := 0, slots := 0, locals := 70 }) s m [.ref (a 0), .int (nI r), .int (nI o)].toArray below meth c H locs 0 0 (MZ below D dA a (fun v9 σ9 => ∃ u9, v9 = some (.int u9) ∧ WAm n net (stAt n cp cq nc) (fun r => tkN n r cp cq nc) (nI r) (nI o) u9 ∧ PTm σ σ9 T) [.ref (a 0), .int (nI r), .int (nI o)] s) (F0 m 124 ls []) := by
              intro k124
              induction k124 with
              | zero =>
                intro fi hk124 la qs qt ω124 H locs hM hw124 ls hl
                have hle := hw124.2.2.le
                have hGw := hG.pu hw124.1.pu
                refine lv_iload hx hb dX1_within_124 (lv_at hl 4 rfl) ?_
                refine lv_iload hx hb dX1_within_126 (lv_at hl 5 rfl) ?_
                refine lv_icmp_ge (tgt := 325) hx hb dX1_within_128 (by decide) (fun c_128 => ?_) (fun c_128 => absurd (show nI la ≤ nI fi from nI_le (by omega) (by omega)) c_128)
                have c_128 : la ≤ fi := by omega
                refine lv_iconst (v := 1) hx hb dX1_within_325 (by decide) ?_
                exact m_iret S hr hlk hM dX1_within_326 (⟨_, rfl, (WAm.i hr4 ho4).mpr (by rw [if_neg hnn, if_neg c_40]; exact Or.inl ⟨rfl, hw124.2.2.all hn hvl (htk _) c_128⟩), hw124.2.1.pt hw124.1⟩)
              | succ k124 ih124 =>
                intro fi hk124 la qs qt ω124 H locs hM hw124 ls hl
                have hle := hw124.2.2.le
                have hGw := hG.pu hw124.1.pu
                refine lv_iload hx hb dX1_within_124 (lv_at hl 4 rfl) ?_
                refine lv_iload hx hb dX1_within_126 (lv_at hl 5 rfl) ?_
                refine lv_icmp_ge (tgt := 325) hx hb dX1_within_128 (by decide) (fun c_128 => ?_) (fun c_128 => ?_)
                · have c_128 : la ≤ fi := Nat.le_of_not_lt (fun h => nI_ge h (by omega) c_128)
                  refine lv_iconst (v := 1) hx hb dX1_within_325 (by decide) ?_
                  exact m_iret S hr hlk hM dX1_within_326 (⟨_, rfl, (WAm.i hr4 ho4).mpr (by rw [if_neg hnn, if_neg c_40]; exact Or.inl ⟨rfl, hw124.2.2.all hn hvl (htk _) c_128⟩), hw124.2.1.pt hw124.1⟩)
                · have c_128 : fi < la := Nat.lt_of_not_le (fun h => c_128 (nI_le h (by omega)))
                  obtain ⟨hq29, hqv, hqt, hrc⟩ := hw124.2.2.1 fi c_128
                  have hcs := hqv.1
                  refine lv_aload_n hx hb dX1_within_131 rfl (lv_at hl 0 rfl) ?_
                  refine m_get (v := .ref (a 29)) S hK hM.1 29 (by decide) fl_X1_69 rfl dX1_within_132 rfl ?_
                  refine lv_iload hx hb dX1_within_135 (lv_at hl 4 rfl) ?_
                  refine m_aldn (j := fi) (v := nI (qcd (qs fi) (qt fi))) S hK hM.1 29 (by decide) rfl (show fi < 65536 by omega) dX1_within_137 (hq29) ?_
                  refine lv_ldc (v := 65535) hx hb S.2.2.2.1 (S.2.2.2.2 _ q1383) dX1_within_138 ?_
                  refine lv_iand hx hb dX1_within_140 ?_
                  refine topi (z := nI (qs fi)) (qcd_s hcs hqt) ?_
                  refine lv_istore (lv' := [(6, .int (nI (qs fi))), (0, .ref (a 0)), (1, .int (nI r)), (2, .int (nI o)), (3, .int (nI (wrt r o))), (4, .int (nI fi)), (5, .int (nI la))]) hx hb dX1_within_141 hl (by decide) rfl (fun ls hl => ?_)
                  refine lv_aload_n hx hb dX1_within_143 rfl (lv_at hl 1 rfl) ?_
                  refine m_get (v := .ref (a 29)) S hK hM.1 29 (by decide) fl_X1_69 rfl dX1_within_144 rfl ?_
                  refine lv_iload hx hb dX1_within_147 (lv_at hl 5 rfl) ?_
                  refine m_aldn (j := fi) (v := nI (qcd (qs fi) (qt fi))) S hK hM.1 29 (by decide) rfl (show fi < 65536 by omega) dX1_within_149 (hq29) ?_
                  refine lv_bipush (v := 16) hx hb dX1_within_150 (by decide) ?_
                  refine lv_ishr hx hb dX1_within_152 ?_
                  refine topi (z := nI (qt fi)) (qcd_t hcs hqt) ?_
                  refine lv_istore (lv' := [(7, .int (nI (qt fi))), (6, .int (nI (qs fi))), (0, .ref (a 0)), (1, .int (nI r)), (2, .int (nI o)), (3, .int (nI (wrt r o))), (4, .int (nI fi)), (5, .int (nI la))]) hx hb dX1_within_153 hl (by decide) rfl (fun ls hl => ?_)
                  refine lv_iinc (v := nI (fi + 1)) (lv' := [(4, .int (nI (fi + 1))), (7, .int (nI (qt fi))), (6, .int (nI (qs fi))), (0, .ref (a 0)), (1, .int (nI r)), (2, .int (nI o)), (3, .int (nI (wrt r o))), (5, .int (nI la))]) hx hb dX1_within_155 hl (k := 6) rfl (nI_1 _) (by decide) rfl (fun ls hl => ?_)
                  refine lv_iconst (v := 0) hx hb dX1_within_158 (by decide) ?_
                  refine lv_istore (lv' := [(8, .int 0), (4, .int (nI (fi + 1))), (7, .int (nI (qt fi))), (6, .int (nI (qs fi))), (0, .ref (a 0)), (1, .int (nI r)), (2, .int (nI o)), (3, .int (nI (wrt r o))), (5, .int (nI la))]) hx hb dX1_within_159 hl (by decide) rfl (fun ls hl => ?_)
                  have hloop161 : ∀ (k161 i161 : Nat), i161 + k161 = 16 → ∀ (lb : Nat) (ps pt : Nat → Nat) (ω161 : MS) (H : Heap) (locs : List Loc), MB D dA a ω161 s.heap H locs → (WFm σ ω161 ∧ SN2 ω161 T ∧ QIm ω161 n net r o (wrt r o) (stAt n cp cq nc) (tkN n (wrt r o) cp cq nc) (nI (T + 1)) lb ps pt fi i161 ∧ ps fi = qs fi ∧ pt fi = qt fi ∧ fi < lb) → ∀ (ls : Array Slot), lv_has ls 14 [(0, .ref (a 0)), (1, .int (nI r)), (2, .int (nI o)), (3, .int (nI (wrt r o))), (4, .int (nI (fi + 1))), (5, .int (nI lb)), (6, .int (nI (qs fi))), (7, .int (nI (qt fi))), (8, .int (nI i161))] → W p l e ({ frames := 3, cells := 0, slots := 0, locals := 70 }) s m [.ref (a 0), .int (nI r), .int (nI o)].toArray below meth c H locs 0 0 (MZ below D dA a (fun v9 σ9 => ∃ u9, v9 = some (.int u9) ∧ WAm n net (stAt n cp cq nc) (fun r => tkN n r cp cq nc) (nI r) (nI o) u9 ∧ PTm σ σ9 T) [.ref (a 0), .int (nI r), .int (nI o)] s) (F0 m 161 ls []) := by
                    intro k161
                    induction k161 with
                    | zero =>
                      intro i161 hk161 lb ps pt ω161 H locs hM hw161 ls hl
                      obtain ⟨hps, hpt, hfl⟩ := hw161.2.2.2
                      have hlb := hw161.2.2.1.le
                      have hGw := hG.pu hw161.1.pu
                      have h17 := hw161.2.1.1
                      have hi161 : i161 = 16 := by omega
                      refine lv_iload hx hb dX1_within_161 (lv_at hl 8 rfl) ?_
                      refine lv_bipush (v := 16) hx hb dX1_within_163 (by decide) ?_
                      refine lv_icmp_ge (tgt := 322) hx hb dX1_within_165 (by decide) (fun c_165 => ?_) (fun c_165 => absurd (show nI 16 ≤ nI i161 from nI_le (by omega) (by omega)) c_165)
                      refine lv_goto (tgt := 124) hx hb dX1_within_322 (by decide) ?_
                      exact ih124 (fi + 1) (by omega) lb ps pt _ _ _ hM ⟨hw161.1, hw161.2.1, QIm.nx (by rw [hi161] at hw161; exact hw161.2.2.1)⟩ ls (lv_sub hl [0, 1, 2, 3, 4, 5] rfl)
                    | succ k161 ih161 =>
                      intro i161 hk161 lb ps pt ω161 H locs hM hw161 ls hl
                      obtain ⟨hps, hpt, hfl⟩ := hw161.2.2.2
                      have hlb := hw161.2.2.1.le
                      have hGw := hG.pu hw161.1.pu
                      have h17 := hw161.2.1.1
                      have hlt161 : i161 < 16 := by omega
                      have hp4 : i161 / 4 < 4 := by omega
                      have hq4 : i161 % 4 < 4 := by omega
                      refine lv_iload hx hb dX1_within_161 (lv_at hl 8 rfl) ?_
                      refine lv_bipush (v := 16) hx hb dX1_within_163 (by decide) ?_
                      refine lv_icmp_ge (tgt := 322) hx hb dX1_within_165 (by decide) (fun c_165 => absurd c_165 (show ¬ nI 16 ≤ nI i161 from nI_ge (by omega) (by omega))) (fun c_165 => ?_)
                      refine lv_iload hx hb dX1_within_168 (lv_at hl 8 rfl) ?_
                      refine lv_iconst (v := 4) hx hb dX1_within_170 (by decide) ?_
                      refine lv_idiv hx hb dX1_within_171 (by decide) ?_
                      refine topi (z := nI (i161 / 4)) (pk_div (d := 4) (by omega) (by decide) (by decide)) ?_
                      refine lv_istore (lv' := [(9, .int (nI (i161 / 4))), (0, .ref (a 0)), (1, .int (nI r)), (2, .int (nI o)), (3, .int (nI (wrt r o))), (4, .int (nI (fi + 1))), (5, .int (nI lb)), (6, .int (nI (qs fi))), (7, .int (nI (qt fi))), (8, .int (nI i161))]) hx hb dX1_within_172 hl (by decide) rfl (fun ls hl => ?_)
                      refine lv_iload hx hb dX1_within_174 (lv_at hl 9 rfl) ?_
                      refine lv_iconst (v := 4) hx hb dX1_within_176 (by decide) ?_
                      refine lv_irem hx hb dX1_within_177 (by decide) ?_
                      refine topi (z := nI (i161 % 4)) (pk_rem (d := 4) (by omega) (by decide) (by decide)) ?_
                      refine lv_istore (lv' := [(10, .int (nI (i161 % 4))), (9, .int (nI (i161 / 4))), (0, .ref (a 0)), (1, .int (nI r)), (2, .int (nI o)), (3, .int (nI (wrt r o))), (4, .int (nI (fi + 1))), (5, .int (nI lb)), (6, .int (nI (qs fi))), (7, .int (nI (qt fi))), (8, .int (nI i161))]) hx hb dX1_within_178 hl (by decide) rfl (fun ls hl => ?_)
                      refine lv_iload hx hb dX1_within_180 (lv_at hl 1 rfl) ?_
                      refine lv_aload_n hx hb dX1_within_182 rfl (lv_at hl 2 rfl) ?_
                      refine m_get (v := .int (ω161.1 5)) S hK hM.1 5 (by decide) fl_X1_82 rfl dX1_within_183 rfl ?_
                      refine topi (z := nI n) (hGw.2.1) ?_
                      refine lv_icmp_ge (tgt := 316) hx hb dX1_within_186 (by decide) (fun c_186 => ?_) (fun c_186 => ?_)
                      · have c_186 : n ≤ i161 / 4 := Nat.le_of_not_lt (fun h => nI_ge h (by omega) c_186)
                        refine lv_iinc (v := nI (i161 + 1)) (lv' := [(8, .int (nI (i161 + 1))), (10, .int (nI (i161 % 4))), (9, .int (nI (i161 / 4))), (0, .ref (a 0)), (1, .int (nI r)), (2, .int (nI o)), (3, .int (nI (wrt r o))), (4, .int (nI (fi + 1))), (5, .int (nI lb)), (6, .int (nI (qs fi))), (7, .int (nI (qt fi)))]) hx hb dX1_within_316 hl (k := 10) rfl (nI_1 _) (by decide) rfl (fun ls hl => ?_)
                        refine lv_goto (tgt := 161) hx hb dX1_within_319 (by decide) ?_
                        exact ih161 (i161 + 1) (by omega) lb ps pt _ _ _ hM ⟨hw161.1, hw161.2.1, hw161.2.2.1.sk (by rw [hps, hpt]; exact fun g1 g2 g3 => absurd g1 (by omega)), hps, hpt, hfl⟩ ls (lv_sub hl [3, 4, 5, 6, 7, 8, 9, 10, 0] rfl)
                      · have c_186 : i161 / 4 < n := Nat.lt_of_not_le (fun h => c_186 (nI_le h (by omega)))
                        refine lv_iload hx hb dX1_within_189 (lv_at hl 0 rfl) ?_
                        refine lv_aload_n hx hb dX1_within_191 rfl (lv_at hl 2 rfl) ?_
                        refine m_get (v := .int (ω161.1 5)) S hK hM.1 5 (by decide) fl_X1_82 rfl dX1_within_192 rfl ?_
                        refine topi (z := nI n) (hGw.2.1) ?_
                        refine lv_icmp_ge (tgt := 316) hx hb dX1_within_195 (by decide) (fun c_195 => ?_) (fun c_195 => ?_)
                        · have c_195 : n ≤ i161 % 4 := Nat.le_of_not_lt (fun h => nI_ge h (by omega) c_195)
                          refine lv_iinc (v := nI (i161 + 1)) (lv' := [(8, .int (nI (i161 + 1))), (10, .int (nI (i161 % 4))), (9, .int (nI (i161 / 4))), (0, .ref (a 0)), (1, .int (nI r)), (2, .int (nI o)), (3, .int (nI (wrt r o))), (4, .int (nI (fi + 1))), (5, .int (nI lb)), (6, .int (nI (qs fi))), (7, .int (nI (qt fi)))]) hx hb dX1_within_316 hl (k := 10) rfl (nI_1 _) (by decide) rfl (fun ls hl => ?_)
                          refine lv_goto (tgt := 161) hx hb dX1_within_319 (by decide) ?_
                          exact ih161 (i161 + 1) (by omega) lb ps pt _ _ _ hM ⟨hw161.1, hw161.2.1, hw161.2.2.1.sk (by rw [hps, hpt]; exact fun g1 g2 g3 => absurd g2 (by omega)), hps, hpt, hfl⟩ ls (lv_sub hl [3, 4, 5, 6, 7, 8, 9, 10, 0] rfl)
                        · have c_195 : i161 % 4 < n := Nat.lt_of_not_le (fun h => c_195 (nI_le h (by omega)))
                          refine lv_aload_n hx hb dX1_within_198 rfl (lv_at hl 2 rfl) ?_
                          refine m_get (v := .ref (a 6)) S hK hM.1 6 (by decide) fl_X1_19 rfl dX1_within_199 rfl ?_
                          refine lv_iload_n hx hb dX1_within_202 rfl (lv_at hl 3 rfl) ?_
                          refine lv_iload hx hb dX1_within_203 (lv_at hl 8 rfl) ?_
                          refine lv_iload hx hb dX1_within_205 (lv_at hl 9 rfl) ?_
                          refine lv_iload hx hb dX1_within_207 (lv_at hl 1 rfl) ?_
                          refine lv_iload hx hb dX1_within_209 (lv_at hl 0 rfl) ?_
                          refine rc_Si (rest := []) [.ref (a 6), .int (nI r), .int (nI (qs fi)), .int (nI (qt fi)), .int (nI (i161 / 4)), .int (nI (i161 % 4))] 6 S hK (r1_mayRing l D dA (a 6) _ net r (qs fi) (qt fi) (i161 / 4) (i161 % 4) (fun q hq => (hGw.2.2.1 q hq).1) (fun q hq => (hGw.2.2.1 q hq).2) (by first | assumption | omega | decide) (by first | assumption | omega | decide) (by first | assumption | omega | decide) (by first | assumption | omega | decide) (by first | assumption | omega | decide)) wl_X1_153 wd_X1_X1_mayRing rfl ⟨Nat.le_of_ble_eq_true rfl, Nat.le_of_ble_eq_true rfl⟩ hl.1 (Nat.le_of_ble_eq_true rfl) dX1_within_211 ⟨Nat.le_refl 0, Nat.le_refl 0⟩ (m_cell hM.1 6 (by decide) rfl) ?_ rfl
                          refine lv_if_ne (tgt := 220) hx hb dX1_within_214 (by decide) (fun c_214 => ?_) (fun c_214 => ?_)
                          · have c_214 := b2i_ne0.mp c_214
                            refine lv_aload_n hx hb dX1_within_220 rfl (lv_at hl 2 rfl) ?_
                            refine m_get (v := .ref (a 6)) S hK hM.1 6 (by decide) fl_X1_19 rfl dX1_within_221 rfl ?_
                            refine lv_iload_n hx hb dX1_within_224 rfl (lv_at hl 4 rfl) ?_
                            refine lv_iload hx hb dX1_within_225 (lv_at hl 8 rfl) ?_
                            refine lv_iload hx hb dX1_within_227 (lv_at hl 9 rfl) ?_
                            refine lv_iload hx hb dX1_within_229 (lv_at hl 1 rfl) ?_
                            refine lv_iload hx hb dX1_within_231 (lv_at hl 0 rfl) ?_
                            refine rc_Si (rest := []) [.ref (a 6), .int (nI o), .int (nI (qs fi)), .int (nI (qt fi)), .int (nI (i161 / 4)), .int (nI (i161 % 4))] 6 S hK (r1_mayRing l D dA (a 6) _ net o (qs fi) (qt fi) (i161 / 4) (i161 % 4) (fun q hq => (hGw.2.2.1 q hq).1) (fun q hq => (hGw.2.2.1 q hq).2) (by first | assumption | omega | decide) (by first | assumption | omega | decide) (by first | assumption | omega | decide) (by first | assumption | omega | decide) (by first | assumption | omega | decide)) wl_X1_153 wd_X1_X1_mayRing rfl ⟨Nat.le_of_ble_eq_true rfl, Nat.le_of_ble_eq_true rfl⟩ hl.1 (Nat.le_of_ble_eq_true rfl) dX1_within_233 ⟨Nat.le_refl 0, Nat.le_refl 0⟩ (m_cell hM.1 6 (by decide) rfl) ?_ rfl
                            refine lv_if_ne (tgt := 241) hx hb dX1_within_236 (by decide) (fun c_236 => ?_) (fun c_236 => ?_)
                            · have c_236 := b2i_ne0.mp c_236
                              have hv9 := vld_aft hn hqv c_186 c_195
                              have ht9 : (tkA (wrt r o) (qt fi) (i161 / 4) (i161 % 4)) < 16 := tkA_lt hqt (by omega)
                              have hs9 := hv9.1
                              refine lv_iload hx hb dX1_within_241 (lv_at hl 8 rfl) ?_
                              refine lv_iload hx hb dX1_within_243 (lv_at hl 1 rfl) ?_
                              refine lv_iload hx hb dX1_within_245 (lv_at hl 0 rfl) ?_
                              refine rc_Si (rest := []) [.int (nI (qs fi)), .int (nI (i161 / 4)), .int (nI (i161 % 4))] 3 S hK (r1_afterCall l D dA (qs fi) (i161 / 4) (i161 % 4) (by first | assumption | omega | decide) (by first | assumption | omega | decide) (by first | assumption | omega | decide)) wl_X1_117 wd_X1_X1_afterCall rfl ⟨Nat.le_of_ble_eq_true rfl, Nat.le_of_ble_eq_true rfl⟩ hl.1 (Nat.le_of_ble_eq_true rfl) dX1_within_247 ⟨Nat.le_refl 0, Nat.le_refl 0⟩ (trivial) ?_ rfl
                              refine lv_istore (lv' := [(11, .int (nI (aft (qs fi) (i161 / 4) (i161 % 4)))), (10, .int (nI (i161 % 4))), (9, .int (nI (i161 / 4))), (0, .ref (a 0)), (1, .int (nI r)), (2, .int (nI o)), (3, .int (nI (wrt r o))), (4, .int (nI (fi + 1))), (5, .int (nI lb)), (6, .int (nI (qs fi))), (7, .int (nI (qt fi))), (8, .int (nI i161))]) hx hb dX1_within_250 hl (by decide) rfl (fun ls hl => ?_)
                              refine lv_iload hx hb dX1_within_252 (lv_at hl 10 rfl) ?_
                              refine lv_iload_n hx hb dX1_within_254 rfl (lv_at hl 6 rfl) ?_
                              refine lv_iload hx hb dX1_within_255 (lv_at hl 2 rfl) ?_
                              refine lv_iload hx hb dX1_within_257 (lv_at hl 1 rfl) ?_
                              refine rc_Si (rest := []) [.int (nI (qt fi)), .int (nI (wrt r o)), .int (nI (i161 / 4)), .int (nI (i161 % 4))] 4 S hK (r1_tokensAfter l D dA (qt fi) (wrt r o) (i161 / 4) (i161 % 4) (by first | assumption | omega | decide) (by first | assumption | omega | decide) (by first | assumption | omega | decide) (by first | assumption | omega | decide)) wl_X1_121 wd_X1_X1_tokensAfter rfl ⟨Nat.le_of_ble_eq_true rfl, Nat.le_of_ble_eq_true rfl⟩ hl.1 (Nat.le_of_ble_eq_true rfl) dX1_within_259 ⟨Nat.le_refl 0, Nat.le_refl 0⟩ (trivial) ?_ rfl
                              refine lv_istore (lv' := [(12, .int (nI (tkA (wrt r o) (qt fi) (i161 / 4) (i161 % 4)))), (11, .int (nI (aft (qs fi) (i161 / 4) (i161 % 4)))), (10, .int (nI (i161 % 4))), (9, .int (nI (i161 / 4))), (0, .ref (a 0)), (1, .int (nI r)), (2, .int (nI o)), (3, .int (nI (wrt r o))), (4, .int (nI (fi + 1))), (5, .int (nI lb)), (6, .int (nI (qs fi))), (7, .int (nI (qt fi))), (8, .int (nI i161))]) hx hb dX1_within_262 hl (by decide) rfl (fun ls hl => ?_)
                              refine lv_iload hx hb dX1_within_264 (lv_at hl 1 rfl) ?_
                              refine lv_iload hx hb dX1_within_266 (lv_at hl 0 rfl) ?_
                              refine rc_Si (rest := []) [.int (nI (aft (qs fi) (i161 / 4) (i161 % 4))), .int (nI (tkA (wrt r o) (qt fi) (i161 / 4) (i161 % 4)))] 2 S hK (r1_placeOf l D dA (aft (qs fi) (i161 / 4) (i161 % 4)) (tkA (wrt r o) (qt fi) (i161 / 4) (i161 % 4)) (by first | assumption | omega | decide) (by first | assumption | omega | decide)) wl_X1_158 wd_X1_X1_placeOf rfl ⟨Nat.le_of_ble_eq_true rfl, Nat.le_of_ble_eq_true rfl⟩ hl.1 (Nat.le_of_ble_eq_true rfl) dX1_within_268 ⟨Nat.le_refl 0, Nat.le_refl 0⟩ (trivial) ?_ rfl
                              refine lv_istore (lv' := [(13, .int (nI (plc (aft (qs fi) (i161 / 4) (i161 % 4)) (tkA (wrt r o) (qt fi) (i161 / 4) (i161 % 4))))), (12, .int (nI (tkA (wrt r o) (qt fi) (i161 / 4) (i161 % 4)))), (11, .int (nI (aft (qs fi) (i161 / 4) (i161 % 4)))), (10, .int (nI (i161 % 4))), (9, .int (nI (i161 / 4))), (0, .ref (a 0)), (1, .int (nI r)), (2, .int (nI o)), (3, .int (nI (wrt r o))), (4, .int (nI (fi + 1))), (5, .int (nI lb)), (6, .int (nI (qs fi))), (7, .int (nI (qt fi))), (8, .int (nI i161))]) hx hb dX1_within_271 hl (by decide) rfl (fun ls hl => ?_)
                              refine lv_aload_n hx hb dX1_within_273 rfl (lv_at hl 5 rfl) ?_
                              refine m_get (v := .ref (a 12)) S hK hM.1 12 (by decide) fl_X1_32 rfl dX1_within_274 rfl ?_
                              refine lv_iload hx hb dX1_within_277 (lv_at hl 0 rfl) ?_
                              refine m_aldn (j := plc (aft (qs fi) (i161 / 4) (i161 % 4)) (tkA (wrt r o) (qt fi) (i161 / 4) (i161 % 4))) (v := (ω161.2.1 12) (plc (aft (qs fi) (i161 / 4) (i161 % 4)) (tkA (wrt r o) (qt fi) (i161 / 4) (i161 % 4)))) S hK hM.1 12 (by decide) rfl (plc_lt _ _) dX1_within_279 (rfl) ?_
                              refine lv_aload_n hx hb dX1_within_280 rfl (lv_at hl 5 rfl) ?_
                              refine m_get (v := .int (ω161.1 17)) S hK hM.1 17 (by decide) fl_X1_161 rfl dX1_within_281 rfl ?_
                              refine topi (z := nI (T + 1)) (h17) ?_
                              refine lv_icmp_eq (tgt := 316) hx hb dX1_within_284 (by decide) (fun c_284 => ?_) (fun c_284 => ?_)
                              · refine lv_iinc (v := nI (i161 + 1)) (lv' := [(8, .int (nI (i161 + 1))), (13, .int (nI (plc (aft (qs fi) (i161 / 4) (i161 % 4)) (tkA (wrt r o) (qt fi) (i161 / 4) (i161 % 4))))), (12, .int (nI (tkA (wrt r o) (qt fi) (i161 / 4) (i161 % 4)))), (11, .int (nI (aft (qs fi) (i161 / 4) (i161 % 4)))), (10, .int (nI (i161 % 4))), (9, .int (nI (i161 / 4))), (0, .ref (a 0)), (1, .int (nI r)), (2, .int (nI o)), (3, .int (nI (wrt r o))), (4, .int (nI (fi + 1))), (5, .int (nI lb)), (6, .int (nI (qs fi))), (7, .int (nI (qt fi)))]) hx hb dX1_within_316 hl (k := 13) rfl (nI_1 _) (by decide) rfl (fun ls hl => ?_)
                                refine lv_goto (tgt := 161) hx hb dX1_within_319 (by decide) ?_
                                exact ih161 (i161 + 1) (by omega) lb ps pt _ _ _ hM ⟨hw161.1, hw161.2.1, hw161.2.2.1.sk (by rw [hps, hpt]; exact fun g1 g2 g3 => ⟨c_236, c_284⟩), hps, hpt, hfl⟩ ls (lv_sub hl [6, 7, 8, 9, 10, 11, 12, 13, 0] rfl)
                              · refine lv_aload_n hx hb dX1_within_287 rfl (lv_at hl 5 rfl) ?_
                                refine m_get (v := .ref (a 12)) S hK hM.1 12 (by decide) fl_X1_32 rfl dX1_within_288 rfl ?_
                                refine lv_iload hx hb dX1_within_291 (lv_at hl 0 rfl) ?_
                                refine lv_aload_n hx hb dX1_within_293 rfl (lv_at hl 5 rfl) ?_
                                refine m_get (v := .int (ω161.1 17)) S hK hM.1 17 (by decide) fl_X1_161 rfl dX1_within_294 rfl ?_
                                refine topi (z := nI (T + 1)) (h17) ?_
                                refine m_astn (j := plc (aft (qs fi) (i161 / 4) (i161 % 4)) (tkA (wrt r o) (qt fi) (i161 / 4) (i161 % 4))) hI S hK hM 12 (by decide) rfl (plc_lt _ _) dX1_within_297 (fun H locs hM => ?_)
                                refine lv_aload_n hx hb dX1_within_298 rfl (lv_at hl 5 rfl) ?_
                                refine m_get (v := .ref (a 29)) S hK hM.1 29 (by decide) fl_X1_69 rfl dX1_within_299 rfl ?_
                                refine lv_iload hx hb dX1_within_302 (lv_at hl 10 rfl) ?_
                                refine lv_iload hx hb dX1_within_304 (lv_at hl 2 rfl) ?_
                                refine lv_iload hx hb dX1_within_306 (lv_at hl 1 rfl) ?_
                                refine lv_bipush (v := 16) hx hb dX1_within_308 (by decide) ?_
                                refine lv_ishl hx hb dX1_within_310 ?_
                                refine lv_ior hx hb dX1_within_311 ?_
                                refine topi (z := nI (qcd (aft (qs fi) (i161 / 4) (i161 % 4)) (tkA (wrt r o) (qt fi) (i161 / 4) (i161 % 4)))) (qcd_i hs9 ht9) ?_
                                refine m_astn (j := lb) hI S hK hM 29 (by decide) rfl (show lb < 65536 from hw161.2.2.1.lt (plc_lt _ _) c_284) dX1_within_312 (fun H locs hM => ?_)
                                have hM : MB D dA a ((ω161.b 12 (upd (ω161.2.1 12) (plc (aft (qs fi) (i161 / 4) (i161 % 4)) (tkA (wrt r o) (qt fi) (i161 / 4) (i161 % 4))) (nI (T + 1)))).b 29 (upd (ω161.2.1 29) lb (nI (qcd (aft (qs fi) (i161 / 4) (i161 % 4)) (tkA (wrt r o) (qt fi) (i161 / 4) (i161 % 4)))))) s.heap H locs := hM
                                refine lv_iinc (v := nI (lb + 1)) (lv' := [(5, .int (nI (lb + 1))), (13, .int (nI (plc (aft (qs fi) (i161 / 4) (i161 % 4)) (tkA (wrt r o) (qt fi) (i161 / 4) (i161 % 4))))), (12, .int (nI (tkA (wrt r o) (qt fi) (i161 / 4) (i161 % 4)))), (11, .int (nI (aft (qs fi) (i161 / 4) (i161 % 4)))), (10, .int (nI (i161 % 4))), (9, .int (nI (i161 / 4))), (0, .ref (a 0)), (1, .int (nI r)), (2, .int (nI o)), (3, .int (nI (wrt r o))), (4, .int (nI (fi + 1))), (6, .int (nI (qs fi))), (7, .int (nI (qt fi))), (8, .int (nI i161))]) hx hb dX1_within_313 hl (k := 10) rfl (nI_1 _) (by decide) rfl (fun ls hl => ?_)
                                refine lv_iinc (v := nI (i161 + 1)) (lv' := [(8, .int (nI (i161 + 1))), (5, .int (nI (lb + 1))), (13, .int (nI (plc (aft (qs fi) (i161 / 4) (i161 % 4)) (tkA (wrt r o) (qt fi) (i161 / 4) (i161 % 4))))), (12, .int (nI (tkA (wrt r o) (qt fi) (i161 / 4) (i161 % 4)))), (11, .int (nI (aft (qs fi) (i161 / 4) (i161 % 4)))), (10, .int (nI (i161 % 4))), (9, .int (nI (i161 / 4))), (0, .ref (a 0)), (1, .int (nI r)), (2, .int (nI o)), (3, .int (nI (wrt r o))), (4, .int (nI (fi + 1))), (6, .int (nI (qs fi))), (7, .int (nI (qt fi)))]) hx hb dX1_within_316 hl (k := 13) rfl (nI_1 _) (by decide) rfl (fun ls hl => ?_)
                                refine lv_goto (tgt := 161) hx hb dX1_within_319 (by decide) ?_
                                exact ih161 (i161 + 1) (by omega) (lb + 1) (fU ps lb (aft (qs fi) (i161 / 4) (i161 % 4))) (fU pt lb (tkA (wrt r o) (qt fi) (i161 / 4) (i161 % 4))) _ _ _ hM ⟨hw161.1.b, hw161.2.1.b, QIm.pu hw161.2.2.1 hfl hv9 ht9 (hrc.st c_186 c_195 c_214) c_284 (by rw [hps, hpt]; exact c_236) (by rw [hps]) (by rw [hpt]), by rw [fU_n (by omega), hps], by rw [fU_n (by omega), hpt], by omega⟩ ls (lv_sub hl [7, 8, 9, 10, 11, 1, 12, 13, 0] rfl)
                            · have c_236 := b2i_eq0.mp c_236
                              refine lv_iconst (v := 0) hx hb dX1_within_239 (by decide) ?_
                              exact m_iret S hr hlk hM dX1_within_240 (⟨_, rfl, (WAm.i hr4 ho4).mpr (by rw [if_neg hnn, if_neg c_40]; exact Or.inr ⟨rfl, fun hw9 => by have h9 := hw9 _ _ hrc _ _ c_186 c_195 c_214; rw [c_236] at h9; cases h9⟩), hw161.2.1.pt hw161.1⟩)
                          · have c_214 := b2i_eq0.mp c_214
                            refine lv_goto (tgt := 316) hx hb dX1_within_217 (by decide) ?_
                            refine lv_iinc (v := nI (i161 + 1)) (lv' := [(8, .int (nI (i161 + 1))), (10, .int (nI (i161 % 4))), (9, .int (nI (i161 / 4))), (0, .ref (a 0)), (1, .int (nI r)), (2, .int (nI o)), (3, .int (nI (wrt r o))), (4, .int (nI (fi + 1))), (5, .int (nI lb)), (6, .int (nI (qs fi))), (7, .int (nI (qt fi)))]) hx hb dX1_within_316 hl (k := 10) rfl (nI_1 _) (by decide) rfl (fun ls hl => ?_)
                            refine lv_goto (tgt := 161) hx hb dX1_within_319 (by decide) ?_
                            exact ih161 (i161 + 1) (by omega) lb ps pt _ _ _ hM ⟨hw161.1, hw161.2.1, hw161.2.2.1.sk (by rw [hps, hpt]; exact fun g1 g2 g3 => absurd g3 (by rw [c_214]; decide)), hps, hpt, hfl⟩ ls (lv_sub hl [3, 4, 5, 6, 7, 8, 9, 10, 0] rfl)
                  exact hloop161 16 0 (by omega) la qs qt _ _ _ hM ⟨hw124.1, hw124.2.1, hw124.2.2, rfl, rfl, c_128⟩ ls (lv_sub hl [4, 5, 6, 7, 1, 8, 3, 2, 0] rfl)
            exact hloop124 65536 0 (by omega) 1 (fun _ => (stAt n cp cq nc)) (fun _ => (tkN n (wrt r o) cp cq nc)) _ _ _ hM ⟨hWF.b2, hS2.b2, QIm.in0 hvl (htk _) hu⟩ ls (lv_sub hl [3, 4, 5, 2, 1, 0] rfl)
          · have c_48 : 1 < r := Nat.lt_of_not_le (fun h => c_48 (nI_le h (by decide)))
            refine lv_iload_n hx hb dX1_within_51 rfl (lv_at hl 1 rfl) ?_
            refine lv_goto (tgt := 56) hx hb dX1_within_52 (by decide) ?_
            skip
            refine topi (z := nI (wrt r o)) (by rw [wrt, if_pos c_48]) ?_
            refine lv_istore_n (lv' := [(3, .int (nI (wrt r o))), (0, .ref (a 0)), (1, .int (nI r)), (2, .int (nI o))]) hx hb dX1_within_56 rfl hl (by decide) rfl (fun ls hl => ?_)
            refine lv_aload_n hx hb dX1_within_57 rfl (lv_at hl 1 rfl) ?_
            refine lv_aload_n hx hb dX1_within_58 rfl (lv_at hl 1 rfl) ?_
            refine m_get (v := .ref (a 6)) S hK hM.1 6 (by decide) fl_X1_19 rfl dX1_within_59 rfl ?_
            refine lv_aload_n hx hb dX1_within_62 rfl (lv_at hl 1 rfl) ?_
            refine m_get (v := .int (σ.1 5)) S hK hM.1 5 (by decide) fl_X1_82 rfl dX1_within_63 rfl ?_
            refine topi (z := nI n) (hGw.2.1) ?_
            refine lv_iload_n hx hb dX1_within_66 rfl (lv_at hl 2 rfl) ?_
            refine mc_Vv (rest := []) [.ref (a 6), .int (nI n), .int (nI r)] 3 S hK hM (m1_lookAt l D dA a hI σ (a 6) (nI n) (nI r)) wl_X1_184 wd_X1_X1_lookAt rfl ⟨Nat.le_of_ble_eq_true rfl, Nat.le_of_ble_eq_true rfl⟩ hl.1 (Nat.le_of_ble_eq_true rfl) dX1_within_67 ⟨Nat.le_refl 0, Nat.le_refl 0⟩ (fun H locs hM => ?_) rfl
            have hM : MB D dA a ((((σ.i 17 ((σ.1 17) + 1)).r (a 6)).i 22 (nI n)).i 23 (nI r)) s.heap H locs := hM
            have hWF : WFm σ ((((σ.i 17 ((σ.1 17) + 1)).r (a 6)).i 22 (nI n)).i 23 (nI r)) := WFm.lk
            have hS2 : SN2 ((((σ.i 17 ((σ.1 17) + 1)).r (a 6)).i 22 (nI n)).i 23 (nI r)) T := ⟨turn1 hSN, fun pl => (hSN.2 pl).elim fun x hx => ⟨x, by omega, hx.2⟩⟩
            have hu : ∀ pl, ¬ ((((σ.i 17 ((σ.1 17) + 1)).r (a 6)).i 22 (nI n)).i 23 (nI r)).2.1 12 pl = nI (T + 1) := fun pl => hSN.un hT pl
            have hGw := hG.pu hWF.pu
            have h17 := hS2.1
            generalize hω0 : ((((σ.i 17 ((σ.1 17) + 1)).r (a 6)).i 22 (nI n)).i 23 (nI r)) = ω0 at hM hWF hS2 hu hGw h17
            refine lv_iconst (v := 0) hx hb dX1_within_70 (by decide) ?_
            refine lv_istore (lv' := [(4, .int 0), (3, .int (nI (wrt r o))), (0, .ref (a 0)), (1, .int (nI r)), (2, .int (nI o))]) hx hb dX1_within_71 hl (by decide) rfl (fun ls hl => ?_)
            refine lv_iconst (v := 1) hx hb dX1_within_73 (by decide) ?_
            refine lv_istore (lv' := [(5, .int 1), (4, .int 0), (3, .int (nI (wrt r o))), (0, .ref (a 0)), (1, .int (nI r)), (2, .int (nI o))]) hx hb dX1_within_74 hl (by decide) rfl (fun ls hl => ?_)
            refine lv_aload_n hx hb dX1_within_76 rfl (lv_at hl 3 rfl) ?_
            refine m_get (v := .ref (a 29)) S hK hM.1 29 (by decide) fl_X1_69 rfl dX1_within_77 rfl ?_
            refine lv_iconst (v := 0) hx hb dX1_within_80 (by decide) ?_
            refine lv_aload_n hx hb dX1_within_81 rfl (lv_at hl 3 rfl) ?_
            refine lv_aload_n hx hb dX1_within_82 rfl (lv_at hl 3 rfl) ?_
            refine m_get (v := .int (ω0.1 9)) S hK hM.1 9 (by decide) fl_X1_103 rfl dX1_within_83 rfl ?_
            refine topi (z := nI nc) (hGw.2.2.2.2.1) ?_
            refine rc_Vi (rest := [.int 0, .ref (a 29)]) [.int (nI nc)] 1 S hK (r1_stateAt l D dA a ω0 n net nc cp cq hGw nc (by first | assumption | omega | decide)) wl_X1_128 wd_X1_X1_stateAt rfl ⟨Nat.le_of_ble_eq_true rfl, Nat.le_of_ble_eq_true rfl⟩ (m_recv hK hM.1) hl.1 (Nat.le_of_ble_eq_true rfl) dX1_within_86 ⟨Nat.le_refl 0, Nat.le_refl 0⟩ (hM.1) ?_ rfl
            refine lv_aload_n hx hb dX1_within_89 rfl (lv_at hl 3 rfl) ?_
            refine lv_iload_n hx hb dX1_within_90 rfl (lv_at hl 2 rfl) ?_
            refine rc_Vi (rest := [.int (nI (stAt n cp cq nc)), .int 0, .ref (a 29)]) [.int (nI (wrt r o))] 1 S hK (r1_tokensNow l D dA a ω0 n net nc cp cq hGw (wrt r o) (by first | assumption | omega | decide)) wl_X1_135 wd_X1_X1_tokensNow rfl ⟨Nat.le_of_ble_eq_true rfl, Nat.le_of_ble_eq_true rfl⟩ (m_recv hK hM.1) hl.1 (Nat.le_of_ble_eq_true rfl) dX1_within_91 ⟨Nat.le_refl 0, Nat.le_refl 0⟩ (hM.1) ?_ rfl
            refine lv_bipush (v := 16) hx hb dX1_within_94 (by decide) ?_
            refine lv_ishl hx hb dX1_within_96 ?_
            refine lv_ior hx hb dX1_within_97 ?_
            refine topi (z := nI (qcd (stAt n cp cq nc) (tkN n (wrt r o) cp cq nc))) (qcd_i hst (htk _)) ?_
            refine m_astn (j := 0) hI S hK hM 29 (by decide) rfl (by decide) dX1_within_98 (fun H locs hM => ?_)
            have hGw : MG (ω0.b 29 (upd (ω0.2.1 29) 0 (nI (qcd (stAt n cp cq nc) (tkN n (wrt r o) cp cq nc))))) n net nc cp cq := hGw.pu ⟨rfl, rfl, rfl, rfl, rfl, rfl, rfl, rfl, rfl, rfl⟩
            refine lv_aload_n hx hb dX1_within_99 rfl (lv_at hl 3 rfl) ?_
            refine m_get (v := .ref (a 12)) S hK hM.1 12 (by decide) fl_X1_32 rfl dX1_within_100 rfl ?_
            refine lv_aload_n hx hb dX1_within_103 rfl (lv_at hl 3 rfl) ?_
            refine lv_aload_n hx hb dX1_within_104 rfl (lv_at hl 3 rfl) ?_
            refine m_get (v := .int (ω0.1 9)) S hK hM.1 9 (by decide) fl_X1_103 rfl dX1_within_105 rfl ?_
            refine topi (z := nI nc) (hGw.2.2.2.2.1) ?_
            refine rc_Vi (rest := [.ref (a 12)]) [.int (nI nc)] 1 S hK (r1_stateAt l D dA a (ω0.b 29 (upd (ω0.2.1 29) 0 (nI (qcd (stAt n cp cq nc) (tkN n (wrt r o) cp cq nc))))) n net nc cp cq hGw nc (by first | assumption | omega | decide)) wl_X1_128 wd_X1_X1_stateAt rfl ⟨Nat.le_of_ble_eq_true rfl, Nat.le_of_ble_eq_true rfl⟩ (m_recv hK hM.1) hl.1 (Nat.le_of_ble_eq_true rfl) dX1_within_108 ⟨Nat.le_refl 0, Nat.le_refl 0⟩ (hM.1) ?_ rfl
            refine lv_aload_n hx hb dX1_within_111 rfl (lv_at hl 3 rfl) ?_
            refine lv_iload_n hx hb dX1_within_112 rfl (lv_at hl 2 rfl) ?_
            refine rc_Vi (rest := [.int (nI (stAt n cp cq nc)), .ref (a 12)]) [.int (nI (wrt r o))] 1 S hK (r1_tokensNow l D dA a (ω0.b 29 (upd (ω0.2.1 29) 0 (nI (qcd (stAt n cp cq nc) (tkN n (wrt r o) cp cq nc))))) n net nc cp cq hGw (wrt r o) (by first | assumption | omega | decide)) wl_X1_135 wd_X1_X1_tokensNow rfl ⟨Nat.le_of_ble_eq_true rfl, Nat.le_of_ble_eq_true rfl⟩ (m_recv hK hM.1) hl.1 (Nat.le_of_ble_eq_true rfl) dX1_within_113 ⟨Nat.le_refl 0, Nat.le_refl 0⟩ (hM.1) ?_ rfl
            refine rc_Si (rest := [.ref (a 12)]) [.int (nI (stAt n cp cq nc)), .int (nI (tkN n (wrt r o) cp cq nc))] 2 S hK (r1_placeOf l D dA (stAt n cp cq nc) (tkN n (wrt r o) cp cq nc) (by first | assumption | omega | decide) (by first | assumption | omega | decide)) wl_X1_158 wd_X1_X1_placeOf rfl ⟨Nat.le_of_ble_eq_true rfl, Nat.le_of_ble_eq_true rfl⟩ hl.1 (Nat.le_of_ble_eq_true rfl) dX1_within_116 ⟨Nat.le_refl 0, Nat.le_refl 0⟩ (trivial) ?_ rfl
            refine lv_aload_n hx hb dX1_within_119 rfl (lv_at hl 3 rfl) ?_
            refine m_get (v := .int (ω0.1 17)) S hK hM.1 17 (by decide) fl_X1_161 rfl dX1_within_120 rfl ?_
            refine topi (z := nI (T + 1)) (h17) ?_
            refine m_astn (j := plc (stAt n cp cq nc) (tkN n (wrt r o) cp cq nc)) hI S hK hM 12 (by decide) rfl (plc_lt _ _) dX1_within_123 (fun H locs hM => ?_)
            have hM : MB D dA a ((ω0.b 29 (upd (ω0.2.1 29) 0 (nI (qcd (stAt n cp cq nc) (tkN n (wrt r o) cp cq nc))))).b 12 (upd (ω0.2.1 12) (plc (stAt n cp cq nc) (tkN n (wrt r o) cp cq nc)) (nI (T + 1)))) s.heap H locs := hM
            have hloop124 : ∀ (k124 fi : Nat), fi + k124 = 65536 → ∀ (la : Nat) (qs qt : Nat → Nat) (ω124 : MS) (H : Heap) (locs : List Loc), MB D dA a ω124 s.heap H locs → (WFm σ ω124 ∧ SN2 ω124 T ∧ QIm ω124 n net r o (wrt r o) (stAt n cp cq nc) (tkN n (wrt r o) cp cq nc) (nI (T + 1)) la qs qt fi 0) → ∀ (ls : Array Slot), lv_has ls 14 [(0, .ref (a 0)), (1, .int (nI r)), (2, .int (nI o)), (3, .int (nI (wrt r o))), (4, .int (nI fi)), (5, .int (nI la))] → W p l e ({ frames := 3, cells := 0, slots := 0, locals := 70 }) s m [.ref (a 0), .int (nI r), .int (nI o)].toArray below meth c H locs 0 0 (MZ below D dA a (fun v9 σ9 => ∃ u9, v9 = some (.int u9) ∧ WAm n net (stAt n cp cq nc) (fun r => tkN n r cp cq nc) (nI r) (nI o) u9 ∧ PTm σ σ9 T) [.ref (a 0), .int (nI r), .int (nI o)] s) (F0 m 124 ls []) := by
              intro k124
              induction k124 with
              | zero =>
                intro fi hk124 la qs qt ω124 H locs hM hw124 ls hl
                have hle := hw124.2.2.le
                have hGw := hG.pu hw124.1.pu
                refine lv_iload hx hb dX1_within_124 (lv_at hl 4 rfl) ?_
                refine lv_iload hx hb dX1_within_126 (lv_at hl 5 rfl) ?_
                refine lv_icmp_ge (tgt := 325) hx hb dX1_within_128 (by decide) (fun c_128 => ?_) (fun c_128 => absurd (show nI la ≤ nI fi from nI_le (by omega) (by omega)) c_128)
                have c_128 : la ≤ fi := by omega
                refine lv_iconst (v := 1) hx hb dX1_within_325 (by decide) ?_
                exact m_iret S hr hlk hM dX1_within_326 (⟨_, rfl, (WAm.i hr4 ho4).mpr (by rw [if_neg hnn, if_neg c_40]; exact Or.inl ⟨rfl, hw124.2.2.all hn hvl (htk _) c_128⟩), hw124.2.1.pt hw124.1⟩)
              | succ k124 ih124 =>
                intro fi hk124 la qs qt ω124 H locs hM hw124 ls hl
                have hle := hw124.2.2.le
                have hGw := hG.pu hw124.1.pu
                refine lv_iload hx hb dX1_within_124 (lv_at hl 4 rfl) ?_
                refine lv_iload hx hb dX1_within_126 (lv_at hl 5 rfl) ?_
                refine lv_icmp_ge (tgt := 325) hx hb dX1_within_128 (by decide) (fun c_128 => ?_) (fun c_128 => ?_)
                · have c_128 : la ≤ fi := Nat.le_of_not_lt (fun h => nI_ge h (by omega) c_128)
                  refine lv_iconst (v := 1) hx hb dX1_within_325 (by decide) ?_
                  exact m_iret S hr hlk hM dX1_within_326 (⟨_, rfl, (WAm.i hr4 ho4).mpr (by rw [if_neg hnn, if_neg c_40]; exact Or.inl ⟨rfl, hw124.2.2.all hn hvl (htk _) c_128⟩), hw124.2.1.pt hw124.1⟩)
                · have c_128 : fi < la := Nat.lt_of_not_le (fun h => c_128 (nI_le h (by omega)))
                  obtain ⟨hq29, hqv, hqt, hrc⟩ := hw124.2.2.1 fi c_128
                  have hcs := hqv.1
                  refine lv_aload_n hx hb dX1_within_131 rfl (lv_at hl 0 rfl) ?_
                  refine m_get (v := .ref (a 29)) S hK hM.1 29 (by decide) fl_X1_69 rfl dX1_within_132 rfl ?_
                  refine lv_iload hx hb dX1_within_135 (lv_at hl 4 rfl) ?_
                  refine m_aldn (j := fi) (v := nI (qcd (qs fi) (qt fi))) S hK hM.1 29 (by decide) rfl (show fi < 65536 by omega) dX1_within_137 (hq29) ?_
                  refine lv_ldc (v := 65535) hx hb S.2.2.2.1 (S.2.2.2.2 _ q1383) dX1_within_138 ?_
                  refine lv_iand hx hb dX1_within_140 ?_
                  refine topi (z := nI (qs fi)) (qcd_s hcs hqt) ?_
                  refine lv_istore (lv' := [(6, .int (nI (qs fi))), (0, .ref (a 0)), (1, .int (nI r)), (2, .int (nI o)), (3, .int (nI (wrt r o))), (4, .int (nI fi)), (5, .int (nI la))]) hx hb dX1_within_141 hl (by decide) rfl (fun ls hl => ?_)
                  refine lv_aload_n hx hb dX1_within_143 rfl (lv_at hl 1 rfl) ?_
                  refine m_get (v := .ref (a 29)) S hK hM.1 29 (by decide) fl_X1_69 rfl dX1_within_144 rfl ?_
                  refine lv_iload hx hb dX1_within_147 (lv_at hl 5 rfl) ?_
                  refine m_aldn (j := fi) (v := nI (qcd (qs fi) (qt fi))) S hK hM.1 29 (by decide) rfl (show fi < 65536 by omega) dX1_within_149 (hq29) ?_
                  refine lv_bipush (v := 16) hx hb dX1_within_150 (by decide) ?_
                  refine lv_ishr hx hb dX1_within_152 ?_
                  refine topi (z := nI (qt fi)) (qcd_t hcs hqt) ?_
                  refine lv_istore (lv' := [(7, .int (nI (qt fi))), (6, .int (nI (qs fi))), (0, .ref (a 0)), (1, .int (nI r)), (2, .int (nI o)), (3, .int (nI (wrt r o))), (4, .int (nI fi)), (5, .int (nI la))]) hx hb dX1_within_153 hl (by decide) rfl (fun ls hl => ?_)
                  refine lv_iinc (v := nI (fi + 1)) (lv' := [(4, .int (nI (fi + 1))), (7, .int (nI (qt fi))), (6, .int (nI (qs fi))), (0, .ref (a 0)), (1, .int (nI r)), (2, .int (nI o)), (3, .int (nI (wrt r o))), (5, .int (nI la))]) hx hb dX1_within_155 hl (k := 6) rfl (nI_1 _) (by decide) rfl (fun ls hl => ?_)
                  refine lv_iconst (v := 0) hx hb dX1_within_158 (by decide) ?_
                  refine lv_istore (lv' := [(8, .int 0), (4, .int (nI (fi + 1))), (7, .int (nI (qt fi))), (6, .int (nI (qs fi))), (0, .ref (a 0)), (1, .int (nI r)), (2, .int (nI o)), (3, .int (nI (wrt r o))), (5, .int (nI la))]) hx hb dX1_within_159 hl (by decide) rfl (fun ls hl => ?_)
                  have hloop161 : ∀ (k161 i161 : Nat), i161 + k161 = 16 → ∀ (lb : Nat) (ps pt : Nat → Nat) (ω161 : MS) (H : Heap) (locs : List Loc), MB D dA a ω161 s.heap H locs → (WFm σ ω161 ∧ SN2 ω161 T ∧ QIm ω161 n net r o (wrt r o) (stAt n cp cq nc) (tkN n (wrt r o) cp cq nc) (nI (T + 1)) lb ps pt fi i161 ∧ ps fi = qs fi ∧ pt fi = qt fi ∧ fi < lb) → ∀ (ls : Array Slot), lv_has ls 14 [(0, .ref (a 0)), (1, .int (nI r)), (2, .int (nI o)), (3, .int (nI (wrt r o))), (4, .int (nI (fi + 1))), (5, .int (nI lb)), (6, .int (nI (qs fi))), (7, .int (nI (qt fi))), (8, .int (nI i161))] → W p l e ({ frames := 3, cells := 0, slots := 0, locals := 70 }) s m [.ref (a 0), .int (nI r), .int (nI o)].toArray below meth c H locs 0 0 (MZ below D dA a (fun v9 σ9 => ∃ u9, v9 = some (.int u9) ∧ WAm n net (stAt n cp cq nc) (fun r => tkN n r cp cq nc) (nI r) (nI o) u9 ∧ PTm σ σ9 T) [.ref (a 0), .int (nI r), .int (nI o)] s) (F0 m 161 ls []) := by
                    intro k161
                    induction k161 with
                    | zero =>
                      intro i161 hk161 lb ps pt ω161 H locs hM hw161 ls hl
                      obtain ⟨hps, hpt, hfl⟩ := hw161.2.2.2
                      have hlb := hw161.2.2.1.le
                      have hGw := hG.pu hw161.1.pu
                      have h17 := hw161.2.1.1
                      have hi161 : i161 = 16 := by omega
                      refine lv_iload hx hb dX1_within_161 (lv_at hl 8 rfl) ?_
                      refine lv_bipush (v := 16) hx hb dX1_within_163 (by decide) ?_
                      refine lv_icmp_ge (tgt := 322) hx hb dX1_within_165 (by decide) (fun c_165 => ?_) (fun c_165 => absurd (show nI 16 ≤ nI i161 from nI_le (by omega) (by omega)) c_165)
                      refine lv_goto (tgt := 124) hx hb dX1_within_322 (by decide) ?_
                      exact ih124 (fi + 1) (by omega) lb ps pt _ _ _ hM ⟨hw161.1, hw161.2.1, QIm.nx (by rw [hi161] at hw161; exact hw161.2.2.1)⟩ ls (lv_sub hl [0, 1, 2, 3, 4, 5] rfl)
                    | succ k161 ih161 =>
                      intro i161 hk161 lb ps pt ω161 H locs hM hw161 ls hl
                      obtain ⟨hps, hpt, hfl⟩ := hw161.2.2.2
                      have hlb := hw161.2.2.1.le
                      have hGw := hG.pu hw161.1.pu
                      have h17 := hw161.2.1.1
                      have hlt161 : i161 < 16 := by omega
                      have hp4 : i161 / 4 < 4 := by omega
                      have hq4 : i161 % 4 < 4 := by omega
                      refine lv_iload hx hb dX1_within_161 (lv_at hl 8 rfl) ?_
                      refine lv_bipush (v := 16) hx hb dX1_within_163 (by decide) ?_
                      refine lv_icmp_ge (tgt := 322) hx hb dX1_within_165 (by decide) (fun c_165 => absurd c_165 (show ¬ nI 16 ≤ nI i161 from nI_ge (by omega) (by omega))) (fun c_165 => ?_)
                      refine lv_iload hx hb dX1_within_168 (lv_at hl 8 rfl) ?_
                      refine lv_iconst (v := 4) hx hb dX1_within_170 (by decide) ?_
                      refine lv_idiv hx hb dX1_within_171 (by decide) ?_
                      refine topi (z := nI (i161 / 4)) (pk_div (d := 4) (by omega) (by decide) (by decide)) ?_
                      refine lv_istore (lv' := [(9, .int (nI (i161 / 4))), (0, .ref (a 0)), (1, .int (nI r)), (2, .int (nI o)), (3, .int (nI (wrt r o))), (4, .int (nI (fi + 1))), (5, .int (nI lb)), (6, .int (nI (qs fi))), (7, .int (nI (qt fi))), (8, .int (nI i161))]) hx hb dX1_within_172 hl (by decide) rfl (fun ls hl => ?_)
                      refine lv_iload hx hb dX1_within_174 (lv_at hl 9 rfl) ?_
                      refine lv_iconst (v := 4) hx hb dX1_within_176 (by decide) ?_
                      refine lv_irem hx hb dX1_within_177 (by decide) ?_
                      refine topi (z := nI (i161 % 4)) (pk_rem (d := 4) (by omega) (by decide) (by decide)) ?_
                      refine lv_istore (lv' := [(10, .int (nI (i161 % 4))), (9, .int (nI (i161 / 4))), (0, .ref (a 0)), (1, .int (nI r)), (2, .int (nI o)), (3, .int (nI (wrt r o))), (4, .int (nI (fi + 1))), (5, .int (nI lb)), (6, .int (nI (qs fi))), (7, .int (nI (qt fi))), (8, .int (nI i161))]) hx hb dX1_within_178 hl (by decide) rfl (fun ls hl => ?_)
                      refine lv_iload hx hb dX1_within_180 (lv_at hl 1 rfl) ?_
                      refine lv_aload_n hx hb dX1_within_182 rfl (lv_at hl 2 rfl) ?_
                      refine m_get (v := .int (ω161.1 5)) S hK hM.1 5 (by decide) fl_X1_82 rfl dX1_within_183 rfl ?_
                      refine topi (z := nI n) (hGw.2.1) ?_
                      refine lv_icmp_ge (tgt := 316) hx hb dX1_within_186 (by decide) (fun c_186 => ?_) (fun c_186 => ?_)
                      · have c_186 : n ≤ i161 / 4 := Nat.le_of_not_lt (fun h => nI_ge h (by omega) c_186)
                        refine lv_iinc (v := nI (i161 + 1)) (lv' := [(8, .int (nI (i161 + 1))), (10, .int (nI (i161 % 4))), (9, .int (nI (i161 / 4))), (0, .ref (a 0)), (1, .int (nI r)), (2, .int (nI o)), (3, .int (nI (wrt r o))), (4, .int (nI (fi + 1))), (5, .int (nI lb)), (6, .int (nI (qs fi))), (7, .int (nI (qt fi)))]) hx hb dX1_within_316 hl (k := 10) rfl (nI_1 _) (by decide) rfl (fun ls hl => ?_)
                        refine lv_goto (tgt := 161) hx hb dX1_within_319 (by decide) ?_
                        exact ih161 (i161 + 1) (by omega) lb ps pt _ _ _ hM ⟨hw161.1, hw161.2.1, hw161.2.2.1.sk (by rw [hps, hpt]; exact fun g1 g2 g3 => absurd g1 (by omega)), hps, hpt, hfl⟩ ls (lv_sub hl [3, 4, 5, 6, 7, 8, 9, 10, 0] rfl)
                      · have c_186 : i161 / 4 < n := Nat.lt_of_not_le (fun h => c_186 (nI_le h (by omega)))
                        refine lv_iload hx hb dX1_within_189 (lv_at hl 0 rfl) ?_
                        refine lv_aload_n hx hb dX1_within_191 rfl (lv_at hl 2 rfl) ?_
                        refine m_get (v := .int (ω161.1 5)) S hK hM.1 5 (by decide) fl_X1_82 rfl dX1_within_192 rfl ?_
                        refine topi (z := nI n) (hGw.2.1) ?_
                        refine lv_icmp_ge (tgt := 316) hx hb dX1_within_195 (by decide) (fun c_195 => ?_) (fun c_195 => ?_)
                        · have c_195 : n ≤ i161 % 4 := Nat.le_of_not_lt (fun h => nI_ge h (by omega) c_195)
                          refine lv_iinc (v := nI (i161 + 1)) (lv' := [(8, .int (nI (i161 + 1))), (10, .int (nI (i161 % 4))), (9, .int (nI (i161 / 4))), (0, .ref (a 0)), (1, .int (nI r)), (2, .int (nI o)), (3, .int (nI (wrt r o))), (4, .int (nI (fi + 1))), (5, .int (nI lb)), (6, .int (nI (qs fi))), (7, .int (nI (qt fi)))]) hx hb dX1_within_316 hl (k := 10) rfl (nI_1 _) (by decide) rfl (fun ls hl => ?_)
                          refine lv_goto (tgt := 161) hx hb dX1_within_319 (by decide) ?_
                          exact ih161 (i161 + 1) (by omega) lb ps pt _ _ _ hM ⟨hw161.1, hw161.2.1, hw161.2.2.1.sk (by rw [hps, hpt]; exact fun g1 g2 g3 => absurd g2 (by omega)), hps, hpt, hfl⟩ ls (lv_sub hl [3, 4, 5, 6, 7, 8, 9, 10, 0] rfl)
                        · have c_195 : i161 % 4 < n := Nat.lt_of_not_le (fun h => c_195 (nI_le h (by omega)))
                          refine lv_aload_n hx hb dX1_within_198 rfl (lv_at hl 2 rfl) ?_
                          refine m_get (v := .ref (a 6)) S hK hM.1 6 (by decide) fl_X1_19 rfl dX1_within_199 rfl ?_
                          refine lv_iload_n hx hb dX1_within_202 rfl (lv_at hl 3 rfl) ?_
                          refine lv_iload hx hb dX1_within_203 (lv_at hl 8 rfl) ?_
                          refine lv_iload hx hb dX1_within_205 (lv_at hl 9 rfl) ?_
                          refine lv_iload hx hb dX1_within_207 (lv_at hl 1 rfl) ?_
                          refine lv_iload hx hb dX1_within_209 (lv_at hl 0 rfl) ?_
                          refine rc_Si (rest := []) [.ref (a 6), .int (nI r), .int (nI (qs fi)), .int (nI (qt fi)), .int (nI (i161 / 4)), .int (nI (i161 % 4))] 6 S hK (r1_mayRing l D dA (a 6) _ net r (qs fi) (qt fi) (i161 / 4) (i161 % 4) (fun q hq => (hGw.2.2.1 q hq).1) (fun q hq => (hGw.2.2.1 q hq).2) (by first | assumption | omega | decide) (by first | assumption | omega | decide) (by first | assumption | omega | decide) (by first | assumption | omega | decide) (by first | assumption | omega | decide)) wl_X1_153 wd_X1_X1_mayRing rfl ⟨Nat.le_of_ble_eq_true rfl, Nat.le_of_ble_eq_true rfl⟩ hl.1 (Nat.le_of_ble_eq_true rfl) dX1_within_211 ⟨Nat.le_refl 0, Nat.le_refl 0⟩ (m_cell hM.1 6 (by decide) rfl) ?_ rfl
                          refine lv_if_ne (tgt := 220) hx hb dX1_within_214 (by decide) (fun c_214 => ?_) (fun c_214 => ?_)
                          · have c_214 := b2i_ne0.mp c_214
                            refine lv_aload_n hx hb dX1_within_220 rfl (lv_at hl 2 rfl) ?_
                            refine m_get (v := .ref (a 6)) S hK hM.1 6 (by decide) fl_X1_19 rfl dX1_within_221 rfl ?_
                            refine lv_iload_n hx hb dX1_within_224 rfl (lv_at hl 4 rfl) ?_
                            refine lv_iload hx hb dX1_within_225 (lv_at hl 8 rfl) ?_
                            refine lv_iload hx hb dX1_within_227 (lv_at hl 9 rfl) ?_
                            refine lv_iload hx hb dX1_within_229 (lv_at hl 1 rfl) ?_
                            refine lv_iload hx hb dX1_within_231 (lv_at hl 0 rfl) ?_
                            refine rc_Si (rest := []) [.ref (a 6), .int (nI o), .int (nI (qs fi)), .int (nI (qt fi)), .int (nI (i161 / 4)), .int (nI (i161 % 4))] 6 S hK (r1_mayRing l D dA (a 6) _ net o (qs fi) (qt fi) (i161 / 4) (i161 % 4) (fun q hq => (hGw.2.2.1 q hq).1) (fun q hq => (hGw.2.2.1 q hq).2) (by first | assumption | omega | decide) (by first | assumption | omega | decide) (by first | assumption | omega | decide) (by first | assumption | omega | decide) (by first | assumption | omega | decide)) wl_X1_153 wd_X1_X1_mayRing rfl ⟨Nat.le_of_ble_eq_true rfl, Nat.le_of_ble_eq_true rfl⟩ hl.1 (Nat.le_of_ble_eq_true rfl) dX1_within_233 ⟨Nat.le_refl 0, Nat.le_refl 0⟩ (m_cell hM.1 6 (by decide) rfl) ?_ rfl
                            refine lv_if_ne (tgt := 241) hx hb dX1_within_236 (by decide) (fun c_236 => ?_) (fun c_236 => ?_)
                            · have c_236 := b2i_ne0.mp c_236
                              have hv9 := vld_aft hn hqv c_186 c_195
                              have ht9 : (tkA (wrt r o) (qt fi) (i161 / 4) (i161 % 4)) < 16 := tkA_lt hqt (by omega)
                              have hs9 := hv9.1
                              refine lv_iload hx hb dX1_within_241 (lv_at hl 8 rfl) ?_
                              refine lv_iload hx hb dX1_within_243 (lv_at hl 1 rfl) ?_
                              refine lv_iload hx hb dX1_within_245 (lv_at hl 0 rfl) ?_
                              refine rc_Si (rest := []) [.int (nI (qs fi)), .int (nI (i161 / 4)), .int (nI (i161 % 4))] 3 S hK (r1_afterCall l D dA (qs fi) (i161 / 4) (i161 % 4) (by first | assumption | omega | decide) (by first | assumption | omega | decide) (by first | assumption | omega | decide)) wl_X1_117 wd_X1_X1_afterCall rfl ⟨Nat.le_of_ble_eq_true rfl, Nat.le_of_ble_eq_true rfl⟩ hl.1 (Nat.le_of_ble_eq_true rfl) dX1_within_247 ⟨Nat.le_refl 0, Nat.le_refl 0⟩ (trivial) ?_ rfl
                              refine lv_istore (lv' := [(11, .int (nI (aft (qs fi) (i161 / 4) (i161 % 4)))), (10, .int (nI (i161 % 4))), (9, .int (nI (i161 / 4))), (0, .ref (a 0)), (1, .int (nI r)), (2, .int (nI o)), (3, .int (nI (wrt r o))), (4, .int (nI (fi + 1))), (5, .int (nI lb)), (6, .int (nI (qs fi))), (7, .int (nI (qt fi))), (8, .int (nI i161))]) hx hb dX1_within_250 hl (by decide) rfl (fun ls hl => ?_)
                              refine lv_iload hx hb dX1_within_252 (lv_at hl 10 rfl) ?_
                              refine lv_iload_n hx hb dX1_within_254 rfl (lv_at hl 6 rfl) ?_
                              refine lv_iload hx hb dX1_within_255 (lv_at hl 2 rfl) ?_
                              refine lv_iload hx hb dX1_within_257 (lv_at hl 1 rfl) ?_
                              refine rc_Si (rest := []) [.int (nI (qt fi)), .int (nI (wrt r o)), .int (nI (i161 / 4)), .int (nI (i161 % 4))] 4 S hK (r1_tokensAfter l D dA (qt fi) (wrt r o) (i161 / 4) (i161 % 4) (by first | assumption | omega | decide) (by first | assumption | omega | decide) (by first | assumption | omega | decide) (by first | assumption | omega | decide)) wl_X1_121 wd_X1_X1_tokensAfter rfl ⟨Nat.le_of_ble_eq_true rfl, Nat.le_of_ble_eq_true rfl⟩ hl.1 (Nat.le_of_ble_eq_true rfl) dX1_within_259 ⟨Nat.le_refl 0, Nat.le_refl 0⟩ (trivial) ?_ rfl
                              refine lv_istore (lv' := [(12, .int (nI (tkA (wrt r o) (qt fi) (i161 / 4) (i161 % 4)))), (11, .int (nI (aft (qs fi) (i161 / 4) (i161 % 4)))), (10, .int (nI (i161 % 4))), (9, .int (nI (i161 / 4))), (0, .ref (a 0)), (1, .int (nI r)), (2, .int (nI o)), (3, .int (nI (wrt r o))), (4, .int (nI (fi + 1))), (5, .int (nI lb)), (6, .int (nI (qs fi))), (7, .int (nI (qt fi))), (8, .int (nI i161))]) hx hb dX1_within_262 hl (by decide) rfl (fun ls hl => ?_)
                              refine lv_iload hx hb dX1_within_264 (lv_at hl 1 rfl) ?_
                              refine lv_iload hx hb dX1_within_266 (lv_at hl 0 rfl) ?_
                              refine rc_Si (rest := []) [.int (nI (aft (qs fi) (i161 / 4) (i161 % 4))), .int (nI (tkA (wrt r o) (qt fi) (i161 / 4) (i161 % 4)))] 2 S hK (r1_placeOf l D dA (aft (qs fi) (i161 / 4) (i161 % 4)) (tkA (wrt r o) (qt fi) (i161 / 4) (i161 % 4)) (by first | assumption | omega | decide) (by first | assumption | omega | decide)) wl_X1_158 wd_X1_X1_placeOf rfl ⟨Nat.le_of_ble_eq_true rfl, Nat.le_of_ble_eq_true rfl⟩ hl.1 (Nat.le_of_ble_eq_true rfl) dX1_within_268 ⟨Nat.le_refl 0, Nat.le_refl 0⟩ (trivial) ?_ rfl
                              refine lv_istore (lv' := [(13, .int (nI (plc (aft (qs fi) (i161 / 4) (i161 % 4)) (tkA (wrt r o) (qt fi) (i161 / 4) (i161 % 4))))), (12, .int (nI (tkA (wrt r o) (qt fi) (i161 / 4) (i161 % 4)))), (11, .int (nI (aft (qs fi) (i161 / 4) (i161 % 4)))), (10, .int (nI (i161 % 4))), (9, .int (nI (i161 / 4))), (0, .ref (a 0)), (1, .int (nI r)), (2, .int (nI o)), (3, .int (nI (wrt r o))), (4, .int (nI (fi + 1))), (5, .int (nI lb)), (6, .int (nI (qs fi))), (7, .int (nI (qt fi))), (8, .int (nI i161))]) hx hb dX1_within_271 hl (by decide) rfl (fun ls hl => ?_)
                              refine lv_aload_n hx hb dX1_within_273 rfl (lv_at hl 5 rfl) ?_
                              refine m_get (v := .ref (a 12)) S hK hM.1 12 (by decide) fl_X1_32 rfl dX1_within_274 rfl ?_
                              refine lv_iload hx hb dX1_within_277 (lv_at hl 0 rfl) ?_
                              refine m_aldn (j := plc (aft (qs fi) (i161 / 4) (i161 % 4)) (tkA (wrt r o) (qt fi) (i161 / 4) (i161 % 4))) (v := (ω161.2.1 12) (plc (aft (qs fi) (i161 / 4) (i161 % 4)) (tkA (wrt r o) (qt fi) (i161 / 4) (i161 % 4)))) S hK hM.1 12 (by decide) rfl (plc_lt _ _) dX1_within_279 (rfl) ?_
                              refine lv_aload_n hx hb dX1_within_280 rfl (lv_at hl 5 rfl) ?_
                              refine m_get (v := .int (ω161.1 17)) S hK hM.1 17 (by decide) fl_X1_161 rfl dX1_within_281 rfl ?_
                              refine topi (z := nI (T + 1)) (h17) ?_
                              refine lv_icmp_eq (tgt := 316) hx hb dX1_within_284 (by decide) (fun c_284 => ?_) (fun c_284 => ?_)
                              · refine lv_iinc (v := nI (i161 + 1)) (lv' := [(8, .int (nI (i161 + 1))), (13, .int (nI (plc (aft (qs fi) (i161 / 4) (i161 % 4)) (tkA (wrt r o) (qt fi) (i161 / 4) (i161 % 4))))), (12, .int (nI (tkA (wrt r o) (qt fi) (i161 / 4) (i161 % 4)))), (11, .int (nI (aft (qs fi) (i161 / 4) (i161 % 4)))), (10, .int (nI (i161 % 4))), (9, .int (nI (i161 / 4))), (0, .ref (a 0)), (1, .int (nI r)), (2, .int (nI o)), (3, .int (nI (wrt r o))), (4, .int (nI (fi + 1))), (5, .int (nI lb)), (6, .int (nI (qs fi))), (7, .int (nI (qt fi)))]) hx hb dX1_within_316 hl (k := 13) rfl (nI_1 _) (by decide) rfl (fun ls hl => ?_)
                                refine lv_goto (tgt := 161) hx hb dX1_within_319 (by decide) ?_
                                exact ih161 (i161 + 1) (by omega) lb ps pt _ _ _ hM ⟨hw161.1, hw161.2.1, hw161.2.2.1.sk (by rw [hps, hpt]; exact fun g1 g2 g3 => ⟨c_236, c_284⟩), hps, hpt, hfl⟩ ls (lv_sub hl [6, 7, 8, 9, 10, 11, 12, 13, 0] rfl)
                              · refine lv_aload_n hx hb dX1_within_287 rfl (lv_at hl 5 rfl) ?_
                                refine m_get (v := .ref (a 12)) S hK hM.1 12 (by decide) fl_X1_32 rfl dX1_within_288 rfl ?_
                                refine lv_iload hx hb dX1_within_291 (lv_at hl 0 rfl) ?_
                                refine lv_aload_n hx hb dX1_within_293 rfl (lv_at hl 5 rfl) ?_
                                refine m_get (v := .int (ω161.1 17)) S hK hM.1 17 (by decide) fl_X1_161 rfl dX1_within_294 rfl ?_
                                refine topi (z := nI (T + 1)) (h17) ?_
                                refine m_astn (j := plc (aft (qs fi) (i161 / 4) (i161 % 4)) (tkA (wrt r o) (qt fi) (i161 / 4) (i161 % 4))) hI S hK hM 12 (by decide) rfl (plc_lt _ _) dX1_within_297 (fun H locs hM => ?_)
                                refine lv_aload_n hx hb dX1_within_298 rfl (lv_at hl 5 rfl) ?_
                                refine m_get (v := .ref (a 29)) S hK hM.1 29 (by decide) fl_X1_69 rfl dX1_within_299 rfl ?_
                                refine lv_iload hx hb dX1_within_302 (lv_at hl 10 rfl) ?_
                                refine lv_iload hx hb dX1_within_304 (lv_at hl 2 rfl) ?_
                                refine lv_iload hx hb dX1_within_306 (lv_at hl 1 rfl) ?_
                                refine lv_bipush (v := 16) hx hb dX1_within_308 (by decide) ?_
                                refine lv_ishl hx hb dX1_within_310 ?_
                                refine lv_ior hx hb dX1_within_311 ?_
                                refine topi (z := nI (qcd (aft (qs fi) (i161 / 4) (i161 % 4)) (tkA (wrt r o) (qt fi) (i161 / 4) (i161 % 4)))) (qcd_i hs9 ht9) ?_
                                refine m_astn (j := lb) hI S hK hM 29 (by decide) rfl (show lb < 65536 from hw161.2.2.1.lt (plc_lt _ _) c_284) dX1_within_312 (fun H locs hM => ?_)
                                have hM : MB D dA a ((ω161.b 12 (upd (ω161.2.1 12) (plc (aft (qs fi) (i161 / 4) (i161 % 4)) (tkA (wrt r o) (qt fi) (i161 / 4) (i161 % 4))) (nI (T + 1)))).b 29 (upd (ω161.2.1 29) lb (nI (qcd (aft (qs fi) (i161 / 4) (i161 % 4)) (tkA (wrt r o) (qt fi) (i161 / 4) (i161 % 4)))))) s.heap H locs := hM
                                refine lv_iinc (v := nI (lb + 1)) (lv' := [(5, .int (nI (lb + 1))), (13, .int (nI (plc (aft (qs fi) (i161 / 4) (i161 % 4)) (tkA (wrt r o) (qt fi) (i161 / 4) (i161 % 4))))), (12, .int (nI (tkA (wrt r o) (qt fi) (i161 / 4) (i161 % 4)))), (11, .int (nI (aft (qs fi) (i161 / 4) (i161 % 4)))), (10, .int (nI (i161 % 4))), (9, .int (nI (i161 / 4))), (0, .ref (a 0)), (1, .int (nI r)), (2, .int (nI o)), (3, .int (nI (wrt r o))), (4, .int (nI (fi + 1))), (6, .int (nI (qs fi))), (7, .int (nI (qt fi))), (8, .int (nI i161))]) hx hb dX1_within_313 hl (k := 10) rfl (nI_1 _) (by decide) rfl (fun ls hl => ?_)
                                refine lv_iinc (v := nI (i161 + 1)) (lv' := [(8, .int (nI (i161 + 1))), (5, .int (nI (lb + 1))), (13, .int (nI (plc (aft (qs fi) (i161 / 4) (i161 % 4)) (tkA (wrt r o) (qt fi) (i161 / 4) (i161 % 4))))), (12, .int (nI (tkA (wrt r o) (qt fi) (i161 / 4) (i161 % 4)))), (11, .int (nI (aft (qs fi) (i161 / 4) (i161 % 4)))), (10, .int (nI (i161 % 4))), (9, .int (nI (i161 / 4))), (0, .ref (a 0)), (1, .int (nI r)), (2, .int (nI o)), (3, .int (nI (wrt r o))), (4, .int (nI (fi + 1))), (6, .int (nI (qs fi))), (7, .int (nI (qt fi)))]) hx hb dX1_within_316 hl (k := 13) rfl (nI_1 _) (by decide) rfl (fun ls hl => ?_)
                                refine lv_goto (tgt := 161) hx hb dX1_within_319 (by decide) ?_
                                exact ih161 (i161 + 1) (by omega) (lb + 1) (fU ps lb (aft (qs fi) (i161 / 4) (i161 % 4))) (fU pt lb (tkA (wrt r o) (qt fi) (i161 / 4) (i161 % 4))) _ _ _ hM ⟨hw161.1.b, hw161.2.1.b, QIm.pu hw161.2.2.1 hfl hv9 ht9 (hrc.st c_186 c_195 c_214) c_284 (by rw [hps, hpt]; exact c_236) (by rw [hps]) (by rw [hpt]), by rw [fU_n (by omega), hps], by rw [fU_n (by omega), hpt], by omega⟩ ls (lv_sub hl [7, 8, 9, 10, 11, 1, 12, 13, 0] rfl)
                            · have c_236 := b2i_eq0.mp c_236
                              refine lv_iconst (v := 0) hx hb dX1_within_239 (by decide) ?_
                              exact m_iret S hr hlk hM dX1_within_240 (⟨_, rfl, (WAm.i hr4 ho4).mpr (by rw [if_neg hnn, if_neg c_40]; exact Or.inr ⟨rfl, fun hw9 => by have h9 := hw9 _ _ hrc _ _ c_186 c_195 c_214; rw [c_236] at h9; cases h9⟩), hw161.2.1.pt hw161.1⟩)
                          · have c_214 := b2i_eq0.mp c_214
                            refine lv_goto (tgt := 316) hx hb dX1_within_217 (by decide) ?_
                            refine lv_iinc (v := nI (i161 + 1)) (lv' := [(8, .int (nI (i161 + 1))), (10, .int (nI (i161 % 4))), (9, .int (nI (i161 / 4))), (0, .ref (a 0)), (1, .int (nI r)), (2, .int (nI o)), (3, .int (nI (wrt r o))), (4, .int (nI (fi + 1))), (5, .int (nI lb)), (6, .int (nI (qs fi))), (7, .int (nI (qt fi)))]) hx hb dX1_within_316 hl (k := 10) rfl (nI_1 _) (by decide) rfl (fun ls hl => ?_)
                            refine lv_goto (tgt := 161) hx hb dX1_within_319 (by decide) ?_
                            exact ih161 (i161 + 1) (by omega) lb ps pt _ _ _ hM ⟨hw161.1, hw161.2.1, hw161.2.2.1.sk (by rw [hps, hpt]; exact fun g1 g2 g3 => absurd g3 (by rw [c_214]; decide)), hps, hpt, hfl⟩ ls (lv_sub hl [3, 4, 5, 6, 7, 8, 9, 10, 0] rfl)
                  exact hloop161 16 0 (by omega) la qs qt _ _ _ hM ⟨hw124.1, hw124.2.1, hw124.2.2, rfl, rfl, c_128⟩ ls (lv_sub hl [4, 5, 6, 7, 1, 8, 3, 2, 0] rfl)
            exact hloop124 65536 0 (by omega) 1 (fun _ => (stAt n cp cq nc)) (fun _ => (tkN n (wrt r o) cp cq nc)) _ _ _ hM ⟨hWF.b2, hS2.b2, QIm.in0 hvl (htk _) hu⟩ ls (lv_sub hl [3, 4, 5, 2, 1, 0] rfl)
        · have c_40 : n = 0 := nI_inj (by omega) (by decide) c_40
          refine lv_bipush (v := (-3)) hx hb dX1_within_43 (by decide) ?_
          exact m_iret S hr hlk hM dX1_within_45 (⟨_, rfl, (WAm.i hr4 ho4).mpr (by rw [if_neg hnn, if_pos c_40]), PTm.rf hSN⟩)
      · have c_20 : r + o = 5 := nI_inj (by omega) (by decide) c_20
        refine lv_iload_n hx hb dX1_within_23 rfl (lv_at hl 1 rfl) ?_
        refine lv_iconst (v := 1) hx hb dX1_within_24 (by decide) ?_
        refine lv_icmp_le (tgt := 36) hx hb dX1_within_25 (by decide) (fun c_25 => ?_) (fun c_25 => ?_)
        · have c_25 : r ≤ 1 := Nat.le_of_not_lt (fun h => nI_ge h (by omega) c_25)
          have hnn : ¬ (1 < r ∧ 1 < o ∧ ¬ r = o) := by omega
          refine lv_aload_n hx hb dX1_within_36 rfl (lv_at hl 0 rfl) ?_
          refine m_get (v := .int (σ.1 5)) S hK hM.1 5 (by decide) fl_X1_82 rfl dX1_within_37 rfl ?_
          refine topi (z := nI n) (hGw.2.1) ?_
          refine lv_if_ne (tgt := 46) hx hb dX1_within_40 (by decide) (fun c_40 => ?_) (fun c_40 => ?_)
          · have c_40 : ¬ n = 0 := fun h => c_40 (congrArg nI h)
            refine lv_iload_n hx hb dX1_within_46 rfl (lv_at hl 1 rfl) ?_
            refine lv_iconst (v := 1) hx hb dX1_within_47 (by decide) ?_
            refine lv_icmp_le (tgt := 55) hx hb dX1_within_48 (by decide) (fun c_48 => ?_) (fun c_48 => absurd (show nI r ≤ nI 1 from nI_le c_25 (by decide)) c_48)
            refine lv_iload_n hx hb dX1_within_55 rfl (lv_at hl 2 rfl) ?_
            have c_48 := c_25
            refine topi (z := nI (wrt r o)) (by rw [wrt, if_neg (by omega)]) ?_
            refine lv_istore_n (lv' := [(3, .int (nI (wrt r o))), (0, .ref (a 0)), (1, .int (nI r)), (2, .int (nI o))]) hx hb dX1_within_56 rfl hl (by decide) rfl (fun ls hl => ?_)
            refine lv_aload_n hx hb dX1_within_57 rfl (lv_at hl 1 rfl) ?_
            refine lv_aload_n hx hb dX1_within_58 rfl (lv_at hl 1 rfl) ?_
            refine m_get (v := .ref (a 6)) S hK hM.1 6 (by decide) fl_X1_19 rfl dX1_within_59 rfl ?_
            refine lv_aload_n hx hb dX1_within_62 rfl (lv_at hl 1 rfl) ?_
            refine m_get (v := .int (σ.1 5)) S hK hM.1 5 (by decide) fl_X1_82 rfl dX1_within_63 rfl ?_
            refine topi (z := nI n) (hGw.2.1) ?_
            refine lv_iload_n hx hb dX1_within_66 rfl (lv_at hl 2 rfl) ?_
            refine mc_Vv (rest := []) [.ref (a 6), .int (nI n), .int (nI r)] 3 S hK hM (m1_lookAt l D dA a hI σ (a 6) (nI n) (nI r)) wl_X1_184 wd_X1_X1_lookAt rfl ⟨Nat.le_of_ble_eq_true rfl, Nat.le_of_ble_eq_true rfl⟩ hl.1 (Nat.le_of_ble_eq_true rfl) dX1_within_67 ⟨Nat.le_refl 0, Nat.le_refl 0⟩ (fun H locs hM => ?_) rfl
            have hM : MB D dA a ((((σ.i 17 ((σ.1 17) + 1)).r (a 6)).i 22 (nI n)).i 23 (nI r)) s.heap H locs := hM
            have hWF : WFm σ ((((σ.i 17 ((σ.1 17) + 1)).r (a 6)).i 22 (nI n)).i 23 (nI r)) := WFm.lk
            have hS2 : SN2 ((((σ.i 17 ((σ.1 17) + 1)).r (a 6)).i 22 (nI n)).i 23 (nI r)) T := ⟨turn1 hSN, fun pl => (hSN.2 pl).elim fun x hx => ⟨x, by omega, hx.2⟩⟩
            have hu : ∀ pl, ¬ ((((σ.i 17 ((σ.1 17) + 1)).r (a 6)).i 22 (nI n)).i 23 (nI r)).2.1 12 pl = nI (T + 1) := fun pl => hSN.un hT pl
            have hGw := hG.pu hWF.pu
            have h17 := hS2.1
            generalize hω0 : ((((σ.i 17 ((σ.1 17) + 1)).r (a 6)).i 22 (nI n)).i 23 (nI r)) = ω0 at hM hWF hS2 hu hGw h17
            refine lv_iconst (v := 0) hx hb dX1_within_70 (by decide) ?_
            refine lv_istore (lv' := [(4, .int 0), (3, .int (nI (wrt r o))), (0, .ref (a 0)), (1, .int (nI r)), (2, .int (nI o))]) hx hb dX1_within_71 hl (by decide) rfl (fun ls hl => ?_)
            refine lv_iconst (v := 1) hx hb dX1_within_73 (by decide) ?_
            refine lv_istore (lv' := [(5, .int 1), (4, .int 0), (3, .int (nI (wrt r o))), (0, .ref (a 0)), (1, .int (nI r)), (2, .int (nI o))]) hx hb dX1_within_74 hl (by decide) rfl (fun ls hl => ?_)
            refine lv_aload_n hx hb dX1_within_76 rfl (lv_at hl 3 rfl) ?_
            refine m_get (v := .ref (a 29)) S hK hM.1 29 (by decide) fl_X1_69 rfl dX1_within_77 rfl ?_
            refine lv_iconst (v := 0) hx hb dX1_within_80 (by decide) ?_
            refine lv_aload_n hx hb dX1_within_81 rfl (lv_at hl 3 rfl) ?_
            refine lv_aload_n hx hb dX1_within_82 rfl (lv_at hl 3 rfl) ?_
            refine m_get (v := .int (ω0.1 9)) S hK hM.1 9 (by decide) fl_X1_103 rfl dX1_within_83 rfl ?_
            refine topi (z := nI nc) (hGw.2.2.2.2.1) ?_
            refine rc_Vi (rest := [.int 0, .ref (a 29)]) [.int (nI nc)] 1 S hK (r1_stateAt l D dA a ω0 n net nc cp cq hGw nc (by first | assumption | omega | decide)) wl_X1_128 wd_X1_X1_stateAt rfl ⟨Nat.le_of_ble_eq_true rfl, Nat.le_of_ble_eq_true rfl⟩ (m_recv hK hM.1) hl.1 (Nat.le_of_ble_eq_true rfl) dX1_within_86 ⟨Nat.le_refl 0, Nat.le_refl 0⟩ (hM.1) ?_ rfl
            refine lv_aload_n hx hb dX1_within_89 rfl (lv_at hl 3 rfl) ?_
            refine lv_iload_n hx hb dX1_within_90 rfl (lv_at hl 2 rfl) ?_
            refine rc_Vi (rest := [.int (nI (stAt n cp cq nc)), .int 0, .ref (a 29)]) [.int (nI (wrt r o))] 1 S hK (r1_tokensNow l D dA a ω0 n net nc cp cq hGw (wrt r o) (by first | assumption | omega | decide)) wl_X1_135 wd_X1_X1_tokensNow rfl ⟨Nat.le_of_ble_eq_true rfl, Nat.le_of_ble_eq_true rfl⟩ (m_recv hK hM.1) hl.1 (Nat.le_of_ble_eq_true rfl) dX1_within_91 ⟨Nat.le_refl 0, Nat.le_refl 0⟩ (hM.1) ?_ rfl
            refine lv_bipush (v := 16) hx hb dX1_within_94 (by decide) ?_
            refine lv_ishl hx hb dX1_within_96 ?_
            refine lv_ior hx hb dX1_within_97 ?_
            refine topi (z := nI (qcd (stAt n cp cq nc) (tkN n (wrt r o) cp cq nc))) (qcd_i hst (htk _)) ?_
            refine m_astn (j := 0) hI S hK hM 29 (by decide) rfl (by decide) dX1_within_98 (fun H locs hM => ?_)
            have hGw : MG (ω0.b 29 (upd (ω0.2.1 29) 0 (nI (qcd (stAt n cp cq nc) (tkN n (wrt r o) cp cq nc))))) n net nc cp cq := hGw.pu ⟨rfl, rfl, rfl, rfl, rfl, rfl, rfl, rfl, rfl, rfl⟩
            refine lv_aload_n hx hb dX1_within_99 rfl (lv_at hl 3 rfl) ?_
            refine m_get (v := .ref (a 12)) S hK hM.1 12 (by decide) fl_X1_32 rfl dX1_within_100 rfl ?_
            refine lv_aload_n hx hb dX1_within_103 rfl (lv_at hl 3 rfl) ?_
            refine lv_aload_n hx hb dX1_within_104 rfl (lv_at hl 3 rfl) ?_
            refine m_get (v := .int (ω0.1 9)) S hK hM.1 9 (by decide) fl_X1_103 rfl dX1_within_105 rfl ?_
            refine topi (z := nI nc) (hGw.2.2.2.2.1) ?_
            refine rc_Vi (rest := [.ref (a 12)]) [.int (nI nc)] 1 S hK (r1_stateAt l D dA a (ω0.b 29 (upd (ω0.2.1 29) 0 (nI (qcd (stAt n cp cq nc) (tkN n (wrt r o) cp cq nc))))) n net nc cp cq hGw nc (by first | assumption | omega | decide)) wl_X1_128 wd_X1_X1_stateAt rfl ⟨Nat.le_of_ble_eq_true rfl, Nat.le_of_ble_eq_true rfl⟩ (m_recv hK hM.1) hl.1 (Nat.le_of_ble_eq_true rfl) dX1_within_108 ⟨Nat.le_refl 0, Nat.le_refl 0⟩ (hM.1) ?_ rfl
            refine lv_aload_n hx hb dX1_within_111 rfl (lv_at hl 3 rfl) ?_
            refine lv_iload_n hx hb dX1_within_112 rfl (lv_at hl 2 rfl) ?_
            refine rc_Vi (rest := [.int (nI (stAt n cp cq nc)), .ref (a 12)]) [.int (nI (wrt r o))] 1 S hK (r1_tokensNow l D dA a (ω0.b 29 (upd (ω0.2.1 29) 0 (nI (qcd (stAt n cp cq nc) (tkN n (wrt r o) cp cq nc))))) n net nc cp cq hGw (wrt r o) (by first | assumption | omega | decide)) wl_X1_135 wd_X1_X1_tokensNow rfl ⟨Nat.le_of_ble_eq_true rfl, Nat.le_of_ble_eq_true rfl⟩ (m_recv hK hM.1) hl.1 (Nat.le_of_ble_eq_true rfl) dX1_within_113 ⟨Nat.le_refl 0, Nat.le_refl 0⟩ (hM.1) ?_ rfl
            refine rc_Si (rest := [.ref (a 12)]) [.int (nI (stAt n cp cq nc)), .int (nI (tkN n (wrt r o) cp cq nc))] 2 S hK (r1_placeOf l D dA (stAt n cp cq nc) (tkN n (wrt r o) cp cq nc) (by first | assumption | omega | decide) (by first | assumption | omega | decide)) wl_X1_158 wd_X1_X1_placeOf rfl ⟨Nat.le_of_ble_eq_true rfl, Nat.le_of_ble_eq_true rfl⟩ hl.1 (Nat.le_of_ble_eq_true rfl) dX1_within_116 ⟨Nat.le_refl 0, Nat.le_refl 0⟩ (trivial) ?_ rfl
            refine lv_aload_n hx hb dX1_within_119 rfl (lv_at hl 3 rfl) ?_
            refine m_get (v := .int (ω0.1 17)) S hK hM.1 17 (by decide) fl_X1_161 rfl dX1_within_120 rfl ?_
            refine topi (z := nI (T + 1)) (h17) ?_
            refine m_astn (j := plc (stAt n cp cq nc) (tkN n (wrt r o) cp cq nc)) hI S hK hM 12 (by decide) rfl (plc_lt _ _) dX1_within_123 (fun H locs hM => ?_)
            have hM : MB D dA a ((ω0.b 29 (upd (ω0.2.1 29) 0 (nI (qcd (stAt n cp cq nc) (tkN n (wrt r o) cp cq nc))))).b 12 (upd (ω0.2.1 12) (plc (stAt n cp cq nc) (tkN n (wrt r o) cp cq nc)) (nI (T + 1)))) s.heap H locs := hM
            have hloop124 : ∀ (k124 fi : Nat), fi + k124 = 65536 → ∀ (la : Nat) (qs qt : Nat → Nat) (ω124 : MS) (H : Heap) (locs : List Loc), MB D dA a ω124 s.heap H locs → (WFm σ ω124 ∧ SN2 ω124 T ∧ QIm ω124 n net r o (wrt r o) (stAt n cp cq nc) (tkN n (wrt r o) cp cq nc) (nI (T + 1)) la qs qt fi 0) → ∀ (ls : Array Slot), lv_has ls 14 [(0, .ref (a 0)), (1, .int (nI r)), (2, .int (nI o)), (3, .int (nI (wrt r o))), (4, .int (nI fi)), (5, .int (nI la))] → W p l e ({ frames := 3, cells := 0, slots := 0, locals := 70 }) s m [.ref (a 0), .int (nI r), .int (nI o)].toArray below meth c H locs 0 0 (MZ below D dA a (fun v9 σ9 => ∃ u9, v9 = some (.int u9) ∧ WAm n net (stAt n cp cq nc) (fun r => tkN n r cp cq nc) (nI r) (nI o) u9 ∧ PTm σ σ9 T) [.ref (a 0), .int (nI r), .int (nI o)] s) (F0 m 124 ls []) := by
              intro k124
              induction k124 with
              | zero =>
                intro fi hk124 la qs qt ω124 H locs hM hw124 ls hl
                have hle := hw124.2.2.le
                have hGw := hG.pu hw124.1.pu
                refine lv_iload hx hb dX1_within_124 (lv_at hl 4 rfl) ?_
                refine lv_iload hx hb dX1_within_126 (lv_at hl 5 rfl) ?_
                refine lv_icmp_ge (tgt := 325) hx hb dX1_within_128 (by decide) (fun c_128 => ?_) (fun c_128 => absurd (show nI la ≤ nI fi from nI_le (by omega) (by omega)) c_128)
                have c_128 : la ≤ fi := by omega
                refine lv_iconst (v := 1) hx hb dX1_within_325 (by decide) ?_
                exact m_iret S hr hlk hM dX1_within_326 (⟨_, rfl, (WAm.i hr4 ho4).mpr (by rw [if_neg hnn, if_neg c_40]; exact Or.inl ⟨rfl, hw124.2.2.all hn hvl (htk _) c_128⟩), hw124.2.1.pt hw124.1⟩)
              | succ k124 ih124 =>
                intro fi hk124 la qs qt ω124 H locs hM hw124 ls hl
                have hle := hw124.2.2.le
                have hGw := hG.pu hw124.1.pu
                refine lv_iload hx hb dX1_within_124 (lv_at hl 4 rfl) ?_
                refine lv_iload hx hb dX1_within_126 (lv_at hl 5 rfl) ?_
                refine lv_icmp_ge (tgt := 325) hx hb dX1_within_128 (by decide) (fun c_128 => ?_) (fun c_128 => ?_)
                · have c_128 : la ≤ fi := Nat.le_of_not_lt (fun h => nI_ge h (by omega) c_128)
                  refine lv_iconst (v := 1) hx hb dX1_within_325 (by decide) ?_
                  exact m_iret S hr hlk hM dX1_within_326 (⟨_, rfl, (WAm.i hr4 ho4).mpr (by rw [if_neg hnn, if_neg c_40]; exact Or.inl ⟨rfl, hw124.2.2.all hn hvl (htk _) c_128⟩), hw124.2.1.pt hw124.1⟩)
                · have c_128 : fi < la := Nat.lt_of_not_le (fun h => c_128 (nI_le h (by omega)))
                  obtain ⟨hq29, hqv, hqt, hrc⟩ := hw124.2.2.1 fi c_128
                  have hcs := hqv.1
                  refine lv_aload_n hx hb dX1_within_131 rfl (lv_at hl 0 rfl) ?_
                  refine m_get (v := .ref (a 29)) S hK hM.1 29 (by decide) fl_X1_69 rfl dX1_within_132 rfl ?_
                  refine lv_iload hx hb dX1_within_135 (lv_at hl 4 rfl) ?_
                  refine m_aldn (j := fi) (v := nI (qcd (qs fi) (qt fi))) S hK hM.1 29 (by decide) rfl (show fi < 65536 by omega) dX1_within_137 (hq29) ?_
                  refine lv_ldc (v := 65535) hx hb S.2.2.2.1 (S.2.2.2.2 _ q1383) dX1_within_138 ?_
                  refine lv_iand hx hb dX1_within_140 ?_
                  refine topi (z := nI (qs fi)) (qcd_s hcs hqt) ?_
                  refine lv_istore (lv' := [(6, .int (nI (qs fi))), (0, .ref (a 0)), (1, .int (nI r)), (2, .int (nI o)), (3, .int (nI (wrt r o))), (4, .int (nI fi)), (5, .int (nI la))]) hx hb dX1_within_141 hl (by decide) rfl (fun ls hl => ?_)
                  refine lv_aload_n hx hb dX1_within_143 rfl (lv_at hl 1 rfl) ?_
                  refine m_get (v := .ref (a 29)) S hK hM.1 29 (by decide) fl_X1_69 rfl dX1_within_144 rfl ?_
                  refine lv_iload hx hb dX1_within_147 (lv_at hl 5 rfl) ?_
                  refine m_aldn (j := fi) (v := nI (qcd (qs fi) (qt fi))) S hK hM.1 29 (by decide) rfl (show fi < 65536 by omega) dX1_within_149 (hq29) ?_
                  refine lv_bipush (v := 16) hx hb dX1_within_150 (by decide) ?_
                  refine lv_ishr hx hb dX1_within_152 ?_
                  refine topi (z := nI (qt fi)) (qcd_t hcs hqt) ?_
                  refine lv_istore (lv' := [(7, .int (nI (qt fi))), (6, .int (nI (qs fi))), (0, .ref (a 0)), (1, .int (nI r)), (2, .int (nI o)), (3, .int (nI (wrt r o))), (4, .int (nI fi)), (5, .int (nI la))]) hx hb dX1_within_153 hl (by decide) rfl (fun ls hl => ?_)
                  refine lv_iinc (v := nI (fi + 1)) (lv' := [(4, .int (nI (fi + 1))), (7, .int (nI (qt fi))), (6, .int (nI (qs fi))), (0, .ref (a 0)), (1, .int (nI r)), (2, .int (nI o)), (3, .int (nI (wrt r o))), (5, .int (nI la))]) hx hb dX1_within_155 hl (k := 6) rfl (nI_1 _) (by decide) rfl (fun ls hl => ?_)
                  refine lv_iconst (v := 0) hx hb dX1_within_158 (by decide) ?_
                  refine lv_istore (lv' := [(8, .int 0), (4, .int (nI (fi + 1))), (7, .int (nI (qt fi))), (6, .int (nI (qs fi))), (0, .ref (a 0)), (1, .int (nI r)), (2, .int (nI o)), (3, .int (nI (wrt r o))), (5, .int (nI la))]) hx hb dX1_within_159 hl (by decide) rfl (fun ls hl => ?_)
                  have hloop161 : ∀ (k161 i161 : Nat), i161 + k161 = 16 → ∀ (lb : Nat) (ps pt : Nat → Nat) (ω161 : MS) (H : Heap) (locs : List Loc), MB D dA a ω161 s.heap H locs → (WFm σ ω161 ∧ SN2 ω161 T ∧ QIm ω161 n net r o (wrt r o) (stAt n cp cq nc) (tkN n (wrt r o) cp cq nc) (nI (T + 1)) lb ps pt fi i161 ∧ ps fi = qs fi ∧ pt fi = qt fi ∧ fi < lb) → ∀ (ls : Array Slot), lv_has ls 14 [(0, .ref (a 0)), (1, .int (nI r)), (2, .int (nI o)), (3, .int (nI (wrt r o))), (4, .int (nI (fi + 1))), (5, .int (nI lb)), (6, .int (nI (qs fi))), (7, .int (nI (qt fi))), (8, .int (nI i161))] → W p l e ({ frames := 3, cells := 0, slots := 0, locals := 70 }) s m [.ref (a 0), .int (nI r), .int (nI o)].toArray below meth c H locs 0 0 (MZ below D dA a (fun v9 σ9 => ∃ u9, v9 = some (.int u9) ∧ WAm n net (stAt n cp cq nc) (fun r => tkN n r cp cq nc) (nI r) (nI o) u9 ∧ PTm σ σ9 T) [.ref (a 0), .int (nI r), .int (nI o)] s) (F0 m 161 ls []) := by
                    intro k161
                    induction k161 with
                    | zero =>
                      intro i161 hk161 lb ps pt ω161 H locs hM hw161 ls hl
                      obtain ⟨hps, hpt, hfl⟩ := hw161.2.2.2
                      have hlb := hw161.2.2.1.le
                      have hGw := hG.pu hw161.1.pu
                      have h17 := hw161.2.1.1
                      have hi161 : i161 = 16 := by omega
                      refine lv_iload hx hb dX1_within_161 (lv_at hl 8 rfl) ?_
                      refine lv_bipush (v := 16) hx hb dX1_within_163 (by decide) ?_
                      refine lv_icmp_ge (tgt := 322) hx hb dX1_within_165 (by decide) (fun c_165 => ?_) (fun c_165 => absurd (show nI 16 ≤ nI i161 from nI_le (by omega) (by omega)) c_165)
                      refine lv_goto (tgt := 124) hx hb dX1_within_322 (by decide) ?_
                      exact ih124 (fi + 1) (by omega) lb ps pt _ _ _ hM ⟨hw161.1, hw161.2.1, QIm.nx (by rw [hi161] at hw161; exact hw161.2.2.1)⟩ ls (lv_sub hl [0, 1, 2, 3, 4, 5] rfl)
                    | succ k161 ih161 =>
                      intro i161 hk161 lb ps pt ω161 H locs hM hw161 ls hl
                      obtain ⟨hps, hpt, hfl⟩ := hw161.2.2.2
                      have hlb := hw161.2.2.1.le
                      have hGw := hG.pu hw161.1.pu
                      have h17 := hw161.2.1.1
                      have hlt161 : i161 < 16 := by omega
                      have hp4 : i161 / 4 < 4 := by omega
                      have hq4 : i161 % 4 < 4 := by omega
                      refine lv_iload hx hb dX1_within_161 (lv_at hl 8 rfl) ?_
                      refine lv_bipush (v := 16) hx hb dX1_within_163 (by decide) ?_
                      refine lv_icmp_ge (tgt := 322) hx hb dX1_within_165 (by decide) (fun c_165 => absurd c_165 (show ¬ nI 16 ≤ nI i161 from nI_ge (by omega) (by omega))) (fun c_165 => ?_)
                      refine lv_iload hx hb dX1_within_168 (lv_at hl 8 rfl) ?_
                      refine lv_iconst (v := 4) hx hb dX1_within_170 (by decide) ?_
                      refine lv_idiv hx hb dX1_within_171 (by decide) ?_
                      refine topi (z := nI (i161 / 4)) (pk_div (d := 4) (by omega) (by decide) (by decide)) ?_
                      refine lv_istore (lv' := [(9, .int (nI (i161 / 4))), (0, .ref (a 0)), (1, .int (nI r)), (2, .int (nI o)), (3, .int (nI (wrt r o))), (4, .int (nI (fi + 1))), (5, .int (nI lb)), (6, .int (nI (qs fi))), (7, .int (nI (qt fi))), (8, .int (nI i161))]) hx hb dX1_within_172 hl (by decide) rfl (fun ls hl => ?_)
                      refine lv_iload hx hb dX1_within_174 (lv_at hl 9 rfl) ?_
                      refine lv_iconst (v := 4) hx hb dX1_within_176 (by decide) ?_
                      refine lv_irem hx hb dX1_within_177 (by decide) ?_
                      refine topi (z := nI (i161 % 4)) (pk_rem (d := 4) (by omega) (by decide) (by decide)) ?_
                      refine lv_istore (lv' := [(10, .int (nI (i161 % 4))), (9, .int (nI (i161 / 4))), (0, .ref (a 0)), (1, .int (nI r)), (2, .int (nI o)), (3, .int (nI (wrt r o))), (4, .int (nI (fi + 1))), (5, .int (nI lb)), (6, .int (nI (qs fi))), (7, .int (nI (qt fi))), (8, .int (nI i161))]) hx hb dX1_within_178 hl (by decide) rfl (fun ls hl => ?_)
                      refine lv_iload hx hb dX1_within_180 (lv_at hl 1 rfl) ?_
                      refine lv_aload_n hx hb dX1_within_182 rfl (lv_at hl 2 rfl) ?_
                      refine m_get (v := .int (ω161.1 5)) S hK hM.1 5 (by decide) fl_X1_82 rfl dX1_within_183 rfl ?_
                      refine topi (z := nI n) (hGw.2.1) ?_
                      refine lv_icmp_ge (tgt := 316) hx hb dX1_within_186 (by decide) (fun c_186 => ?_) (fun c_186 => ?_)
                      · have c_186 : n ≤ i161 / 4 := Nat.le_of_not_lt (fun h => nI_ge h (by omega) c_186)
                        refine lv_iinc (v := nI (i161 + 1)) (lv' := [(8, .int (nI (i161 + 1))), (10, .int (nI (i161 % 4))), (9, .int (nI (i161 / 4))), (0, .ref (a 0)), (1, .int (nI r)), (2, .int (nI o)), (3, .int (nI (wrt r o))), (4, .int (nI (fi + 1))), (5, .int (nI lb)), (6, .int (nI (qs fi))), (7, .int (nI (qt fi)))]) hx hb dX1_within_316 hl (k := 10) rfl (nI_1 _) (by decide) rfl (fun ls hl => ?_)
                        refine lv_goto (tgt := 161) hx hb dX1_within_319 (by decide) ?_
                        exact ih161 (i161 + 1) (by omega) lb ps pt _ _ _ hM ⟨hw161.1, hw161.2.1, hw161.2.2.1.sk (by rw [hps, hpt]; exact fun g1 g2 g3 => absurd g1 (by omega)), hps, hpt, hfl⟩ ls (lv_sub hl [3, 4, 5, 6, 7, 8, 9, 10, 0] rfl)
                      · have c_186 : i161 / 4 < n := Nat.lt_of_not_le (fun h => c_186 (nI_le h (by omega)))
                        refine lv_iload hx hb dX1_within_189 (lv_at hl 0 rfl) ?_
                        refine lv_aload_n hx hb dX1_within_191 rfl (lv_at hl 2 rfl) ?_
                        refine m_get (v := .int (ω161.1 5)) S hK hM.1 5 (by decide) fl_X1_82 rfl dX1_within_192 rfl ?_
                        refine topi (z := nI n) (hGw.2.1) ?_
                        refine lv_icmp_ge (tgt := 316) hx hb dX1_within_195 (by decide) (fun c_195 => ?_) (fun c_195 => ?_)
                        · have c_195 : n ≤ i161 % 4 := Nat.le_of_not_lt (fun h => nI_ge h (by omega) c_195)
                          refine lv_iinc (v := nI (i161 + 1)) (lv' := [(8, .int (nI (i161 + 1))), (10, .int (nI (i161 % 4))), (9, .int (nI (i161 / 4))), (0, .ref (a 0)), (1, .int (nI r)), (2, .int (nI o)), (3, .int (nI (wrt r o))), (4, .int (nI (fi + 1))), (5, .int (nI lb)), (6, .int (nI (qs fi))), (7, .int (nI (qt fi)))]) hx hb dX1_within_316 hl (k := 10) rfl (nI_1 _) (by decide) rfl (fun ls hl => ?_)
                          refine lv_goto (tgt := 161) hx hb dX1_within_319 (by decide) ?_
                          exact ih161 (i161 + 1) (by omega) lb ps pt _ _ _ hM ⟨hw161.1, hw161.2.1, hw161.2.2.1.sk (by rw [hps, hpt]; exact fun g1 g2 g3 => absurd g2 (by omega)), hps, hpt, hfl⟩ ls (lv_sub hl [3, 4, 5, 6, 7, 8, 9, 10, 0] rfl)
                        · have c_195 : i161 % 4 < n := Nat.lt_of_not_le (fun h => c_195 (nI_le h (by omega)))
                          refine lv_aload_n hx hb dX1_within_198 rfl (lv_at hl 2 rfl) ?_
                          refine m_get (v := .ref (a 6)) S hK hM.1 6 (by decide) fl_X1_19 rfl dX1_within_199 rfl ?_
                          refine lv_iload_n hx hb dX1_within_202 rfl (lv_at hl 3 rfl) ?_
                          refine lv_iload hx hb dX1_within_203 (lv_at hl 8 rfl) ?_
                          refine lv_iload hx hb dX1_within_205 (lv_at hl 9 rfl) ?_
                          refine lv_iload hx hb dX1_within_207 (lv_at hl 1 rfl) ?_
                          refine lv_iload hx hb dX1_within_209 (lv_at hl 0 rfl) ?_
                          refine rc_Si (rest := []) [.ref (a 6), .int (nI r), .int (nI (qs fi)), .int (nI (qt fi)), .int (nI (i161 / 4)), .int (nI (i161 % 4))] 6 S hK (r1_mayRing l D dA (a 6) _ net r (qs fi) (qt fi) (i161 / 4) (i161 % 4) (fun q hq => (hGw.2.2.1 q hq).1) (fun q hq => (hGw.2.2.1 q hq).2) (by first | assumption | omega | decide) (by first | assumption | omega | decide) (by first | assumption | omega | decide) (by first | assumption | omega | decide) (by first | assumption | omega | decide)) wl_X1_153 wd_X1_X1_mayRing rfl ⟨Nat.le_of_ble_eq_true rfl, Nat.le_of_ble_eq_true rfl⟩ hl.1 (Nat.le_of_ble_eq_true rfl) dX1_within_211 ⟨Nat.le_refl 0, Nat.le_refl 0⟩ (m_cell hM.1 6 (by decide) rfl) ?_ rfl
                          refine lv_if_ne (tgt := 220) hx hb dX1_within_214 (by decide) (fun c_214 => ?_) (fun c_214 => ?_)
                          · have c_214 := b2i_ne0.mp c_214
                            refine lv_aload_n hx hb dX1_within_220 rfl (lv_at hl 2 rfl) ?_
                            refine m_get (v := .ref (a 6)) S hK hM.1 6 (by decide) fl_X1_19 rfl dX1_within_221 rfl ?_
                            refine lv_iload_n hx hb dX1_within_224 rfl (lv_at hl 4 rfl) ?_
                            refine lv_iload hx hb dX1_within_225 (lv_at hl 8 rfl) ?_
                            refine lv_iload hx hb dX1_within_227 (lv_at hl 9 rfl) ?_
                            refine lv_iload hx hb dX1_within_229 (lv_at hl 1 rfl) ?_
                            refine lv_iload hx hb dX1_within_231 (lv_at hl 0 rfl) ?_
                            refine rc_Si (rest := []) [.ref (a 6), .int (nI o), .int (nI (qs fi)), .int (nI (qt fi)), .int (nI (i161 / 4)), .int (nI (i161 % 4))] 6 S hK (r1_mayRing l D dA (a 6) _ net o (qs fi) (qt fi) (i161 / 4) (i161 % 4) (fun q hq => (hGw.2.2.1 q hq).1) (fun q hq => (hGw.2.2.1 q hq).2) (by first | assumption | omega | decide) (by first | assumption | omega | decide) (by first | assumption | omega | decide) (by first | assumption | omega | decide) (by first | assumption | omega | decide)) wl_X1_153 wd_X1_X1_mayRing rfl ⟨Nat.le_of_ble_eq_true rfl, Nat.le_of_ble_eq_true rfl⟩ hl.1 (Nat.le_of_ble_eq_true rfl) dX1_within_233 ⟨Nat.le_refl 0, Nat.le_refl 0⟩ (m_cell hM.1 6 (by decide) rfl) ?_ rfl
                            refine lv_if_ne (tgt := 241) hx hb dX1_within_236 (by decide) (fun c_236 => ?_) (fun c_236 => ?_)
                            · have c_236 := b2i_ne0.mp c_236
                              have hv9 := vld_aft hn hqv c_186 c_195
                              have ht9 : (tkA (wrt r o) (qt fi) (i161 / 4) (i161 % 4)) < 16 := tkA_lt hqt (by omega)
                              have hs9 := hv9.1
                              refine lv_iload hx hb dX1_within_241 (lv_at hl 8 rfl) ?_
                              refine lv_iload hx hb dX1_within_243 (lv_at hl 1 rfl) ?_
                              refine lv_iload hx hb dX1_within_245 (lv_at hl 0 rfl) ?_
                              refine rc_Si (rest := []) [.int (nI (qs fi)), .int (nI (i161 / 4)), .int (nI (i161 % 4))] 3 S hK (r1_afterCall l D dA (qs fi) (i161 / 4) (i161 % 4) (by first | assumption | omega | decide) (by first | assumption | omega | decide) (by first | assumption | omega | decide)) wl_X1_117 wd_X1_X1_afterCall rfl ⟨Nat.le_of_ble_eq_true rfl, Nat.le_of_ble_eq_true rfl⟩ hl.1 (Nat.le_of_ble_eq_true rfl) dX1_within_247 ⟨Nat.le_refl 0, Nat.le_refl 0⟩ (trivial) ?_ rfl
                              refine lv_istore (lv' := [(11, .int (nI (aft (qs fi) (i161 / 4) (i161 % 4)))), (10, .int (nI (i161 % 4))), (9, .int (nI (i161 / 4))), (0, .ref (a 0)), (1, .int (nI r)), (2, .int (nI o)), (3, .int (nI (wrt r o))), (4, .int (nI (fi + 1))), (5, .int (nI lb)), (6, .int (nI (qs fi))), (7, .int (nI (qt fi))), (8, .int (nI i161))]) hx hb dX1_within_250 hl (by decide) rfl (fun ls hl => ?_)
                              refine lv_iload hx hb dX1_within_252 (lv_at hl 10 rfl) ?_
                              refine lv_iload_n hx hb dX1_within_254 rfl (lv_at hl 6 rfl) ?_
                              refine lv_iload hx hb dX1_within_255 (lv_at hl 2 rfl) ?_
                              refine lv_iload hx hb dX1_within_257 (lv_at hl 1 rfl) ?_
                              refine rc_Si (rest := []) [.int (nI (qt fi)), .int (nI (wrt r o)), .int (nI (i161 / 4)), .int (nI (i161 % 4))] 4 S hK (r1_tokensAfter l D dA (qt fi) (wrt r o) (i161 / 4) (i161 % 4) (by first | assumption | omega | decide) (by first | assumption | omega | decide) (by first | assumption | omega | decide) (by first | assumption | omega | decide)) wl_X1_121 wd_X1_X1_tokensAfter rfl ⟨Nat.le_of_ble_eq_true rfl, Nat.le_of_ble_eq_true rfl⟩ hl.1 (Nat.le_of_ble_eq_true rfl) dX1_within_259 ⟨Nat.le_refl 0, Nat.le_refl 0⟩ (trivial) ?_ rfl
                              refine lv_istore (lv' := [(12, .int (nI (tkA (wrt r o) (qt fi) (i161 / 4) (i161 % 4)))), (11, .int (nI (aft (qs fi) (i161 / 4) (i161 % 4)))), (10, .int (nI (i161 % 4))), (9, .int (nI (i161 / 4))), (0, .ref (a 0)), (1, .int (nI r)), (2, .int (nI o)), (3, .int (nI (wrt r o))), (4, .int (nI (fi + 1))), (5, .int (nI lb)), (6, .int (nI (qs fi))), (7, .int (nI (qt fi))), (8, .int (nI i161))]) hx hb dX1_within_262 hl (by decide) rfl (fun ls hl => ?_)
                              refine lv_iload hx hb dX1_within_264 (lv_at hl 1 rfl) ?_
                              refine lv_iload hx hb dX1_within_266 (lv_at hl 0 rfl) ?_
                              refine rc_Si (rest := []) [.int (nI (aft (qs fi) (i161 / 4) (i161 % 4))), .int (nI (tkA (wrt r o) (qt fi) (i161 / 4) (i161 % 4)))] 2 S hK (r1_placeOf l D dA (aft (qs fi) (i161 / 4) (i161 % 4)) (tkA (wrt r o) (qt fi) (i161 / 4) (i161 % 4)) (by first | assumption | omega | decide) (by first | assumption | omega | decide)) wl_X1_158 wd_X1_X1_placeOf rfl ⟨Nat.le_of_ble_eq_true rfl, Nat.le_of_ble_eq_true rfl⟩ hl.1 (Nat.le_of_ble_eq_true rfl) dX1_within_268 ⟨Nat.le_refl 0, Nat.le_refl 0⟩ (trivial) ?_ rfl
                              refine lv_istore (lv' := [(13, .int (nI (plc (aft (qs fi) (i161 / 4) (i161 % 4)) (tkA (wrt r o) (qt fi) (i161 / 4) (i161 % 4))))), (12, .int (nI (tkA (wrt r o) (qt fi) (i161 / 4) (i161 % 4)))), (11, .int (nI (aft (qs fi) (i161 / 4) (i161 % 4)))), (10, .int (nI (i161 % 4))), (9, .int (nI (i161 / 4))), (0, .ref (a 0)), (1, .int (nI r)), (2, .int (nI o)), (3, .int (nI (wrt r o))), (4, .int (nI (fi + 1))), (5, .int (nI lb)), (6, .int (nI (qs fi))), (7, .int (nI (qt fi))), (8, .int (nI i161))]) hx hb dX1_within_271 hl (by decide) rfl (fun ls hl => ?_)
                              refine lv_aload_n hx hb dX1_within_273 rfl (lv_at hl 5 rfl) ?_
                              refine m_get (v := .ref (a 12)) S hK hM.1 12 (by decide) fl_X1_32 rfl dX1_within_274 rfl ?_
                              refine lv_iload hx hb dX1_within_277 (lv_at hl 0 rfl) ?_
                              refine m_aldn (j := plc (aft (qs fi) (i161 / 4) (i161 % 4)) (tkA (wrt r o) (qt fi) (i161 / 4) (i161 % 4))) (v := (ω161.2.1 12) (plc (aft (qs fi) (i161 / 4) (i161 % 4)) (tkA (wrt r o) (qt fi) (i161 / 4) (i161 % 4)))) S hK hM.1 12 (by decide) rfl (plc_lt _ _) dX1_within_279 (rfl) ?_
                              refine lv_aload_n hx hb dX1_within_280 rfl (lv_at hl 5 rfl) ?_
                              refine m_get (v := .int (ω161.1 17)) S hK hM.1 17 (by decide) fl_X1_161 rfl dX1_within_281 rfl ?_
                              refine topi (z := nI (T + 1)) (h17) ?_
                              refine lv_icmp_eq (tgt := 316) hx hb dX1_within_284 (by decide) (fun c_284 => ?_) (fun c_284 => ?_)
                              · refine lv_iinc (v := nI (i161 + 1)) (lv' := [(8, .int (nI (i161 + 1))), (13, .int (nI (plc (aft (qs fi) (i161 / 4) (i161 % 4)) (tkA (wrt r o) (qt fi) (i161 / 4) (i161 % 4))))), (12, .int (nI (tkA (wrt r o) (qt fi) (i161 / 4) (i161 % 4)))), (11, .int (nI (aft (qs fi) (i161 / 4) (i161 % 4)))), (10, .int (nI (i161 % 4))), (9, .int (nI (i161 / 4))), (0, .ref (a 0)), (1, .int (nI r)), (2, .int (nI o)), (3, .int (nI (wrt r o))), (4, .int (nI (fi + 1))), (5, .int (nI lb)), (6, .int (nI (qs fi))), (7, .int (nI (qt fi)))]) hx hb dX1_within_316 hl (k := 13) rfl (nI_1 _) (by decide) rfl (fun ls hl => ?_)
                                refine lv_goto (tgt := 161) hx hb dX1_within_319 (by decide) ?_
                                exact ih161 (i161 + 1) (by omega) lb ps pt _ _ _ hM ⟨hw161.1, hw161.2.1, hw161.2.2.1.sk (by rw [hps, hpt]; exact fun g1 g2 g3 => ⟨c_236, c_284⟩), hps, hpt, hfl⟩ ls (lv_sub hl [6, 7, 8, 9, 10, 11, 12, 13, 0] rfl)
                              · refine lv_aload_n hx hb dX1_within_287 rfl (lv_at hl 5 rfl) ?_
                                refine m_get (v := .ref (a 12)) S hK hM.1 12 (by decide) fl_X1_32 rfl dX1_within_288 rfl ?_
                                refine lv_iload hx hb dX1_within_291 (lv_at hl 0 rfl) ?_
                                refine lv_aload_n hx hb dX1_within_293 rfl (lv_at hl 5 rfl) ?_
                                refine m_get (v := .int (ω161.1 17)) S hK hM.1 17 (by decide) fl_X1_161 rfl dX1_within_294 rfl ?_
                                refine topi (z := nI (T + 1)) (h17) ?_
                                refine m_astn (j := plc (aft (qs fi) (i161 / 4) (i161 % 4)) (tkA (wrt r o) (qt fi) (i161 / 4) (i161 % 4))) hI S hK hM 12 (by decide) rfl (plc_lt _ _) dX1_within_297 (fun H locs hM => ?_)
                                refine lv_aload_n hx hb dX1_within_298 rfl (lv_at hl 5 rfl) ?_
                                refine m_get (v := .ref (a 29)) S hK hM.1 29 (by decide) fl_X1_69 rfl dX1_within_299 rfl ?_
                                refine lv_iload hx hb dX1_within_302 (lv_at hl 10 rfl) ?_
                                refine lv_iload hx hb dX1_within_304 (lv_at hl 2 rfl) ?_
                                refine lv_iload hx hb dX1_within_306 (lv_at hl 1 rfl) ?_
                                refine lv_bipush (v := 16) hx hb dX1_within_308 (by decide) ?_
                                refine lv_ishl hx hb dX1_within_310 ?_
                                refine lv_ior hx hb dX1_within_311 ?_
                                refine topi (z := nI (qcd (aft (qs fi) (i161 / 4) (i161 % 4)) (tkA (wrt r o) (qt fi) (i161 / 4) (i161 % 4)))) (qcd_i hs9 ht9) ?_
                                refine m_astn (j := lb) hI S hK hM 29 (by decide) rfl (show lb < 65536 from hw161.2.2.1.lt (plc_lt _ _) c_284) dX1_within_312 (fun H locs hM => ?_)
                                have hM : MB D dA a ((ω161.b 12 (upd (ω161.2.1 12) (plc (aft (qs fi) (i161 / 4) (i161 % 4)) (tkA (wrt r o) (qt fi) (i161 / 4) (i161 % 4))) (nI (T + 1)))).b 29 (upd (ω161.2.1 29) lb (nI (qcd (aft (qs fi) (i161 / 4) (i161 % 4)) (tkA (wrt r o) (qt fi) (i161 / 4) (i161 % 4)))))) s.heap H locs := hM
                                refine lv_iinc (v := nI (lb + 1)) (lv' := [(5, .int (nI (lb + 1))), (13, .int (nI (plc (aft (qs fi) (i161 / 4) (i161 % 4)) (tkA (wrt r o) (qt fi) (i161 / 4) (i161 % 4))))), (12, .int (nI (tkA (wrt r o) (qt fi) (i161 / 4) (i161 % 4)))), (11, .int (nI (aft (qs fi) (i161 / 4) (i161 % 4)))), (10, .int (nI (i161 % 4))), (9, .int (nI (i161 / 4))), (0, .ref (a 0)), (1, .int (nI r)), (2, .int (nI o)), (3, .int (nI (wrt r o))), (4, .int (nI (fi + 1))), (6, .int (nI (qs fi))), (7, .int (nI (qt fi))), (8, .int (nI i161))]) hx hb dX1_within_313 hl (k := 10) rfl (nI_1 _) (by decide) rfl (fun ls hl => ?_)
                                refine lv_iinc (v := nI (i161 + 1)) (lv' := [(8, .int (nI (i161 + 1))), (5, .int (nI (lb + 1))), (13, .int (nI (plc (aft (qs fi) (i161 / 4) (i161 % 4)) (tkA (wrt r o) (qt fi) (i161 / 4) (i161 % 4))))), (12, .int (nI (tkA (wrt r o) (qt fi) (i161 / 4) (i161 % 4)))), (11, .int (nI (aft (qs fi) (i161 / 4) (i161 % 4)))), (10, .int (nI (i161 % 4))), (9, .int (nI (i161 / 4))), (0, .ref (a 0)), (1, .int (nI r)), (2, .int (nI o)), (3, .int (nI (wrt r o))), (4, .int (nI (fi + 1))), (6, .int (nI (qs fi))), (7, .int (nI (qt fi)))]) hx hb dX1_within_316 hl (k := 13) rfl (nI_1 _) (by decide) rfl (fun ls hl => ?_)
                                refine lv_goto (tgt := 161) hx hb dX1_within_319 (by decide) ?_
                                exact ih161 (i161 + 1) (by omega) (lb + 1) (fU ps lb (aft (qs fi) (i161 / 4) (i161 % 4))) (fU pt lb (tkA (wrt r o) (qt fi) (i161 / 4) (i161 % 4))) _ _ _ hM ⟨hw161.1.b, hw161.2.1.b, QIm.pu hw161.2.2.1 hfl hv9 ht9 (hrc.st c_186 c_195 c_214) c_284 (by rw [hps, hpt]; exact c_236) (by rw [hps]) (by rw [hpt]), by rw [fU_n (by omega), hps], by rw [fU_n (by omega), hpt], by omega⟩ ls (lv_sub hl [7, 8, 9, 10, 11, 1, 12, 13, 0] rfl)
                            · have c_236 := b2i_eq0.mp c_236
                              refine lv_iconst (v := 0) hx hb dX1_within_239 (by decide) ?_
                              exact m_iret S hr hlk hM dX1_within_240 (⟨_, rfl, (WAm.i hr4 ho4).mpr (by rw [if_neg hnn, if_neg c_40]; exact Or.inr ⟨rfl, fun hw9 => by have h9 := hw9 _ _ hrc _ _ c_186 c_195 c_214; rw [c_236] at h9; cases h9⟩), hw161.2.1.pt hw161.1⟩)
                          · have c_214 := b2i_eq0.mp c_214
                            refine lv_goto (tgt := 316) hx hb dX1_within_217 (by decide) ?_
                            refine lv_iinc (v := nI (i161 + 1)) (lv' := [(8, .int (nI (i161 + 1))), (10, .int (nI (i161 % 4))), (9, .int (nI (i161 / 4))), (0, .ref (a 0)), (1, .int (nI r)), (2, .int (nI o)), (3, .int (nI (wrt r o))), (4, .int (nI (fi + 1))), (5, .int (nI lb)), (6, .int (nI (qs fi))), (7, .int (nI (qt fi)))]) hx hb dX1_within_316 hl (k := 10) rfl (nI_1 _) (by decide) rfl (fun ls hl => ?_)
                            refine lv_goto (tgt := 161) hx hb dX1_within_319 (by decide) ?_
                            exact ih161 (i161 + 1) (by omega) lb ps pt _ _ _ hM ⟨hw161.1, hw161.2.1, hw161.2.2.1.sk (by rw [hps, hpt]; exact fun g1 g2 g3 => absurd g3 (by rw [c_214]; decide)), hps, hpt, hfl⟩ ls (lv_sub hl [3, 4, 5, 6, 7, 8, 9, 10, 0] rfl)
                  exact hloop161 16 0 (by omega) la qs qt _ _ _ hM ⟨hw124.1, hw124.2.1, hw124.2.2, rfl, rfl, c_128⟩ ls (lv_sub hl [4, 5, 6, 7, 1, 8, 3, 2, 0] rfl)
            exact hloop124 65536 0 (by omega) 1 (fun _ => (stAt n cp cq nc)) (fun _ => (tkN n (wrt r o) cp cq nc)) _ _ _ hM ⟨hWF.b2, hS2.b2, QIm.in0 hvl (htk _) hu⟩ ls (lv_sub hl [3, 4, 5, 2, 1, 0] rfl)
          · have c_40 : n = 0 := nI_inj (by omega) (by decide) c_40
            refine lv_bipush (v := (-3)) hx hb dX1_within_43 (by decide) ?_
            exact m_iret S hr hlk hM dX1_within_45 (⟨_, rfl, (WAm.i hr4 ho4).mpr (by rw [if_neg hnn, if_pos c_40]), PTm.rf hSN⟩)
        · have c_25 : 1 < r := Nat.lt_of_not_le (fun h => c_25 (nI_le h (by decide)))
          refine lv_iload_n hx hb dX1_within_28 rfl (lv_at hl 2 rfl) ?_
          refine lv_iconst (v := 1) hx hb dX1_within_29 (by decide) ?_
          refine lv_icmp_le (tgt := 36) hx hb dX1_within_30 (by decide) (fun c_30 => ?_) (fun c_30 => ?_)
          · have c_30 : o ≤ 1 := Nat.le_of_not_lt (fun h => nI_ge h (by omega) c_30)
            have hnn : ¬ (1 < r ∧ 1 < o ∧ ¬ r = o) := by omega
            refine lv_aload_n hx hb dX1_within_36 rfl (lv_at hl 0 rfl) ?_
            refine m_get (v := .int (σ.1 5)) S hK hM.1 5 (by decide) fl_X1_82 rfl dX1_within_37 rfl ?_
            refine topi (z := nI n) (hGw.2.1) ?_
            refine lv_if_ne (tgt := 46) hx hb dX1_within_40 (by decide) (fun c_40 => ?_) (fun c_40 => ?_)
            · have c_40 : ¬ n = 0 := fun h => c_40 (congrArg nI h)
              refine lv_iload_n hx hb dX1_within_46 rfl (lv_at hl 1 rfl) ?_
              refine lv_iconst (v := 1) hx hb dX1_within_47 (by decide) ?_
              refine lv_icmp_le (tgt := 55) hx hb dX1_within_48 (by decide) (fun c_48 => absurd c_48 (show ¬ nI r ≤ nI 1 from nI_ge c_25 (by omega))) (fun c_48 => ?_)
              refine lv_iload_n hx hb dX1_within_51 rfl (lv_at hl 1 rfl) ?_
              refine lv_goto (tgt := 56) hx hb dX1_within_52 (by decide) ?_
              have c_48 := c_25
              refine topi (z := nI (wrt r o)) (by rw [wrt, if_pos c_48]) ?_
              refine lv_istore_n (lv' := [(3, .int (nI (wrt r o))), (0, .ref (a 0)), (1, .int (nI r)), (2, .int (nI o))]) hx hb dX1_within_56 rfl hl (by decide) rfl (fun ls hl => ?_)
              refine lv_aload_n hx hb dX1_within_57 rfl (lv_at hl 1 rfl) ?_
              refine lv_aload_n hx hb dX1_within_58 rfl (lv_at hl 1 rfl) ?_
              refine m_get (v := .ref (a 6)) S hK hM.1 6 (by decide) fl_X1_19 rfl dX1_within_59 rfl ?_
              refine lv_aload_n hx hb dX1_within_62 rfl (lv_at hl 1 rfl) ?_
              refine m_get (v := .int (σ.1 5)) S hK hM.1 5 (by decide) fl_X1_82 rfl dX1_within_63 rfl ?_
              refine topi (z := nI n) (hGw.2.1) ?_
              refine lv_iload_n hx hb dX1_within_66 rfl (lv_at hl 2 rfl) ?_
              refine mc_Vv (rest := []) [.ref (a 6), .int (nI n), .int (nI r)] 3 S hK hM (m1_lookAt l D dA a hI σ (a 6) (nI n) (nI r)) wl_X1_184 wd_X1_X1_lookAt rfl ⟨Nat.le_of_ble_eq_true rfl, Nat.le_of_ble_eq_true rfl⟩ hl.1 (Nat.le_of_ble_eq_true rfl) dX1_within_67 ⟨Nat.le_refl 0, Nat.le_refl 0⟩ (fun H locs hM => ?_) rfl
              have hM : MB D dA a ((((σ.i 17 ((σ.1 17) + 1)).r (a 6)).i 22 (nI n)).i 23 (nI r)) s.heap H locs := hM
              have hWF : WFm σ ((((σ.i 17 ((σ.1 17) + 1)).r (a 6)).i 22 (nI n)).i 23 (nI r)) := WFm.lk
              have hS2 : SN2 ((((σ.i 17 ((σ.1 17) + 1)).r (a 6)).i 22 (nI n)).i 23 (nI r)) T := ⟨turn1 hSN, fun pl => (hSN.2 pl).elim fun x hx => ⟨x, by omega, hx.2⟩⟩
              have hu : ∀ pl, ¬ ((((σ.i 17 ((σ.1 17) + 1)).r (a 6)).i 22 (nI n)).i 23 (nI r)).2.1 12 pl = nI (T + 1) := fun pl => hSN.un hT pl
              have hGw := hG.pu hWF.pu
              have h17 := hS2.1
              generalize hω0 : ((((σ.i 17 ((σ.1 17) + 1)).r (a 6)).i 22 (nI n)).i 23 (nI r)) = ω0 at hM hWF hS2 hu hGw h17
              refine lv_iconst (v := 0) hx hb dX1_within_70 (by decide) ?_
              refine lv_istore (lv' := [(4, .int 0), (3, .int (nI (wrt r o))), (0, .ref (a 0)), (1, .int (nI r)), (2, .int (nI o))]) hx hb dX1_within_71 hl (by decide) rfl (fun ls hl => ?_)
              refine lv_iconst (v := 1) hx hb dX1_within_73 (by decide) ?_
              refine lv_istore (lv' := [(5, .int 1), (4, .int 0), (3, .int (nI (wrt r o))), (0, .ref (a 0)), (1, .int (nI r)), (2, .int (nI o))]) hx hb dX1_within_74 hl (by decide) rfl (fun ls hl => ?_)
              refine lv_aload_n hx hb dX1_within_76 rfl (lv_at hl 3 rfl) ?_
              refine m_get (v := .ref (a 29)) S hK hM.1 29 (by decide) fl_X1_69 rfl dX1_within_77 rfl ?_
              refine lv_iconst (v := 0) hx hb dX1_within_80 (by decide) ?_
              refine lv_aload_n hx hb dX1_within_81 rfl (lv_at hl 3 rfl) ?_
              refine lv_aload_n hx hb dX1_within_82 rfl (lv_at hl 3 rfl) ?_
              refine m_get (v := .int (ω0.1 9)) S hK hM.1 9 (by decide) fl_X1_103 rfl dX1_within_83 rfl ?_
              refine topi (z := nI nc) (hGw.2.2.2.2.1) ?_
              refine rc_Vi (rest := [.int 0, .ref (a 29)]) [.int (nI nc)] 1 S hK (r1_stateAt l D dA a ω0 n net nc cp cq hGw nc (by first | assumption | omega | decide)) wl_X1_128 wd_X1_X1_stateAt rfl ⟨Nat.le_of_ble_eq_true rfl, Nat.le_of_ble_eq_true rfl⟩ (m_recv hK hM.1) hl.1 (Nat.le_of_ble_eq_true rfl) dX1_within_86 ⟨Nat.le_refl 0, Nat.le_refl 0⟩ (hM.1) ?_ rfl
              refine lv_aload_n hx hb dX1_within_89 rfl (lv_at hl 3 rfl) ?_
              refine lv_iload_n hx hb dX1_within_90 rfl (lv_at hl 2 rfl) ?_
              refine rc_Vi (rest := [.int (nI (stAt n cp cq nc)), .int 0, .ref (a 29)]) [.int (nI (wrt r o))] 1 S hK (r1_tokensNow l D dA a ω0 n net nc cp cq hGw (wrt r o) (by first | assumption | omega | decide)) wl_X1_135 wd_X1_X1_tokensNow rfl ⟨Nat.le_of_ble_eq_true rfl, Nat.le_of_ble_eq_true rfl⟩ (m_recv hK hM.1) hl.1 (Nat.le_of_ble_eq_true rfl) dX1_within_91 ⟨Nat.le_refl 0, Nat.le_refl 0⟩ (hM.1) ?_ rfl
              refine lv_bipush (v := 16) hx hb dX1_within_94 (by decide) ?_
              refine lv_ishl hx hb dX1_within_96 ?_
              refine lv_ior hx hb dX1_within_97 ?_
              refine topi (z := nI (qcd (stAt n cp cq nc) (tkN n (wrt r o) cp cq nc))) (qcd_i hst (htk _)) ?_
              refine m_astn (j := 0) hI S hK hM 29 (by decide) rfl (by decide) dX1_within_98 (fun H locs hM => ?_)
              have hGw : MG (ω0.b 29 (upd (ω0.2.1 29) 0 (nI (qcd (stAt n cp cq nc) (tkN n (wrt r o) cp cq nc))))) n net nc cp cq := hGw.pu ⟨rfl, rfl, rfl, rfl, rfl, rfl, rfl, rfl, rfl, rfl⟩
              refine lv_aload_n hx hb dX1_within_99 rfl (lv_at hl 3 rfl) ?_
              refine m_get (v := .ref (a 12)) S hK hM.1 12 (by decide) fl_X1_32 rfl dX1_within_100 rfl ?_
              refine lv_aload_n hx hb dX1_within_103 rfl (lv_at hl 3 rfl) ?_
              refine lv_aload_n hx hb dX1_within_104 rfl (lv_at hl 3 rfl) ?_
              refine m_get (v := .int (ω0.1 9)) S hK hM.1 9 (by decide) fl_X1_103 rfl dX1_within_105 rfl ?_
              refine topi (z := nI nc) (hGw.2.2.2.2.1) ?_
              refine rc_Vi (rest := [.ref (a 12)]) [.int (nI nc)] 1 S hK (r1_stateAt l D dA a (ω0.b 29 (upd (ω0.2.1 29) 0 (nI (qcd (stAt n cp cq nc) (tkN n (wrt r o) cp cq nc))))) n net nc cp cq hGw nc (by first | assumption | omega | decide)) wl_X1_128 wd_X1_X1_stateAt rfl ⟨Nat.le_of_ble_eq_true rfl, Nat.le_of_ble_eq_true rfl⟩ (m_recv hK hM.1) hl.1 (Nat.le_of_ble_eq_true rfl) dX1_within_108 ⟨Nat.le_refl 0, Nat.le_refl 0⟩ (hM.1) ?_ rfl
              refine lv_aload_n hx hb dX1_within_111 rfl (lv_at hl 3 rfl) ?_
              refine lv_iload_n hx hb dX1_within_112 rfl (lv_at hl 2 rfl) ?_
              refine rc_Vi (rest := [.int (nI (stAt n cp cq nc)), .ref (a 12)]) [.int (nI (wrt r o))] 1 S hK (r1_tokensNow l D dA a (ω0.b 29 (upd (ω0.2.1 29) 0 (nI (qcd (stAt n cp cq nc) (tkN n (wrt r o) cp cq nc))))) n net nc cp cq hGw (wrt r o) (by first | assumption | omega | decide)) wl_X1_135 wd_X1_X1_tokensNow rfl ⟨Nat.le_of_ble_eq_true rfl, Nat.le_of_ble_eq_true rfl⟩ (m_recv hK hM.1) hl.1 (Nat.le_of_ble_eq_true rfl) dX1_within_113 ⟨Nat.le_refl 0, Nat.le_refl 0⟩ (hM.1) ?_ rfl
              refine rc_Si (rest := [.ref (a 12)]) [.int (nI (stAt n cp cq nc)), .int (nI (tkN n (wrt r o) cp cq nc))] 2 S hK (r1_placeOf l D dA (stAt n cp cq nc) (tkN n (wrt r o) cp cq nc) (by first | assumption | omega | decide) (by first | assumption | omega | decide)) wl_X1_158 wd_X1_X1_placeOf rfl ⟨Nat.le_of_ble_eq_true rfl, Nat.le_of_ble_eq_true rfl⟩ hl.1 (Nat.le_of_ble_eq_true rfl) dX1_within_116 ⟨Nat.le_refl 0, Nat.le_refl 0⟩ (trivial) ?_ rfl
              refine lv_aload_n hx hb dX1_within_119 rfl (lv_at hl 3 rfl) ?_
              refine m_get (v := .int (ω0.1 17)) S hK hM.1 17 (by decide) fl_X1_161 rfl dX1_within_120 rfl ?_
              refine topi (z := nI (T + 1)) (h17) ?_
              refine m_astn (j := plc (stAt n cp cq nc) (tkN n (wrt r o) cp cq nc)) hI S hK hM 12 (by decide) rfl (plc_lt _ _) dX1_within_123 (fun H locs hM => ?_)
              have hM : MB D dA a ((ω0.b 29 (upd (ω0.2.1 29) 0 (nI (qcd (stAt n cp cq nc) (tkN n (wrt r o) cp cq nc))))).b 12 (upd (ω0.2.1 12) (plc (stAt n cp cq nc) (tkN n (wrt r o) cp cq nc)) (nI (T + 1)))) s.heap H locs := hM
              have hloop124 : ∀ (k124 fi : Nat), fi + k124 = 65536 → ∀ (la : Nat) (qs qt : Nat → Nat) (ω124 : MS) (H : Heap) (locs : List Loc), MB D dA a ω124 s.heap H locs → (WFm σ ω124 ∧ SN2 ω124 T ∧ QIm ω124 n net r o (wrt r o) (stAt n cp cq nc) (tkN n (wrt r o) cp cq nc) (nI (T + 1)) la qs qt fi 0) → ∀ (ls : Array Slot), lv_has ls 14 [(0, .ref (a 0)), (1, .int (nI r)), (2, .int (nI o)), (3, .int (nI (wrt r o))), (4, .int (nI fi)), (5, .int (nI la))] → W p l e ({ frames := 3, cells := 0, slots := 0, locals := 70 }) s m [.ref (a 0), .int (nI r), .int (nI o)].toArray below meth c H locs 0 0 (MZ below D dA a (fun v9 σ9 => ∃ u9, v9 = some (.int u9) ∧ WAm n net (stAt n cp cq nc) (fun r => tkN n r cp cq nc) (nI r) (nI o) u9 ∧ PTm σ σ9 T) [.ref (a 0), .int (nI r), .int (nI o)] s) (F0 m 124 ls []) := by
                intro k124
                induction k124 with
                | zero =>
                  intro fi hk124 la qs qt ω124 H locs hM hw124 ls hl
                  have hle := hw124.2.2.le
                  have hGw := hG.pu hw124.1.pu
                  refine lv_iload hx hb dX1_within_124 (lv_at hl 4 rfl) ?_
                  refine lv_iload hx hb dX1_within_126 (lv_at hl 5 rfl) ?_
                  refine lv_icmp_ge (tgt := 325) hx hb dX1_within_128 (by decide) (fun c_128 => ?_) (fun c_128 => absurd (show nI la ≤ nI fi from nI_le (by omega) (by omega)) c_128)
                  have c_128 : la ≤ fi := by omega
                  refine lv_iconst (v := 1) hx hb dX1_within_325 (by decide) ?_
                  exact m_iret S hr hlk hM dX1_within_326 (⟨_, rfl, (WAm.i hr4 ho4).mpr (by rw [if_neg hnn, if_neg c_40]; exact Or.inl ⟨rfl, hw124.2.2.all hn hvl (htk _) c_128⟩), hw124.2.1.pt hw124.1⟩)
                | succ k124 ih124 =>
                  intro fi hk124 la qs qt ω124 H locs hM hw124 ls hl
                  have hle := hw124.2.2.le
                  have hGw := hG.pu hw124.1.pu
                  refine lv_iload hx hb dX1_within_124 (lv_at hl 4 rfl) ?_
                  refine lv_iload hx hb dX1_within_126 (lv_at hl 5 rfl) ?_
                  refine lv_icmp_ge (tgt := 325) hx hb dX1_within_128 (by decide) (fun c_128 => ?_) (fun c_128 => ?_)
                  · have c_128 : la ≤ fi := Nat.le_of_not_lt (fun h => nI_ge h (by omega) c_128)
                    refine lv_iconst (v := 1) hx hb dX1_within_325 (by decide) ?_
                    exact m_iret S hr hlk hM dX1_within_326 (⟨_, rfl, (WAm.i hr4 ho4).mpr (by rw [if_neg hnn, if_neg c_40]; exact Or.inl ⟨rfl, hw124.2.2.all hn hvl (htk _) c_128⟩), hw124.2.1.pt hw124.1⟩)
                  · have c_128 : fi < la := Nat.lt_of_not_le (fun h => c_128 (nI_le h (by omega)))
                    obtain ⟨hq29, hqv, hqt, hrc⟩ := hw124.2.2.1 fi c_128
                    have hcs := hqv.1
                    refine lv_aload_n hx hb dX1_within_131 rfl (lv_at hl 0 rfl) ?_
                    refine m_get (v := .ref (a 29)) S hK hM.1 29 (by decide) fl_X1_69 rfl dX1_within_132 rfl ?_
                    refine lv_iload hx hb dX1_within_135 (lv_at hl 4 rfl) ?_
                    refine m_aldn (j := fi) (v := nI (qcd (qs fi) (qt fi))) S hK hM.1 29 (by decide) rfl (show fi < 65536 by omega) dX1_within_137 (hq29) ?_
                    refine lv_ldc (v := 65535) hx hb S.2.2.2.1 (S.2.2.2.2 _ q1383) dX1_within_138 ?_
                    refine lv_iand hx hb dX1_within_140 ?_
                    refine topi (z := nI (qs fi)) (qcd_s hcs hqt) ?_
                    refine lv_istore (lv' := [(6, .int (nI (qs fi))), (0, .ref (a 0)), (1, .int (nI r)), (2, .int (nI o)), (3, .int (nI (wrt r o))), (4, .int (nI fi)), (5, .int (nI la))]) hx hb dX1_within_141 hl (by decide) rfl (fun ls hl => ?_)
                    refine lv_aload_n hx hb dX1_within_143 rfl (lv_at hl 1 rfl) ?_
                    refine m_get (v := .ref (a 29)) S hK hM.1 29 (by decide) fl_X1_69 rfl dX1_within_144 rfl ?_
                    refine lv_iload hx hb dX1_within_147 (lv_at hl 5 rfl) ?_
                    refine m_aldn (j := fi) (v := nI (qcd (qs fi) (qt fi))) S hK hM.1 29 (by decide) rfl (show fi < 65536 by omega) dX1_within_149 (hq29) ?_
                    refine lv_bipush (v := 16) hx hb dX1_within_150 (by decide) ?_
                    refine lv_ishr hx hb dX1_within_152 ?_
                    refine topi (z := nI (qt fi)) (qcd_t hcs hqt) ?_
                    refine lv_istore (lv' := [(7, .int (nI (qt fi))), (6, .int (nI (qs fi))), (0, .ref (a 0)), (1, .int (nI r)), (2, .int (nI o)), (3, .int (nI (wrt r o))), (4, .int (nI fi)), (5, .int (nI la))]) hx hb dX1_within_153 hl (by decide) rfl (fun ls hl => ?_)
                    refine lv_iinc (v := nI (fi + 1)) (lv' := [(4, .int (nI (fi + 1))), (7, .int (nI (qt fi))), (6, .int (nI (qs fi))), (0, .ref (a 0)), (1, .int (nI r)), (2, .int (nI o)), (3, .int (nI (wrt r o))), (5, .int (nI la))]) hx hb dX1_within_155 hl (k := 6) rfl (nI_1 _) (by decide) rfl (fun ls hl => ?_)
                    refine lv_iconst (v := 0) hx hb dX1_within_158 (by decide) ?_
                    refine lv_istore (lv' := [(8, .int 0), (4, .int (nI (fi + 1))), (7, .int (nI (qt fi))), (6, .int (nI (qs fi))), (0, .ref (a 0)), (1, .int (nI r)), (2, .int (nI o)), (3, .int (nI (wrt r o))), (5, .int (nI la))]) hx hb dX1_within_159 hl (by decide) rfl (fun ls hl => ?_)
                    have hloop161 : ∀ (k161 i161 : Nat), i161 + k161 = 16 → ∀ (lb : Nat) (ps pt : Nat → Nat) (ω161 : MS) (H : Heap) (locs : List Loc), MB D dA a ω161 s.heap H locs → (WFm σ ω161 ∧ SN2 ω161 T ∧ QIm ω161 n net r o (wrt r o) (stAt n cp cq nc) (tkN n (wrt r o) cp cq nc) (nI (T + 1)) lb ps pt fi i161 ∧ ps fi = qs fi ∧ pt fi = qt fi ∧ fi < lb) → ∀ (ls : Array Slot), lv_has ls 14 [(0, .ref (a 0)), (1, .int (nI r)), (2, .int (nI o)), (3, .int (nI (wrt r o))), (4, .int (nI (fi + 1))), (5, .int (nI lb)), (6, .int (nI (qs fi))), (7, .int (nI (qt fi))), (8, .int (nI i161))] → W p l e ({ frames := 3, cells := 0, slots := 0, locals := 70 }) s m [.ref (a 0), .int (nI r), .int (nI o)].toArray below meth c H locs 0 0 (MZ below D dA a (fun v9 σ9 => ∃ u9, v9 = some (.int u9) ∧ WAm n net (stAt n cp cq nc) (fun r => tkN n r cp cq nc) (nI r) (nI o) u9 ∧ PTm σ σ9 T) [.ref (a 0), .int (nI r), .int (nI o)] s) (F0 m 161 ls []) := by
                      intro k161
                      induction k161 with
                      | zero =>
                        intro i161 hk161 lb ps pt ω161 H locs hM hw161 ls hl
                        obtain ⟨hps, hpt, hfl⟩ := hw161.2.2.2
                        have hlb := hw161.2.2.1.le
                        have hGw := hG.pu hw161.1.pu
                        have h17 := hw161.2.1.1
                        have hi161 : i161 = 16 := by omega
                        refine lv_iload hx hb dX1_within_161 (lv_at hl 8 rfl) ?_
                        refine lv_bipush (v := 16) hx hb dX1_within_163 (by decide) ?_
                        refine lv_icmp_ge (tgt := 322) hx hb dX1_within_165 (by decide) (fun c_165 => ?_) (fun c_165 => absurd (show nI 16 ≤ nI i161 from nI_le (by omega) (by omega)) c_165)
                        refine lv_goto (tgt := 124) hx hb dX1_within_322 (by decide) ?_
                        exact ih124 (fi + 1) (by omega) lb ps pt _ _ _ hM ⟨hw161.1, hw161.2.1, QIm.nx (by rw [hi161] at hw161; exact hw161.2.2.1)⟩ ls (lv_sub hl [0, 1, 2, 3, 4, 5] rfl)
                      | succ k161 ih161 =>
                        intro i161 hk161 lb ps pt ω161 H locs hM hw161 ls hl
                        obtain ⟨hps, hpt, hfl⟩ := hw161.2.2.2
                        have hlb := hw161.2.2.1.le
                        have hGw := hG.pu hw161.1.pu
                        have h17 := hw161.2.1.1
                        have hlt161 : i161 < 16 := by omega
                        have hp4 : i161 / 4 < 4 := by omega
                        have hq4 : i161 % 4 < 4 := by omega
                        refine lv_iload hx hb dX1_within_161 (lv_at hl 8 rfl) ?_
                        refine lv_bipush (v := 16) hx hb dX1_within_163 (by decide) ?_
                        refine lv_icmp_ge (tgt := 322) hx hb dX1_within_165 (by decide) (fun c_165 => absurd c_165 (show ¬ nI 16 ≤ nI i161 from nI_ge (by omega) (by omega))) (fun c_165 => ?_)
                        refine lv_iload hx hb dX1_within_168 (lv_at hl 8 rfl) ?_
                        refine lv_iconst (v := 4) hx hb dX1_within_170 (by decide) ?_
                        refine lv_idiv hx hb dX1_within_171 (by decide) ?_
                        refine topi (z := nI (i161 / 4)) (pk_div (d := 4) (by omega) (by decide) (by decide)) ?_
                        refine lv_istore (lv' := [(9, .int (nI (i161 / 4))), (0, .ref (a 0)), (1, .int (nI r)), (2, .int (nI o)), (3, .int (nI (wrt r o))), (4, .int (nI (fi + 1))), (5, .int (nI lb)), (6, .int (nI (qs fi))), (7, .int (nI (qt fi))), (8, .int (nI i161))]) hx hb dX1_within_172 hl (by decide) rfl (fun ls hl => ?_)
                        refine lv_iload hx hb dX1_within_174 (lv_at hl 9 rfl) ?_
                        refine lv_iconst (v := 4) hx hb dX1_within_176 (by decide) ?_
                        refine lv_irem hx hb dX1_within_177 (by decide) ?_
                        refine topi (z := nI (i161 % 4)) (pk_rem (d := 4) (by omega) (by decide) (by decide)) ?_
                        refine lv_istore (lv' := [(10, .int (nI (i161 % 4))), (9, .int (nI (i161 / 4))), (0, .ref (a 0)), (1, .int (nI r)), (2, .int (nI o)), (3, .int (nI (wrt r o))), (4, .int (nI (fi + 1))), (5, .int (nI lb)), (6, .int (nI (qs fi))), (7, .int (nI (qt fi))), (8, .int (nI i161))]) hx hb dX1_within_178 hl (by decide) rfl (fun ls hl => ?_)
                        refine lv_iload hx hb dX1_within_180 (lv_at hl 1 rfl) ?_
                        refine lv_aload_n hx hb dX1_within_182 rfl (lv_at hl 2 rfl) ?_
                        refine m_get (v := .int (ω161.1 5)) S hK hM.1 5 (by decide) fl_X1_82 rfl dX1_within_183 rfl ?_
                        refine topi (z := nI n) (hGw.2.1) ?_
                        refine lv_icmp_ge (tgt := 316) hx hb dX1_within_186 (by decide) (fun c_186 => ?_) (fun c_186 => ?_)
                        · have c_186 : n ≤ i161 / 4 := Nat.le_of_not_lt (fun h => nI_ge h (by omega) c_186)
                          refine lv_iinc (v := nI (i161 + 1)) (lv' := [(8, .int (nI (i161 + 1))), (10, .int (nI (i161 % 4))), (9, .int (nI (i161 / 4))), (0, .ref (a 0)), (1, .int (nI r)), (2, .int (nI o)), (3, .int (nI (wrt r o))), (4, .int (nI (fi + 1))), (5, .int (nI lb)), (6, .int (nI (qs fi))), (7, .int (nI (qt fi)))]) hx hb dX1_within_316 hl (k := 10) rfl (nI_1 _) (by decide) rfl (fun ls hl => ?_)
                          refine lv_goto (tgt := 161) hx hb dX1_within_319 (by decide) ?_
                          exact ih161 (i161 + 1) (by omega) lb ps pt _ _ _ hM ⟨hw161.1, hw161.2.1, hw161.2.2.1.sk (by rw [hps, hpt]; exact fun g1 g2 g3 => absurd g1 (by omega)), hps, hpt, hfl⟩ ls (lv_sub hl [3, 4, 5, 6, 7, 8, 9, 10, 0] rfl)
                        · have c_186 : i161 / 4 < n := Nat.lt_of_not_le (fun h => c_186 (nI_le h (by omega)))
                          refine lv_iload hx hb dX1_within_189 (lv_at hl 0 rfl) ?_
                          refine lv_aload_n hx hb dX1_within_191 rfl (lv_at hl 2 rfl) ?_
                          refine m_get (v := .int (ω161.1 5)) S hK hM.1 5 (by decide) fl_X1_82 rfl dX1_within_192 rfl ?_
                          refine topi (z := nI n) (hGw.2.1) ?_
                          refine lv_icmp_ge (tgt := 316) hx hb dX1_within_195 (by decide) (fun c_195 => ?_) (fun c_195 => ?_)
                          · have c_195 : n ≤ i161 % 4 := Nat.le_of_not_lt (fun h => nI_ge h (by omega) c_195)
                            refine lv_iinc (v := nI (i161 + 1)) (lv' := [(8, .int (nI (i161 + 1))), (10, .int (nI (i161 % 4))), (9, .int (nI (i161 / 4))), (0, .ref (a 0)), (1, .int (nI r)), (2, .int (nI o)), (3, .int (nI (wrt r o))), (4, .int (nI (fi + 1))), (5, .int (nI lb)), (6, .int (nI (qs fi))), (7, .int (nI (qt fi)))]) hx hb dX1_within_316 hl (k := 10) rfl (nI_1 _) (by decide) rfl (fun ls hl => ?_)
                            refine lv_goto (tgt := 161) hx hb dX1_within_319 (by decide) ?_
                            exact ih161 (i161 + 1) (by omega) lb ps pt _ _ _ hM ⟨hw161.1, hw161.2.1, hw161.2.2.1.sk (by rw [hps, hpt]; exact fun g1 g2 g3 => absurd g2 (by omega)), hps, hpt, hfl⟩ ls (lv_sub hl [3, 4, 5, 6, 7, 8, 9, 10, 0] rfl)
                          · have c_195 : i161 % 4 < n := Nat.lt_of_not_le (fun h => c_195 (nI_le h (by omega)))
                            refine lv_aload_n hx hb dX1_within_198 rfl (lv_at hl 2 rfl) ?_
                            refine m_get (v := .ref (a 6)) S hK hM.1 6 (by decide) fl_X1_19 rfl dX1_within_199 rfl ?_
                            refine lv_iload_n hx hb dX1_within_202 rfl (lv_at hl 3 rfl) ?_
                            refine lv_iload hx hb dX1_within_203 (lv_at hl 8 rfl) ?_
                            refine lv_iload hx hb dX1_within_205 (lv_at hl 9 rfl) ?_
                            refine lv_iload hx hb dX1_within_207 (lv_at hl 1 rfl) ?_
                            refine lv_iload hx hb dX1_within_209 (lv_at hl 0 rfl) ?_
                            refine rc_Si (rest := []) [.ref (a 6), .int (nI r), .int (nI (qs fi)), .int (nI (qt fi)), .int (nI (i161 / 4)), .int (nI (i161 % 4))] 6 S hK (r1_mayRing l D dA (a 6) _ net r (qs fi) (qt fi) (i161 / 4) (i161 % 4) (fun q hq => (hGw.2.2.1 q hq).1) (fun q hq => (hGw.2.2.1 q hq).2) (by first | assumption | omega | decide) (by first | assumption | omega | decide) (by first | assumption | omega | decide) (by first | assumption | omega | decide) (by first | assumption | omega | decide)) wl_X1_153 wd_X1_X1_mayRing rfl ⟨Nat.le_of_ble_eq_true rfl, Nat.le_of_ble_eq_true rfl⟩ hl.1 (Nat.le_of_ble_eq_true rfl) dX1_within_211 ⟨Nat.le_refl 0, Nat.le_refl 0⟩ (m_cell hM.1 6 (by decide) rfl) ?_ rfl
                            refine lv_if_ne (tgt := 220) hx hb dX1_within_214 (by decide) (fun c_214 => ?_) (fun c_214 => ?_)
                            · have c_214 := b2i_ne0.mp c_214
                              refine lv_aload_n hx hb dX1_within_220 rfl (lv_at hl 2 rfl) ?_
                              refine m_get (v := .ref (a 6)) S hK hM.1 6 (by decide) fl_X1_19 rfl dX1_within_221 rfl ?_
                              refine lv_iload_n hx hb dX1_within_224 rfl (lv_at hl 4 rfl) ?_
                              refine lv_iload hx hb dX1_within_225 (lv_at hl 8 rfl) ?_
                              refine lv_iload hx hb dX1_within_227 (lv_at hl 9 rfl) ?_
                              refine lv_iload hx hb dX1_within_229 (lv_at hl 1 rfl) ?_
                              refine lv_iload hx hb dX1_within_231 (lv_at hl 0 rfl) ?_
                              refine rc_Si (rest := []) [.ref (a 6), .int (nI o), .int (nI (qs fi)), .int (nI (qt fi)), .int (nI (i161 / 4)), .int (nI (i161 % 4))] 6 S hK (r1_mayRing l D dA (a 6) _ net o (qs fi) (qt fi) (i161 / 4) (i161 % 4) (fun q hq => (hGw.2.2.1 q hq).1) (fun q hq => (hGw.2.2.1 q hq).2) (by first | assumption | omega | decide) (by first | assumption | omega | decide) (by first | assumption | omega | decide) (by first | assumption | omega | decide) (by first | assumption | omega | decide)) wl_X1_153 wd_X1_X1_mayRing rfl ⟨Nat.le_of_ble_eq_true rfl, Nat.le_of_ble_eq_true rfl⟩ hl.1 (Nat.le_of_ble_eq_true rfl) dX1_within_233 ⟨Nat.le_refl 0, Nat.le_refl 0⟩ (m_cell hM.1 6 (by decide) rfl) ?_ rfl
                              refine lv_if_ne (tgt := 241) hx hb dX1_within_236 (by decide) (fun c_236 => ?_) (fun c_236 => ?_)
                              · have c_236 := b2i_ne0.mp c_236
                                have hv9 := vld_aft hn hqv c_186 c_195
                                have ht9 : (tkA (wrt r o) (qt fi) (i161 / 4) (i161 % 4)) < 16 := tkA_lt hqt (by omega)
                                have hs9 := hv9.1
                                refine lv_iload hx hb dX1_within_241 (lv_at hl 8 rfl) ?_
                                refine lv_iload hx hb dX1_within_243 (lv_at hl 1 rfl) ?_
                                refine lv_iload hx hb dX1_within_245 (lv_at hl 0 rfl) ?_
                                refine rc_Si (rest := []) [.int (nI (qs fi)), .int (nI (i161 / 4)), .int (nI (i161 % 4))] 3 S hK (r1_afterCall l D dA (qs fi) (i161 / 4) (i161 % 4) (by first | assumption | omega | decide) (by first | assumption | omega | decide) (by first | assumption | omega | decide)) wl_X1_117 wd_X1_X1_afterCall rfl ⟨Nat.le_of_ble_eq_true rfl, Nat.le_of_ble_eq_true rfl⟩ hl.1 (Nat.le_of_ble_eq_true rfl) dX1_within_247 ⟨Nat.le_refl 0, Nat.le_refl 0⟩ (trivial) ?_ rfl
                                refine lv_istore (lv' := [(11, .int (nI (aft (qs fi) (i161 / 4) (i161 % 4)))), (10, .int (nI (i161 % 4))), (9, .int (nI (i161 / 4))), (0, .ref (a 0)), (1, .int (nI r)), (2, .int (nI o)), (3, .int (nI (wrt r o))), (4, .int (nI (fi + 1))), (5, .int (nI lb)), (6, .int (nI (qs fi))), (7, .int (nI (qt fi))), (8, .int (nI i161))]) hx hb dX1_within_250 hl (by decide) rfl (fun ls hl => ?_)
                                refine lv_iload hx hb dX1_within_252 (lv_at hl 10 rfl) ?_
                                refine lv_iload_n hx hb dX1_within_254 rfl (lv_at hl 6 rfl) ?_
                                refine lv_iload hx hb dX1_within_255 (lv_at hl 2 rfl) ?_
                                refine lv_iload hx hb dX1_within_257 (lv_at hl 1 rfl) ?_
                                refine rc_Si (rest := []) [.int (nI (qt fi)), .int (nI (wrt r o)), .int (nI (i161 / 4)), .int (nI (i161 % 4))] 4 S hK (r1_tokensAfter l D dA (qt fi) (wrt r o) (i161 / 4) (i161 % 4) (by first | assumption | omega | decide) (by first | assumption | omega | decide) (by first | assumption | omega | decide) (by first | assumption | omega | decide)) wl_X1_121 wd_X1_X1_tokensAfter rfl ⟨Nat.le_of_ble_eq_true rfl, Nat.le_of_ble_eq_true rfl⟩ hl.1 (Nat.le_of_ble_eq_true rfl) dX1_within_259 ⟨Nat.le_refl 0, Nat.le_refl 0⟩ (trivial) ?_ rfl
                                refine lv_istore (lv' := [(12, .int (nI (tkA (wrt r o) (qt fi) (i161 / 4) (i161 % 4)))), (11, .int (nI (aft (qs fi) (i161 / 4) (i161 % 4)))), (10, .int (nI (i161 % 4))), (9, .int (nI (i161 / 4))), (0, .ref (a 0)), (1, .int (nI r)), (2, .int (nI o)), (3, .int (nI (wrt r o))), (4, .int (nI (fi + 1))), (5, .int (nI lb)), (6, .int (nI (qs fi))), (7, .int (nI (qt fi))), (8, .int (nI i161))]) hx hb dX1_within_262 hl (by decide) rfl (fun ls hl => ?_)
                                refine lv_iload hx hb dX1_within_264 (lv_at hl 1 rfl) ?_
                                refine lv_iload hx hb dX1_within_266 (lv_at hl 0 rfl) ?_
                                refine rc_Si (rest := []) [.int (nI (aft (qs fi) (i161 / 4) (i161 % 4))), .int (nI (tkA (wrt r o) (qt fi) (i161 / 4) (i161 % 4)))] 2 S hK (r1_placeOf l D dA (aft (qs fi) (i161 / 4) (i161 % 4)) (tkA (wrt r o) (qt fi) (i161 / 4) (i161 % 4)) (by first | assumption | omega | decide) (by first | assumption | omega | decide)) wl_X1_158 wd_X1_X1_placeOf rfl ⟨Nat.le_of_ble_eq_true rfl, Nat.le_of_ble_eq_true rfl⟩ hl.1 (Nat.le_of_ble_eq_true rfl) dX1_within_268 ⟨Nat.le_refl 0, Nat.le_refl 0⟩ (trivial) ?_ rfl
                                refine lv_istore (lv' := [(13, .int (nI (plc (aft (qs fi) (i161 / 4) (i161 % 4)) (tkA (wrt r o) (qt fi) (i161 / 4) (i161 % 4))))), (12, .int (nI (tkA (wrt r o) (qt fi) (i161 / 4) (i161 % 4)))), (11, .int (nI (aft (qs fi) (i161 / 4) (i161 % 4)))), (10, .int (nI (i161 % 4))), (9, .int (nI (i161 / 4))), (0, .ref (a 0)), (1, .int (nI r)), (2, .int (nI o)), (3, .int (nI (wrt r o))), (4, .int (nI (fi + 1))), (5, .int (nI lb)), (6, .int (nI (qs fi))), (7, .int (nI (qt fi))), (8, .int (nI i161))]) hx hb dX1_within_271 hl (by decide) rfl (fun ls hl => ?_)
                                refine lv_aload_n hx hb dX1_within_273 rfl (lv_at hl 5 rfl) ?_
                                refine m_get (v := .ref (a 12)) S hK hM.1 12 (by decide) fl_X1_32 rfl dX1_within_274 rfl ?_
                                refine lv_iload hx hb dX1_within_277 (lv_at hl 0 rfl) ?_
                                refine m_aldn (j := plc (aft (qs fi) (i161 / 4) (i161 % 4)) (tkA (wrt r o) (qt fi) (i161 / 4) (i161 % 4))) (v := (ω161.2.1 12) (plc (aft (qs fi) (i161 / 4) (i161 % 4)) (tkA (wrt r o) (qt fi) (i161 / 4) (i161 % 4)))) S hK hM.1 12 (by decide) rfl (plc_lt _ _) dX1_within_279 (rfl) ?_
                                refine lv_aload_n hx hb dX1_within_280 rfl (lv_at hl 5 rfl) ?_
                                refine m_get (v := .int (ω161.1 17)) S hK hM.1 17 (by decide) fl_X1_161 rfl dX1_within_281 rfl ?_
                                refine topi (z := nI (T + 1)) (h17) ?_
                                refine lv_icmp_eq (tgt := 316) hx hb dX1_within_284 (by decide) (fun c_284 => ?_) (fun c_284 => ?_)
                                · refine lv_iinc (v := nI (i161 + 1)) (lv' := [(8, .int (nI (i161 + 1))), (13, .int (nI (plc (aft (qs fi) (i161 / 4) (i161 % 4)) (tkA (wrt r o) (qt fi) (i161 / 4) (i161 % 4))))), (12, .int (nI (tkA (wrt r o) (qt fi) (i161 / 4) (i161 % 4)))), (11, .int (nI (aft (qs fi) (i161 / 4) (i161 % 4)))), (10, .int (nI (i161 % 4))), (9, .int (nI (i161 / 4))), (0, .ref (a 0)), (1, .int (nI r)), (2, .int (nI o)), (3, .int (nI (wrt r o))), (4, .int (nI (fi + 1))), (5, .int (nI lb)), (6, .int (nI (qs fi))), (7, .int (nI (qt fi)))]) hx hb dX1_within_316 hl (k := 13) rfl (nI_1 _) (by decide) rfl (fun ls hl => ?_)
                                  refine lv_goto (tgt := 161) hx hb dX1_within_319 (by decide) ?_
                                  exact ih161 (i161 + 1) (by omega) lb ps pt _ _ _ hM ⟨hw161.1, hw161.2.1, hw161.2.2.1.sk (by rw [hps, hpt]; exact fun g1 g2 g3 => ⟨c_236, c_284⟩), hps, hpt, hfl⟩ ls (lv_sub hl [6, 7, 8, 9, 10, 11, 12, 13, 0] rfl)
                                · refine lv_aload_n hx hb dX1_within_287 rfl (lv_at hl 5 rfl) ?_
                                  refine m_get (v := .ref (a 12)) S hK hM.1 12 (by decide) fl_X1_32 rfl dX1_within_288 rfl ?_
                                  refine lv_iload hx hb dX1_within_291 (lv_at hl 0 rfl) ?_
                                  refine lv_aload_n hx hb dX1_within_293 rfl (lv_at hl 5 rfl) ?_
                                  refine m_get (v := .int (ω161.1 17)) S hK hM.1 17 (by decide) fl_X1_161 rfl dX1_within_294 rfl ?_
                                  refine topi (z := nI (T + 1)) (h17) ?_
                                  refine m_astn (j := plc (aft (qs fi) (i161 / 4) (i161 % 4)) (tkA (wrt r o) (qt fi) (i161 / 4) (i161 % 4))) hI S hK hM 12 (by decide) rfl (plc_lt _ _) dX1_within_297 (fun H locs hM => ?_)
                                  refine lv_aload_n hx hb dX1_within_298 rfl (lv_at hl 5 rfl) ?_
                                  refine m_get (v := .ref (a 29)) S hK hM.1 29 (by decide) fl_X1_69 rfl dX1_within_299 rfl ?_
                                  refine lv_iload hx hb dX1_within_302 (lv_at hl 10 rfl) ?_
                                  refine lv_iload hx hb dX1_within_304 (lv_at hl 2 rfl) ?_
                                  refine lv_iload hx hb dX1_within_306 (lv_at hl 1 rfl) ?_
                                  refine lv_bipush (v := 16) hx hb dX1_within_308 (by decide) ?_
                                  refine lv_ishl hx hb dX1_within_310 ?_
                                  refine lv_ior hx hb dX1_within_311 ?_
                                  refine topi (z := nI (qcd (aft (qs fi) (i161 / 4) (i161 % 4)) (tkA (wrt r o) (qt fi) (i161 / 4) (i161 % 4)))) (qcd_i hs9 ht9) ?_
                                  refine m_astn (j := lb) hI S hK hM 29 (by decide) rfl (show lb < 65536 from hw161.2.2.1.lt (plc_lt _ _) c_284) dX1_within_312 (fun H locs hM => ?_)
                                  have hM : MB D dA a ((ω161.b 12 (upd (ω161.2.1 12) (plc (aft (qs fi) (i161 / 4) (i161 % 4)) (tkA (wrt r o) (qt fi) (i161 / 4) (i161 % 4))) (nI (T + 1)))).b 29 (upd (ω161.2.1 29) lb (nI (qcd (aft (qs fi) (i161 / 4) (i161 % 4)) (tkA (wrt r o) (qt fi) (i161 / 4) (i161 % 4)))))) s.heap H locs := hM
                                  refine lv_iinc (v := nI (lb + 1)) (lv' := [(5, .int (nI (lb + 1))), (13, .int (nI (plc (aft (qs fi) (i161 / 4) (i161 % 4)) (tkA (wrt r o) (qt fi) (i161 / 4) (i161 % 4))))), (12, .int (nI (tkA (wrt r o) (qt fi) (i161 / 4) (i161 % 4)))), (11, .int (nI (aft (qs fi) (i161 / 4) (i161 % 4)))), (10, .int (nI (i161 % 4))), (9, .int (nI (i161 / 4))), (0, .ref (a 0)), (1, .int (nI r)), (2, .int (nI o)), (3, .int (nI (wrt r o))), (4, .int (nI (fi + 1))), (6, .int (nI (qs fi))), (7, .int (nI (qt fi))), (8, .int (nI i161))]) hx hb dX1_within_313 hl (k := 10) rfl (nI_1 _) (by decide) rfl (fun ls hl => ?_)
                                  refine lv_iinc (v := nI (i161 + 1)) (lv' := [(8, .int (nI (i161 + 1))), (5, .int (nI (lb + 1))), (13, .int (nI (plc (aft (qs fi) (i161 / 4) (i161 % 4)) (tkA (wrt r o) (qt fi) (i161 / 4) (i161 % 4))))), (12, .int (nI (tkA (wrt r o) (qt fi) (i161 / 4) (i161 % 4)))), (11, .int (nI (aft (qs fi) (i161 / 4) (i161 % 4)))), (10, .int (nI (i161 % 4))), (9, .int (nI (i161 / 4))), (0, .ref (a 0)), (1, .int (nI r)), (2, .int (nI o)), (3, .int (nI (wrt r o))), (4, .int (nI (fi + 1))), (6, .int (nI (qs fi))), (7, .int (nI (qt fi)))]) hx hb dX1_within_316 hl (k := 13) rfl (nI_1 _) (by decide) rfl (fun ls hl => ?_)
                                  refine lv_goto (tgt := 161) hx hb dX1_within_319 (by decide) ?_
                                  exact ih161 (i161 + 1) (by omega) (lb + 1) (fU ps lb (aft (qs fi) (i161 / 4) (i161 % 4))) (fU pt lb (tkA (wrt r o) (qt fi) (i161 / 4) (i161 % 4))) _ _ _ hM ⟨hw161.1.b, hw161.2.1.b, QIm.pu hw161.2.2.1 hfl hv9 ht9 (hrc.st c_186 c_195 c_214) c_284 (by rw [hps, hpt]; exact c_236) (by rw [hps]) (by rw [hpt]), by rw [fU_n (by omega), hps], by rw [fU_n (by omega), hpt], by omega⟩ ls (lv_sub hl [7, 8, 9, 10, 11, 1, 12, 13, 0] rfl)
                              · have c_236 := b2i_eq0.mp c_236
                                refine lv_iconst (v := 0) hx hb dX1_within_239 (by decide) ?_
                                exact m_iret S hr hlk hM dX1_within_240 (⟨_, rfl, (WAm.i hr4 ho4).mpr (by rw [if_neg hnn, if_neg c_40]; exact Or.inr ⟨rfl, fun hw9 => by have h9 := hw9 _ _ hrc _ _ c_186 c_195 c_214; rw [c_236] at h9; cases h9⟩), hw161.2.1.pt hw161.1⟩)
                            · have c_214 := b2i_eq0.mp c_214
                              refine lv_goto (tgt := 316) hx hb dX1_within_217 (by decide) ?_
                              refine lv_iinc (v := nI (i161 + 1)) (lv' := [(8, .int (nI (i161 + 1))), (10, .int (nI (i161 % 4))), (9, .int (nI (i161 / 4))), (0, .ref (a 0)), (1, .int (nI r)), (2, .int (nI o)), (3, .int (nI (wrt r o))), (4, .int (nI (fi + 1))), (5, .int (nI lb)), (6, .int (nI (qs fi))), (7, .int (nI (qt fi)))]) hx hb dX1_within_316 hl (k := 10) rfl (nI_1 _) (by decide) rfl (fun ls hl => ?_)
                              refine lv_goto (tgt := 161) hx hb dX1_within_319 (by decide) ?_
                              exact ih161 (i161 + 1) (by omega) lb ps pt _ _ _ hM ⟨hw161.1, hw161.2.1, hw161.2.2.1.sk (by rw [hps, hpt]; exact fun g1 g2 g3 => absurd g3 (by rw [c_214]; decide)), hps, hpt, hfl⟩ ls (lv_sub hl [3, 4, 5, 6, 7, 8, 9, 10, 0] rfl)
                    exact hloop161 16 0 (by omega) la qs qt _ _ _ hM ⟨hw124.1, hw124.2.1, hw124.2.2, rfl, rfl, c_128⟩ ls (lv_sub hl [4, 5, 6, 7, 1, 8, 3, 2, 0] rfl)
              exact hloop124 65536 0 (by omega) 1 (fun _ => (stAt n cp cq nc)) (fun _ => (tkN n (wrt r o) cp cq nc)) _ _ _ hM ⟨hWF.b2, hS2.b2, QIm.in0 hvl (htk _) hu⟩ ls (lv_sub hl [3, 4, 5, 2, 1, 0] rfl)
            · have c_40 : n = 0 := nI_inj (by omega) (by decide) c_40
              refine lv_bipush (v := (-3)) hx hb dX1_within_43 (by decide) ?_
              exact m_iret S hr hlk hM dX1_within_45 (⟨_, rfl, (WAm.i hr4 ho4).mpr (by rw [if_neg hnn, if_pos c_40]), PTm.rf hSN⟩)
          · have c_30 : 1 < o := Nat.lt_of_not_le (fun h => c_30 (nI_le h (by decide)))
            refine lv_bipush (v := (-2)) hx hb dX1_within_33 (by decide) ?_
            exact m_iret S hr hlk hM dX1_within_35 (⟨_, rfl, (WAm.i hr4 ho4).mpr (by rw [if_pos (by omega)]), PTm.rf hSN⟩)
    · have c_11 := b2i_eq0.mp c_11
      refine lv_iconst (v := (-1)) hx hb dX1_within_14 (by decide) ?_
      exact m_iret S hr hlk hM dX1_within_15 (⟨_, rfl, by unfold WAm; simp [*], PTm.rf hSN⟩)
