/-! MODEL 14: a net off a sheet (by program: gen/model14.py) -/
set_option maxRecDepth 100000
set_option maxHeartbeats 4000000 in
theorem m1_net (l : Launch) (D : va_G) (dA : Nat → ClassId) (a : Nat → Nat) (hI : mInj a) (σ : MS) (n : Nat) (net : Nat → Nat) (nc : Nat) (cp cq : Nat → Nat) (hG : MG σ n net nc cp cq) (lo : Nat → Nat) (hlo : ∀ k, k < 4 → lo k ≤ 60 ∧ σ.2.1 3 k = nI (lo k)) (k w i v : Int32) : MC l yX1_net cX1_net 8 (some .int) 2 48 D dA a [.ref (a 0), .int k, .int w, .int i, .int v] σ (fun v9 σ9 => (∃ r9, spNetQ (σ.2.1 2) lo k w i v = some r9 ∧ v9 = some (.int r9.1) ∧ σ9 = σ.i 0 r9.2) ∨ (spNetQ (σ.2.1 2) lo k w i v = none ∧ ∃ u9, v9 = some (.int u9) ∧ NRm σ σ9 net cp cq (fun j => σ.2.1 4 (60 * k.toNatClampNeg + i.toNatClampNeg + j)) v.toNatClampNeg u9)) := by
  refine MC.of (by decide) (Nat.le_of_ble_eq_true rfl) ?_
  intro p e s m below meth c ls S hr hlk hK hM hl
  have hx := S.1
  have hb := S.2.1
  have hl : lv_has ls 8 [(0, .ref (a 0)), (1, .int k), (2, .int w), (3, .int i), (4, .int v)] := hl
  have hn := hG.1
  have hnc := hG.2.2.2.1
  refine lv_aload_n hx hb dX1_net_0 rfl (lv_at hl 0 rfl) ?_
  refine lv_iconst (v := 0) hx hb dX1_net_1 (by decide) ?_
  refine m_put hI S hK hM 0 (by decide) rfl fl_X1_72 rfl rfl (by decide +kernel) dX1_net_2 (fun H locs hM => ?_)
  refine lv_iload_n hx hb dX1_net_5 rfl (lv_at hl 1 rfl) ?_
  refine rc_Si (rest := []) [.int k] 1 S hK (r1_isSheet l D dA k) wl_X1_85 wd_X1_X1_isSheet rfl ⟨Nat.le_of_ble_eq_true rfl, Nat.le_of_ble_eq_true rfl⟩ hl.1 (Nat.le_of_ble_eq_true rfl) dX1_net_6 ⟨Nat.le_refl 0, Nat.le_refl 0⟩ (trivial) ?_ rfl
  refine lv_if_ne (tgt := 14) hx hb dX1_net_9 (by decide) (fun c_9 => ?_) (fun c_9 => ?_)
  · have c_9 := b2i_ne0.mp c_9
    obtain ⟨ka, hka9, rfl⟩ := inR_some (k := 3) (by decide) c_9
    have hka4 : ka < 4 := by omega
    refine lv_iload_n hx hb dX1_net_14 rfl (lv_at hl 2 rfl) ?_
    refine rc_Si (rest := []) [.int w] 1 S hK (r1_isLane l D dA w) wl_X1_89 wd_X1_X1_isLane rfl ⟨Nat.le_of_ble_eq_true rfl, Nat.le_of_ble_eq_true rfl⟩ hl.1 (Nat.le_of_ble_eq_true rfl) dX1_net_15 ⟨Nat.le_refl 0, Nat.le_refl 0⟩ (trivial) ?_ rfl
    refine lv_if_ne (tgt := 24) hx hb dX1_net_18 (by decide) (fun c_18 => ?_) (fun c_18 => ?_)
    · have c_18 := b2i_ne0.mp c_18
      refine lv_aload_n hx hb dX1_net_24 rfl (lv_at hl 0 rfl) ?_
      refine m_get (v := .ref (a 2)) S hK hM.1 2 (by decide) fl_X1_9 rfl dX1_net_25 rfl ?_
      refine lv_iload_n hx hb dX1_net_28 rfl (lv_at hl 1 rfl) ?_
      refine m_aldn (j := ka) (v := (σ.2.1 2) ka) S hK hM.1 2 (by decide) rfl (show ka < 4 by omega) dX1_net_29 (rfl) ?_
      refine lv_bipush (v := (-9)) hx hb dX1_net_30 (by decide) ?_
      refine lv_icmp_eq (tgt := 51) hx hb dX1_net_32 (by decide) (fun c_32 => ?_) (fun c_32 => ?_)
      · refine lv_aload_n hx hb dX1_net_51 rfl (lv_at hl 0 rfl) ?_
        refine m_get (v := .ref (a 2)) S hK hM.1 2 (by decide) fl_X1_9 rfl dX1_net_52 rfl ?_
        refine lv_iload_n hx hb dX1_net_55 rfl (lv_at hl 1 rfl) ?_
        refine m_aldn (j := ka) (v := (σ.2.1 2) ka) S hK hM.1 2 (by decide) rfl (show ka < 4 by omega) dX1_net_56 (rfl) ?_
        refine lv_bipush (v := (-9)) hx hb dX1_net_57 (by decide) ?_
        refine lv_icmp_ne (tgt := 68) hx hb dX1_net_59 (by decide) (fun c_59 => absurd (c_32) c_59) (fun c_59 => ?_)
        refine lv_aload_n hx hb dX1_net_62 rfl (lv_at hl 0 rfl) ?_
        refine lv_iconst (v := 1) hx hb dX1_net_63 (by decide) ?_
        refine mc_Vi (rest := []) [.int 1] 1 S hK hM (m1_fails l D dA a hI (σ.i 0 0) 1) wl_X1_92 wd_X1_X1_fails rfl ⟨Nat.le_of_ble_eq_true rfl, Nat.le_of_ble_eq_true rfl⟩ hl.1 (Nat.le_of_ble_eq_true rfl) dX1_net_64 ⟨Nat.le_refl 0, Nat.le_refl 0⟩ (fun H locs hM => ?_) rfl
        exact m_iret S hr hlk hM dX1_net_67 (Or.inl ⟨(-11, 1), by simp [spNetQ, show inR (nI ka) 0 3 = true from inR_nI (k := 3) (by omega) (by decide), nI_clamp (show ka < 2 ^ 31 by omega), *], rfl, MS_ii _ _ _ _⟩)
      · refine lv_aload_n hx hb dX1_net_35 rfl (lv_at hl 0 rfl) ?_
        refine m_get (v := .ref (a 2)) S hK hM.1 2 (by decide) fl_X1_9 rfl dX1_net_36 rfl ?_
        refine lv_iload_n hx hb dX1_net_39 rfl (lv_at hl 1 rfl) ?_
        refine m_aldn (j := ka) (v := (σ.2.1 2) ka) S hK hM.1 2 (by decide) rfl (show ka < 4 by omega) dX1_net_40 (rfl) ?_
        refine lv_iload_n hx hb dX1_net_41 rfl (lv_at hl 2 rfl) ?_
        refine lv_icmp_eq (tgt := 51) hx hb dX1_net_42 (by decide) (fun c_42 => ?_) (fun c_42 => ?_)
        · have c_31w : ¬ w = -9 := c_42 ▸ c_32
          refine lv_aload_n hx hb dX1_net_51 rfl (lv_at hl 0 rfl) ?_
          refine m_get (v := .ref (a 2)) S hK hM.1 2 (by decide) fl_X1_9 rfl dX1_net_52 rfl ?_
          refine lv_iload_n hx hb dX1_net_55 rfl (lv_at hl 1 rfl) ?_
          refine m_aldn (j := ka) (v := (σ.2.1 2) ka) S hK hM.1 2 (by decide) rfl (show ka < 4 by omega) dX1_net_56 (rfl) ?_
          refine lv_bipush (v := (-9)) hx hb dX1_net_57 (by decide) ?_
          refine lv_icmp_ne (tgt := 68) hx hb dX1_net_59 (by decide) (fun c_59 => ?_) (fun c_59 => absurd (c_59) (c_32))
          refine lv_iload hx hb dX1_net_68 (lv_at hl 4 rfl) ?_
          refine lv_if_ge (tgt := 79) hx hb dX1_net_70 (by decide) (fun c_70 => ?_) (fun c_70 => ?_)
          · obtain ⟨Ln, hLn, rfl⟩ := nI_of (Int32.not_lt.mpr c_70)
            refine lv_iload_n hx hb dX1_net_79 rfl (lv_at hl 3 rfl) ?_
            refine lv_if_lt (tgt := 106) hx hb dX1_net_80 (by decide) (fun c_80 => ?_) (fun c_80 => ?_)
            · refine lv_aload_n hx hb dX1_net_106 rfl (lv_at hl 0 rfl) ?_
              refine lv_iconst (v := 3) hx hb dX1_net_107 (by decide) ?_
              refine mc_Vi (rest := []) [.int 3] 1 S hK hM (m1_fails l D dA a hI (σ.i 0 0) 3) wl_X1_92 wd_X1_X1_fails rfl ⟨Nat.le_of_ble_eq_true rfl, Nat.le_of_ble_eq_true rfl⟩ hl.1 (Nat.le_of_ble_eq_true rfl) dX1_net_108 ⟨Nat.le_refl 0, Nat.le_refl 0⟩ (fun H locs hM => ?_) rfl
              exact m_iret S hr hlk hM dX1_net_111 (Or.inl ⟨(-13, 3), by simp [spNetQ, show inR (nI ka) 0 3 = true from inR_nI (k := 3) (by omega) (by decide), nI_clamp (show ka < 2 ^ 31 by omega), nI_clamp hLn, nI_pos hLn, *], rfl, MS_ii _ _ _ _⟩)
            · obtain ⟨ja, hja, rfl⟩ := nI_of (c_80)
              have hlk9 := (hlo ka hka4).1
              refine lv_iload_n hx hb dX1_net_83 rfl (lv_at hl 3 rfl) ?_
              refine lv_aload_n hx hb dX1_net_84 rfl (lv_at hl 0 rfl) ?_
              refine m_get (v := .ref (a 3)) S hK hM.1 3 (by decide) fl_X1_13 rfl dX1_net_85 rfl ?_
              refine lv_iload_n hx hb dX1_net_88 rfl (lv_at hl 1 rfl) ?_
              refine m_aldn (j := ka) (v := nI (lo ka)) S hK hM.1 3 (by decide) rfl (show ka < 4 by omega) dX1_net_89 ((hlo ka hka4).2) ?_
              refine lv_icmp_gt (tgt := 106) hx hb dX1_net_90 (by decide) (fun c_90 => ?_) (fun c_90 => ?_)
              · have c_90 : lo ka < ja := Nat.lt_of_not_le (fun h => nI_nlt h (by omega) c_90)
                refine lv_aload_n hx hb dX1_net_106 rfl (lv_at hl 0 rfl) ?_
                refine lv_iconst (v := 3) hx hb dX1_net_107 (by decide) ?_
                refine mc_Vi (rest := []) [.int 3] 1 S hK hM (m1_fails l D dA a hI (σ.i 0 0) 3) wl_X1_92 wd_X1_X1_fails rfl ⟨Nat.le_of_ble_eq_true rfl, Nat.le_of_ble_eq_true rfl⟩ hl.1 (Nat.le_of_ble_eq_true rfl) dX1_net_108 ⟨Nat.le_refl 0, Nat.le_refl 0⟩ (fun H locs hM => ?_) rfl
                exact m_iret S hr hlk hM dX1_net_111 (Or.inl ⟨(-13, 3), by simp [spNetQ, show inR (nI ka) 0 3 = true from inR_nI (k := 3) (by omega) (by decide), nI_clamp (show ka < 2 ^ 31 by omega), nI_clamp hLn, nI_pos hLn, nI_clamp hja, nI_pos hja, *], rfl, MS_ii _ _ _ _⟩)
              · have c_90 : ja ≤ lo ka := Nat.le_of_not_lt (fun h => c_90 (nI_lt h (by omega)))
                refine lv_iload hx hb dX1_net_93 (lv_at hl 4 rfl) ?_
                refine lv_aload_n hx hb dX1_net_95 rfl (lv_at hl 0 rfl) ?_
                refine m_get (v := .ref (a 3)) S hK hM.1 3 (by decide) fl_X1_13 rfl dX1_net_96 rfl ?_
                refine lv_iload_n hx hb dX1_net_99 rfl (lv_at hl 1 rfl) ?_
                refine m_aldn (j := ka) (v := nI (lo ka)) S hK hM.1 3 (by decide) rfl (show ka < 4 by omega) dX1_net_100 ((hlo ka hka4).2) ?_
                refine lv_iload_n hx hb dX1_net_101 rfl (lv_at hl 3 rfl) ?_
                refine lv_isub hx hb dX1_net_102 ?_
                refine topi (z := nI (lo ka - ja)) (pk_sub c_90) ?_
                refine lv_icmp_le (tgt := 112) hx hb dX1_net_103 (by decide) (fun c_103 => ?_) (fun c_103 => ?_)
                · have c_103 : Ln ≤ lo ka - ja := Nat.le_of_not_lt (fun h => nI_ge h (by omega) c_103)
                  refine lv_bipush (v := 60) hx hb dX1_net_112 (by decide) ?_
                  refine lv_iload_n hx hb dX1_net_114 rfl (lv_at hl 1 rfl) ?_
                  refine lv_imul hx hb dX1_net_115 ?_
                  refine lv_iload_n hx hb dX1_net_116 rfl (lv_at hl 3 rfl) ?_
                  refine lv_iadd hx hb dX1_net_117 ?_
                  refine topi (z := nI (60 * ka + ja)) (i60) ?_
                  refine lv_istore (lv' := [(5, .int (nI (60 * ka + ja))), (0, .ref (a 0)), (1, .int (nI ka)), (2, .int w), (3, .int (nI ja)), (4, .int (nI Ln))]) hx hb dX1_net_118 hl (by decide) rfl (fun ls hl => ?_)
                  refine lv_aload_n hx hb dX1_net_120 rfl (lv_at hl 1 rfl) ?_
                  refine lv_iload hx hb dX1_net_121 (lv_at hl 0 rfl) ?_
                  refine lv_iload hx hb dX1_net_123 (lv_at hl 5 rfl) ?_
                  refine mc_V (rest := []) [.int (nI (60 * ka + ja)), .int (nI Ln)] 2 S hK hM (m1_readAll l D dA a hI (σ.i 0 0) (fun j => σ.2.1 4 (60 * ka + ja + j)) (60 * ka + ja) Ln (by omega) (by omega) (fun _ _ => rfl)) wl_X1_96 wd_X1_X1_readAll rfl ⟨Nat.le_of_ble_eq_true rfl, Nat.le_of_ble_eq_true rfl⟩ hl.1 (Nat.le_of_ble_eq_true rfl) dX1_net_125 ⟨Nat.le_refl 0, Nat.le_refl 0⟩ (fun v σ125 H locs hq hM => ?_) rfl
                  obtain ⟨hv9, hRD, hcl, hnn⟩ := hq
                  cases hsp : spRead (fun j => σ.2.1 4 (60 * ka + ja + j)) Ln with
                  | some c9 =>
                    rw [hsp] at hv9
                    subst hv9
                    refine W.eq (g2 := F0 m 128 ls [.int (nI c9)]) rfl ?_
                    have hc9 := hcl c9 hsp
                    refine lv_istore (lv' := [(6, .int (nI c9)), (5, .int (nI (60 * ka + ja))), (0, .ref (a 0)), (1, .int (nI ka)), (2, .int w), (3, .int (nI ja)), (4, .int (nI Ln))]) hx hb dX1_net_128 hl (by decide) rfl (fun ls hl => ?_)
                    refine lv_iload hx hb dX1_net_130 (lv_at hl 0 rfl) ?_
                    refine lv_bipush (v := (-9)) hx hb dX1_net_132 (by decide) ?_
                    refine lv_icmp_eq (tgt := 143) hx hb dX1_net_134 (by decide) (fun c_134 => absurd c_134 (nI_n9 (by omega))) (fun c_134 => ?_)
                    refine lv_bipush (v := (-100)) hx hb dX1_net_137 (by decide) ?_
                    refine lv_iload hx hb dX1_net_139 (lv_at hl 0 rfl) ?_
                    refine lv_isub hx hb dX1_net_141 ?_
                    exact m_iret S hr hlk hM dX1_net_142 (Or.inr ⟨by simp [spNetQ, show inR (nI ka) 0 3 = true from inR_nI (k := 3) (by omega) (by decide), nI_clamp (show ka < 2 ^ 31 by omega), nI_clamp hLn, nI_clamp hja, nI_pos hLn, nI_pos hja, show ¬ lo ka < ja from (by omega), show ¬ lo ka - ja < Ln from (by omega), *], _, rfl, by rw [nI_clamp (show ka < 2 ^ 31 by omega), nI_clamp hja, nI_clamp hLn]; exact Or.inl ⟨c9, hsp, by omega, rfl, hRD⟩⟩)
                  | none =>
                    rw [hsp] at hv9
                    subst hv9
                    refine W.eq (g2 := F0 m 128 ls [.int (-9)]) rfl ?_
                    obtain ⟨mp, hh, hrd, hmp, h8, h7⟩ := hnn hsp
                    refine lv_istore (lv' := [(6, .int (-9)), (5, .int (nI (60 * ka + ja))), (0, .ref (a 0)), (1, .int (nI ka)), (2, .int w), (3, .int (nI ja)), (4, .int (nI Ln))]) hx hb dX1_net_128 hl (by decide) rfl (fun ls hl => ?_)
                    refine lv_iload hx hb dX1_net_130 (lv_at hl 0 rfl) ?_
                    refine lv_bipush (v := (-9)) hx hb dX1_net_132 (by decide) ?_
                    refine lv_icmp_eq (tgt := 143) hx hb dX1_net_134 (by decide) (fun c_134 => ?_) (fun c_134 => absurd (by decide) c_134)
                    refine lv_aload_n hx hb dX1_net_143 rfl (lv_at hl 2 rfl) ?_
                    refine lv_aload_n hx hb dX1_net_144 rfl (lv_at hl 2 rfl) ?_
                    refine m_get (v := .int (σ125.1 8)) S hK hM.1 8 (by decide) fl_X1_100 rfl dX1_net_145 rfl ?_
                    refine topi (z := nI mp) (h8) ?_
                    refine m_put hI S hK hM 5 (by decide) rfl fl_X1_82 rfl rfl (by decide +kernel) dX1_net_148 (fun H locs hM => ?_)
                    refine lv_iconst (v := 0) hx hb dX1_net_151 (by decide) ?_
                    refine lv_istore (lv' := [(7, .int 0), (6, .int (-9)), (5, .int (nI (60 * ka + ja))), (0, .ref (a 0)), (1, .int (nI ka)), (2, .int w), (3, .int (nI ja)), (4, .int (nI Ln))]) hx hb dX1_net_152 hl (by decide) rfl (fun ls hl => ?_)
                    have hloop154 : ∀ (k154 i154 : Nat), i154 + k154 = mp → ∀ (ω154 : MS) (H : Heap) (locs : List Loc), MB D dA a ω154 s.heap H locs → (NTm σ ω154 ∧ ω154.1 5 = nI mp ∧ ω154.1 8 = nI mp ∧ (∀ j, j < i154 → ω154.2.1 6 j = nI (hh j)) ∧ (∀ j, ¬ j < mp → ω154.2.1 6 j = σ.2.1 6 j) ∧ ω154.2.1 7 = σ125.2.1 7 ∧ ω154.1 0 = 0) → ∀ (ls : Array Slot), lv_has ls 8 [(7, .int (nI i154)), (6, .int (-9)), (5, .int (nI (60 * ka + ja))), (0, .ref (a 0)), (1, .int (nI ka)), (2, .int w), (3, .int (nI ja)), (4, .int (nI Ln))] → W p l e ({ frames := 2, cells := 0, slots := 0, locals := 48 }) s m [.ref (a 0), .int (nI ka), .int w, .int (nI ja), .int (nI Ln)].toArray below meth c H locs 0 0 (MZ below D dA a (fun v9 σ9 => (∃ r9, spNetQ (σ.2.1 2) lo (nI ka) w (nI ja) (nI Ln) = some r9 ∧ v9 = some (.int r9.1) ∧ σ9 = σ.i 0 r9.2) ∨ (spNetQ (σ.2.1 2) lo (nI ka) w (nI ja) (nI Ln) = none ∧ ∃ u9, v9 = some (.int u9) ∧ NRm σ σ9 net cp cq (fun j => σ.2.1 4 (60 * (nI ka).toNatClampNeg + (nI ja).toNatClampNeg + j)) (nI Ln).toNatClampNeg u9)) [.ref (a 0), .int (nI ka), .int w, .int (nI ja), .int (nI Ln)] s) (F0 m 154 ls []) := by
                      intro k154
                      induction k154 with
                      | zero =>
                        intro i154 hi154 ω154 H locs hM hw154 ls hl
                        have hi154 : i154 = mp := by omega
                        have h8 := hw154.2.2.1
                        have h5 := hw154.2.1
                        refine lv_iload hx hb dX1_net_154 (lv_at hl 0 rfl) ?_
                        refine lv_aload_n hx hb dX1_net_156 rfl (lv_at hl 3 rfl) ?_
                        refine m_get (v := .int (ω154.1 8)) S hK hM.1 8 (by decide) fl_X1_100 rfl dX1_net_157 rfl ?_
                        refine topi (z := nI mp) (h8) ?_
                        refine lv_icmp_ge (tgt := 183) hx hb dX1_net_160 (by decide) (fun c_160 => ?_) (fun c_160 => absurd (show nI mp ≤ nI i154 from nI_le (by omega) (by omega)) c_160)
                        refine lv_aload_n hx hb dX1_net_183 rfl (lv_at hl 3 rfl) ?_
                        refine lv_iconst (v := 0) hx hb dX1_net_184 (by decide) ?_
                        refine m_put hI S hK hM 9 (by decide) rfl fl_X1_103 rfl rfl (by decide +kernel) dX1_net_185 (fun H locs hM => ?_)
                        refine lv_aload_n hx hb dX1_net_188 rfl (lv_at hl 3 rfl) ?_
                        refine m_get (v := .int (ω154.1 5)) S hK hM.1 5 (by decide) fl_X1_82 rfl dX1_net_189 rfl ?_
                        refine topi (z := nI mp) (h5) ?_
                        exact m_iret S hr hlk hM dX1_net_192 (Or.inr ⟨by simp [spNetQ, show inR (nI ka) 0 3 = true from inR_nI (k := 3) (by omega) (by decide), nI_clamp (show ka < 2 ^ 31 by omega), nI_clamp hLn, nI_clamp hja, nI_pos hLn, nI_pos hja, show ¬ lo ka < ja from (by omega), show ¬ lo ka - ja < Ln from (by omega), *], _, rfl, by rw [nI_clamp (show ka < 2 ^ 31 by omega), nI_clamp hja, nI_clamp hLn]; exact Or.inr ⟨hsp, mp, hh, hrd, rfl, MG.rd (σ := σ) hmp hw154.2.1 rfl hG.2.2.1 (fun j hj => hw154.2.2.2.1 j (by omega)) (fun j hj => (h7 j hj).2) hw154.2.2.2.2.1, hw154.1.i9, hw154.2.2.2.2.2.2⟩⟩)
                      | succ k154 ih154 =>
                        intro i154 hi154 ω154 H locs hM hw154 ls hl
                        have hlt154 : i154 < mp := by omega
                        have h8 := hw154.2.2.1
                        have h5 := hw154.2.1
                        refine lv_iload hx hb dX1_net_154 (lv_at hl 0 rfl) ?_
                        refine lv_aload_n hx hb dX1_net_156 rfl (lv_at hl 3 rfl) ?_
                        refine m_get (v := .int (ω154.1 8)) S hK hM.1 8 (by decide) fl_X1_100 rfl dX1_net_157 rfl ?_
                        refine topi (z := nI mp) (h8) ?_
                        refine lv_icmp_ge (tgt := 183) hx hb dX1_net_160 (by decide) (fun c_160 => absurd c_160 (show ¬ nI mp ≤ nI i154 from nI_ge (by omega) (by omega))) (fun c_160 => ?_)
                        refine lv_aload_n hx hb dX1_net_163 rfl (lv_at hl 3 rfl) ?_
                        refine m_get (v := .ref (a 6)) S hK hM.1 6 (by decide) fl_X1_19 rfl dX1_net_164 rfl ?_
                        refine lv_iload hx hb dX1_net_167 (lv_at hl 0 rfl) ?_
                        refine lv_aload_n hx hb dX1_net_169 rfl (lv_at hl 3 rfl) ?_
                        refine m_get (v := .ref (a 7)) S hK hM.1 7 (by decide) fl_X1_22 rfl dX1_net_170 rfl ?_
                        refine lv_iload hx hb dX1_net_173 (lv_at hl 0 rfl) ?_
                        refine m_aldn (j := i154) (v := nI (hh i154)) S hK hM.1 7 (by decide) rfl (show i154 < 4 by omega) dX1_net_175 ((congrFun hw154.2.2.2.2.2.1 _).trans (h7 i154 hlt154).1) ?_
                        refine m_astn (j := i154) hI S hK hM 6 (by decide) rfl (show i154 < 4 by omega) dX1_net_176 (fun H locs hM => ?_)
                        refine lv_iinc (v := nI (i154 + 1)) (lv' := [(7, .int (nI (i154 + 1))), (6, .int (-9)), (5, .int (nI (60 * ka + ja))), (0, .ref (a 0)), (1, .int (nI ka)), (2, .int w), (3, .int (nI ja)), (4, .int (nI Ln))]) hx hb dX1_net_177 hl (k := 0) rfl (nI_1 _) (by decide) rfl (fun ls hl => ?_)
                        refine lv_goto (tgt := 154) hx hb dX1_net_180 (by decide) ?_
                        exact ih154 (i154 + 1) (by omega) _ _ _ hM (⟨hw154.1.b6, hw154.2.1, hw154.2.2.1, fun j hj => (by by_cases h9 : j = i154; (subst h9; exact pk_us); exact (pk_un h9).trans (hw154.2.2.2.1 j (by omega))), fun j hj => (pk_un (by omega)).trans (hw154.2.2.2.2.1 j hj), hw154.2.2.2.2.2⟩) ls (lv_sub hl [0, 1, 2, 3, 4, 5, 6, 7] rfl)
                    exact hloop154 (mp) 0 (by omega) _ _ _ hM (⟨hRD.nt.i5, rfl, h8, fun j hj => absurd hj (Nat.not_lt_zero j), fun j _ => congrFun (hRD.2 6 (by decide)) j, rfl, hRD.1 0 (by decide)⟩) ls (lv_sub hl [0, 1, 2, 3, 4, 5, 6, 7] rfl)
                · have c_103 : lo ka - ja < Ln := Nat.lt_of_not_le (fun h => c_103 (nI_le h (by omega)))
                  refine lv_aload_n hx hb dX1_net_106 rfl (lv_at hl 0 rfl) ?_
                  refine lv_iconst (v := 3) hx hb dX1_net_107 (by decide) ?_
                  refine mc_Vi (rest := []) [.int 3] 1 S hK hM (m1_fails l D dA a hI (σ.i 0 0) 3) wl_X1_92 wd_X1_X1_fails rfl ⟨Nat.le_of_ble_eq_true rfl, Nat.le_of_ble_eq_true rfl⟩ hl.1 (Nat.le_of_ble_eq_true rfl) dX1_net_108 ⟨Nat.le_refl 0, Nat.le_refl 0⟩ (fun H locs hM => ?_) rfl
                  exact m_iret S hr hlk hM dX1_net_111 (Or.inl ⟨(-13, 3), by simp [spNetQ, show inR (nI ka) 0 3 = true from inR_nI (k := 3) (by omega) (by decide), nI_clamp (show ka < 2 ^ 31 by omega), nI_clamp hLn, nI_pos hLn, nI_clamp hja, nI_pos hja, *], rfl, MS_ii _ _ _ _⟩)
          · have c_70 : v < 0 := Int32.not_le.mp c_70
            refine lv_aload_n hx hb dX1_net_73 rfl (lv_at hl 0 rfl) ?_
            refine lv_iconst (v := 4) hx hb dX1_net_74 (by decide) ?_
            refine mc_Vi (rest := []) [.int 4] 1 S hK hM (m1_fails l D dA a hI (σ.i 0 0) 4) wl_X1_92 wd_X1_X1_fails rfl ⟨Nat.le_of_ble_eq_true rfl, Nat.le_of_ble_eq_true rfl⟩ hl.1 (Nat.le_of_ble_eq_true rfl) dX1_net_75 ⟨Nat.le_refl 0, Nat.le_refl 0⟩ (fun H locs hM => ?_) rfl
            exact m_iret S hr hlk hM dX1_net_78 (Or.inl ⟨(-14, 4), by simp [spNetQ, show inR (nI ka) 0 3 = true from inR_nI (k := 3) (by omega) (by decide), nI_clamp (show ka < 2 ^ 31 by omega), *], rfl, MS_ii _ _ _ _⟩)
        · refine lv_aload_n hx hb dX1_net_45 rfl (lv_at hl 0 rfl) ?_
          refine lv_iconst (v := 2) hx hb dX1_net_46 (by decide) ?_
          refine mc_Vi (rest := []) [.int 2] 1 S hK hM (m1_fails l D dA a hI (σ.i 0 0) 2) wl_X1_92 wd_X1_X1_fails rfl ⟨Nat.le_of_ble_eq_true rfl, Nat.le_of_ble_eq_true rfl⟩ hl.1 (Nat.le_of_ble_eq_true rfl) dX1_net_47 ⟨Nat.le_refl 0, Nat.le_refl 0⟩ (fun H locs hM => ?_) rfl
          exact m_iret S hr hlk hM dX1_net_50 (Or.inl ⟨(-12, 2), by simp [spNetQ, show inR (nI ka) 0 3 = true from inR_nI (k := 3) (by omega) (by decide), nI_clamp (show ka < 2 ^ 31 by omega), *], rfl, MS_ii _ _ _ _⟩)
    · have c_18 := b2i_eq0.mp c_18
      refine lv_bipush (v := (-2)) hx hb dX1_net_21 (by decide) ?_
      exact m_iret S hr hlk hM dX1_net_23 (Or.inl ⟨(-2, 0), by simp [spNetQ, show inR (nI ka) 0 3 = true from inR_nI (k := 3) (by omega) (by decide), nI_clamp (show ka < 2 ^ 31 by omega), *], rfl, rfl⟩)
  · have c_9 := b2i_eq0.mp c_9
    refine lv_iconst (v := (-1)) hx hb dX1_net_12 (by decide) ?_
    exact m_iret S hr hlk hM dX1_net_13 (Or.inl ⟨(-1, 0), by simp [spNetQ, *], rfl, rfl⟩)
