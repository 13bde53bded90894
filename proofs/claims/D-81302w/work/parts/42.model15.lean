/-! MODEL 15: copy (by program: gen/model15.py) -/
set_option maxRecDepth 100000
set_option maxHeartbeats 4000000 in
theorem m1_copy (l : Launch) (D : va_G) (dA : Nat → ClassId) (a : Nat → Nat) (hI : mInj a) (σ : MS) (lo : Nat → Nat) (hlo : ∀ k, k < 4 → lo k ≤ 60 ∧ σ.2.1 3 k = nI (lo k)) (kv iv ov jv nv : Int32) : MC l yX1_copy cX1_copy 10 (some .int) 2 42 D dA a [.ref (a 0), .int kv, .int iv, .int ov, .int jv, .int nv] σ (fun v9 σ9 => (∃ r9, spCopyQ (σ.2.1 2) lo kv iv ov jv nv = some r9 ∧ v9 = some (.int r9.1) ∧ σ9 = σ.i 0 r9.2) ∨ (spCopyQ (σ.2.1 2) lo kv iv ov jv nv = none ∧ v9 = some (.int nv) ∧ σ9 = (σ.i 0 0).b 4 (cpF (σ.2.1 4) (60 * kv.toNatClampNeg + iv.toNatClampNeg) (60 * ov.toNatClampNeg + jv.toNatClampNeg) nv.toNatClampNeg))) := by
  refine MC.of (by decide) (Nat.le_of_ble_eq_true rfl) ?_
  intro p e s m below meth c ls S hr hlk hK hM hl
  have hx := S.1
  have hb := S.2.1
  have hl : lv_has ls 10 [(0, .ref (a 0)), (1, .int kv), (2, .int iv), (3, .int ov), (4, .int jv), (5, .int nv)] := hl
  refine lv_aload_n hx hb dX1_copy_0 rfl (lv_at hl 0 rfl) ?_
  refine lv_iconst (v := 0) hx hb dX1_copy_1 (by decide) ?_
  refine m_put hI S hK hM 0 (by decide) rfl fl_X1_72 rfl rfl (by decide +kernel) dX1_copy_2 (fun H locs hM => ?_)
  refine lv_iload_n hx hb dX1_copy_5 rfl (lv_at hl 1 rfl) ?_
  refine rc_Si (rest := []) [.int kv] 1 S hK (r1_isSheet l D dA kv) wl_X1_85 wd_X1_X1_isSheet rfl ⟨Nat.le_of_ble_eq_true rfl, Nat.le_of_ble_eq_true rfl⟩ hl.1 (Nat.le_of_ble_eq_true rfl) dX1_copy_6 ⟨Nat.le_refl 0, Nat.le_refl 0⟩ (trivial) ?_ rfl
  refine lv_if_eq (tgt := 19) hx hb dX1_copy_9 (by decide) (fun c_9 => ?_) (fun c_9 => ?_)
  · have c_9 := b2i_eq0.mp c_9
    refine lv_iconst (v := (-1)) hx hb dX1_copy_19 (by decide) ?_
    exact m_iret S hr hlk hM dX1_copy_20 (Or.inl ⟨(-1, 0), by simp [spCopyQ, *], rfl, rfl⟩)
  · have c_9 := b2i_ne0.mp c_9
    refine lv_iload_n hx hb dX1_copy_12 rfl (lv_at hl 3 rfl) ?_
    refine rc_Si (rest := []) [.int ov] 1 S hK (r1_isSheet l D dA ov) wl_X1_85 wd_X1_X1_isSheet rfl ⟨Nat.le_of_ble_eq_true rfl, Nat.le_of_ble_eq_true rfl⟩ hl.1 (Nat.le_of_ble_eq_true rfl) dX1_copy_13 ⟨Nat.le_refl 0, Nat.le_refl 0⟩ (trivial) ?_ rfl
    refine lv_if_ne (tgt := 21) hx hb dX1_copy_16 (by decide) (fun c_16 => ?_) (fun c_16 => ?_)
    · have c_16 := b2i_ne0.mp c_16
      obtain ⟨ka, hka9, rfl⟩ := inR_some (k := 3) (by decide) c_9
      have hka4 : ka < 4 := by omega
      obtain ⟨oa, hoa9, rfl⟩ := inR_some (k := 3) (by decide) c_16
      have hoa4 : oa < 4 := by omega
      refine lv_aload_n hx hb dX1_copy_21 rfl (lv_at hl 0 rfl) ?_
      refine m_get (v := .ref (a 2)) S hK hM.1 2 (by decide) fl_X1_9 rfl dX1_copy_22 rfl ?_
      refine lv_iload_n hx hb dX1_copy_25 rfl (lv_at hl 1 rfl) ?_
      refine m_aldn (j := ka) (v := (σ.2.1 2) ka) S hK hM.1 2 (by decide) rfl (show ka < 4 by omega) dX1_copy_26 (rfl) ?_
      refine lv_bipush (v := (-9)) hx hb dX1_copy_27 (by decide) ?_
      refine lv_icmp_eq (tgt := 43) hx hb dX1_copy_29 (by decide) (fun c_29 => ?_) (fun c_29 => ?_)
      · refine lv_aload_n hx hb dX1_copy_43 rfl (lv_at hl 0 rfl) ?_
        refine lv_iconst (v := 1) hx hb dX1_copy_44 (by decide) ?_
        refine mc_Vi (rest := []) [.int 1] 1 S hK hM (m1_fails l D dA a hI (σ.i 0 0) 1) wl_X1_92 wd_X1_X1_fails rfl ⟨Nat.le_of_ble_eq_true rfl, Nat.le_of_ble_eq_true rfl⟩ hl.1 (Nat.le_of_ble_eq_true rfl) dX1_copy_45 ⟨Nat.le_refl 0, Nat.le_refl 0⟩ (fun H locs hM => ?_) rfl
        exact m_iret S hr hlk hM dX1_copy_48 (Or.inl ⟨(-11, 1), by simp [spCopyQ, show inR (nI ka) 0 3 = true from inR_nI (k := 3) (by omega) (by decide), nI_clamp (show ka < 2 ^ 31 by omega), show inR (nI oa) 0 3 = true from inR_nI (k := 3) (by omega) (by decide), nI_clamp (show oa < 2 ^ 31 by omega), *], rfl, MS_ii _ _ _ _⟩)
      · refine lv_aload_n hx hb dX1_copy_32 rfl (lv_at hl 0 rfl) ?_
        refine m_get (v := .ref (a 2)) S hK hM.1 2 (by decide) fl_X1_9 rfl dX1_copy_33 rfl ?_
        refine lv_iload_n hx hb dX1_copy_36 rfl (lv_at hl 3 rfl) ?_
        refine m_aldn (j := oa) (v := (σ.2.1 2) oa) S hK hM.1 2 (by decide) rfl (show oa < 4 by omega) dX1_copy_37 (rfl) ?_
        refine lv_bipush (v := (-9)) hx hb dX1_copy_38 (by decide) ?_
        refine lv_icmp_ne (tgt := 49) hx hb dX1_copy_40 (by decide) (fun c_40 => ?_) (fun c_40 => ?_)
        · refine lv_aload_n hx hb dX1_copy_49 rfl (lv_at hl 0 rfl) ?_
          refine m_get (v := .ref (a 2)) S hK hM.1 2 (by decide) fl_X1_9 rfl dX1_copy_50 rfl ?_
          refine lv_iload_n hx hb dX1_copy_53 rfl (lv_at hl 1 rfl) ?_
          refine m_aldn (j := ka) (v := (σ.2.1 2) ka) S hK hM.1 2 (by decide) rfl (show ka < 4 by omega) dX1_copy_54 (rfl) ?_
          refine lv_aload_n hx hb dX1_copy_55 rfl (lv_at hl 0 rfl) ?_
          refine m_get (v := .ref (a 2)) S hK hM.1 2 (by decide) fl_X1_9 rfl dX1_copy_56 rfl ?_
          refine lv_iload_n hx hb dX1_copy_59 rfl (lv_at hl 3 rfl) ?_
          refine m_aldn (j := oa) (v := (σ.2.1 2) oa) S hK hM.1 2 (by decide) rfl (show oa < 4 by omega) dX1_copy_60 (rfl) ?_
          refine lv_icmp_eq (tgt := 70) hx hb dX1_copy_61 (by decide) (fun c_61 => ?_) (fun c_61 => ?_)
          · refine lv_iload_n hx hb dX1_copy_70 rfl (lv_at hl 2 rfl) ?_
            refine lv_if_lt (tgt := 109) hx hb dX1_copy_71 (by decide) (fun c_71 => ?_) (fun c_71 => ?_)
            · refine lv_iconst (v := 0) hx hb dX1_copy_109 (by decide) ?_
              refine lv_istore (lv' := [(6, .int 0), (0, .ref (a 0)), (1, .int (nI ka)), (2, .int iv), (3, .int (nI oa)), (4, .int jv), (5, .int nv)]) hx hb dX1_copy_110 hl (by decide) rfl (fun ls hl => ?_)
              refine lv_iload hx hb dX1_copy_112 (lv_at hl 0 rfl) ?_
              refine lv_if_eq (tgt := 144) hx hb dX1_copy_114 (by decide) (fun c_114 => ?_) (fun c_114 => absurd (by decide) c_114)
              refine lv_aload_n hx hb dX1_copy_144 rfl (lv_at hl 1 rfl) ?_
              refine lv_iconst (v := 3) hx hb dX1_copy_145 (by decide) ?_
              refine mc_Vi (rest := []) [.int 3] 1 S hK hM (m1_fails l D dA a hI (σ.i 0 0) 3) wl_X1_92 wd_X1_X1_fails rfl ⟨Nat.le_of_ble_eq_true rfl, Nat.le_of_ble_eq_true rfl⟩ hl.1 (Nat.le_of_ble_eq_true rfl) dX1_copy_146 ⟨Nat.le_refl 0, Nat.le_refl 0⟩ (fun H locs hM => ?_) rfl
              exact m_iret S hr hlk hM dX1_copy_149 (Or.inl ⟨(-13, 3), by simp [spCopyQ, show inR (nI ka) 0 3 = true from inR_nI (k := 3) (by omega) (by decide), nI_clamp (show ka < 2 ^ 31 by omega), show inR (nI oa) 0 3 = true from inR_nI (k := 3) (by omega) (by decide), nI_clamp (show oa < 2 ^ 31 by omega), *], rfl, MS_ii _ _ _ _⟩)
            · obtain ⟨ia, hia, rfl⟩ := nI_of (c_71)
              refine lv_iload hx hb dX1_copy_74 (lv_at hl 4 rfl) ?_
              refine lv_if_lt (tgt := 109) hx hb dX1_copy_76 (by decide) (fun c_76 => ?_) (fun c_76 => ?_)
              · refine lv_iconst (v := 0) hx hb dX1_copy_109 (by decide) ?_
                refine lv_istore (lv' := [(6, .int 0), (0, .ref (a 0)), (1, .int (nI ka)), (2, .int (nI ia)), (3, .int (nI oa)), (4, .int jv), (5, .int nv)]) hx hb dX1_copy_110 hl (by decide) rfl (fun ls hl => ?_)
                refine lv_iload hx hb dX1_copy_112 (lv_at hl 0 rfl) ?_
                refine lv_if_eq (tgt := 144) hx hb dX1_copy_114 (by decide) (fun c_114 => ?_) (fun c_114 => absurd (by decide) c_114)
                refine lv_aload_n hx hb dX1_copy_144 rfl (lv_at hl 1 rfl) ?_
                refine lv_iconst (v := 3) hx hb dX1_copy_145 (by decide) ?_
                refine mc_Vi (rest := []) [.int 3] 1 S hK hM (m1_fails l D dA a hI (σ.i 0 0) 3) wl_X1_92 wd_X1_X1_fails rfl ⟨Nat.le_of_ble_eq_true rfl, Nat.le_of_ble_eq_true rfl⟩ hl.1 (Nat.le_of_ble_eq_true rfl) dX1_copy_146 ⟨Nat.le_refl 0, Nat.le_refl 0⟩ (fun H locs hM => ?_) rfl
                exact m_iret S hr hlk hM dX1_copy_149 (Or.inl ⟨(-13, 3), by simp [spCopyQ, show inR (nI ka) 0 3 = true from inR_nI (k := 3) (by omega) (by decide), nI_clamp (show ka < 2 ^ 31 by omega), show inR (nI oa) 0 3 = true from inR_nI (k := 3) (by omega) (by decide), nI_clamp (show oa < 2 ^ 31 by omega), nI_clamp hia, nI_pos hia, *], rfl, MS_ii _ _ _ _⟩)
              · obtain ⟨jb, hjb, rfl⟩ := nI_of (c_76)
                refine lv_iload hx hb dX1_copy_79 (lv_at hl 5 rfl) ?_
                refine lv_if_lt (tgt := 109) hx hb dX1_copy_81 (by decide) (fun c_81 => ?_) (fun c_81 => ?_)
                · refine lv_iconst (v := 0) hx hb dX1_copy_109 (by decide) ?_
                  refine lv_istore (lv' := [(6, .int 0), (0, .ref (a 0)), (1, .int (nI ka)), (2, .int (nI ia)), (3, .int (nI oa)), (4, .int (nI jb)), (5, .int nv)]) hx hb dX1_copy_110 hl (by decide) rfl (fun ls hl => ?_)
                  refine lv_iload hx hb dX1_copy_112 (lv_at hl 0 rfl) ?_
                  refine lv_if_eq (tgt := 144) hx hb dX1_copy_114 (by decide) (fun c_114 => ?_) (fun c_114 => absurd (by decide) c_114)
                  refine lv_aload_n hx hb dX1_copy_144 rfl (lv_at hl 1 rfl) ?_
                  refine lv_iconst (v := 3) hx hb dX1_copy_145 (by decide) ?_
                  refine mc_Vi (rest := []) [.int 3] 1 S hK hM (m1_fails l D dA a hI (σ.i 0 0) 3) wl_X1_92 wd_X1_X1_fails rfl ⟨Nat.le_of_ble_eq_true rfl, Nat.le_of_ble_eq_true rfl⟩ hl.1 (Nat.le_of_ble_eq_true rfl) dX1_copy_146 ⟨Nat.le_refl 0, Nat.le_refl 0⟩ (fun H locs hM => ?_) rfl
                  exact m_iret S hr hlk hM dX1_copy_149 (Or.inl ⟨(-13, 3), by simp [spCopyQ, show inR (nI ka) 0 3 = true from inR_nI (k := 3) (by omega) (by decide), nI_clamp (show ka < 2 ^ 31 by omega), show inR (nI oa) 0 3 = true from inR_nI (k := 3) (by omega) (by decide), nI_clamp (show oa < 2 ^ 31 by omega), nI_clamp hia, nI_pos hia, nI_clamp hjb, nI_pos hjb, *], rfl, MS_ii _ _ _ _⟩)
                · obtain ⟨Ln, hLn, rfl⟩ := nI_of (c_81)
                  have hlk9 := (hlo ka hka4).1
                  have hlo9 := (hlo oa hoa4).1
                  refine lv_iload_n hx hb dX1_copy_84 rfl (lv_at hl 2 rfl) ?_
                  refine lv_aload_n hx hb dX1_copy_85 rfl (lv_at hl 0 rfl) ?_
                  refine m_get (v := .ref (a 3)) S hK hM.1 3 (by decide) fl_X1_13 rfl dX1_copy_86 rfl ?_
                  refine lv_iload_n hx hb dX1_copy_89 rfl (lv_at hl 1 rfl) ?_
                  refine m_aldn (j := ka) (v := nI (lo ka)) S hK hM.1 3 (by decide) rfl (show ka < 4 by omega) dX1_copy_90 ((hlo ka hka4).2) ?_
                  refine lv_icmp_gt (tgt := 109) hx hb dX1_copy_91 (by decide) (fun c_91 => ?_) (fun c_91 => ?_)
                  · have c_91 : lo ka < ia := Nat.lt_of_not_le (fun h => nI_nlt h (by omega) c_91)
                    refine lv_iconst (v := 0) hx hb dX1_copy_109 (by decide) ?_
                    refine lv_istore (lv' := [(6, .int 0), (0, .ref (a 0)), (1, .int (nI ka)), (2, .int (nI ia)), (3, .int (nI oa)), (4, .int (nI jb)), (5, .int (nI Ln))]) hx hb dX1_copy_110 hl (by decide) rfl (fun ls hl => ?_)
                    refine lv_iload hx hb dX1_copy_112 (lv_at hl 0 rfl) ?_
                    refine lv_if_eq (tgt := 144) hx hb dX1_copy_114 (by decide) (fun c_114 => ?_) (fun c_114 => absurd (by decide) c_114)
                    refine lv_aload_n hx hb dX1_copy_144 rfl (lv_at hl 1 rfl) ?_
                    refine lv_iconst (v := 3) hx hb dX1_copy_145 (by decide) ?_
                    refine mc_Vi (rest := []) [.int 3] 1 S hK hM (m1_fails l D dA a hI (σ.i 0 0) 3) wl_X1_92 wd_X1_X1_fails rfl ⟨Nat.le_of_ble_eq_true rfl, Nat.le_of_ble_eq_true rfl⟩ hl.1 (Nat.le_of_ble_eq_true rfl) dX1_copy_146 ⟨Nat.le_refl 0, Nat.le_refl 0⟩ (fun H locs hM => ?_) rfl
                    exact m_iret S hr hlk hM dX1_copy_149 (Or.inl ⟨(-13, 3), by simp [spCopyQ, show inR (nI ka) 0 3 = true from inR_nI (k := 3) (by omega) (by decide), nI_clamp (show ka < 2 ^ 31 by omega), show inR (nI oa) 0 3 = true from inR_nI (k := 3) (by omega) (by decide), nI_clamp (show oa < 2 ^ 31 by omega), nI_clamp hia, nI_pos hia, nI_clamp hjb, nI_pos hjb, nI_clamp hLn, nI_pos hLn, *], rfl, MS_ii _ _ _ _⟩)
                  · have c_91 : ia ≤ lo ka := Nat.le_of_not_lt (fun h => c_91 (nI_lt h (by omega)))
                    refine lv_iload hx hb dX1_copy_94 (lv_at hl 4 rfl) ?_
                    refine lv_aload_n hx hb dX1_copy_96 rfl (lv_at hl 0 rfl) ?_
                    refine m_get (v := .ref (a 3)) S hK hM.1 3 (by decide) fl_X1_13 rfl dX1_copy_97 rfl ?_
                    refine lv_iload_n hx hb dX1_copy_100 rfl (lv_at hl 3 rfl) ?_
                    refine m_aldn (j := oa) (v := nI (lo oa)) S hK hM.1 3 (by decide) rfl (show oa < 4 by omega) dX1_copy_101 ((hlo oa hoa4).2) ?_
                    refine lv_icmp_gt (tgt := 109) hx hb dX1_copy_102 (by decide) (fun c_102 => ?_) (fun c_102 => ?_)
                    · have c_102 : lo oa < jb := Nat.lt_of_not_le (fun h => nI_nlt h (by omega) c_102)
                      refine lv_iconst (v := 0) hx hb dX1_copy_109 (by decide) ?_
                      refine lv_istore (lv' := [(6, .int 0), (0, .ref (a 0)), (1, .int (nI ka)), (2, .int (nI ia)), (3, .int (nI oa)), (4, .int (nI jb)), (5, .int (nI Ln))]) hx hb dX1_copy_110 hl (by decide) rfl (fun ls hl => ?_)
                      refine lv_iload hx hb dX1_copy_112 (lv_at hl 0 rfl) ?_
                      refine lv_if_eq (tgt := 144) hx hb dX1_copy_114 (by decide) (fun c_114 => ?_) (fun c_114 => absurd (by decide) c_114)
                      refine lv_aload_n hx hb dX1_copy_144 rfl (lv_at hl 1 rfl) ?_
                      refine lv_iconst (v := 3) hx hb dX1_copy_145 (by decide) ?_
                      refine mc_Vi (rest := []) [.int 3] 1 S hK hM (m1_fails l D dA a hI (σ.i 0 0) 3) wl_X1_92 wd_X1_X1_fails rfl ⟨Nat.le_of_ble_eq_true rfl, Nat.le_of_ble_eq_true rfl⟩ hl.1 (Nat.le_of_ble_eq_true rfl) dX1_copy_146 ⟨Nat.le_refl 0, Nat.le_refl 0⟩ (fun H locs hM => ?_) rfl
                      exact m_iret S hr hlk hM dX1_copy_149 (Or.inl ⟨(-13, 3), by simp [spCopyQ, show inR (nI ka) 0 3 = true from inR_nI (k := 3) (by omega) (by decide), nI_clamp (show ka < 2 ^ 31 by omega), show inR (nI oa) 0 3 = true from inR_nI (k := 3) (by omega) (by decide), nI_clamp (show oa < 2 ^ 31 by omega), nI_clamp hia, nI_pos hia, nI_clamp hjb, nI_pos hjb, nI_clamp hLn, nI_pos hLn, *], rfl, MS_ii _ _ _ _⟩)
                    · have c_102 : jb ≤ lo oa := Nat.le_of_not_lt (fun h => c_102 (nI_lt h (by omega)))
                      refine lv_iconst (v := 1) hx hb dX1_copy_105 (by decide) ?_
                      refine lv_goto (tgt := 110) hx hb dX1_copy_106 (by decide) ?_
                      refine lv_istore (lv' := [(6, .int 1), (0, .ref (a 0)), (1, .int (nI ka)), (2, .int (nI ia)), (3, .int (nI oa)), (4, .int (nI jb)), (5, .int (nI Ln))]) hx hb dX1_copy_110 hl (by decide) rfl (fun ls hl => ?_)
                      refine lv_iload hx hb dX1_copy_112 (lv_at hl 0 rfl) ?_
                      refine lv_if_eq (tgt := 144) hx hb dX1_copy_114 (by decide) (fun c_114 => absurd c_114 (by decide)) (fun c_114 => ?_)
                      refine lv_iload hx hb dX1_copy_117 (lv_at hl 6 rfl) ?_
                      refine lv_aload_n hx hb dX1_copy_119 rfl (lv_at hl 1 rfl) ?_
                      refine m_get (v := .ref (a 3)) S hK hM.1 3 (by decide) fl_X1_13 rfl dX1_copy_120 rfl ?_
                      refine lv_iload_n hx hb dX1_copy_123 rfl (lv_at hl 2 rfl) ?_
                      refine m_aldn (j := ka) (v := nI (lo ka)) S hK hM.1 3 (by decide) rfl (show ka < 4 by omega) dX1_copy_124 ((hlo ka hka4).2) ?_
                      refine lv_iload_n hx hb dX1_copy_125 rfl (lv_at hl 3 rfl) ?_
                      refine lv_isub hx hb dX1_copy_126 ?_
                      refine topi (z := nI (lo ka - ia)) (pk_sub c_91) ?_
                      refine lv_icmp_gt (tgt := 144) hx hb dX1_copy_127 (by decide) (fun c_127 => ?_) (fun c_127 => ?_)
                      · have c_127 : lo ka - ia < Ln := Nat.lt_of_not_le (fun h => nI_nlt h (by omega) c_127)
                        refine lv_aload_n hx hb dX1_copy_144 rfl (lv_at hl 1 rfl) ?_
                        refine lv_iconst (v := 3) hx hb dX1_copy_145 (by decide) ?_
                        refine mc_Vi (rest := []) [.int 3] 1 S hK hM (m1_fails l D dA a hI (σ.i 0 0) 3) wl_X1_92 wd_X1_X1_fails rfl ⟨Nat.le_of_ble_eq_true rfl, Nat.le_of_ble_eq_true rfl⟩ hl.1 (Nat.le_of_ble_eq_true rfl) dX1_copy_146 ⟨Nat.le_refl 0, Nat.le_refl 0⟩ (fun H locs hM => ?_) rfl
                        exact m_iret S hr hlk hM dX1_copy_149 (Or.inl ⟨(-13, 3), by simp [spCopyQ, show inR (nI ka) 0 3 = true from inR_nI (k := 3) (by omega) (by decide), nI_clamp (show ka < 2 ^ 31 by omega), show inR (nI oa) 0 3 = true from inR_nI (k := 3) (by omega) (by decide), nI_clamp (show oa < 2 ^ 31 by omega), nI_clamp hia, nI_pos hia, nI_clamp hjb, nI_pos hjb, nI_clamp hLn, nI_pos hLn, *], rfl, MS_ii _ _ _ _⟩)
                      · have c_127 : Ln ≤ lo ka - ia := Nat.le_of_not_lt (fun h => c_127 (nI_lt h (by omega)))
                        refine lv_iload hx hb dX1_copy_130 (lv_at hl 6 rfl) ?_
                        refine lv_aload_n hx hb dX1_copy_132 rfl (lv_at hl 1 rfl) ?_
                        refine m_get (v := .ref (a 3)) S hK hM.1 3 (by decide) fl_X1_13 rfl dX1_copy_133 rfl ?_
                        refine lv_iload_n hx hb dX1_copy_136 rfl (lv_at hl 4 rfl) ?_
                        refine m_aldn (j := oa) (v := nI (lo oa)) S hK hM.1 3 (by decide) rfl (show oa < 4 by omega) dX1_copy_137 ((hlo oa hoa4).2) ?_
                        refine lv_iload hx hb dX1_copy_138 (lv_at hl 5 rfl) ?_
                        refine lv_isub hx hb dX1_copy_140 ?_
                        refine topi (z := nI (lo oa - jb)) (pk_sub c_102) ?_
                        refine lv_icmp_le (tgt := 150) hx hb dX1_copy_141 (by decide) (fun c_141 => ?_) (fun c_141 => ?_)
                        · have c_141 : Ln ≤ lo oa - jb := Nat.le_of_not_lt (fun h => nI_ge h (by omega) c_141)
                          refine lv_iload_n hx hb dX1_copy_150 rfl (lv_at hl 3 rfl) ?_
                          refine lv_iload hx hb dX1_copy_151 (lv_at hl 5 rfl) ?_
                          refine lv_icmp_ge (tgt := 160) hx hb dX1_copy_153 (by decide) (fun c_153 => ?_) (fun c_153 => ?_)
                          · have c_153 : jb ≤ ia := Nat.le_of_not_lt (fun h => nI_ge h (by omega) c_153)
                            refine lv_iconst (v := 0) hx hb dX1_copy_160 (by decide) ?_
                            refine lv_istore (lv' := [(7, .int 0), (6, .int 1), (0, .ref (a 0)), (1, .int (nI ka)), (2, .int (nI ia)), (3, .int (nI oa)), (4, .int (nI jb)), (5, .int (nI Ln))]) hx hb dX1_copy_161 hl (by decide) rfl (fun ls hl => ?_)
                            refine lv_iconst (v := 0) hx hb dX1_copy_163 (by decide) ?_
                            refine lv_istore (lv' := [(8, .int 0), (7, .int 0), (6, .int 1), (0, .ref (a 0)), (1, .int (nI ka)), (2, .int (nI ia)), (3, .int (nI oa)), (4, .int (nI jb)), (5, .int (nI Ln))]) hx hb dX1_copy_164 hl (by decide) rfl (fun ls hl => ?_)
                            have hM : MB D dA a ((σ.i 0 0).b 4 (cpA (σ.2.1 4) (60 * ka + ia) (60 * oa + jb) 0)) s.heap H locs := by rw [show ((σ.i 0 0).b 4 (cpA (σ.2.1 4) (60 * ka + ia) (60 * oa + jb) 0)) = (σ.i 0 0) from MS_idb _ 4]; exact hM
                            have hloop166 : ∀ (k166 i166 : Nat), i166 + k166 = Ln → ∀ (H : Heap) (locs : List Loc), MB D dA a ((σ.i 0 0).b 4 (cpA (σ.2.1 4) (60 * ka + ia) (60 * oa + jb) i166)) s.heap H locs → ∀ (ls : Array Slot), lv_has ls 10 [(8, .int (nI i166)), (7, .int 0), (6, .int 1), (0, .ref (a 0)), (1, .int (nI ka)), (2, .int (nI ia)), (3, .int (nI oa)), (4, .int (nI jb)), (5, .int (nI Ln))] → W p l e ({ frames := 2, cells := 0, slots := 0, locals := 42 }) s m [.ref (a 0), .int (nI ka), .int (nI ia), .int (nI oa), .int (nI jb), .int (nI Ln)].toArray below meth c H locs 0 0 (MZ below D dA a (fun v9 σ9 => (∃ r9, spCopyQ (σ.2.1 2) lo (nI ka) (nI ia) (nI oa) (nI jb) (nI Ln) = some r9 ∧ v9 = some (.int r9.1) ∧ σ9 = σ.i 0 r9.2) ∨ (spCopyQ (σ.2.1 2) lo (nI ka) (nI ia) (nI oa) (nI jb) (nI Ln) = none ∧ v9 = some (.int (nI Ln)) ∧ σ9 = (σ.i 0 0).b 4 (cpF (σ.2.1 4) (60 * (nI ka).toNatClampNeg + (nI ia).toNatClampNeg) (60 * (nI oa).toNatClampNeg + (nI jb).toNatClampNeg) (nI Ln).toNatClampNeg))) [.ref (a 0), .int (nI ka), .int (nI ia), .int (nI oa), .int (nI jb), .int (nI Ln)] s) (F0 m 166 ls []) := by
                              intro k166
                              induction k166 with
                              | zero =>
                                intro i166 hi166 H locs hM ls hl
                                have hi166 : i166 = Ln := by omega
                                refine lv_iload hx hb dX1_copy_166 (lv_at hl 0 rfl) ?_
                                refine lv_iload hx hb dX1_copy_168 (lv_at hl 8 rfl) ?_
                                refine lv_icmp_ge (tgt := 227) hx hb dX1_copy_170 (by decide) (fun c_170 => ?_) (fun c_170 => absurd (show nI Ln ≤ nI i166 from nI_le (by omega) (by omega)) c_170)
                                refine lv_iload hx hb dX1_copy_227 (lv_at hl 8 rfl) ?_
                                exact m_iret S hr hlk hM dX1_copy_229 (Or.inr ⟨by simp [spCopyQ, show inR (nI ka) 0 3 = true from inR_nI (k := 3) (by omega) (by decide), nI_clamp (show ka < 2 ^ 31 by omega), show inR (nI oa) 0 3 = true from inR_nI (k := 3) (by omega) (by decide), nI_clamp (show oa < 2 ^ 31 by omega), nI_clamp hia, nI_pos hia, nI_clamp hjb, nI_pos hjb, nI_clamp hLn, nI_pos hLn, show ¬ lo ka < ia from (by omega), show ¬ lo oa < jb from (by omega), show ¬ lo ka - ia < Ln from (by omega), show ¬ lo oa - jb < Ln from (by omega), *], rfl, by rw [nI_clamp (show ka < 2 ^ 31 by omega), nI_clamp (show oa < 2 ^ 31 by omega), nI_clamp hia, nI_clamp hjb, nI_clamp hLn, hi166, cpA_F]⟩)
                              | succ k166 ih166 =>
                                intro i166 hi166 H locs hM ls hl
                                have hlt166 : i166 < Ln := by omega
                                refine lv_iload hx hb dX1_copy_166 (lv_at hl 0 rfl) ?_
                                refine lv_iload hx hb dX1_copy_168 (lv_at hl 8 rfl) ?_
                                refine lv_icmp_ge (tgt := 227) hx hb dX1_copy_170 (by decide) (fun c_170 => absurd c_170 (show ¬ nI Ln ≤ nI i166 from nI_ge (by omega) (by omega))) (fun c_170 => ?_)
                                refine lv_iload hx hb dX1_copy_173 (lv_at hl 1 rfl) ?_
                                refine lv_if_eq (tgt := 188) hx hb dX1_copy_175 (by decide) (fun c_175 => ?_) (fun c_175 => absurd (by decide) c_175)
                                refine lv_iload hx hb dX1_copy_188 (lv_at hl 0 rfl) ?_
                                refine lv_istore (lv' := [(9, .int (nI i166)), (8, .int (nI i166)), (7, .int 0), (6, .int 1), (0, .ref (a 0)), (1, .int (nI ka)), (2, .int (nI ia)), (3, .int (nI oa)), (4, .int (nI jb)), (5, .int (nI Ln))]) hx hb dX1_copy_190 hl (by decide) rfl (fun ls hl => ?_)
                                refine lv_aload_n hx hb dX1_copy_192 rfl (lv_at hl 4 rfl) ?_
                                refine m_get (v := .ref (a 4)) S hK hM.1 4 (by decide) fl_X1_16 rfl dX1_copy_193 rfl ?_
                                refine lv_bipush (v := 60) hx hb dX1_copy_196 (by decide) ?_
                                refine lv_iload_n hx hb dX1_copy_198 rfl (lv_at hl 7 rfl) ?_
                                refine lv_imul hx hb dX1_copy_199 ?_
                                refine lv_iload hx hb dX1_copy_200 (lv_at hl 8 rfl) ?_
                                refine lv_iadd hx hb dX1_copy_202 ?_
                                refine lv_iload hx hb dX1_copy_203 (lv_at hl 0 rfl) ?_
                                refine lv_iadd hx hb dX1_copy_205 ?_
                                refine topi (z := nI (60 * oa + jb + i166)) (i602) ?_
                                refine lv_aload_n hx hb dX1_copy_206 rfl (lv_at hl 4 rfl) ?_
                                refine m_get (v := .ref (a 4)) S hK hM.1 4 (by decide) fl_X1_16 rfl dX1_copy_207 rfl ?_
                                refine lv_bipush (v := 60) hx hb dX1_copy_210 (by decide) ?_
                                refine lv_iload_n hx hb dX1_copy_212 rfl (lv_at hl 5 rfl) ?_
                                refine lv_imul hx hb dX1_copy_213 ?_
                                refine lv_iload_n hx hb dX1_copy_214 rfl (lv_at hl 6 rfl) ?_
                                refine lv_iadd hx hb dX1_copy_215 ?_
                                refine lv_iload hx hb dX1_copy_216 (lv_at hl 0 rfl) ?_
                                refine lv_iadd hx hb dX1_copy_218 ?_
                                refine topi (z := nI (60 * ka + ia + i166)) (i602) ?_
                                refine m_aldn (j := 60 * ka + ia + i166) (v := σ.2.1 4 (60 * ka + ia + i166)) S hK hM.1 4 (by decide) rfl (show 60 * ka + ia + i166 < 240 by omega) dX1_copy_219 (cpA_r (by omega)) ?_
                                refine m_astn (j := 60 * oa + jb + i166) hI S hK hM 4 (by decide) rfl (show 60 * oa + jb + i166 < 240 by omega) dX1_copy_220 (fun H locs hM => ?_)
                                have hM : MB D dA a (((σ.i 0 0).b 4 (cpA (σ.2.1 4) (60 * ka + ia) (60 * oa + jb) i166)).b 4 (upd (cpA (σ.2.1 4) (60 * ka + ia) (60 * oa + jb) i166) (60 * oa + jb + i166) (σ.2.1 4 (60 * ka + ia + i166)))) s.heap H locs := hM
                                refine lv_iinc (v := nI (i166 + 1)) (lv' := [(8, .int (nI (i166 + 1))), (9, .int (nI i166)), (7, .int 0), (6, .int 1), (0, .ref (a 0)), (1, .int (nI ka)), (2, .int (nI ia)), (3, .int (nI oa)), (4, .int (nI jb)), (5, .int (nI Ln))]) hx hb dX1_copy_221 hl (k := 1) rfl (nI_1 _) (by decide) rfl (fun ls hl => ?_)
                                refine lv_goto (tgt := 166) hx hb dX1_copy_224 (by decide) ?_
                                have hM : MB D dA a ((σ.i 0 0).b 4 (cpA (σ.2.1 4) (60 * ka + ia) (60 * oa + jb) (i166 + 1))) s.heap H locs := by rw [show ((σ.i 0 0).b 4 (cpA (σ.2.1 4) (60 * ka + ia) (60 * oa + jb) (i166 + 1))) = (((σ.i 0 0).b 4 (cpA (σ.2.1 4) (60 * ka + ia) (60 * oa + jb) i166)).b 4 (upd (cpA (σ.2.1 4) (60 * ka + ia) (60 * oa + jb) i166) (60 * oa + jb + i166) (σ.2.1 4 (60 * ka + ia + i166)))) from (MS_bb _ _ _ _).symm]; exact hM
                                exact ih166 (i166 + 1) (by omega) _ _ hM ls (lv_sub hl [0, 2, 3, 4, 5, 6, 7, 8, 9] rfl)
                            exact hloop166 (Ln) 0 (by omega) _ _ hM ls (lv_sub hl [0, 1, 2, 3, 4, 5, 6, 7, 8] rfl)
                          · have c_153 : ia < jb := Nat.lt_of_not_le (fun h => c_153 (nI_le h (by omega)))
                            refine lv_iconst (v := 1) hx hb dX1_copy_156 (by decide) ?_
                            refine lv_goto (tgt := 161) hx hb dX1_copy_157 (by decide) ?_
                            refine lv_istore (lv' := [(7, .int 1), (6, .int 1), (0, .ref (a 0)), (1, .int (nI ka)), (2, .int (nI ia)), (3, .int (nI oa)), (4, .int (nI jb)), (5, .int (nI Ln))]) hx hb dX1_copy_161 hl (by decide) rfl (fun ls hl => ?_)
                            refine lv_iconst (v := 0) hx hb dX1_copy_163 (by decide) ?_
                            refine lv_istore (lv' := [(8, .int 0), (7, .int 1), (6, .int 1), (0, .ref (a 0)), (1, .int (nI ka)), (2, .int (nI ia)), (3, .int (nI oa)), (4, .int (nI jb)), (5, .int (nI Ln))]) hx hb dX1_copy_164 hl (by decide) rfl (fun ls hl => ?_)
                            have hM : MB D dA a ((σ.i 0 0).b 4 (cpD (σ.2.1 4) (60 * ka + ia) (60 * oa + jb) Ln 0)) s.heap H locs := by rw [show ((σ.i 0 0).b 4 (cpD (σ.2.1 4) (60 * ka + ia) (60 * oa + jb) Ln 0)) = (σ.i 0 0) from MS_idb _ 4]; exact hM
                            have hloop166 : ∀ (k166 i166 : Nat), i166 + k166 = Ln → ∀ (H : Heap) (locs : List Loc), MB D dA a ((σ.i 0 0).b 4 (cpD (σ.2.1 4) (60 * ka + ia) (60 * oa + jb) Ln i166)) s.heap H locs → ∀ (ls : Array Slot), lv_has ls 10 [(8, .int (nI i166)), (7, .int 1), (6, .int 1), (0, .ref (a 0)), (1, .int (nI ka)), (2, .int (nI ia)), (3, .int (nI oa)), (4, .int (nI jb)), (5, .int (nI Ln))] → W p l e ({ frames := 2, cells := 0, slots := 0, locals := 42 }) s m [.ref (a 0), .int (nI ka), .int (nI ia), .int (nI oa), .int (nI jb), .int (nI Ln)].toArray below meth c H locs 0 0 (MZ below D dA a (fun v9 σ9 => (∃ r9, spCopyQ (σ.2.1 2) lo (nI ka) (nI ia) (nI oa) (nI jb) (nI Ln) = some r9 ∧ v9 = some (.int r9.1) ∧ σ9 = σ.i 0 r9.2) ∨ (spCopyQ (σ.2.1 2) lo (nI ka) (nI ia) (nI oa) (nI jb) (nI Ln) = none ∧ v9 = some (.int (nI Ln)) ∧ σ9 = (σ.i 0 0).b 4 (cpF (σ.2.1 4) (60 * (nI ka).toNatClampNeg + (nI ia).toNatClampNeg) (60 * (nI oa).toNatClampNeg + (nI jb).toNatClampNeg) (nI Ln).toNatClampNeg))) [.ref (a 0), .int (nI ka), .int (nI ia), .int (nI oa), .int (nI jb), .int (nI Ln)] s) (F0 m 166 ls []) := by
                              intro k166
                              induction k166 with
                              | zero =>
                                intro i166 hi166 H locs hM ls hl
                                have hi166 : i166 = Ln := by omega
                                refine lv_iload hx hb dX1_copy_166 (lv_at hl 0 rfl) ?_
                                refine lv_iload hx hb dX1_copy_168 (lv_at hl 8 rfl) ?_
                                refine lv_icmp_ge (tgt := 227) hx hb dX1_copy_170 (by decide) (fun c_170 => ?_) (fun c_170 => absurd (show nI Ln ≤ nI i166 from nI_le (by omega) (by omega)) c_170)
                                refine lv_iload hx hb dX1_copy_227 (lv_at hl 8 rfl) ?_
                                exact m_iret S hr hlk hM dX1_copy_229 (Or.inr ⟨by simp [spCopyQ, show inR (nI ka) 0 3 = true from inR_nI (k := 3) (by omega) (by decide), nI_clamp (show ka < 2 ^ 31 by omega), show inR (nI oa) 0 3 = true from inR_nI (k := 3) (by omega) (by decide), nI_clamp (show oa < 2 ^ 31 by omega), nI_clamp hia, nI_pos hia, nI_clamp hjb, nI_pos hjb, nI_clamp hLn, nI_pos hLn, show ¬ lo ka < ia from (by omega), show ¬ lo oa < jb from (by omega), show ¬ lo ka - ia < Ln from (by omega), show ¬ lo oa - jb < Ln from (by omega), *], rfl, by rw [nI_clamp (show ka < 2 ^ 31 by omega), nI_clamp (show oa < 2 ^ 31 by omega), nI_clamp hia, nI_clamp hjb, nI_clamp hLn, hi166, cpD_F]⟩)
                              | succ k166 ih166 =>
                                intro i166 hi166 H locs hM ls hl
                                have hlt166 : i166 < Ln := by omega
                                refine lv_iload hx hb dX1_copy_166 (lv_at hl 0 rfl) ?_
                                refine lv_iload hx hb dX1_copy_168 (lv_at hl 8 rfl) ?_
                                refine lv_icmp_ge (tgt := 227) hx hb dX1_copy_170 (by decide) (fun c_170 => absurd c_170 (show ¬ nI Ln ≤ nI i166 from nI_ge (by omega) (by omega))) (fun c_170 => ?_)
                                refine lv_iload hx hb dX1_copy_173 (lv_at hl 1 rfl) ?_
                                refine lv_if_eq (tgt := 188) hx hb dX1_copy_175 (by decide) (fun c_175 => absurd c_175 (by decide)) (fun c_175 => ?_)
                                refine lv_iload hx hb dX1_copy_178 (lv_at hl 8 rfl) ?_
                                refine lv_iconst (v := 1) hx hb dX1_copy_180 (by decide) ?_
                                refine lv_isub hx hb dX1_copy_181 ?_
                                refine lv_iload hx hb dX1_copy_182 (lv_at hl 0 rfl) ?_
                                refine lv_isub hx hb dX1_copy_184 ?_
                                refine lv_goto (tgt := 190) hx hb dX1_copy_185 (by decide) ?_
                                refine topi (z := nI (Ln - 1 - i166)) (dn_ix hlt166) ?_
                                refine lv_istore (lv' := [(9, .int (nI (Ln - 1 - i166))), (8, .int (nI i166)), (7, .int 1), (6, .int 1), (0, .ref (a 0)), (1, .int (nI ka)), (2, .int (nI ia)), (3, .int (nI oa)), (4, .int (nI jb)), (5, .int (nI Ln))]) hx hb dX1_copy_190 hl (by decide) rfl (fun ls hl => ?_)
                                refine lv_aload_n hx hb dX1_copy_192 rfl (lv_at hl 4 rfl) ?_
                                refine m_get (v := .ref (a 4)) S hK hM.1 4 (by decide) fl_X1_16 rfl dX1_copy_193 rfl ?_
                                refine lv_bipush (v := 60) hx hb dX1_copy_196 (by decide) ?_
                                refine lv_iload_n hx hb dX1_copy_198 rfl (lv_at hl 7 rfl) ?_
                                refine lv_imul hx hb dX1_copy_199 ?_
                                refine lv_iload hx hb dX1_copy_200 (lv_at hl 8 rfl) ?_
                                refine lv_iadd hx hb dX1_copy_202 ?_
                                refine lv_iload hx hb dX1_copy_203 (lv_at hl 0 rfl) ?_
                                refine lv_iadd hx hb dX1_copy_205 ?_
                                refine topi (z := nI (60 * oa + jb + (Ln - 1 - i166))) (i602) ?_
                                refine lv_aload_n hx hb dX1_copy_206 rfl (lv_at hl 4 rfl) ?_
                                refine m_get (v := .ref (a 4)) S hK hM.1 4 (by decide) fl_X1_16 rfl dX1_copy_207 rfl ?_
                                refine lv_bipush (v := 60) hx hb dX1_copy_210 (by decide) ?_
                                refine lv_iload_n hx hb dX1_copy_212 rfl (lv_at hl 5 rfl) ?_
                                refine lv_imul hx hb dX1_copy_213 ?_
                                refine lv_iload_n hx hb dX1_copy_214 rfl (lv_at hl 6 rfl) ?_
                                refine lv_iadd hx hb dX1_copy_215 ?_
                                refine lv_iload hx hb dX1_copy_216 (lv_at hl 0 rfl) ?_
                                refine lv_iadd hx hb dX1_copy_218 ?_
                                refine topi (z := nI (60 * ka + ia + (Ln - 1 - i166))) (i602) ?_
                                refine m_aldn (j := 60 * ka + ia + (Ln - 1 - i166)) (v := σ.2.1 4 (60 * ka + ia + (Ln - 1 - i166))) S hK hM.1 4 (by decide) rfl (show 60 * ka + ia + (Ln - 1 - i166) < 240 by omega) dX1_copy_219 (cpD_r hlt166 (by omega)) ?_
                                refine m_astn (j := 60 * oa + jb + (Ln - 1 - i166)) hI S hK hM 4 (by decide) rfl (show 60 * oa + jb + (Ln - 1 - i166) < 240 by omega) dX1_copy_220 (fun H locs hM => ?_)
                                have hM : MB D dA a (((σ.i 0 0).b 4 (cpD (σ.2.1 4) (60 * ka + ia) (60 * oa + jb) Ln i166)).b 4 (upd (cpD (σ.2.1 4) (60 * ka + ia) (60 * oa + jb) Ln i166) (60 * oa + jb + (Ln - 1 - i166)) (σ.2.1 4 (60 * ka + ia + (Ln - 1 - i166))))) s.heap H locs := hM
                                refine lv_iinc (v := nI (i166 + 1)) (lv' := [(8, .int (nI (i166 + 1))), (9, .int (nI (Ln - 1 - i166))), (7, .int 1), (6, .int 1), (0, .ref (a 0)), (1, .int (nI ka)), (2, .int (nI ia)), (3, .int (nI oa)), (4, .int (nI jb)), (5, .int (nI Ln))]) hx hb dX1_copy_221 hl (k := 1) rfl (nI_1 _) (by decide) rfl (fun ls hl => ?_)
                                refine lv_goto (tgt := 166) hx hb dX1_copy_224 (by decide) ?_
                                have hM : MB D dA a ((σ.i 0 0).b 4 (cpD (σ.2.1 4) (60 * ka + ia) (60 * oa + jb) Ln (i166 + 1))) s.heap H locs := by rw [show ((σ.i 0 0).b 4 (cpD (σ.2.1 4) (60 * ka + ia) (60 * oa + jb) Ln (i166 + 1))) = (((σ.i 0 0).b 4 (cpD (σ.2.1 4) (60 * ka + ia) (60 * oa + jb) Ln i166)).b 4 (upd (cpD (σ.2.1 4) (60 * ka + ia) (60 * oa + jb) Ln i166) (60 * oa + jb + (Ln - 1 - i166)) (σ.2.1 4 (60 * ka + ia + (Ln - 1 - i166))))) from (MS_bb _ _ _ _).symm]; exact hM
                                exact ih166 (i166 + 1) (by omega) _ _ hM ls (lv_sub hl [0, 2, 3, 4, 5, 6, 7, 8, 9] rfl)
                            exact hloop166 (Ln) 0 (by omega) _ _ hM ls (lv_sub hl [0, 1, 2, 3, 4, 5, 6, 7, 8] rfl)
                        · have c_141 : lo oa - jb < Ln := Nat.lt_of_not_le (fun h => c_141 (nI_le h (by omega)))
                          refine lv_aload_n hx hb dX1_copy_144 rfl (lv_at hl 1 rfl) ?_
                          refine lv_iconst (v := 3) hx hb dX1_copy_145 (by decide) ?_
                          refine mc_Vi (rest := []) [.int 3] 1 S hK hM (m1_fails l D dA a hI (σ.i 0 0) 3) wl_X1_92 wd_X1_X1_fails rfl ⟨Nat.le_of_ble_eq_true rfl, Nat.le_of_ble_eq_true rfl⟩ hl.1 (Nat.le_of_ble_eq_true rfl) dX1_copy_146 ⟨Nat.le_refl 0, Nat.le_refl 0⟩ (fun H locs hM => ?_) rfl
                          exact m_iret S hr hlk hM dX1_copy_149 (Or.inl ⟨(-13, 3), by simp [spCopyQ, show inR (nI ka) 0 3 = true from inR_nI (k := 3) (by omega) (by decide), nI_clamp (show ka < 2 ^ 31 by omega), show inR (nI oa) 0 3 = true from inR_nI (k := 3) (by omega) (by decide), nI_clamp (show oa < 2 ^ 31 by omega), nI_clamp hia, nI_pos hia, nI_clamp hjb, nI_pos hjb, nI_clamp hLn, nI_pos hLn, *], rfl, MS_ii _ _ _ _⟩)
          · refine lv_aload_n hx hb dX1_copy_64 rfl (lv_at hl 0 rfl) ?_
            refine lv_iconst (v := 2) hx hb dX1_copy_65 (by decide) ?_
            refine mc_Vi (rest := []) [.int 2] 1 S hK hM (m1_fails l D dA a hI (σ.i 0 0) 2) wl_X1_92 wd_X1_X1_fails rfl ⟨Nat.le_of_ble_eq_true rfl, Nat.le_of_ble_eq_true rfl⟩ hl.1 (Nat.le_of_ble_eq_true rfl) dX1_copy_66 ⟨Nat.le_refl 0, Nat.le_refl 0⟩ (fun H locs hM => ?_) rfl
            exact m_iret S hr hlk hM dX1_copy_69 (Or.inl ⟨(-12, 2), by simp [spCopyQ, show inR (nI ka) 0 3 = true from inR_nI (k := 3) (by omega) (by decide), nI_clamp (show ka < 2 ^ 31 by omega), show inR (nI oa) 0 3 = true from inR_nI (k := 3) (by omega) (by decide), nI_clamp (show oa < 2 ^ 31 by omega), *], rfl, MS_ii _ _ _ _⟩)
        · refine lv_aload_n hx hb dX1_copy_43 rfl (lv_at hl 0 rfl) ?_
          refine lv_iconst (v := 1) hx hb dX1_copy_44 (by decide) ?_
          refine mc_Vi (rest := []) [.int 1] 1 S hK hM (m1_fails l D dA a hI (σ.i 0 0) 1) wl_X1_92 wd_X1_X1_fails rfl ⟨Nat.le_of_ble_eq_true rfl, Nat.le_of_ble_eq_true rfl⟩ hl.1 (Nat.le_of_ble_eq_true rfl) dX1_copy_45 ⟨Nat.le_refl 0, Nat.le_refl 0⟩ (fun H locs hM => ?_) rfl
          exact m_iret S hr hlk hM dX1_copy_48 (Or.inl ⟨(-11, 1), by simp [spCopyQ, show inR (nI ka) 0 3 = true from inR_nI (k := 3) (by omega) (by decide), nI_clamp (show ka < 2 ^ 31 by omega), show inR (nI oa) 0 3 = true from inR_nI (k := 3) (by omega) (by decide), nI_clamp (show oa < 2 ^ 31 by omega), *], rfl, MS_ii _ _ _ _⟩)
    · have c_16 := b2i_eq0.mp c_16
      refine lv_iconst (v := (-1)) hx hb dX1_copy_19 (by decide) ?_
      exact m_iret S hr hlk hM dX1_copy_20 (Or.inl ⟨(-1, 0), by simp [spCopyQ, *], rfl, rfl⟩)
