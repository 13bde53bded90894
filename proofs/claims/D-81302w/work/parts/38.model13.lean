/-! MODEL 13: a text is read (by program: gen/model13.py) -/
set_option maxRecDepth 100000
set_option maxHeartbeats 4000000 in
theorem m1_readAll (l : Launch) (D : va_G) (dA : Nat → ClassId) (a : Nat → Nat) (hI : mInj a) (σ : MS) (xs : Nat → Int32) (b Ln : Nat) (hL : Ln ≤ 60) (hb : b + Ln ≤ 240) (hxc : ∀ j, j < Ln → σ.2.1 4 (b + j) = xs j) : MC l yX1_readAll cX1_readAll 7 (some .int) 1 22 D dA a [.ref (a 0), .int (nI b), .int (nI Ln)] σ (fun v9 σ9 => v9 = some (.int (rdI (spRead xs Ln))) ∧ RDm σ σ9 ∧ (∀ c, spRead xs Ln = some c → c ≤ Ln) ∧ ((spRead xs Ln = none → ∃ mp hh, rd1 xs Ln = (none, mp, hh) ∧ mp < 5 ∧ σ9.1 8 = nI mp ∧ ∀ j, j < mp → σ9.2.1 7 j = nI (hh j) ∧ hh j < 16))) := by
  refine MC.of (by decide) (Nat.le_of_ble_eq_true rfl) ?_
  intro p e s m below meth c ls S hr hlk hK hM hl
  have hx := S.1
  have hb := S.2.1
  have hl : lv_has ls 7 [(0, .ref (a 0)), (1, .int (nI b)), (2, .int (nI Ln))] := hl
  have hbb := hb
  have hb := S.2.1
  refine lv_aload_n hx hb dX1_readAll_0 rfl (lv_at hl 0 rfl) ?_
  refine lv_iconst (v := 0) hx hb dX1_readAll_1 (by decide) ?_
  refine m_put hI S hK hM 8 (by decide) rfl fl_X1_100 rfl rfl (by decide +kernel) dX1_readAll_2 (fun H locs hM => ?_)
  refine lv_iconst (v := 0) hx hb dX1_readAll_5 (by decide) ?_
  refine lv_istore_n (lv' := [(3, .int 0), (0, .ref (a 0)), (1, .int (nI b)), (2, .int (nI Ln))]) hx hb dX1_readAll_6 rfl hl (by decide) rfl (fun ls hl => ?_)
  refine lv_iconst (v := 1) hx hb dX1_readAll_7 (by decide) ?_
  refine lv_istore (lv' := [(4, .int 1), (3, .int 0), (0, .ref (a 0)), (1, .int (nI b)), (2, .int (nI Ln))]) hx hb dX1_readAll_8 hl (by decide) rfl (fun ls hl => ?_)
  have hloop10 : ∀ (k10 mp : Nat), mp + k10 = 4 → mp < 4 → ∀ (cc : Nat), cc ≤ Ln → ∀ (hh : Nat → Nat), rd1 xs Ln = rdA xs Ln k10 mp cc hh → ∀ (ω10 : MS) (H : Heap) (locs : List Loc), MB D dA a ω10 s.heap H locs → (RDm σ ω10 ∧ ω10.1 8 = nI mp ∧ ∀ j, j < mp → ω10.2.1 7 j = nI (hh j) ∧ hh j < 16) → ∀ (ls : Array Slot), lv_has ls 7 [(0, .ref (a 0)), (1, .int (nI b)), (2, .int (nI Ln)), (3, .int (nI cc)), (4, .int 1)] → W p l e ({ frames := 1, cells := 0, slots := 0, locals := 22 }) s m [.ref (a 0), .int (nI b), .int (nI Ln)].toArray below meth c H locs 0 0 (MZ below D dA a (fun v9 σ9 => v9 = some (.int (rdI (spRead xs Ln))) ∧ RDm σ σ9 ∧ (∀ c, spRead xs Ln = some c → c ≤ Ln) ∧ ((spRead xs Ln = none → ∃ mp hh, rd1 xs Ln = (none, mp, hh) ∧ mp < 5 ∧ σ9.1 8 = nI mp ∧ ∀ j, j < mp → σ9.2.1 7 j = nI (hh j) ∧ hh j < 16))) [.ref (a 0), .int (nI b), .int (nI Ln)] s) (F0 m 10 ls []) := by
    intro k10
    induction k10 with
    | zero =>
      intro mp h1 h2; exact absurd h1 (by omega)
    | succ k10 ih10 =>
      intro mp hk10 hmp cc hcc hh hA ω10 H locs hM hw10 ls hl
      refine lv_iload hx hb dX1_readAll_10 (lv_at hl 4 rfl) ?_
      refine lv_if_eq (tgt := 182) hx hb dX1_readAll_12 (by decide) (fun c_12 => absurd c_12 (by decide)) (fun c_12 => ?_)
      refine lv_iload_n hx hb dX1_readAll_15 rfl (lv_at hl 3 rfl) ?_
      refine lv_iload_n hx hb dX1_readAll_16 rfl (lv_at hl 2 rfl) ?_
      refine lv_icmp_eq (tgt := 33) hx hb dX1_readAll_17 (by decide) (fun c_17 => ?_) (fun c_17 => ?_)
      · have c_17 : cc = Ln := nI_inj (by omega) (by omega) c_17
        have hR := hA.trans (rdA_1 c_17)
        refine lv_iload_n hx hb dX1_readAll_33 rfl (lv_at hl 3 rfl) ?_
        exact m_iret S hr hlk hM dX1_readAll_34 (⟨(congrArg (fun z : Int32 => some (Value.int z)) (by rw [spRead_s hR]; rfl)), hw10.1, fun c9 h9 => (by rw [spRead_s hR] at h9; cases h9; omega), fun h9 => absurd ((spRead_s hR).symm.trans h9) (by simp)⟩)
      · have c_17 : ¬ cc = Ln := fun h => c_17 (congrArg nI h)
        refine lv_aload_n hx hb dX1_readAll_20 rfl (lv_at hl 0 rfl) ?_
        refine m_get (v := .ref (a 4)) S hK hM.1 4 (by decide) fl_X1_16 rfl dX1_readAll_21 rfl ?_
        refine lv_iload_n hx hb dX1_readAll_24 rfl (lv_at hl 1 rfl) ?_
        refine lv_iload_n hx hb dX1_readAll_25 rfl (lv_at hl 3 rfl) ?_
        refine lv_iadd hx hb dX1_readAll_26 ?_
        refine topi (z := nI (b + cc)) (nI_add _ _) ?_
        refine m_aldn (j := b + cc) (v := xs cc) S hK hM.1 4 (by decide) rfl (show b + cc < 240 by omega) dX1_readAll_27 ((congrFun (hw10.1.2 4 (by decide)) _).trans (hxc _ (by omega))) ?_
        refine lv_bipush (v := 112) hx hb dX1_readAll_28 (by decide) ?_
        refine lv_icmp_eq (tgt := 35) hx hb dX1_readAll_30 (by decide) (fun c_30 => ?_) (fun c_30 => ?_)
        · refine lv_iinc (v := nI (cc + 1)) (lv' := [(3, .int (nI (cc + 1))), (0, .ref (a 0)), (1, .int (nI b)), (2, .int (nI Ln)), (4, .int 1)]) hx hb dX1_readAll_35 hl (k := 3) rfl (nI_1 _) (by decide) rfl (fun ls hl => ?_)
          refine lv_iconst (v := 0) hx hb dX1_readAll_38 (by decide) ?_
          refine topi (z := nI (rdU xs (cc + 1) (cc + 1))) (by rw [rdU_0 _ (Nat.le_refl _)]; rfl) ?_
          refine lv_istore (lv' := [(5, .int (nI (rdU xs (cc + 1) (cc + 1)))), (3, .int (nI (cc + 1))), (0, .ref (a 0)), (1, .int (nI b)), (2, .int (nI Ln)), (4, .int 1)]) hx hb dX1_readAll_39 hl (by decide) rfl (fun ls hl => ?_)
          have hloop41 : ∀ (k41 i41 : Nat), i41 + k41 = Ln → (rdP xs mp (cc + 1) (Ln - (cc + 1)) (cc + 1) = rdP xs mp (cc + 1) (Ln - i41) i41 ∧ (∀ i, cc + 1 ≤ i → i < i41 → (xs i - 48).toNatClampNeg < 4) ∧ cc + 1 ≤ i41) → ∀ (H : Heap) (locs : List Loc), MB D dA a ω10 s.heap H locs → ∀ (ls : Array Slot), lv_has ls 7 [(5, .int (nI (rdU xs (cc + 1) i41))), (3, .int (nI i41)), (0, .ref (a 0)), (1, .int (nI b)), (2, .int (nI Ln)), (4, .int 1)] → W p l e ({ frames := 1, cells := 0, slots := 0, locals := 22 }) s m [.ref (a 0), .int (nI b), .int (nI Ln)].toArray below meth c H locs 0 0 (MZ below D dA a (fun v9 σ9 => v9 = some (.int (rdI (spRead xs Ln))) ∧ RDm σ σ9 ∧ (∀ c, spRead xs Ln = some c → c ≤ Ln) ∧ ((spRead xs Ln = none → ∃ mp hh, rd1 xs Ln = (none, mp, hh) ∧ mp < 5 ∧ σ9.1 8 = nI mp ∧ ∀ j, j < mp → σ9.2.1 7 j = nI (hh j) ∧ hh j < 16))) [.ref (a 0), .int (nI b), .int (nI Ln)] s) (F0 m 41 ls []) := by
            intro k41
            induction k41 with
            | zero =>
              intro i41 hi41 hinv41 H locs hM ls hl
              have hi41 : i41 = Ln := by omega
              refine lv_iload_n hx hb dX1_readAll_41 rfl (lv_at hl 1 rfl) ?_
              refine lv_iload_n hx hb dX1_readAll_42 rfl (lv_at hl 4 rfl) ?_
              refine lv_icmp_ge (tgt := 118) hx hb dX1_readAll_43 (by decide) (fun c_43 => ?_) (fun c_43 => absurd (show nI Ln ≤ nI i41 from nI_le (by omega) (by omega)) c_43)
              have hrp : rdP xs mp (cc + 1) (Ln - (cc + 1)) (cc + 1) = (true, i41) := hinv41.1.trans (rdP_e (by omega))
              have hu16 : rdU xs (cc + 1) i41 < 16 := rdU_lt i41 hinv41.2.1
              refine lv_aload_n hx hb dX1_readAll_118 rfl (lv_at hl 2 rfl) ?_
              refine m_get (v := .ref (a 7)) S hK hM.1 7 (by decide) fl_X1_22 rfl dX1_readAll_119 rfl ?_
              refine lv_aload_n hx hb dX1_readAll_122 rfl (lv_at hl 2 rfl) ?_
              refine m_get (v := .int (ω10.1 8)) S hK hM.1 8 (by decide) fl_X1_100 rfl dX1_readAll_123 rfl ?_
              refine topi (z := nI mp) (hw10.2.1) ?_
              refine lv_iload hx hb dX1_readAll_126 (lv_at hl 0 rfl) ?_
              refine m_astn (j := mp) hI S hK hM 7 (by decide) rfl (show mp < 4 by omega) dX1_readAll_128 (fun H locs hM => ?_)
              refine lv_aload_n hx hb dX1_readAll_129 rfl (lv_at hl 2 rfl) ?_
              refine lv_dup hx hb dX1_readAll_130 rfl ?_
              refine m_get (v := .int (ω10.1 8)) S hK hM.1 8 (by decide) fl_X1_100 rfl dX1_readAll_131 rfl ?_
              refine topi (z := nI mp) (hw10.2.1) ?_
              refine lv_iconst (v := 1) hx hb dX1_readAll_134 (by decide) ?_
              refine lv_iadd hx hb dX1_readAll_135 ?_
              refine topi (z := nI (mp + 1)) (nI_1 mp) ?_
              refine m_put hI S hK hM 8 (by decide) rfl fl_X1_100 rfl rfl (by decide +kernel) dX1_readAll_136 (fun H locs hM => ?_)
              refine lv_iload_n hx hb dX1_readAll_139 rfl (lv_at hl 1 rfl) ?_
              refine lv_iload_n hx hb dX1_readAll_140 rfl (lv_at hl 4 rfl) ?_
              refine lv_icmp_ge (tgt := 148) hx hb dX1_readAll_141 (by decide) (fun c_141 => ?_) (fun c_141 => absurd (show nI Ln ≤ nI i41 from nI_le (by omega) (by omega)) c_141)
              refine lv_iconst (v := 0) hx hb dX1_readAll_148 (by decide) ?_
              refine lv_istore (lv' := [(4, .int 0), (5, .int (nI (rdU xs (cc + 1) i41))), (3, .int (nI i41)), (0, .ref (a 0)), (1, .int (nI b)), (2, .int (nI Ln))]) hx hb dX1_readAll_149 hl (by decide) rfl (fun ls hl => ?_)
              refine lv_iload hx hb dX1_readAll_151 (lv_at hl 0 rfl) ?_
              refine lv_if_eq (tgt := 166) hx hb dX1_readAll_153 (by decide) (fun c_153 => ?_) (fun c_153 => absurd (by decide) c_153)
              refine lv_iload_n hx hb dX1_readAll_166 rfl (lv_at hl 2 rfl) ?_
              refine lv_iload hx hb dX1_readAll_167 (lv_at hl 0 rfl) ?_
              refine lv_if_eq (tgt := 176) hx hb dX1_readAll_169 (by decide) (fun c_169 => ?_) (fun c_169 => absurd (by decide) c_169)
              refine lv_iconst (v := 0) hx hb dX1_readAll_176 (by decide) ?_
              refine lv_iadd hx hb dX1_readAll_177 ?_
              refine topi (z := nI i41) (Int32.add_zero _) ?_
              refine lv_istore_n (lv' := [(3, .int (nI i41)), (4, .int 0), (5, .int (nI (rdU xs (cc + 1) i41))), (0, .ref (a 0)), (1, .int (nI b)), (2, .int (nI Ln))]) hx hb dX1_readAll_178 rfl hl (by decide) rfl (fun ls hl => ?_)
              refine lv_goto (tgt := 10) hx hb dX1_readAll_179 (by decide) ?_
              refine lv_iload hx hb dX1_readAll_10 (lv_at hl 1 rfl) ?_
              refine lv_if_eq (tgt := 182) hx hb dX1_readAll_12 (by decide) (fun c_12 => ?_) (fun c_12 => absurd (by decide) c_12)
              have hR := hA.trans (rdA_4 c_17 c_30 hrp (by omega))
              refine lv_iconst (v := 0) hx hb dX1_readAll_182 (by decide) ?_
              refine lv_istore (lv' := [(5, .int 0), (3, .int (nI i41)), (4, .int 0), (0, .ref (a 0)), (1, .int (nI b)), (2, .int (nI Ln))]) hx hb dX1_readAll_183 hl (by decide) rfl (fun ls hl => ?_)
              have hloop185 : ∀ (k185 i185 : Nat), i185 + k185 = Ln → rdK xs (mp + 1) (Ln - 0) 0 = rdK xs (mp + 1) (Ln - i185) i185 → ∀ (H : Heap) (locs : List Loc), MB D dA a ((ω10.b 7 (upd (ω10.2.1 7) mp (nI (rdU xs (cc + 1) i41)))).i 8 (nI (mp + 1))) s.heap H locs → ∀ (ls : Array Slot), lv_has ls 7 [(5, .int (nI i185)), (3, .int (nI i41)), (4, .int 0), (0, .ref (a 0)), (1, .int (nI b)), (2, .int (nI Ln))] → W p l e ({ frames := 1, cells := 0, slots := 0, locals := 22 }) s m [.ref (a 0), .int (nI b), .int (nI Ln)].toArray below meth c H locs 0 0 (MZ below D dA a (fun v9 σ9 => v9 = some (.int (rdI (spRead xs Ln))) ∧ RDm σ σ9 ∧ (∀ c, spRead xs Ln = some c → c ≤ Ln) ∧ ((spRead xs Ln = none → ∃ mp hh, rd1 xs Ln = (none, mp, hh) ∧ mp < 5 ∧ σ9.1 8 = nI mp ∧ ∀ j, j < mp → σ9.2.1 7 j = nI (hh j) ∧ hh j < 16))) [.ref (a 0), .int (nI b), .int (nI Ln)] s) (F0 m 185 ls []) := by
                intro k185
                induction k185 with
                | zero =>
                  intro i185 hi185 hinv185 H locs hM ls hl
                  have hi185 : i185 = Ln := by omega
                  refine lv_iload hx hb dX1_readAll_185 (lv_at hl 0 rfl) ?_
                  refine lv_iload_n hx hb dX1_readAll_187 rfl (lv_at hl 5 rfl) ?_
                  refine lv_icmp_ge (tgt := 227) hx hb dX1_readAll_188 (by decide) (fun c_188 => ?_) (fun c_188 => absurd (show nI Ln ≤ nI i185 from nI_le (by omega) (by omega)) c_188)
                  refine lv_bipush (v := (-9)) hx hb dX1_readAll_227 (by decide) ?_
                  exact m_iret S hr hlk hM dX1_readAll_229 (by have hR9 : spRead xs Ln = none := (spRead_n hR).trans (hinv185.trans (by rw [hi185, Nat.sub_self]; rfl)); exact ⟨(congrArg (fun z : Int32 => some (Value.int z)) (by rw [hR9]; rfl)), hw10.1.b7.i8, fun c9 h9 => (by rw [hR9] at h9; cases h9), fun _ => ⟨mp + 1, _, hR, by omega, rfl, rd_h hw10.2.2 hu16⟩⟩)
                | succ k185 ih185 =>
                  intro i185 hi185 hinv185 H locs hM ls hl
                  have hlt185 : i185 < Ln := by omega
                  refine lv_iload hx hb dX1_readAll_185 (lv_at hl 0 rfl) ?_
                  refine lv_iload_n hx hb dX1_readAll_187 rfl (lv_at hl 5 rfl) ?_
                  refine lv_icmp_ge (tgt := 227) hx hb dX1_readAll_188 (by decide) (fun c_188 => absurd c_188 (show ¬ nI Ln ≤ nI i185 from nI_ge (by omega) (by omega))) (fun c_188 => ?_)
                  refine lv_aload_n hx hb dX1_readAll_191 rfl (lv_at hl 3 rfl) ?_
                  refine m_get (v := .ref (a 4)) S hK hM.1 4 (by decide) fl_X1_16 rfl dX1_readAll_192 rfl ?_
                  refine lv_iload_n hx hb dX1_readAll_195 rfl (lv_at hl 4 rfl) ?_
                  refine lv_iload hx hb dX1_readAll_196 (lv_at hl 0 rfl) ?_
                  refine lv_iadd hx hb dX1_readAll_198 ?_
                  refine topi (z := nI (b + i185)) (nI_add _ _) ?_
                  refine m_aldn (j := b + i185) (v := xs i185) S hK hM.1 4 (by decide) rfl (show b + i185 < 240 by omega) dX1_readAll_199 ((congrFun (hw10.1.2 4 (by decide)) _).trans (hxc _ (by omega))) ?_
                  refine lv_bipush (v := 48) hx hb dX1_readAll_200 (by decide) ?_
                  refine lv_isub hx hb dX1_readAll_202 ?_
                  refine lv_istore (lv' := [(6, .int ((xs i185) - 48)), (5, .int (nI i185)), (3, .int (nI i41)), (4, .int 0), (0, .ref (a 0)), (1, .int (nI b)), (2, .int (nI Ln))]) hx hb dX1_readAll_203 hl (by decide) rfl (fun ls hl => ?_)
                  refine lv_iload hx hb dX1_readAll_205 (lv_at hl 0 rfl) ?_
                  refine lv_aload_n hx hb dX1_readAll_207 rfl (lv_at hl 4 rfl) ?_
                  refine m_get (v := .int (nI (mp + 1))) S hK hM.1 8 (by decide) fl_X1_100 rfl dX1_readAll_208 rfl ?_
                  refine lv_iconst (v := 3) hx hb dX1_readAll_211 (by decide) ?_
                  refine rc_Si (rest := []) [.int ((xs i185) - 48), .int (nI (mp + 1)), .int 3] 3 S hK (r1_isIn l D dA ((xs i185) - 48) (nI (mp + 1)) 3) wl_X1_78 wd_X1_X1_isIn rfl ⟨Nat.le_of_ble_eq_true rfl, Nat.le_of_ble_eq_true rfl⟩ hl.1 (Nat.le_of_ble_eq_true rfl) dX1_readAll_212 ⟨Nat.le_refl 0, Nat.le_refl 0⟩ (trivial) ?_ rfl
                  refine lv_if_eq (tgt := 221) hx hb dX1_readAll_215 (by decide) (fun c_215 => ?_) (fun c_215 => ?_)
                  · have c_215 := b2i_eq0.mp c_215
                    refine lv_iinc (v := nI (i185 + 1)) (lv' := [(5, .int (nI (i185 + 1))), (6, .int ((xs i185) - 48)), (3, .int (nI i41)), (4, .int 0), (0, .ref (a 0)), (1, .int (nI b)), (2, .int (nI Ln))]) hx hb dX1_readAll_221 hl (k := 1) rfl (nI_1 _) (by decide) rfl (fun ls hl => ?_)
                    refine lv_goto (tgt := 185) hx hb dX1_readAll_224 (by decide) ?_
                    exact ih185 (i185 + 1) (by omega) (hinv185.trans (rdK_f hlt185 c_215)) _ _ hM ls (lv_sub hl [0, 2, 3, 4, 5, 6] rfl)
                  · have c_215 := b2i_ne0.mp c_215
                    refine lv_iload hx hb dX1_readAll_218 (lv_at hl 1 rfl) ?_
                    exact m_iret S hr hlk hM dX1_readAll_220 (⟨(congrArg (fun z : Int32 => some (Value.int z)) (by rw [(spRead_n hR).trans (hinv185.trans (rdK_t hlt185 c_215))]; rfl)), hw10.1.b7.i8, fun c9 h9 => (by rw [(spRead_n hR).trans (hinv185.trans (rdK_t hlt185 c_215))] at h9; cases h9; omega), fun h9 => absurd (((spRead_n hR).trans (hinv185.trans (rdK_t hlt185 c_215))).symm.trans h9) (by simp)⟩)
              exact hloop185 (Ln) 0 (by omega) (rfl) _ _ hM ls (lv_sub hl [0, 1, 2, 3, 4, 5] rfl)
            | succ k41 ih41 =>
              intro i41 hi41 hinv41 H locs hM ls hl
              have hlt41 : i41 < Ln := by omega
              have hc1 := hinv41.2.2
              have hu16 : rdU xs (cc + 1) i41 < 16 := rdU_lt i41 hinv41.2.1
              refine lv_iload_n hx hb dX1_readAll_41 rfl (lv_at hl 1 rfl) ?_
              refine lv_iload_n hx hb dX1_readAll_42 rfl (lv_at hl 4 rfl) ?_
              refine lv_icmp_ge (tgt := 118) hx hb dX1_readAll_43 (by decide) (fun c_43 => absurd c_43 (show ¬ nI Ln ≤ nI i41 from nI_ge (by omega) (by omega))) (fun c_43 => ?_)
              refine lv_aload_n hx hb dX1_readAll_46 rfl (lv_at hl 2 rfl) ?_
              refine m_get (v := .ref (a 4)) S hK hM.1 4 (by decide) fl_X1_16 rfl dX1_readAll_47 rfl ?_
              refine lv_iload_n hx hb dX1_readAll_50 rfl (lv_at hl 3 rfl) ?_
              refine lv_iload_n hx hb dX1_readAll_51 rfl (lv_at hl 1 rfl) ?_
              refine lv_iadd hx hb dX1_readAll_52 ?_
              refine topi (z := nI (b + i41)) (nI_add _ _) ?_
              refine m_aldn (j := b + i41) (v := xs i41) S hK hM.1 4 (by decide) rfl (show b + i41 < 240 by omega) dX1_readAll_53 ((congrFun (hw10.1.2 4 (by decide)) _).trans (hxc _ (by omega))) ?_
              refine lv_bipush (v := 59) hx hb dX1_readAll_54 (by decide) ?_
              refine lv_icmp_eq (tgt := 118) hx hb dX1_readAll_56 (by decide) (fun c_56 => ?_) (fun c_56 => ?_)
              · have hrp : rdP xs mp (cc + 1) (Ln - (cc + 1)) (cc + 1) = (true, i41) := hinv41.1.trans (rdP_59 c_56)
                have hu16 : rdU xs (cc + 1) i41 < 16 := rdU_lt i41 hinv41.2.1
                refine lv_aload_n hx hb dX1_readAll_118 rfl (lv_at hl 2 rfl) ?_
                refine m_get (v := .ref (a 7)) S hK hM.1 7 (by decide) fl_X1_22 rfl dX1_readAll_119 rfl ?_
                refine lv_aload_n hx hb dX1_readAll_122 rfl (lv_at hl 2 rfl) ?_
                refine m_get (v := .int (ω10.1 8)) S hK hM.1 8 (by decide) fl_X1_100 rfl dX1_readAll_123 rfl ?_
                refine topi (z := nI mp) (hw10.2.1) ?_
                refine lv_iload hx hb dX1_readAll_126 (lv_at hl 0 rfl) ?_
                refine m_astn (j := mp) hI S hK hM 7 (by decide) rfl (show mp < 4 by omega) dX1_readAll_128 (fun H locs hM => ?_)
                refine lv_aload_n hx hb dX1_readAll_129 rfl (lv_at hl 2 rfl) ?_
                refine lv_dup hx hb dX1_readAll_130 rfl ?_
                refine m_get (v := .int (ω10.1 8)) S hK hM.1 8 (by decide) fl_X1_100 rfl dX1_readAll_131 rfl ?_
                refine topi (z := nI mp) (hw10.2.1) ?_
                refine lv_iconst (v := 1) hx hb dX1_readAll_134 (by decide) ?_
                refine lv_iadd hx hb dX1_readAll_135 ?_
                refine topi (z := nI (mp + 1)) (nI_1 mp) ?_
                refine m_put hI S hK hM 8 (by decide) rfl fl_X1_100 rfl rfl (by decide +kernel) dX1_readAll_136 (fun H locs hM => ?_)
                refine lv_iload_n hx hb dX1_readAll_139 rfl (lv_at hl 1 rfl) ?_
                refine lv_iload_n hx hb dX1_readAll_140 rfl (lv_at hl 4 rfl) ?_
                refine lv_icmp_ge (tgt := 148) hx hb dX1_readAll_141 (by decide) (fun c_141 => absurd c_141 (show ¬ nI Ln ≤ nI i41 from nI_ge (by omega) (by omega))) (fun c_141 => ?_)
                refine lv_iconst (v := 1) hx hb dX1_readAll_144 (by decide) ?_
                refine lv_goto (tgt := 149) hx hb dX1_readAll_145 (by decide) ?_
                refine lv_istore (lv' := [(4, .int 1), (5, .int (nI (rdU xs (cc + 1) i41))), (3, .int (nI i41)), (0, .ref (a 0)), (1, .int (nI b)), (2, .int (nI Ln))]) hx hb dX1_readAll_149 hl (by decide) rfl (fun ls hl => ?_)
                refine lv_iload hx hb dX1_readAll_151 (lv_at hl 0 rfl) ?_
                refine lv_if_eq (tgt := 166) hx hb dX1_readAll_153 (by decide) (fun c_153 => absurd c_153 (by decide)) (fun c_153 => ?_)
                refine lv_aload_n hx hb dX1_readAll_156 rfl (lv_at hl 3 rfl) ?_
                refine m_get (v := .int (nI (mp + 1))) S hK hM.1 8 (by decide) fl_X1_100 rfl dX1_readAll_157 rfl ?_
                refine lv_iconst (v := 4) hx hb dX1_readAll_160 (by decide) ?_
                refine lv_icmp_ne (tgt := 166) hx hb dX1_readAll_161 (by decide) (fun c_161 => ?_) (fun c_161 => ?_)
                · have c_161 : ¬ mp + 1 = 4 := fun h => c_161 (congrArg nI h)
                  refine lv_iload_n hx hb dX1_readAll_166 rfl (lv_at hl 2 rfl) ?_
                  refine lv_iload hx hb dX1_readAll_167 (lv_at hl 0 rfl) ?_
                  refine lv_if_eq (tgt := 176) hx hb dX1_readAll_169 (by decide) (fun c_169 => absurd c_169 (by decide)) (fun c_169 => ?_)
                  refine lv_iconst (v := 1) hx hb dX1_readAll_172 (by decide) ?_
                  refine lv_goto (tgt := 177) hx hb dX1_readAll_173 (by decide) ?_
                  refine lv_iadd hx hb dX1_readAll_177 ?_
                  refine topi (z := nI (i41 + 1)) (nI_1 i41) ?_
                  refine lv_istore_n (lv' := [(3, .int (nI (i41 + 1))), (4, .int 1), (5, .int (nI (rdU xs (cc + 1) i41))), (0, .ref (a 0)), (1, .int (nI b)), (2, .int (nI Ln))]) hx hb dX1_readAll_178 rfl hl (by decide) rfl (fun ls hl => ?_)
                  refine lv_goto (tgt := 10) hx hb dX1_readAll_179 (by decide) ?_
                  exact ih10 (mp + 1) (by omega) (by omega) (i41 + 1) (by omega) (rdH hh mp (rdU xs (cc + 1) i41)) (hA.trans (rdA_6 c_17 c_30 hrp hlt41 c_161)) _ _ _ hM ⟨hw10.1.b7.i8, rfl, rd_h hw10.2.2 hu16⟩ ls (lv_sub hl [3, 4, 5, 0, 1] rfl)
                · have c_161 : mp + 1 = 4 := nI_inj (by omega) (by decide) c_161
                  refine lv_iload_n hx hb dX1_readAll_164 rfl (lv_at hl 2 rfl) ?_
                  exact m_iret S hr hlk hM dX1_readAll_165 (⟨(congrArg (fun z : Int32 => some (Value.int z)) (by rw [spRead_s (hA.trans (rdA_5 c_17 c_30 hrp hlt41 c_161))]; rfl)), hw10.1.b7.i8, fun c9 h9 => (by rw [spRead_s (hA.trans (rdA_5 c_17 c_30 hrp hlt41 c_161))] at h9; cases h9; omega), fun h9 => absurd ((spRead_s (hA.trans (rdA_5 c_17 c_30 hrp hlt41 c_161))).symm.trans h9) (by simp)⟩)
              · refine lv_aload_n hx hb dX1_readAll_59 rfl (lv_at hl 2 rfl) ?_
                refine m_get (v := .ref (a 4)) S hK hM.1 4 (by decide) fl_X1_16 rfl dX1_readAll_60 rfl ?_
                refine lv_iload_n hx hb dX1_readAll_63 rfl (lv_at hl 3 rfl) ?_
                refine lv_iload_n hx hb dX1_readAll_64 rfl (lv_at hl 1 rfl) ?_
                refine lv_iadd hx hb dX1_readAll_65 ?_
                refine topi (z := nI (b + i41)) (nI_add _ _) ?_
                refine m_aldn (j := b + i41) (v := xs i41) S hK hM.1 4 (by decide) rfl (show b + i41 < 240 by omega) dX1_readAll_66 ((congrFun (hw10.1.2 4 (by decide)) _).trans (hxc _ (by omega))) ?_
                refine lv_bipush (v := 48) hx hb dX1_readAll_67 (by decide) ?_
                refine lv_isub hx hb dX1_readAll_69 ?_
                refine lv_istore (lv' := [(6, .int ((xs i41) - 48)), (5, .int (nI (rdU xs (cc + 1) i41))), (3, .int (nI i41)), (0, .ref (a 0)), (1, .int (nI b)), (2, .int (nI Ln)), (4, .int 1)]) hx hb dX1_readAll_70 hl (by decide) rfl (fun ls hl => ?_)
                refine lv_iload hx hb dX1_readAll_72 (lv_at hl 0 rfl) ?_
                refine lv_iconst (v := 0) hx hb dX1_readAll_74 (by decide) ?_
                refine lv_iconst (v := 3) hx hb dX1_readAll_75 (by decide) ?_
                refine rc_Si (rest := []) [.int ((xs i41) - 48), .int 0, .int 3] 3 S hK (r1_isIn l D dA ((xs i41) - 48) 0 3) wl_X1_78 wd_X1_X1_isIn rfl ⟨Nat.le_of_ble_eq_true rfl, Nat.le_of_ble_eq_true rfl⟩ hl.1 (Nat.le_of_ble_eq_true rfl) dX1_readAll_76 ⟨Nat.le_refl 0, Nat.le_refl 0⟩ (trivial) ?_ rfl
                refine lv_if_eq (tgt := 101) hx hb dX1_readAll_79 (by decide) (fun c_79 => ?_) (fun c_79 => ?_)
                · have c_79 := b2i_eq0.mp c_79
                  have hbad : rdB (xs i41) mp (rdU xs (cc + 1) i41) = true := rdB_1 c_79
                  have hR := hA.trans (rdA_3 c_17 c_30 (hinv41.1.trans (rdP_b (by omega) c_56 hbad)))
                  refine lv_iload_n hx hb dX1_readAll_101 rfl (lv_at hl 2 rfl) ?_
                  exact m_iret S hr hlk hM dX1_readAll_102 (⟨(congrArg (fun z : Int32 => some (Value.int z)) (by rw [spRead_s hR]; rfl)), hw10.1, fun c9 h9 => (by rw [spRead_s hR] at h9; cases h9; omega), fun h9 => absurd ((spRead_s hR).symm.trans h9) (by simp)⟩)
                · have c_79 := b2i_ne0.mp c_79
                  obtain ⟨qa, hq9, eq9⟩ := inR_some (k := 3) (by decide) c_79
                  rw [eq9] at hl
                  refine lv_iload hx hb dX1_readAll_82 (lv_at hl 0 rfl) ?_
                  refine lv_aload_n hx hb dX1_readAll_84 rfl (lv_at hl 3 rfl) ?_
                  refine m_get (v := .int (ω10.1 8)) S hK hM.1 8 (by decide) fl_X1_100 rfl dX1_readAll_85 rfl ?_
                  refine topi (z := nI mp) (hw10.2.1) ?_
                  refine lv_icmp_eq (tgt := 101) hx hb dX1_readAll_88 (by decide) (fun c_88 => ?_) (fun c_88 => ?_)
                  · have c_88 : qa = mp := nI_inj (by omega) (by omega) c_88
                    have hbad : rdB (xs i41) mp (rdU xs (cc + 1) i41) = true := rdB_2 (by omega) eq9 c_88
                    have hR := hA.trans (rdA_3 c_17 c_30 (hinv41.1.trans (rdP_b (by omega) c_56 hbad)))
                    refine lv_iload_n hx hb dX1_readAll_101 rfl (lv_at hl 2 rfl) ?_
                    exact m_iret S hr hlk hM dX1_readAll_102 (⟨(congrArg (fun z : Int32 => some (Value.int z)) (by rw [spRead_s hR]; rfl)), hw10.1, fun c9 h9 => (by rw [spRead_s hR] at h9; cases h9; omega), fun h9 => absurd ((spRead_s hR).symm.trans h9) (by simp)⟩)
                  · have c_88 : ¬ qa = mp := fun h => c_88 (congrArg nI h)
                    refine lv_iload hx hb dX1_readAll_91 (lv_at hl 1 rfl) ?_
                    refine lv_iload hx hb dX1_readAll_93 (lv_at hl 0 rfl) ?_
                    refine rc_Si (rest := []) [.int (nI (rdU xs (cc + 1) i41)), .int (nI qa)] 2 S hK (r1_has l D dA (rdU xs (cc + 1) i41) qa (by first | assumption | omega | decide) (by first | assumption | omega | decide)) wl_X1_106 wd_X1_X1_has rfl ⟨Nat.le_of_ble_eq_true rfl, Nat.le_of_ble_eq_true rfl⟩ hl.1 (Nat.le_of_ble_eq_true rfl) dX1_readAll_95 ⟨Nat.le_refl 0, Nat.le_refl 0⟩ (trivial) ?_ rfl
                    refine lv_if_eq (tgt := 103) hx hb dX1_readAll_98 (by decide) (fun c_98 => ?_) (fun c_98 => ?_)
                    · have c_98 := b2i_eq0.mp c_98
                      refine lv_iload hx hb dX1_readAll_103 (lv_at hl 1 rfl) ?_
                      refine lv_iconst (v := 1) hx hb dX1_readAll_105 (by decide) ?_
                      refine lv_iload hx hb dX1_readAll_106 (lv_at hl 0 rfl) ?_
                      refine lv_ishl hx hb dX1_readAll_108 ?_
                      refine topi (z := nI (2 ^ qa)) (shl1 _ (by omega)) ?_
                      refine lv_ior hx hb dX1_readAll_109 ?_
                      refine topi (z := nI (rdU xs (cc + 1) i41 ||| 2 ^ qa)) (nI_or _ _) ?_
                      refine lv_istore (lv' := [(5, .int (nI (rdU xs (cc + 1) i41 ||| 2 ^ qa))), (6, .int (nI qa)), (3, .int (nI i41)), (0, .ref (a 0)), (1, .int (nI b)), (2, .int (nI Ln)), (4, .int 1)]) hx hb dX1_readAll_110 hl (by decide) rfl (fun ls hl => ?_)
                      refine lv_iinc (v := nI (i41 + 1)) (lv' := [(3, .int (nI (i41 + 1))), (5, .int (nI (rdU xs (cc + 1) i41 ||| 2 ^ qa))), (6, .int (nI qa)), (0, .ref (a 0)), (1, .int (nI b)), (2, .int (nI Ln)), (4, .int 1)]) hx hb dX1_readAll_112 hl (k := 2) rfl (nI_1 _) (by decide) rfl (fun ls hl => ?_)
                      refine lv_goto (tgt := 41) hx hb dX1_readAll_115 (by decide) ?_
                      have e41_5 : nI (rdU xs (cc + 1) (i41 + 1)) = nI (rdU xs (cc + 1) i41 ||| 2 ^ qa) := by rw [rdU_s (by omega) (show qa < 2 ^ 31 by omega) eq9]
                      exact ih41 (i41 + 1) (by omega) (⟨hinv41.1.trans (rdP_s hlt41 c_56 (rdB_4 (by omega) eq9 c_88 c_98)), fun i h1 h2 => (by by_cases h3 : i = i41; (subst h3; rw [eq9, nI_clamp (by omega)]; omega); exact hinv41.2.1 i h1 (by omega)), by omega⟩) _ _ hM ls (by rw [e41_5]; exact lv_sub hl [1, 0, 3, 4, 5, 6] rfl)
                    · have c_98 := b2i_ne0.mp c_98
                      have hbad : rdB (xs i41) mp (rdU xs (cc + 1) i41) = true := rdB_3 (by omega) eq9 c_98
                      have hR := hA.trans (rdA_3 c_17 c_30 (hinv41.1.trans (rdP_b (by omega) c_56 hbad)))
                      refine lv_iload_n hx hb dX1_readAll_101 rfl (lv_at hl 2 rfl) ?_
                      exact m_iret S hr hlk hM dX1_readAll_102 (⟨(congrArg (fun z : Int32 => some (Value.int z)) (by rw [spRead_s hR]; rfl)), hw10.1, fun c9 h9 => (by rw [spRead_s hR] at h9; cases h9; omega), fun h9 => absurd ((spRead_s hR).symm.trans h9) (by simp)⟩)
          exact hloop41 (Ln - (cc + 1)) (cc + 1) (by omega) (⟨rfl, fun i h1 h2 => absurd h1 (by omega), by omega⟩) _ _ hM ls (lv_sub hl [0, 1, 2, 3, 4, 5] rfl)
        · have hR := hA.trans (rdA_2 c_17 c_30)
          refine lv_iload_n hx hb dX1_readAll_33 rfl (lv_at hl 3 rfl) ?_
          exact m_iret S hr hlk hM dX1_readAll_34 (⟨(congrArg (fun z : Int32 => some (Value.int z)) (by rw [spRead_s hR]; rfl)), hw10.1, fun c9 h9 => (by rw [spRead_s hR] at h9; cases h9; omega), fun h9 => absurd ((spRead_s hR).symm.trans h9) (by simp)⟩)
  exact hloop10 4 0 (by omega) (by omega) 0 (by omega) (fun _ => 0) rfl _ _ _ hM ⟨RDm.rf.i8, rfl, fun j hj => absurd hj (Nat.not_lt_zero j)⟩ ls (lv_sub hl [2, 3, 4, 1, 0] rfl)
