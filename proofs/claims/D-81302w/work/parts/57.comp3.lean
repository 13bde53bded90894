/-! COMPONENT 3: lay (by program: gen/comp3.py) -/
set_option maxRecDepth 100000
set_option maxHeartbeats 4000000 in
theorem k0_layS (l : Launch) (D : va_G) (dA : Nat → ClassId) (a : Nat → Nat) (hI : kInj a) (σ : MS) (Ph : Heap → Prop) (hSt : kStb a Ph) (n : Nat) (net : Nat → Nat) (r : Nat) (hr4 : r < 4) (tn : Int32) (d : Nat) (hd : d ≤ 15) (IH : ∀ (σ : MS) (sx tt : Nat), KG σ n net → σ.1 9 = tn → TBc σ n net r tn → vld n sx → tt < 256 → mu sx + 1 ≤ d → KC l yX0_lay cX0_lay 14 (some .int) (3 + d) (100 + 33 * d) D dA a [.ref (a 0), .int (nI r), .int (nI sx), .int (nI tt)] σ Ph (fun v9 σ9 => v9 = some (.int (nI (sOf r sx tt))) ∧ FRc σ σ9 tn ∧ TBc σ9 n net r tn ∧ σ9.2.1 4 (sOf r sx tt) = tn)) (sx tt : Nat) (hG : KG σ n net) (h9 : σ.1 9 = tn) (hTB : TBc σ n net r tn) (hv : vld n sx) (ht : tt < 256) (hmu : mu sx ≤ d) : KC l yX0_lay cX0_lay 14 (some .int) (3 + (d + 1)) (100 + 33 * (d + 1)) D dA a [.ref (a 0), .int (nI r), .int (nI sx), .int (nI tt)] σ Ph (fun v9 σ9 => v9 = some (.int (nI (sOf r sx tt))) ∧ FRc σ σ9 tn ∧ TBc σ9 n net r tn ∧ σ9.2.1 4 (sOf r sx tt) = tn) := by
  refine KC.of (by decide) (Nat.le_of_ble_eq_true rfl) ?_
  intro p e s m below meth c ls S hr hlk hK hM hPh hl
  have hx := S.1
  have hb := S.2.1
  have hl : lv_has ls 14 [(0, .ref (a 0)), (1, .int (nI r)), (2, .int (nI sx)), (3, .int (nI tt))] := hl
  have hn := hG.1
  have hnet := hG.2.2.2
  have hs := hv.1
  have hGw := hG
  have hsl0 := sOf_lt (r := r) (s := sx) ht
  have h9w := h9
  refine lv_iload_n hx hb dX0_lay_0 rfl (lv_at hl 1 rfl) ?_
  refine lv_iload_n hx hb dX0_lay_1 rfl (lv_at hl 2 rfl) ?_
  refine lv_iload_n hx hb dX0_lay_2 rfl (lv_at hl 3 rfl) ?_
  refine rc_Si (rest := []) [.int (nI r), .int (nI sx), .int (nI tt)] 3 S hK (r0_stateOf l D dA r sx tt (by omega) (by first | assumption | omega | decide) (ht)) wl_X0_164 wd_X0_X0_stateOf rfl ⟨by show (_ : Nat) ≤ 3 + (d + 1); omega, by show (_ : Nat) ≤ 100 + 33 * (d + 1); omega⟩ hl.1 (Nat.le_of_ble_eq_true rfl) dX0_lay_3 ⟨Nat.le_refl 0, Nat.le_refl 0⟩ (trivial) ?_ rfl
  refine lv_istore (lv' := [(4, .int (nI (sOf r sx tt))), (0, .ref (a 0)), (1, .int (nI r)), (2, .int (nI sx)), (3, .int (nI tt))]) hx hb dX0_lay_6 hl (by decide) rfl (fun ls hl => ?_)
  refine lv_aload_n hx hb dX0_lay_8 rfl (lv_at hl 1 rfl) ?_
  refine k_get (v := .ref (a 4)) S hK hM.1 4 (by decide) fl_X0_23 rfl dX0_lay_9 rfl ?_
  refine lv_iload hx hb dX0_lay_12 (lv_at hl 0 rfl) ?_
  refine k_aldn (j := sOf r sx tt) (v := (σ.2.1 4) (sOf r sx tt)) S hK hM.1 4 (by decide) rfl (hsl0) dX0_lay_14 (rfl) ?_
  refine lv_aload_n hx hb dX0_lay_15 rfl (lv_at hl 1 rfl) ?_
  refine k_get (v := .int (σ.1 9)) S hK hM.1 9 (by decide) fl_X0_167 rfl dX0_lay_16 rfl ?_
  refine topi (z := tn) (h9w) ?_
  refine lv_icmp_ne (tgt := 25) hx hb dX0_lay_19 (by decide) (fun c_19 => ?_) (fun c_19 => ?_)
  · refine lv_lconst (v := 0) hx hb dX0_lay_25 (by decide) ?_
    refine lv_lstore (lv' := [(5, .long 0), (4, .int (nI (sOf r sx tt))), (0, .ref (a 0)), (1, .int (nI r)), (2, .int (nI sx)), (3, .int (nI tt))]) hx hb dX0_lay_26 hl (by decide) rfl (fun ls hl => ?_)
    refine lv_lconst (v := 0) hx hb dX0_lay_28 (by decide) ?_
    refine lv_lstore (lv' := [(7, .long 0), (5, .long 0), (4, .int (nI (sOf r sx tt))), (0, .ref (a 0)), (1, .int (nI r)), (2, .int (nI sx)), (3, .int (nI tt))]) hx hb dX0_lay_29 hl (by decide) rfl (fun ls hl => ?_)
    refine lv_sipush (v := 1000) hx hb dX0_lay_31 (by decide) ?_
    refine lv_istore (lv' := [(9, .int 1000), (7, .long 0), (5, .long 0), (4, .int (nI (sOf r sx tt))), (0, .ref (a 0)), (1, .int (nI r)), (2, .int (nI sx)), (3, .int (nI tt))]) hx hb dX0_lay_34 hl (by decide) rfl (fun ls hl => ?_)
    refine lv_bipush (v := (-9)) hx hb dX0_lay_36 (by decide) ?_
    refine lv_istore (lv' := [(10, .int (-9)), (9, .int 1000), (7, .long 0), (5, .long 0), (4, .int (nI (sOf r sx tt))), (0, .ref (a 0)), (1, .int (nI r)), (2, .int (nI sx)), (3, .int (nI tt))]) hx hb dX0_lay_38 hl (by decide) rfl (fun ls hl => ?_)
    refine lv_iconst (v := 0) hx hb dX0_lay_40 (by decide) ?_
    refine lv_istore (lv' := [(11, .int 0), (10, .int (-9)), (9, .int 1000), (7, .long 0), (5, .long 0), (4, .int (nI (sOf r sx tt))), (0, .ref (a 0)), (1, .int (nI r)), (2, .int (nI sx)), (3, .int (nI tt))]) hx hb dX0_lay_41 hl (by decide) rfl (fun ls hl => ?_)
    have hloop43 : ∀ (k43 i43 : Nat), i43 + k43 = n → ∀ (ω43 : MS) (H : Heap) (locs : List Loc), KB D dA a ω43 s.heap H locs → (FRc σ ω43 tn ∧ TBc ω43 n net r tn) → ∀ (ls : Array Slot), lv_has ls 14 [(11, .int (nI i43)), (10, .int (mC (vAcc (val net n r) net n r sx (tof r tt) (4 * i43)).2.2.2)), (9, .int (nI (vAcc (val net n r) net n r sx (tof r tt) (4 * i43)).2.2.1)), (7, .long (lN (vAcc (val net n r) net n r sx (tof r tt) (4 * i43)).2.1)), (5, .long (lN (vAcc (val net n r) net n r sx (tof r tt) (4 * i43)).1)), (4, .int (nI (sOf r sx tt))), (0, .ref (a 0)), (1, .int (nI r)), (2, .int (nI sx)), (3, .int (nI tt))] → W p l e ({ frames := (3 + (d + 1)), cells := 0, slots := 0, locals := (100 + 33 * (d + 1)) }) s m [.ref (a 0), .int (nI r), .int (nI sx), .int (nI tt)].toArray below meth c H locs 0 0 (KZ below D dA a (fun v9 σ9 => v9 = some (.int (nI (sOf r sx tt))) ∧ FRc σ σ9 tn ∧ TBc σ9 n net r tn ∧ σ9.2.1 4 (sOf r sx tt) = tn) [.ref (a 0), .int (nI r), .int (nI sx), .int (nI tt)] s) (F0 m 43 ls []) := by
      intro k43
      induction k43 with
      | zero =>
        intro i43 hi43 ω43 H locs hM hw43 ls hl
        have hi43 : i43 = n := by omega
        have hGw := hG.fr hw43.1
        have h9w := (congrFun hw43.1.1 9).trans h9
        refine lv_iload hx hb dX0_lay_43 (lv_at hl 0 rfl) ?_
        refine lv_aload_n hx hb dX0_lay_45 rfl (lv_at hl 6 rfl) ?_
        refine k_get (v := .int (ω43.1 0)) S hK hM.1 0 (by decide) fl_X0_45 rfl dX0_lay_46 rfl ?_
        refine topi (z := nI n) (hGw.2.1) ?_
        refine lv_icmp_ge (tgt := 184) hx hb dX0_lay_49 (by decide) (fun c_49 => ?_) (fun c_49 => absurd (show nI n ≤ nI i43 from nI_le (by omega) (by omega)) c_49)
        have hxo := vAccV_ok (net := net) (r := r) (t := tof r tt) hn hv (show mu sx ≤ 15 by omega) (4 * i43) (by omega)
        have hx1 : (vAcc (val net n r) net n r sx (tof r tt) (4 * i43)).1 < 2 ^ 63 := Nat.lt_of_le_of_lt hxo.1 (by decide)
        refine lv_lload hx hb dX0_lay_184 (lv_at hl 4 rfl) ?_
        refine lv_lconst (v := 0) hx hb dX0_lay_186 (by decide) ?_
        refine W.lcmp hx hb dX0_lay_187 ?_
        refine lv_if_ne (tgt := 195) hx hb dX0_lay_188 (by decide) (fun c_188 => ?_) (fun c_188 => ?_)
        · have c_188 := mt (lg_cmp_eq _ _).mpr c_188
          have c_188 : ¬ (vAcc (val net n r) net n r sx (tof r tt) (4 * i43)).1 = 0 := fun h => c_188 ((lN_0 hx1).mpr h)
          refine lv_iconst (v := 0) hx hb dX0_lay_195 (by decide) ?_
          refine lv_istore (lv' := [(11, .int 0), (10, .int (mC (vAcc (val net n r) net n r sx (tof r tt) (4 * i43)).2.2.2)), (9, .int (nI (vAcc (val net n r) net n r sx (tof r tt) (4 * i43)).2.2.1)), (7, .long (lN (vAcc (val net n r) net n r sx (tof r tt) (4 * i43)).2.1)), (5, .long (lN (vAcc (val net n r) net n r sx (tof r tt) (4 * i43)).1)), (4, .int (nI (sOf r sx tt))), (0, .ref (a 0)), (1, .int (nI r)), (2, .int (nI sx)), (3, .int (nI tt))]) hx hb dX0_lay_196 hl (by decide) rfl (fun ls hl => ?_)
          refine lv_iload hx hb dX0_lay_198 (lv_at hl 0 rfl) ?_
          refine lv_if_eq (tgt := 215) hx hb dX0_lay_200 (by decide) (fun c_200 => ?_) (fun c_200 => absurd (by decide) c_200)
          refine lv_iconst (v := 0) hx hb dX0_lay_215 (by decide) ?_
          refine lv_istore (lv' := [(12, .int 0), (11, .int 0), (10, .int (mC (vAcc (val net n r) net n r sx (tof r tt) (4 * i43)).2.2.2)), (9, .int (nI (vAcc (val net n r) net n r sx (tof r tt) (4 * i43)).2.2.1)), (7, .long (lN (vAcc (val net n r) net n r sx (tof r tt) (4 * i43)).2.1)), (5, .long (lN (vAcc (val net n r) net n r sx (tof r tt) (4 * i43)).1)), (4, .int (nI (sOf r sx tt))), (0, .ref (a 0)), (1, .int (nI r)), (2, .int (nI sx)), (3, .int (nI tt))]) hx hb dX0_lay_216 hl (by decide) rfl (fun ls hl => ?_)
          refine lv_aload_n hx hb dX0_lay_218 rfl (lv_at hl 7 rfl) ?_
          refine k_get (v := .ref (a 4)) S hK hM.1 4 (by decide) fl_X0_23 rfl dX0_lay_219 rfl ?_
          refine lv_iload hx hb dX0_lay_222 (lv_at hl 6 rfl) ?_
          refine lv_aload_n hx hb dX0_lay_224 rfl (lv_at hl 7 rfl) ?_
          refine k_get (v := .int (ω43.1 9)) S hK hM.1 9 (by decide) fl_X0_167 rfl dX0_lay_225 rfl ?_
          refine topi (z := tn) (h9w) ?_
          refine k_astn (j := sOf r sx tt) hI S hK hM 4 (by decide) rfl (hsl0) dX0_lay_228 (fun H locs hM => ?_)
          refine lv_aload_n hx hb dX0_lay_229 rfl (lv_at hl 7 rfl) ?_
          refine k_get (v := .ref (a 5)) S hK hM.1 5 (by decide) fl_X0_26 rfl dX0_lay_230 rfl ?_
          refine lv_iload hx hb dX0_lay_233 (lv_at hl 6 rfl) ?_
          refine lv_iload hx hb dX0_lay_235 (lv_at hl 1 rfl) ?_
          refine lv_if_eq (tgt := 244) hx hb dX0_lay_237 (by decide) (fun c_237 => ?_) (fun c_237 => absurd (by decide) c_237)
          refine lv_lload hx hb dX0_lay_244 (lv_at hl 5 rfl) ?_
          refine k_lstn (j := sOf r sx tt) hI S hK hM 5 (by decide) rfl (hsl0) dX0_lay_246 (fun H locs hM => ?_)
          have hM : KB D dA a ((ω43.b 4 (upd (ω43.2.1 4) (sOf r sx tt) tn)).l 5 (vp_updL (ω43.2.2.1 5) (sOf r sx tt) (lN (vAcc (val net n r) net n r sx (tof r tt) (4 * i43)).1))) s.heap H locs := hM
          refine lv_aload_n hx hb dX0_lay_247 rfl (lv_at hl 7 rfl) ?_
          refine k_get (v := .ref (a 6)) S hK hM.1 6 (by decide) fl_X0_30 rfl dX0_lay_248 rfl ?_
          refine lv_iload hx hb dX0_lay_251 (lv_at hl 6 rfl) ?_
          refine lv_iload hx hb dX0_lay_253 (lv_at hl 0 rfl) ?_
          refine lv_if_eq (tgt := 262) hx hb dX0_lay_255 (by decide) (fun c_255 => ?_) (fun c_255 => absurd (by decide) c_255)
          refine lv_lload hx hb dX0_lay_262 (lv_at hl 4 rfl) ?_
          refine k_lstn (j := sOf r sx tt) hI S hK hM 6 (by decide) rfl (hsl0) dX0_lay_264 (fun H locs hM => ?_)
          have hM : KB D dA a (((ω43.b 4 (upd (ω43.2.1 4) (sOf r sx tt) tn)).l 5 (vp_updL (ω43.2.2.1 5) (sOf r sx tt) (lN (vAcc (val net n r) net n r sx (tof r tt) (4 * i43)).1))).l 6 (vp_updL (ω43.2.2.1 6) (sOf r sx tt) (lN (vAcc (val net n r) net n r sx (tof r tt) (4 * i43)).2.1))) s.heap H locs := hM
          refine lv_aload_n hx hb dX0_lay_265 rfl (lv_at hl 7 rfl) ?_
          refine k_get (v := .ref (a 7)) S hK hM.1 7 (by decide) fl_X0_33 rfl dX0_lay_266 rfl ?_
          refine lv_iload hx hb dX0_lay_269 (lv_at hl 6 rfl) ?_
          refine lv_iload hx hb dX0_lay_271 (lv_at hl 0 rfl) ?_
          refine lv_if_eq (tgt := 280) hx hb dX0_lay_273 (by decide) (fun c_273 => ?_) (fun c_273 => absurd (by decide) c_273)
          refine lv_iload hx hb dX0_lay_280 (lv_at hl 3 rfl) ?_
          refine k_astn (j := sOf r sx tt) hI S hK hM 7 (by decide) rfl (hsl0) dX0_lay_282 (fun H locs hM => ?_)
          have hM : KB D dA a ((((ω43.b 4 (upd (ω43.2.1 4) (sOf r sx tt) tn)).l 5 (vp_updL (ω43.2.2.1 5) (sOf r sx tt) (lN (vAcc (val net n r) net n r sx (tof r tt) (4 * i43)).1))).l 6 (vp_updL (ω43.2.2.1 6) (sOf r sx tt) (lN (vAcc (val net n r) net n r sx (tof r tt) (4 * i43)).2.1))).b 7 (upd (ω43.2.1 7) (sOf r sx tt) (nI (vAcc (val net n r) net n r sx (tof r tt) (4 * i43)).2.2.1))) s.heap H locs := hM
          refine lv_aload_n hx hb dX0_lay_283 rfl (lv_at hl 7 rfl) ?_
          refine k_get (v := .ref (a 8)) S hK hM.1 8 (by decide) fl_X0_36 rfl dX0_lay_284 rfl ?_
          refine lv_iload hx hb dX0_lay_287 (lv_at hl 6 rfl) ?_
          refine lv_iload hx hb dX0_lay_289 (lv_at hl 0 rfl) ?_
          refine lv_if_eq (tgt := 298) hx hb dX0_lay_291 (by decide) (fun c_291 => ?_) (fun c_291 => absurd (by decide) c_291)
          refine lv_iload hx hb dX0_lay_298 (lv_at hl 2 rfl) ?_
          refine k_astn (j := sOf r sx tt) hI S hK hM 8 (by decide) rfl (hsl0) dX0_lay_300 (fun H locs hM => ?_)
          have hM : KB D dA a (((((ω43.b 4 (upd (ω43.2.1 4) (sOf r sx tt) tn)).l 5 (vp_updL (ω43.2.2.1 5) (sOf r sx tt) (lN (vAcc (val net n r) net n r sx (tof r tt) (4 * i43)).1))).l 6 (vp_updL (ω43.2.2.1 6) (sOf r sx tt) (lN (vAcc (val net n r) net n r sx (tof r tt) (4 * i43)).2.1))).b 7 (upd (ω43.2.1 7) (sOf r sx tt) (nI (vAcc (val net n r) net n r sx (tof r tt) (4 * i43)).2.2.1))).b 8 (upd (ω43.2.1 8) (sOf r sx tt) (mC (vAcc (val net n r) net n r sx (tof r tt) (4 * i43)).2.2.2))) s.heap H locs := hM
          refine lv_iload hx hb dX0_lay_301 (lv_at hl 6 rfl) ?_
          exact k_iret S hr hlk hM dX0_lay_303 (by rw [kSet_mk (v := val net n r sx (tof r tt)) (by rw [val_2 hn hv (by rw [hi43]) c_188] <;> rfl) (by rw [val_2 hn hv (by rw [hi43]) c_188] <;> rfl) (by rw [val_2 hn hv (by rw [hi43]) c_188] <;> rfl) (by rw [val_2 hn hv (by rw [hi43]) c_188] <;> rfl)]; exact ⟨rfl, hw43.1.tr FRc.set, hw43.2.set hv ht, kSet_in⟩)
        · have c_188 := (lg_cmp_eq _ _).mp c_188
          have c_188 : (vAcc (val net n r) net n r sx (tof r tt) (4 * i43)).1 = 0 := (lN_0 hx1).mp c_188
          refine lv_iconst (v := 1) hx hb dX0_lay_191 (by decide) ?_
          refine lv_goto (tgt := 196) hx hb dX0_lay_192 (by decide) ?_
          refine lv_istore (lv' := [(11, .int 1), (10, .int (mC (vAcc (val net n r) net n r sx (tof r tt) (4 * i43)).2.2.2)), (9, .int (nI (vAcc (val net n r) net n r sx (tof r tt) (4 * i43)).2.2.1)), (7, .long (lN (vAcc (val net n r) net n r sx (tof r tt) (4 * i43)).2.1)), (5, .long (lN (vAcc (val net n r) net n r sx (tof r tt) (4 * i43)).1)), (4, .int (nI (sOf r sx tt))), (0, .ref (a 0)), (1, .int (nI r)), (2, .int (nI sx)), (3, .int (nI tt))]) hx hb dX0_lay_196 hl (by decide) rfl (fun ls hl => ?_)
          refine lv_iload hx hb dX0_lay_198 (lv_at hl 0 rfl) ?_
          refine lv_if_eq (tgt := 215) hx hb dX0_lay_200 (by decide) (fun c_200 => absurd c_200 (by decide)) (fun c_200 => ?_)
          refine lv_aload_n hx hb dX0_lay_203 rfl (lv_at hl 6 rfl) ?_
          refine lv_iload_n hx hb dX0_lay_204 rfl (lv_at hl 8 rfl) ?_
          refine rc_Vi (rest := []) [.int (nI sx)] 1 S hK (r0_areExperts l D dA a ω43 n hn (hGw.2.1) sx (by first | assumption | omega | decide)) wl_X0_184 wd_X0_X0_areExperts rfl ⟨by show (_ : Nat) ≤ 3 + (d + 1); omega, by show (_ : Nat) ≤ 100 + 33 * (d + 1); omega⟩ (k_recv hK hM.1) hl.1 (Nat.le_of_ble_eq_true rfl) dX0_lay_205 ⟨Nat.le_refl 0, Nat.le_refl 0⟩ (hM.1) ?_ rfl
          refine lv_if_eq (tgt := 215) hx hb dX0_lay_208 (by decide) (fun c_208 => ?_) (fun c_208 => ?_)
          · have c_208 := b2i_eq0.mp c_208
            refine lv_iconst (v := 0) hx hb dX0_lay_215 (by decide) ?_
            refine lv_istore (lv' := [(12, .int 0), (11, .int 1), (10, .int (mC (vAcc (val net n r) net n r sx (tof r tt) (4 * i43)).2.2.2)), (9, .int (nI (vAcc (val net n r) net n r sx (tof r tt) (4 * i43)).2.2.1)), (7, .long (lN (vAcc (val net n r) net n r sx (tof r tt) (4 * i43)).2.1)), (5, .long (lN (vAcc (val net n r) net n r sx (tof r tt) (4 * i43)).1)), (4, .int (nI (sOf r sx tt))), (0, .ref (a 0)), (1, .int (nI r)), (2, .int (nI sx)), (3, .int (nI tt))]) hx hb dX0_lay_216 hl (by decide) rfl (fun ls hl => ?_)
            refine lv_aload_n hx hb dX0_lay_218 rfl (lv_at hl 7 rfl) ?_
            refine k_get (v := .ref (a 4)) S hK hM.1 4 (by decide) fl_X0_23 rfl dX0_lay_219 rfl ?_
            refine lv_iload hx hb dX0_lay_222 (lv_at hl 6 rfl) ?_
            refine lv_aload_n hx hb dX0_lay_224 rfl (lv_at hl 7 rfl) ?_
            refine k_get (v := .int (ω43.1 9)) S hK hM.1 9 (by decide) fl_X0_167 rfl dX0_lay_225 rfl ?_
            refine topi (z := tn) (h9w) ?_
            refine k_astn (j := sOf r sx tt) hI S hK hM 4 (by decide) rfl (hsl0) dX0_lay_228 (fun H locs hM => ?_)
            refine lv_aload_n hx hb dX0_lay_229 rfl (lv_at hl 7 rfl) ?_
            refine k_get (v := .ref (a 5)) S hK hM.1 5 (by decide) fl_X0_26 rfl dX0_lay_230 rfl ?_
            refine lv_iload hx hb dX0_lay_233 (lv_at hl 6 rfl) ?_
            refine lv_iload hx hb dX0_lay_235 (lv_at hl 1 rfl) ?_
            refine lv_if_eq (tgt := 244) hx hb dX0_lay_237 (by decide) (fun c_237 => absurd c_237 (by decide)) (fun c_237 => ?_)
            refine lv_lconst (v := 1) hx hb dX0_lay_240 (by decide) ?_
            refine lv_goto (tgt := 246) hx hb dX0_lay_241 (by decide) ?_
            refine k_lstn (j := sOf r sx tt) hI S hK hM 5 (by decide) rfl (hsl0) dX0_lay_246 (fun H locs hM => ?_)
            have hM : KB D dA a ((ω43.b 4 (upd (ω43.2.1 4) (sOf r sx tt) tn)).l 5 (vp_updL (ω43.2.2.1 5) (sOf r sx tt) 1)) s.heap H locs := hM
            refine lv_aload_n hx hb dX0_lay_247 rfl (lv_at hl 7 rfl) ?_
            refine k_get (v := .ref (a 6)) S hK hM.1 6 (by decide) fl_X0_30 rfl dX0_lay_248 rfl ?_
            refine lv_iload hx hb dX0_lay_251 (lv_at hl 6 rfl) ?_
            refine lv_iload hx hb dX0_lay_253 (lv_at hl 0 rfl) ?_
            refine lv_if_eq (tgt := 262) hx hb dX0_lay_255 (by decide) (fun c_255 => ?_) (fun c_255 => absurd (by decide) c_255)
            refine lv_lload hx hb dX0_lay_262 (lv_at hl 4 rfl) ?_
            refine k_lstn (j := sOf r sx tt) hI S hK hM 6 (by decide) rfl (hsl0) dX0_lay_264 (fun H locs hM => ?_)
            have hM : KB D dA a (((ω43.b 4 (upd (ω43.2.1 4) (sOf r sx tt) tn)).l 5 (vp_updL (ω43.2.2.1 5) (sOf r sx tt) 1)).l 6 (vp_updL (ω43.2.2.1 6) (sOf r sx tt) (lN (vAcc (val net n r) net n r sx (tof r tt) (4 * i43)).2.1))) s.heap H locs := hM
            refine lv_aload_n hx hb dX0_lay_265 rfl (lv_at hl 7 rfl) ?_
            refine k_get (v := .ref (a 7)) S hK hM.1 7 (by decide) fl_X0_33 rfl dX0_lay_266 rfl ?_
            refine lv_iload hx hb dX0_lay_269 (lv_at hl 6 rfl) ?_
            refine lv_iload hx hb dX0_lay_271 (lv_at hl 0 rfl) ?_
            refine lv_if_eq (tgt := 280) hx hb dX0_lay_273 (by decide) (fun c_273 => ?_) (fun c_273 => absurd (by decide) c_273)
            refine lv_iload hx hb dX0_lay_280 (lv_at hl 3 rfl) ?_
            refine k_astn (j := sOf r sx tt) hI S hK hM 7 (by decide) rfl (hsl0) dX0_lay_282 (fun H locs hM => ?_)
            have hM : KB D dA a ((((ω43.b 4 (upd (ω43.2.1 4) (sOf r sx tt) tn)).l 5 (vp_updL (ω43.2.2.1 5) (sOf r sx tt) 1)).l 6 (vp_updL (ω43.2.2.1 6) (sOf r sx tt) (lN (vAcc (val net n r) net n r sx (tof r tt) (4 * i43)).2.1))).b 7 (upd (ω43.2.1 7) (sOf r sx tt) (nI (vAcc (val net n r) net n r sx (tof r tt) (4 * i43)).2.2.1))) s.heap H locs := hM
            refine lv_aload_n hx hb dX0_lay_283 rfl (lv_at hl 7 rfl) ?_
            refine k_get (v := .ref (a 8)) S hK hM.1 8 (by decide) fl_X0_36 rfl dX0_lay_284 rfl ?_
            refine lv_iload hx hb dX0_lay_287 (lv_at hl 6 rfl) ?_
            refine lv_iload hx hb dX0_lay_289 (lv_at hl 0 rfl) ?_
            refine lv_if_eq (tgt := 298) hx hb dX0_lay_291 (by decide) (fun c_291 => ?_) (fun c_291 => absurd (by decide) c_291)
            refine lv_iload hx hb dX0_lay_298 (lv_at hl 2 rfl) ?_
            refine k_astn (j := sOf r sx tt) hI S hK hM 8 (by decide) rfl (hsl0) dX0_lay_300 (fun H locs hM => ?_)
            have hM : KB D dA a (((((ω43.b 4 (upd (ω43.2.1 4) (sOf r sx tt) tn)).l 5 (vp_updL (ω43.2.2.1 5) (sOf r sx tt) 1)).l 6 (vp_updL (ω43.2.2.1 6) (sOf r sx tt) (lN (vAcc (val net n r) net n r sx (tof r tt) (4 * i43)).2.1))).b 7 (upd (ω43.2.1 7) (sOf r sx tt) (nI (vAcc (val net n r) net n r sx (tof r tt) (4 * i43)).2.2.1))).b 8 (upd (ω43.2.1 8) (sOf r sx tt) (mC (vAcc (val net n r) net n r sx (tof r tt) (4 * i43)).2.2.2))) s.heap H locs := hM
            refine lv_iload hx hb dX0_lay_301 (lv_at hl 6 rfl) ?_
            exact k_iret S hr hlk hM dX0_lay_303 (by rw [kSet_mk (v := val net n r sx (tof r tt)) (by rw [val_1 hn hv (by rw [hi43]) hxo c_188 false c_208, if_neg (by decide)] <;> rfl) (by rw [val_1 hn hv (by rw [hi43]) hxo c_188 false c_208, if_neg (by decide)] <;> rfl) (by rw [val_1 hn hv (by rw [hi43]) hxo c_188 false c_208, if_neg (by decide)] <;> rfl) (by rw [val_1 hn hv (by rw [hi43]) hxo c_188 false c_208, if_neg (by decide)] <;> rfl)]; exact ⟨rfl, hw43.1.tr FRc.set, hw43.2.set hv ht, kSet_in⟩)
          · have c_208 := b2i_ne0.mp c_208
            refine lv_iconst (v := 1) hx hb dX0_lay_211 (by decide) ?_
            refine lv_goto (tgt := 216) hx hb dX0_lay_212 (by decide) ?_
            refine lv_istore (lv' := [(12, .int 1), (11, .int 1), (10, .int (mC (vAcc (val net n r) net n r sx (tof r tt) (4 * i43)).2.2.2)), (9, .int (nI (vAcc (val net n r) net n r sx (tof r tt) (4 * i43)).2.2.1)), (7, .long (lN (vAcc (val net n r) net n r sx (tof r tt) (4 * i43)).2.1)), (5, .long (lN (vAcc (val net n r) net n r sx (tof r tt) (4 * i43)).1)), (4, .int (nI (sOf r sx tt))), (0, .ref (a 0)), (1, .int (nI r)), (2, .int (nI sx)), (3, .int (nI tt))]) hx hb dX0_lay_216 hl (by decide) rfl (fun ls hl => ?_)
            refine lv_aload_n hx hb dX0_lay_218 rfl (lv_at hl 7 rfl) ?_
            refine k_get (v := .ref (a 4)) S hK hM.1 4 (by decide) fl_X0_23 rfl dX0_lay_219 rfl ?_
            refine lv_iload hx hb dX0_lay_222 (lv_at hl 6 rfl) ?_
            refine lv_aload_n hx hb dX0_lay_224 rfl (lv_at hl 7 rfl) ?_
            refine k_get (v := .int (ω43.1 9)) S hK hM.1 9 (by decide) fl_X0_167 rfl dX0_lay_225 rfl ?_
            refine topi (z := tn) (h9w) ?_
            refine k_astn (j := sOf r sx tt) hI S hK hM 4 (by decide) rfl (hsl0) dX0_lay_228 (fun H locs hM => ?_)
            refine lv_aload_n hx hb dX0_lay_229 rfl (lv_at hl 7 rfl) ?_
            refine k_get (v := .ref (a 5)) S hK hM.1 5 (by decide) fl_X0_26 rfl dX0_lay_230 rfl ?_
            refine lv_iload hx hb dX0_lay_233 (lv_at hl 6 rfl) ?_
            refine lv_iload hx hb dX0_lay_235 (lv_at hl 1 rfl) ?_
            refine lv_if_eq (tgt := 244) hx hb dX0_lay_237 (by decide) (fun c_237 => absurd c_237 (by decide)) (fun c_237 => ?_)
            refine lv_lconst (v := 1) hx hb dX0_lay_240 (by decide) ?_
            refine lv_goto (tgt := 246) hx hb dX0_lay_241 (by decide) ?_
            refine k_lstn (j := sOf r sx tt) hI S hK hM 5 (by decide) rfl (hsl0) dX0_lay_246 (fun H locs hM => ?_)
            have hM : KB D dA a ((ω43.b 4 (upd (ω43.2.1 4) (sOf r sx tt) tn)).l 5 (vp_updL (ω43.2.2.1 5) (sOf r sx tt) 1)) s.heap H locs := hM
            refine lv_aload_n hx hb dX0_lay_247 rfl (lv_at hl 7 rfl) ?_
            refine k_get (v := .ref (a 6)) S hK hM.1 6 (by decide) fl_X0_30 rfl dX0_lay_248 rfl ?_
            refine lv_iload hx hb dX0_lay_251 (lv_at hl 6 rfl) ?_
            refine lv_iload hx hb dX0_lay_253 (lv_at hl 0 rfl) ?_
            refine lv_if_eq (tgt := 262) hx hb dX0_lay_255 (by decide) (fun c_255 => absurd c_255 (by decide)) (fun c_255 => ?_)
            refine lv_lconst (v := 1) hx hb dX0_lay_258 (by decide) ?_
            refine lv_goto (tgt := 264) hx hb dX0_lay_259 (by decide) ?_
            refine k_lstn (j := sOf r sx tt) hI S hK hM 6 (by decide) rfl (hsl0) dX0_lay_264 (fun H locs hM => ?_)
            have hM : KB D dA a (((ω43.b 4 (upd (ω43.2.1 4) (sOf r sx tt) tn)).l 5 (vp_updL (ω43.2.2.1 5) (sOf r sx tt) 1)).l 6 (vp_updL (ω43.2.2.1 6) (sOf r sx tt) 1)) s.heap H locs := hM
            refine lv_aload_n hx hb dX0_lay_265 rfl (lv_at hl 7 rfl) ?_
            refine k_get (v := .ref (a 7)) S hK hM.1 7 (by decide) fl_X0_33 rfl dX0_lay_266 rfl ?_
            refine lv_iload hx hb dX0_lay_269 (lv_at hl 6 rfl) ?_
            refine lv_iload hx hb dX0_lay_271 (lv_at hl 0 rfl) ?_
            refine lv_if_eq (tgt := 280) hx hb dX0_lay_273 (by decide) (fun c_273 => absurd c_273 (by decide)) (fun c_273 => ?_)
            refine lv_iconst (v := 0) hx hb dX0_lay_276 (by decide) ?_
            refine lv_goto (tgt := 282) hx hb dX0_lay_277 (by decide) ?_
            refine k_astn (j := sOf r sx tt) hI S hK hM 7 (by decide) rfl (hsl0) dX0_lay_282 (fun H locs hM => ?_)
            have hM : KB D dA a ((((ω43.b 4 (upd (ω43.2.1 4) (sOf r sx tt) tn)).l 5 (vp_updL (ω43.2.2.1 5) (sOf r sx tt) 1)).l 6 (vp_updL (ω43.2.2.1 6) (sOf r sx tt) 1)).b 7 (upd (ω43.2.1 7) (sOf r sx tt) 0)) s.heap H locs := hM
            refine lv_aload_n hx hb dX0_lay_283 rfl (lv_at hl 7 rfl) ?_
            refine k_get (v := .ref (a 8)) S hK hM.1 8 (by decide) fl_X0_36 rfl dX0_lay_284 rfl ?_
            refine lv_iload hx hb dX0_lay_287 (lv_at hl 6 rfl) ?_
            refine lv_iload hx hb dX0_lay_289 (lv_at hl 0 rfl) ?_
            refine lv_if_eq (tgt := 298) hx hb dX0_lay_291 (by decide) (fun c_291 => absurd c_291 (by decide)) (fun c_291 => ?_)
            refine lv_iconst (v := 0) hx hb dX0_lay_294 (by decide) ?_
            refine lv_goto (tgt := 300) hx hb dX0_lay_295 (by decide) ?_
            refine k_astn (j := sOf r sx tt) hI S hK hM 8 (by decide) rfl (hsl0) dX0_lay_300 (fun H locs hM => ?_)
            have hM : KB D dA a (((((ω43.b 4 (upd (ω43.2.1 4) (sOf r sx tt) tn)).l 5 (vp_updL (ω43.2.2.1 5) (sOf r sx tt) 1)).l 6 (vp_updL (ω43.2.2.1 6) (sOf r sx tt) 1)).b 7 (upd (ω43.2.1 7) (sOf r sx tt) 0)).b 8 (upd (ω43.2.1 8) (sOf r sx tt) 0)) s.heap H locs := hM
            refine lv_iload hx hb dX0_lay_301 (lv_at hl 6 rfl) ?_
            exact k_iret S hr hlk hM dX0_lay_303 (by rw [kSet_mk (v := val net n r sx (tof r tt)) (by rw [val_1 hn hv (by rw [hi43]) hxo c_188 true c_208, if_pos rfl] <;> rfl) (by rw [val_1 hn hv (by rw [hi43]) hxo c_188 true c_208, if_pos rfl] <;> rfl) (by rw [val_1 hn hv (by rw [hi43]) hxo c_188 true c_208, if_pos rfl] <;> rfl) (by rw [val_1 hn hv (by rw [hi43]) hxo c_188 true c_208, if_pos rfl] <;> rfl)]; exact ⟨rfl, hw43.1.tr FRc.set, hw43.2.set hv ht, kSet_in⟩)
      | succ k43 ih43 =>
        intro i43 hi43 ω43 H locs hM hw43 ls hl
        have hlt43 : i43 < n := by omega
        have hGw := hG.fr hw43.1
        have h9w := (congrFun hw43.1.1 9).trans h9
        refine lv_iload hx hb dX0_lay_43 (lv_at hl 0 rfl) ?_
        refine lv_aload_n hx hb dX0_lay_45 rfl (lv_at hl 6 rfl) ?_
        refine k_get (v := .int (ω43.1 0)) S hK hM.1 0 (by decide) fl_X0_45 rfl dX0_lay_46 rfl ?_
        refine topi (z := nI n) (hGw.2.1) ?_
        refine lv_icmp_ge (tgt := 184) hx hb dX0_lay_49 (by decide) (fun c_49 => absurd c_49 (show ¬ nI n ≤ nI i43 from nI_ge (by omega) (by omega))) (fun c_49 => ?_)
        refine lv_iconst (v := 0) hx hb dX0_lay_52 (by decide) ?_
        refine lv_istore (lv' := [(12, .int 0), (11, .int (nI i43)), (10, .int (mC (vAcc (val net n r) net n r sx (tof r tt) (4 * i43)).2.2.2)), (9, .int (nI (vAcc (val net n r) net n r sx (tof r tt) (4 * i43)).2.2.1)), (7, .long (lN (vAcc (val net n r) net n r sx (tof r tt) (4 * i43)).2.1)), (5, .long (lN (vAcc (val net n r) net n r sx (tof r tt) (4 * i43)).1)), (4, .int (nI (sOf r sx tt))), (0, .ref (a 0)), (1, .int (nI r)), (2, .int (nI sx)), (3, .int (nI tt))]) hx hb dX0_lay_53 hl (by decide) rfl (fun ls hl => ?_)
        have hloop55 : ∀ (k55 i55 : Nat), i55 + k55 = n → ∀ (ω55 : MS) (H : Heap) (locs : List Loc), KB D dA a ω55 s.heap H locs → (FRc σ ω55 tn ∧ TBc ω55 n net r tn) → ∀ (ls : Array Slot), lv_has ls 14 [(12, .int (nI i55)), (11, .int (nI i43)), (10, .int (mC (vAcc (val net n r) net n r sx (tof r tt) (4 * i43 + i55)).2.2.2)), (9, .int (nI (vAcc (val net n r) net n r sx (tof r tt) (4 * i43 + i55)).2.2.1)), (7, .long (lN (vAcc (val net n r) net n r sx (tof r tt) (4 * i43 + i55)).2.1)), (5, .long (lN (vAcc (val net n r) net n r sx (tof r tt) (4 * i43 + i55)).1)), (4, .int (nI (sOf r sx tt))), (0, .ref (a 0)), (1, .int (nI r)), (2, .int (nI sx)), (3, .int (nI tt))] → W p l e ({ frames := (3 + (d + 1)), cells := 0, slots := 0, locals := (100 + 33 * (d + 1)) }) s m [.ref (a 0), .int (nI r), .int (nI sx), .int (nI tt)].toArray below meth c H locs 0 0 (KZ below D dA a (fun v9 σ9 => v9 = some (.int (nI (sOf r sx tt))) ∧ FRc σ σ9 tn ∧ TBc σ9 n net r tn ∧ σ9.2.1 4 (sOf r sx tt) = tn) [.ref (a 0), .int (nI r), .int (nI sx), .int (nI tt)] s) (F0 m 55 ls []) := by
          intro k55
          induction k55 with
          | zero =>
            intro i55 hi55 ω55 H locs hM hw55 ls hl
            have hi55 : i55 = n := by omega
            have hGw := hG.fr hw55.1
            have h9w := (congrFun hw55.1.1 9).trans h9
            refine lv_iload hx hb dX0_lay_55 (lv_at hl 0 rfl) ?_
            refine lv_aload_n hx hb dX0_lay_57 rfl (lv_at hl 7 rfl) ?_
            refine k_get (v := .int (ω55.1 0)) S hK hM.1 0 (by decide) fl_X0_45 rfl dX0_lay_58 rfl ?_
            refine topi (z := nI n) (hGw.2.1) ?_
            refine lv_icmp_ge (tgt := 178) hx hb dX0_lay_61 (by decide) (fun c_61 => ?_) (fun c_61 => absurd (show nI n ≤ nI i55 from nI_le (by omega) (by omega)) c_61)
            refine lv_iinc (v := nI (i43 + 1)) (lv' := [(11, .int (nI (i43 + 1))), (12, .int (nI i55)), (10, .int (mC (vAcc (val net n r) net n r sx (tof r tt) (4 * i43 + i55)).2.2.2)), (9, .int (nI (vAcc (val net n r) net n r sx (tof r tt) (4 * i43 + i55)).2.2.1)), (7, .long (lN (vAcc (val net n r) net n r sx (tof r tt) (4 * i43 + i55)).2.1)), (5, .long (lN (vAcc (val net n r) net n r sx (tof r tt) (4 * i43 + i55)).1)), (4, .int (nI (sOf r sx tt))), (0, .ref (a 0)), (1, .int (nI r)), (2, .int (nI sx)), (3, .int (nI tt))]) hx hb dX0_lay_178 hl (k := 1) rfl (nI_1 _) (by decide) rfl (fun ls hl => ?_)
            refine lv_goto (tgt := 43) hx hb dX0_lay_181 (by decide) ?_
            have e43_10 : mC (vAcc (val net n r) net n r sx (tof r tt) (4 * (i43 + 1))).2.2.2 = mC (vAcc (val net n r) net n r sx (tof r tt) (4 * i43 + i55)).2.2.2 := by rw [hi55, vA_row hn]
            have e43_9 : nI (vAcc (val net n r) net n r sx (tof r tt) (4 * (i43 + 1))).2.2.1 = nI (vAcc (val net n r) net n r sx (tof r tt) (4 * i43 + i55)).2.2.1 := by rw [hi55, vA_row hn]
            have e43_7 : lN (vAcc (val net n r) net n r sx (tof r tt) (4 * (i43 + 1))).2.1 = lN (vAcc (val net n r) net n r sx (tof r tt) (4 * i43 + i55)).2.1 := by rw [hi55, vA_row hn]
            have e43_5 : lN (vAcc (val net n r) net n r sx (tof r tt) (4 * (i43 + 1))).1 = lN (vAcc (val net n r) net n r sx (tof r tt) (4 * i43 + i55)).1 := by rw [hi55, vA_row hn]
            exact ih43 (i43 + 1) (by omega) _ _ _ hM (hw55) ls (by rw [e43_10, e43_9, e43_7, e43_5]; exact lv_sub hl [0, 2, 3, 4, 5, 6, 7, 8, 9, 10] rfl)
          | succ k55 ih55 =>
            intro i55 hi55 ω55 H locs hM hw55 ls hl
            have hlt55 : i55 < n := by omega
            have hGw := hG.fr hw55.1
            have h9w := (congrFun hw55.1.1 9).trans h9
            refine lv_iload hx hb dX0_lay_55 (lv_at hl 0 rfl) ?_
            refine lv_aload_n hx hb dX0_lay_57 rfl (lv_at hl 7 rfl) ?_
            refine k_get (v := .int (ω55.1 0)) S hK hM.1 0 (by decide) fl_X0_45 rfl dX0_lay_58 rfl ?_
            refine topi (z := nI n) (hGw.2.1) ?_
            refine lv_icmp_ge (tgt := 178) hx hb dX0_lay_61 (by decide) (fun c_61 => absurd c_61 (show ¬ nI n ≤ nI i55 from nI_ge (by omega) (by omega))) (fun c_61 => ?_)
            refine lv_aload_n hx hb dX0_lay_64 rfl (lv_at hl 7 rfl) ?_
            refine lv_iload_n hx hb dX0_lay_65 rfl (lv_at hl 8 rfl) ?_
            refine lv_iload_n hx hb dX0_lay_66 rfl (lv_at hl 9 rfl) ?_
            refine lv_iload_n hx hb dX0_lay_67 rfl (lv_at hl 10 rfl) ?_
            refine lv_iload hx hb dX0_lay_68 (lv_at hl 1 rfl) ?_
            refine lv_iload hx hb dX0_lay_70 (lv_at hl 0 rfl) ?_
            refine rc_Vi (rest := []) [.int (nI r), .int (nI sx), .int (nI tt), .int (nI i43), .int (nI i55)] 5 S hK (r0_mayRing l D dA a ω55 n net hGw r sx tt i43 i55 (by omega) hv (ht) (by first | assumption | omega | decide) (by first | assumption | omega | decide)) wl_X0_160 wd_X0_X0_mayRing rfl ⟨by show (_ : Nat) ≤ 3 + (d + 1); omega, by show (_ : Nat) ≤ 100 + 33 * (d + 1); omega⟩ (k_recv hK hM.1) hl.1 (Nat.le_of_ble_eq_true rfl) dX0_lay_72 ⟨Nat.le_refl 0, Nat.le_refl 0⟩ (hM.1) ?_ rfl
            refine lv_if_eq (tgt := 172) hx hb dX0_lay_75 (by decide) (fun c_75 => ?_) (fun c_75 => ?_)
            · have c_75 := b2i_eq0.mp c_75
              refine lv_iinc (v := nI (i55 + 1)) (lv' := [(12, .int (nI (i55 + 1))), (11, .int (nI i43)), (10, .int (mC (vAcc (val net n r) net n r sx (tof r tt) (4 * i43 + i55)).2.2.2)), (9, .int (nI (vAcc (val net n r) net n r sx (tof r tt) (4 * i43 + i55)).2.2.1)), (7, .long (lN (vAcc (val net n r) net n r sx (tof r tt) (4 * i43 + i55)).2.1)), (5, .long (lN (vAcc (val net n r) net n r sx (tof r tt) (4 * i43 + i55)).1)), (4, .int (nI (sOf r sx tt))), (0, .ref (a 0)), (1, .int (nI r)), (2, .int (nI sx)), (3, .int (nI tt))]) hx hb dX0_lay_172 hl (k := 0) rfl (nI_1 _) (by decide) rfl (fun ls hl => ?_)
              refine lv_goto (tgt := 55) hx hb dX0_lay_175 (by decide) ?_
              have e55_10 : mC (vAcc (val net n r) net n r sx (tof r tt) (4 * i43 + (i55 + 1))).2.2.2 = mC (vAcc (val net n r) net n r sx (tof r tt) (4 * i43 + i55)).2.2.2 := by rw [vA_f hlt43 hlt55 hn c_75]
              have e55_9 : nI (vAcc (val net n r) net n r sx (tof r tt) (4 * i43 + (i55 + 1))).2.2.1 = nI (vAcc (val net n r) net n r sx (tof r tt) (4 * i43 + i55)).2.2.1 := by rw [vA_f hlt43 hlt55 hn c_75]
              have e55_7 : lN (vAcc (val net n r) net n r sx (tof r tt) (4 * i43 + (i55 + 1))).2.1 = lN (vAcc (val net n r) net n r sx (tof r tt) (4 * i43 + i55)).2.1 := by rw [vA_f hlt43 hlt55 hn c_75]
              have e55_5 : lN (vAcc (val net n r) net n r sx (tof r tt) (4 * i43 + (i55 + 1))).1 = lN (vAcc (val net n r) net n r sx (tof r tt) (4 * i43 + i55)).1 := by rw [vA_f hlt43 hlt55 hn c_75]
              exact ih55 (i55 + 1) (by omega) _ _ _ hM (hw55) ls (by rw [e55_10, e55_9, e55_7, e55_5]; exact lv_sub hl [0, 1, 2, 3, 4, 5, 6, 7, 8, 9, 10] rfl)
            · have c_75 := b2i_ne0.mp c_75
              have hv9 := vld_aft hn hv hlt43 hlt55
              have ht9 := tb8_lt tt ht i43 (by omega) i55 (by omega)
              have hmu9 := mu_aft (by omega) (by omega) (may_ne hv hlt55 hn c_75)
              refine lv_aload_n hx hb dX0_lay_78 rfl (lv_at hl 7 rfl) ?_
              refine lv_iload_n hx hb dX0_lay_79 rfl (lv_at hl 8 rfl) ?_
              refine lv_iload_n hx hb dX0_lay_80 rfl (lv_at hl 9 rfl) ?_
              refine lv_iload hx hb dX0_lay_81 (lv_at hl 1 rfl) ?_
              refine lv_iload hx hb dX0_lay_83 (lv_at hl 0 rfl) ?_
              refine rc_Si (rest := [.int (nI r), .ref (a 0)]) [.int (nI sx), .int (nI i43), .int (nI i55)] 3 S hK (r0_behind l D dA sx i43 i55 (by first | assumption | omega | decide) (by first | assumption | omega | decide) (by first | assumption | omega | decide)) wl_X0_170 wd_X0_X0_behind rfl ⟨by show (_ : Nat) ≤ 3 + (d + 1); omega, by show (_ : Nat) ≤ 100 + 33 * (d + 1); omega⟩ hl.1 (Nat.le_of_ble_eq_true rfl) dX0_lay_85 ⟨Nat.le_refl 0, Nat.le_refl 0⟩ (trivial) ?_ rfl
              refine lv_iload_n hx hb dX0_lay_88 rfl (lv_at hl 10 rfl) ?_
              refine lv_iload hx hb dX0_lay_89 (lv_at hl 1 rfl) ?_
              refine lv_iload hx hb dX0_lay_91 (lv_at hl 0 rfl) ?_
              refine rc_Si (rest := [.int (nI (aft sx i43 i55)), .int (nI r), .ref (a 0)]) [.int (nI tt), .int (nI i43), .int (nI i55)] 3 S hK (r0_tokensBehind l D dA tt i43 i55 (by first | assumption | omega | decide) (by first | assumption | omega | decide) (by first | assumption | omega | decide)) wl_X0_102 wd_X0_X0_tokensBehind rfl ⟨by show (_ : Nat) ≤ 3 + (d + 1); omega, by show (_ : Nat) ≤ 100 + 33 * (d + 1); omega⟩ hl.1 (Nat.le_of_ble_eq_true rfl) dX0_lay_93 ⟨Nat.le_refl 0, Nat.le_refl 0⟩ (trivial) ?_ rfl
              refine kc_V (rest := []) [.int (nI r), .int (nI (aft sx i43 i55)), .int (nI (tb8 tt i43 i55))] 3 S hK hM (IH ω55 _ _ hGw (by first | exact h9 | exact (congrFun hw55.1.1 9).trans h9) hw55.2 hv9 ht9 (by omega)) wl_X0_173 wd_X0_X0_lay rfl ⟨by show (_ : Nat) ≤ 3 + (d + 1); omega, by show (_ : Nat) ≤ 100 + 33 * (d + 1); omega⟩ hl.1 (Nat.le_of_ble_eq_true rfl) dX0_lay_96 ⟨Nat.le_refl 0, Nat.le_refl 0⟩ (hSt.at hM hPh) (fun v σ96 H locs hq hM => ?_) rfl
              obtain ⟨rfl, hFR9, hTB9, hin9⟩ := hq
              refine W.eq (g2 := F0 m 99 ls [.int (nI (sOf r (aft sx i43 i55) (tb8 tt i43 i55)))]) rfl ?_
              have hLP := hTB9 _ _ hv9 ht9 hin9
              have hGw := hGw.fr hFR9
              have hvo := (val_ok (net := net) (r := r) (t := tof r (tb8 tt i43 i55)) hn hv9 (by omega)).1
              have hxo := vAccV_ok (net := net) (r := r) (t := tof r tt) hn hv (show mu sx ≤ 15 by omega) (4 * i43 + i55) (by omega)
              have hch := vA_t (f := val net n r) hlt43 hlt55 hn c_75
              rw [← tof_tb ht (by omega) (by omega)] at hch
              have hsl := sOf_lt (r := r) (s := aft sx i43 i55) ht9
              have hb1 := (show (val net n r (aft sx i43 i55) (tof r (tb8 tt i43 i55))).2.2.1 < 2000 from vfew hvo)
              have hb2 := (show (val net n r (aft sx i43 i55) (tof r (tb8 tt i43 i55))).2.2.2 < 2000 from vmos hvo)
              have hb3 := (show (vAcc (val net n r) net n r sx (tof r tt) (4 * i43 + i55)).2.2.1 < 2000 from vfew hxo)
              have hb4 := (show (vAcc (val net n r) net n r sx (tof r tt) (4 * i43 + i55)).2.2.2 < 2000 from vmos hxo)
              refine lv_istore (lv' := [(13, .int (nI (sOf r (aft sx i43 i55) (tb8 tt i43 i55)))), (12, .int (nI i55)), (11, .int (nI i43)), (10, .int (mC (vAcc (val net n r) net n r sx (tof r tt) (4 * i43 + i55)).2.2.2)), (9, .int (nI (vAcc (val net n r) net n r sx (tof r tt) (4 * i43 + i55)).2.2.1)), (7, .long (lN (vAcc (val net n r) net n r sx (tof r tt) (4 * i43 + i55)).2.1)), (5, .long (lN (vAcc (val net n r) net n r sx (tof r tt) (4 * i43 + i55)).1)), (4, .int (nI (sOf r sx tt))), (0, .ref (a 0)), (1, .int (nI r)), (2, .int (nI sx)), (3, .int (nI tt))]) hx hb dX0_lay_99 hl (by decide) rfl (fun ls hl => ?_)
              refine lv_lload hx hb dX0_lay_101 (lv_at hl 6 rfl) ?_
              refine lv_aload_n hx hb dX0_lay_103 rfl (lv_at hl 8 rfl) ?_
              refine k_get (v := .ref (a 5)) S hK hM.1 5 (by decide) fl_X0_26 rfl dX0_lay_104 rfl ?_
              refine lv_iload hx hb dX0_lay_107 (lv_at hl 0 rfl) ?_
              refine k_lldn (j := sOf r (aft sx i43 i55) (tb8 tt i43 i55)) (v := lN (val net n r (aft sx i43 i55) (tof r (tb8 tt i43 i55))).1) S hK hM.1 5 (by decide) rfl (hsl) dX0_lay_109 (hLP.1) ?_
              refine lv_ladd hx hb dX0_lay_110 ?_
              refine topl (z := lN ((vAcc (val net n r) net n r sx (tof r tt) (4 * i43 + i55)).1 + (val net n r (aft sx i43 i55) (tof r (tb8 tt i43 i55))).1)) (lN_add _ _) ?_
              refine lv_lstore (lv' := [(5, .long (lN ((vAcc (val net n r) net n r sx (tof r tt) (4 * i43 + i55)).1 + (val net n r (aft sx i43 i55) (tof r (tb8 tt i43 i55))).1))), (13, .int (nI (sOf r (aft sx i43 i55) (tb8 tt i43 i55)))), (12, .int (nI i55)), (11, .int (nI i43)), (10, .int (mC (vAcc (val net n r) net n r sx (tof r tt) (4 * i43 + i55)).2.2.2)), (9, .int (nI (vAcc (val net n r) net n r sx (tof r tt) (4 * i43 + i55)).2.2.1)), (7, .long (lN (vAcc (val net n r) net n r sx (tof r tt) (4 * i43 + i55)).2.1)), (4, .int (nI (sOf r sx tt))), (0, .ref (a 0)), (1, .int (nI r)), (2, .int (nI sx)), (3, .int (nI tt))]) hx hb dX0_lay_111 hl (by decide) rfl (fun ls hl => ?_)
              refine lv_lload hx hb dX0_lay_113 (lv_at hl 6 rfl) ?_
              refine lv_aload_n hx hb dX0_lay_115 rfl (lv_at hl 8 rfl) ?_
              refine k_get (v := .ref (a 6)) S hK hM.1 6 (by decide) fl_X0_30 rfl dX0_lay_116 rfl ?_
              refine lv_iload hx hb dX0_lay_119 (lv_at hl 1 rfl) ?_
              refine k_lldn (j := sOf r (aft sx i43 i55) (tb8 tt i43 i55)) (v := lN (val net n r (aft sx i43 i55) (tof r (tb8 tt i43 i55))).2.1) S hK hM.1 6 (by decide) rfl (hsl) dX0_lay_121 (hLP.2.1) ?_
              refine lv_ladd hx hb dX0_lay_122 ?_
              refine topl (z := lN ((vAcc (val net n r) net n r sx (tof r tt) (4 * i43 + i55)).2.1 + (val net n r (aft sx i43 i55) (tof r (tb8 tt i43 i55))).2.1)) (lN_add _ _) ?_
              refine lv_lstore (lv' := [(7, .long (lN ((vAcc (val net n r) net n r sx (tof r tt) (4 * i43 + i55)).2.1 + (val net n r (aft sx i43 i55) (tof r (tb8 tt i43 i55))).2.1))), (5, .long (lN ((vAcc (val net n r) net n r sx (tof r tt) (4 * i43 + i55)).1 + (val net n r (aft sx i43 i55) (tof r (tb8 tt i43 i55))).1))), (13, .int (nI (sOf r (aft sx i43 i55) (tb8 tt i43 i55)))), (12, .int (nI i55)), (11, .int (nI i43)), (10, .int (mC (vAcc (val net n r) net n r sx (tof r tt) (4 * i43 + i55)).2.2.2)), (9, .int (nI (vAcc (val net n r) net n r sx (tof r tt) (4 * i43 + i55)).2.2.1)), (4, .int (nI (sOf r sx tt))), (0, .ref (a 0)), (1, .int (nI r)), (2, .int (nI sx)), (3, .int (nI tt))]) hx hb dX0_lay_123 hl (by decide) rfl (fun ls hl => ?_)
              refine lv_iload hx hb dX0_lay_125 (lv_at hl 6 rfl) ?_
              refine lv_aload_n hx hb dX0_lay_127 rfl (lv_at hl 8 rfl) ?_
              refine k_get (v := .ref (a 7)) S hK hM.1 7 (by decide) fl_X0_33 rfl dX0_lay_128 rfl ?_
              refine lv_iload hx hb dX0_lay_131 (lv_at hl 2 rfl) ?_
              refine k_aldn (j := sOf r (aft sx i43 i55) (tb8 tt i43 i55)) (v := nI (val net n r (aft sx i43 i55) (tof r (tb8 tt i43 i55))).2.2.1) S hK hM.1 7 (by decide) rfl (hsl) dX0_lay_133 (hLP.2.2.1) ?_
              refine lv_iconst (v := 1) hx hb dX0_lay_134 (by decide) ?_
              refine lv_iadd hx hb dX0_lay_135 ?_
              refine topi (z := nI ((val net n r (aft sx i43 i55) (tof r (tb8 tt i43 i55))).2.2.1 + 1)) (nI_1 _) ?_
              refine va_mmin (rest := []) S.1 S.2.1 (S.2.2.1.trans hl.1.symm) S.2.2.2.1 (S.2.2.2.2 _ q490) (S.2.2.2.2 _ q407) (S.2.2.2.2 _ q78) (S.2.2.2.2 _ q408) (by show 1 ≤ 3 + (d + 1); omega) (by show 0 + 13 ≤ 100 + 33 * (d + 1); omega) (Nat.le_refl 0) (Nat.le_refl 0) dX0_lay_136 ?_
              refine W.eq (g2 := F0 m 139 ls [.int (mnI (nI (vAcc (val net n r) net n r sx (tof r tt) (4 * i43 + i55)).2.2.1) (nI ((val net n r (aft sx i43 i55) (tof r (tb8 tt i43 i55))).2.2.1 + 1)))]) rfl ?_
              refine lv_istore (lv' := [(9, .int (mnI (nI (vAcc (val net n r) net n r sx (tof r tt) (4 * i43 + i55)).2.2.1) (nI ((val net n r (aft sx i43 i55) (tof r (tb8 tt i43 i55))).2.2.1 + 1)))), (7, .long (lN ((vAcc (val net n r) net n r sx (tof r tt) (4 * i43 + i55)).2.1 + (val net n r (aft sx i43 i55) (tof r (tb8 tt i43 i55))).2.1))), (5, .long (lN ((vAcc (val net n r) net n r sx (tof r tt) (4 * i43 + i55)).1 + (val net n r (aft sx i43 i55) (tof r (tb8 tt i43 i55))).1))), (13, .int (nI (sOf r (aft sx i43 i55) (tb8 tt i43 i55)))), (12, .int (nI i55)), (11, .int (nI i43)), (10, .int (mC (vAcc (val net n r) net n r sx (tof r tt) (4 * i43 + i55)).2.2.2)), (4, .int (nI (sOf r sx tt))), (0, .ref (a 0)), (1, .int (nI r)), (2, .int (nI sx)), (3, .int (nI tt))]) hx hb dX0_lay_139 hl (by decide) rfl (fun ls hl => ?_)
              refine lv_aload_n hx hb dX0_lay_141 rfl (lv_at hl 8 rfl) ?_
              refine k_get (v := .ref (a 8)) S hK hM.1 8 (by decide) fl_X0_36 rfl dX0_lay_142 rfl ?_
              refine lv_iload hx hb dX0_lay_145 (lv_at hl 3 rfl) ?_
              refine k_aldn (j := sOf r (aft sx i43 i55) (tb8 tt i43 i55)) (v := mC (val net n r (aft sx i43 i55) (tof r (tb8 tt i43 i55))).2.2.2) S hK hM.1 8 (by decide) rfl (hsl) dX0_lay_147 (hLP.2.2.2) ?_
              refine lv_if_ge (tgt := 156) hx hb dX0_lay_148 (by decide) (fun c_148 => ?_) (fun c_148 => ?_)
              · have c_148 : ¬ (val net n r (aft sx i43 i55) (tof r (tb8 tt i43 i55))).2.2.2 = 0 := fun h => absurd c_148 (Int32.not_le.mpr ((mC_neg (by omega)).mpr h))
                refine lv_iload hx hb dX0_lay_156 (lv_at hl 6 rfl) ?_
                refine lv_aload_n hx hb dX0_lay_158 rfl (lv_at hl 8 rfl) ?_
                refine k_get (v := .ref (a 8)) S hK hM.1 8 (by decide) fl_X0_36 rfl dX0_lay_159 rfl ?_
                refine lv_iload hx hb dX0_lay_162 (lv_at hl 3 rfl) ?_
                refine k_aldn (j := sOf r (aft sx i43 i55) (tb8 tt i43 i55)) (v := mC (val net n r (aft sx i43 i55) (tof r (tb8 tt i43 i55))).2.2.2) S hK hM.1 8 (by decide) rfl (hsl) dX0_lay_164 (hLP.2.2.2) ?_
                refine lv_iconst (v := 1) hx hb dX0_lay_165 (by decide) ?_
                refine lv_iadd hx hb dX0_lay_166 ?_
                refine va_mmax (rest := []) S.1 S.2.1 (S.2.2.1.trans hl.1.symm) S.2.2.2.1 (S.2.2.2.2 _ q491) (S.2.2.2.2 _ q368) (S.2.2.2.2 _ q78) (S.2.2.2.2 _ q369) (by show 1 ≤ 3 + (d + 1); omega) (by show 0 + 13 ≤ 100 + 33 * (d + 1); omega) (Nat.le_refl 0) (Nat.le_refl 0) dX0_lay_167 ?_
                refine W.eq (g2 := F0 m 170 ls [.int (mxI (mC (vAcc (val net n r) net n r sx (tof r tt) (4 * i43 + i55)).2.2.2) ((mC (val net n r (aft sx i43 i55) (tof r (tb8 tt i43 i55))).2.2.2) + 1))]) rfl ?_
                refine lv_istore (lv' := [(10, .int (mxI (mC (vAcc (val net n r) net n r sx (tof r tt) (4 * i43 + i55)).2.2.2) ((mC (val net n r (aft sx i43 i55) (tof r (tb8 tt i43 i55))).2.2.2) + 1))), (9, .int (mnI (nI (vAcc (val net n r) net n r sx (tof r tt) (4 * i43 + i55)).2.2.1) (nI ((val net n r (aft sx i43 i55) (tof r (tb8 tt i43 i55))).2.2.1 + 1)))), (7, .long (lN ((vAcc (val net n r) net n r sx (tof r tt) (4 * i43 + i55)).2.1 + (val net n r (aft sx i43 i55) (tof r (tb8 tt i43 i55))).2.1))), (5, .long (lN ((vAcc (val net n r) net n r sx (tof r tt) (4 * i43 + i55)).1 + (val net n r (aft sx i43 i55) (tof r (tb8 tt i43 i55))).1))), (13, .int (nI (sOf r (aft sx i43 i55) (tb8 tt i43 i55)))), (12, .int (nI i55)), (11, .int (nI i43)), (4, .int (nI (sOf r sx tt))), (0, .ref (a 0)), (1, .int (nI r)), (2, .int (nI sx)), (3, .int (nI tt))]) hx hb dX0_lay_170 hl (by decide) rfl (fun ls hl => ?_)
                refine lv_iinc (v := nI (i55 + 1)) (lv' := [(12, .int (nI (i55 + 1))), (10, .int (mxI (mC (vAcc (val net n r) net n r sx (tof r tt) (4 * i43 + i55)).2.2.2) ((mC (val net n r (aft sx i43 i55) (tof r (tb8 tt i43 i55))).2.2.2) + 1))), (9, .int (mnI (nI (vAcc (val net n r) net n r sx (tof r tt) (4 * i43 + i55)).2.2.1) (nI ((val net n r (aft sx i43 i55) (tof r (tb8 tt i43 i55))).2.2.1 + 1)))), (7, .long (lN ((vAcc (val net n r) net n r sx (tof r tt) (4 * i43 + i55)).2.1 + (val net n r (aft sx i43 i55) (tof r (tb8 tt i43 i55))).2.1))), (5, .long (lN ((vAcc (val net n r) net n r sx (tof r tt) (4 * i43 + i55)).1 + (val net n r (aft sx i43 i55) (tof r (tb8 tt i43 i55))).1))), (13, .int (nI (sOf r (aft sx i43 i55) (tb8 tt i43 i55)))), (11, .int (nI i43)), (4, .int (nI (sOf r sx tt))), (0, .ref (a 0)), (1, .int (nI r)), (2, .int (nI sx)), (3, .int (nI tt))]) hx hb dX0_lay_172 hl (k := 5) rfl (nI_1 _) (by decide) rfl (fun ls hl => ?_)
                refine lv_goto (tgt := 55) hx hb dX0_lay_175 (by decide) ?_
                have e55_10 : mC (vAcc (val net n r) net n r sx (tof r tt) (4 * i43 + (i55 + 1))).2.2.2 = mxI (mC (vAcc (val net n r) net n r sx (tof r tt) (4 * i43 + i55)).2.2.2) ((mC (val net n r (aft sx i43 i55) (tof r (tb8 tt i43 i55))).2.2.2) + 1) := by rw [hch, cmb_mo1 hvo c_148]; exact (mxI_eq (by omega) (by omega) c_148).symm
                have e55_9 : nI (vAcc (val net n r) net n r sx (tof r tt) (4 * i43 + (i55 + 1))).2.2.1 = mnI (nI (vAcc (val net n r) net n r sx (tof r tt) (4 * i43 + i55)).2.2.1) (nI ((val net n r (aft sx i43 i55) (tof r (tb8 tt i43 i55))).2.2.1 + 1)) := by rw [hch, cmb_few (m := 15) (k := 15) (by decide) hxo (by decide) hvo]; exact (mnI_eq (by omega) (by omega)).symm
                have e55_7 : lN (vAcc (val net n r) net n r sx (tof r tt) (4 * i43 + (i55 + 1))).2.1 = lN ((vAcc (val net n r) net n r sx (tof r tt) (4 * i43 + i55)).2.1 + (val net n r (aft sx i43 i55) (tof r (tb8 tt i43 i55))).2.1) := by rw [hch]; rfl
                have e55_5 : lN (vAcc (val net n r) net n r sx (tof r tt) (4 * i43 + (i55 + 1))).1 = lN ((vAcc (val net n r) net n r sx (tof r tt) (4 * i43 + i55)).1 + (val net n r (aft sx i43 i55) (tof r (tb8 tt i43 i55))).1) := by rw [hch]; rfl
                exact ih55 (i55 + 1) (by omega) _ _ _ hM (⟨hw55.1.tr hFR9, hTB9⟩) ls (by rw [e55_10, e55_9, e55_7, e55_5]; exact lv_sub hl [0, 6, 1, 2, 3, 4, 7, 8, 9, 10, 11] rfl)
              · have c_148 : (val net n r (aft sx i43 i55) (tof r (tb8 tt i43 i55))).2.2.2 = 0 := (mC_neg (by omega)).mp (Int32.not_le.mp c_148)
                refine lv_iload hx hb dX0_lay_151 (lv_at hl 6 rfl) ?_
                refine lv_goto (tgt := 170) hx hb dX0_lay_153 (by decide) ?_
                refine lv_istore (lv' := [(10, .int (mC (vAcc (val net n r) net n r sx (tof r tt) (4 * i43 + i55)).2.2.2)), (9, .int (mnI (nI (vAcc (val net n r) net n r sx (tof r tt) (4 * i43 + i55)).2.2.1) (nI ((val net n r (aft sx i43 i55) (tof r (tb8 tt i43 i55))).2.2.1 + 1)))), (7, .long (lN ((vAcc (val net n r) net n r sx (tof r tt) (4 * i43 + i55)).2.1 + (val net n r (aft sx i43 i55) (tof r (tb8 tt i43 i55))).2.1))), (5, .long (lN ((vAcc (val net n r) net n r sx (tof r tt) (4 * i43 + i55)).1 + (val net n r (aft sx i43 i55) (tof r (tb8 tt i43 i55))).1))), (13, .int (nI (sOf r (aft sx i43 i55) (tb8 tt i43 i55)))), (12, .int (nI i55)), (11, .int (nI i43)), (4, .int (nI (sOf r sx tt))), (0, .ref (a 0)), (1, .int (nI r)), (2, .int (nI sx)), (3, .int (nI tt))]) hx hb dX0_lay_170 hl (by decide) rfl (fun ls hl => ?_)
                refine lv_iinc (v := nI (i55 + 1)) (lv' := [(12, .int (nI (i55 + 1))), (10, .int (mC (vAcc (val net n r) net n r sx (tof r tt) (4 * i43 + i55)).2.2.2)), (9, .int (mnI (nI (vAcc (val net n r) net n r sx (tof r tt) (4 * i43 + i55)).2.2.1) (nI ((val net n r (aft sx i43 i55) (tof r (tb8 tt i43 i55))).2.2.1 + 1)))), (7, .long (lN ((vAcc (val net n r) net n r sx (tof r tt) (4 * i43 + i55)).2.1 + (val net n r (aft sx i43 i55) (tof r (tb8 tt i43 i55))).2.1))), (5, .long (lN ((vAcc (val net n r) net n r sx (tof r tt) (4 * i43 + i55)).1 + (val net n r (aft sx i43 i55) (tof r (tb8 tt i43 i55))).1))), (13, .int (nI (sOf r (aft sx i43 i55) (tb8 tt i43 i55)))), (11, .int (nI i43)), (4, .int (nI (sOf r sx tt))), (0, .ref (a 0)), (1, .int (nI r)), (2, .int (nI sx)), (3, .int (nI tt))]) hx hb dX0_lay_172 hl (k := 5) rfl (nI_1 _) (by decide) rfl (fun ls hl => ?_)
                refine lv_goto (tgt := 55) hx hb dX0_lay_175 (by decide) ?_
                have e55_10 : mC (vAcc (val net n r) net n r sx (tof r tt) (4 * i43 + (i55 + 1))).2.2.2 = mC (vAcc (val net n r) net n r sx (tof r tt) (4 * i43 + i55)).2.2.2 := by rw [hch, cmb_mo0 hvo c_148]
                have e55_9 : nI (vAcc (val net n r) net n r sx (tof r tt) (4 * i43 + (i55 + 1))).2.2.1 = mnI (nI (vAcc (val net n r) net n r sx (tof r tt) (4 * i43 + i55)).2.2.1) (nI ((val net n r (aft sx i43 i55) (tof r (tb8 tt i43 i55))).2.2.1 + 1)) := by rw [hch, cmb_few (m := 15) (k := 15) (by decide) hxo (by decide) hvo]; exact (mnI_eq (by omega) (by omega)).symm
                have e55_7 : lN (vAcc (val net n r) net n r sx (tof r tt) (4 * i43 + (i55 + 1))).2.1 = lN ((vAcc (val net n r) net n r sx (tof r tt) (4 * i43 + i55)).2.1 + (val net n r (aft sx i43 i55) (tof r (tb8 tt i43 i55))).2.1) := by rw [hch]; rfl
                have e55_5 : lN (vAcc (val net n r) net n r sx (tof r tt) (4 * i43 + (i55 + 1))).1 = lN ((vAcc (val net n r) net n r sx (tof r tt) (4 * i43 + i55)).1 + (val net n r (aft sx i43 i55) (tof r (tb8 tt i43 i55))).1) := by rw [hch]; rfl
                exact ih55 (i55 + 1) (by omega) _ _ _ hM (⟨hw55.1.tr hFR9, hTB9⟩) ls (by rw [e55_10, e55_9, e55_7, e55_5]; exact lv_sub hl [0, 6, 1, 2, 3, 4, 7, 8, 9, 10, 11] rfl)
        exact hloop55 (n) 0 (by omega) _ _ _ hM (hw43) ls (lv_sub hl [0, 1, 2, 3, 4, 5, 6, 7, 8, 9, 10] rfl)
    exact hloop43 (n) 0 (by omega) _ _ _ hM (⟨FRc.rf, hTB⟩) ls (lv_sub hl [0, 1, 2, 3, 4, 5, 6, 7, 8, 9] rfl)
  · refine lv_iload hx hb dX0_lay_22 (lv_at hl 0 rfl) ?_
    exact k_iret S hr hlk hM dX0_lay_24 (⟨rfl, FRc.rf, hTB, c_19⟩)
