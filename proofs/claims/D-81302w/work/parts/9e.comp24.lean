/-! COMPONENT 24: call, back (by program: gen/comp24.py) -/
set_option maxRecDepth 100000
set_option maxHeartbeats 4000000 in
theorem g0_call (l : Launch) (D : va_G) (dA : Nat → ClassId) (mi zs zf : Nat) (a : Nat → Nat) (hI : kInj a) (σ : MS) (n nc : Nat) (cp cq : Nat → Nat) (ed cap : Nat) (mc : Int32) (f : Nat → Option Nat) (rg : Nat → Nat) (net : Nat → Nat) (hG : KG σ n net) (hcq : ∀ j, j < nc → cp j < n ∧ cq j < n) (hnc12 : nc ≤ 12) (hcap : cap = 0 ∨ cap = 10 ∨ cap = 15) (sz : Nat) (hCA : CAp a ed nc rg zs sz) (v w : Int32) : GC l yX0_call cX0_call 8 (some .int) 7 191 2 25 (K4 D dA mi zs zf) [.ref (a 0), .int v, .int w] (fun H => va_P D vwCl (kW dA a σ) H ∧ DY D dA a n nc cp cq ed cap mc f rg H ∧ sz ≤ H.size ∧ (cap = 0 → ZH zs zf ed H ∧ EH dA ed H)) (lA a ed sz) (fun v9 H => v9 = some (.int (spCall n net nc (stAt n cp cq nc) v w)) ∧ va_P D vwCl (kW dA a σ) H ∧ CPost D dA a n nc cp cq ed cap mc f rg sz v.toNatClampNeg w.toNatClampNeg (spCall n net nc (stAt n cp cq nc) v w) H) := by
  refine GC.of (by decide) (Nat.le_of_ble_eq_true rfl) ?_
  intro p e s m below meth c ls S hr hlk hnm hK4 hPre hl
  have hK2 := hK4.1
  have hK := hK2.1
  have hx := S.1
  have hb := S.2.1
  have hl : lv_has ls 8 [(0, .ref (a 0)), (1, .int v), (2, .int w)] := hl
  have hS : va_S (lA a ed sz) s.heap s.heap [] := va_S.rf
  obtain ⟨hP, hDY, hsz, hZE⟩ := hPre
  have hn := hG.1
  have h0 := hG.2.1
  have hnet := hG.2.2.2
  have hc4 : ∀ j, j < nc → cp j < 4 ∧ cq j < 4 := fun j hj => ⟨by have := (hcq j hj).1; omega, by have := (hcq j hj).2; omega⟩
  have hv : vld n (stAt n cp cq nc) := vld_stAt hn nc hcq
  have hs := hv.1
  have ht8 : (tk8 cp cq nc) < 256 := tk8_lt nc hc4
  refine lv_aload_n hx hb dX0_call_0 rfl (lv_at hl 0 rfl) ?_
  refine lv_iload_n hx hb dX0_call_1 rfl (lv_at hl 1 rfl) ?_
  refine rc_Vi (rest := []) [.int v] 1 S hK (r0_noPerson l D dA a σ n hn (h0) v) wl_X0_89 wd_X0_X0_noPerson rfl ⟨Nat.le_of_ble_eq_true rfl, Nat.le_of_ble_eq_true rfl⟩ (k_recv hK hP) hl.1 (Nat.le_of_ble_eq_true rfl) dX0_call_2 ⟨Nat.le_of_ble_eq_true rfl, Nat.le_of_ble_eq_true rfl⟩ (hP) ?_ rfl
  refine lv_if_ne (tgt := 16) hx hb dX0_call_5 (by decide) (fun c_5 => ?_) (fun c_5 => ?_)
  · have c_5 := b2i_ne0.mp c_5
    have c_5 : inP v n = false := by simpa using c_5
    refine lv_iconst (v := (-1)) hx hb dX0_call_16 (by decide) ?_
    have e9 : spCall n net nc (stAt n cp cq nc) v w = (-1 : Int32) := by simp [spCall, *]
    exact g_iret S hr hlk hS dX0_call_17 ⟨Nat.le_of_ble_eq_true rfl, Nat.le_of_ble_eq_true rfl⟩ (⟨by rw [e9], hP, by rw [e9]; unfold CPost; rw [if_pos (by decide)]; exact hDY⟩)
  · have c_5 := b2i_eq0.mp c_5
    have c_5 : inP v n = true := by simpa using c_5
    refine lv_aload_n hx hb dX0_call_8 rfl (lv_at hl 0 rfl) ?_
    refine lv_iload_n hx hb dX0_call_9 rfl (lv_at hl 2 rfl) ?_
    refine rc_Vi (rest := []) [.int w] 1 S hK (r0_noPerson l D dA a σ n hn (h0) w) wl_X0_89 wd_X0_X0_noPerson rfl ⟨Nat.le_of_ble_eq_true rfl, Nat.le_of_ble_eq_true rfl⟩ (k_recv hK hP) hl.1 (Nat.le_of_ble_eq_true rfl) dX0_call_10 ⟨Nat.le_of_ble_eq_true rfl, Nat.le_of_ble_eq_true rfl⟩ (hP) ?_ rfl
    refine lv_if_eq (tgt := 18) hx hb dX0_call_13 (by decide) (fun c_13 => ?_) (fun c_13 => ?_)
    · have c_13 := b2i_eq0.mp c_13
      have c_13 : inP w n = true := by simpa using c_13
      obtain ⟨pa, hpa, rfl⟩ := inP_some (by omega) c_5
      have hpa4 : pa < 4 := by omega
      obtain ⟨qa, hqa, rfl⟩ := inP_some (by omega) c_13
      have hqa4 : qa < 4 := by omega
      have hnum := numA_lt (net := net) (s := (stAt n cp cq nc)) (p := pa) hnet 4 (by omega)
      have hpx : (nI pa).toNatClampNeg = pa := nI_clamp (by omega)
      have hqx : (nI qa).toNatClampNeg = qa := nI_clamp (by omega)
      have hpy := inP_nI hpa (Nat.lt_trans hn (by decide))
      have hqy := inP_nI hqa (Nat.lt_trans hn (by decide))
      refine lv_iload_n hx hb dX0_call_18 rfl (lv_at hl 1 rfl) ?_
      refine lv_iload_n hx hb dX0_call_19 rfl (lv_at hl 2 rfl) ?_
      refine lv_icmp_ne (tgt := 26) hx hb dX0_call_20 (by decide) (fun c_20 => ?_) (fun c_20 => ?_)
      · refine lv_aload_n hx hb dX0_call_26 rfl (lv_at hl 0 rfl) ?_
        refine rc2_V (rest := []) [] 0 S hK2 (r0_secretsNow l D dA a σ n nc cp cq ed cap mc f rg hn h0) wl_X0_93 wd_X0_X0_secretsNow rfl ⟨Nat.le_of_ble_eq_true rfl, Nat.le_of_ble_eq_true rfl⟩ (k_recv hK hP) hl.1 (Nat.le_of_ble_eq_true rfl) dX0_call_27 ⟨Nat.le_of_ble_eq_true rfl, Nat.le_of_ble_eq_true rfl⟩ ⟨hP, hDY⟩ (fun v9 hv9 => ?_) rfl
        subst hv9
        refine W.eq (g2 := F0 m 30 ls [.int (nI (stAt n cp cq nc))]) rfl ?_
        refine lv_istore_n (lv' := [(3, .int (nI (stAt n cp cq nc))), (0, .ref (a 0)), (1, .int (nI pa)), (2, .int (nI qa))]) hx hb dX0_call_30 rfl hl (by decide) rfl (fun ls hl => ?_)
        refine lv_aload_n hx hb dX0_call_31 rfl (lv_at hl 1 rfl) ?_
        refine lv_iload_n hx hb dX0_call_32 rfl (lv_at hl 0 rfl) ?_
        refine lv_iload_n hx hb dX0_call_33 rfl (lv_at hl 2 rfl) ?_
        refine rc_Vi (rest := []) [.int (nI (stAt n cp cq nc)), .int (nI pa)] 2 S hK (r0_numbersOf l D dA a σ n net hG (stAt n cp cq nc) pa (hv) (by first | assumption | omega | decide)) wl_X0_96 wd_X0_X0_numbersOf rfl ⟨Nat.le_of_ble_eq_true rfl, Nat.le_of_ble_eq_true rfl⟩ (k_recv hK hP) hl.1 (Nat.le_of_ble_eq_true rfl) dX0_call_34 ⟨Nat.le_of_ble_eq_true rfl, Nat.le_of_ble_eq_true rfl⟩ (hP) ?_ rfl
        refine lv_iload_n hx hb dX0_call_37 rfl (lv_at hl 3 rfl) ?_
        refine rc_Si (rest := []) [.int (nI (numA net (stAt n cp cq nc) pa 4)), .int (nI qa)] 2 S hK (r0_isIn l D dA (numA net (stAt n cp cq nc) pa 4) qa (by first | assumption | omega | decide) (by first | assumption | omega | decide)) wl_X0_57 wd_X0_X0_isIn rfl ⟨Nat.le_of_ble_eq_true rfl, Nat.le_of_ble_eq_true rfl⟩ hl.1 (Nat.le_of_ble_eq_true rfl) dX0_call_38 ⟨Nat.le_of_ble_eq_true rfl, Nat.le_of_ble_eq_true rfl⟩ (trivial) ?_ rfl
        refine lv_if_ne (tgt := 47) hx hb dX0_call_41 (by decide) (fun c_41 => ?_) (fun c_41 => ?_)
        · have c_41 := b2i_ne0.mp c_41
          refine lv_aload_n hx hb dX0_call_47 rfl (lv_at hl 1 rfl) ?_
          refine k_get (v := .ref (a 3)) S hK hP 3 (by decide) fl_X0_18 rfl dX0_call_48 rfl ?_
          refine rc_Fr (X := .int (nI nc)) (rest := []) [] 0 S hK (hK.1 2 (RJ2, TJ2, 3) rfl).2 (hK2.2.fw (C := RJ2) (x := ⟨"java/util/List", "size", "()I"⟩) (y := yJ2_size) (by simp [fxI]) q220 q218 q203) (rj_size l D dA (a 3) ed cap mc nc f hDY.2.2.1) (lw_F q214 q217 q219 q63 q221) (by decide +kernel) rfl ⟨Nat.le_of_ble_eq_true rfl, Nat.le_of_ble_eq_true rfl⟩ (va_recv hK hDY.1 (ci := 2) (q0 := 0) rfl rfl) hl.1 (Nat.le_of_ble_eq_true rfl) dX0_call_51 ⟨Nat.le_of_ble_eq_true rfl, Nat.le_of_ble_eq_true rfl⟩ hDY.1 ?_ rfl
          refine lv_istore (lv' := [(4, .int (nI nc)), (3, .int (nI (stAt n cp cq nc))), (0, .ref (a 0)), (1, .int (nI pa)), (2, .int (nI qa))]) hx hb dX0_call_56 hl (by decide) rfl (fun ls hl => ?_)
          refine lv_iload hx hb dX0_call_58 (lv_at hl 0 rfl) ?_
          refine lv_bipush (v := 12) hx hb dX0_call_60 (by decide) ?_
          refine lv_icmp_ne (tgt := 68) hx hb dX0_call_62 (by decide) (fun c_62 => ?_) (fun c_62 => ?_)
          · have c_62 : ¬ nc = 12 := fun h => c_62 (by rw [h]; rfl)
            refine lv_iload_n hx hb dX0_call_68 rfl (lv_at hl 1 rfl) ?_
            refine lv_iload_n hx hb dX0_call_69 rfl (lv_at hl 3 rfl) ?_
            refine rc_Si (rest := []) [.int (nI (stAt n cp cq nc)), .int (nI pa)] 2 S hK (r0_hasOf l D dA (stAt n cp cq nc) pa (by first | assumption | omega | decide) (by first | assumption | omega | decide)) wl_X0_53 wd_X0_X0_hasOf rfl ⟨Nat.le_of_ble_eq_true rfl, Nat.le_of_ble_eq_true rfl⟩ hl.1 (Nat.le_of_ble_eq_true rfl) dX0_call_70 ⟨Nat.le_of_ble_eq_true rfl, Nat.le_of_ble_eq_true rfl⟩ (trivial) ?_ rfl
            refine lv_iload_n hx hb dX0_call_73 rfl (lv_at hl 1 rfl) ?_
            refine lv_iload_n hx hb dX0_call_74 rfl (lv_at hl 4 rfl) ?_
            refine rc_Si (rest := [.int (nI (hs4 (stAt n cp cq nc) pa))]) [.int (nI (stAt n cp cq nc)), .int (nI qa)] 2 S hK (r0_hasOf l D dA (stAt n cp cq nc) qa (by first | assumption | omega | decide) (by first | assumption | omega | decide)) wl_X0_53 wd_X0_X0_hasOf rfl ⟨Nat.le_of_ble_eq_true rfl, Nat.le_of_ble_eq_true rfl⟩ hl.1 (Nat.le_of_ble_eq_true rfl) dX0_call_75 ⟨Nat.le_of_ble_eq_true rfl, Nat.le_of_ble_eq_true rfl⟩ (trivial) ?_ rfl
            refine lv_ior hx hb dX0_call_78 ?_
            refine topi (z := nI ((hs4 (stAt n cp cq nc) pa) ||| (hs4 (stAt n cp cq nc) qa))) (nI_or _ _) ?_
            refine lv_istore (lv' := [(5, .int (nI ((hs4 (stAt n cp cq nc) pa) ||| (hs4 (stAt n cp cq nc) qa)))), (4, .int (nI nc)), (3, .int (nI (stAt n cp cq nc))), (0, .ref (a 0)), (1, .int (nI pa)), (2, .int (nI qa))]) hx hb dX0_call_79 hl (by decide) rfl (fun ls hl => ?_)
            refine lv_iload_n hx hb dX0_call_81 rfl (lv_at hl 2 rfl) ?_
            refine lv_iload_n hx hb dX0_call_82 rfl (lv_at hl 4 rfl) ?_
            refine rc_Si (rest := []) [.int (nI (stAt n cp cq nc)), .int (nI pa)] 2 S hK (r0_hasOf l D dA (stAt n cp cq nc) pa (by first | assumption | omega | decide) (by first | assumption | omega | decide)) wl_X0_53 wd_X0_X0_hasOf rfl ⟨Nat.le_of_ble_eq_true rfl, Nat.le_of_ble_eq_true rfl⟩ hl.1 (Nat.le_of_ble_eq_true rfl) dX0_call_83 ⟨Nat.le_of_ble_eq_true rfl, Nat.le_of_ble_eq_true rfl⟩ (trivial) ?_ rfl
            refine lv_iload_n hx hb dX0_call_86 rfl (lv_at hl 2 rfl) ?_
            refine lv_iload_n hx hb dX0_call_87 rfl (lv_at hl 5 rfl) ?_
            refine rc_Si (rest := [.int (nI (hs4 (stAt n cp cq nc) pa))]) [.int (nI (stAt n cp cq nc)), .int (nI qa)] 2 S hK (r0_hasOf l D dA (stAt n cp cq nc) qa (by first | assumption | omega | decide) (by first | assumption | omega | decide)) wl_X0_53 wd_X0_X0_hasOf rfl ⟨Nat.le_of_ble_eq_true rfl, Nat.le_of_ble_eq_true rfl⟩ hl.1 (Nat.le_of_ble_eq_true rfl) dX0_call_88 ⟨Nat.le_of_ble_eq_true rfl, Nat.le_of_ble_eq_true rfl⟩ (trivial) ?_ rfl
            refine lv_icmp_eq (tgt := 98) hx hb dX0_call_91 (by decide) (fun c_91 => ?_) (fun c_91 => ?_)
            · have c_91 : (hs4 (stAt n cp cq nc) pa) = (hs4 (stAt n cp cq nc) qa) := nI_inj (Nat.lt_trans (hs4_lt _ _) (by decide)) (Nat.lt_trans (hs4_lt _ _) (by decide)) c_91
              refine lv_iconst (v := 0) hx hb dX0_call_98 (by decide) ?_
              refine lv_istore (lv' := [(6, .int 0), (5, .int (nI ((hs4 (stAt n cp cq nc) pa) ||| (hs4 (stAt n cp cq nc) qa)))), (4, .int (nI nc)), (3, .int (nI (stAt n cp cq nc))), (0, .ref (a 0)), (1, .int (nI pa)), (2, .int (nI qa))]) hx hb dX0_call_99 hl (by decide) rfl (fun ls hl => ?_)
              refine lv_aload_n hx hb dX0_call_101 rfl (lv_at hl 4 rfl) ?_
              refine rc2_V (rest := []) [] 0 S hK2 (r0_tokensNow l D dA a σ n nc cp cq ed cap mc f rg hn h0) wl_X0_99 wd_X0_X0_tokensNow rfl ⟨Nat.le_of_ble_eq_true rfl, Nat.le_of_ble_eq_true rfl⟩ (k_recv hK hP) hl.1 (Nat.le_of_ble_eq_true rfl) dX0_call_102 ⟨Nat.le_of_ble_eq_true rfl, Nat.le_of_ble_eq_true rfl⟩ ⟨hP, hDY⟩ (fun v9 hv9 => ?_) rfl
              subst hv9
              refine W.eq (g2 := F0 m 105 ls [.int (nI (tk8 cp cq nc))]) rfl ?_
              refine lv_iload_n hx hb dX0_call_105 rfl (lv_at hl 5 rfl) ?_
              refine lv_iload_n hx hb dX0_call_106 rfl (lv_at hl 6 rfl) ?_
              refine rc_Si (rest := []) [.int (nI (tk8 cp cq nc)), .int (nI pa), .int (nI qa)] 3 S hK (r0_tokensBehind l D dA (tk8 cp cq nc) pa qa (by first | assumption | omega | decide) (by first | assumption | omega | decide) (by first | assumption | omega | decide)) wl_X0_102 wd_X0_X0_tokensBehind rfl ⟨Nat.le_of_ble_eq_true rfl, Nat.le_of_ble_eq_true rfl⟩ hl.1 (Nat.le_of_ble_eq_true rfl) dX0_call_107 ⟨Nat.le_of_ble_eq_true rfl, Nat.le_of_ble_eq_true rfl⟩ (trivial) ?_ rfl
              refine lv_istore (lv' := [(7, .int (nI (tb8 (tk8 cp cq nc) pa qa))), (6, .int 0), (5, .int (nI ((hs4 (stAt n cp cq nc) pa) ||| (hs4 (stAt n cp cq nc) qa)))), (4, .int (nI nc)), (3, .int (nI (stAt n cp cq nc))), (0, .ref (a 0)), (1, .int (nI pa)), (2, .int (nI qa))]) hx hb dX0_call_110 hl (by decide) rfl (fun ls hl => ?_)
              refine lv_aload_n hx hb dX0_call_112 rfl (lv_at hl 5 rfl) ?_
              refine k_get (v := .ref (a 3)) S hK hP 3 (by decide) fl_X0_18 rfl dX0_call_113 rfl ?_
              refine lv_iload hx hb dX0_call_116 (lv_at hl 1 rfl) ?_
              refine lv_if_ne (tgt := 139) hx hb dX0_call_118 (by decide) (fun c_118 => absurd (by decide) c_118) (fun c_118 => ?_)
              refine g_new (C := RX5) (T := TX5) (N := 8) (ci := 3) (fs := [.int 0, .int 0, .int 0, .int 0, .int 0, .int 0, .int 0, .null]) S in_X5 tyX5 tyX5_ok q241 q259 q82 hK hS (fun q h => Or.inr (Or.inr (Nat.le_trans hsz h))) rfl (by decide) (Nat.le_of_ble_eq_true rfl) (Nat.le_of_ble_eq_true rfl) dX0_call_121 (fun g9 H hg9 hPg hz1 ho1 hS => ?_)
              have hgs : sz ≤ g9 := by rw [hg9]; exact hsz
              refine lv_dup hx hb dX0_call_124 rfl ?_
              refine lv_aload_n hx hb dX0_call_125 rfl (lv_at hl 5 rfl) ?_
              refine lv_iload hx hb dX0_call_126 (lv_at hl 3 rfl) ?_
              refine lv_iload_n hx hb dX0_call_128 rfl (lv_at hl 6 rfl) ?_
              refine lv_iload_n hx hb dX0_call_129 rfl (lv_at hl 7 rfl) ?_
              refine lv_iload_n hx hb dX0_call_130 rfl (lv_at hl 4 rfl) ?_
              refine lv_iload hx hb dX0_call_131 (lv_at hl 0 rfl) ?_
              refine gc_I (rest := [.ref g9, .ref (a 3)]) [.ref (a 0), .int (nI nc), .int (nI pa), .int (nI qa), .int (nI (stAt n cp cq nc)), .int (nI (tb8 (tk8 cp cq nc) pa qa))] 6 S Wm_K2 hK2 hS (fun q h => Or.inr (Or.inr (by rw [show q = g9 from h]; exact hgs))) (g5_init l D dA g9 (a 0) 0 (by decide) .null nc pa qa (stAt n cp cq nc) (tb8 (tk8 cp cq nc) pa qa) hpa4 hqa4 hs) q262 q82 q260 q261 rfl (by decide +kernel : yX5_init.cls ≠ "java/lang/invoke/MethodHandle" ∧ yX5_init.cls ≠ "java/lang/invoke/VarHandle" ∧ (parseMethodDescriptor yX5_init.desc).map (fun d => d.parameters.length) = some 6) rfl ⟨Nat.le_of_ble_eq_true rfl, Nat.le_of_ble_eq_true rfl⟩ hl.1 (Nat.le_of_ble_eq_true rfl) dX0_call_133 ⟨Nat.le_of_ble_eq_true rfl, Nat.le_of_ble_eq_true rfl⟩ (hPg) (fun v9 H locs hp9 hz9 ho9 hS => ?_) rfl
              obtain ⟨rfl, hPg⟩ := hp9
              refine W.eq (g2 := F0 m 136 ls [.ref g9, .ref (a 3)]) rfl ?_
              have hkn : 0 = knd n (va_up cp nc pa) (va_up cq nc qa) nc := by rw [knd_new]; simp [*]
              rw [rgN_new hkn] at hPg
              have hPg : va_P D vwCl [(g9, .inr (3 + knd n (va_up cp nc pa) (va_up cq nc qa) nc, rgF (a 0) n (va_up cp nc pa) (va_up cq nc qa) nc))] H := by rw [show 3 + knd n (va_up cp nc pa) (va_up cq nc qa) nc = 3 by omega]; exact hPg
              have hg1 : g9 < H.size := one_lt hPg
              have ho2 : ∀ q, q < s.heap.size → ¬ (fun q => q = g9) q → H[q]? = s.heap[q]? := fun q h h9 => (ho9 q (by omega) h9).trans (ho1 q h)
              have hlt : ∀ q, q < sz → ¬ (fun q => q = g9) q := fun q h h9 => by have h9 : q = g9 := h9; omega
              have hP := kW_fr hI hP ho2 (fun q h => hlt q (hCA.2.2.2.2.1 q h).1)
              have hDY := hDY.fr ho2 (hlt _ hCA.1) (fun _ => hlt _ hCA.2.1) (fun j h => hlt _ (hCA.2.2.2.1 j h).1)
              have hZE : cap = 0 → ZH zs zf ed H ∧ EH dA ed H := fun h => ⟨(hZE h).1.fr ho2 (hlt _ hCA.2.2.2.2.2.1), (hZE h).2.fr ho2 (hlt _ hCA.2.1)⟩
              refine lv_goto (tgt := 181) hx hb dX0_call_136 (by decide) ?_
              have hszz : sz ≤ H.size := Nat.le_trans hsz hS.1
              obtain ⟨sz2, hsz2⟩ : ∃ x, x = H.size := ⟨_, rfl⟩
              refine gc_F (rest := []) [.ref g9] 1 S (hK.1 2 (RJ2, TJ2, 3) rfl).2 (hK2.2.fw (C := RJ2) (x := ⟨"java/util/List", "add", "(Ljava/lang/Object;)Z"⟩) (y := yJ2_add) (by simp [fxI]) q350 q348 q203) Wm_K4 hK4 hS (fun q h => h.imp id (fun h => h.imp id (fun h => Nat.le_trans (by omega) h))) (gj_add l D dA mi zs zf (a 3) ed cap nc sz2 g9 mc f (by have := hCA.1; omega) (by have := hCA.2.1; omega) hCA.2.2.1 hcap hDY.2.1 (by omega) ⟨by have := hCA.2.2.2.2.2.1; omega, hCA.2.2.2.2.2.2⟩ ⟨by omega, by have := hCA.1; omega, by have := hCA.2.1; omega⟩ (fun i h y hy => by rw [hDY.one i h y hy]; have := hCA.2.2.2.1 i h; exact ⟨by omega, this.2⟩)) (lw_F q344 q347 q349 q63 q351) (by decide +kernel) rfl ⟨Nat.le_of_ble_eq_true rfl, Nat.le_of_ble_eq_true rfl⟩ (va_recv hK hDY.1 (ci := 2) (q0 := 0) rfl rfl) hl.1 (Nat.le_of_ble_eq_true rfl) dX0_call_181 ⟨Nat.le_of_ble_eq_true rfl, Nat.le_of_ble_eq_true rfl⟩ (⟨hDY.1, by omega, ⟨_, _, knd_lt n (va_up cp nc pa) (va_up cq nc qa) nc, hPg⟩, hZE, fun i h y hy => hDY.any i h y hy⟩) (fun v9 H locs hp9 hz9 ho9 hS => ?_) rfl
              obtain ⟨rfl, hp9⟩ := hp9
              refine W.eq (g2 := F0 m 186 ls [.int 1]) rfl ?_
              have hP := kW_fr hI hP ho9 (fun q h h9 => by have := hCA.2.2.2.2.1 q h; rcases h9 with h9 | h9 | h9; exact this.2.1 h9; exact this.2.2 h9; omega)
              have hEnd := call_end hCA (by omega) ⟨hgs, by omega⟩ hDY hPg ho9 hp9
              refine lv_pop hx hb dX0_call_186 rfl ?_
              refine lv_iload hx hb dX0_call_187 (lv_at hl 3 rfl) ?_
              have e9 : spCall n net nc (stAt n cp cq nc) (nI pa) (nI qa) = nI nc := by simp [spCall, *]
              exact g_iret S hr hlk hS dX0_call_189 ⟨Nat.le_of_ble_eq_true rfl, Nat.le_of_ble_eq_true rfl⟩ (⟨by rw [e9], hP, by rw [e9, hpx, hqx]; unfold CPost; rw [if_neg (nI_pos (by omega))]; exact ⟨g9, hgs, hEnd⟩⟩)
            · have c_91 : ¬ (hs4 (stAt n cp cq nc) pa) = (hs4 (stAt n cp cq nc) qa) := fun h => c_91 (by rw [h])
              refine lv_iconst (v := 1) hx hb dX0_call_94 (by decide) ?_
              refine lv_goto (tgt := 99) hx hb dX0_call_95 (by decide) ?_
              refine lv_istore (lv' := [(6, .int 1), (5, .int (nI ((hs4 (stAt n cp cq nc) pa) ||| (hs4 (stAt n cp cq nc) qa)))), (4, .int (nI nc)), (3, .int (nI (stAt n cp cq nc))), (0, .ref (a 0)), (1, .int (nI pa)), (2, .int (nI qa))]) hx hb dX0_call_99 hl (by decide) rfl (fun ls hl => ?_)
              refine lv_aload_n hx hb dX0_call_101 rfl (lv_at hl 4 rfl) ?_
              refine rc2_V (rest := []) [] 0 S hK2 (r0_tokensNow l D dA a σ n nc cp cq ed cap mc f rg hn h0) wl_X0_99 wd_X0_X0_tokensNow rfl ⟨Nat.le_of_ble_eq_true rfl, Nat.le_of_ble_eq_true rfl⟩ (k_recv hK hP) hl.1 (Nat.le_of_ble_eq_true rfl) dX0_call_102 ⟨Nat.le_of_ble_eq_true rfl, Nat.le_of_ble_eq_true rfl⟩ ⟨hP, hDY⟩ (fun v9 hv9 => ?_) rfl
              subst hv9
              refine W.eq (g2 := F0 m 105 ls [.int (nI (tk8 cp cq nc))]) rfl ?_
              refine lv_iload_n hx hb dX0_call_105 rfl (lv_at hl 5 rfl) ?_
              refine lv_iload_n hx hb dX0_call_106 rfl (lv_at hl 6 rfl) ?_
              refine rc_Si (rest := []) [.int (nI (tk8 cp cq nc)), .int (nI pa), .int (nI qa)] 3 S hK (r0_tokensBehind l D dA (tk8 cp cq nc) pa qa (by first | assumption | omega | decide) (by first | assumption | omega | decide) (by first | assumption | omega | decide)) wl_X0_102 wd_X0_X0_tokensBehind rfl ⟨Nat.le_of_ble_eq_true rfl, Nat.le_of_ble_eq_true rfl⟩ hl.1 (Nat.le_of_ble_eq_true rfl) dX0_call_107 ⟨Nat.le_of_ble_eq_true rfl, Nat.le_of_ble_eq_true rfl⟩ (trivial) ?_ rfl
              refine lv_istore (lv' := [(7, .int (nI (tb8 (tk8 cp cq nc) pa qa))), (6, .int 1), (5, .int (nI ((hs4 (stAt n cp cq nc) pa) ||| (hs4 (stAt n cp cq nc) qa)))), (4, .int (nI nc)), (3, .int (nI (stAt n cp cq nc))), (0, .ref (a 0)), (1, .int (nI pa)), (2, .int (nI qa))]) hx hb dX0_call_110 hl (by decide) rfl (fun ls hl => ?_)
              refine lv_aload_n hx hb dX0_call_112 rfl (lv_at hl 5 rfl) ?_
              refine k_get (v := .ref (a 3)) S hK hP 3 (by decide) fl_X0_18 rfl dX0_call_113 rfl ?_
              refine lv_iload hx hb dX0_call_116 (lv_at hl 1 rfl) ?_
              refine lv_if_ne (tgt := 139) hx hb dX0_call_118 (by decide) (fun c_118 => ?_) (fun c_118 => absurd (c_118) (by decide))
              refine lv_iload hx hb dX0_call_139 (lv_at hl 2 rfl) ?_
              refine lv_aload_n hx hb dX0_call_141 rfl (lv_at hl 5 rfl) ?_
              refine rc_Vi (rest := [.int (nI ((hs4 (stAt n cp cq nc) pa) ||| (hs4 (stAt n cp cq nc) qa))), .ref (a 3)]) [] 0 S hK (r0_all l D dA a σ n hn (h0)) wl_X0_61 wd_X0_X0_all rfl ⟨Nat.le_of_ble_eq_true rfl, Nat.le_of_ble_eq_true rfl⟩ (k_recv hK hP) hl.1 (Nat.le_of_ble_eq_true rfl) dX0_call_142 ⟨Nat.le_of_ble_eq_true rfl, Nat.le_of_ble_eq_true rfl⟩ (hP) ?_ rfl
              refine lv_icmp_ne (tgt := 166) hx hb dX0_call_145 (by decide) (fun c_145 => ?_) (fun c_145 => ?_)
              · have c_145 : ¬ (hs4 (stAt n cp cq nc) pa) ||| (hs4 (stAt n cp cq nc) qa) = al n := fun h => c_145 (by rw [h])
                refine g_new (C := RX6) (T := TX6) (N := 9) (ci := 4) (fs := [.int 0, .int 0, .int 0, .int 0, .int 0, .int 0, .int 0, .null, .null]) S in_X6 tyX6 tyX6_ok q330 q331 q83 hK hS (fun q h => Or.inr (Or.inr (Nat.le_trans hsz h))) rfl (by decide) (Nat.le_of_ble_eq_true rfl) (Nat.le_of_ble_eq_true rfl) dX0_call_166 (fun g9 H hg9 hPg hz1 ho1 hS => ?_)
                have hgs : sz ≤ g9 := by rw [hg9]; exact hsz
                refine lv_dup hx hb dX0_call_169 rfl ?_
                refine lv_aload_n hx hb dX0_call_170 rfl (lv_at hl 5 rfl) ?_
                refine lv_iload hx hb dX0_call_171 (lv_at hl 3 rfl) ?_
                refine lv_iload_n hx hb dX0_call_173 rfl (lv_at hl 6 rfl) ?_
                refine lv_iload_n hx hb dX0_call_174 rfl (lv_at hl 7 rfl) ?_
                refine lv_iload_n hx hb dX0_call_175 rfl (lv_at hl 4 rfl) ?_
                refine lv_iload hx hb dX0_call_176 (lv_at hl 0 rfl) ?_
                refine gc_I (rest := [.ref g9, .ref (a 3)]) [.ref (a 0), .int (nI nc), .int (nI pa), .int (nI qa), .int (nI (stAt n cp cq nc)), .int (nI (tb8 (tk8 cp cq nc) pa qa))] 6 S Wm_K2 hK2 hS (fun q h => Or.inr (Or.inr (by rw [show q = g9 from h]; exact hgs))) (g6_init l D dA g9 (a 0) .null .null nc pa qa (stAt n cp cq nc) (tb8 (tk8 cp cq nc) pa qa) hpa4 hqa4 hs) q313 q83 q332 q312 rfl (by decide +kernel : yX6_init.cls ≠ "java/lang/invoke/MethodHandle" ∧ yX6_init.cls ≠ "java/lang/invoke/VarHandle" ∧ (parseMethodDescriptor yX6_init.desc).map (fun d => d.parameters.length) = some 6) rfl ⟨Nat.le_of_ble_eq_true rfl, Nat.le_of_ble_eq_true rfl⟩ hl.1 (Nat.le_of_ble_eq_true rfl) dX0_call_178 ⟨Nat.le_of_ble_eq_true rfl, Nat.le_of_ble_eq_true rfl⟩ (hPg) (fun v9 H locs hp9 hz9 ho9 hS => ?_) rfl
                obtain ⟨rfl, hPg⟩ := hp9
                refine W.eq (g2 := F0 m 181 ls [.ref g9, .ref (a 3)]) rfl ?_
                have hkn : 1 = knd n (va_up cp nc pa) (va_up cq nc qa) nc := by rw [knd_new]; simp [*]
                rw [rgN_new hkn] at hPg
                have hPg : va_P D vwCl [(g9, .inr (3 + knd n (va_up cp nc pa) (va_up cq nc qa) nc, rgF (a 0) n (va_up cp nc pa) (va_up cq nc qa) nc))] H := by rw [show 3 + knd n (va_up cp nc pa) (va_up cq nc qa) nc = 4 by omega]; exact hPg
                have hg1 : g9 < H.size := one_lt hPg
                have ho2 : ∀ q, q < s.heap.size → ¬ (fun q => q = g9) q → H[q]? = s.heap[q]? := fun q h h9 => (ho9 q (by omega) h9).trans (ho1 q h)
                have hlt : ∀ q, q < sz → ¬ (fun q => q = g9) q := fun q h h9 => by have h9 : q = g9 := h9; omega
                have hP := kW_fr hI hP ho2 (fun q h => hlt q (hCA.2.2.2.2.1 q h).1)
                have hDY := hDY.fr ho2 (hlt _ hCA.1) (fun _ => hlt _ hCA.2.1) (fun j h => hlt _ (hCA.2.2.2.1 j h).1)
                have hZE : cap = 0 → ZH zs zf ed H ∧ EH dA ed H := fun h => ⟨(hZE h).1.fr ho2 (hlt _ hCA.2.2.2.2.2.1), (hZE h).2.fr ho2 (hlt _ hCA.2.1)⟩
                have hszz : sz ≤ H.size := Nat.le_trans hsz hS.1
                obtain ⟨sz2, hsz2⟩ : ∃ x, x = H.size := ⟨_, rfl⟩
                refine gc_F (rest := []) [.ref g9] 1 S (hK.1 2 (RJ2, TJ2, 3) rfl).2 (hK2.2.fw (C := RJ2) (x := ⟨"java/util/List", "add", "(Ljava/lang/Object;)Z"⟩) (y := yJ2_add) (by simp [fxI]) q350 q348 q203) Wm_K4 hK4 hS (fun q h => h.imp id (fun h => h.imp id (fun h => Nat.le_trans (by omega) h))) (gj_add l D dA mi zs zf (a 3) ed cap nc sz2 g9 mc f (by have := hCA.1; omega) (by have := hCA.2.1; omega) hCA.2.2.1 hcap hDY.2.1 (by omega) ⟨by have := hCA.2.2.2.2.2.1; omega, hCA.2.2.2.2.2.2⟩ ⟨by omega, by have := hCA.1; omega, by have := hCA.2.1; omega⟩ (fun i h y hy => by rw [hDY.one i h y hy]; have := hCA.2.2.2.1 i h; exact ⟨by omega, this.2⟩)) (lw_F q344 q347 q349 q63 q351) (by decide +kernel) rfl ⟨Nat.le_of_ble_eq_true rfl, Nat.le_of_ble_eq_true rfl⟩ (va_recv hK hDY.1 (ci := 2) (q0 := 0) rfl rfl) hl.1 (Nat.le_of_ble_eq_true rfl) dX0_call_181 ⟨Nat.le_of_ble_eq_true rfl, Nat.le_of_ble_eq_true rfl⟩ (⟨hDY.1, by omega, ⟨_, _, knd_lt n (va_up cp nc pa) (va_up cq nc qa) nc, hPg⟩, hZE, fun i h y hy => hDY.any i h y hy⟩) (fun v9 H locs hp9 hz9 ho9 hS => ?_) rfl
                obtain ⟨rfl, hp9⟩ := hp9
                refine W.eq (g2 := F0 m 186 ls [.int 1]) rfl ?_
                have hP := kW_fr hI hP ho9 (fun q h h9 => by have := hCA.2.2.2.2.1 q h; rcases h9 with h9 | h9 | h9; exact this.2.1 h9; exact this.2.2 h9; omega)
                have hEnd := call_end hCA (by omega) ⟨hgs, by omega⟩ hDY hPg ho9 hp9
                refine lv_pop hx hb dX0_call_186 rfl ?_
                refine lv_iload hx hb dX0_call_187 (lv_at hl 3 rfl) ?_
                have e9 : spCall n net nc (stAt n cp cq nc) (nI pa) (nI qa) = nI nc := by simp [spCall, *]
                exact g_iret S hr hlk hS dX0_call_189 ⟨Nat.le_of_ble_eq_true rfl, Nat.le_of_ble_eq_true rfl⟩ (⟨by rw [e9], hP, by rw [e9, hpx, hqx]; unfold CPost; rw [if_neg (nI_pos (by omega))]; exact ⟨g9, hgs, hEnd⟩⟩)
              · have c_145 : (hs4 (stAt n cp cq nc) pa) ||| (hs4 (stAt n cp cq nc) qa) = al n := nI_inj (Nat.lt_trans (Nat.or_lt_two_pow (n := 4) (hs4_lt _ _) (hs4_lt _ _)) (by decide)) (Nat.lt_trans (al_lt n hn) (by decide)) c_145
                refine g_new (C := RX7) (T := TX7) (N := 10) (ci := 5) (fs := [.int 0, .int 0, .int 0, .int 0, .int 0, .int 0, .int 0, .null, .null, .null]) S in_X7 tyX7 tyX7_ok q306 q307 q84 hK hS (fun q h => Or.inr (Or.inr (Nat.le_trans hsz h))) rfl (by decide) (Nat.le_of_ble_eq_true rfl) (Nat.le_of_ble_eq_true rfl) dX0_call_148 (fun g9 H hg9 hPg hz1 ho1 hS => ?_)
                have hgs : sz ≤ g9 := by rw [hg9]; exact hsz
                refine lv_dup hx hb dX0_call_151 rfl ?_
                refine lv_aload_n hx hb dX0_call_152 rfl (lv_at hl 5 rfl) ?_
                refine lv_iload hx hb dX0_call_153 (lv_at hl 3 rfl) ?_
                refine lv_iload_n hx hb dX0_call_155 rfl (lv_at hl 6 rfl) ?_
                refine lv_iload_n hx hb dX0_call_156 rfl (lv_at hl 7 rfl) ?_
                refine lv_iload_n hx hb dX0_call_157 rfl (lv_at hl 4 rfl) ?_
                refine lv_iload hx hb dX0_call_158 (lv_at hl 0 rfl) ?_
                refine gc_I (rest := [.ref g9, .ref (a 3)]) [.ref (a 0), .int (nI nc), .int (nI pa), .int (nI qa), .int (nI (stAt n cp cq nc)), .int (nI (tb8 (tk8 cp cq nc) pa qa))] 6 S Wm_K2 hK2 hS (fun q h => Or.inr (Or.inr (by rw [show q = g9 from h]; exact hgs))) (g7_init l D dA g9 (a 0) .null .null .null nc pa qa (stAt n cp cq nc) (tb8 (tk8 cp cq nc) pa qa) hpa4 hqa4 hs) q310 q84 q308 q309 rfl (by decide +kernel : yX7_init.cls ≠ "java/lang/invoke/MethodHandle" ∧ yX7_init.cls ≠ "java/lang/invoke/VarHandle" ∧ (parseMethodDescriptor yX7_init.desc).map (fun d => d.parameters.length) = some 6) rfl ⟨Nat.le_of_ble_eq_true rfl, Nat.le_of_ble_eq_true rfl⟩ hl.1 (Nat.le_of_ble_eq_true rfl) dX0_call_160 ⟨Nat.le_of_ble_eq_true rfl, Nat.le_of_ble_eq_true rfl⟩ (hPg) (fun v9 H locs hp9 hz9 ho9 hS => ?_) rfl
                obtain ⟨rfl, hPg⟩ := hp9
                refine W.eq (g2 := F0 m 163 ls [.ref g9, .ref (a 3)]) rfl ?_
                have hkn : 2 = knd n (va_up cp nc pa) (va_up cq nc qa) nc := by rw [knd_new]; simp [*]
                rw [rgN_new hkn] at hPg
                have hPg : va_P D vwCl [(g9, .inr (3 + knd n (va_up cp nc pa) (va_up cq nc qa) nc, rgF (a 0) n (va_up cp nc pa) (va_up cq nc qa) nc))] H := by rw [show 3 + knd n (va_up cp nc pa) (va_up cq nc qa) nc = 5 by omega]; exact hPg
                have hg1 : g9 < H.size := one_lt hPg
                have ho2 : ∀ q, q < s.heap.size → ¬ (fun q => q = g9) q → H[q]? = s.heap[q]? := fun q h h9 => (ho9 q (by omega) h9).trans (ho1 q h)
                have hlt : ∀ q, q < sz → ¬ (fun q => q = g9) q := fun q h h9 => by have h9 : q = g9 := h9; omega
                have hP := kW_fr hI hP ho2 (fun q h => hlt q (hCA.2.2.2.2.1 q h).1)
                have hDY := hDY.fr ho2 (hlt _ hCA.1) (fun _ => hlt _ hCA.2.1) (fun j h => hlt _ (hCA.2.2.2.1 j h).1)
                have hZE : cap = 0 → ZH zs zf ed H ∧ EH dA ed H := fun h => ⟨(hZE h).1.fr ho2 (hlt _ hCA.2.2.2.2.2.1), (hZE h).2.fr ho2 (hlt _ hCA.2.1)⟩
                refine lv_goto (tgt := 181) hx hb dX0_call_163 (by decide) ?_
                have hszz : sz ≤ H.size := Nat.le_trans hsz hS.1
                obtain ⟨sz2, hsz2⟩ : ∃ x, x = H.size := ⟨_, rfl⟩
                refine gc_F (rest := []) [.ref g9] 1 S (hK.1 2 (RJ2, TJ2, 3) rfl).2 (hK2.2.fw (C := RJ2) (x := ⟨"java/util/List", "add", "(Ljava/lang/Object;)Z"⟩) (y := yJ2_add) (by simp [fxI]) q350 q348 q203) Wm_K4 hK4 hS (fun q h => h.imp id (fun h => h.imp id (fun h => Nat.le_trans (by omega) h))) (gj_add l D dA mi zs zf (a 3) ed cap nc sz2 g9 mc f (by have := hCA.1; omega) (by have := hCA.2.1; omega) hCA.2.2.1 hcap hDY.2.1 (by omega) ⟨by have := hCA.2.2.2.2.2.1; omega, hCA.2.2.2.2.2.2⟩ ⟨by omega, by have := hCA.1; omega, by have := hCA.2.1; omega⟩ (fun i h y hy => by rw [hDY.one i h y hy]; have := hCA.2.2.2.1 i h; exact ⟨by omega, this.2⟩)) (lw_F q344 q347 q349 q63 q351) (by decide +kernel) rfl ⟨Nat.le_of_ble_eq_true rfl, Nat.le_of_ble_eq_true rfl⟩ (va_recv hK hDY.1 (ci := 2) (q0 := 0) rfl rfl) hl.1 (Nat.le_of_ble_eq_true rfl) dX0_call_181 ⟨Nat.le_of_ble_eq_true rfl, Nat.le_of_ble_eq_true rfl⟩ (⟨hDY.1, by omega, ⟨_, _, knd_lt n (va_up cp nc pa) (va_up cq nc qa) nc, hPg⟩, hZE, fun i h y hy => hDY.any i h y hy⟩) (fun v9 H locs hp9 hz9 ho9 hS => ?_) rfl
                obtain ⟨rfl, hp9⟩ := hp9
                refine W.eq (g2 := F0 m 186 ls [.int 1]) rfl ?_
                have hP := kW_fr hI hP ho9 (fun q h h9 => by have := hCA.2.2.2.2.1 q h; rcases h9 with h9 | h9 | h9; exact this.2.1 h9; exact this.2.2 h9; omega)
                have hEnd := call_end hCA (by omega) ⟨hgs, by omega⟩ hDY hPg ho9 hp9
                refine lv_pop hx hb dX0_call_186 rfl ?_
                refine lv_iload hx hb dX0_call_187 (lv_at hl 3 rfl) ?_
                have e9 : spCall n net nc (stAt n cp cq nc) (nI pa) (nI qa) = nI nc := by simp [spCall, *]
                exact g_iret S hr hlk hS dX0_call_189 ⟨Nat.le_of_ble_eq_true rfl, Nat.le_of_ble_eq_true rfl⟩ (⟨by rw [e9], hP, by rw [e9, hpx, hqx]; unfold CPost; rw [if_neg (nI_pos (by omega))]; exact ⟨g9, hgs, hEnd⟩⟩)
          · have c_62 : nc = 12 := nI_inj (by omega) (by decide) c_62
            refine lv_bipush (v := (-4)) hx hb dX0_call_65 (by decide) ?_
            have e9 : spCall n net nc (stAt n cp cq nc) (nI pa) (nI qa) = (-4 : Int32) := by unfold spCall; rw [hpx, hqx, hpy, hqy, if_neg (by decide), if_neg c_20, if_neg (by rw [c_41]; decide), if_pos c_62]
            exact g_iret S hr hlk hS dX0_call_67 ⟨Nat.le_of_ble_eq_true rfl, Nat.le_of_ble_eq_true rfl⟩ (⟨by rw [e9], hP, by rw [e9]; unfold CPost; rw [if_pos (by decide)]; exact hDY⟩)
        · have c_41 := b2i_eq0.mp c_41
          refine lv_bipush (v := (-3)) hx hb dX0_call_44 (by decide) ?_
          have e9 : spCall n net nc (stAt n cp cq nc) (nI pa) (nI qa) = (-3 : Int32) := by simp [spCall, *]
          exact g_iret S hr hlk hS dX0_call_46 ⟨Nat.le_of_ble_eq_true rfl, Nat.le_of_ble_eq_true rfl⟩ (⟨by rw [e9], hP, by rw [e9]; unfold CPost; rw [if_pos (by decide)]; exact hDY⟩)
      · refine lv_bipush (v := (-2)) hx hb dX0_call_23 (by decide) ?_
        have e9 : spCall n net nc (stAt n cp cq nc) (nI pa) (nI qa) = (-2 : Int32) := by simp [spCall, *]
        exact g_iret S hr hlk hS dX0_call_25 ⟨Nat.le_of_ble_eq_true rfl, Nat.le_of_ble_eq_true rfl⟩ (⟨by rw [e9], hP, by rw [e9]; unfold CPost; rw [if_pos (by decide)]; exact hDY⟩)
    · have c_13 := b2i_ne0.mp c_13
      have c_13 : inP w n = false := by simpa using c_13
      refine lv_iconst (v := (-1)) hx hb dX0_call_16 (by decide) ?_
      have e9 : spCall n net nc (stAt n cp cq nc) v w = (-1 : Int32) := by simp [spCall, *]
      exact g_iret S hr hlk hS dX0_call_17 ⟨Nat.le_of_ble_eq_true rfl, Nat.le_of_ble_eq_true rfl⟩ (⟨by rw [e9], hP, by rw [e9]; unfold CPost; rw [if_pos (by decide)]; exact hDY⟩)
set_option maxHeartbeats 4000000 in
theorem g0_back (l : Launch) (D : va_G) (dA : Nat → ClassId) (mi zs zf : Nat) (a : Nat → Nat) (hI : kInj a) (σ : MS) (n nc : Nat) (cp cq : Nat → Nat) (ed cap : Nat) (mc : Int32) (f : Nat → Option Nat) (rg : Nat → Nat) (hcap : cap = 0 ∨ cap = 10 ∨ cap = 15) (sz : Nat) (hCA : CAp a ed nc rg zs sz) : GC l yX0_back cX0_back 1 (some .int) 3 66 0 0 (K4 D dA mi zs zf) [.ref (a 0)] (fun H => va_P D vwCl (kW dA a σ) H ∧ DY D dA a n nc cp cq ed cap mc f rg H) (lA a ed sz) (fun v9 H => v9 = some (.int (spBack nc)) ∧ va_P D vwCl (kW dA a σ) H ∧ (if nc = 0 then DY D dA a n nc cp cq ed cap mc f rg H else DY D dA a n (nc - 1) cp cq ed cap (mc + 1) (va_up f (nc - 1) none) rg H)) := by
  refine GC.of (by decide) (Nat.le_of_ble_eq_true rfl) ?_
  intro p e s m below meth c ls S hr hlk hnm hK4 hPre hl
  have hK2 := hK4.1
  have hK := hK2.1
  have hx := S.1
  have hb := S.2.1
  have hl : lv_has ls 1 [(0, .ref (a 0))] := hl
  have hS : va_S (lA a ed sz) s.heap s.heap [] := va_S.rf
  obtain ⟨hP, hDY⟩ := hPre
  refine lv_aload_n hx hb dX0_back_0 rfl (lv_at hl 0 rfl) ?_
  refine k_get (v := .ref (a 3)) S hK hP 3 (by decide) fl_X0_18 rfl dX0_back_1 rfl ?_
  refine rc_Fr (X := .int (b2i (decide (nc = 0)))) (rest := []) [] 0 S hK (hK.1 2 (RJ2, TJ2, 3) rfl).2 (hK2.2.fw (C := RJ2) (x := ⟨"java/util/List", "isEmpty", "()Z"⟩) (y := yJ2_isEmpty) (by simp [fxI]) q207 q205 q203) (rj_isEmpty l D dA (a 3) ed cap mc nc f hDY.2.2.1 (Nat.lt_of_le_of_lt hDY.2.1 hDY.2.2.1)) (lw_F q200 q204 q206 q63 q208) (by decide +kernel) rfl ⟨Nat.le_of_ble_eq_true rfl, Nat.le_of_ble_eq_true rfl⟩ (va_recv hK hDY.1 (ci := 2) (q0 := 0) rfl rfl) hl.1 (Nat.le_of_ble_eq_true rfl) dX0_back_4 ⟨Nat.le_of_ble_eq_true rfl, Nat.le_of_ble_eq_true rfl⟩ hDY.1 ?_ rfl
  refine lv_if_eq (tgt := 15) hx hb dX0_back_9 (by decide) (fun c_9 => ?_) (fun c_9 => ?_)
  · have c_9 := b2i_eq0.mp c_9
    have c_9 : ¬ nc = 0 := of_decide_eq_false c_9
    refine lv_aload_n hx hb dX0_back_15 rfl (lv_at hl 0 rfl) ?_
    refine k_get (v := .ref (a 3)) S hK hP 3 (by decide) fl_X0_18 rfl dX0_back_16 rfl ?_
    refine lv_aload_n hx hb dX0_back_19 rfl (lv_at hl 0 rfl) ?_
    refine k_get (v := .ref (a 3)) S hK hP 3 (by decide) fl_X0_18 rfl dX0_back_20 rfl ?_
    refine rc_Fr (X := .int (nI nc)) (rest := [.ref (a 3)]) [] 0 S hK (hK.1 2 (RJ2, TJ2, 3) rfl).2 (hK2.2.fw (C := RJ2) (x := ⟨"java/util/List", "size", "()I"⟩) (y := yJ2_size) (by simp [fxI]) q220 q218 q203) (rj_size l D dA (a 3) ed cap mc nc f hDY.2.2.1) (lw_F q214 q217 q219 q63 q221) (by decide +kernel) rfl ⟨Nat.le_of_ble_eq_true rfl, Nat.le_of_ble_eq_true rfl⟩ (va_recv hK hDY.1 (ci := 2) (q0 := 0) rfl rfl) hl.1 (Nat.le_of_ble_eq_true rfl) dX0_back_23 ⟨Nat.le_of_ble_eq_true rfl, Nat.le_of_ble_eq_true rfl⟩ hDY.1 ?_ rfl
    refine lv_iconst (v := 1) hx hb dX0_back_28 (by decide) ?_
    refine lv_isub hx hb dX0_back_29 ?_
    refine topi (z := nI (nc - 1)) (pk_sub (b := 1) (by omega)) ?_
    have hnc1 : nc - 1 + 1 = nc := by omega
    have hcp : 0 < cap := by have := hDY.2.1; omega
    have hDY0 := hDY
    refine gc_F (rest := []) [.int (nI (nc - 1))] 1 S (hK.1 2 (RJ2, TJ2, 3) rfl).2 (hK2.2.fw (C := RJ2) (x := ⟨"java/util/List", "remove", "(I)Ljava/lang/Object;"⟩) (y := yJ2_remove) (by simp [fxI]) q447 q445 q203) Wm_K4 hK4 hS (fun q h => h.imp id Or.inl) (gj_remove l D dA mi zs zf (a 3) ed cap (nc - 1) mc f (rg (nc - 1)) hCA.2.2.1 (by have := hDY.2.1; omega) (by omega) (hDY.2.2.2 (nc - 1) (by omega)).1) (lw_F q441 q444 q446 q63 q448) (by decide +kernel) rfl ⟨Nat.le_of_ble_eq_true rfl, Nat.le_of_ble_eq_true rfl⟩ (va_recv hK hDY.1 (ci := 2) (q0 := 0) rfl rfl) hl.1 (Nat.le_of_ble_eq_true rfl) dX0_back_30 ⟨Nat.le_of_ble_eq_true rfl, Nat.le_of_ble_eq_true rfl⟩ (by rw [hnc1, ← LW_c hcp]; exact hDY.1) (fun v9 H locs hp9 hz9 ho9 hS => ?_) rfl
    obtain ⟨rfl, hL⟩ := hp9
    refine W.eq (g2 := F0 m 35 ls [.ref (rg (nc - 1))]) rfl ?_
    rw [← LW_c hcp] at hL
    have hP := kW_fr hI hP ho9 (fun q h h9 => by have := hCA.2.2.2.2.1 q h; rcases h9 with h9 | h9; exact this.2.1 h9; exact this.2.2 h9)
    have hDY : DY D dA a n (nc - 1) cp cq ed cap (mc + 1) (va_up f (nc - 1) none) rg H := ⟨hL, by have := hDY.2.1; omega, hDY.2.2.1, fun j hj => ⟨by rw [va_up_ne _ _ (by omega)]; exact (hDY.2.2.2 j (by omega)).1, (hDY.2.2.2 j (by omega)).2.fr ho9 (one_A (A := fun q => q = a 3 ∨ q = ed) (by have := hCA.2.2.2.1 j (by omega); exact fun h9 => h9.elim this.2.1 this.2.2))⟩⟩
    refine lv_pop hx hb dX0_back_35 rfl ?_
    refine lv_aload_n hx hb dX0_back_36 rfl (lv_at hl 0 rfl) ?_
    refine k_get (v := .ref (a 3)) S hK hP 3 (by decide) fl_X0_18 rfl dX0_back_37 rfl ?_
    refine rc_Fr (X := .int (nI (nc - 1))) (rest := []) [] 0 S hK (hK.1 2 (RJ2, TJ2, 3) rfl).2 (hK2.2.fw (C := RJ2) (x := ⟨"java/util/List", "size", "()I"⟩) (y := yJ2_size) (by simp [fxI]) q220 q218 q203) (rj_size l D dA (a 3) ed cap (mc + 1) (nc - 1) (va_up f (nc - 1) none) hDY0.2.2.1) (lw_F q214 q217 q219 q63 q221) (by decide +kernel) rfl ⟨Nat.le_of_ble_eq_true rfl, Nat.le_of_ble_eq_true rfl⟩ (va_recv hK hL (ci := 2) (q0 := 0) rfl rfl) hl.1 (Nat.le_of_ble_eq_true rfl) dX0_back_40 ⟨Nat.le_of_ble_eq_true rfl, Nat.le_of_ble_eq_true rfl⟩ hL ?_ rfl
    exact g_iret S hr hlk hS dX0_back_45 ⟨Nat.le_of_ble_eq_true rfl, Nat.le_of_ble_eq_true rfl⟩ (⟨by simp [spBack, c_9], hP, by rw [if_neg c_9]; exact hDY⟩)
  · have c_9 := b2i_ne0.mp c_9
    have c_9 : nc = 0 := of_decide_eq_true c_9
    refine lv_bipush (v := (-3)) hx hb dX0_back_12 (by decide) ?_
    exact g_iret S hr hlk hS dX0_back_14 ⟨Nat.le_of_ble_eq_true rfl, Nat.le_of_ble_eq_true rfl⟩ (⟨by simp [spBack, c_9], hP, by rw [if_pos c_9]; exact hDY⟩)
