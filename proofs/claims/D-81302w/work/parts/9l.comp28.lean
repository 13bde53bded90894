/-! COMPONENT 28: searches (by program: gen/comp28.py) -/
set_option maxRecDepth 100000
section KNST
variable {p : Program} {l : Launch} {e : Env} {R : Room} {s : State} {m : MethodId} {args : Array Value} {below : List Frame} {meth : Method} {c : Code} {H : Heap} {locs : List Loc} {cells slots : Nat} {Q : State → Prop}
variable {cc : ByteArray} {pc nL : Nat} {ls : Array Slot} {rest : List Value} {D : va_G} {dA : Nat → ClassId} {a : Nat → Nat} {σ : MS} {H0 : Heap} {own : String}
theorem k_aldN (S : CallFix p m c cc nL s args lw_all own) (hK : va_K D vwCl (tyL dA) s) (hP : va_P D vwCl (kW dA a σ) H) (k : Nat) (hk : k ∈ kL) (hkd : kKd k = 1) {i : Int32} (hin : vp_in i (kLn k)) (hdg : decode cc pc = .ok (.iaload, 1))
    (kk : W p l e R s m args below meth c H locs cells slots Q (F0 m (pc + 1) ls (.int (σ.2.1 k i.toNatClampNeg) :: rest))) : W p l e R s m args below meth c H locs cells slots Q (F0 m pc ls (.int i :: .ref (a k) :: rest)) :=
  va_iald S.1 S.2.1 hK hP (kPos k) 0 ((kW_k hk).trans (by rw [kE_int hkd])) rfl hin hdg kk
theorem k_astN (hI : kInj a) (S : CallFix p m c cc nL s args lw_all own) (hK : va_K D vwCl (tyL dA) s) (hM : KB D dA a σ H0 H locs) (k : Nat) (hk : k ∈ kL) (hkd : kKd k = 1) {i x : Int32} (hin : vp_in i (kLn k)) (hdg : decode cc pc = .ok (.iastore, 1))
    (kk : ∀ (H : Heap) (locs : List Loc), KB D dA a (σ.b k (upd (σ.2.1 k) i.toNatClampNeg x)) H0 H locs → W p l e R s m args below meth c H locs cells slots Q (F0 m (pc + 1) ls rest)) : W p l e R s m args below meth c H locs cells slots Q (F0 m pc ls (.int x :: .int i :: .ref (a k) :: rest)) := by
  refine va_iast S.1 S.2.1 hK hM.1 (kW_D hI) hM.2 (kPos k) 0 ((kW_k hk).trans (by rw [kE_int hkd])) rfl hin hdg (fun H1 locs1 h1 h2 h3 => ?_)
  rw [kW_set (σ' := σ.b k (upd (σ.2.1 k) i.toNatClampNeg x)) hk _ (by rw [kE_int hkd]; simp [MS.b, va_up]) (fun j hj => by simp [kE, MS.b, va_up, hj]) (by simp [kF, kFv, MS.b])] at h1
  exact kk H1 locs1 ⟨h1, h3⟩
theorem k_aldnN (S : CallFix p m c cc nL s args lw_all own) (hK : va_K D vwCl (tyL dA) s) (hP : va_P D vwCl (kW dA a σ) H) (k : Nat) (hk : k ∈ kL) (hkd : kKd k = 1) {j : Nat} (hj : j < kLn k) (hdg : decode cc pc = .ok (.iaload, 1))
    {v : Int32} (hv : σ.2.1 k j = v) (kk : W p l e R s m args below meth c H locs cells slots Q (F0 m (pc + 1) ls (.int v :: rest))) : W p l e R s m args below meth c H locs cells slots Q (F0 m pc ls (.int (nI j) :: .ref (a k) :: rest)) :=
  k_aldN S hK hP k hk hkd (vp_in_nI hj (kLn_lt k)) hdg (by rw [nI_clamp (Nat.lt_trans hj (kLn_lt k)), hv]; exact kk)
theorem k_astnN (hI : kInj a) (S : CallFix p m c cc nL s args lw_all own) (hK : va_K D vwCl (tyL dA) s) (hM : KB D dA a σ H0 H locs) (k : Nat) (hk : k ∈ kL) (hkd : kKd k = 1) {j : Nat} {x : Int32} (hj : j < kLn k) (hdg : decode cc pc = .ok (.iastore, 1))
    (kk : ∀ (H : Heap) (locs : List Loc), KB D dA a (σ.b k (upd (σ.2.1 k) j x)) H0 H locs → W p l e R s m args below meth c H locs cells slots Q (F0 m (pc + 1) ls rest)) : W p l e R s m args below meth c H locs cells slots Q (F0 m pc ls (.int x :: .int (nI j) :: .ref (a k) :: rest)) :=
  k_astN hI S hK hM k hk hkd (vp_in_nI hj (kLn_lt k)) hdg (fun H locs h => by rw [nI_clamp (Nat.lt_trans hj (kLn_lt k))] at h; exact kk H locs h)
end KNST
/-- what a search leaves: counts go on, at most d of them; the rest stays -/
def PTd (σ σ' : MS) (T d : Nat) : Prop := (∀ k, k ≠ 9 → σ'.1 k = σ.1 k) ∧ (∀ k, k ≠ 4 → k ≠ 7 → k ≠ 8 → σ'.2.1 k = σ.2.1 k) ∧ ∃ T', T' ≤ T + d ∧ SNc σ' T'
theorem PTd.rf {σ : MS} {T : Nat} (h : SNc σ T) : PTd σ σ T 0 := ⟨fun _ _ => rfl, fun _ _ _ _ => rfl, T, by omega, h⟩
theorem PTd.wk {σ σ' : MS} {T d d' : Nat} (h : PTd σ σ' T d) (hd : d ≤ d') : PTd σ σ' T d' := by
  obtain ⟨a, b, T', c, e⟩ := h
  exact ⟨a, b, T', by omega, e⟩
theorem PTd.tr {σ σ1 σ2 : MS} {T T1 d : Nat} (h : PTd σ σ1 T d) (hT : T1 ≤ T + d) (g : PTd σ1 σ2 T1 1) : PTd σ σ2 T (d + 1) := by
  obtain ⟨a, b, T', c, e⟩ := g
  exact ⟨fun k hk => (a k hk).trans (h.1 k hk), fun k h1 h2 h3 => (b k h1 h2 h3).trans (h.2.1 k h1 h2 h3), T', by omega, e⟩
theorem PTd.pt {σ σ' : MS} {T d : Nat} (h : PTd σ σ' T d) (hd : d ≤ 64) : PTc σ σ' T := h.wk hd
theorem PTd.kg {σ σ' : MS} {T d n : Nat} {net : Nat → Nat} (h : PTd σ σ' T d) (hG : KG σ n net) : KG σ' n net := ⟨hG.1, (h.1 0 (by decide)).trans hG.2.1, fun q hq => by rw [h.2.1 1 (by decide) (by decide) (by decide)]; exact hG.2.2.1 q hq, hG.2.2.2⟩
theorem SNc.b1 {σ : MS} {T : Nat} {f : Nat → Int32} (h : SNc σ T) : SNc (σ.b 1 f) T := ⟨h.1, h.2⟩
/-- the number is turned, a verdict is laid, the number is turned back -/
theorem PTd.mend {σ σ1 : MS} {T p : Nat} {x y : Int32} (h : SNc σ T) (hF : FRc ((σ.b 1 (upd (σ.2.1 1) p x)).i 9 (nI (T + 1))) σ1 (nI (T + 1))) (hy : σ.2.1 1 p = y) : PTd σ (σ1.b 1 (upd (σ1.2.1 1) p y)) T 1 := by
  refine ⟨fun k hk => (congrFun hF.1 k).trans (va_up_ne _ _ hk), fun k h1 h2 h3 => ?_, T + 1, by omega, (h.b1.nx hF).b1⟩
  by_cases e : k = 1
  · subst e
    show va_up σ1.2.1 1 _ 1 = _
    rw [va_up_self, hF.2.1 1 (by decide) (by decide) (by decide)]
    show upd (va_up σ.2.1 1 (upd (σ.2.1 1) p x) 1) p y = _
    rw [va_up_self]
    exact upd_back hy
  · show va_up σ1.2.1 1 _ k = _
    rw [va_up_ne _ _ e, hF.2.1 k h1 h2 h3]
    exact va_up_ne _ _ e
theorem or16 {net : Nat → Nat} {p : Nat} (h : net p < 16) (hp : p < 4) : net p ||| 2 ^ p < 16 := Nat.or_lt_two_pow (n := 4) h (pw16 hp)
set_option maxHeartbeats 4000000 in
theorem k9_isOne (l : Launch) (D : va_G) (dA : Nat → ClassId) (a : Nat → Nat) (hI : kInj a) (σ : MS) (Ph : Heap → Prop) (hSt : kStb a Ph) (b : Nat) (n : Nat) (net : Nat → Nat) (hG : KG σ n net) (hRf : ∀ H, Ph H → va_P D vwCl [(b, .inr (11, [.ref (a 0), .ref (a 0)]))] H) (pa qa : Nat) (hpa : pa < n) (hqa : qa < n) (hpq : ¬ pa = qa) (T : Nat) (hSN : SNc σ T) : KC2 l yX9_isOne cX9_isOne 4 (some .boolean) 3 68 D dA a [.ref b, .int (nI pa), .int (nI qa)] σ Ph (fun v9 σ9 => v9 = some (.int (b2i (brB net n pa qa))) ∧ PTd σ σ9 T 1) := by
  refine KC2.of (by decide) (Nat.le_of_ble_eq_true rfl) ?_
  intro p e s m below meth c ls S hr hlk hK2 hM hPh hl
  have hK := hK2.1
  have hx := S.1
  have hb := S.2.1
  have hl : lv_has ls 4 [(0, .ref b), (1, .int (nI pa)), (2, .int (nI qa))] := hl
  have hn := hG.1
  have hnet := hG.2.2.2
  have hb16 := or16 (hnet pa (by omega)) (by omega)
  have hTp := hG.2.2.1 pa hpa
  have hGf := hG.flip hpa hqa hpq
  refine lv_aload_n hx hb dX9_isOne_0 rfl (lv_at hl 0 rfl) ?_
  have hR := hRf _ (hSt.at hM hPh)
  refine va_get (v := .ref (a 0)) (D := D) (ci := 11) (C := RX9) (T := TX9) (N := 2) S.1 S.2.1 S.2.2.2.2 in_X9 S.2.2.2.1 hK hR 0 rfl rfl 1 (by decide) (S.2.2.2.2 _ q572) (fun _ h9 => h9) rfl dX9_isOne_1 ?_
  refine k_getN (v := .ref (a 1)) S hK hM.1 1 (by decide) (hK2.2.1 _ q134 rfl) rfl dX9_isOne_4 rfl ?_
  refine lv_iload_n hx hb dX9_isOne_7 rfl (lv_at hl 1 rfl) ?_
  refine k_aldnN (j := pa) (v := nI (net pa ||| 2 ^ pa)) S hK hM.1 1 (by decide) rfl (show pa < 4 by omega) dX9_isOne_8 (hTp) ?_
  refine lv_iload_n hx hb dX9_isOne_9 rfl (lv_at hl 2 rfl) ?_
  refine rc2_SN (rest := []) [.int (nI (net pa ||| 2 ^ pa)), .int (nI qa)] 2 S hK2 (RC.k2 (r0_isIn l D dA (net pa ||| 2 ^ pa) qa (by first | assumption | omega | decide) (by first | assumption | omega | decide))) q251 q60 (hK2.2.1 _ q591 rfl) q250 (by decide +kernel : yX0_isIn.cls ≠ "java/lang/invoke/MethodHandle" ∧ yX0_isIn.cls ≠ "java/lang/invoke/VarHandle" ∧ (parseMethodDescriptor yX0_isIn.desc).map (fun d => d.parameters.length) = some 2) rfl ⟨Nat.le_of_ble_eq_true rfl, Nat.le_of_ble_eq_true rfl⟩ hl.1 (Nat.le_of_ble_eq_true rfl) dX9_isOne_10 ⟨Nat.le_refl 0, Nat.le_refl 0⟩ (trivial) (fun v9 hv9 => ?_) rfl
  subst hv9
  refine W.eq (g2 := F0 m 13 ls [.int (b2i ((net pa ||| 2 ^ pa).testBit qa))]) rfl ?_
  refine lv_if_ne (tgt := 18) hx hb dX9_isOne_13 (by decide) (fun c_13 => ?_) (fun c_13 => ?_)
  · have c_13 := b2i_ne0.mp c_13
    have c_13 := (told_tb hpq).symm.trans c_13
    refine lv_aload_n hx hb dX9_isOne_18 rfl (lv_at hl 0 rfl) ?_
    have hR := hRf _ (hSt.at hM hPh)
    refine va_get (v := .ref (a 0)) (D := D) (ci := 11) (C := RX9) (T := TX9) (N := 2) S.1 S.2.1 S.2.2.2.2 in_X9 S.2.2.2.1 hK hR 0 rfl rfl 1 (by decide) (S.2.2.2.2 _ q572) (fun _ h9 => h9) rfl dX9_isOne_19 ?_
    refine k_getN (v := .ref (a 1)) S hK hM.1 1 (by decide) (hK2.2.1 _ q134 rfl) rfl dX9_isOne_22 rfl ?_
    refine lv_iload_n hx hb dX9_isOne_25 rfl (lv_at hl 1 rfl) ?_
    refine lv_dup2_11 hx hb dX9_isOne_26 rfl rfl ?_
    refine k_aldnN (j := pa) (v := nI (net pa ||| 2 ^ pa)) S hK hM.1 1 (by decide) rfl (show pa < 4 by omega) dX9_isOne_27 (hTp) ?_
    refine lv_iconst (v := 1) hx hb dX9_isOne_28 (by decide) ?_
    refine lv_iload_n hx hb dX9_isOne_29 rfl (lv_at hl 2 rfl) ?_
    refine lv_ishl hx hb dX9_isOne_30 ?_
    refine topi (z := nI (2 ^ qa)) (shl1 _ (by omega)) ?_
    refine lv_ixor hx hb dX9_isOne_31 ?_
    refine topi (z := nI ((ntX net pa qa) pa ||| 2 ^ pa)) ((nI_xor _ _).trans (congrArg nI (ntX_told hpq))) ?_
    refine k_astnN (j := pa) hI S hK hM 1 (by decide) rfl (show pa < 4 by omega) dX9_isOne_32 (fun H locs hM => ?_)
    refine lv_aload_n hx hb dX9_isOne_33 rfl (lv_at hl 0 rfl) ?_
    have hR := hRf _ (hSt.at hM hPh)
    refine va_get (v := .ref (a 0)) (D := D) (ci := 11) (C := RX9) (T := TX9) (N := 2) S.1 S.2.1 S.2.2.2.2 in_X9 S.2.2.2.1 hK hR 0 rfl rfl 1 (by decide) (S.2.2.2.2 _ q572) (fun _ h9 => h9) rfl dX9_isOne_34 ?_
    refine rc2_VN (rest := []) [] 0 S hK2 (RC.k2 (r0_isJoined l D dA a _ n (ntX net pa qa) hGf (by omega))) q552 q60 (hK2.2.1 _ q592 rfl) q551 qs18 (by decide +kernel : yX0_isJoined.cls ≠ "java/lang/invoke/MethodHandle" ∧ yX0_isJoined.cls ≠ "java/lang/invoke/VarHandle" ∧ (parseMethodDescriptor yX0_isJoined.desc).map (fun d => d.parameters.length) = some 0) rfl ⟨Nat.le_of_ble_eq_true rfl, Nat.le_of_ble_eq_true rfl⟩ (k_recv hK hM.1) hl.1 (Nat.le_of_ble_eq_true rfl) dX9_isOne_37 ⟨Nat.le_refl 0, Nat.le_refl 0⟩ hM.1 (fun v9 hv9 => ?_) rfl
    subst hv9
    refine W.eq (g2 := F0 m 40 ls [.int (b2i (jnB (ntX net pa qa) n))]) rfl ?_
    refine lv_if_ne (tgt := 47) hx hb dX9_isOne_40 (by decide) (fun c_40 => ?_) (fun c_40 => ?_)
    · have c_40 := b2i_ne0.mp c_40
      refine lv_iconst (v := 0) hx hb dX9_isOne_47 (by decide) ?_
      refine lv_istore_n (lv' := [(3, .int 0), (0, .ref b), (1, .int (nI pa)), (2, .int (nI qa))]) hx hb dX9_isOne_48 rfl hl (by decide) rfl (fun ls hl => ?_)
      refine lv_aload_n hx hb dX9_isOne_49 rfl (lv_at hl 1 rfl) ?_
      have hR := hRf _ (hSt.at hM hPh)
      refine va_get (v := .ref (a 0)) (D := D) (ci := 11) (C := RX9) (T := TX9) (N := 2) S.1 S.2.1 S.2.2.2.2 in_X9 S.2.2.2.1 hK hR 0 rfl rfl 1 (by decide) (S.2.2.2.2 _ q572) (fun _ h9 => h9) rfl dX9_isOne_50 ?_
      refine k_getN (v := .ref (a 1)) S hK hM.1 1 (by decide) (hK2.2.1 _ q134 rfl) rfl dX9_isOne_53 rfl ?_
      refine lv_iload_n hx hb dX9_isOne_56 rfl (lv_at hl 2 rfl) ?_
      refine lv_dup2_11 hx hb dX9_isOne_57 rfl rfl ?_
      refine k_aldnN (j := pa) (v := nI ((ntX net pa qa) pa ||| 2 ^ pa)) S hK hM.1 1 (by decide) rfl (show pa < 4 by omega) dX9_isOne_58 (pk_us) ?_
      refine lv_iconst (v := 1) hx hb dX9_isOne_59 (by decide) ?_
      refine lv_iload_n hx hb dX9_isOne_60 rfl (lv_at hl 3 rfl) ?_
      refine lv_ishl hx hb dX9_isOne_61 ?_
      refine topi (z := nI (2 ^ qa)) (shl1 _ (by omega)) ?_
      refine lv_ixor hx hb dX9_isOne_62 ?_
      refine topi (z := nI (net pa ||| 2 ^ pa)) ((nI_xor _ _).trans (congrArg nI (by rw [← ntX_told hpq, Nat.xor_assoc, Nat.xor_self, Nat.xor_zero]))) ?_
      refine k_astnN (j := pa) hI S hK hM 1 (by decide) rfl (show pa < 4 by omega) dX9_isOne_63 (fun H locs hM => ?_)
      have hM : KB D dA a ((σ.b 1 (upd (σ.2.1 1) pa (nI ((ntX net pa qa) pa ||| 2 ^ pa)))).b 1 (upd (upd (σ.2.1 1) pa (nI ((ntX net pa qa) pa ||| 2 ^ pa))) pa (nI (net pa ||| 2 ^ pa)))) s.heap H locs := hM
      refine lv_iload_n hx hb dX9_isOne_64 rfl (lv_at hl 0 rfl) ?_
      exact k_zret S hr hlk hM dX9_isOne_65 (by decide) (⟨by simp [brB, b2i, *], by rw [b_back (upd_back hTp)]; exact (PTd.rf hSN).wk (by omega)⟩)
    · have c_40 := b2i_eq0.mp c_40
      refine lv_iconst (v := 1) hx hb dX9_isOne_43 (by decide) ?_
      refine lv_goto (tgt := 48) hx hb dX9_isOne_44 (by decide) ?_
      refine lv_istore_n (lv' := [(3, .int 1), (0, .ref b), (1, .int (nI pa)), (2, .int (nI qa))]) hx hb dX9_isOne_48 rfl hl (by decide) rfl (fun ls hl => ?_)
      refine lv_aload_n hx hb dX9_isOne_49 rfl (lv_at hl 1 rfl) ?_
      have hR := hRf _ (hSt.at hM hPh)
      refine va_get (v := .ref (a 0)) (D := D) (ci := 11) (C := RX9) (T := TX9) (N := 2) S.1 S.2.1 S.2.2.2.2 in_X9 S.2.2.2.1 hK hR 0 rfl rfl 1 (by decide) (S.2.2.2.2 _ q572) (fun _ h9 => h9) rfl dX9_isOne_50 ?_
      refine k_getN (v := .ref (a 1)) S hK hM.1 1 (by decide) (hK2.2.1 _ q134 rfl) rfl dX9_isOne_53 rfl ?_
      refine lv_iload_n hx hb dX9_isOne_56 rfl (lv_at hl 2 rfl) ?_
      refine lv_dup2_11 hx hb dX9_isOne_57 rfl rfl ?_
      refine k_aldnN (j := pa) (v := nI ((ntX net pa qa) pa ||| 2 ^ pa)) S hK hM.1 1 (by decide) rfl (show pa < 4 by omega) dX9_isOne_58 (pk_us) ?_
      refine lv_iconst (v := 1) hx hb dX9_isOne_59 (by decide) ?_
      refine lv_iload_n hx hb dX9_isOne_60 rfl (lv_at hl 3 rfl) ?_
      refine lv_ishl hx hb dX9_isOne_61 ?_
      refine topi (z := nI (2 ^ qa)) (shl1 _ (by omega)) ?_
      refine lv_ixor hx hb dX9_isOne_62 ?_
      refine topi (z := nI (net pa ||| 2 ^ pa)) ((nI_xor _ _).trans (congrArg nI (by rw [← ntX_told hpq, Nat.xor_assoc, Nat.xor_self, Nat.xor_zero]))) ?_
      refine k_astnN (j := pa) hI S hK hM 1 (by decide) rfl (show pa < 4 by omega) dX9_isOne_63 (fun H locs hM => ?_)
      have hM : KB D dA a ((σ.b 1 (upd (σ.2.1 1) pa (nI ((ntX net pa qa) pa ||| 2 ^ pa)))).b 1 (upd (upd (σ.2.1 1) pa (nI ((ntX net pa qa) pa ||| 2 ^ pa))) pa (nI (net pa ||| 2 ^ pa)))) s.heap H locs := hM
      refine lv_iload_n hx hb dX9_isOne_64 rfl (lv_at hl 0 rfl) ?_
      exact k_zret S hr hlk hM dX9_isOne_65 (by decide) (⟨by simp [brB, b2i, *], by rw [b_back (upd_back hTp)]; exact (PTd.rf hSN).wk (by omega)⟩)
  · have c_13 := b2i_eq0.mp c_13
    have c_13 := (told_tb hpq).symm.trans c_13
    refine lv_iconst (v := 0) hx hb dX9_isOne_16 (by decide) ?_
    exact k_zret S hr hlk hM dX9_isOne_17 (by decide) (⟨by simp [brB, b2i, *], (PTd.rf hSN).wk (by omega)⟩)
set_option maxHeartbeats 4000000 in
theorem k10_isOne (l : Launch) (D : va_G) (dA : Nat → ClassId) (a : Nat → Nat) (hI : kInj a) (σ : MS) (Ph : Heap → Prop) (hSt : kStb a Ph) (b : Nat) (n : Nat) (net : Nat → Nat) (hG : KG σ n net) (r : Nat) (hr4 : r < 4) (hRf : ∀ H, Ph H → va_P D vwCl [(b, .inr (12, [.ref (a 0), .int (nI r), .ref (a 0)]))] H) (pa qa : Nat) (hpa : pa < n) (hqa : qa < n) (hpq : ¬ pa = qa) (T : Nat) (hSN : SNc σ T) (hT : T < 2 ^ 30) : KC2 l yX10_isOne cX10_isOne 4 (some .boolean) 21 682 D dA a [.ref b, .int (nI pa), .int (nI qa)] σ Ph (fun v9 σ9 => v9 = some (.int (b2i (meB net n r pa qa))) ∧ PTd σ σ9 T 1) := by
  refine KC2.of (by decide) (Nat.le_of_ble_eq_true rfl) ?_
  intro p e s m below meth c ls S hr hlk hK2 hM hPh hl
  have hK := hK2.1
  have hx := S.1
  have hb := S.2.1
  have hl : lv_has ls 4 [(0, .ref b), (1, .int (nI pa)), (2, .int (nI qa))] := hl
  have hn := hG.1
  have hnet := hG.2.2.2
  have hb16 := or16 (hnet pa (by omega)) (by omega)
  have hTp := hG.2.2.1 pa hpa
  have hGf := hG.flip hpa hqa hpq
  refine lv_aload_n hx hb dX10_isOne_0 rfl (lv_at hl 0 rfl) ?_
  have hR := hRf _ (hSt.at hM hPh)
  refine va_get (v := .ref (a 0)) (D := D) (ci := 12) (C := RX10) (T := TX10) (N := 3) S.1 S.2.1 S.2.2.2.2 in_X10 S.2.2.2.1 hK hR 0 rfl rfl 2 (by decide) (S.2.2.2.2 _ q612) (fun _ h9 => h9) rfl dX10_isOne_1 ?_
  refine k_getN (v := .ref (a 1)) S hK hM.1 1 (by decide) (hK2.2.1 _ q135 rfl) rfl dX10_isOne_4 rfl ?_
  refine lv_iload_n hx hb dX10_isOne_7 rfl (lv_at hl 1 rfl) ?_
  refine k_aldnN (j := pa) (v := nI (net pa ||| 2 ^ pa)) S hK hM.1 1 (by decide) rfl (show pa < 4 by omega) dX10_isOne_8 (hTp) ?_
  refine lv_iload_n hx hb dX10_isOne_9 rfl (lv_at hl 2 rfl) ?_
  refine rc2_SN (rest := []) [.int (nI (net pa ||| 2 ^ pa)), .int (nI qa)] 2 S hK2 (RC.k2 (r0_isIn l D dA (net pa ||| 2 ^ pa) qa (by first | assumption | omega | decide) (by first | assumption | omega | decide))) q251 q60 (hK2.2.1 _ q596 rfl) q250 (by decide +kernel : yX0_isIn.cls ≠ "java/lang/invoke/MethodHandle" ∧ yX0_isIn.cls ≠ "java/lang/invoke/VarHandle" ∧ (parseMethodDescriptor yX0_isIn.desc).map (fun d => d.parameters.length) = some 2) rfl ⟨Nat.le_of_ble_eq_true rfl, Nat.le_of_ble_eq_true rfl⟩ hl.1 (Nat.le_of_ble_eq_true rfl) dX10_isOne_10 ⟨Nat.le_refl 0, Nat.le_refl 0⟩ (trivial) (fun v9 hv9 => ?_) rfl
  subst hv9
  refine W.eq (g2 := F0 m 13 ls [.int (b2i ((net pa ||| 2 ^ pa).testBit qa))]) rfl ?_
  refine lv_if_eq (tgt := 18) hx hb dX10_isOne_13 (by decide) (fun c_13 => ?_) (fun c_13 => ?_)
  · have c_13 := b2i_eq0.mp c_13
    have c_13 := (told_tb hpq).symm.trans c_13
    refine lv_aload_n hx hb dX10_isOne_18 rfl (lv_at hl 0 rfl) ?_
    have hR := hRf _ (hSt.at hM hPh)
    refine va_get (v := .ref (a 0)) (D := D) (ci := 12) (C := RX10) (T := TX10) (N := 3) S.1 S.2.1 S.2.2.2.2 in_X10 S.2.2.2.1 hK hR 0 rfl rfl 2 (by decide) (S.2.2.2.2 _ q612) (fun _ h9 => h9) rfl dX10_isOne_19 ?_
    refine k_getN (v := .ref (a 1)) S hK hM.1 1 (by decide) (hK2.2.1 _ q135 rfl) rfl dX10_isOne_22 rfl ?_
    refine lv_iload_n hx hb dX10_isOne_25 rfl (lv_at hl 1 rfl) ?_
    refine lv_dup2_11 hx hb dX10_isOne_26 rfl rfl ?_
    refine k_aldnN (j := pa) (v := nI (net pa ||| 2 ^ pa)) S hK hM.1 1 (by decide) rfl (show pa < 4 by omega) dX10_isOne_27 (hTp) ?_
    refine lv_iconst (v := 1) hx hb dX10_isOne_28 (by decide) ?_
    refine lv_iload_n hx hb dX10_isOne_29 rfl (lv_at hl 2 rfl) ?_
    refine lv_ishl hx hb dX10_isOne_30 ?_
    refine topi (z := nI (2 ^ qa)) (shl1 _ (by omega)) ?_
    refine lv_ixor hx hb dX10_isOne_31 ?_
    refine topi (z := nI ((ntX net pa qa) pa ||| 2 ^ pa)) ((nI_xor _ _).trans (congrArg nI (ntX_told hpq))) ?_
    refine k_astnN (j := pa) hI S hK hM 1 (by decide) rfl (show pa < 4 by omega) dX10_isOne_32 (fun H locs hM => ?_)
    refine lv_aload_n hx hb dX10_isOne_33 rfl (lv_at hl 0 rfl) ?_
    have hR := hRf _ (hSt.at hM hPh)
    refine va_get (v := .ref (a 0)) (D := D) (ci := 12) (C := RX10) (T := TX10) (N := 3) S.1 S.2.1 S.2.2.2.2 in_X10 S.2.2.2.1 hK hR 0 rfl rfl 2 (by decide) (S.2.2.2.2 _ q612) (fun _ h9 => h9) rfl dX10_isOne_34 ?_
    refine lv_aload_n hx hb dX10_isOne_37 rfl (lv_at hl 0 rfl) ?_
    have hR := hRf _ (hSt.at hM hPh)
    refine va_get (v := .int (nI r)) (D := D) (ci := 12) (C := RX10) (T := TX10) (N := 3) S.1 S.2.1 S.2.2.2.2 in_X10 S.2.2.2.1 hK hR 0 rfl rfl 1 (by decide) (S.2.2.2.2 _ q611) (fun _ h9 => h9) rfl dX10_isOne_38 ?_
    refine kc2_VN (rest := []) [.int (nI r)] 1 S hK2 hM (KC.k2 (k0_verdictFirst l D dA a hI _ Ph hSt n (ntX net pa qa) hGf T hSN.b1 hT (by omega) r hr4)) q600 q60 (hK2.2.1 _ q597 rfl) q599 qs20 (by decide +kernel : yX0_verdictFirst.cls ≠ "java/lang/invoke/MethodHandle" ∧ yX0_verdictFirst.cls ≠ "java/lang/invoke/VarHandle" ∧ (parseMethodDescriptor yX0_verdictFirst.desc).map (fun d => d.parameters.length) = some 1) rfl ⟨Nat.le_of_ble_eq_true rfl, Nat.le_of_ble_eq_true rfl⟩ (k_recv hK hM.1) hl.1 (Nat.le_of_ble_eq_true rfl) dX10_isOne_41 ⟨Nat.le_refl 0, Nat.le_refl 0⟩ (hSt.at hM hPh) (fun v9 σ41 H locs hq hM => ?_) rfl
    obtain ⟨rfl, hFR⟩ := hq
    refine W.eq (g2 := F0 m 44 ls [.int (vrd (val (ntX net pa qa) n r (st0 n) (al n)))]) rfl ?_
    refine lv_iconst (v := 2) hx hb dX10_isOne_44 (by decide) ?_
    refine lv_icmp_ne (tgt := 52) hx hb dX10_isOne_45 (by decide) (fun c_45 => ?_) (fun c_45 => ?_)
    · have c_45 := c_45
      refine lv_iconst (v := 0) hx hb dX10_isOne_52 (by decide) ?_
      refine lv_istore_n (lv' := [(3, .int 0), (0, .ref b), (1, .int (nI pa)), (2, .int (nI qa))]) hx hb dX10_isOne_53 rfl hl (by decide) rfl (fun ls hl => ?_)
      refine lv_aload_n hx hb dX10_isOne_54 rfl (lv_at hl 1 rfl) ?_
      have hR := hRf _ (hSt.at hM hPh)
      refine va_get (v := .ref (a 0)) (D := D) (ci := 12) (C := RX10) (T := TX10) (N := 3) S.1 S.2.1 S.2.2.2.2 in_X10 S.2.2.2.1 hK hR 0 rfl rfl 2 (by decide) (S.2.2.2.2 _ q612) (fun _ h9 => h9) rfl dX10_isOne_55 ?_
      refine k_getN (v := .ref (a 1)) S hK hM.1 1 (by decide) (hK2.2.1 _ q135 rfl) rfl dX10_isOne_58 rfl ?_
      refine lv_iload_n hx hb dX10_isOne_61 rfl (lv_at hl 2 rfl) ?_
      refine lv_dup2_11 hx hb dX10_isOne_62 rfl rfl ?_
      refine k_aldnN (j := pa) (v := nI ((ntX net pa qa) pa ||| 2 ^ pa)) S hK hM.1 1 (by decide) rfl (show pa < 4 by omega) dX10_isOne_63 ((congrFun (hFR.2.1 1 (by decide) (by decide) (by decide)) pa).trans pk_us) ?_
      refine lv_iconst (v := 1) hx hb dX10_isOne_64 (by decide) ?_
      refine lv_iload_n hx hb dX10_isOne_65 rfl (lv_at hl 3 rfl) ?_
      refine lv_ishl hx hb dX10_isOne_66 ?_
      refine topi (z := nI (2 ^ qa)) (shl1 _ (by omega)) ?_
      refine lv_ixor hx hb dX10_isOne_67 ?_
      refine topi (z := nI (net pa ||| 2 ^ pa)) ((nI_xor _ _).trans (congrArg nI (by rw [← ntX_told hpq, Nat.xor_assoc, Nat.xor_self, Nat.xor_zero]))) ?_
      refine k_astnN (j := pa) hI S hK hM 1 (by decide) rfl (show pa < 4 by omega) dX10_isOne_68 (fun H locs hM => ?_)
      refine lv_iload_n hx hb dX10_isOne_69 rfl (lv_at hl 0 rfl) ?_
      exact k_zret S hr hlk hM dX10_isOne_70 (by decide) (⟨by simp [meB, b2i, *], PTd.mend hSN hFR hTp⟩)
    · have c_45 := c_45
      refine lv_iconst (v := 1) hx hb dX10_isOne_48 (by decide) ?_
      refine lv_goto (tgt := 53) hx hb dX10_isOne_49 (by decide) ?_
      refine lv_istore_n (lv' := [(3, .int 1), (0, .ref b), (1, .int (nI pa)), (2, .int (nI qa))]) hx hb dX10_isOne_53 rfl hl (by decide) rfl (fun ls hl => ?_)
      refine lv_aload_n hx hb dX10_isOne_54 rfl (lv_at hl 1 rfl) ?_
      have hR := hRf _ (hSt.at hM hPh)
      refine va_get (v := .ref (a 0)) (D := D) (ci := 12) (C := RX10) (T := TX10) (N := 3) S.1 S.2.1 S.2.2.2.2 in_X10 S.2.2.2.1 hK hR 0 rfl rfl 2 (by decide) (S.2.2.2.2 _ q612) (fun _ h9 => h9) rfl dX10_isOne_55 ?_
      refine k_getN (v := .ref (a 1)) S hK hM.1 1 (by decide) (hK2.2.1 _ q135 rfl) rfl dX10_isOne_58 rfl ?_
      refine lv_iload_n hx hb dX10_isOne_61 rfl (lv_at hl 2 rfl) ?_
      refine lv_dup2_11 hx hb dX10_isOne_62 rfl rfl ?_
      refine k_aldnN (j := pa) (v := nI ((ntX net pa qa) pa ||| 2 ^ pa)) S hK hM.1 1 (by decide) rfl (show pa < 4 by omega) dX10_isOne_63 ((congrFun (hFR.2.1 1 (by decide) (by decide) (by decide)) pa).trans pk_us) ?_
      refine lv_iconst (v := 1) hx hb dX10_isOne_64 (by decide) ?_
      refine lv_iload_n hx hb dX10_isOne_65 rfl (lv_at hl 3 rfl) ?_
      refine lv_ishl hx hb dX10_isOne_66 ?_
      refine topi (z := nI (2 ^ qa)) (shl1 _ (by omega)) ?_
      refine lv_ixor hx hb dX10_isOne_67 ?_
      refine topi (z := nI (net pa ||| 2 ^ pa)) ((nI_xor _ _).trans (congrArg nI (by rw [← ntX_told hpq, Nat.xor_assoc, Nat.xor_self, Nat.xor_zero]))) ?_
      refine k_astnN (j := pa) hI S hK hM 1 (by decide) rfl (show pa < 4 by omega) dX10_isOne_68 (fun H locs hM => ?_)
      refine lv_iload_n hx hb dX10_isOne_69 rfl (lv_at hl 0 rfl) ?_
      exact k_zret S hr hlk hM dX10_isOne_70 (by decide) (⟨by simp [meB, b2i, *], PTd.mend hSN hFR hTp⟩)
  · have c_13 := b2i_ne0.mp c_13
    have c_13 := (told_tb hpq).symm.trans c_13
    refine lv_iconst (v := 0) hx hb dX10_isOne_16 (by decide) ?_
    exact k_zret S hr hlk hM dX10_isOne_17 (by decide) (⟨by simp [meB, b2i, *], (PTd.rf hSN).wk (by omega)⟩)
