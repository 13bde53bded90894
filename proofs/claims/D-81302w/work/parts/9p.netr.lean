/-! NETR: the net is put by and laid back -/
set_option maxRecDepth 100000
theorem P_l {D : va_G} {cl : List vw_C} {w1 w2 : va_W} {H : Heap} (h : va_P D cl (w1 ++ w2) H) : va_P D cl w1 H := fun k q hk => h k q (by rw [List.getElem?_append_left (List.getElem?_eq_some_iff.mp hk).1]; exact hk)
theorem P_r {D : va_G} {cl : List vw_C} {w1 w2 : va_W} {H : Heap} (h : va_P D cl (w1 ++ w2) H) : va_P D cl w2 H := fun k q hk => h (w1.length + k) q (by rw [List.getElem?_append_right (by omega), Nat.add_sub_cancel_left]; exact hk)
theorem kD {dA : Nat → ClassId} {a : Nat → Nat} {σ : MS} {A0 : Nat → Prop} (hI : kInj a) (hA : ∀ q, kAd a q → A0 q) : va_D A0 (kW dA a σ) := (kW_D hI).weaken (fun _ _ _ h => hA _ h)
theorem kW_1 {dA : Nat → ClassId} {a : Nat → Nat} {σ : MS} : (kW dA a σ)[kPos 1]? = some (a 1, .inl (dA 0, 4, .inl (σ.2.1 1))) := (kW_k (by decide)).trans (by rw [kE_int rfl]; rfl)
section NETR
variable {p : Program} {l : Launch} {e : Env} {R : Room} {s : State} {m : MethodId} {args : Array Value} {below : List Frame} {meth : Method} {c : Code} {H : Heap} {locs : List Loc} {cells slots : Nat} {Q : State → Prop}
variable {cc : ByteArray} {pc nL : Nat} {ls : Array Slot} {rest : List Value} {D : va_G} {dA : Nat → ClassId} {a : Nat → Nat} {σ : MS} {A0 : Nat → Prop} {H0 : Heap} {own : String} {index : Nat}
theorem n_clone (hI : kInj a) (S : CallFix p m c cc nL s args lw_all own) (hK : K2 D dA s) (hP : va_P D vwCl (kW dA a σ) H) (hA : ∀ q, kAd a q → A0 q) (hnew : ∀ q, H0.size ≤ q → A0 q) (hS : va_S A0 H0 H locs) (hlink : Cond.methodLink own index ⟨"[I", "clone", "()Ljava/lang/Object;"⟩ ∈ lw_all) (hsz : ls.size = nL) (hframes : 1 ≤ R.frames) (hlocals : (rest.map fun v => v.category).sum + 14 ≤ R.locals) (hcells : cells + 1 ≤ R.cells) (hslots : slots + 4 ≤ R.slots) (hdg : decode cc pc = .ok (.invokevirtual index, 3))
    (kk : ∀ (q : Nat) (H : Heap), va_P D vwCl (kW dA a σ) H → va_P D vwCl [(q, .inl (dA 0, 4, .inl (σ.2.1 1)))] H → ¬ kAd a q → A0 q → va_S A0 H0 H locs → W p l e R s m args below meth c H locs (cells + 1) (slots + 4) Q (F0 m (pc + 3) ls (.ref q :: rest))) : W p l e R s m args below meth c H locs cells slots Q (F0 m pc ls (.ref (a 1) :: rest)) := by
  refine va_clone (D := D) (ad := "[I") (ty := .int) S.1 S.2.1 (S.2.2.1.trans hsz.symm) S.2.2.2.1 (S.2.2.2.2 _ hlink) (S.2.2.2.2 _ q631) (S.2.2.2.2 _ q632) (S.2.2.2.2 _ q633) (S.2.2.2.2 _ q634) (hK.2.1 _ q635 rfl) hK.1 hP (kD hI hA) hS hnew (kPos 1) 0 kW_1 rfl (va_nm_int (hK.1.2 0 (dA 0, .int) rfl).2) ?_ hframes hlocals hcells hslots hdg (fun q H1 _ h1 h2 h3 => ?_)
  · intro i v hv
    rw [show (vp_cell (dA 0) (4, .inl (σ.2.1 1))).slots = (arrV (dA 0) 4 (fun k => .int (σ.2.1 1 k))).slots from rfl] at hv
    have hi : i < 4 := by
      have := (Array.getElem?_eq_some_iff.mp hv).1
      rw [arrV_size] at this
      exact this
    rw [arrV_read _ _ hi] at hv
    cases hv
    rfl
  · have e0 : (kW dA a σ ++ [(q, (Sum.inl (dA 0, 4, .inl (σ.2.1 1)) : va_E))])[(kW dA a σ).length]? = some (q, .inl (dA 0, 4, .inl (σ.2.1 1))) := by rw [List.getElem?_append_right (by omega), Nat.sub_self]; rfl
    refine kk q H1 (P_l h1) (P_r h1) ?_ (h2.2 _ _ e0) h3
    intro hq
    obtain ⟨k, hk, e⟩ := hq
    have : ∃ (j : Nat) (y : va_E), (kW dA a σ)[j]? = some (q, y) := by
      rcases List.mem_cons.mp hk with e9 | e9
      · subst e9; exact ⟨0, _, by rw [e]; exact kW_0⟩
      · exact ⟨kPos k, _, by rw [e]; exact kW_k e9⟩
    obtain ⟨j, y, hj⟩ := this
    have hjl := (List.getElem?_eq_some_iff.mp hj).1
    have := h2.1 j (kW dA a σ).length (q, y) _ (by rw [List.getElem?_append_left hjl]; exact hj) e0 rfl
    omega
theorem kx_D {q : Nat} {x : va_E} (hI : kInj a) (hA : ∀ q, kAd a q → A0 q) (hq : A0 q) (hn : ¬ kAd a q) : va_D A0 (kW dA a σ ++ [(q, x)]) :=
  va_D.app (kD hI hA) (D1 hq) (fun i j u v hu hv e => by
    match j, hv with
    | 0, hv =>
      cases hv
      exact hn (by rw [← show u.1 = q from e]; exact (kW_D (dA := dA) (σ := σ) hI).2 i u hu)
    | j + 1, hv => simp at hv)
theorem kW_len {dA : Nat → ClassId} {a : Nat → Nat} {σ : MS} : (kW dA a σ).length = 7 := rfl
/-- an int field of the component, a cell beside it -/
theorem n_puti {qx : Nat} {x : va_E} (hI : kInj a) (S : CallFix p m c cc nL s args lw_all RX0) (hK : va_K D vwCl (tyL dA) s) (hP : va_P D vwCl (kW dA a σ) H) (hC : va_P D vwCl [(qx, x)] H) (hA : ∀ q, kAd a q → A0 q) (hq : A0 qx) (hn : ¬ kAd a qx) (hS : va_S A0 H0 H locs) (k : Nat) (hk : k < 15) (hkd : kKd k = 0) (hlink : Cond.fieldLink RX0 index RX0 (TX0 k).2.1 (TX0 k).2.2.1 ∈ lw_all) (hf : (TX0 k).1 = RX0) (hfin : (TX0 k).2.2.2 = false) (hd : parseFieldDescriptor (TX0 k).2.2.1 = some .int) (hdg : decode cc pc = .ok (.putfield index, 3))
    {v : Int32} (kk : ∀ (H : Heap) (locs : List Loc), va_P D vwCl (kW dA a (σ.i k v)) H → va_P D vwCl [(qx, x)] H → va_S A0 H0 H locs → W p l e R s m args below meth c H locs cells slots Q (F0 m (pc + 3) ls rest)) : W p l e R s m args below meth c H locs cells slots Q (F0 m pc ls (.int v :: .ref (a 0) :: rest)) := by
  refine va_put (D := D) (ci := 0) (C := RX0) (T := TX0) (N := 15) (ty := .int) S.1 S.2.1 S.2.2.2.2 in_X0 tyX0 tyX0_ok nmX0 S.2.2.2.1 hK (va_P.app hP hC) (kx_D hI hA hq hn) hS 0 (by rw [List.getElem?_append_left (by rw [kW_len]; decide)]; exact kW_0) rfl k hk (S.2.2.2.2 _ hlink) (fun _ h9 => by rw [hf] at h9; exact h9) hfin hd rfl rfl (by simpa [kF] using hk) hdg (fun H1 locs1 h1 h2 h3 => ?_)
  rw [List.set_append_left _ _ (by rw [kW_len]; decide)] at h1
  have e1 : (kW dA a σ).set 0 (a 0, .inr (0, (kF a σ).set k (.int v))) = kW dA a (σ.i k v) := by
    rw [kF_set (σ' := σ.i k v) (.int v) (by simp [kFv, hkd, MS.i, va_up]) (fun j hj => by simp [kFv, MS.i, va_up, hj])]
    exact kW_set0 rfl (fun q => by simp [kE, MS.i])
  rw [e1] at h1
  exact kk H1 locs1 (P_l h1) (P_r h1) h3
/-- four places out of a row beside are laid into the net -/
theorem n_cpy {qx n0 : Nat} {f : Nat → Int32} (hn0 : 4 ≤ n0) (hI : kInj a) (S : CallFix p m c cc nL s args lw_all own) (hK : va_K D vwCl (tyL dA) s) (hP : va_P D vwCl (kW dA a σ) H) (hC : va_P D vwCl [(qx, .inl (dA 0, n0, .inl f))] H) (hA : ∀ q, kAd a q → A0 q) (hq : A0 qx) (hn : ¬ kAd a qx) (hS : va_S A0 H0 H locs) (hlink : Cond.methodLink own index arraycopyName ∈ lw_all) (hsz : ls.size = nL) (hframes : 1 ≤ R.frames) (hlocals : (rest.map fun v => v.category).sum + (nativeFrameWords "java/lang/System" "arraycopy" 5 + 11) ≤ R.locals) (hdg : decode cc pc = .ok (.invokestatic index, 3))
    (kk : ∀ (H : Heap) (locs : List Loc), va_P D vwCl (kW dA a (σ.b 1 (va_cpy f (σ.2.1 1) 0 0 4))) H → va_S A0 H0 H locs → W p l e R s m args below meth c H locs cells slots Q (F0 m (pc + 3) ls rest)) : W p l e R s m args below meth c H locs cells slots Q (F0 m pc ls (.int 4 :: .int 0 :: .ref (a 1) :: .int 0 :: .ref qx :: rest)) := by
  have h7 : kPos 1 < (kW dA a σ).length := by rw [kW_len]; decide
  refine va_copyi (D := D) (ty := .int) S.1 S.2.1 (S.2.2.1.trans hsz.symm) S.2.2.2.1 (S.2.2.2.2 _ hlink) (S.2.2.2.2 _ q411) (S.2.2.2.2 _ q410) (S.2.2.2.2 _ q77) hK (va_P.app hP hC) (kx_D hI hA hq hn) hS (kW dA a σ).length (kPos 1) 0 0 (by rw [List.getElem?_append_right (by omega), Nat.sub_self]; rfl) (by rw [List.getElem?_append_left h7]; exact kW_1) rfl rfl rfl (by decide) (by decide) (by decide) (by rw [show (0 : Int32).toNatClampNeg = 0 from rfl, show (4 : Int32).toNatClampNeg = 4 from rfl]; omega) (by decide) (fun _ _ => rfl) hframes hlocals hdg (fun H1 locs1 h1 h2 h3 => ?_)
  rw [List.set_append_left _ _ h7, show (0 : Int32).toNatClampNeg = 0 from rfl, show (4 : Int32).toNatClampNeg = 4 from rfl] at h1
  have h4 := P_l h1
  rw [kW_set (σ' := σ.b 1 (va_cpy f (σ.2.1 1) 0 0 4)) (by decide) _ (by rw [kE_int rfl]; simp [MS.b, va_up]; rfl) (fun j hj => by simp [kE, MS.b, va_up, hj]) (by simp [kF, kFv, MS.b])] at h4
  exact kk H1 locs1 h4 h3
end NETR
/-- behind nets: the net stays as far as it is seen, counts go on -/
def PNc (σ σ' : MS) (T : Nat) : Prop := (∀ k, k ≠ 9 → σ'.1 k = σ.1 k) ∧ (∀ k, k ≠ 1 → k ≠ 4 → k ≠ 7 → k ≠ 8 → σ'.2.1 k = σ.2.1 k) ∧ (∀ q, q < 4 → σ'.2.1 1 q = σ.2.1 1 q) ∧ ∃ T', T' ≤ T + 64 ∧ SNc σ' T'
theorem PTc.pn {σ σ' : MS} {T : Nat} (h : PTc σ σ' T) : PNc σ σ' T := ⟨h.1, fun k _ h1 h2 h3 => h.2.1 k h1 h2 h3, fun q _ => by rw [h.2.1 1 (by decide) (by decide) (by decide)], h.2.2⟩
/-- within nets -/
def NWc (σ ω : MS) (T d : Nat) : Prop := (∀ k, k ≠ 0 → k ≠ 9 → ω.1 k = σ.1 k) ∧ (∀ k, k ≠ 1 → k ≠ 4 → k ≠ 7 → k ≠ 8 → ω.2.1 k = σ.2.1 k) ∧ ∃ T', T' ≤ T + d ∧ SNc ω T'
theorem NWc.rf {σ : MS} {T : Nat} (h : SNc σ T) : NWc σ σ T 0 := ⟨fun _ _ _ => rfl, fun _ _ _ _ _ => rfl, T, by omega, h⟩
theorem NWc.wk {σ ω : MS} {T d d' : Nat} (h : NWc σ ω T d) (hd : d ≤ d') : NWc σ ω T d' := by
  obtain ⟨a, b, T', c, e⟩ := h
  exact ⟨a, b, T', by omega, e⟩
theorem NWc.ln {σ ω ω' : MS} {T d nv num i : Nat} (h : NWc σ ω T d) (hL : LNo ω ω' nv num i) : NWc σ ω' T d := by
  obtain ⟨g, rfl, -⟩ := hL
  obtain ⟨a, b, T', c, e⟩ := h
  refine ⟨fun k h0 h9 => (va_up_ne _ _ h0).trans (a k h0 h9), fun k h1 h2 h3 h4 => (va_up_ne _ _ h1).trans (b k h1 h2 h3 h4), T', c, e.1, e.2⟩
theorem NWc.lay {σ ω ω' : MS} {T d T1 : Nat} (h : NWc σ ω T d) (hT : T1 ≤ T + d) (hs : SNc ω T1) (hF : FRc (ω.i 9 (nI (T1 + 1))) ω' (nI (T1 + 1))) : NWc σ ω' T (d + 1) :=
  ⟨fun k h0 h9 => ((congrFun hF.1 k).trans (va_up_ne _ _ h9)).trans (h.1 k h0 h9), fun k h1 h2 h3 h4 => (hF.2.1 k h2 h3 h4).trans (h.2.1 k h1 h2 h3 h4), T1 + 1, by omega, hs.nx hF⟩
theorem NWc.pn {σ ω : MS} {T d : Nat} (h : NWc σ ω T d) (hd : d ≤ 64) : PNc σ ((ω.i 0 (σ.1 0)).b 1 (va_cpy (σ.2.1 1) ((ω.i 0 (σ.1 0)).2.1 1) 0 0 4)) T := by
  obtain ⟨a, b, T', c, e⟩ := h
  refine ⟨fun k hk => ?_, fun k h1 h2 h3 h4 => (va_up_ne _ _ h1).trans (b k h1 h2 h3 h4), fun q hq => ?_, T', by omega, e.1, e.2⟩
  · by_cases h0 : k = 0
    · subst h0
      show va_up ω.1 0 (σ.1 0) 0 = σ.1 0
      exact va_up_self _ _ _
    · exact (va_up_ne _ _ h0).trans (a k h0 hk)
  · have e9 : ((ω.i 0 (σ.1 0)).b 1 (va_cpy (σ.2.1 1) ((ω.i 0 (σ.1 0)).2.1 1) 0 0 4)).2.1 1 = va_cpy (σ.2.1 1) ((ω.i 0 (σ.1 0)).2.1 1) 0 0 4 := by simp [MS.b, va_up]
    rw [e9]
    show (if 0 ≤ q ∧ q < 0 + 4 then σ.2.1 1 (0 + (q - 0)) else (ω.i 0 (σ.1 0)).2.1 1 q) = _
    rw [if_pos (by omega), show 0 + (q - 0) = q by omega]
