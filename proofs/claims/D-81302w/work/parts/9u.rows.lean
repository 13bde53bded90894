/-! ROWS: an int array is made; a field of the component is written and all else stays; a row is copied into the net, worlds beside -/
set_option maxRecDepth 100000
section ROWS
variable {p : Program} {l : Launch} {e : Env} {R : Room} {s : State} {m : MethodId} {args : Array Value} {below : List Frame} {meth : Method} {c : Code} {H : Heap} {locs : List Loc} {cells slots : Nat} {Q : State → Prop}
variable {cc : ByteArray} {pc nL : Nat} {ls : Array Slot} {rest : List Value} {D : va_G} {dA : Nat → ClassId} {a : Nat → Nat} {σ : MS} {A0 : Nat → Prop} {H0 : Heap} {own : String} {index : Nat}
theorem g_newi {N : Nat} {n : Int32} (S : CallFix p m c cc nL s args lw_all own) (hK : va_K D vwCl (tyL dA) s) (hS : va_S A0 H0 H locs) (hn : ¬ n < 0) (hN : n.toNatClampNeg = N) (hbytes : N * componentBytes .int ≤ 536870912) (hcells : cells + 1 ≤ R.cells) (hslots : slots + N ≤ R.slots) (hdg : decode cc pc = .ok (.newarray .int, 2))
    (kk : ∀ (q : Nat) (H1 : Heap), q = H.size → va_P D vwCl [(q, .inl (dA 0, N, .inl (fun _ => 0)))] H1 → H1.size = H.size + 1 → (∀ x, x < H.size → H1[x]? = H[x]?) → va_S A0 H0 H1 locs → W p l e R s m args below meth c H1 locs (cells + 1) (slots + N) Q (F0 m (pc + 2) ls (.ref q :: rest))) : W p l e R s m args below meth c H locs cells slots Q (F0 m pc ls (.int n :: rest)) := by
  refine va_newaK S.1 S.2.1 (atype := .int) (S.2.2.2.2 _ q128) (g := F0 m pc ls (.int n :: rest)) rfl hdg rfl hn hN hbytes hcells hslots rfl (fun H1 cA h1 h2 h3 _ h5 => ?_)
  have hcA : cA = dA 0 := Option.some.inj ((show s.vm.findClass "[I" = some cA from (show "[" ++ FieldType.int.toString = "[I" by decide +kernel) ▸ h5).symm.trans (va_nm_int (hK.2 0 (dA 0, .int) rfl).2))
  subst hcA
  refine kk H.size H1 rfl (fun k x hx => ?_) h2 h3 ⟨Nat.le_trans hS.1 (by omega), fun x g1 g2 => (h3 x (Nat.lt_of_lt_of_le g1 hS.1)).trans (hS.2.1 x g1 g2), hS.2.2⟩
  match k, hx with
  | 0, hx => cases hx; exact h1
  | k + 1, hx => simp at hx
/-- an int field of the component: all other cells stay -/
theorem k_put1 (hI : kInj a) (S : CallFix p m c cc nL s args lw_all RX0) (hK : va_K D vwCl (tyL dA) s) (hP : va_P D vwCl (kW dA a σ) H) (hA : A0 (a 0)) (hS : va_S A0 H0 H locs) (k : Nat) (hk : k < 15) (hkd : kKd k = 0) (hlink : Cond.fieldLink RX0 index RX0 (TX0 k).2.1 (TX0 k).2.2.1 ∈ lw_all) (hf : (TX0 k).1 = RX0) (hfin : (TX0 k).2.2.2 = false) (hd : parseFieldDescriptor (TX0 k).2.2.1 = some .int) (hdg : decode cc pc = .ok (.putfield index, 3))
    {v : Int32} (kk : ∀ (H1 : Heap) (locs : List Loc), va_P D vwCl (kW dA a (σ.i k v)) H1 → H1.size = H.size → (∀ q, q ≠ a 0 → H1[q]? = H[q]?) → va_S A0 H0 H1 locs → W p l e R s m args below meth c H1 locs cells slots Q (F0 m (pc + 3) ls rest)) : W p l e R s m args below meth c H locs cells slots Q (F0 m pc ls (.int v :: .ref (a 0) :: rest)) := by
  refine g_put (C := RX0) (T := TX0) (N := 15) (ci := 0) (ty := .int) S in_X0 tyX0 tyX0_ok nmX0 hK (hP.sub [0] rfl : va_P D vwCl [(a 0, .inr (0, kF a σ))] H) rfl k hk (by simp [kF]) hlink (fun _ h9 => by rw [hf] at h9; exact h9) hfin hd rfl rfl hS hA hdg (fun H1 locs1 h1 h2 h3 h4 => ?_)
  refine kk H1 locs1 ?_ h2 h3 h4
  have e1 : (kF a σ).set k (.int v) = kF a (σ.i k v) := kF_set (σ' := σ.i k v) (.int v) (by simp [kFv, hkd, MS.i, va_up]) (fun j hj => by simp [kFv, MS.i, va_up, hj])
  rw [e1] at h1
  intro j x hx
  by_cases hj : j = 0
  · subst hj
    cases hx
    exact h1 0 _ rfl
  · have hx' : (kW dA a σ)[j]? = some x := by
      obtain ⟨j', rfl⟩ : ∃ j', j = j' + 1 := ⟨j - 1, by omega⟩
      exact hx
    have hne : x.1 ≠ a 0 := fun e => hj ((kW_D (dA := dA) (σ := σ) hI).1 j 0 x _ hx' kW_0 e)
    exact (va_P.off (b := a 0) (ws := [x]) (fun k q hq => by
      match k, hq with
      | 0, hq => cases hq; exact hP j _ hx'
      | k + 1, hq => simp at hq) h3 (fun k q hq => by
      match k, hq with
      | 0, hq => cases hq; exact hne
      | k + 1, hq => simp at hq)) 0 _ rfl
/-- four places of a row are laid into the net; the row and what is beside it stay -/
theorem n_cpyX {qx n0 j : Nat} {f : Nat → Int32} {ext : va_W} (hn0 : 4 ≤ n0) (S : CallFix p m c cc nL s args lw_all own) (hK : va_K D vwCl (tyL dA) s) (hP : va_P D vwCl (kW dA a σ) H) (hX : va_P D vwCl ext H) (hj : ext[j]? = some (qx, .inl (dA 0, n0, .inl f))) (hD : va_D A0 (kW dA a σ ++ ext)) (hS : va_S A0 H0 H locs) (hlink : Cond.methodLink own index arraycopyName ∈ lw_all) (hsz : ls.size = nL) (hframes : 1 ≤ R.frames) (hlocals : (rest.map fun v => v.category).sum + (nativeFrameWords "java/lang/System" "arraycopy" 5 + 11) ≤ R.locals) (hdg : decode cc pc = .ok (.invokestatic index, 3))
    (kk : ∀ (H : Heap) (locs : List Loc), va_P D vwCl (kW dA a (σ.b 1 (va_cpy f (σ.2.1 1) 0 0 4))) H → va_P D vwCl ext H → va_S A0 H0 H locs → W p l e R s m args below meth c H locs cells slots Q (F0 m (pc + 3) ls rest)) : W p l e R s m args below meth c H locs cells slots Q (F0 m pc ls (.int 4 :: .int 0 :: .ref (a 1) :: .int 0 :: .ref qx :: rest)) := by
  have h7 : kPos 1 < (kW dA a σ).length := by rw [kW_len]; decide
  refine va_copyi (D := D) (ty := .int) S.1 S.2.1 (S.2.2.1.trans hsz.symm) S.2.2.2.1 (S.2.2.2.2 _ hlink) (S.2.2.2.2 _ q411) (S.2.2.2.2 _ q410) (S.2.2.2.2 _ q77) hK (va_P.app hP hX) hD hS ((kW dA a σ).length + j) (kPos 1) 0 0 (by rw [List.getElem?_append_right (by omega), Nat.add_sub_cancel_left]; exact hj) (by rw [List.getElem?_append_left h7]; exact kW_1) rfl rfl rfl (by decide) (by decide) (by decide) (by rw [show (0 : Int32).toNatClampNeg = 0 from rfl, show (4 : Int32).toNatClampNeg = 4 from rfl]; omega) (by decide) (fun _ _ => rfl) hframes hlocals hdg (fun H1 locs1 h1 h2 h3 => ?_)
  rw [List.set_append_left _ _ h7, show (0 : Int32).toNatClampNeg = 0 from rfl, show (4 : Int32).toNatClampNeg = 4 from rfl] at h1
  have h4 := P_l h1
  rw [kW_set (σ' := σ.b 1 (va_cpy f (σ.2.1 1) 0 0 4)) (by decide) _ (by rw [kE_int rfl]; simp [MS.b, va_up]; rfl) (fun j hj => by simp [kE, MS.b, va_up, hj]) (by simp [kF, kFv, MS.b])] at h4
  exact kk H1 locs1 h4 (P_r h1) h3
/-- a final field of the reader -/
theorem rd_p2 {x0 x1 x2 x3 v : Value} {b : Nat} (S : CallFix p m c cc nL s args lw_all RX4) (hK : va_K D vwCl (tyL dA) s) (hP : va_P D vwCl [(b, .inr (7, [x0, x1, x2, x3]))] H) (hv : ∃ q, v = .ref q) (hlink : Cond.fieldLink RX4 index RX4 (TX4 2).2.1 (TX4 2).2.2.1 ∈ lw_all) (hin2 : meth.name = "<init>") (hS0 : va_S A0 H0 H locs) (hAb : A0 b) (hdg : decode cc pc = .ok (.putfield index, 3))
    (kk : ∀ (H1 : Heap) (locs : List Loc), va_P D vwCl [(b, .inr (7, [x0, x1, v, x3]))] H1 → (∀ q, q ≠ b → H1[q]? = H[q]?) → H1.size = H.size → va_S A0 H0 H1 locs → W p l e R s m args below meth c H1 locs cells slots Q (F0 m (pc + 3) ls rest)) : W p l e R s m args below meth c H locs cells slots Q (F0 m pc ls (v :: .ref b :: rest)) := by
  obtain ⟨q, rfl⟩ := hv
  refine g_putF (C := RX4) (T := TX4) (N := 4) (ci := 7) (ref := RX4) (index := index) (ty := .array .int) S in_X4 tyX4 tyX4_ok hK hP rfl 2 (by decide) rfl hlink (fun _ h9 => h9) rfl hin2 rfl (by decide +kernel) rfl rfl hS0 hAb hdg (fun H1 locs1 fs' b1 b2 b3 b4 b5 b6 b7 b8 => ?_)
  rw [show fs' = [x0, x1, .ref q, x3] from ext_set (fs := [x0, x1, x2, x3]) (N := 4) (k := 2) rfl b1 (by decide) b2 (fun j hj hne => b3 j hj (nmX4 j hj 2 (by decide) hne))] at b5
  exact kk H1 locs1 b5 b7 b6 b8
theorem rd_p0 {x0 x1 x2 x3 v : Value} {b : Nat} (S : CallFix p m c cc nL s args lw_all RX4) (hK : va_K D vwCl (tyL dA) s) (hP : va_P D vwCl [(b, .inr (7, [x0, x1, x2, x3]))] H) (hv : ∃ q, v = .ref q) (hlink : Cond.fieldLink RX4 index RX4 (TX4 0).2.1 (TX4 0).2.2.1 ∈ lw_all) (hin2 : meth.name = "<init>") (hS0 : va_S A0 H0 H locs) (hAb : A0 b) (hdg : decode cc pc = .ok (.putfield index, 3))
    (kk : ∀ (H1 : Heap) (locs : List Loc), va_P D vwCl [(b, .inr (7, [v, x1, x2, x3]))] H1 → (∀ q, q ≠ b → H1[q]? = H[q]?) → H1.size = H.size → va_S A0 H0 H1 locs → W p l e R s m args below meth c H1 locs cells slots Q (F0 m (pc + 3) ls rest)) : W p l e R s m args below meth c H locs cells slots Q (F0 m pc ls (v :: .ref b :: rest)) := by
  obtain ⟨q, rfl⟩ := hv
  refine g_putF (C := RX4) (T := TX4) (N := 4) (ci := 7) (ref := RX4) (index := index) (ty := .array .int) S in_X4 tyX4 tyX4_ok hK hP rfl 0 (by decide) rfl hlink (fun _ h9 => h9) rfl hin2 rfl (by decide +kernel) rfl rfl hS0 hAb hdg (fun H1 locs1 fs' b1 b2 b3 b4 b5 b6 b7 b8 => ?_)
  rw [show fs' = [.ref q, x1, x2, x3] from ext_set (fs := [x0, x1, x2, x3]) (N := 4) (k := 0) rfl b1 (by decide) b2 (fun j hj hne => b3 j hj (nmX4 j hj 0 (by decide) hne))] at b5
  exact kk H1 locs1 b5 b7 b6 b8
end ROWS
