/-! COMPONENT 48: both constructors (by program: gen/comp48.py) -/
set_option maxRecDepth 100000
section ROWS2
variable {p : Program} {l : Launch} {e : Env} {R : Room} {s : State} {m : MethodId} {args : Array Value} {below : List Frame} {meth : Method} {c : Code} {H : Heap} {locs : List Loc} {cells slots : Nat} {Q : State → Prop}
variable {cc : ByteArray} {pc nL : Nat} {ls : Array Slot} {rest : List Value} {D : va_G} {dA : Nat → ClassId} {a : Nat → Nat} {σ : MS} {A0 : Nat → Prop} {H0 : Heap} {own : String} {index : Nat}
theorem g_newl {N : Nat} {n : Int32} (S : CallFix p m c cc nL s args lw_all own) (hK : va_K D vwCl (tyL dA) s) (hS : va_S A0 H0 H locs) (hn : ¬ n < 0) (hN : n.toNatClampNeg = N) (hbytes : N * componentBytes .long ≤ 536870912) (hcells : cells + 1 ≤ R.cells) (hslots : slots + N ≤ R.slots) (hdg : decode cc pc = .ok (.newarray .long, 2))
    (kk : ∀ (q : Nat) (H1 : Heap), q = H.size → va_P D vwCl [(q, .inl (dA 1, N, .inr (.inl (fun _ => 0))))] H1 → H1.size = H.size + 1 → (∀ x, x < H.size → H1[x]? = H[x]?) → va_S A0 H0 H1 locs → W p l e R s m args below meth c H1 locs (cells + 1) (slots + N) Q (F0 m (pc + 2) ls (.ref q :: rest))) : W p l e R s m args below meth c H locs cells slots Q (F0 m pc ls (.int n :: rest)) := by
  refine va_newaK S.1 S.2.1 (atype := .long) (S.2.2.2.2 _ q183) (g := F0 m pc ls (.int n :: rest)) rfl hdg rfl hn hN hbytes hcells hslots rfl (fun H1 cA h1 h2 h3 _ h5 => ?_)
  have hcA : cA = dA 1 := Option.some.inj ((show s.vm.findClass "[J" = some cA from (show "[" ++ FieldType.long.toString = "[J" by decide +kernel) ▸ h5).symm.trans (va_nm_long (hK.2 1 (dA 1, .long) rfl).2))
  subst hcA
  refine kk H.size H1 rfl (fun k x hx => ?_) h2 h3 ⟨Nat.le_trans hS.1 (by omega), fun x g1 g2 => (h3 x (Nat.lt_of_lt_of_le g1 hS.1)).trans (hS.2.1 x g1 g2), hS.2.2⟩
  match k, hx with
  | 0, hx => cases hx; exact h1
  | k + 1, hx => simp at hx
theorem g_newq (S : CallFix p m c cc nL s args lw_all own) {C : String} (hclink : Cond.classLink own index C ∈ lw_all) (hover : va_AO C s) (hK : va_K D vwCl (tyL dA) s) (t0 : Nat) (ht : (tyL dA)[t0]? = some (dA t0, .object C)) (hS : va_S A0 H0 H locs)
    {n : Int32} {N' : Nat} (hn : ¬ n < 0) (hN : n.toNatClampNeg = N') (hbytes : N' * 4 ≤ 536870912) (hcells : cells + 1 ≤ R.cells) (hslots : slots + N' ≤ R.slots) (hdg : decode cc pc = .ok (.anewarray index, 3))
    (kk : ∀ (q : Nat) (H1 : Heap), q = H.size → va_P D vwCl [(q, .inl (dA t0, N', .inr (.inr (.inr (.inr (fun _ => none))))))] H1 → H1.size = H.size + 1 → (∀ x, x < H.size → H1[x]? = H[x]?) → va_S A0 H0 H1 locs → W p l e R s m args below meth c H1 locs (cells + 1) (slots + N') Q (F0 m (pc + 3) ls (.ref q :: rest))) : W p l e R s m args below meth c H locs cells slots Q (F0 m pc ls (.int n :: rest)) := by
  subst hN
  refine W.anew S.1 S.2.1 S.2.2.2.1 (S.2.2.2.2 _ hclink) (va_AO.use hover) rfl hdg rfl hn hbytes hcells hslots fun cA kA comp f1 f2 f3 f4 => ?_
  obtain ⟨k1, c1, -, -, -, g4⟩ := (hK.2 t0 _ ht).2
  have hcA : cA = dA t0 := Option.some.inj (f1.symm.trans g4)
  subst hcA
  generalize hH1 : H.push ({ cls := dA t0, slots := Array.replicate n.toNatClampNeg .null, vm := .none } : Cell) = H1
  have z1 : H1.size = H.size + 1 := by rw [← hH1, Array.size_push]
  have e1 : H1[H.size]? = some (arrV (dA t0) n.toNatClampNeg (fun _ => .null)) := by rw [← hH1, Array.getElem?_push_size, ← arrV_new]
  have o1 : ∀ q : Nat, q < H.size → H1[q]? = H[q]? := fun q hq => by rw [← hH1, Array.getElem?_push, if_neg (Nat.ne_of_lt hq)]
  refine kk H.size H1 rfl (fun k x hx => ?_) z1 o1 ⟨Nat.le_trans hS.1 (by omega), fun x h1 h2 => (o1 x (Nat.lt_of_lt_of_le h1 hS.1)).trans (hS.2.1 x h1 h2), hS.2.2⟩
  match k, hx with
  | 0, hx => cases hx; exact e1
  | k + 1, hx => simp at hx
/-- a final field in a constructor, names all apart -/
theorem g_putFs {ref C : String} {T : u_T} {N ci b : Nat} (S : CallFix p m c cc nL s args lw_all own) (hin : ∀ w ∈ u_ws C T N, w ∈ lw_all) (ty0 : Nat → FieldType) (hty : ∀ k, k < N → parseFieldDescriptor (T k).2.2.1 = some (ty0 k)) (hnm : ∀ a, a < N → ∀ b, b < N → a ≠ b → (T a).2.1 ≠ (T b).2.1) (hK : va_K D vwCl (tyL dA) s) {fs : List Value} (hP : va_P D vwCl [(b, .inr (ci, fs))] H) (hc : vwCl[ci]? = some (C, T, N)) (k : Nat) (hk : k < N) (hlen : fs.length = N) (hlink : Cond.fieldLink own index ref (T k).2.1 (T k).2.2.1 ∈ lw_all) (hsame : ∀ x, s.fieldFound? (T k).1 (T k).2.1 (T k).2.2.1 = some x → s.fieldFound? ref (T k).2.1 (T k).2.2.1 = some x) (hfin : (T k).2.2.2 = true) (hin2 : meth.name = "<init>") (hdecl : (T k).1 = own) {ty : FieldType} {v : Value} (hd : parseFieldDescriptor (T k).2.2.1 = some ty) (hn : narrow ty v = v) (hfit : fits ty v = true)
    (hS0 : va_S A0 H0 H locs) (hAb : A0 b) (hdg : decode cc pc = .ok (.putfield index, 3))
    (kk : ∀ (H1 : Heap) (locs1 : List Loc), va_P D vwCl [(b, .inr (ci, fs.set k v))] H1 → H1.size = H.size → (∀ q, q ≠ b → H1[q]? = H[q]?) → va_S A0 H0 H1 locs1 → W p l e R s m args below meth c H1 locs1 cells slots Q (F0 m (pc + 3) ls rest)) : W p l e R s m args below meth c H locs cells slots Q (F0 m pc ls (v :: .ref b :: rest)) := by
  refine g_putF (C := C) (T := T) (N := N) (ci := ci) (ref := ref) (index := index) S hin ty0 hty hK hP hc k hk hlen hlink hsame hfin hin2 hdecl hd hn hfit hS0 hAb hdg (fun H1 locs1 fs' b1 b2 b3 b4 b5 b6 b7 b8 => ?_)
  have e : fs' = fs.set k v := by
    apply List.ext_getElem?
    intro j
    by_cases hj : j = k
    · subst hj
      rw [b2, List.getElem?_set]
      rw [if_pos rfl, if_pos (by omega)]
    · rw [List.getElem?_set, if_neg (fun h => hj h.symm)]
      by_cases hjN : j < N
      · exact b3 j hjN (hnm j hjN k hk hj)
      · rw [List.getElem?_eq_none (by omega), List.getElem?_eq_none (by omega)]
  subst e
  exact kk H1 locs1 b5 b6 b7 b8
end ROWS2
theorem cons_hi {sz : Nat} {x : Nat × va_E} {ws : va_W} (hx : sz ≤ x.1) (h : ∀ (k : Nat) (q : Nat × va_E), ws[k]? = some q → sz ≤ q.1) : ∀ (k : Nat) (q : Nat × va_E), (x :: ws)[k]? = some q → sz ≤ q.1 := fun k q hq => by
  match k, hq with
  | 0, hq => cases hq; exact hx
  | k + 1, hq => exact h k q hq
theorem nil_hi {sz : Nat} : ∀ (k : Nat) (q : Nat × va_E), ([] : va_W)[k]? = some q → sz ≤ q.1 := fun k q hq => by simp at hq
theorem nil_P {D : va_G} {H : Heap} : va_P D vwCl [] H := fun k q hq => by simp at hq
theorem cons_P {D : va_G} {H : Heap} {x : Nat × va_E} {ws : va_W} (h1 : va_P D vwCl [x] H) (h2 : va_P D vwCl ws H) : va_P D vwCl (x :: ws) H := fun k q hq => by
  match k, hq with
  | 0, hq => exact h1 0 q hq
  | k + 1, hq => exact h2 k q hq
/-- all zero -/
def σ0 (x : Nat) : MS := (fun _ => 0, fun _ _ => 0, fun _ _ => 0, x)
def KI (D : va_G) (dA : Nat → ClassId) (mi zl zf : Nat) (U : State) : Prop := K4 D dA mi zl zf U ∧ va_AO "CallRounds$Sheet" U
theorem Wm_KI {D : va_G} {dA : Nat → ClassId} {mi zl zf : Nat} : Wm (KI D dA mi zl zf) := fun _ _ hW h => ⟨Wm_K4 _ _ hW h.1, h.2.moved hW.alike⟩
/-- the component's cells -/
def cIx : List Nat := [0, 1, 3, 4, 5, 6, 7, 8, 14]
def mIx : List Nat := 0 :: mL
set_option maxHeartbeats 8000000 in
theorem g0_init (l : Launch) (D : va_G) (dA : Nat → ClassId) (mi zl zf e0 : Nat) (b sz : Nat) (hb9 : b < sz) (hzl : zl < sz ∧ zl ≠ b) : GC l yX0_init cX0_init 1 none 4 100 8 327691 (KI D dA mi zl zf) [.ref b] (fun H => va_P D vwCl [(b, .inr (0, [.int 0, .null, .int 0, .null, .null, .null, .null, .null, .null, .int 0, .int 0, .int 0, .int 0, .int 0, .null]))] H ∧ ZH zl zf e0 H ∧ sz ≤ H.size) (fun q => q = b ∨ sz ≤ q) (fun v9 H => v9 = none ∧ ∃ a : Nat → Nat, a 0 = b ∧ (∀ i ∈ cIx, ∀ j ∈ cIx, a i = a j → i = j) ∧ (∀ i ∈ cIx, i ≠ 0 → sz ≤ a i ∧ a i < H.size) ∧ va_P D vwCl (kW dA a (σ0 0)) H ∧ va_P D vwCl [(a 3, .inr (2, [.int 0, .ref e0, .int 0]))] H ∧ va_P D vwCl [(a 14, .inl (dA 4, 4, .inr (.inr (.inr (.inr (fun _ => none))))))] H) := by
  refine GC.of (by decide) (Nat.le_of_ble_eq_true rfl) ?_
  intro p e s m below meth c ls S hr hlk hnm hKI hPre hl
  have hK4 := hKI.1
  have hK2 := hK4.1
  have hK := hK2.1
  have hx := S.1
  have hb := S.2.1
  have hl : lv_has ls 1 [(0, .ref b)] := hl
  have hS : va_S (fun q => q = b ∨ sz ≤ q) s.heap s.heap [] := va_S.rf
  obtain ⟨hO, hZ, hsz⟩ := hPre
  refine lv_aload_n hx hb dX0_init_0 rfl (lv_at hl 0 rfl) ?_
  refine W.objInit (rest := []) S.1 S.2.1 S.2.2.2.1 (S.2.2.2.2 _ q99) (S.2.2.2.2 _ q100) (S.2.2.2.2 _ q101) rfl (hl.1.trans S.2.2.1.symm) rfl dX0_init_1 (Nat.le_of_ble_eq_true rfl) (Nat.le_of_ble_eq_true rfl) ?_
  refine W.eq (g2 := F0 m 4 ls []) rfl ?_
  have hW : va_P D vwCl [] s.heap := nil_P
  have hlo : ∀ (k : Nat) (q : Nat × va_E), ([] : va_W)[k]? = some q → sz ≤ q.1 := nil_hi
  refine lv_aload_n hx hb dX0_init_4 rfl (lv_at hl 0 rfl) ?_
  refine lv_iconst (v := 4) hx hb dX0_init_5 (by decide) ?_
  refine g_newi (N := 4) (n := 4) S hK hS (by decide) (by decide) (by decide) (Nat.le_of_ble_eq_true rfl) (Nat.le_of_ble_eq_true rfl) dX0_init_6 (fun q1 H hq1 hPn hzq1 ho1 hS => ?_)
  have hO := hO.grow ho1
  have hq1s : sz ≤ q1 := by omega
  have hZ := hZ.fr (A := fun _ => False) (fun q h _ => ho1 q h) id
  have hW := cons_P hPn (hW.grow ho1)
  have hlo := cons_hi (x := (q1, .inl (dA 0, 4, .inl (fun _ => 0)))) hq1s hlo
  refine g_putFs (ref := RX0) (C := RX0) (T := TX0) (N := 15) (ci := 0) (ty := .array .int) (v := .ref q1) S in_X0 tyX0 tyX0_ok nmX0 hK hO rfl 1 (by decide) rfl q136 (fun _ h9 => h9) rfl (hnm.trans rfl) rfl (by decide +kernel) rfl rfl hS (Or.inl rfl) dX0_init_8 (fun H locs hO hzpq1 hop hS => ?_)
  have hO : va_P D vwCl [(b, .inr (0, [.int 0, .ref q1, .int 0, .null, .null, .null, .null, .null, .null, .int 0, .int 0, .int 0, .int 0, .int 0, .null]))] H := hO
  have hW := hW.off hop (fun k q h e => by have := hlo k q h; omega)
  have hZ := hZ.fr (A := fun q => q = b) (fun q _ h => hop q h) hzl.2
  refine lv_aload_n hx hb dX0_init_11 rfl (lv_at hl 0 rfl) ?_
  refine g_new (C := RJ2) (T := TJ2) (N := 3) (ci := 2) (fs := [.int 0, .null, .int 0]) S in_J2 tyJ2 tyJ2_ok q102 q103 q63 hK hS (fun q h => Or.inr (Nat.le_trans hsz h)) rfl (by decide) (Nat.le_of_ble_eq_true rfl) (Nat.le_of_ble_eq_true rfl) dX0_init_12 (fun q3 H hq3 hPn hzq3 ho1 hS => ?_)
  have hO := hO.grow ho1
  have hq3s : sz ≤ q3 := by omega
  have hZ := hZ.fr (A := fun _ => False) (fun q h _ => ho1 q h) id
  have hW := hW.grow ho1
  refine lv_dup hx hb dX0_init_15 rfl ?_
  refine gc_I (rest := [.ref q3, .ref b]) [] 0 S Wm_K4 hK4 hS (fun q h => Or.inr (by have h : q = q3 := h; omega)) (gj_init l D dA mi zl zf e0 q3 .null (by omega)) q106 q63 q104 q105 rfl (by decide +kernel : yJ2_init.cls ≠ "java/lang/invoke/MethodHandle" ∧ yJ2_init.cls ≠ "java/lang/invoke/VarHandle" ∧ (parseMethodDescriptor yJ2_init.desc).map (fun d => d.parameters.length) = some 0) rfl ⟨Nat.le_of_ble_eq_true rfl, Nat.le_of_ble_eq_true rfl⟩ hl.1 (Nat.le_of_ble_eq_true rfl) dX0_init_16 ⟨Nat.le_of_ble_eq_true rfl, Nat.le_of_ble_eq_true rfl⟩ ⟨hPn, hZ⟩ (fun v9 H locs hp9 hz9 ho9 hS => ?_) rfl
  obtain ⟨rfl, hPn⟩ := hp9
  refine W.eq (g2 := F0 m 19 ls [.ref q3, .ref b]) rfl ?_
  have hO := hO.fr ho9 (one_A (A := fun q => q = q3) (by omega))
  have hW : va_P D vwCl [(q1, .inl (dA 0, 4, .inl (fun _ => 0)))] H := hW.fr ho9 (fun k q hq z => by have z : q.1 = q3 := z; match k, hq with | 0, hq => (cases hq; omega) | k + 1, hq => simp at hq)
  have hW := cons_P hPn hW
  have hlo := cons_hi (x := (q3, .inr (2, [.int 0, .ref e0, .int 0]))) hq3s hlo
  have hq3z : q3 < H.size := one_lt hPn
  refine g_putFs (ref := RX0) (C := RX0) (T := TX0) (N := 15) (ci := 0) (ty := .object "java/util/List") (v := .ref q3) S in_X0 tyX0 tyX0_ok nmX0 hK hO rfl 3 (by decide) rfl q139 (fun _ h9 => h9) rfl (hnm.trans rfl) rfl (by decide +kernel) rfl rfl hS (Or.inl rfl) dX0_init_19 (fun H locs hO hzpq3 hop hS => ?_)
  have hO : va_P D vwCl [(b, .inr (0, [.int 0, .ref q1, .int 0, .ref q3, .null, .null, .null, .null, .null, .int 0, .int 0, .int 0, .int 0, .int 0, .null]))] H := hO
  have hW := hW.off hop (fun k q h e => by have := hlo k q h; omega)
  refine lv_aload_n hx hb dX0_init_22 rfl (lv_at hl 0 rfl) ?_
  refine lv_ldc (v := 65536) hx hb S.2.2.2.1 (S.2.2.2.2 _ q129) dX0_init_23 ?_
  refine g_newi (N := 65536) (n := 65536) S hK hS (by decide) (by decide) (by decide) (Nat.le_of_ble_eq_true rfl) (Nat.le_of_ble_eq_true rfl) dX0_init_25 (fun q4 H hq4 hPn hzq4 ho1 hS => ?_)
  have hO := hO.grow ho1
  have hq4s : sz ≤ q4 := by omega
  have hW := cons_P hPn (hW.grow ho1)
  have hlo := cons_hi (x := (q4, .inl (dA 0, 65536, .inl (fun _ => 0)))) hq4s hlo
  refine g_putFs (ref := RX0) (C := RX0) (T := TX0) (N := 15) (ci := 0) (ty := .array .int) (v := .ref q4) S in_X0 tyX0 tyX0_ok nmX0 hK hO rfl 4 (by decide) rfl q140 (fun _ h9 => h9) rfl (hnm.trans rfl) rfl (by decide +kernel) rfl rfl hS (Or.inl rfl) dX0_init_27 (fun H locs hO hzpq4 hop hS => ?_)
  have hO : va_P D vwCl [(b, .inr (0, [.int 0, .ref q1, .int 0, .ref q3, .ref q4, .null, .null, .null, .null, .int 0, .int 0, .int 0, .int 0, .int 0, .null]))] H := hO
  have hW := hW.off hop (fun k q h e => by have := hlo k q h; omega)
  refine lv_aload_n hx hb dX0_init_30 rfl (lv_at hl 0 rfl) ?_
  refine lv_ldc (v := 65536) hx hb S.2.2.2.1 (S.2.2.2.2 _ q129) dX0_init_31 ?_
  refine g_newl (N := 65536) (n := 65536) S hK hS (by decide) (by decide) (by decide) (Nat.le_of_ble_eq_true rfl) (Nat.le_of_ble_eq_true rfl) dX0_init_33 (fun q5 H hq5 hPn hzq5 ho1 hS => ?_)
  have hO := hO.grow ho1
  have hq5s : sz ≤ q5 := by omega
  have hW := cons_P hPn (hW.grow ho1)
  have hlo := cons_hi (x := (q5, .inl (dA 1, 65536, .inr (.inl (fun _ => 0))))) hq5s hlo
  refine g_putFs (ref := RX0) (C := RX0) (T := TX0) (N := 15) (ci := 0) (ty := .array .long) (v := .ref q5) S in_X0 tyX0 tyX0_ok nmX0 hK hO rfl 5 (by decide) rfl q141 (fun _ h9 => h9) rfl (hnm.trans rfl) rfl (by decide +kernel) rfl rfl hS (Or.inl rfl) dX0_init_35 (fun H locs hO hzpq5 hop hS => ?_)
  have hO : va_P D vwCl [(b, .inr (0, [.int 0, .ref q1, .int 0, .ref q3, .ref q4, .ref q5, .null, .null, .null, .int 0, .int 0, .int 0, .int 0, .int 0, .null]))] H := hO
  have hW := hW.off hop (fun k q h e => by have := hlo k q h; omega)
  refine lv_aload_n hx hb dX0_init_38 rfl (lv_at hl 0 rfl) ?_
  refine lv_ldc (v := 65536) hx hb S.2.2.2.1 (S.2.2.2.2 _ q129) dX0_init_39 ?_
  refine g_newl (N := 65536) (n := 65536) S hK hS (by decide) (by decide) (by decide) (Nat.le_of_ble_eq_true rfl) (Nat.le_of_ble_eq_true rfl) dX0_init_41 (fun q6 H hq6 hPn hzq6 ho1 hS => ?_)
  have hO := hO.grow ho1
  have hq6s : sz ≤ q6 := by omega
  have hW := cons_P hPn (hW.grow ho1)
  have hlo := cons_hi (x := (q6, .inl (dA 1, 65536, .inr (.inl (fun _ => 0))))) hq6s hlo
  refine g_putFs (ref := RX0) (C := RX0) (T := TX0) (N := 15) (ci := 0) (ty := .array .long) (v := .ref q6) S in_X0 tyX0 tyX0_ok nmX0 hK hO rfl 6 (by decide) rfl q142 (fun _ h9 => h9) rfl (hnm.trans rfl) rfl (by decide +kernel) rfl rfl hS (Or.inl rfl) dX0_init_43 (fun H locs hO hzpq6 hop hS => ?_)
  have hO : va_P D vwCl [(b, .inr (0, [.int 0, .ref q1, .int 0, .ref q3, .ref q4, .ref q5, .ref q6, .null, .null, .int 0, .int 0, .int 0, .int 0, .int 0, .null]))] H := hO
  have hW := hW.off hop (fun k q h e => by have := hlo k q h; omega)
  refine lv_aload_n hx hb dX0_init_46 rfl (lv_at hl 0 rfl) ?_
  refine lv_ldc (v := 65536) hx hb S.2.2.2.1 (S.2.2.2.2 _ q129) dX0_init_47 ?_
  refine g_newi (N := 65536) (n := 65536) S hK hS (by decide) (by decide) (by decide) (Nat.le_of_ble_eq_true rfl) (Nat.le_of_ble_eq_true rfl) dX0_init_49 (fun q7 H hq7 hPn hzq7 ho1 hS => ?_)
  have hO := hO.grow ho1
  have hq7s : sz ≤ q7 := by omega
  have hW := cons_P hPn (hW.grow ho1)
  have hlo := cons_hi (x := (q7, .inl (dA 0, 65536, .inl (fun _ => 0)))) hq7s hlo
  refine g_putFs (ref := RX0) (C := RX0) (T := TX0) (N := 15) (ci := 0) (ty := .array .int) (v := .ref q7) S in_X0 tyX0 tyX0_ok nmX0 hK hO rfl 7 (by decide) rfl q143 (fun _ h9 => h9) rfl (hnm.trans rfl) rfl (by decide +kernel) rfl rfl hS (Or.inl rfl) dX0_init_51 (fun H locs hO hzpq7 hop hS => ?_)
  have hO : va_P D vwCl [(b, .inr (0, [.int 0, .ref q1, .int 0, .ref q3, .ref q4, .ref q5, .ref q6, .ref q7, .null, .int 0, .int 0, .int 0, .int 0, .int 0, .null]))] H := hO
  have hW := hW.off hop (fun k q h e => by have := hlo k q h; omega)
  refine lv_aload_n hx hb dX0_init_54 rfl (lv_at hl 0 rfl) ?_
  refine lv_ldc (v := 65536) hx hb S.2.2.2.1 (S.2.2.2.2 _ q129) dX0_init_55 ?_
  refine g_newi (N := 65536) (n := 65536) S hK hS (by decide) (by decide) (by decide) (Nat.le_of_ble_eq_true rfl) (Nat.le_of_ble_eq_true rfl) dX0_init_57 (fun q8 H hq8 hPn hzq8 ho1 hS => ?_)
  have hO := hO.grow ho1
  have hq8s : sz ≤ q8 := by omega
  have hW := cons_P hPn (hW.grow ho1)
  have hlo := cons_hi (x := (q8, .inl (dA 0, 65536, .inl (fun _ => 0)))) hq8s hlo
  refine g_putFs (ref := RX0) (C := RX0) (T := TX0) (N := 15) (ci := 0) (ty := .array .int) (v := .ref q8) S in_X0 tyX0 tyX0_ok nmX0 hK hO rfl 8 (by decide) rfl q144 (fun _ h9 => h9) rfl (hnm.trans rfl) rfl (by decide +kernel) rfl rfl hS (Or.inl rfl) dX0_init_59 (fun H locs hO hzpq8 hop hS => ?_)
  have hO : va_P D vwCl [(b, .inr (0, [.int 0, .ref q1, .int 0, .ref q3, .ref q4, .ref q5, .ref q6, .ref q7, .ref q8, .int 0, .int 0, .int 0, .int 0, .int 0, .null]))] H := hO
  have hW := hW.off hop (fun k q h e => by have := hlo k q h; omega)
  refine lv_aload_n hx hb dX0_init_62 rfl (lv_at hl 0 rfl) ?_
  refine lv_iconst (v := 4) hx hb dX0_init_63 (by decide) ?_
  refine g_newq (N' := 4) (n := 4) S q130 hKI.2 hK 4 rfl hS (by decide) (by decide) (by decide) (Nat.le_of_ble_eq_true rfl) (Nat.le_of_ble_eq_true rfl) dX0_init_64 (fun q14 H hq14 hPn hzq14 ho1 hS => ?_)
  have hO := hO.grow ho1
  have hq14s : sz ≤ q14 := by omega
  have hW := cons_P hPn (hW.grow ho1)
  have hlo := cons_hi (x := (q14, .inl (dA 4, 4, .inr (.inr (.inr (.inr (fun _ => none))))))) hq14s hlo
  refine g_putFs (ref := RX0) (C := RX0) (T := TX0) (N := 15) (ci := 0) (ty := .array (.object "CallRounds$Sheet")) (v := .ref q14) S in_X0 tyX0 tyX0_ok nmX0 hK hO rfl 14 (by decide) rfl q151 (fun _ h9 => h9) rfl (hnm.trans rfl) rfl (by decide +kernel) rfl rfl hS (Or.inl rfl) dX0_init_67 (fun H locs hO hzpq14 hop hS => ?_)
  have hO : va_P D vwCl [(b, .inr (0, [.int 0, .ref q1, .int 0, .ref q3, .ref q4, .ref q5, .ref q6, .ref q7, .ref q8, .int 0, .int 0, .int 0, .int 0, .int 0, .ref q14]))] H := hO
  have hW := hW.off hop (fun k q h e => by have := hlo k q h; omega)
  have hq14z : q14 < H.size := one_lt (hW.sub [0] rfl)
  refine g_vret S hr hlk hS dX0_init_70 ⟨Nat.le_of_ble_eq_true rfl, Nat.le_of_ble_eq_true rfl⟩ ⟨rfl, fun k => ([b, q1, 0, q3, q4, q5, q6, q7, q8, 0, 0, 0, 0, 0, q14] : List Nat).getD k 0, rfl, ?_, ?_, ?_, hW.sub [6] rfl, hW.sub [0] rfl⟩
  · intro i hi j hj h
    simp only [cIx, List.mem_cons, List.not_mem_nil, or_false] at hi hj
    rcases hi with rfl | rfl | rfl | rfl | rfl | rfl | rfl | rfl | rfl <;> rcases hj with rfl | rfl | rfl | rfl | rfl | rfl | rfl | rfl | rfl <;> first | rfl | (exfalso; simp only [List.getD_cons_zero, List.getD_cons_succ] at h; omega)
  · intro i hi h0
    simp only [cIx, List.mem_cons, List.not_mem_nil, or_false] at hi
    rcases hi with rfl | rfl | rfl | rfl | rfl | rfl | rfl | rfl | rfl <;> first | exact absurd rfl h0 | (simp only [List.getD_cons_zero, List.getD_cons_succ]; omega)
  · exact cons_P hO (hW.sub [7, 5, 4, 3, 2, 1] rfl)
/-- the reference's first state: no lanes yet -/
def laneF : Nat → Int32 := upd (upd (upd (upd (fun _ => 0) 0 (-9)) 1 (-9)) 2 (-9)) 3 (-9)
def σm0 (x : Nat) : MS := (fun _ => 0, fun k => if k = 2 then laneF else fun _ => 0, fun _ _ => 0, x)
theorem inj_m {b q2 q3 q4 q6 q7 q10 q11 q12 q13 q14 q15 q16 q18 q19 q20 q24 q25 q28 q29 : Nat} (h : b < q2 ∧ q2 < q3 ∧ q3 < q4 ∧ q4 < q6 ∧ q6 < q7 ∧ q7 < q10 ∧ q10 < q11 ∧ q11 < q12 ∧ q12 < q13 ∧ q13 < q14 ∧ q14 < q15 ∧ q15 < q16 ∧ q16 < q18 ∧ q18 < q19 ∧ q19 < q20 ∧ q20 < q24 ∧ q24 < q25 ∧ q25 < q28 ∧ q28 < q29) : ∀ i ∈ mIx, ∀ j ∈ mIx, ([b, 0, q2, q3, q4, 0, q6, q7, 0, 0, q10, q11, q12, q13, q14, q15, q16, 0, q18, q19, q20, 0, 0, 0, q24, q25, 0, 0, q28, q29] : List Nat).getD i 0 = ([b, 0, q2, q3, q4, 0, q6, q7, 0, 0, q10, q11, q12, q13, q14, q15, q16, 0, q18, q19, q20, 0, 0, 0, q24, q25, 0, 0, q28, q29] : List Nat).getD j 0 → i = j := by
  intro i hi j hj h
  simp only [mIx, mL, List.mem_cons, List.not_mem_nil, or_false] at hi hj
  rcases hi with rfl | rfl | rfl | rfl | rfl | rfl | rfl | rfl | rfl | rfl | rfl | rfl | rfl | rfl | rfl | rfl | rfl | rfl | rfl | rfl <;> rcases hj with rfl | rfl | rfl | rfl | rfl | rfl | rfl | rfl | rfl | rfl | rfl | rfl | rfl | rfl | rfl | rfl | rfl | rfl | rfl | rfl <;> first | rfl | (exfalso; simp only [List.getD_cons_zero, List.getD_cons_succ] at h; omega)
set_option maxHeartbeats 8000000 in
theorem g1_init (l : Launch) (D : va_G) (dA : Nat → ClassId) (b sz : Nat) (hb9 : b < sz) : GC l yX1_init cX1_init 1 none 4 100 19 393556 (K2 D dA) [.ref b] (fun H => va_P D vwCl [(b, .inr (1, [.int 0, .int 0, .null, .null, .null, .int 0, .null, .null, .int 0, .int 0, .null, .null, .null, .null, .null, .null, .null, .int 0, .null, .null, .null, .null, .int 0, .int 0, .null, .null, .int 0, .int 0, .null, .null]))] H ∧ sz ≤ H.size) (fun q => q = b ∨ sz ≤ q) (fun v9 H => v9 = none ∧ ∃ a : Nat → Nat, a 0 = b ∧ (∀ i ∈ mIx, ∀ j ∈ mIx, a i = a j → i = j) ∧ (∀ i ∈ mIx, i ≠ 0 → sz ≤ a i ∧ a i < H.size) ∧ va_P D vwCl (mW dA a (σm0 (a 6))) H) := by
  refine GC.of (by decide) (Nat.le_of_ble_eq_true rfl) ?_
  intro p e s m below meth c ls S hr hlk hnm hK2 hPre hl
  have hK := hK2.1
  have hx := S.1
  have hb := S.2.1
  have hl : lv_has ls 1 [(0, .ref b)] := hl
  have hS : va_S (fun q => q = b ∨ sz ≤ q) s.heap s.heap [] := va_S.rf
  obtain ⟨hO, hsz⟩ := hPre
  refine lv_aload_n hx hb dX1_init_0 rfl (lv_at hl 0 rfl) ?_
  refine W.objInit (rest := []) S.1 S.2.1 S.2.2.2.1 (S.2.2.2.2 _ q1176) (S.2.2.2.2 _ q100) (S.2.2.2.2 _ q101) rfl (hl.1.trans S.2.2.1.symm) rfl dX1_init_1 (Nat.le_of_ble_eq_true rfl) (Nat.le_of_ble_eq_true rfl) ?_
  refine W.eq (g2 := F0 m 4 ls []) rfl ?_
  have hW : va_P D vwCl [] s.heap := nil_P
  have hlo : ∀ (k : Nat) (q : Nat × va_E), ([] : va_W)[k]? = some q → sz ≤ q.1 := nil_hi
  refine lv_aload_n hx hb dX1_init_4 rfl (lv_at hl 0 rfl) ?_
  refine lv_iconst (v := 4) hx hb dX1_init_5 (by decide) ?_
  refine g_newi (N := 4) (n := 4) S hK hS (by decide) (by decide) (by decide) (Nat.le_of_ble_eq_true rfl) (Nat.le_of_ble_eq_true rfl) dX1_init_6 (fun q2 H hq2 hPn hzq2 ho1 hS => ?_)
  have hO := hO.grow ho1
  have hq2s : sz ≤ q2 := by omega
  refine lv_dup hx hb dX1_init_8 rfl ?_
  refine lv_iconst (v := 0) hx hb dX1_init_9 (by decide) ?_
  refine lv_bipush (v := (-9)) hx hb dX1_init_10 (by decide) ?_
  refine g_iast (i := 0) S hK hS hPn (Or.inr hq2s) (by unfold vp_in; decide) dX1_init_12 (fun H locs hPn hzi0 hoi hS => ?_)
  have hPn : va_P D vwCl [(q2, .inl (dA 0, 4, .inl (upd (fun _ => 0) 0 (-9))))] H := hPn
  have hO := hO.off hoi (one_ne (by omega))
  refine lv_dup hx hb dX1_init_13 rfl ?_
  refine lv_iconst (v := 1) hx hb dX1_init_14 (by decide) ?_
  refine lv_bipush (v := (-9)) hx hb dX1_init_15 (by decide) ?_
  refine g_iast (i := 1) S hK hS hPn (Or.inr hq2s) (by unfold vp_in; decide) dX1_init_17 (fun H locs hPn hzi1 hoi hS => ?_)
  have hPn : va_P D vwCl [(q2, .inl (dA 0, 4, .inl (upd (upd (fun _ => 0) 0 (-9)) 1 (-9))))] H := hPn
  have hO := hO.off hoi (one_ne (by omega))
  refine lv_dup hx hb dX1_init_18 rfl ?_
  refine lv_iconst (v := 2) hx hb dX1_init_19 (by decide) ?_
  refine lv_bipush (v := (-9)) hx hb dX1_init_20 (by decide) ?_
  refine g_iast (i := 2) S hK hS hPn (Or.inr hq2s) (by unfold vp_in; decide) dX1_init_22 (fun H locs hPn hzi2 hoi hS => ?_)
  have hPn : va_P D vwCl [(q2, .inl (dA 0, 4, .inl (upd (upd (upd (fun _ => 0) 0 (-9)) 1 (-9)) 2 (-9))))] H := hPn
  have hO := hO.off hoi (one_ne (by omega))
  refine lv_dup hx hb dX1_init_23 rfl ?_
  refine lv_iconst (v := 3) hx hb dX1_init_24 (by decide) ?_
  refine lv_bipush (v := (-9)) hx hb dX1_init_25 (by decide) ?_
  refine g_iast (i := 3) S hK hS hPn (Or.inr hq2s) (by unfold vp_in; decide) dX1_init_27 (fun H locs hPn hzi3 hoi hS => ?_)
  have hPn : va_P D vwCl [(q2, .inl (dA 0, 4, .inl (upd (upd (upd (upd (fun _ => 0) 0 (-9)) 1 (-9)) 2 (-9)) 3 (-9))))] H := hPn
  have hO := hO.off hoi (one_ne (by omega))
  have hPn : va_P D vwCl [(q2, .inl (dA 0, 4, .inl laneF))] H := hPn
  have hW : va_P D vwCl [(q2, .inl (dA 0, 4, .inl laneF))] H := hPn
  have hlo := cons_hi (x := (q2, .inl (dA 0, 4, .inl laneF))) hq2s hlo
  refine g_putFs (ref := RX1) (C := RX1) (T := TX1) (N := 30) (ci := 1) (ty := .array .int) (v := .ref q2) S in_X1 tyX1 tyX1_ok nmX1 hK hO rfl 2 (by decide) rfl q1180 (fun _ h9 => h9) rfl (hnm.trans rfl) rfl (by decide +kernel) rfl rfl hS (Or.inl rfl) dX1_init_28 (fun H locs hO hzpq2 hop hS => ?_)
  have hO : va_P D vwCl [(b, .inr (1, [.int 0, .int 0, .ref q2, .null, .null, .int 0, .null, .null, .int 0, .int 0, .null, .null, .null, .null, .null, .null, .null, .int 0, .null, .null, .null, .null, .int 0, .int 0, .null, .null, .int 0, .int 0, .null, .null]))] H := hO
  have hW := hW.off hop (fun k q h e => by have := hlo k q h; omega)
  refine lv_aload_n hx hb dX1_init_31 rfl (lv_at hl 0 rfl) ?_
  refine lv_iconst (v := 4) hx hb dX1_init_32 (by decide) ?_
  refine g_newi (N := 4) (n := 4) S hK hS (by decide) (by decide) (by decide) (Nat.le_of_ble_eq_true rfl) (Nat.le_of_ble_eq_true rfl) dX1_init_33 (fun q3 H hq3 hPn hzq3 ho1 hS => ?_)
  have hO := hO.grow ho1
  have hq3s : sz ≤ q3 := by omega
  have hW := cons_P hPn (hW.grow ho1)
  have hlo := cons_hi (x := (q3, .inl (dA 0, 4, .inl (fun _ => 0)))) hq3s hlo
  refine g_putFs (ref := RX1) (C := RX1) (T := TX1) (N := 30) (ci := 1) (ty := .array .int) (v := .ref q3) S in_X1 tyX1 tyX1_ok nmX1 hK hO rfl 3 (by decide) rfl q1181 (fun _ h9 => h9) rfl (hnm.trans rfl) rfl (by decide +kernel) rfl rfl hS (Or.inl rfl) dX1_init_35 (fun H locs hO hzpq3 hop hS => ?_)
  have hO : va_P D vwCl [(b, .inr (1, [.int 0, .int 0, .ref q2, .ref q3, .null, .int 0, .null, .null, .int 0, .int 0, .null, .null, .null, .null, .null, .null, .null, .int 0, .null, .null, .null, .null, .int 0, .int 0, .null, .null, .int 0, .int 0, .null, .null]))] H := hO
  have hW := hW.off hop (fun k q h e => by have := hlo k q h; omega)
  refine lv_aload_n hx hb dX1_init_38 rfl (lv_at hl 0 rfl) ?_
  refine lv_sipush (v := 240) hx hb dX1_init_39 (by decide) ?_
  refine g_newi (N := 240) (n := 240) S hK hS (by decide) (by decide) (by decide) (Nat.le_of_ble_eq_true rfl) (Nat.le_of_ble_eq_true rfl) dX1_init_42 (fun q4 H hq4 hPn hzq4 ho1 hS => ?_)
  have hO := hO.grow ho1
  have hq4s : sz ≤ q4 := by omega
  have hW := cons_P hPn (hW.grow ho1)
  have hlo := cons_hi (x := (q4, .inl (dA 0, 240, .inl (fun _ => 0)))) hq4s hlo
  refine g_putFs (ref := RX1) (C := RX1) (T := TX1) (N := 30) (ci := 1) (ty := .array .int) (v := .ref q4) S in_X1 tyX1 tyX1_ok nmX1 hK hO rfl 4 (by decide) rfl q1182 (fun _ h9 => h9) rfl (hnm.trans rfl) rfl (by decide +kernel) rfl rfl hS (Or.inl rfl) dX1_init_44 (fun H locs hO hzpq4 hop hS => ?_)
  have hO : va_P D vwCl [(b, .inr (1, [.int 0, .int 0, .ref q2, .ref q3, .ref q4, .int 0, .null, .null, .int 0, .int 0, .null, .null, .null, .null, .null, .null, .null, .int 0, .null, .null, .null, .null, .int 0, .int 0, .null, .null, .int 0, .int 0, .null, .null]))] H := hO
  have hW := hW.off hop (fun k q h e => by have := hlo k q h; omega)
  refine lv_aload_n hx hb dX1_init_47 rfl (lv_at hl 0 rfl) ?_
  refine lv_iconst (v := 4) hx hb dX1_init_48 (by decide) ?_
  refine g_newi (N := 4) (n := 4) S hK hS (by decide) (by decide) (by decide) (Nat.le_of_ble_eq_true rfl) (Nat.le_of_ble_eq_true rfl) dX1_init_49 (fun q6 H hq6 hPn hzq6 ho1 hS => ?_)
  have hO := hO.grow ho1
  have hq6s : sz ≤ q6 := by omega
  have hW := cons_P hPn (hW.grow ho1)
  have hlo := cons_hi (x := (q6, .inl (dA 0, 4, .inl (fun _ => 0)))) hq6s hlo
  refine g_putFs (ref := RX1) (C := RX1) (T := TX1) (N := 30) (ci := 1) (ty := .array .int) (v := .ref q6) S in_X1 tyX1 tyX1_ok nmX1 hK hO rfl 6 (by decide) rfl q1184 (fun _ h9 => h9) rfl (hnm.trans rfl) rfl (by decide +kernel) rfl rfl hS (Or.inl rfl) dX1_init_51 (fun H locs hO hzpq6 hop hS => ?_)
  have hO : va_P D vwCl [(b, .inr (1, [.int 0, .int 0, .ref q2, .ref q3, .ref q4, .int 0, .ref q6, .null, .int 0, .int 0, .null, .null, .null, .null, .null, .null, .null, .int 0, .null, .null, .null, .null, .int 0, .int 0, .null, .null, .int 0, .int 0, .null, .null]))] H := hO
  have hW := hW.off hop (fun k q h e => by have := hlo k q h; omega)
  refine lv_aload_n hx hb dX1_init_54 rfl (lv_at hl 0 rfl) ?_
  refine lv_iconst (v := 4) hx hb dX1_init_55 (by decide) ?_
  refine g_newi (N := 4) (n := 4) S hK hS (by decide) (by decide) (by decide) (Nat.le_of_ble_eq_true rfl) (Nat.le_of_ble_eq_true rfl) dX1_init_56 (fun q7 H hq7 hPn hzq7 ho1 hS => ?_)
  have hO := hO.grow ho1
  have hq7s : sz ≤ q7 := by omega
  have hW := cons_P hPn (hW.grow ho1)
  have hlo := cons_hi (x := (q7, .inl (dA 0, 4, .inl (fun _ => 0)))) hq7s hlo
  refine g_putFs (ref := RX1) (C := RX1) (T := TX1) (N := 30) (ci := 1) (ty := .array .int) (v := .ref q7) S in_X1 tyX1 tyX1_ok nmX1 hK hO rfl 7 (by decide) rfl q1185 (fun _ h9 => h9) rfl (hnm.trans rfl) rfl (by decide +kernel) rfl rfl hS (Or.inl rfl) dX1_init_58 (fun H locs hO hzpq7 hop hS => ?_)
  have hO : va_P D vwCl [(b, .inr (1, [.int 0, .int 0, .ref q2, .ref q3, .ref q4, .int 0, .ref q6, .ref q7, .int 0, .int 0, .null, .null, .null, .null, .null, .null, .null, .int 0, .null, .null, .null, .null, .int 0, .int 0, .null, .null, .int 0, .int 0, .null, .null]))] H := hO
  have hW := hW.off hop (fun k q h e => by have := hlo k q h; omega)
  refine lv_aload_n hx hb dX1_init_61 rfl (lv_at hl 0 rfl) ?_
  refine lv_bipush (v := 12) hx hb dX1_init_62 (by decide) ?_
  refine g_newi (N := 12) (n := 12) S hK hS (by decide) (by decide) (by decide) (Nat.le_of_ble_eq_true rfl) (Nat.le_of_ble_eq_true rfl) dX1_init_64 (fun q10 H hq10 hPn hzq10 ho1 hS => ?_)
  have hO := hO.grow ho1
  have hq10s : sz ≤ q10 := by omega
  have hW := cons_P hPn (hW.grow ho1)
  have hlo := cons_hi (x := (q10, .inl (dA 0, 12, .inl (fun _ => 0)))) hq10s hlo
  refine g_putFs (ref := RX1) (C := RX1) (T := TX1) (N := 30) (ci := 1) (ty := .array .int) (v := .ref q10) S in_X1 tyX1 tyX1_ok nmX1 hK hO rfl 10 (by decide) rfl q1188 (fun _ h9 => h9) rfl (hnm.trans rfl) rfl (by decide +kernel) rfl rfl hS (Or.inl rfl) dX1_init_66 (fun H locs hO hzpq10 hop hS => ?_)
  have hO : va_P D vwCl [(b, .inr (1, [.int 0, .int 0, .ref q2, .ref q3, .ref q4, .int 0, .ref q6, .ref q7, .int 0, .int 0, .ref q10, .null, .null, .null, .null, .null, .null, .int 0, .null, .null, .null, .null, .int 0, .int 0, .null, .null, .int 0, .int 0, .null, .null]))] H := hO
  have hW := hW.off hop (fun k q h e => by have := hlo k q h; omega)
  refine lv_aload_n hx hb dX1_init_69 rfl (lv_at hl 0 rfl) ?_
  refine lv_bipush (v := 12) hx hb dX1_init_70 (by decide) ?_
  refine g_newi (N := 12) (n := 12) S hK hS (by decide) (by decide) (by decide) (Nat.le_of_ble_eq_true rfl) (Nat.le_of_ble_eq_true rfl) dX1_init_72 (fun q11 H hq11 hPn hzq11 ho1 hS => ?_)
  have hO := hO.grow ho1
  have hq11s : sz ≤ q11 := by omega
  have hW := cons_P hPn (hW.grow ho1)
  have hlo := cons_hi (x := (q11, .inl (dA 0, 12, .inl (fun _ => 0)))) hq11s hlo
  refine g_putFs (ref := RX1) (C := RX1) (T := TX1) (N := 30) (ci := 1) (ty := .array .int) (v := .ref q11) S in_X1 tyX1 tyX1_ok nmX1 hK hO rfl 11 (by decide) rfl q1189 (fun _ h9 => h9) rfl (hnm.trans rfl) rfl (by decide +kernel) rfl rfl hS (Or.inl rfl) dX1_init_74 (fun H locs hO hzpq11 hop hS => ?_)
  have hO : va_P D vwCl [(b, .inr (1, [.int 0, .int 0, .ref q2, .ref q3, .ref q4, .int 0, .ref q6, .ref q7, .int 0, .int 0, .ref q10, .ref q11, .null, .null, .null, .null, .null, .int 0, .null, .null, .null, .null, .int 0, .int 0, .null, .null, .int 0, .int 0, .null, .null]))] H := hO
  have hW := hW.off hop (fun k q h e => by have := hlo k q h; omega)
  refine lv_aload_n hx hb dX1_init_77 rfl (lv_at hl 0 rfl) ?_
  refine lv_ldc (v := 65536) hx hb S.2.2.2.1 (S.2.2.2.2 _ q1177) dX1_init_78 ?_
  refine g_newi (N := 65536) (n := 65536) S hK hS (by decide) (by decide) (by decide) (Nat.le_of_ble_eq_true rfl) (Nat.le_of_ble_eq_true rfl) dX1_init_80 (fun q12 H hq12 hPn hzq12 ho1 hS => ?_)
  have hO := hO.grow ho1
  have hq12s : sz ≤ q12 := by omega
  have hW := cons_P hPn (hW.grow ho1)
  have hlo := cons_hi (x := (q12, .inl (dA 0, 65536, .inl (fun _ => 0)))) hq12s hlo
  refine g_putFs (ref := RX1) (C := RX1) (T := TX1) (N := 30) (ci := 1) (ty := .array .int) (v := .ref q12) S in_X1 tyX1 tyX1_ok nmX1 hK hO rfl 12 (by decide) rfl q1190 (fun _ h9 => h9) rfl (hnm.trans rfl) rfl (by decide +kernel) rfl rfl hS (Or.inl rfl) dX1_init_82 (fun H locs hO hzpq12 hop hS => ?_)
  have hO : va_P D vwCl [(b, .inr (1, [.int 0, .int 0, .ref q2, .ref q3, .ref q4, .int 0, .ref q6, .ref q7, .int 0, .int 0, .ref q10, .ref q11, .ref q12, .null, .null, .null, .null, .int 0, .null, .null, .null, .null, .int 0, .int 0, .null, .null, .int 0, .int 0, .null, .null]))] H := hO
  have hW := hW.off hop (fun k q h e => by have := hlo k q h; omega)
  refine lv_aload_n hx hb dX1_init_85 rfl (lv_at hl 0 rfl) ?_
  refine lv_ldc (v := 65536) hx hb S.2.2.2.1 (S.2.2.2.2 _ q1177) dX1_init_86 ?_
  refine g_newl (N := 65536) (n := 65536) S hK hS (by decide) (by decide) (by decide) (Nat.le_of_ble_eq_true rfl) (Nat.le_of_ble_eq_true rfl) dX1_init_88 (fun q13 H hq13 hPn hzq13 ho1 hS => ?_)
  have hO := hO.grow ho1
  have hq13s : sz ≤ q13 := by omega
  have hW := cons_P hPn (hW.grow ho1)
  have hlo := cons_hi (x := (q13, .inl (dA 1, 65536, .inr (.inl (fun _ => 0))))) hq13s hlo
  refine g_putFs (ref := RX1) (C := RX1) (T := TX1) (N := 30) (ci := 1) (ty := .array .long) (v := .ref q13) S in_X1 tyX1 tyX1_ok nmX1 hK hO rfl 13 (by decide) rfl q1191 (fun _ h9 => h9) rfl (hnm.trans rfl) rfl (by decide +kernel) rfl rfl hS (Or.inl rfl) dX1_init_90 (fun H locs hO hzpq13 hop hS => ?_)
  have hO : va_P D vwCl [(b, .inr (1, [.int 0, .int 0, .ref q2, .ref q3, .ref q4, .int 0, .ref q6, .ref q7, .int 0, .int 0, .ref q10, .ref q11, .ref q12, .ref q13, .null, .null, .null, .int 0, .null, .null, .null, .null, .int 0, .int 0, .null, .null, .int 0, .int 0, .null, .null]))] H := hO
  have hW := hW.off hop (fun k q h e => by have := hlo k q h; omega)
  refine lv_aload_n hx hb dX1_init_93 rfl (lv_at hl 0 rfl) ?_
  refine lv_ldc (v := 65536) hx hb S.2.2.2.1 (S.2.2.2.2 _ q1177) dX1_init_94 ?_
  refine g_newl (N := 65536) (n := 65536) S hK hS (by decide) (by decide) (by decide) (Nat.le_of_ble_eq_true rfl) (Nat.le_of_ble_eq_true rfl) dX1_init_96 (fun q14 H hq14 hPn hzq14 ho1 hS => ?_)
  have hO := hO.grow ho1
  have hq14s : sz ≤ q14 := by omega
  have hW := cons_P hPn (hW.grow ho1)
  have hlo := cons_hi (x := (q14, .inl (dA 1, 65536, .inr (.inl (fun _ => 0))))) hq14s hlo
  refine g_putFs (ref := RX1) (C := RX1) (T := TX1) (N := 30) (ci := 1) (ty := .array .long) (v := .ref q14) S in_X1 tyX1 tyX1_ok nmX1 hK hO rfl 14 (by decide) rfl q1192 (fun _ h9 => h9) rfl (hnm.trans rfl) rfl (by decide +kernel) rfl rfl hS (Or.inl rfl) dX1_init_98 (fun H locs hO hzpq14 hop hS => ?_)
  have hO : va_P D vwCl [(b, .inr (1, [.int 0, .int 0, .ref q2, .ref q3, .ref q4, .int 0, .ref q6, .ref q7, .int 0, .int 0, .ref q10, .ref q11, .ref q12, .ref q13, .ref q14, .null, .null, .int 0, .null, .null, .null, .null, .int 0, .int 0, .null, .null, .int 0, .int 0, .null, .null]))] H := hO
  have hW := hW.off hop (fun k q h e => by have := hlo k q h; omega)
  refine lv_aload_n hx hb dX1_init_101 rfl (lv_at hl 0 rfl) ?_
  refine lv_ldc (v := 65536) hx hb S.2.2.2.1 (S.2.2.2.2 _ q1177) dX1_init_102 ?_
  refine g_newi (N := 65536) (n := 65536) S hK hS (by decide) (by decide) (by decide) (Nat.le_of_ble_eq_true rfl) (Nat.le_of_ble_eq_true rfl) dX1_init_104 (fun q15 H hq15 hPn hzq15 ho1 hS => ?_)
  have hO := hO.grow ho1
  have hq15s : sz ≤ q15 := by omega
  have hW := cons_P hPn (hW.grow ho1)
  have hlo := cons_hi (x := (q15, .inl (dA 0, 65536, .inl (fun _ => 0)))) hq15s hlo
  refine g_putFs (ref := RX1) (C := RX1) (T := TX1) (N := 30) (ci := 1) (ty := .array .int) (v := .ref q15) S in_X1 tyX1 tyX1_ok nmX1 hK hO rfl 15 (by decide) rfl q1193 (fun _ h9 => h9) rfl (hnm.trans rfl) rfl (by decide +kernel) rfl rfl hS (Or.inl rfl) dX1_init_106 (fun H locs hO hzpq15 hop hS => ?_)
  have hO : va_P D vwCl [(b, .inr (1, [.int 0, .int 0, .ref q2, .ref q3, .ref q4, .int 0, .ref q6, .ref q7, .int 0, .int 0, .ref q10, .ref q11, .ref q12, .ref q13, .ref q14, .ref q15, .null, .int 0, .null, .null, .null, .null, .int 0, .int 0, .null, .null, .int 0, .int 0, .null, .null]))] H := hO
  have hW := hW.off hop (fun k q h e => by have := hlo k q h; omega)
  refine lv_aload_n hx hb dX1_init_109 rfl (lv_at hl 0 rfl) ?_
  refine lv_ldc (v := 65536) hx hb S.2.2.2.1 (S.2.2.2.2 _ q1177) dX1_init_110 ?_
  refine g_newi (N := 65536) (n := 65536) S hK hS (by decide) (by decide) (by decide) (Nat.le_of_ble_eq_true rfl) (Nat.le_of_ble_eq_true rfl) dX1_init_112 (fun q16 H hq16 hPn hzq16 ho1 hS => ?_)
  have hO := hO.grow ho1
  have hq16s : sz ≤ q16 := by omega
  have hW := cons_P hPn (hW.grow ho1)
  have hlo := cons_hi (x := (q16, .inl (dA 0, 65536, .inl (fun _ => 0)))) hq16s hlo
  refine g_putFs (ref := RX1) (C := RX1) (T := TX1) (N := 30) (ci := 1) (ty := .array .int) (v := .ref q16) S in_X1 tyX1 tyX1_ok nmX1 hK hO rfl 16 (by decide) rfl q1194 (fun _ h9 => h9) rfl (hnm.trans rfl) rfl (by decide +kernel) rfl rfl hS (Or.inl rfl) dX1_init_114 (fun H locs hO hzpq16 hop hS => ?_)
  have hO : va_P D vwCl [(b, .inr (1, [.int 0, .int 0, .ref q2, .ref q3, .ref q4, .int 0, .ref q6, .ref q7, .int 0, .int 0, .ref q10, .ref q11, .ref q12, .ref q13, .ref q14, .ref q15, .ref q16, .int 0, .null, .null, .null, .null, .int 0, .int 0, .null, .null, .int 0, .int 0, .null, .null]))] H := hO
  have hW := hW.off hop (fun k q h e => by have := hlo k q h; omega)
  refine lv_aload_n hx hb dX1_init_117 rfl (lv_at hl 0 rfl) ?_
  refine lv_bipush (v := 16) hx hb dX1_init_118 (by decide) ?_
  refine g_newi (N := 16) (n := 16) S hK hS (by decide) (by decide) (by decide) (Nat.le_of_ble_eq_true rfl) (Nat.le_of_ble_eq_true rfl) dX1_init_120 (fun q18 H hq18 hPn hzq18 ho1 hS => ?_)
  have hO := hO.grow ho1
  have hq18s : sz ≤ q18 := by omega
  have hW := cons_P hPn (hW.grow ho1)
  have hlo := cons_hi (x := (q18, .inl (dA 0, 16, .inl (fun _ => 0)))) hq18s hlo
  refine g_putFs (ref := RX1) (C := RX1) (T := TX1) (N := 30) (ci := 1) (ty := .array .int) (v := .ref q18) S in_X1 tyX1 tyX1_ok nmX1 hK hO rfl 18 (by decide) rfl q1196 (fun _ h9 => h9) rfl (hnm.trans rfl) rfl (by decide +kernel) rfl rfl hS (Or.inl rfl) dX1_init_122 (fun H locs hO hzpq18 hop hS => ?_)
  have hO : va_P D vwCl [(b, .inr (1, [.int 0, .int 0, .ref q2, .ref q3, .ref q4, .int 0, .ref q6, .ref q7, .int 0, .int 0, .ref q10, .ref q11, .ref q12, .ref q13, .ref q14, .ref q15, .ref q16, .int 0, .ref q18, .null, .null, .null, .int 0, .int 0, .null, .null, .int 0, .int 0, .null, .null]))] H := hO
  have hW := hW.off hop (fun k q h e => by have := hlo k q h; omega)
  refine lv_aload_n hx hb dX1_init_125 rfl (lv_at hl 0 rfl) ?_
  refine lv_bipush (v := 16) hx hb dX1_init_126 (by decide) ?_
  refine g_newi (N := 16) (n := 16) S hK hS (by decide) (by decide) (by decide) (Nat.le_of_ble_eq_true rfl) (Nat.le_of_ble_eq_true rfl) dX1_init_128 (fun q19 H hq19 hPn hzq19 ho1 hS => ?_)
  have hO := hO.grow ho1
  have hq19s : sz ≤ q19 := by omega
  have hW := cons_P hPn (hW.grow ho1)
  have hlo := cons_hi (x := (q19, .inl (dA 0, 16, .inl (fun _ => 0)))) hq19s hlo
  refine g_putFs (ref := RX1) (C := RX1) (T := TX1) (N := 30) (ci := 1) (ty := .array .int) (v := .ref q19) S in_X1 tyX1 tyX1_ok nmX1 hK hO rfl 19 (by decide) rfl q1197 (fun _ h9 => h9) rfl (hnm.trans rfl) rfl (by decide +kernel) rfl rfl hS (Or.inl rfl) dX1_init_130 (fun H locs hO hzpq19 hop hS => ?_)
  have hO : va_P D vwCl [(b, .inr (1, [.int 0, .int 0, .ref q2, .ref q3, .ref q4, .int 0, .ref q6, .ref q7, .int 0, .int 0, .ref q10, .ref q11, .ref q12, .ref q13, .ref q14, .ref q15, .ref q16, .int 0, .ref q18, .ref q19, .null, .null, .int 0, .int 0, .null, .null, .int 0, .int 0, .null, .null]))] H := hO
  have hW := hW.off hop (fun k q h e => by have := hlo k q h; omega)
  refine lv_aload_n hx hb dX1_init_133 rfl (lv_at hl 0 rfl) ?_
  refine lv_bipush (v := 16) hx hb dX1_init_134 (by decide) ?_
  refine g_newi (N := 16) (n := 16) S hK hS (by decide) (by decide) (by decide) (Nat.le_of_ble_eq_true rfl) (Nat.le_of_ble_eq_true rfl) dX1_init_136 (fun q20 H hq20 hPn hzq20 ho1 hS => ?_)
  have hO := hO.grow ho1
  have hq20s : sz ≤ q20 := by omega
  have hW := cons_P hPn (hW.grow ho1)
  have hlo := cons_hi (x := (q20, .inl (dA 0, 16, .inl (fun _ => 0)))) hq20s hlo
  refine g_putFs (ref := RX1) (C := RX1) (T := TX1) (N := 30) (ci := 1) (ty := .array .int) (v := .ref q20) S in_X1 tyX1 tyX1_ok nmX1 hK hO rfl 20 (by decide) rfl q1198 (fun _ h9 => h9) rfl (hnm.trans rfl) rfl (by decide +kernel) rfl rfl hS (Or.inl rfl) dX1_init_138 (fun H locs hO hzpq20 hop hS => ?_)
  have hO : va_P D vwCl [(b, .inr (1, [.int 0, .int 0, .ref q2, .ref q3, .ref q4, .int 0, .ref q6, .ref q7, .int 0, .int 0, .ref q10, .ref q11, .ref q12, .ref q13, .ref q14, .ref q15, .ref q16, .int 0, .ref q18, .ref q19, .ref q20, .null, .int 0, .int 0, .null, .null, .int 0, .int 0, .null, .null]))] H := hO
  have hW := hW.off hop (fun k q h e => by have := hlo k q h; omega)
  refine lv_aload_n hx hb dX1_init_141 rfl (lv_at hl 0 rfl) ?_
  refine lv_aload_n hx hb dX1_init_142 rfl (lv_at hl 0 rfl) ?_
  refine va_get (v := .ref q6) (D := D) (ci := 1) (C := RX1) (T := TX1) (N := 30) S.1 S.2.1 S.2.2.2.2 in_X1 S.2.2.2.1 hK hO 0 rfl rfl 6 (by decide) (S.2.2.2.2 _ q1184) (fun _ h9 => h9) rfl dX1_init_143 ?_
  refine g_put (ref := RX1) (C := RX1) (T := TX1) (N := 30) (ci := 1) (ty := .array .int) (v := .ref q6) S in_X1 tyX1 tyX1_ok nmX1 hK hO rfl 21 (by decide) rfl q1199 (fun _ h9 => h9) rfl (by decide +kernel) rfl rfl hS (Or.inl rfl) dX1_init_146 (fun H locs hO hzpL hop hS => ?_)
  have hO : va_P D vwCl [(b, .inr (1, [.int 0, .int 0, .ref q2, .ref q3, .ref q4, .int 0, .ref q6, .ref q7, .int 0, .int 0, .ref q10, .ref q11, .ref q12, .ref q13, .ref q14, .ref q15, .ref q16, .int 0, .ref q18, .ref q19, .ref q20, .ref q6, .int 0, .int 0, .null, .null, .int 0, .int 0, .null, .null]))] H := hO
  have hW := hW.off hop (fun k q h e => by have := hlo k q h; omega)
  refine lv_aload_n hx hb dX1_init_149 rfl (lv_at hl 0 rfl) ?_
  refine lv_iconst (v := 4) hx hb dX1_init_150 (by decide) ?_
  refine g_newi (N := 4) (n := 4) S hK hS (by decide) (by decide) (by decide) (Nat.le_of_ble_eq_true rfl) (Nat.le_of_ble_eq_true rfl) dX1_init_151 (fun q24 H hq24 hPn hzq24 ho1 hS => ?_)
  have hO := hO.grow ho1
  have hq24s : sz ≤ q24 := by omega
  have hW := cons_P hPn (hW.grow ho1)
  have hlo := cons_hi (x := (q24, .inl (dA 0, 4, .inl (fun _ => 0)))) hq24s hlo
  refine g_putFs (ref := RX1) (C := RX1) (T := TX1) (N := 30) (ci := 1) (ty := .array .int) (v := .ref q24) S in_X1 tyX1 tyX1_ok nmX1 hK hO rfl 24 (by decide) rfl q1202 (fun _ h9 => h9) rfl (hnm.trans rfl) rfl (by decide +kernel) rfl rfl hS (Or.inl rfl) dX1_init_153 (fun H locs hO hzpq24 hop hS => ?_)
  have hO : va_P D vwCl [(b, .inr (1, [.int 0, .int 0, .ref q2, .ref q3, .ref q4, .int 0, .ref q6, .ref q7, .int 0, .int 0, .ref q10, .ref q11, .ref q12, .ref q13, .ref q14, .ref q15, .ref q16, .int 0, .ref q18, .ref q19, .ref q20, .ref q6, .int 0, .int 0, .ref q24, .null, .int 0, .int 0, .null, .null]))] H := hO
  have hW := hW.off hop (fun k q h e => by have := hlo k q h; omega)
  refine lv_aload_n hx hb dX1_init_156 rfl (lv_at hl 0 rfl) ?_
  refine lv_iconst (v := 4) hx hb dX1_init_157 (by decide) ?_
  refine g_newi (N := 4) (n := 4) S hK hS (by decide) (by decide) (by decide) (Nat.le_of_ble_eq_true rfl) (Nat.le_of_ble_eq_true rfl) dX1_init_158 (fun q25 H hq25 hPn hzq25 ho1 hS => ?_)
  have hO := hO.grow ho1
  have hq25s : sz ≤ q25 := by omega
  have hW := cons_P hPn (hW.grow ho1)
  have hlo := cons_hi (x := (q25, .inl (dA 0, 4, .inl (fun _ => 0)))) hq25s hlo
  refine g_putFs (ref := RX1) (C := RX1) (T := TX1) (N := 30) (ci := 1) (ty := .array .int) (v := .ref q25) S in_X1 tyX1 tyX1_ok nmX1 hK hO rfl 25 (by decide) rfl q1203 (fun _ h9 => h9) rfl (hnm.trans rfl) rfl (by decide +kernel) rfl rfl hS (Or.inl rfl) dX1_init_160 (fun H locs hO hzpq25 hop hS => ?_)
  have hO : va_P D vwCl [(b, .inr (1, [.int 0, .int 0, .ref q2, .ref q3, .ref q4, .int 0, .ref q6, .ref q7, .int 0, .int 0, .ref q10, .ref q11, .ref q12, .ref q13, .ref q14, .ref q15, .ref q16, .int 0, .ref q18, .ref q19, .ref q20, .ref q6, .int 0, .int 0, .ref q24, .ref q25, .int 0, .int 0, .null, .null]))] H := hO
  have hW := hW.off hop (fun k q h e => by have := hlo k q h; omega)
  refine lv_aload_n hx hb dX1_init_163 rfl (lv_at hl 0 rfl) ?_
  refine lv_iconst (v := 4) hx hb dX1_init_164 (by decide) ?_
  refine g_newi (N := 4) (n := 4) S hK hS (by decide) (by decide) (by decide) (Nat.le_of_ble_eq_true rfl) (Nat.le_of_ble_eq_true rfl) dX1_init_165 (fun q28 H hq28 hPn hzq28 ho1 hS => ?_)
  have hO := hO.grow ho1
  have hq28s : sz ≤ q28 := by omega
  have hW := cons_P hPn (hW.grow ho1)
  have hlo := cons_hi (x := (q28, .inl (dA 0, 4, .inl (fun _ => 0)))) hq28s hlo
  refine g_putFs (ref := RX1) (C := RX1) (T := TX1) (N := 30) (ci := 1) (ty := .array .int) (v := .ref q28) S in_X1 tyX1 tyX1_ok nmX1 hK hO rfl 28 (by decide) rfl q1206 (fun _ h9 => h9) rfl (hnm.trans rfl) rfl (by decide +kernel) rfl rfl hS (Or.inl rfl) dX1_init_167 (fun H locs hO hzpq28 hop hS => ?_)
  have hO : va_P D vwCl [(b, .inr (1, [.int 0, .int 0, .ref q2, .ref q3, .ref q4, .int 0, .ref q6, .ref q7, .int 0, .int 0, .ref q10, .ref q11, .ref q12, .ref q13, .ref q14, .ref q15, .ref q16, .int 0, .ref q18, .ref q19, .ref q20, .ref q6, .int 0, .int 0, .ref q24, .ref q25, .int 0, .int 0, .ref q28, .null]))] H := hO
  have hW := hW.off hop (fun k q h e => by have := hlo k q h; omega)
  refine lv_aload_n hx hb dX1_init_170 rfl (lv_at hl 0 rfl) ?_
  refine lv_ldc (v := 65536) hx hb S.2.2.2.1 (S.2.2.2.2 _ q1177) dX1_init_171 ?_
  refine g_newi (N := 65536) (n := 65536) S hK hS (by decide) (by decide) (by decide) (Nat.le_of_ble_eq_true rfl) (Nat.le_of_ble_eq_true rfl) dX1_init_173 (fun q29 H hq29 hPn hzq29 ho1 hS => ?_)
  have hO := hO.grow ho1
  have hq29s : sz ≤ q29 := by omega
  have hW := cons_P hPn (hW.grow ho1)
  have hlo := cons_hi (x := (q29, .inl (dA 0, 65536, .inl (fun _ => 0)))) hq29s hlo
  refine g_putFs (ref := RX1) (C := RX1) (T := TX1) (N := 30) (ci := 1) (ty := .array .int) (v := .ref q29) S in_X1 tyX1 tyX1_ok nmX1 hK hO rfl 29 (by decide) rfl q1207 (fun _ h9 => h9) rfl (hnm.trans rfl) rfl (by decide +kernel) rfl rfl hS (Or.inl rfl) dX1_init_175 (fun H locs hO hzpq29 hop hS => ?_)
  have hO : va_P D vwCl [(b, .inr (1, [.int 0, .int 0, .ref q2, .ref q3, .ref q4, .int 0, .ref q6, .ref q7, .int 0, .int 0, .ref q10, .ref q11, .ref q12, .ref q13, .ref q14, .ref q15, .ref q16, .int 0, .ref q18, .ref q19, .ref q20, .ref q6, .int 0, .int 0, .ref q24, .ref q25, .int 0, .int 0, .ref q28, .ref q29]))] H := hO
  have hW := hW.off hop (fun k q h e => by have := hlo k q h; omega)
  have hq29z : q29 < H.size := one_lt (hW.sub [0] rfl)
  have hap : b < q2 ∧ q2 < q3 ∧ q3 < q4 ∧ q4 < q6 ∧ q6 < q7 ∧ q7 < q10 ∧ q10 < q11 ∧ q11 < q12 ∧ q12 < q13 ∧ q13 < q14 ∧ q14 < q15 ∧ q15 < q16 ∧ q16 < q18 ∧ q18 < q19 ∧ q19 < q20 ∧ q20 < q24 ∧ q24 < q25 ∧ q25 < q28 ∧ q28 < q29 := by omega
  refine g_vret S hr hlk hS dX1_init_178 ⟨Nat.le_of_ble_eq_true rfl, Nat.le_of_ble_eq_true rfl⟩ ⟨rfl, fun k => ([b, 0, q2, q3, q4, 0, q6, q7, 0, 0, q10, q11, q12, q13, q14, q15, q16, 0, q18, q19, q20, 0, 0, 0, q24, q25, 0, 0, q28, q29] : List Nat).getD k 0, rfl, ?_, ?_, ?_⟩
  · exact inj_m hap
  · intro i hi h0
    simp only [mIx, mL, List.mem_cons, List.not_mem_nil, or_false] at hi
    clear hW hlo hO hS hK hK2 S hl
    rcases hi with rfl | rfl | rfl | rfl | rfl | rfl | rfl | rfl | rfl | rfl | rfl | rfl | rfl | rfl | rfl | rfl | rfl | rfl | rfl | rfl <;> first | exact absurd rfl h0 | (simp only [List.getD_cons_zero, List.getD_cons_succ]; omega)
  · exact cons_P hO (hW.sub [18, 17, 16, 15, 14, 13, 12, 11, 10, 9, 8, 7, 6, 5, 4, 3, 2, 1, 0] rfl)
