/-! GROW: rows for methods in the general form: ends, new objects, fields written at one place; what stays -/
set_option maxRecDepth 100000
theorem va_P.off {D : va_G} {cl : List vw_C} {ws : va_W} {H H1 : Heap} {b : Nat} (h : va_P D cl ws H) (oq : ∀ q, q ≠ b → H1[q]? = H[q]?) (hb : ∀ (k : Nat) (q : Nat × va_E), ws[k]? = some q → q.1 ≠ b) : va_P D cl ws H1 := h.kept (fun k q hq => oq q.1 (hb k q hq))
theorem va_P.grow {D : va_G} {cl : List vw_C} {ws : va_W} {H H1 : Heap} (h : va_P D cl ws H) (o1 : ∀ q, q < H.size → H1[q]? = H[q]?) : va_P D cl ws H1 := h.kept (fun k q hq => o1 q.1 ((h k q hq).lt))
theorem va_P.fr {D : va_G} {cl : List vw_C} {ws : va_W} {H H1 : Heap} {A : Nat → Prop} (h : va_P D cl ws H) (o1 : ∀ q, q < H.size → ¬ A q → H1[q]? = H[q]?) (hA : ∀ (k : Nat) (q : Nat × va_E), ws[k]? = some q → ¬ A q.1) : va_P D cl ws H1 := h.kept (fun k q hq => o1 q.1 ((h k q hq).lt) (hA k q hq))
/-- one cell alone -/
theorem one_ne {b b' : Nat} {e : va_E} (h : b ≠ b') : ∀ (k : Nat) (q : Nat × va_E), ([(b, e)] : va_W)[k]? = some q → q.1 ≠ b' := fun k q hq => by
  match k, hq with
  | 0, hq => cases hq; exact h
  | k + 1, hq => simp at hq
theorem one_A {A : Nat → Prop} {b : Nat} {e : va_E} (h : ¬ A b) : ∀ (k : Nat) (q : Nat × va_E), ([(b, e)] : va_W)[k]? = some q → ¬ A q.1 := fun k q hq => by
  match k, hq with
  | 0, hq => cases hq; exact h
  | k + 1, hq => simp at hq
theorem one_lt {D : va_G} {cl : List vw_C} {b : Nat} {e : va_E} {H : Heap} (h : va_P D cl [(b, e)] H) : b < H.size := (h 0 _ rfl).lt
section GROW
variable {p : Program} {l : Launch} {e : Env} {R : Room} {s : State} {m : MethodId} {args : Array Value} {below : List Frame} {meth : Method} {c : Code} {H : Heap} {locs : List Loc} {cells slots : Nat} {Q : State → Prop}
variable {cc : ByteArray} {pc nL : Nat} {ls : Array Slot} {rest : List Value} {D : va_G} {dA : Nat → ClassId} {own : String} {A A0 : Nat → Prop} {H0 : Heap} {post : Option Value → Heap → Prop} {mc ms : Nat} {av : List Value}
theorem g_iret {aa : Array Value} {Ts : List Cond} (S : CallFix p m c cc nL s aa Ts own) (hr : meth.sig.returnType = some .int) (hlk : meth.locks = false) (hS : va_S A s.heap H locs) (hdg : decode cc pc = .ok (.ireturn, 1)) (hc : cells ≤ mc ∧ slots ≤ ms) {v : Int32} (hq : post (some (.int v)) H) :
    W p l e R s m av.toArray below meth c H locs cells slots (GZ below A post av s mc ms) (F0 m pc ls [.int v]) :=
  W.widen hc.1 hc.2 (W.iret S.1 S.2.1 hr (fun t ht _ => ⟨⟨_, rfl, by rw [ht]; exact hq⟩, hS.F ht⟩) hS.2.2 hdg hlk)
theorem g_zret {aa : Array Value} {Ts : List Cond} (S : CallFix p m c cc nL s aa Ts own) (hr : meth.sig.returnType = some .boolean) (hlk : meth.locks = false) (hS : va_S A s.heap H locs) (hdg : decode cc pc = .ok (.ireturn, 1)) (hc : cells ≤ mc ∧ slots ≤ ms) {v : Int32} (hn : narrow .boolean (.int v) = .int v) (hq : post (some (.int v)) H) :
    W p l e R s m av.toArray below meth c H locs cells slots (GZ below A post av s mc ms) (F0 m pc ls [.int v]) :=
  W.widen hc.1 hc.2 (W.zret S.1 S.2.1 hr hn (fun t ht _ => ⟨⟨_, rfl, by rw [ht]; exact hq⟩, hS.F ht⟩) hS.2.2 hdg hlk)
theorem g_lret {aa : Array Value} {Ts : List Cond} (S : CallFix p m c cc nL s aa Ts own) (hr : meth.sig.returnType = some .long) (hlk : meth.locks = false) (hS : va_S A s.heap H locs) (hdg : decode cc pc = .ok (.lreturn, 1)) (hc : cells ≤ mc ∧ slots ≤ ms) {v : Int64} (hq : post (some (.long v)) H) :
    W p l e R s m av.toArray below meth c H locs cells slots (GZ below A post av s mc ms) (F0 m pc ls [.long v]) :=
  W.widen hc.1 hc.2 (W.lret S.1 S.2.1 hr (fun t ht _ => ⟨⟨_, rfl, by rw [ht]; exact hq⟩, hS.F ht⟩) hS.2.2 hdg hlk)
theorem g_vret {aa : Array Value} {Ts : List Cond} (S : CallFix p m c cc nL s aa Ts own) (hr : meth.sig.returnType = none) (hlk : meth.locks = false) (hS : va_S A s.heap H locs) (hdg : decode cc pc = .ok (.return_, 1)) (hc : cells ≤ mc ∧ slots ≤ ms) (hq : post none H) :
    W p l e R s m av.toArray below meth c H locs cells slots (GZ below A post av s mc ms) (F0 m pc ls []) :=
  W.widen hc.1 hc.2 (W.vret S.1 S.2.1 hr (fun t ht _ => ⟨⟨_, rfl, by rw [ht]; exact hq⟩, hS.F ht⟩) hS.2.2 hdg hlk)
theorem g_aret {aa : Array Value} {Ts : List Cond} (S : CallFix p m c cc nL s aa Ts own) {rt : FieldType} (hr : meth.sig.returnType = some rt) (hrt : (∃ n, rt = .object n) ∨ ∃ t, rt = .array t) (hlk : meth.locks = false) (hS : va_S A s.heap H locs) (hdg : decode cc pc = .ok (.areturn, 1)) (hc : cells ≤ mc ∧ slots ≤ ms) {v : Value} (hv : v = .null ∨ ∃ a, v = .ref a) (hq : post (some v) H) :
    W p l e R s m av.toArray below meth c H locs cells slots (GZ below A post av s mc ms) (F0 m pc ls [v]) :=
  W.widen hc.1 hc.2 (W.aret S.1 S.2.1 hr hrt hv (fun t ht _ => ⟨⟨_, rfl, by rw [ht]; exact hq⟩, hS.F ht⟩) hS.2.2 hdg hlk)
/-- a final field in a constructor, its name perhaps that of another field too -/
theorem g_putF {ref C : String} {T : u_T} {N ci index b : Nat} (S : CallFix p m c cc nL s args lw_all own) (hin : ∀ w ∈ u_ws C T N, w ∈ lw_all) (ty0 : Nat → FieldType) (hty : ∀ k, k < N → parseFieldDescriptor (T k).2.2.1 = some (ty0 k)) (hK : va_K D vwCl (tyL dA) s) {fs : List Value} (hP : va_P D vwCl [(b, .inr (ci, fs))] H) (hc : vwCl[ci]? = some (C, T, N)) (k : Nat) (hk : k < N) (hlen : fs.length = N) (hlink : Cond.fieldLink own index ref (T k).2.1 (T k).2.2.1 ∈ lw_all) (hsame : ∀ x, s.fieldFound? (T k).1 (T k).2.1 (T k).2.2.1 = some x → s.fieldFound? ref (T k).2.1 (T k).2.2.1 = some x) (hfin : (T k).2.2.2 = true) (hin2 : meth.name = "<init>") (hdecl : (T k).1 = own) {ty : FieldType} {v : Value} (hd : parseFieldDescriptor (T k).2.2.1 = some ty) (hn : narrow ty v = v) (hfit : fits ty v = true)
    (hS0 : va_S A0 H0 H locs) (hAb : A0 b) (hdg : decode cc pc = .ok (.putfield index, 3))
    (kk : ∀ (H1 : Heap) (locs1 : List Loc) (fs' : List Value), fs'.length = N → fs'[k]? = some v → (∀ j, j < N → (T j).2.1 ≠ (T k).2.1 → fs'[j]? = fs[j]?) → (∀ j, j < N → fs'[j]? = fs[j]? ∨ fs'[j]? = some v) → va_P D vwCl [(b, .inr (ci, fs'))] H1 → H1.size = H.size → (∀ q, q ≠ b → H1[q]? = H[q]?) → va_S A0 H0 H1 locs1 → W p l e R s m args below meth c H1 locs1 cells slots Q (F0 m (pc + 3) ls rest)) : W p l e R s m args below meth c H locs cells slots Q (F0 m pc ls (v :: .ref b :: rest)) := by
  have hts := S.2.2.2.2
  have hown := S.2.2.2.1
  obtain ⟨r, h1, cell, q1, q2, q3, q4⟩ := hP 0 _ rfl
  have hr : r = (C, T, N) := Option.some.inj (h1.symm.trans hc)
  subst hr
  obtain ⟨hSl, hfc, kC, hkC, hkind⟩ := hK.1 ci _ hc
  obtain ⟨cf, kf, fi, f, hi, hsl⟩ := hSl k hk
  have hlay := hts _ (hin _ (u_in_lay hk))
  unfold u_lay at hlay
  rw [if_pos hfin] at hlay
  have hst := (u_facts hfc hkC (u_lays hts hin hk) hi).1
  have hcf : m.cls = cf := by
    obtain ⟨_, _, c', _, _, _, -, -, hf', -, -, -, hown2, -⟩ := Cond.laysFinal_spec hlay
    have e1 : c' = cf := by have := hi.symm.trans hf'; simp at this; exact this.1.symm
    rw [hdecl] at hown2
    rw [← e1]; exact Option.some.inj (hown.symm.trans hown2)
  have h6 := u_fits hfc hkC hkind (Or.inr hlay) hi hd hn hfit
  refine W.putFinK S.1 S.2.1 hown (hts _ hlink) (hsame _ hi) hst hcf hin2 (by rw [q2]; exact h6) q1 q3 (by rw [hsl]; exact k2_hasslot (q4 k hk)) rfl rfl hdg fun H' e1 e2 e3 => ?_
  rw [hsl] at e1 ⊢
  have hgd : ∀ j, j < N → fs[j]? = some (vp_V fs j) := fun j hj => by
    rw [vp_V, List.getD_eq_getElem?_getD, List.getElem?_eq_getElem (by omega)]; rfl
  have hap : ∀ j, j < N → (T j).2.1 ≠ (T k).2.1 → (D.2 ci) j ≠ (D.2 ci) k := fun j hj hne => by
    obtain ⟨_, _, _, fa, hia, ea⟩ := hSl j hj
    rw [← ea, ← hsl]
    refine u_apart (u_lays hts hin hj) (u_lays hts hin hk) hia hi ?_
    rw [(State.fieldFound?_type hia (hty j hj)).1, (State.fieldFound?_type hi (hty k hk)).1]
    exact hne
  refine kk H' _ ((List.range N).map (fun j => if (D.2 ci) j = (D.2 ci) k then v else vp_V fs j)) (by simp) (by rw [List.getElem?_map, List.getElem?_range hk]; simp) (fun j hj hne => ?_) (fun j hj => ?_) (fun i q hq => ?_) e2 e3 (hS0.put e2 e3 hAb)
  · rw [List.getElem?_map, List.getElem?_range hj, hgd j hj]
    simp [hap j hj hne]
  · rw [List.getElem?_map, List.getElem?_range hj, hgd j hj]
    by_cases h9 : (D.2 ci) j = (D.2 ci) k
    · right; simp [h9]
    · left; simp [h9]
  · match i, hq with
    | 0, hq =>
      cases hq
      refine ⟨_, hc, _, e1, q2, q3, fun j hj => ?_⟩
      have hV : vp_V ((List.range N).map (fun j => if (D.2 ci) j = (D.2 ci) k then v else vp_V fs j)) j = (if (D.2 ci) j = (D.2 ci) k then v else vp_V fs j) := by
        rw [vp_V, List.getD_eq_getElem?_getD, List.getElem?_map, List.getElem?_range hj]; rfl
      rw [hV]
      have hlt : (D.2 ci) k < cell.slots.size := k2_hasslot (q4 k hk)
      have hlj : (D.2 ci) j < cell.slots.size := k2_hasslot (q4 j hj)
      by_cases h9 : (D.2 ci) j = (D.2 ci) k
      · rw [if_pos h9, h9]
        simp [Cell.setSlot, hlt]
      · rw [if_neg h9]
        have := q4 j hj
        simp only [Cell.setSlot, Array.getElem?_setIfInBounds]
        rw [if_neg (fun z => h9 z.symm)]
        exact this
    | i + 1, hq => simp at hq
/-- a field that is not final, its name its own -/
theorem g_put {ref C : String} {T : u_T} {N ci index b : Nat} (S : CallFix p m c cc nL s args lw_all own) (hin : ∀ w ∈ u_ws C T N, w ∈ lw_all) (ty0 : Nat → FieldType) (hty : ∀ k, k < N → parseFieldDescriptor (T k).2.2.1 = some (ty0 k)) (hnm : ∀ a, a < N → ∀ b, b < N → a ≠ b → (T a).2.1 ≠ (T b).2.1) (hK : va_K D vwCl (tyL dA) s) {fs : List Value} (hP : va_P D vwCl [(b, .inr (ci, fs))] H) (hc : vwCl[ci]? = some (C, T, N)) (k : Nat) (hk : k < N) (hlen : fs.length = N) (hlink : Cond.fieldLink own index ref (T k).2.1 (T k).2.2.1 ∈ lw_all) (hsame : ∀ x, s.fieldFound? (T k).1 (T k).2.1 (T k).2.2.1 = some x → s.fieldFound? ref (T k).2.1 (T k).2.2.1 = some x) (hfin : (T k).2.2.2 = false) {ty : FieldType} {v : Value} (hd : parseFieldDescriptor (T k).2.2.1 = some ty) (hn : narrow ty v = v) (hfit : fits ty v = true)
    (hS0 : va_S A0 H0 H locs) (hAb : A0 b) (hdg : decode cc pc = .ok (.putfield index, 3))
    (kk : ∀ (H1 : Heap) (locs1 : List Loc), va_P D vwCl [(b, .inr (ci, fs.set k v))] H1 → H1.size = H.size → (∀ q, q ≠ b → H1[q]? = H[q]?) → va_S A0 H0 H1 locs1 → W p l e R s m args below meth c H1 locs1 cells slots Q (F0 m (pc + 3) ls rest)) : W p l e R s m args below meth c H locs cells slots Q (F0 m pc ls (v :: .ref b :: rest)) := by
  have hts := S.2.2.2.2
  have hap := va_apart (own := own) hts hin ty0 hty hnm hK hc
  obtain ⟨r, h1, cell, q1, q2, q3, q4⟩ := hP 0 _ rfl
  have hr : r = (C, T, N) := Option.some.inj (h1.symm.trans hc)
  subst hr
  obtain ⟨hSl, hfc, kC, hkC, hkind⟩ := hK.1 ci _ hc
  obtain ⟨cf, kf, fi, f, hi, hsl⟩ := hSl k hk
  have hlay := hts _ (hin _ (u_in_lay hk))
  unfold u_lay at hlay
  rw [if_neg (by rw [hfin]; decide)] at hlay
  have hst := (u_facts hfc hkC (u_lays hts hin hk) hi).1
  have h6 := u_store hfc hkC hkind hlay hi hd hn hfit
  refine W.putK S.1 S.2.1 (f := f) ⟨S.2.2.2.1, hts _ hlink, ⟨_, _, _, hsame _ hi⟩, hst⟩ (by rw [q2]; exact h6) q1 q3 (by rw [hsl]; exact k2_hasslot (q4 k hk)) rfl rfl hdg fun H' e1 e2 e3 => ?_
  rw [hsl] at e1 ⊢
  refine kk H' _ (fun i q hq => ?_) e2 e3 (hS0.put e2 e3 hAb)
  match i, hq with
  | 0, hq =>
    cases hq
    exact ⟨_, hc, t_OB.to (V := updV (vp_V fs) k v) ⟨_, e1, q2, q3, t_set q4 hap hk v⟩ (fun j _ => vp_updV_set (by omega) v j)⟩
  | i + 1, hq => simp at hq
/-- a new object -/
theorem g_new {C : String} {T : u_T} {N ci index : Nat} (S : CallFix p m c cc nL s args lw_all own) (hin : ∀ w ∈ u_ws C T N, w ∈ lw_all) (ty : Nat → FieldType) (hty : ∀ k, k < N → parseFieldDescriptor (T k).2.2.1 = some (ty k)) (hcl : Cond.classLink own index C ∈ lw_all) (hinst : Cond.instantiable C N ∈ lw_all) (hini : Cond.initialized C ∈ lw_all)
    (hK : va_K D vwCl (tyL dA) s) (hS : va_S A0 H0 H locs) (hA : ∀ q, H0.size ≤ q → A0 q) (hc : vwCl[ci]? = some (C, T, N)) {fs : List Value} (hfs : ∀ j, j < N → defaultValue (ty j) = vp_V fs j) (hcells : cells + 1 ≤ R.cells) (hslots : slots + N ≤ R.slots) (hdg : decode cc pc = .ok (.new index, 3))
    (kk : ∀ (q : Nat) (H1 : Heap), q = H.size → va_P D vwCl [(q, .inr (ci, fs))] H1 → H1.size = H.size + 1 → (∀ x, x < H.size → H1[x]? = H[x]?) → va_S A0 H0 H1 locs → W p l e R s m args below meth c H1 locs (cells + 1) (slots + N) Q (F0 m (pc + 3) ls (.ref q :: rest))) : W p l e R s m args below meth c H locs cells slots Q (F0 m pc ls rest) := by
  have hKn := hK.1 ci _ hc
  refine W.newcK S.1 S.2.1 S.2.2.2.1 (S.2.2.2.2 _ hcl) (S.2.2.2.2 _ hinst) (S.2.2.2.2 _ hini) rfl hdg hcells hslots hKn.2.1 rfl fun H1 kC hkC e1 z1 o1 => ?_
  refine kk H.size H1 rfl (fun k x hx => ?_) z1 o1 ⟨Nat.le_trans hS.1 (by omega), fun x h1 h2 => (o1 x (Nat.lt_of_lt_of_le h1 hS.1)).trans (hS.2.1 x h1 h2), hS.2.2⟩
  have hz : k < 1 := (List.getElem?_eq_some_iff.mp hx).1
  rw [show k = 0 by omega] at hx
  cases hx
  exact ⟨_, hc, (u_born ty S.2.2.2.2 hin hKn hkC e1 hty).to hfs⟩
end GROW
