/-! RING2: the fields that have one name with others, in the constructors of News and Whole -/
set_option maxRecDepth 100000
theorem ten {P : Nat → Prop} (h0 : P 0) (h1 : P 1) (h2 : P 2) (h3 : P 3) (h4 : P 4) (h5 : P 5) (h6 : P 6) (h7 : P 7) (h8 : P 8) (h9 : P 9) (hr : ∀ j, 10 ≤ j → P j) : ∀ j, P j := fun j => by
  match j with
  | 0 => exact h0
  | 1 => exact h1
  | 2 => exact h2
  | 3 => exact h3
  | 4 => exact h4
  | 5 => exact h5
  | 6 => exact h6
  | 7 => exact h7
  | 8 => exact h8
  | 9 => exact h9
  | j + 10 => exact hr (j + 10) (by omega)
theorem nm68 : ∀ j, j < 7 → (TX6 j).2.1 ≠ (TX6 8).2.1 := by decide +kernel
theorem nm78 : ∀ j, j < 7 → (TX7 j).2.1 ≠ (TX7 8).2.1 := by decide +kernel
theorem nm79 : ∀ j, j < 7 → (TX7 j).2.1 ≠ (TX7 9).2.1 := by decide +kernel
abbrev z7 : List Value := [.int 0, .int 0, .int 0, .int 0, .int 0, .int 0, .int 0]
section RING2
variable {p : Program} {l : Launch} {e : Env} {R : Room} {s : State} {m : MethodId} {args : Array Value} {below : List Frame} {meth : Method} {c : Code} {H : Heap} {locs : List Loc} {cells slots : Nat} {Q : State → Prop}
variable {cc : ByteArray} {pc nL : Nat} {ls : Array Slot} {rest : List Value} {D : va_G} {dA : Nat → ClassId} {A0 : Nat → Prop} {H0 : Heap}
theorem ri_p8a {b index ao : Nat} (S : CallFix p m c cc nL s args lw_all RX6) (hK : va_K D vwCl (tyL dA) s) {x7 x8 : Value} (hP : va_P D vwCl [(b, .inr (4, z7 ++ [x7, x8]))] H) (hlink : Cond.fieldLink RX6 index RX6 (TX6 8).2.1 (TX6 8).2.2.1 ∈ lw_all) (hin2 : meth.name = "<init>") (hS0 : va_S A0 H0 H locs) (hAb : A0 b) (hdg : decode cc pc = .ok (.putfield index, 3))
    (kk : ∀ (H1 : Heap) (locs1 : List Loc) (y7 : Value), va_P D vwCl [(b, .inr (4, z7 ++ [y7, .ref ao]))] H1 → H1.size = H.size → (∀ q, q ≠ b → H1[q]? = H[q]?) → va_S A0 H0 H1 locs1 → W p l e R s m args below meth c H1 locs1 cells slots Q (F0 m (pc + 3) ls rest)) : W p l e R s m args below meth c H locs cells slots Q (F0 m pc ls (.ref ao :: .ref b :: rest)) := by
  refine g_putF (C := RX6) (T := TX6) (N := 9) (ci := 4) (ref := RX6) (index := index) (ty := .object "CallRounds") S in_X6 tyX6 tyX6_ok hK hP rfl 8 (by decide) rfl hlink (fun _ h9 => h9) rfl hin2 rfl (by decide +kernel) rfl rfl hS0 hAb hdg (fun H1 locs1 fs' b1 b2 b3 b4 b5 b6 b7 b8 => ?_)
  have h7 : ∃ y, fs'[7]? = some y := ⟨_, List.getElem?_eq_getElem (by omega)⟩
  obtain ⟨y7, h7⟩ := h7
  have e : fs' = z7 ++ [y7, .ref ao] := by
    apply List.ext_getElem?
    refine ten ?_ ?_ ?_ ?_ ?_ ?_ ?_ h7 b2 ?_ ?_
    · exact (b3 0 (by decide) (nm68 0 (by decide)))
    · exact (b3 1 (by decide) (nm68 1 (by decide)))
    · exact (b3 2 (by decide) (nm68 2 (by decide)))
    · exact (b3 3 (by decide) (nm68 3 (by decide)))
    · exact (b3 4 (by decide) (nm68 4 (by decide)))
    · exact (b3 5 (by decide) (nm68 5 (by decide)))
    · exact (b3 6 (by decide) (nm68 6 (by decide)))
    · rw [List.getElem?_eq_none (by omega)]; rfl
    · intro j hj; rw [List.getElem?_eq_none (by omega), List.getElem?_eq_none (by simp; omega)]
  rw [e] at b5
  exact kk H1 locs1 y7 b5 b6 b7 b8
theorem ri_p8b {b index ao : Nat} (S : CallFix p m c cc nL s args lw_all RX6) (hK : va_K D vwCl (tyL dA) s) {x7 x8 : Value} (hP : va_P D vwCl [(b, .inr (5, z7 ++ [x7, x8, .ref ao]))] H) (hlink : Cond.fieldLink RX6 index RX6 (TX7 8).2.1 (TX7 8).2.2.1 ∈ lw_all) (hin2 : meth.name = "<init>") (hS0 : va_S A0 H0 H locs) (hAb : A0 b) (hdg : decode cc pc = .ok (.putfield index, 3))
    (kk : ∀ (H1 : Heap) (locs1 : List Loc) (y7 : Value), va_P D vwCl [(b, .inr (5, z7 ++ [y7, .ref ao, .ref ao]))] H1 → H1.size = H.size → (∀ q, q ≠ b → H1[q]? = H[q]?) → va_S A0 H0 H1 locs1 → W p l e R s m args below meth c H1 locs1 cells slots Q (F0 m (pc + 3) ls rest)) : W p l e R s m args below meth c H locs cells slots Q (F0 m pc ls (.ref ao :: .ref b :: rest)) := by
  refine g_putF (C := RX7) (T := TX7) (N := 10) (ci := 5) (ref := RX6) (index := index) (ty := .object "CallRounds") S in_X7 tyX7 tyX7_ok hK hP rfl 8 (by decide) rfl hlink (fun _ h9 => h9) rfl hin2 rfl (by decide +kernel) rfl rfl hS0 hAb hdg (fun H1 locs1 fs' b1 b2 b3 b4 b5 b6 b7 b8 => ?_)
  have h7 : ∃ y, fs'[7]? = some y := ⟨_, List.getElem?_eq_getElem (by omega)⟩
  obtain ⟨y7, h7⟩ := h7
  have e : fs' = z7 ++ [y7, .ref ao, .ref ao] := by
    apply List.ext_getElem?
    refine ten ?_ ?_ ?_ ?_ ?_ ?_ ?_ h7 b2 ?_ ?_
    · exact (b3 0 (by decide) (nm78 0 (by decide)))
    · exact (b3 1 (by decide) (nm78 1 (by decide)))
    · exact (b3 2 (by decide) (nm78 2 (by decide)))
    · exact (b3 3 (by decide) (nm78 3 (by decide)))
    · exact (b3 4 (by decide) (nm78 4 (by decide)))
    · exact (b3 5 (by decide) (nm78 5 (by decide)))
    · exact (b3 6 (by decide) (nm78 6 (by decide)))
    · rcases b4 9 (by decide) with h | h
      · exact h
      · exact h
    · intro j hj; rw [List.getElem?_eq_none (by omega), List.getElem?_eq_none (by simp; omega)]
  rw [e] at b5
  exact kk H1 locs1 y7 b5 b6 b7 b8
theorem ri_p9 {b index ao : Nat} (S : CallFix p m c cc nL s args lw_all RX7) (hK : va_K D vwCl (tyL dA) s) {x7 x8 x9 : Value} (hP : va_P D vwCl [(b, .inr (5, z7 ++ [x7, x8, x9]))] H) (hlink : Cond.fieldLink RX7 index RX7 (TX7 9).2.1 (TX7 9).2.2.1 ∈ lw_all) (hin2 : meth.name = "<init>") (hS0 : va_S A0 H0 H locs) (hAb : A0 b) (hdg : decode cc pc = .ok (.putfield index, 3))
    (kk : ∀ (H1 : Heap) (locs1 : List Loc) (y7 y8 : Value), va_P D vwCl [(b, .inr (5, z7 ++ [y7, y8, .ref ao]))] H1 → H1.size = H.size → (∀ q, q ≠ b → H1[q]? = H[q]?) → va_S A0 H0 H1 locs1 → W p l e R s m args below meth c H1 locs1 cells slots Q (F0 m (pc + 3) ls rest)) : W p l e R s m args below meth c H locs cells slots Q (F0 m pc ls (.ref ao :: .ref b :: rest)) := by
  refine g_putF (C := RX7) (T := TX7) (N := 10) (ci := 5) (ref := RX7) (index := index) (ty := .object "CallRounds") S in_X7 tyX7 tyX7_ok hK hP rfl 9 (by decide) rfl hlink (fun _ h9 => h9) rfl hin2 rfl (by decide +kernel) rfl rfl hS0 hAb hdg (fun H1 locs1 fs' b1 b2 b3 b4 b5 b6 b7 b8 => ?_)
  have h7 : ∃ y, fs'[7]? = some y := ⟨_, List.getElem?_eq_getElem (by omega)⟩
  obtain ⟨y7, h7⟩ := h7
  have h8 : ∃ y, fs'[8]? = some y := ⟨_, List.getElem?_eq_getElem (by omega)⟩
  obtain ⟨y8, h8⟩ := h8
  have e : fs' = z7 ++ [y7, y8, .ref ao] := by
    apply List.ext_getElem?
    refine ten ?_ ?_ ?_ ?_ ?_ ?_ ?_ h7 h8 b2 ?_
    · exact (b3 0 (by decide) (nm79 0 (by decide)))
    · exact (b3 1 (by decide) (nm79 1 (by decide)))
    · exact (b3 2 (by decide) (nm79 2 (by decide)))
    · exact (b3 3 (by decide) (nm79 3 (by decide)))
    · exact (b3 4 (by decide) (nm79 4 (by decide)))
    · exact (b3 5 (by decide) (nm79 5 (by decide)))
    · exact (b3 6 (by decide) (nm79 6 (by decide)))
    · intro j hj; rw [List.getElem?_eq_none (by omega), List.getElem?_eq_none (by simp; omega)]
  rw [e] at b5
  exact kk H1 locs1 y7 y8 b5 b6 b7 b8
end RING2
