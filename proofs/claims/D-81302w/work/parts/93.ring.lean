/-! RING: a ring's fields are written by its constructors -/
set_option maxRecDepth 100000
/-- the fields of a ring that is made: number, from, to, what was before, tokens then -/
def rgN (ao nn p q sb tt κ : Nat) : List Value :=
  [.int (nI nn), .int (nI p), .int (nI q), .int (nI (aft sb p q)), .int (nI tt), .int (nI (hs4 (aft sb p q) p &&& (15 ^^^ hs4 sb p))), .int (nI (hs4 (aft sb p q) q &&& (15 ^^^ hs4 sb q))), .ref ao] ++ List.replicate κ (.ref ao)
theorem nm5 : ∀ k, k < 8 → ∀ j, j < 8 → j ≠ k → (TX5 j).2.1 ≠ (TX5 k).2.1 := by decide +kernel
theorem nm6 : ∀ k, k < 7 → (TX6 8).2.1 ≠ (TX6 k).2.1 := by decide +kernel
theorem nm7 : ∀ k, k < 7 → (TX7 8).2.1 ≠ (TX7 k).2.1 ∧ (TX7 9).2.1 ≠ (TX7 k).2.1 := by decide +kernel
theorem fin5 : ∀ k, k < 8 → (TX5 k).2.2.2 = true := by decide +kernel
theorem ext_set {fs fs' : List Value} {N k : Nat} {v : Value} (hl : fs.length = N) (hl' : fs'.length = N) (hk : k < N) (h1 : fs'[k]? = some v) (h2 : ∀ j, j < N → j ≠ k → fs'[j]? = fs[j]?) : fs' = fs.set k v := by
  apply List.ext_getElem?
  intro j
  by_cases hj : j < N
  · by_cases e : j = k
    · subst e; rw [h1, List.getElem?_set_self (by omega)]
    · rw [h2 j hj e, List.getElem?_set_ne (fun z => e z.symm)]
  · rw [List.getElem?_eq_none (by omega), List.getElem?_eq_none (by rw [List.length_set]; omega)]
section RING
variable {p : Program} {l : Launch} {e : Env} {R : Room} {s : State} {m : MethodId} {args : Array Value} {below : List Frame} {meth : Method} {c : Code} {H : Heap} {locs : List Loc} {cells slots : Nat} {Q : State → Prop}
variable {cc : ByteArray} {pc nL : Nat} {ls : Array Slot} {rest : List Value} {D : va_G} {dA : Nat → ClassId} {A0 : Nat → Prop} {H0 : Heap}
theorem ri_put {b κ index ao : Nat} (S : CallFix p m c cc nL s args lw_all RX5) (hK : va_K D vwCl (tyL dA) s) {fs : List Value} (hκ : κ < 3) (hP : va_P D vwCl [(b, .inr (3 + κ, fs))] H) (k : Nat) (hk : k < 8) (hlen : fs.length = 8 + κ) (hlink : Cond.fieldLink RX5 index RX5 (TX5 k).2.1 (TX5 k).2.2.1 ∈ lw_all) (hin2 : meth.name = "<init>") {ty : FieldType} {v : Value} (hd : parseFieldDescriptor (TX5 k).2.2.1 = some ty) (hn : narrow ty v = v) (hfit : fits ty v = true)
    (h7 : k = 7 → v = .ref ao) (h8 : ∀ j, 8 ≤ j → j < 8 + κ → fs[j]? = some (.ref ao)) (hS0 : va_S A0 H0 H locs) (hAb : A0 b) (hdg : decode cc pc = .ok (.putfield index, 3))
    (kk : ∀ (H1 : Heap) (locs1 : List Loc), va_P D vwCl [(b, .inr (3 + κ, fs.set k v))] H1 → H1.size = H.size → (∀ q, q ≠ b → H1[q]? = H[q]?) → va_S A0 H0 H1 locs1 → W p l e R s m args below meth c H1 locs1 cells slots Q (F0 m (pc + 3) ls rest)) : W p l e R s m args below meth c H locs cells slots Q (F0 m pc ls (v :: .ref b :: rest)) := by
  have h5 := tx5_own k hk
  have hup : ∀ (fs' : List Value), (∀ j, j < 8 → (TX5 j).2.1 ≠ (TX5 k).2.1 → fs'[j]? = fs[j]?) → (∀ j, 8 ≤ j → j < 8 + κ → (k < 7 → fs'[j]? = fs[j]?)) → (∀ j, j < 8 + κ → fs'[j]? = fs[j]? ∨ fs'[j]? = some v) → ∀ j, j < 8 + κ → j ≠ k → fs'[j]? = fs[j]? := by
    intro fs' a1 a2 a3 j hj hne
    by_cases e8 : j < 8
    · exact a1 j e8 (nm5 k hk j e8 hne)
    · by_cases e7 : k < 7
      · exact a2 j (by omega) hj e7
      · rcases a3 j hj with h | h
        · exact h
        · rw [h, h7 (by omega), h8 j (by omega) hj]
  match κ, hκ, hP, hlen, h8, kk, hup with
  | 0, _, hP, hlen, h8, kk, hup =>
    refine g_putF (C := RX5) (T := TX5) (N := 8) (ci := 3) S in_X5 tyX5 tyX5_ok hK hP rfl k hk hlen hlink (fun _ h9 => by rw [h5] at h9; exact h9) (fin5 k hk) hin2 h5 hd hn hfit hS0 hAb hdg (fun H1 locs1 fs' b1 b2 b3 b4 b5 b6 b7 b8 => ?_)
    rw [ext_set hlen b1 hk b2 (hup fs' b3 (fun j g1 g2 => by omega) b4)] at b5
    exact kk H1 locs1 b5 b6 b7 b8
  | 1, _, hP, hlen, h8, kk, hup =>
    have e6 := tx6_eq k hk
    refine g_putF (C := RX6) (T := TX6) (N := 9) (ci := 4) (ref := RX5) (index := index) S in_X6 tyX6 tyX6_ok hK hP rfl k (by omega) hlen (by rw [e6]; exact hlink) (fun _ h9 => by rw [e6] at h9 ⊢; rw [h5] at h9; exact h9) (by rw [e6]; exact fin5 k hk) hin2 (by rw [e6]; exact h5) (by rw [e6]; exact hd) hn hfit hS0 hAb hdg (fun H1 locs1 fs' b1 b2 b3 b4 b5 b6 b7 b8 => ?_)
    rw [ext_set hlen b1 (by omega) b2 (hup fs' (fun j hj hne => b3 j (by omega) (by rw [e6, tx6_eq j hj]; exact hne)) (fun j g1 g2 g3 => b3 j (by omega) (by rw [show j = 8 by omega]; exact nm6 k g3)) b4)] at b5
    exact kk H1 locs1 b5 b6 b7 b8
  | 2, _, hP, hlen, h8, kk, hup =>
    have e7 := tx7_eq k hk
    refine g_putF (C := RX7) (T := TX7) (N := 10) (ci := 5) (ref := RX5) (index := index) S in_X7 tyX7 tyX7_ok hK hP rfl k (by omega) hlen (by rw [e7]; exact hlink) (fun _ h9 => by rw [e7] at h9 ⊢; rw [h5] at h9; exact h9) (by rw [e7]; exact fin5 k hk) hin2 (by rw [e7]; exact h5) (by rw [e7]; exact hd) hn hfit hS0 hAb hdg (fun H1 locs1 fs' b1 b2 b3 b4 b5 b6 b7 b8 => ?_)
    rw [ext_set hlen b1 (by omega) b2 (hup fs' (fun j hj hne => b3 j (by omega) (by rw [e7, tx7_eq j hj]; exact hne)) (fun j g1 g2 g3 => b3 j (by omega) (by
      have h9 : j = 8 ∨ j = 9 := by omega
      rcases h9 with rfl | rfl
      · exact (nm7 k g3).1
      · exact (nm7 k g3).2)) b4)] at b5
    exact kk H1 locs1 b5 b6 b7 b8
end RING
