/-! DYN: the component's rings: the list and the objects in it -/
set_option maxRecDepth 100000
/-- tokens in eight bits behind the first calls -/
def tk8 (cp cq : Nat → Nat) : Nat → Nat
  | 0 => 255
  | c + 1 => tb8 (tk8 cp cq c) (cp c) (cq c)
theorem tk8_lt {cp cq : Nat → Nat} : ∀ c, (∀ j, j < c → cp j < 4 ∧ cq j < 4) → tk8 cp cq c < 256
  | 0, _ => by show 255 < 256; decide
  | c + 1, h => tb8_lt _ (tk8_lt c (fun j hj => h j (by omega))) _ (h c (by omega)).1 _ (h c (by omega)).2
/-- a ring's fields -/
def rgF (ao n : Nat) (cp cq : Nat → Nat) (j : Nat) : List Value :=
  [.int (nI j), .int (nI (cp j)), .int (nI (cq j)), .int (nI (stAt n cp cq (j + 1))), .int (nI (tk8 cp cq (j + 1))), .int (nI (lrnt n cp cq j (cp j))), .int (nI (lrnt n cp cq j (cq j))), .ref ao] ++ List.replicate (knd n cp cq j) (.ref ao)
def rgW (ao n : Nat) (cp cq : Nat → Nat) (b j : Nat) : va_W := [(b, .inr (3 + knd n cp cq j, rgF ao n cp cq j))]
/-- the list with nc rings at rg -/
def DY (D : va_G) (dA : Nat → ClassId) (a : Nat → Nat) (n nc : Nat) (cp cq : Nat → Nat) (ed cap : Nat) (mc : Int32) (f : Nat → Option Nat) (rg : Nat → Nat) (H : Heap) : Prop :=
  va_P D vwCl (LW dA (a 3) ed cap mc nc f) H ∧ nc ≤ cap ∧ cap < 2 ^ 31 ∧ ∀ j, j < nc → f j = some (rg j) ∧ va_P D vwCl (rgW (a 0) n cp cq (rg j) j) H
theorem tx5_own : ∀ k, k < 8 → (TX5 k).1 = RX5 := by decide +kernel
theorem tx6_eq : ∀ k, k < 8 → TX6 k = TX5 k := by decide +kernel
theorem tx7_eq : ∀ k, k < 8 → TX7 k = TX5 k := by decide +kernel
section DYN
variable {p : Program} {l : Launch} {e : Env} {R : Room} {s : State} {m : MethodId} {args : Array Value} {below : List Frame} {meth : Method} {c : Code} {H : Heap} {locs : List Loc} {cells slots : Nat} {Q : State → Prop}
variable {cc : ByteArray} {pc nL : Nat} {ls : Array Slot} {rest : List Value} {D : va_G} {dA : Nat → ClassId} {own : String}
/-- a field of a ring, of any of the three classes -/
theorem g_get (S : CallFix p m c cc nL s args lw_all own) (hK : va_K D vwCl (tyL dA) s) {b κ : Nat} {fs : List Value} (hκ : κ < 3) (hP : va_P D vwCl [(b, .inr (3 + κ, fs))] H) (k : Nat) (hk : k < 8) {index : Nat} (hlink : Cond.fieldLink own index RX5 (TX5 k).2.1 (TX5 k).2.2.1 ∈ lw_all) (hdg : decode cc pc = .ok (.getfield index, 3))
    {v : Value} (hv : fs[k]? = some v) (kk : W p l e R s m args below meth c H locs cells slots Q (F0 m (pc + 3) ls (v :: rest))) : W p l e R s m args below meth c H locs cells slots Q (F0 m pc ls (.ref b :: rest)) := by
  have h5 := tx5_own k hk
  match κ, hκ, hP with
  | 0, _, hP => exact va_get (D := D) (ci := 3) (C := RX5) (T := TX5) (N := 8) S.1 S.2.1 S.2.2.2.2 in_X5 S.2.2.2.1 hK hP 0 rfl rfl k hk (S.2.2.2.2 _ hlink) (fun _ h9 => by rw [h5] at h9; exact h9) hv hdg kk
  | 1, _, hP => exact va_get (D := D) (ci := 4) (C := RX6) (T := TX6) (N := 9) S.1 S.2.1 S.2.2.2.2 in_X6 S.2.2.2.1 hK hP 0 rfl rfl k (by omega) (by rw [tx6_eq k hk]; exact S.2.2.2.2 _ hlink) (fun _ h9 => by rw [tx6_eq k hk] at h9 ⊢; rw [h5] at h9; exact h9) hv hdg kk
  | 2, _, hP => exact va_get (D := D) (ci := 5) (C := RX7) (T := TX7) (N := 10) S.1 S.2.1 S.2.2.2.2 in_X7 S.2.2.2.1 hK hP 0 rfl rfl k (by omega) (by rw [tx7_eq k hk]; exact S.2.2.2.2 _ hlink) (fun _ h9 => by rw [tx7_eq k hk] at h9 ⊢; rw [h5] at h9; exact h9) hv hdg kk
/-- a cast to Ring -/
theorem g_cast (S : CallFix p m c cc nL s args lw_all own) (hK : K2 D dA s) {b κ : Nat} {fs : List Value} (hκ : κ < 3) (hP : va_P D vwCl [(b, .inr (3 + κ, fs))] H) {index : Nat} (hlink : Cond.classLink own index RX5 ∈ lw_all) (hdg : decode cc pc = .ok (.checkcast index, 3))
    (kk : W p l e R s m args below meth c H locs cells slots Q (F0 m (pc + 3) ls (.ref b :: rest))) : W p l e R s m args below meth c H locs cells slots Q (F0 m pc ls (.ref b :: rest)) := by
  match κ, hκ, hP with
  | 0, _, hP => exact va_castS S.1 S.2.1 S.2.2.2.1 (S.2.2.2.2 _ hlink) (hK.1.1 3 (RX5, TX5, 8) rfl).2 (va_recv hK.1 hP (ci := 3) (q0 := 0) rfl rfl) hdg kk
  | 1, _, hP => exact va_castY S.1 S.2.1 S.2.2.2.1 (S.2.2.2.2 _ hlink) (hK.2.1 _ q1546 rfl) (va_recv hK.1 hP (ci := 4) (q0 := 0) rfl rfl) hdg kk
  | 2, _, hP => exact va_castY S.1 S.2.1 S.2.2.2.1 (S.2.2.2.2 _ hlink) (hK.2.1 _ q1547 rfl) (va_recv hK.1 hP (ci := 5) (q0 := 0) rfl rfl) hdg kk
end DYN
theorem rgF_3 {ao n : Nat} {cp cq : Nat → Nat} {j : Nat} : (rgF ao n cp cq j)[3]? = some (.int (nI (stAt n cp cq (j + 1)))) := rfl
theorem rgF_4 {ao n : Nat} {cp cq : Nat → Nat} {j : Nat} : (rgF ao n cp cq j)[4]? = some (.int (nI (tk8 cp cq (j + 1)))) := rfl
