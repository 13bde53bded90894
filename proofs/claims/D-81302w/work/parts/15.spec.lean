/-! SPEC: what the public methods answer, as plain functions of persons, net, calls -/
set_option maxRecDepth 100000
/-- a number of one of n -/
def inP (v : Int32) (n : Nat) : Bool := !decide (v < 0) && !decide (nI n ≤ v)
/-- between two bounds -/
def inR (v a b : Int32) : Bool := !decide (v < a) && !decide (b < v)
theorem inP_some {v : Int32} {n : Nat} (hn : n < 2 ^ 31) (h : inP v n = true) : ∃ j, j < n ∧ v = nI j := by
  simp only [inP, Bool.and_eq_true, Bool.not_eq_true', decide_eq_false_iff_not] at h
  obtain ⟨j, hj, rfl⟩ := nI_of h.1
  exact ⟨j, by
    rcases Nat.lt_or_ge j n with q | q
    · exact q
    · exact absurd (nI_le q hj) h.2, rfl⟩
theorem inP_nI {j n : Nat} (h : j < n) (hn : n < 2 ^ 31) : inP (nI j) n = true := by
  simp only [inP, Bool.and_eq_true, Bool.not_eq_true', decide_eq_false_iff_not]
  exact ⟨nI_pos (by omega), nI_ge h hn⟩
theorem inR_some {v : Int32} {k : Nat} (hk : k < 2 ^ 31) (h : inR v 0 (nI k) = true) : ∃ j, j ≤ k ∧ v = nI j := by
  simp only [inR, Bool.and_eq_true, Bool.not_eq_true', decide_eq_false_iff_not] at h
  obtain ⟨j, hj, rfl⟩ := nI_of h.1
  exact ⟨j, by
    rcases Nat.lt_or_ge k j with q | q
    · exact absurd (nI_lt q hj) h.2
    · exact q, rfl⟩
theorem inR_nI {j k : Nat} (h : j ≤ k) (hk : k < 2 ^ 31) : inR (nI j) 0 (nI k) = true := by
  simp only [inR, Bool.and_eq_true, Bool.not_eq_true', decide_eq_false_iff_not]
  exact ⟨nI_pos (by omega), nI_nlt h (by omega)⟩
/-- what one of a call's two learns of it; how much both learn; the call's kind -/
def lrnt (n : Nat) (cp cq : Nat → Nat) (j who : Nat) : Nat := hs4 (stAt n cp cq (j + 1)) who &&& (15 ^^^ hs4 (stAt n cp cq j) who)
def nws (n : Nat) (cp cq : Nat → Nat) (j : Nat) : Nat := bts (lrnt n cp cq j (cp j)) 16 + bts (lrnt n cp cq j (cq j)) 16
def knd (n : Nat) (cp cq : Nat → Nat) (j : Nat) : Nat := if nws n cp cq j = 0 then 0 else if hs4 (stAt n cp cq (j + 1)) (cp j) = al n then 2 else 1
theorem lrnt_lt (n : Nat) (cp cq : Nat → Nat) (j who : Nat) : lrnt n cp cq j who < 16 := Nat.lt_of_le_of_lt Nat.and_le_left (hs4_lt _ _)
theorem knd_lt (n : Nat) (cp cq : Nat → Nat) (j : Nat) : knd n cp cq j < 3 := by
  unfold knd
  split
  · decide
  · split <;> decide
theorem nws_le (n : Nat) (cp cq : Nat → Nat) (j : Nat) : nws n cp cq j ≤ 32 := by
  have h1 := bts_le (lrnt n cp cq j (cp j)) 16
  have h2 := bts_le (lrnt n cp cq j (cq j)) 16
  unfold nws
  omega
theorem andn_eq : ∀ x, x < 16 → ∀ y, y < 16 → nI x &&& (nI y ^^^ (-1)) = nI (x &&& (15 ^^^ y)) := by decide +kernel
/-- whether a call is allowed by a rule -/
def mayB (net : Nat → Nat) (r sx tx pa qa : Nat) : Bool :=
  if pa = qa then false else if (numA net sx pa 4).testBit qa = false then false else if r = 1 then !(hs4 sx pa).testBit qa else if hs4 sx pa = hs4 sx qa then false else if r = 0 then true else tx.testBit pa
/-- those whom one may call -/
def mayS (net : Nat → Nat) (r sx tx pa : Nat) : Nat → Nat
  | 0 => 0
  | q + 1 => mayS net r sx tx pa q ||| (if mayB net r sx tx pa q then 2 ^ q else 0)
def spOfP (n : Nat) (net : Nat → Nat) (sx t2 t3 j : Nat) (w : Int32) : Int32 :=
  if w = 0 then nI (hs4 sx j) else if w = 1 then nI (numA net sx j 4) else if w = 2 then nI (net j ||| 2 ^ j) else if w = 3 then (if hs4 sx j = al n then 1 else 0) else if w = 4 then nI (t2 >>> j &&& 1) else if w = 5 then nI (t3 >>> j &&& 1) else -2
def spOfPerson (n : Nat) (net : Nat → Nat) (sx t2 t3 : Nat) (v w : Int32) : Int32 := if inP v n then spOfP n net sx t2 t3 v.toNatClampNeg w else -1
def spOfC (n : Nat) (cp cq : Nat → Nat) (j : Nat) (w : Int32) : Int32 :=
  if w = 0 then nI (knd n cp cq j) else if w = 1 then nI (cp j) else if w = 2 then nI (cq j) else if w = 3 then nI (lrnt n cp cq j (cp j)) else if w = 4 then nI (lrnt n cp cq j (cq j)) else -2
def spOfCall (n nc : Nat) (cp cq : Nat → Nat) (v w : Int32) : Int32 := if inP v nc then spOfC n cp cq v.toNatClampNeg w else -1
def spMay (n : Nat) (net : Nat → Nat) (sx : Nat) (tk : Nat → Nat) (rv v : Int32) : Int32 :=
  if inR rv 0 3 && inP v n then nI (mayS net rv.toNatClampNeg sx (tk rv.toNatClampNeg) v.toNatClampNeg n) else -1
/-- how a call is answered: 0 it is laid, else the refusal -/
def spCall (n : Nat) (net : Nat → Nat) (nc sx : Nat) (v w : Int32) : Int32 :=
  if (inP v n && inP w n) = false then -1 else if v = w then -2 else if (numA net sx v.toNatClampNeg 4).testBit w.toNatClampNeg = false then -3 else if nc = 12 then -4 else nI nc
