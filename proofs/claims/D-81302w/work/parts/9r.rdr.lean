/-! RDR: the component's reader, as plain functions -/
set_option maxRecDepth 100000
theorem rd_bit {u mp q : Nat} : (u ||| 2 ^ mp).testBit q = (u.testBit q || decide (mp = q)) := by rw [Nat.testBit_or, Nat.testBit_two_pow]
theorem rdB_t {v : Int32} {mp u q : Nat} (hq : q < 2 ^ 31) (e : v - 48 = nI q) (h : (u ||| 2 ^ mp).testBit q = true) : rdB v mp u = true := by
  rw [rd_bit, Bool.or_eq_true, decide_eq_true_eq] at h
  rcases h with h | h
  · exact rdB_3 hq e h
  · exact rdB_2 hq e h.symm
theorem rdB_f {v : Int32} {mp u q : Nat} (hq : q < 4) (e : v - 48 = nI q) (h : (u ||| 2 ^ mp).testBit q = false) : rdB v mp u = false := by
  rw [rd_bit, Bool.or_eq_false_iff, decide_eq_false_iff_not] at h
  exact rdB_4 hq e (fun z => h.2 z.symm) h.1
theorem rd_nx {xs : Nat → Int32} {c j q mp : Nat} (h : c ≤ j) (hq : q < 2 ^ 31) (e : xs j - 48 = nI q) : (rdU xs c j ||| 2 ^ mp) ||| 2 ^ q = rdU xs c (j + 1) ||| 2 ^ mp := by
  rw [rdU_s h hq e, Nat.or_assoc, Nat.or_assoc, Nat.or_comm (2 ^ mp)]
theorem in48 {x : Int32} {mp : Nat} (hmp : mp ≤ 4) : inR x (48 + nI mp) 51 = inR (x - 48) (nI mp) 3 := by
  have e1 : (48 : Int32) + nI mp = nI (48 + mp) := nI_add 48 mp
  have h1 : (nI (48 + mp)).toInt = ((48 + mp : Nat) : Int) := nI_toInt (by omega)
  have h2 : (nI mp).toInt = (mp : Int) := nI_toInt (by omega)
  have h3 : (x - 48).toInt = (x.toInt - 48).bmod (2 ^ 32) := Int32.toInt_sub x 48
  have h4 : (51 : Int32).toInt = 51 := by decide
  have h5 : (3 : Int32).toInt = 3 := by decide
  have h6 := Int32.toInt_lt x
  have h7 := Int32.le_toInt x
  rw [Int.bmod_def] at h3
  have key : (¬ x < nI (48 + mp) ∧ ¬ (51 : Int32) < x) ↔ (¬ x - 48 < nI mp ∧ ¬ (3 : Int32) < x - 48) := by
    rw [Int32.lt_iff_toInt_lt, Int32.lt_iff_toInt_lt, Int32.lt_iff_toInt_lt, Int32.lt_iff_toInt_lt, h1, h2, h4, h5, h3]
    split <;> omega
  unfold inR
  rw [e1, Bool.eq_iff_iff]
  simp only [Bool.and_eq_true, Bool.not_eq_true', decide_eq_false_iff_not]
  exact key
theorem rdP_59' {xs : Nat → Int32} {mp c : Nat} : ∀ f i j, rdP xs mp c f i = (true, j) → j < i + f → xs j = 59
  | 0, i, j, h, hj => by
    rw [rdP] at h
    cases h
    omega
  | f + 1, i, j, h, hj => by
    rw [rdP] at h
    by_cases h1 : xs i = 59
    · rw [if_pos h1] at h; cases h; exact h1
    · rw [if_neg h1] at h
      by_cases h2 : rdB (xs i) mp (rdU xs c i) = true
      · rw [if_pos h2] at h; cases h
      · rw [if_neg h2] at h; exact rdP_59' f (i + 1) j h (by omega)
