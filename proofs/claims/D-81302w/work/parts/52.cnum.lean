/-! CNUM: the component's numbers, as plain functions: tokens of both rules in eight bits; reach in longs -/
set_option maxRecDepth 100000
def inL (x y z : Int64) : Bool := !decide (x < y) && !decide (z < x)
theorem inL_eq (v a b : Int32) : inL v.toInt64 a.toInt64 b.toInt64 = inR v a b := by
  have h : ∀ x y : Int32, decide (x.toInt64 < y.toInt64) = decide (x < y) := by
    intro x y
    apply decide_eq_decide.mpr
    rw [Int64.lt_iff_toInt_lt, Int32.lt_iff_toInt_lt, Int32.toInt_toInt64, Int32.toInt_toInt64]
  rw [inL, inR, h, h]
theorem inR_P {v : Int32} {n : Nat} (hn : n < 5) : inR v 0 (nI n - 1) = inP v n := by
  unfold inR inP
  by_cases h : v < 0
  · rw [decide_eq_true h]; rfl
  · rw [decide_eq_false h]
    obtain ⟨j, hj, rfl⟩ := nI_of h
    congr 1
    cases n with
    | zero =>
      have h1 : (nI 0 - 1 : Int32) < nI j := by
        rw [Int32.lt_iff_toInt_lt, nI_toInt hj]
        have : (nI 0 - 1).toInt = -1 := by decide
        rw [this]; omega
      rw [decide_eq_true h1]
      simp only [Bool.not_true]
      symm
      rw [Bool.not_eq_false']
      exact decide_eq_true (nI_le (Nat.zero_le _) hj)
    | succ n =>
      rw [nI_pred]
      by_cases h2 : n < j
      · rw [decide_eq_true (nI_lt h2 hj), decide_eq_true (nI_le (show n + 1 ≤ j by omega) hj)]
      · rw [decide_eq_false (nI_nlt (by omega) (by omega)), decide_eq_false (nI_ge (show j < n + 1 by omega) (by omega))]
/-- tokens of a rule out of the eight bits; the eight bits behind a call -/
def tof (r tt : Nat) : Nat := if r = 2 then tt &&& 15 else if r = 3 then tt >>> 4 else 15
def tb8 (tt p q : Nat) : Nat := ((tt &&& 15) &&& (15 - 2 ^ p) ||| 2 ^ q) ||| (((tt >>> 4) &&& (15 - 2 ^ q)) <<< 4)
theorem tb8_eq : ∀ tt, tt < 256 → ∀ p, p < 4 → ∀ q, q < 4 → (((nI tt &&& 15) &&& (((1 : Int32) <<< (nI p &&& 31)) ^^^ (-1))) ||| ((1 : Int32) <<< (nI q &&& 31))) ||| ((((nI tt) >>> ((4 : Int32) &&& 31)) &&& (((1 : Int32) <<< (nI q &&& 31)) ^^^ (-1))) <<< ((4 : Int32) &&& 31)) = nI (tb8 tt p q) := by decide +kernel
theorem tb8_lt : ∀ tt, tt < 256 → ∀ p, p < 4 → ∀ q, q < 4 → tb8 tt p q < 256 := by decide +kernel
theorem tb8_2 : ∀ tt, tt < 256 → ∀ p, p < 4 → ∀ q, q < 4 → tb8 tt p q &&& 15 = (tt &&& 15) &&& (15 - 2 ^ p) ||| 2 ^ q := by decide +kernel
theorem tb8_3 : ∀ tt, tt < 256 → ∀ p, p < 4 → ∀ q, q < 4 → tb8 tt p q >>> 4 = (tt >>> 4) &&& (15 - 2 ^ q) := by decide +kernel
theorem tof_tb {r tt p q : Nat} (h : tt < 256) (hp : p < 4) (hq : q < 4) : tof r (tb8 tt p q) = tkA r (tof r tt) p q := by
  unfold tof tkA
  by_cases h2 : r = 2
  · rw [if_pos h2, if_pos h2, if_pos h2]; exact tb8_2 tt h p hp q hq
  · rw [if_neg h2, if_neg h2, if_neg h2]
    by_cases h3 : r = 3
    · rw [if_pos h3, if_pos h3, if_pos h3]; exact tb8_3 tt h p hp q hq
    · rw [if_neg h3, if_neg h3, if_neg h3]
theorem tof_lt {r tt : Nat} (h : tt < 256) : tof r tt < 16 := by
  unfold tof
  split
  · exact Nat.lt_of_le_of_lt Nat.and_le_right (by decide)
  · split
    · rw [Nat.shiftRight_eq_div_pow]; omega
    · decide
theorem tof_2 : ∀ tt, tt < 256 → nI tt &&& 15 = nI (tt &&& 15) := fun tt _ => nI_and tt 15
theorem tof_3 {tt : Nat} (h : tt < 256) : nI tt >>> ((4 : Int32) &&& 31) = nI (tt >>> 4) := nI_shr (k := 4) (by omega) (by decide)
theorem st0_s : ∀ i, i < 4 → nI (st0 i) ||| ((1 : Int32) <<< ((5 * nI i) &&& 31)) = nI (st0 (i + 1)) := by decide +kernel
theorem hs4_vld {n s p q : Nat} (h : vld n s) (hq : q < 4) (hb : (hs4 s p).testBit q = true) : q < n := by
  have h1 : s.testBit (4 * p + q) = true := by
    unfold hs4 at hb
    rw [Nat.testBit_and, Nat.testBit_shiftRight, Bool.and_eq_true] at hb
    exact hb.1
  have := (h.2.2 _ h1).2
  omega
theorem numA_n {net : Nat → Nat} {n s p : Nat} (h : vld n s) (hn : n ≤ 4) : ∀ d, n + d ≤ 4 → numA net s p (n + d) = numA net s p n
  | 0, _ => rfl
  | d + 1, hd => by
    show numA net s p (n + d) ||| (if (hs4 s p).testBit (n + d) then _ else 0) = _
    rw [if_neg (fun hb => by have := hs4_vld h (by omega) hb; omega), Nat.or_zero]
    exact numA_n h hn d (by omega)
theorem numA_4 {net : Nat → Nat} {n s p : Nat} (h : vld n s) (hn : n < 5) : numA net s p 4 = numA net s p n := by
  have := numA_n (net := net) (p := p) h (by omega) (4 - n) (by omega)
  rw [show n + (4 - n) = 4 by omega] at this
  exact this
/-- the component's net and persons, as the reference's -/
def KG (σ : MS) (n : Nat) (net : Nat → Nat) : Prop := n < 5 ∧ σ.1 0 = nI n ∧ (∀ q, q < n → σ.2.1 1 q = nI (net q ||| 2 ^ q)) ∧ ∀ q, q < 4 → net q < 16
def exC (n s : Nat) : Nat → Bool
  | 0 => true
  | i + 1 => exC n s i && decide (hs4 s i = al n)
theorem b2i_and (x y : Bool) : b2i x &&& b2i y = b2i (x && y) := by cases x <;> cases y <;> decide
theorem exC_all {n s : Nat} : ∀ i, exC n s i = true ↔ ∀ j, j < i → hs4 s j = al n
  | 0 => ⟨fun _ j hj => absurd hj (Nat.not_lt_zero j), fun _ => rfl⟩
  | i + 1 => by
    rw [exC, Bool.and_eq_true, exC_all i, decide_eq_true_eq]
    refine ⟨fun h j hj => ?_, fun h => ⟨fun j hj => h j (by omega), h i (by omega)⟩⟩
    by_cases e : j = i
    · rw [e]; exact h.2
    · exact h.1 j (by omega)
theorem exC_n {n s : Nat} : exC n s n = exB n s := by
  by_cases h : ∀ j, j < n → hs4 s j = al n
  · rw [(exC_all n).mpr h, exB_true h]
  · have h1 : exC n s n = false := Bool.eq_false_iff.mpr (fun e => h ((exC_all n).mp e))
    have h2 : exB n s = false := Bool.eq_false_iff.mpr (fun e => h (by
      simp only [exB, List.all_eq_true, List.mem_range, beq_iff_eq] at e
      exact e))
    rw [h1, h2]
