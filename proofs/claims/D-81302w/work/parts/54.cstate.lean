/-! CSTATE: the component's numbers of states; its table -/
set_option maxRecDepth 100000
def soA (sx : Nat) : Nat → Nat
  | 0 => 0
  | i + 1 => if i % 5 = 0 then soA sx i else 2 * soA sx i + (if sx.testBit i then 1 else 0)
theorem soA_0 {sx i : Nat} (h : i % 5 = 0) : soA sx (i + 1) = soA sx i := by rw [soA, if_pos h]
theorem soA_1 {sx i : Nat} (h : ¬ i % 5 = 0) : soA sx (i + 1) = 2 * soA sx i + (sx >>> i &&& 1) := by rw [soA, if_neg h, bit_tb]
theorem tbv (b : Bool) : (if b then 1 else 0 : Nat) ≤ 1 := by cases b <;> decide
theorem soA_15 (sx : Nat) : soA sx 15 < 4096 := by
  have h : ∀ i, (if sx.testBit i then 1 else 0 : Nat) ≤ 1 := fun i => tbv _
  have e : soA sx 15 = 2 * (2 * (2 * (2 * (2 * (2 * (2 * (2 * (2 * (2 * (2 * (2 * 0 + (if sx.testBit 1 then 1 else 0)) + (if sx.testBit 2 then 1 else 0)) + (if sx.testBit 3 then 1 else 0)) + (if sx.testBit 4 then 1 else 0)) + (if sx.testBit 6 then 1 else 0)) + (if sx.testBit 7 then 1 else 0)) + (if sx.testBit 8 then 1 else 0)) + (if sx.testBit 9 then 1 else 0)) + (if sx.testBit 11 then 1 else 0)) + (if sx.testBit 12 then 1 else 0)) + (if sx.testBit 13 then 1 else 0)) + (if sx.testBit 14 then 1 else 0) := rfl
  rw [e]
  have h1 := h 1; have h2 := h 2; have h3 := h 3; have h4 := h 4; have h6 := h 6; have h7 := h 7; have h8 := h 8; have h9 := h 9; have h11 := h 11; have h12 := h 12; have h13 := h 13; have h14 := h 14
  generalize (if sx.testBit 1 then 1 else 0 : Nat) = b1 at *
  generalize (if sx.testBit 2 then 1 else 0 : Nat) = b2 at *
  generalize (if sx.testBit 3 then 1 else 0 : Nat) = b3 at *
  generalize (if sx.testBit 4 then 1 else 0 : Nat) = b4 at *
  generalize (if sx.testBit 6 then 1 else 0 : Nat) = b6 at *
  generalize (if sx.testBit 7 then 1 else 0 : Nat) = b7 at *
  generalize (if sx.testBit 8 then 1 else 0 : Nat) = b8 at *
  generalize (if sx.testBit 9 then 1 else 0 : Nat) = b9 at *
  generalize (if sx.testBit 11 then 1 else 0 : Nat) = b11 at *
  generalize (if sx.testBit 12 then 1 else 0 : Nat) = b12 at *
  generalize (if sx.testBit 13 then 1 else 0 : Nat) = b13 at *
  generalize (if sx.testBit 14 then 1 else 0 : Nat) = b14 at *
  omega
theorem soA_lt (sx : Nat) : ∀ i, soA sx i < 2 ^ i
  | 0 => by show 0 < 1; decide
  | i + 1 => by
    have h := soA_lt sx i
    have h2 := tbv (sx.testBit i)
    rw [soA, Nat.pow_succ]
    split <;> omega
theorem soA_bit {s s' : Nat} : ∀ k, soA s k = soA s' k → ∀ i, i < k → ¬ i % 5 = 0 → s.testBit i = s'.testBit i
  | 0, _, i, hi, _ => absurd hi (Nat.not_lt_zero i)
  | k + 1, h, i, hi, h5 => by
    rw [soA, soA] at h
    by_cases e : k % 5 = 0
    · rw [if_pos e, if_pos e] at h
      exact soA_bit k h i (by rcases Nat.lt_or_ge i k with q | q; exact q; exact absurd (show i % 5 = 0 by rw [show i = k by omega]; exact e) h5) h5
    · rw [if_neg e, if_neg e] at h
      have a := tbv (s.testBit k)
      have b := tbv (s'.testBit k)
      by_cases ei : i = k
      · subst ei
        have hb : (if s.testBit i then 1 else 0 : Nat) = (if s'.testBit i then 1 else 0 : Nat) := by omega
        revert hb
        cases s.testBit i <;> cases s'.testBit i <;> simp
      · exact soA_bit k (by omega) i (by omega) h5
theorem soA_inj {n s s' : Nat} (hs : vld n s) (hs' : vld n s') (h : soA s 15 = soA s' 15) : s = s' := by
  apply Nat.eq_of_testBit_eq
  intro i
  by_cases h5 : i % 5 = 0
  · have e : i = 5 * (i / 5) := by omega
    rw [e, vld_diag hs, vld_diag hs']
  · by_cases h15 : i < 15
    · exact soA_bit 15 h i h15 h5
    · have b1 : s.testBit i = false := Nat.testBit_lt_two_pow (Nat.lt_of_lt_of_le hs.1 (show 2 ^ 16 ≤ 2 ^ i from Nat.pow_le_pow_right (by decide) (by omega)))
      have b2 : s'.testBit i = false := Nat.testBit_lt_two_pow (Nat.lt_of_lt_of_le hs'.1 (show 2 ^ 16 ≤ 2 ^ i from Nat.pow_le_pow_right (by decide) (by omega)))
      rw [b1, b2]
def sOf (r s tt : Nat) : Nat := 16 * soA s 15 + (if r < 2 then 0 else tof r tt)
theorem sOf_lt {r s tt : Nat} (ht : tt < 256) : sOf r s tt < 65536 := by
  unfold sOf
  have h1 := soA_15 s
  have h2 := tof_lt (r := r) ht
  split <;> omega
theorem tof_01 {r tt : Nat} (h : r < 2) : tof r tt = 15 := by
  unfold tof
  rw [if_neg (by omega), if_neg (by omega)]
theorem sOf_inj {n r s s' tt tt' : Nat} (hs : vld n s) (hs' : vld n s') (ht : tt < 256) (ht' : tt' < 256) (h : sOf r s tt = sOf r s' tt') : s = s' ∧ tof r tt = tof r tt' := by
  unfold sOf at h
  have h1 := tof_lt (r := r) ht
  have h2 := tof_lt (r := r) ht'
  by_cases hr : r < 2
  · rw [if_pos hr, if_pos hr] at h
    exact ⟨soA_inj hs hs' (by omega), by rw [tof_01 hr, tof_01 hr]⟩
  · rw [if_neg hr, if_neg hr] at h
    exact ⟨soA_inj hs hs' (by omega), by omega⟩
/-- may one ring, by what the component looks at -/
theorem may_c {n : Nat} {net : Nat → Nat} {r s t p q : Nat} (hs : vld n s) (hq : q < n) (hn : n < 5) (hr : r < 4) (ht : r < 2 → t = 15) (hp : p < 4) :
    mayB net r s t p q = (decide (¬ p = q) && ((numA net s p 4).testBit q && (decide (¬ hs4 s p = hs4 s q) && ((!decide (r = 1) || !(hs4 s p).testBit q) && t.testBit p)))) := by
  unfold mayB
  by_cases h1 : p = q
  · rw [if_pos h1]; simp [h1]
  · rw [if_neg h1]
    cases h2 : (numA net s p 4).testBit q with
    | false => simp
    | true =>
      have h15 : r < 2 → t.testBit p = true := fun h => by
        rw [ht h]
        have : ∀ p, p < 4 → (15 : Nat).testBit p = true := by decide
        exact this p hp
      by_cases h3 : r = 1
      · subst h3
        rw [h15 (by decide)]
        cases h4 : (hs4 s p).testBit q with
        | true => simp
        | false =>
          have hne : ¬ hs4 s p = hs4 s q := by
            intro e
            rw [e] at h4
            have h6 : (hs4 s q).testBit q = true := by
              unfold hs4
              rw [Nat.testBit_and, Nat.testBit_shiftRight, show 4 * q + q = 5 * q by omega, hs.2.1 q hq]
              have : ∀ q, q < 4 → (15 : Nat).testBit q = true := by decide
              rw [this q (by omega)]; rfl
            rw [h6] at h4; cases h4
          simp [h1, hne]
      · by_cases h5 : hs4 s p = hs4 s q
        · simp [h3, h5]
        · by_cases h6 : r = 0
          · subst h6; rw [h15 (by decide)]; simp [h1, h5]
          · simp [h1, h3, h5, h6]
/-- the component's table holds x at a place -/
def mC (x : Nat) : Int32 := if x = 0 then -9 else nI (x - 1)
def LPc (σ : MS) (pl : Nat) (x : V4) : Prop := σ.2.2.1 5 pl = lN x.1 ∧ σ.2.2.1 6 pl = lN x.2.1 ∧ σ.2.1 7 pl = nI x.2.2.1 ∧ σ.2.1 8 pl = mC x.2.2.2
def TBc (σ : MS) (n : Nat) (net : Nat → Nat) (r : Nat) (tn : Int32) : Prop := ∀ s tt, vld n s → tt < 256 → σ.2.1 4 (sOf r s tt) = tn → LPc σ (sOf r s tt) (val net n r s (tof r tt))
theorem vrd_2 {x : V4} (hx : x.1 < 2 ^ 63) (hg : x.2.1 ≤ x.1) (h1 : 1 ≤ x.1) (c : lN x.2.1 = lN x.1) : (2 : Int32) = vrd x := by
  have e := (pk_lEQ (Nat.lt_of_le_of_lt hg hx) hx).mp c
  rw [vrd, if_neg (by omega), if_pos e]
theorem vrd_1 {x : V4} (hx : x.1 < 2 ^ 63) (hg : x.2.1 ≤ x.1) (c : ¬ lN x.2.1 = lN x.1) (c2 : ¬ lN x.2.1 ≤ 0) : (1 : Int32) = vrd x := by
  rw [vrd, if_neg (fun h => c2 ((lN_le0 (Nat.lt_of_le_of_lt hg hx)).mpr h)), if_neg (fun h => c (congrArg lN h))]
theorem vrd_0 {x : V4} (hx : x.1 < 2 ^ 63) (hg : x.2.1 ≤ x.1) (c2 : lN x.2.1 ≤ 0) : (0 : Int32) = vrd x := by
  rw [vrd, if_pos ((lN_le0 (Nat.lt_of_le_of_lt hg hx)).mp c2)]
