/-! NUMBERS: bits of small numbers as the machine has them; what a person has, a state behind a call, tokens, places -/
set_option maxRecDepth 100000
theorem nI_and (a b : Nat) : nI a &&& nI b = nI (a &&& b) := by
  apply Int32.toBitVec_inj.1
  show BitVec.ofNat 32 a &&& BitVec.ofNat 32 b = BitVec.ofNat 32 (a &&& b)
  apply BitVec.eq_of_getLsbD_eq
  intro i hi
  simp [hi]
theorem nI_or (a b : Nat) : nI a ||| nI b = nI (a ||| b) := by
  apply Int32.toBitVec_inj.1
  show BitVec.ofNat 32 a ||| BitVec.ofNat 32 b = BitVec.ofNat 32 (a ||| b)
  apply BitVec.eq_of_getLsbD_eq
  intro i hi
  simp [hi]
theorem nI_xor (a b : Nat) : nI a ^^^ nI b = nI (a ^^^ b) := by
  apply Int32.toBitVec_inj.1
  show BitVec.ofNat 32 a ^^^ BitVec.ofNat 32 b = BitVec.ofNat 32 (a ^^^ b)
  apply BitVec.eq_of_getLsbD_eq
  intro i hi
  simp [hi]
theorem sh_l : ∀ n, n < 32 → ((nI n &&& 31).toBitVec.smod 32).toNat = n := by decide +kernel
theorem nI_shr {a k : Nat} (ha : a < 2 ^ 31) (hk : k < 32) : nI a >>> (nI k &&& 31) = nI (a >>> k) := by
  rw [pk_shrN ha _ k (sh_l k hk), Nat.shiftRight_eq_div_pow]
theorem nI_shl {a k : Nat} (hk : k < 32) (h : a * 2 ^ k < 2 ^ 32) : nI a <<< (nI k &&& 31) = nI (a <<< k) := by
  rw [pk_shlN _ k (sh_l k hk) h, Nat.shiftLeft_eq]
theorem nI_inj {a b : Nat} (ha : a < 2 ^ 31) (hb : b < 2 ^ 31) (h : nI a = nI b) : a = b := (nI_eq ha hb).mp h
theorem nI_ne {a b : Nat} (ha : a < 2 ^ 31) (hb : b < 2 ^ 31) (h : a ≠ b) : ¬ nI a = nI b := fun e => h (nI_inj ha hb e)
/-- a bit of a number -/
theorem bit_eq {b k : Nat} (hb : b < 2 ^ 31) (hk : k < 32) : (nI b >>> (nI k &&& 31)) &&& 1 = nI (b >>> k &&& 1) := by
  rw [nI_shr hb hk]
  exact nI_and _ 1
theorem bit_tb (b k : Nat) : (b >>> k &&& 1) = if b.testBit k then 1 else 0 := by
  rw [Nat.testBit, Nat.and_comm 1]
  by_cases h : b >>> k &&& 1 = 1
  · rw [h]; rfl
  · have h2 : b >>> k &&& 1 = 0 := by
      have : b >>> k &&& 1 = (b >>> k) % 2 := Nat.and_one_is_mod _
      omega
    rw [h2]; rfl
theorem bit_1 {b k : Nat} (hb : b < 2 ^ 31) (hk : k < 32) : (nI b >>> (nI k &&& 31)) &&& 1 = 1 ↔ b.testBit k = true := by
  rw [bit_eq hb hk, bit_tb]
  cases b.testBit k
  · exact ⟨fun h => absurd h (by decide), fun h => absurd h (by decide)⟩
  · exact ⟨fun _ => rfl, fun _ => rfl⟩
/-- what a person has, in a state of four bits each -/
def hs4 (s p : Nat) : Nat := (s >>> (4 * p)) &&& 15
theorem hs4_lt (s p : Nat) : hs4 s p < 16 := Nat.lt_of_le_of_lt Nat.and_le_right (by decide)
theorem hs4_eq {s p : Nat} (hs : s < 65536) (hp : p < 4) : (nI s >>> ((4 * nI p) &&& 31)) &&& 15 = nI (hs4 s p) := by
  rw [show (4 : Int32) * nI p = nI (4 * p) from pk_mul 4 p, nI_shr (by omega) (by omega)]
  exact nI_and _ 15
/-- a state behind a call -/
def aft (s p q : Nat) : Nat := (s ||| ((hs4 s p ||| hs4 s q) <<< (4 * p))) ||| ((hs4 s p ||| hs4 s q) <<< (4 * q))
theorem both_lt (s p q : Nat) : hs4 s p ||| hs4 s q < 16 := Nat.or_lt_two_pow (n := 4) (hs4_lt s p) (hs4_lt s q)
theorem shl4_lt {x p : Nat} (hx : x < 16) (hp : p < 4) : x <<< (4 * p) < 65536 := by
  rw [Nat.shiftLeft_eq]
  have h : p = 0 ∨ p = 1 ∨ p = 2 ∨ p = 3 := by omega
  rcases h with rfl | rfl | rfl | rfl <;> (simp only [Nat.mul_zero, Nat.mul_one, Nat.reduceMul, Nat.reducePow]; omega)
theorem aft_lt {s p q : Nat} (hs : s < 65536) (hp : p < 4) (hq : q < 4) : aft s p q < 65536 :=
  Nat.or_lt_two_pow (n := 16) (Nat.or_lt_two_pow (n := 16) hs (shl4_lt (both_lt s p q) hp)) (shl4_lt (both_lt s p q) hq)
theorem shl4_eq {x p : Nat} (hx : x < 16) (hp : p < 4) : nI x <<< ((4 * nI p) &&& 31) = nI (x <<< (4 * p)) := by
  rw [show (4 : Int32) * nI p = nI (4 * p) from pk_mul 4 p]
  refine nI_shl (by omega) ?_
  have := shl4_lt hx hp
  rw [Nat.shiftLeft_eq] at this
  omega
theorem aft_eq {s p q : Nat} (hp : p < 4) (hq : q < 4) : (nI s ||| ((nI (hs4 s p) ||| nI (hs4 s q)) <<< ((4 * nI p) &&& 31))) ||| ((nI (hs4 s p) ||| nI (hs4 s q)) <<< ((4 * nI q) &&& 31)) = nI (aft s p q) := by
  rw [nI_or, shl4_eq (both_lt s p q) hp, shl4_eq (both_lt s p q) hq, nI_or, nI_or]
  rfl
/-- the first state of n persons -/
def st0 (n : Nat) : Nat := 33825 &&& ((1 <<< (4 * n)) - 1)
theorem st0_eq : ∀ n, n < 5 → (33825 : Int32) &&& (((1 : Int32) <<< ((4 * nI n) &&& 31)) - 1) = nI (st0 n) := by decide +kernel
theorem st0_lt : ∀ n, n < 5 → st0 n < 65536 := by decide +kernel
/-- the state behind the first c calls -/
def stAt (n : Nat) (cp cq : Nat → Nat) : Nat → Nat
  | 0 => st0 n
  | c + 1 => aft (stAt n cp cq c) (cp c) (cq c)
theorem stAt_lt {n : Nat} {cp cq : Nat → Nat} (hn : n < 5) : ∀ c, (∀ j, j < c → cp j < 4 ∧ cq j < 4) → stAt n cp cq c < 65536
  | 0, _ => st0_lt n hn
  | c + 1, h => aft_lt (stAt_lt hn c (fun j hj => h j (by omega))) (h c (by omega)).1 (h c (by omega)).2
/-- all persons' bits -/
def al (n : Nat) : Nat := 2 ^ n - 1
theorem al_eq : ∀ n, n < 5 → ((1 : Int32) <<< (nI n &&& 31)) - 1 = nI (al n) := by decide +kernel
theorem one_shl : ∀ n, n < 5 → (1 : Int32) <<< (nI n &&& 31) = nI (1 <<< n) := by decide +kernel
/-- tokens of a rule behind a call -/
def tkA (r t p q : Nat) : Nat := if r = 2 then (t &&& (15 - 2 ^ p)) ||| 2 ^ q else if r = 3 then t &&& (15 - 2 ^ q) else t
theorem tk2_eq : ∀ t, t < 16 → ∀ p, p < 4 → ∀ q, q < 4 → (nI t &&& (((1 : Int32) <<< (nI p &&& 31)) ^^^ (-1))) ||| ((1 : Int32) <<< (nI q &&& 31)) = nI ((t &&& (15 - 2 ^ p)) ||| 2 ^ q) := by decide +kernel
theorem tk3_eq : ∀ t, t < 16 → ∀ q, q < 4 → nI t &&& (((1 : Int32) <<< (nI q &&& 31)) ^^^ (-1)) = nI (t &&& (15 - 2 ^ q)) := by decide +kernel
theorem tkA_lt {r t p q : Nat} (ht : t < 16) (hq : q < 4) : tkA r t p q < 16 := by
  unfold tkA
  split
  · refine Nat.or_lt_two_pow (n := 4) (Nat.lt_of_le_of_lt Nat.and_le_left ht) ?_
    exact Nat.pow_lt_pow_right (by decide) hq
  · split
    · exact Nat.lt_of_le_of_lt Nat.and_le_left ht
    · exact ht
/-- tokens of a rule behind the first c calls -/
def tkN (n r : Nat) (cp cq : Nat → Nat) : Nat → Nat
  | 0 => al n
  | c + 1 => tkA r (tkN n r cp cq c) (cp c) (cq c)
theorem al_lt : ∀ n, n < 5 → al n < 16 := by decide +kernel
theorem tkN_lt {n r : Nat} {cp cq : Nat → Nat} (hn : n < 5) : ∀ c, (∀ j, j < c → cq j < 4) → tkN n r cp cq c < 16
  | 0, _ => al_lt n hn
  | c + 1, h => tkA_lt (tkN_lt hn c (fun j hj => h j (by omega))) (h c (by omega))
/-- the numbers of a person, by a net without own numbers, of the first q -/
def numA (net : Nat → Nat) (s p : Nat) : Nat → Nat
  | 0 => 0
  | q + 1 => numA net s p q ||| (if (hs4 s p).testBit q then net q ||| 2 ^ q else 0)
theorem numA_lt {net : Nat → Nat} {s p : Nat} (hnet : ∀ q, q < 4 → net q < 16) : ∀ q, q ≤ 4 → numA net s p q < 16
  | 0, _ => by show 0 < 16; decide
  | q + 1, h => by
    refine Nat.or_lt_two_pow (n := 4) (numA_lt hnet q (by omega)) ?_
    split
    · exact Nat.or_lt_two_pow (n := 4) (hnet q (by omega)) (Nat.pow_lt_pow_right (by decide) (by omega))
    · decide
theorem or_zero (a : Nat) : nI a ||| 0 = nI a := (nI_or a 0).trans (by rw [Nat.or_zero])
/-- whether all of n persons have all -/
def exB (n s : Nat) : Bool := (List.range n).all (fun p => hs4 s p == al n)
theorem exB_true {n s : Nat} (h : ∀ p, p < n → hs4 s p = al n) : exB n s = true := by
  simp only [exB, List.all_eq_true, List.mem_range, beq_iff_eq]
  exact h
theorem exB_false {n s p : Nat} (hp : p < n) (h : hs4 s p ≠ al n) : exB n s = false := by
  rw [Bool.eq_false_iff]
  intro e
  simp only [exB, List.all_eq_true, List.mem_range, beq_iff_eq] at e
  exact h (e p hp)
/-- how many bits of the first k are in a set -/
def bts (x : Nat) : Nat → Nat
  | 0 => 0
  | k + 1 => bts x k + (if x.testBit k then 1 else 0)
theorem bts_le (x : Nat) : ∀ k, bts x k ≤ k
  | 0 => Nat.le_refl 0
  | k + 1 => by
    have := bts_le x k
    show bts x k + _ ≤ k + 1
    split <;> omega
/-- a state's place in the reference's table -/
def plA (s t : Nat) : Nat → Nat
  | 0 => t
  | p + 1 => ((plA s t p <<< 3) ||| (hs4 s p &&& (2 ^ p - 1))) ||| ((hs4 s p >>> (p + 1)) <<< p)
def plc (s t : Nat) : Nat := plA s t 4 &&& 65535
theorem plc_lt (s t : Nat) : plc s t < 65536 := Nat.lt_of_le_of_lt Nat.and_le_right (by decide)
theorem plA_lt {s t : Nat} (ht : t < 16) : ∀ p, p ≤ 4 → plA s t p < 2 ^ (4 + 3 * p)
  | 0, _ => ht
  | p + 1, h => by
    have h0 := plA_lt (s := s) ht p (by omega)
    have h1 : plA s t p <<< 3 < 2 ^ (4 + 3 * (p + 1)) := by
      rw [Nat.shiftLeft_eq, show 4 + 3 * (p + 1) = (4 + 3 * p) + 3 by omega, Nat.pow_add]
      exact Nat.mul_lt_mul_of_pos_right h0 (by decide)
    have h16 : (16 : Nat) ≤ 2 ^ (4 + 3 * (p + 1)) := by
      rw [show 4 + 3 * (p + 1) = 4 + (3 * (p + 1)) by omega, Nat.pow_add]
      exact Nat.le_mul_of_pos_right _ (Nat.two_pow_pos _)
    have h2 : hs4 s p &&& (2 ^ p - 1) < 2 ^ (4 + 3 * (p + 1)) := Nat.lt_of_lt_of_le (Nat.lt_of_le_of_lt Nat.and_le_left (hs4_lt s p)) h16
    have h3 : (hs4 s p >>> (p + 1)) <<< p < 2 ^ (4 + 3 * (p + 1)) := by
      have a : (hs4 s p >>> (p + 1)) <<< p ≤ hs4 s p := by
        rw [Nat.shiftLeft_eq, Nat.shiftRight_eq_div_pow, Nat.pow_succ]
        calc hs4 s p / (2 ^ p * 2) * 2 ^ p ≤ hs4 s p / (2 ^ p * 2) * (2 ^ p * 2) := Nat.mul_le_mul_left _ (by omega)
          _ ≤ hs4 s p := Nat.div_mul_le_self _ _
      exact Nat.lt_of_lt_of_le (Nat.lt_of_le_of_lt a (hs4_lt s p)) h16
    exact Nat.or_lt_two_pow (Nat.or_lt_two_pow h1 h2) h3
