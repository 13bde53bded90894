/-! CT: to whom one can come along numbers, as plain functions; the least closed set -/
set_option maxRecDepth 100000
def tdN (net : Nat → Nat) (x : Nat) : Nat := net x ||| 2 ^ x
def goB (net : Nat → Nat) (b : Bool) (x y : Nat) : Bool := (tdN net x).testBit y || (b && (tdN net y).testBit x)
def ctQ (net : Nat → Nat) (b : Bool) (x c : Nat) : Nat → Nat
  | 0 => c
  | y + 1 => ctQ net b x c y ||| (if (goB net b x y && (ctQ net b x c y).testBit x) = true then 2 ^ y else 0)
def ctP (net : Nat → Nat) (b : Bool) (n c : Nat) : Nat → Nat
  | 0 => c
  | x + 1 => ctQ net b x (ctP net b n c x) n
def ctI (net : Nat → Nat) (b : Bool) (n p : Nat) : Nat → Nat
  | 0 => 2 ^ p
  | k + 1 => ctP net b n (ctI net b n p k) n
def wsI (net : Nat → Nat) (b : Bool) (n p : Nat) : Nat → Nat
  | 0 => 0
  | k + 1 => ctI net b n p k
theorem tb2 {p i : Nat} : (2 ^ p).testBit i = decide (p = i) := Nat.testBit_two_pow
section CTB
variable {net : Nat → Nat} {b : Bool} {n p : Nat}
theorem ctQ_lt {x c : Nat} (hc : c < 16) : ∀ y, y ≤ 4 → ctQ net b x c y < 16
  | 0, _ => hc
  | y + 1, h => by
    refine Nat.or_lt_two_pow (n := 4) (ctQ_lt hc y (by omega)) ?_
    split
    · exact pw16 (by omega)
    · decide
theorem ctP_lt {c : Nat} (hn : n < 5) (hc : c < 16) : ∀ x, ctP net b n c x < 16
  | 0 => hc
  | x + 1 => ctQ_lt (ctP_lt hn hc x) n (by omega)
theorem ctI_lt (hn : n < 5) (hp : p < 4) : ∀ k, ctI net b n p k < 16
  | 0 => pw16 hp
  | k + 1 => ctP_lt hn (ctI_lt hn hp k) n
theorem wsI_lt (hn : n < 5) (hp : p < 4) : ∀ k, wsI net b n p k < 16
  | 0 => by show 0 < 16; decide
  | k + 1 => ctI_lt hn hp k
theorem ctQ_mono {x c i : Nat} (h : c.testBit i = true) : ∀ y, (ctQ net b x c y).testBit i = true
  | 0 => h
  | y + 1 => by rw [ctQ, Nat.testBit_or, ctQ_mono h y]; rfl
theorem ctP_mono {c i : Nat} (h : c.testBit i = true) : ∀ x, (ctP net b n c x).testBit i = true
  | 0 => h
  | x + 1 => ctQ_mono (ctP_mono h x) n
theorem ctP_monoL {c x y i : Nat} (h : (ctP net b n c x).testBit i = true) : ∀ d, (ctP net b n c (x + d)).testBit i = true
  | 0 => h
  | d + 1 => ctQ_mono (ctP_monoL h (y := y) d) n
theorem ctQ_add {x c y : Nat} (hg : goB net b x y = true) (hx : c.testBit x = true) : ∀ d, (ctQ net b x c (y + 1 + d)).testBit y = true
  | 0 => by
    show (ctQ net b x c y ||| _).testBit y = true
    rw [hg, ctQ_mono hx y, if_pos (show (true && true) = true from rfl), Nat.testBit_or, tb2]
    simp
  | d + 1 => by
    show (ctQ net b x c (y + 1 + d) ||| _).testBit y = true
    rw [Nat.testBit_or, ctQ_add hg hx d]; rfl
theorem ctP_add {c x y : Nat} (hx : x < n) (hy : y < n) (hg : goB net b x y = true) (hc : c.testBit x = true) : (ctP net b n c n).testBit y = true := by
  have h1 : (ctP net b n c (x + 1)).testBit y = true := by
    show (ctQ net b x (ctP net b n c x) n).testBit y = true
    have := ctQ_add (net := net) (b := b) (c := ctP net b n c x) hg (ctP_mono hc x) (n - (y + 1))
    rw [show y + 1 + (n - (y + 1)) = n by omega] at this
    exact this
  have := ctP_monoL (y := y) h1 (n - (x + 1))
  rw [show x + 1 + (n - (x + 1)) = n by omega] at this
  exact this
/-- a closed set that has what one begins with has all that comes -/
theorem ctQ_in {x c S : Nat} (hx : x < n) (hS : ∀ x y, x < n → y < n → S.testBit x = true → goB net b x y = true → S.testBit y = true) (hc : ∀ i, c.testBit i = true → S.testBit i = true) : ∀ y, y ≤ n → ∀ i, (ctQ net b x c y).testBit i = true → S.testBit i = true
  | 0, _, i, h => hc i h
  | y + 1, hy, i, h => by
    rw [ctQ, Nat.testBit_or, Bool.or_eq_true] at h
    rcases h with h | h
    · exact ctQ_in hx hS hc y (by omega) i h
    · split at h
      · rename_i e
        rw [Bool.and_eq_true] at e
        rw [tb2, decide_eq_true_eq] at h
        subst h
        exact hS x y hx (by omega) (ctQ_in hx hS hc y (by omega) x e.2) e.1
      · simp at h
theorem ctP_in {c S : Nat} (hS : ∀ x y, x < n → y < n → S.testBit x = true → goB net b x y = true → S.testBit y = true) (hc : ∀ i, c.testBit i = true → S.testBit i = true) : ∀ x, x ≤ n → ∀ i, (ctP net b n c x).testBit i = true → S.testBit i = true
  | 0, _, i, h => hc i h
  | x + 1, hx, i, h => ctQ_in (by omega) hS (ctP_in hS hc x (by omega)) n (Nat.le_refl n) i h
theorem ctI_in {S : Nat} (hS : ∀ x y, x < n → y < n → S.testBit x = true → goB net b x y = true → S.testBit y = true) (hc : S.testBit p = true) : ∀ k i, (ctI net b n p k).testBit i = true → S.testBit i = true
  | 0, i, h => by
    rw [ctI, tb2, decide_eq_true_eq] at h
    rw [← h]; exact hc
  | k + 1, i, h => ctP_in hS (ctI_in hS hc k) n (Nat.le_refl n) i h
theorem ctI_p : ∀ k, (ctI net b n p k).testBit p = true
  | 0 => by rw [ctI, tb2]; simp
  | k + 1 => ctP_mono (ctI_p k) n
theorem ctI_lim (hp : p < n) : ∀ k i, (ctI net b n p k).testBit i = true → i < n := fun k i h => by
  have h2 := ctI_in (net := net) (b := b) (n := n) (p := p) (S := 2 ^ n - 1) (fun x y hx hy _ _ => by rw [Nat.testBit_two_pow_sub_one]; exact decide_eq_true hy) (by rw [Nat.testBit_two_pow_sub_one]; exact decide_eq_true hp) k i h
  rw [Nat.testBit_two_pow_sub_one] at h2
  exact of_decide_eq_true h2
theorem bts_pos {x p : Nat} (hp : p < 16) (h : x.testBit p = true) : 1 ≤ bts x 16 := bts_strict (x := 0) (y := x) (j := p) 16 (fun i _ h => by simp at h) hp (by simp) h
theorem bts_sub {x n : Nat} (h : ∀ i, x.testBit i = true → i < n) (hn : n ≤ 16) : bts x 16 ≤ n := by
  have key : ∀ k, bts x k ≤ n := by
    intro k
    induction k with
    | zero => exact Nat.zero_le _
    | succ k ih =>
      show bts x k + _ ≤ n
      by_cases e : x.testBit k = true
      · have := h k e
        have := bts_le x k
        rw [if_pos e]; omega
      · rw [if_neg e]; exact ih
  exact key 16
theorem ne_bit {x y : Nat} (h : ¬ x = y) (hm : ∀ i, x.testBit i = true → y.testBit i = true) : ∃ j, x.testBit j = false ∧ y.testBit j = true := by
  refine Classical.byContradiction (fun g => h (Nat.eq_of_testBit_eq (fun i => ?_)))
  cases hx : x.testBit i with
  | true => exact (hm i hx).symm
  | false =>
    cases hy : y.testBit i with
    | false => rfl
    | true => exact absurd ⟨i, hx, hy⟩ g
/-- by steps that only add, nothing is added any more behind n of them -/
theorem it_fix {f : Nat → Nat} {n : Nat} (hn : n < 5) (h0 : ∃ p, p < 16 ∧ (f 0).testBit p = true) (hm : ∀ k i, (f k).testBit i = true → (f (k + 1)).testBit i = true) (hl : ∀ k i, (f k).testBit i = true → i < n) (hs : ∀ k, f (k + 1) = f k → f (k + 2) = f (k + 1)) : f (n + 1) = f n := by
  have key : ∀ k, f (k + 1) = f k ∨ k + 1 ≤ bts (f k) 16 := by
    intro k
    induction k with
    | zero =>
      obtain ⟨p, hp, h⟩ := h0
      exact Or.inr (bts_pos hp h)
    | succ k ih =>
      rcases ih with e | e
      · exact Or.inl (hs k e)
      · by_cases e2 : f (k + 1) = f k
        · exact Or.inl (hs k e2)
        · right
          obtain ⟨j, h1, h2⟩ := ne_bit (fun z => e2 z.symm) (hm k)
          have h3 := bts_strict (x := f k) (y := f (k + 1)) (j := j) 16 (fun i _ h => hm k i h) (by have := hl _ _ h2; omega) h1 h2
          omega
  rcases key n with e | e
  · exact e
  · have := bts_sub (hl n) (by omega)
    omega
theorem ctI_fix (hn : n < 5) (hp : p < n) : ctI net b n p (n + 1) = ctI net b n p n :=
  it_fix (f := ctI net b n p) hn ⟨p, by omega, ctI_p 0⟩ (fun k i h => ctP_mono h n) (fun k => ctI_lim hp k) (fun k e => by
    show ctP net b n (ctI net b n p (k + 1)) n = ctI net b n p (k + 1)
    rw [e]; exact e)
theorem ctI_st {k : Nat} (h : ctI net b n p (k + 1) = ctI net b n p k) : ∀ d, ctI net b n p (k + d) = ctI net b n p k
  | 0 => rfl
  | d + 1 => by
    show ctP net b n (ctI net b n p (k + d)) n = _
    rw [ctI_st h d]; exact h
theorem ctI_end {k : Nat} (hk : k ≤ n + 1) (h : ctI net b n p k = wsI net b n p k) : ctI net b n p k = ctI net b n p n := by
  cases k with
  | zero =>
    exfalso
    have h : 2 ^ p = 0 := h
    have := Nat.two_pow_pos p
    omega
  | succ k =>
    have h : ctI net b n p (k + 1) = ctI net b n p k := h
    have := ctI_st h (n - k)
    rw [show k + (n - k) = n by omega] at this
    rw [this, h]
end CTB
/-- the least closed set -/
def LCs (E : Nat → Nat → Bool) (n p R : Nat) : Prop := R.testBit p = true ∧ (∀ x y, x < n → y < n → R.testBit x = true → E x y = true → R.testBit y = true) ∧ ∀ S : Nat, S.testBit p = true → (∀ x y, x < n → y < n → S.testBit x = true → E x y = true → S.testBit y = true) → ∀ i, R.testBit i = true → S.testBit i = true
theorem LCs.u {E : Nat → Nat → Bool} {n p R R' : Nat} (h : LCs E n p R) (h' : LCs E n p R') : R = R' := by
  apply Nat.eq_of_testBit_eq
  intro i
  rw [Bool.eq_iff_iff]
  exact ⟨h.2.2 R' h'.1 h'.2.1 i, h'.2.2 R h.1 h.2.1 i⟩
def eU (net : Nat → Nat) (x y : Nat) : Bool := (net x).testBit y || (net y).testBit x
def eD (net : Nat → Nat) (x y : Nat) : Bool := (net x).testBit y
theorem tdN_tb {net : Nat → Nat} {x y : Nat} : (tdN net x).testBit y = ((net x).testBit y || decide (x = y)) := by
  rw [tdN, Nat.testBit_or, tb2]
theorem go_U {net : Nat → Nat} {S n : Nat} : (∀ x y, x < n → y < n → S.testBit x = true → goB net true x y = true → S.testBit y = true) ↔ ∀ x y, x < n → y < n → S.testBit x = true → eU net x y = true → S.testBit y = true := by
  constructor
  · intro h x y hx hy hs he
    refine h x y hx hy hs ?_
    unfold eU at he
    unfold goB
    rw [tdN_tb, tdN_tb]
    rw [Bool.or_eq_true] at he
    rcases he with e | e
    · rw [e]; rfl
    · rw [e]; simp
  · intro h x y hx hy hs he
    unfold goB at he
    rw [tdN_tb, tdN_tb] at he
    by_cases exy : x = y
    · rw [← exy]; exact hs
    · refine h x y hx hy hs ?_
      rw [decide_eq_false exy, decide_eq_false (fun z => exy z.symm)] at he
      unfold eU
      simpa using he
theorem go_D {net : Nat → Nat} {S n : Nat} : (∀ x y, x < n → y < n → S.testBit x = true → goB net false x y = true → S.testBit y = true) ↔ ∀ x y, x < n → y < n → S.testBit x = true → eD net x y = true → S.testBit y = true := by
  constructor
  · intro h x y hx hy hs he
    refine h x y hx hy hs ?_
    unfold eD at he
    unfold goB
    rw [tdN_tb, he]; rfl
  · intro h x y hx hy hs he
    unfold goB at he
    rw [tdN_tb] at he
    by_cases exy : x = y
    · rw [← exy]; exact hs
    · refine h x y hx hy hs ?_
      rw [decide_eq_false exy] at he
      unfold eD
      simpa using he
theorem ct_LC {net : Nat → Nat} {b : Bool} {n p : Nat} (hn : n < 5) (hp : p < n) : LCs (goB net b) n p (ctI net b n p n) := by
  refine ⟨ctI_p n, fun x y hx hy hr he => ?_, fun S h1 h2 => ctI_in h2 h1 n⟩
  have := ctP_add hx hy he hr
  rw [show ctP net b n (ctI net b n p n) n = ctI net b n p (n + 1) from rfl, ctI_fix hn hp] at this
  exact this
theorem ct_U {net : Nat → Nat} {n p : Nat} (hn : n < 5) (hp : p < n) : LCs (eU net) n p (ctI net true n p n) := by
  obtain ⟨h1, h2, h3⟩ := ct_LC (net := net) (b := true) hn hp
  exact ⟨h1, go_U.mp h2, fun S a c => h3 S a (go_U.mpr c)⟩
theorem ct_D {net : Nat → Nat} {n p : Nat} (hn : n < 5) (hp : p < n) : LCs (eD net) n p (ctI net false n p n) := by
  obtain ⟨h1, h2, h3⟩ := ct_LC (net := net) (b := false) hn hp
  exact ⟨h1, go_D.mp h2, fun S a c => h3 S a (go_D.mpr c)⟩
/-! the reference's -/
theorem jQ_mono {net : Nat → Nat} {p x i : Nat} (h : x.testBit i = true) : ∀ q, (jQ net p x q).testBit i = true
  | 0 => h
  | q + 1 => by
    have h0 := jQ_mono (net := net) (p := p) h q
    have h1 : (jQ net p x q ||| (2 ^ p ||| 2 ^ q)).testBit i = true := by rw [Nat.testBit_or, h0]; rfl
    unfold jQ
    split
    · exact h0
    · split
      · exact h0
      · split
        · exact h1
        · split
          · exact h1
          · exact h0
theorem jQ_monoL {net : Nat → Nat} {p x q i : Nat} (h : (jQ net p x q).testBit i = true) : ∀ d, (jQ net p x (q + d)).testBit i = true
  | 0 => h
  | d + 1 => by
    have h0 := jQ_monoL h d
    have h1 : (jQ net p x (q + d) ||| (2 ^ p ||| 2 ^ (q + d))).testBit i = true := by rw [Nat.testBit_or, h0]; rfl
    show (jQ net p x (q + d + 1)).testBit i = true
    unfold jQ
    split
    · exact h0
    · split
      · exact h0
      · split
        · exact h1
        · split
          · exact h1
          · exact h0
theorem jP_mono {net : Nat → Nat} {n x i : Nat} (h : x.testBit i = true) : ∀ p, (jP net n x p).testBit i = true
  | 0 => h
  | p + 1 => jQ_mono (jP_mono h p) n
theorem jP_monoL {net : Nat → Nat} {n x p i : Nat} (h : (jP net n x p).testBit i = true) : ∀ d, (jP net n x (p + d)).testBit i = true
  | 0 => h
  | d + 1 => jQ_mono (jP_monoL h d) n
theorem jQ_add {net : Nat → Nat} {p q x : Nat} (hpq : ¬ p = q) (he : (net p).testBit q = true) (hx : x.testBit p = true ∨ x.testBit q = true) : (jQ net p x (q + 1)).testBit p = true ∧ (jQ net p x (q + 1)).testBit q = true := by
  have h1 : ∀ i, (i = p ∨ i = q) → (jQ net p x q ||| (2 ^ p ||| 2 ^ q)).testBit i = true := fun i hi => by
    rw [Nat.testBit_or, Nat.testBit_or, tb2, tb2]
    rcases hi with rfl | rfl <;> simp
  have e : jQ net p x (q + 1) = jQ net p x q ||| (2 ^ p ||| 2 ^ q) := by
    rw [jQ, if_neg hpq, if_neg (by rw [he]; decide)]
    rcases hx with h | h
    · rw [if_pos (jQ_mono h q)]
    · by_cases h2 : (jQ net p x q).testBit p = true
      · rw [if_pos h2]
      · rw [if_neg h2, if_pos (jQ_mono h q)]
  rw [e]
  exact ⟨h1 p (Or.inl rfl), h1 q (Or.inr rfl)⟩
theorem jP_add {net : Nat → Nat} {n x p q : Nat} (hp : p < n) (hq : q < n) (hpq : ¬ p = q) (he : (net p).testBit q = true) (hx : x.testBit p = true ∨ x.testBit q = true) : (jP net n x n).testBit p = true ∧ (jP net n x n).testBit q = true := by
  have hx' : (jP net n x p).testBit p = true ∨ (jP net n x p).testBit q = true := hx.imp (fun h => jP_mono h p) (fun h => jP_mono h p)
  obtain ⟨h1, h2⟩ := jQ_add hpq he hx'
  have f : ∀ i, (jQ net p (jP net n x p) (q + 1)).testBit i = true → (jP net n x n).testBit i = true := fun i h => by
    have a1 := jQ_monoL h (n - (q + 1))
    rw [show q + 1 + (n - (q + 1)) = n by omega] at a1
    have a2 : (jP net n x (p + 1)).testBit i = true := a1
    have a3 := jP_monoL a2 (n - (p + 1))
    rw [show p + 1 + (n - (p + 1)) = n by omega] at a3
    exact a3
  exact ⟨f p h1, f q h2⟩
theorem jQ_in {net : Nat → Nat} {n p x S : Nat} (hp : p < n) (hS : ∀ x y, x < n → y < n → S.testBit x = true → eU net x y = true → S.testBit y = true) (hc : ∀ i, x.testBit i = true → S.testBit i = true) : ∀ q, q ≤ n → ∀ i, (jQ net p x q).testBit i = true → S.testBit i = true
  | 0, _, i, h => hc i h
  | q + 1, hq, i, h => by
    have ih := jQ_in hp hS hc q (by omega)
    have e1 : (net p).testBit q = true → eU net p q = true ∧ eU net q p = true := fun e => by
      unfold eU; rw [e]; simp
    have add : (net p).testBit q = true → (S.testBit p = true ∨ S.testBit q = true) → (jQ net p x q ||| (2 ^ p ||| 2 ^ q)).testBit i = true → S.testBit i = true := fun e hs h => by
      have hb : S.testBit p = true ∧ S.testBit q = true := by
        rcases hs with a | a
        · exact ⟨a, hS p q hp (by omega) a (e1 e).1⟩
        · exact ⟨hS q p (by omega) hp a (e1 e).2, a⟩
      rw [Nat.testBit_or, Nat.testBit_or, tb2, tb2] at h
      simp only [Bool.or_eq_true, decide_eq_true_eq] at h
      rcases h with h | h | h
      · exact ih i h
      · rw [← h]; exact hb.1
      · rw [← h]; exact hb.2
    unfold jQ at h
    split at h
    · exact ih i h
    · split at h
      · exact ih i h
      · rename_i hne
        have hne : (net p).testBit q = true := by simpa using hne
        split at h
        · rename_i h3
          exact add hne (Or.inl (ih p h3)) h
        · split at h
          · rename_i h4
            exact add hne (Or.inr (ih q h4)) h
          · exact ih i h
theorem jP_in {net : Nat → Nat} {n x S : Nat} (hS : ∀ x y, x < n → y < n → S.testBit x = true → eU net x y = true → S.testBit y = true) (hc : ∀ i, x.testBit i = true → S.testBit i = true) : ∀ p, p ≤ n → ∀ i, (jP net n x p).testBit i = true → S.testBit i = true
  | 0, _, i, h => hc i h
  | p + 1, hp, i, h => jQ_in (by omega) hS (jP_in hS hc p (by omega)) n (Nat.le_refl n) i h
theorem jA_in {net : Nat → Nat} {n S : Nat} (hS : ∀ x y, x < n → y < n → S.testBit x = true → eU net x y = true → S.testBit y = true) (hc : S.testBit 0 = true) : ∀ k i, (jA net n k).testBit i = true → S.testBit i = true
  | 0, i, h => by
    rw [jA, show (1 : Nat) = 2 ^ 0 from rfl, tb2, decide_eq_true_eq] at h
    rw [← h]; exact hc
  | k + 1, i, h => jP_in hS (jA_in hS hc k) n (Nat.le_refl n) i h
theorem jA_0 {net : Nat → Nat} {n : Nat} : ∀ k, (jA net n k).testBit 0 = true
  | 0 => by rw [jA]; decide
  | k + 1 => jP_mono (jA_0 k) n
theorem jA_LC {net : Nat → Nat} {n : Nat} (hn : n < 5) (h0 : 0 < n) : LCs (eU net) n 0 (jA net n n) := by
  have hl : ∀ k i, (jA net n k).testBit i = true → i < n := fun k i h => by
    have h2 := jA_in (net := net) (n := n) (S := 2 ^ n - 1) (fun x y hx hy _ _ => by rw [Nat.testBit_two_pow_sub_one]; exact decide_eq_true hy) (by rw [Nat.testBit_two_pow_sub_one]; exact decide_eq_true h0) k i h
    rw [Nat.testBit_two_pow_sub_one] at h2
    exact of_decide_eq_true h2
  have hfix : jA net n (n + 1) = jA net n n := it_fix (f := jA net n) hn ⟨0, by decide, jA_0 0⟩ (fun k i h => jP_mono h n) hl (fun k e => by
    show jP net n (jA net n (k + 1)) n = jA net n (k + 1)
    rw [e]; exact e)
  refine ⟨jA_0 n, fun x y hx hy hr he => ?_, fun S h1 h2 => jA_in h2 h1 n⟩
  by_cases exy : x = y
  · rw [← exy]; exact hr
  · rw [← hfix]
    unfold eU at he
    rw [Bool.or_eq_true] at he
    rcases he with e | e
    · exact (jP_add hx hy exy e (Or.inl hr)).2
    · exact (jP_add hy hx (fun z => exy z.symm) e (Or.inr hr)).1
theorem joined_eq {net : Nat → Nat} {n : Nat} (hn : n < 5) (h0 : 0 < n) : jnB net n = decide (ctI net true n 0 n = al n) := by
  rw [jnB, decide_eq_false (show ¬ n = 0 by omega), (jA_LC hn h0).u (ct_U hn h0)]; rfl
theorem sQ_mono {net : Nat → Nat} {x i : Nat} (h : x.testBit i = true) : ∀ q, (sQ net x q).testBit i = true
  | 0 => h
  | q + 1 => by rw [sQ, Nat.testBit_or, sQ_mono h q]; rfl
theorem sQ_add {net : Nat → Nat} {x q y : Nat} (he : (net q).testBit y = true) (hx : x.testBit q = true) : ∀ d, (sQ net x (q + 1 + d)).testBit y = true
  | 0 => by
    show (sQ net x q ||| _).testBit y = true
    rw [if_pos (sQ_mono hx q), Nat.testBit_or, he, Bool.or_true]
  | d + 1 => by
    show (sQ net x (q + 1 + d) ||| _).testBit y = true
    rw [Nat.testBit_or, sQ_add he hx d]; rfl
/-- a net's numbers are of those that are there, none has its own -/
def NV (n : Nat) (net : Nat → Nat) : Prop := ∀ q, q < n → (∀ i, (net q).testBit i = true → i < n) ∧ (net q).testBit q = false
theorem sQ_in {net : Nat → Nat} {n x S : Nat} (hv : NV n net) (hS : ∀ x y, x < n → y < n → S.testBit x = true → eD net x y = true → S.testBit y = true) (hc : ∀ i, x.testBit i = true → S.testBit i = true) : ∀ q, q ≤ n → ∀ i, (sQ net x q).testBit i = true → S.testBit i = true
  | 0, _, i, h => hc i h
  | q + 1, hq, i, h => by
    rw [sQ, Nat.testBit_or, Bool.or_eq_true] at h
    rcases h with h | h
    · exact sQ_in hv hS hc q (by omega) i h
    · split at h
      · rename_i e
        exact hS q i (by omega) ((hv q (by omega)).1 i h) (sQ_in hv hS hc q (by omega) q e) h
      · simp at h
theorem sA_in {net : Nat → Nat} {n p S : Nat} (hv : NV n net) (hS : ∀ x y, x < n → y < n → S.testBit x = true → eD net x y = true → S.testBit y = true) (hc : S.testBit p = true) : ∀ k i, (sA net n p k).testBit i = true → S.testBit i = true
  | 0, i, h => by
    rw [sA, tb2, decide_eq_true_eq] at h
    rw [← h]; exact hc
  | k + 1, i, h => sQ_in hv hS (sA_in hv hS hc k) n (Nat.le_refl n) i h
theorem sA_p {net : Nat → Nat} {n p : Nat} : ∀ k, (sA net n p k).testBit p = true
  | 0 => by rw [sA, tb2]; simp
  | k + 1 => sQ_mono (sA_p k) n
theorem sA_LC {net : Nat → Nat} {n p : Nat} (hn : n < 5) (hp : p < n) (hv : NV n net) : LCs (eD net) n p (sA net n p n) := by
  have hl : ∀ k i, (sA net n p k).testBit i = true → i < n := fun k i h => by
    have h2 := sA_in (net := net) (n := n) (p := p) (S := 2 ^ n - 1) hv (fun x y hx hy _ _ => by rw [Nat.testBit_two_pow_sub_one]; exact decide_eq_true hy) (by rw [Nat.testBit_two_pow_sub_one]; exact decide_eq_true hp) k i h
    rw [Nat.testBit_two_pow_sub_one] at h2
    exact of_decide_eq_true h2
  have hfix : sA net n p (n + 1) = sA net n p n := it_fix (f := sA net n p) hn ⟨p, by omega, sA_p 0⟩ (fun k i h => sQ_mono h n) hl (fun k e => by
    show sQ net (sA net n p (k + 1)) n = sA net n p (k + 1)
    rw [e]; exact e)
  refine ⟨sA_p n, fun x y hx hy hr he => ?_, fun S h1 h2 => sA_in hv h2 h1 n⟩
  have := sQ_add (net := net) (x := sA net n p n) he hr (n - (x + 1))
  rw [show x + 1 + (n - (x + 1)) = n by omega, show sQ net (sA net n p n) n = sA net n p (n + 1) from rfl, hfix] at this
  exact this
theorem sA_ct {net : Nat → Nat} {n p : Nat} (hn : n < 5) (hp : p < n) (hv : NV n net) : sA net n p n = ctI net false n p n := (sA_LC hn hp hv).u (ct_D hn hp)
theorem wnt_tb {net : Nat → Nat} {i : Nat} : ∀ p, (wnt net p).testBit i = (decide (i < p) && decide (¬ net i = 0))
  | 0 => by rw [wnt]; simp
  | p + 1 => by
    rw [wnt, Nat.testBit_or, wnt_tb p]
    by_cases h : net p = 0
    · rw [if_pos h]
      by_cases e : i = p
      · subst e; simp [h]
      · have : decide (i < p + 1) = decide (i < p) := decide_eq_decide.mpr (by omega)
        rw [this]; simp
    · rw [if_neg h, tb2]
      by_cases e : i = p
      · subst e; simp [h]
      · have : decide (i < p + 1) = decide (i < p) := decide_eq_decide.mpr (by omega)
        rw [this, decide_eq_false (show ¬ p = i from fun z => e z.symm)]; simp
/-- whether all whose numbers are more than their own are come to -/
def snC (net : Nat → Nat) (n : Nat) : Bool := (List.range n).all (fun p => (List.range n).all (fun q => decide (net q = 0) || (ctI net false n p n).testBit q))
theorem sun_eq {net : Nat → Nat} {n : Nat} (hn : n < 5) (hv : NV n net) : sunB net n = snC net n := by
  rw [Bool.eq_iff_iff]
  unfold sunB snC
  simp only [List.all_eq_true, List.mem_range, beq_iff_eq, Bool.or_eq_true, decide_eq_true_eq]
  constructor
  · intro h p hp q hq
    have h1 := h p hp
    by_cases e : net q = 0
    · exact Or.inl e
    · right
      have h2 := congrArg (fun z => Nat.testBit z q) h1
      simp only [Nat.testBit_and, Nat.testBit_xor, wnt_tb, tb15, Nat.zero_testBit] at h2
      rw [decide_eq_true hq, decide_eq_true e, decide_eq_true (show q < 4 by omega), sA_ct hn hp hv] at h2
      simpa using h2
  · intro h p hp
    apply Nat.eq_of_testBit_eq
    intro i
    rw [Nat.testBit_and, Nat.testBit_xor, wnt_tb, tb15, Nat.zero_testBit]
    by_cases hi : i < n
    · rw [sA_ct hn hp hv]
      rcases h p hp i hi with e | e
      · simp [e]
      · simp [e, show i < 4 by omega]
    · simp [hi]
