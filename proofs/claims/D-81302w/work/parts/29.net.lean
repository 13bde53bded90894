/-! NET: joined nets, suns, searches among numbers, all small nets, as plain functions -/
set_option maxRecDepth 100000
/-- the reference's 'isJoined': one person's row; all rows; so many times -/
def jQ (net : Nat → Nat) (p x : Nat) : Nat → Nat
  | 0 => x
  | q + 1 => if p = q then jQ net p x q else if (net p).testBit q = false then jQ net p x q else if (jQ net p x q).testBit p = true then jQ net p x q ||| (2 ^ p ||| 2 ^ q) else if (jQ net p x q).testBit q = true then jQ net p x q ||| (2 ^ p ||| 2 ^ q) else jQ net p x q
def jP (net : Nat → Nat) (n x : Nat) : Nat → Nat
  | 0 => x
  | p + 1 => jQ net p (jP net n x p) n
def jA (net : Nat → Nat) (n : Nat) : Nat → Nat
  | 0 => 1
  | k + 1 => jP net n (jA net n k) n
def jnB (net : Nat → Nat) (n : Nat) : Bool := !decide (n = 0) && decide (jA net n n = al n)
theorem pw16 {p : Nat} (h : p < 4) : 2 ^ p < 16 := Nat.pow_lt_pow_right (by decide) h
theorem jQ_lt {net : Nat → Nat} {p x : Nat} (hp : p < 4) (hx : x < 16) : ∀ q, q ≤ 4 → jQ net p x q < 16
  | 0, _ => hx
  | q + 1, h => by
    have h0 := jQ_lt (net := net) hp hx q (by omega)
    have h1 : jQ net p x q ||| (2 ^ p ||| 2 ^ q) < 16 := Nat.or_lt_two_pow (n := 4) h0 (Nat.or_lt_two_pow (n := 4) (pw16 hp) (pw16 (by omega)))
    unfold jQ
    split
    · exact h0
    · split
      · exact h0
      · split
        · exact h1
        · split
          · exact h1
          · exact h0
theorem jP_lt {net : Nat → Nat} {n x : Nat} (hn : n < 5) (hx : x < 16) : ∀ p, p ≤ n → jP net n x p < 16
  | 0, _ => hx
  | p + 1, h => jQ_lt (by omega) (jP_lt hn hx p (by omega)) n (by omega)
theorem jA_lt {net : Nat → Nat} {n : Nat} (hn : n < 5) : ∀ k, jA net n k < 16
  | 0 => by show 1 < 16; decide
  | k + 1 => jP_lt hn (jA_lt hn k) n (Nat.le_refl n)
/-- the reference's 'sun' -/
def wnt (net : Nat → Nat) : Nat → Nat
  | 0 => 0
  | p + 1 => wnt net p ||| (if net p = 0 then 0 else 2 ^ p)
def sQ (net : Nat → Nat) (x : Nat) : Nat → Nat
  | 0 => x
  | q + 1 => sQ net x q ||| (if (sQ net x q).testBit q then net q else 0)
def sA (net : Nat → Nat) (n p : Nat) : Nat → Nat
  | 0 => 2 ^ p
  | k + 1 => sQ net (sA net n p k) n
def sunB (net : Nat → Nat) (n : Nat) : Bool := (List.range n).all (fun p => wnt net n &&& (15 ^^^ sA net n p n) == 0)
theorem wnt_lt {net : Nat → Nat} : ∀ p, p ≤ 4 → wnt net p < 16
  | 0, _ => by show 0 < 16; decide
  | p + 1, h => by
    refine Nat.or_lt_two_pow (n := 4) (wnt_lt p (by omega)) ?_
    split
    · decide
    · exact pw16 (by omega)
theorem sQ_lt {net : Nat → Nat} {x : Nat} (hnet : ∀ q, q < 4 → net q < 16) (hx : x < 16) : ∀ q, q ≤ 4 → sQ net x q < 16
  | 0, _ => hx
  | q + 1, h => by
    refine Nat.or_lt_two_pow (n := 4) (sQ_lt hnet hx q (by omega)) ?_
    split
    · exact hnet q (by omega)
    · decide
theorem sA_lt {net : Nat → Nat} {n p : Nat} (hnet : ∀ q, q < 4 → net q < 16) (hn : n < 5) (hp : p < 4) : ∀ k, sA net n p k < 16
  | 0 => pw16 hp
  | k + 1 => sQ_lt hnet (sA_lt hnet hn hp k) n (by omega)
theorem sunB_true {net : Nat → Nat} {n : Nat} (h : ∀ p, p < n → wnt net n &&& (15 ^^^ sA net n p n) = 0) : sunB net n = true := by
  simp only [sunB, List.all_eq_true, List.mem_range, beq_iff_eq]
  exact h
theorem sunB_false {net : Nat → Nat} {n p : Nat} (hp : p < n) (h : ¬ wnt net n &&& (15 ^^^ sA net n p n) = 0) : sunB net n = false := by
  rw [Bool.eq_false_iff]
  intro e
  simp only [sunB, List.all_eq_true, List.mem_range, beq_iff_eq] at e
  exact h (e p hp)
def spSun (n : Nat) (net : Nat → Nat) : Int32 := if n = 0 then -3 else b2i (sunB net n)
def spJoined (n : Nat) (net : Nat → Nat) : Int32 := if n = 0 then -3 else b2i (jnB net n)
/-- the net with one number more, or less -/
def ntX (net : Nat → Nat) (p q : Nat) : Nat → Nat := fun k => if k = p then net k ^^^ 2 ^ q else net k
theorem xor16 {x y : Nat} (hx : x < 16) (hy : y < 16) : x ^^^ y < 16 := Nat.xor_lt_two_pow (n := 4) hx hy
theorem ntX_lt {net : Nat → Nat} {p q : Nat} (hnet : ∀ q, q < 4 → net q < 16) (hq : q < 4) : ∀ k, k < 4 → ntX net p q k < 16 := by
  intro k hk
  unfold ntX
  split
  · exact xor16 (hnet k hk) (pw16 hq)
  · exact hnet k hk
/-- a search among pairs: how many of the first j are such -/
def cN (g : Nat → Bool) : Nat → Nat
  | 0 => 0
  | j + 1 => cN g j + (if g j = true then 1 else 0)
theorem cN_le (g : Nat → Bool) : ∀ j, cN g j ≤ j
  | 0 => Nat.le_refl 0
  | j + 1 => by
    have := cN_le g j
    show cN g j + _ ≤ j + 1
    split <;> omega
def inN (n : Nat) (g : Nat → Nat → Bool) (k : Nat) : Bool := decide (k / 4 < n) && decide (k % 4 < n) && g (k / 4) (k % 4)
/-- the pair that is the kv-th of those that are such -/
def kthB (g : Nat → Bool) (kv : Int32) (j : Nat) : Bool := g j && decide (nI (cN g j) = kv)
def spSearch (g : Nat → Bool) (kv : Int32) : Int32 :=
  if kv = -1 then nI (cN g 16) else match bstF (kthB g kv) 16 0 with
    | some j => nI (10 * (j / 4) + j % 4)
    | none => -9
/-- numbers without which the net falls apart; numbers with which a verdict is 2 -/
def brB (net : Nat → Nat) (n p q : Nat) : Bool := !decide (p = q) && ((net p).testBit q && !jnB (ntX net p q) n)
def meB (net : Nat → Nat) (n r p q : Nat) : Bool := !decide (p = q) && (!(net p).testBit q && decide (vrd (val (ntX net p q) n r (st0 n) (al n)) = 2))
def spBridge (n : Nat) (net : Nat → Nat) (kv : Int32) : Int32 :=
  if inR kv (-1) 11 = false then -1 else if jnB net n = false then -3 else spSearch (inN n (brB net n)) kv
def spMend (n : Nat) (net : Nat → Nat) (rv kv : Int32) : Int32 :=
  if inR rv 0 3 = false then -1 else if inR kv (-1) 11 = false then -1 else if n = 0 then -3 else spSearch (inN n (meB net n rv.toNatClampNeg)) kv
theorem inN_out {n : Nat} {g : Nat → Nat → Bool} {k : Nat} (h : ¬ k / 4 < n ∨ ¬ k % 4 < n) : inN n g k = false := by
  simp only [inN, Bool.and_eq_false_iff, decide_eq_false_iff_not]
  rcases h with h | h
  · exact Or.inl (Or.inl h)
  · exact Or.inl (Or.inr h)
theorem inN_in {n : Nat} {g : Nat → Nat → Bool} {p q : Nat} (hp : p < n) (hq : q < n) (hn : n < 5) : inN n g (4 * p + q) = g p q := by
  rw [inN, show (4 * p + q) / 4 = p by omega, show (4 * p + q) % 4 = q by omega, decide_eq_true hp, decide_eq_true hq]
  rfl
/-- pairs beyond n are skipped -/
theorem cN_skip {n : Nat} {g : Nat → Nat → Bool} {p : Nat} : ∀ d, n + d ≤ 4 → cN (inN n g) (4 * p + n + d) = cN (inN n g) (4 * p + n)
  | 0, _ => rfl
  | d + 1, h => by
    show cN (inN n g) (4 * p + n + d) + (if inN n g (4 * p + n + d) = true then 1 else 0) = _
    rw [cN_skip d (by omega), if_neg (by rw [inN_out (Or.inr (by omega))]; decide)]
    rfl
theorem bst_skip {n : Nat} {g : Nat → Bool} {p f : Nat} (hg : ∀ k, ¬ k % 4 < n → g k = false) : ∀ d, n + d ≤ 4 → bstF g (f + d) (4 * p + n) = bstF g f (4 * p + n + d)
  | 0, _ => rfl
  | d + 1, h => by
    rw [show f + (d + 1) = (f + 1) + d by omega, bst_skip (f := f + 1) hg d (by omega), bstF_f (hg _ (by omega))]
    rfl
/-- pairs behind the last person are skipped -/
theorem cN_rest {n : Nat} {g : Nat → Nat → Bool} : ∀ d, 4 * n + d ≤ 16 → cN (inN n g) (4 * n + d) = cN (inN n g) (4 * n)
  | 0, _ => rfl
  | d + 1, h => by
    show cN (inN n g) (4 * n + d) + (if inN n g (4 * n + d) = true then 1 else 0) = _
    rw [cN_rest d (by omega), if_neg (by rw [inN_out (Or.inl (by omega))]; decide)]
    rfl
theorem bst_rest {g : Nat → Bool} : ∀ f k, (∀ j, k ≤ j → g j = false) → bstF g f k = none
  | 0, _, _ => rfl
  | f + 1, k, h => by
    rw [bstF_f (h k (Nat.le_refl k))]
    exact bst_rest f (k + 1) (fun j hj => h j (by omega))
/-- a net of n persons by a number: from the row p on, what is left of the number -/
def nlQ (p : Nat) : Nat → Nat × Nat → Nat × Nat
  | 0, x => x
  | q + 1, x => if p = q then nlQ p q x else ((nlQ p q x).1 ||| (((nlQ p q x).2 &&& 1) <<< q), (nlQ p q x).2 >>> 1)
/-- what is left behind the first p rows -/
def nlL (n num : Nat) : Nat → Nat
  | 0 => num
  | p + 1 => (nlQ p n (0, nlL n num p)).2
def nlN (n num p : Nat) : Nat := (nlQ p n (0, nlL n num p)).1
theorem nlQ_lt {p y : Nat} : ∀ q, q ≤ 4 → (nlQ p q (0, y)).1 < 16 ∧ (nlQ p q (0, y)).2 ≤ y
  | 0, _ => ⟨by show 0 < 16; decide, Nat.le_refl _⟩
  | q + 1, h => by
    have h0 := nlQ_lt (p := p) (y := y) q (by omega)
    unfold nlQ
    split
    · exact h0
    · refine ⟨Nat.or_lt_two_pow (n := 4) h0.1 ?_, ?_⟩
      · have h1 : (nlQ p q (0, y)).2 &&& 1 < 2 := Nat.lt_of_le_of_lt Nat.and_le_right (by decide)
        have h2 : 2 ^ q ≤ 2 ^ 3 := Nat.pow_le_pow_right (by decide) (by omega)
        rw [Nat.shiftLeft_eq]
        have h3 : ((nlQ p q (0, y)).2 &&& 1) * 2 ^ q ≤ 1 * 2 ^ 3 := Nat.mul_le_mul (by omega) h2
        omega
      · show (nlQ p q (0, y)).2 >>> 1 ≤ y
        rw [Nat.shiftRight_eq_div_pow]
        exact Nat.le_trans (Nat.div_le_self _ _) h0.2
theorem nlL_le {n num : Nat} (hn : n < 5) : ∀ p, nlL n num p ≤ num
  | 0 => Nat.le_refl _
  | p + 1 => Nat.le_trans (nlQ_lt n (by omega)).2 (nlL_le hn p)
/-- how many nets of n persons are joined and have a verdict (3: any) -/
def ntB (n r : Nat) (w : Int32) (num : Nat) : Bool := jnB (nlN n num) n && (decide (w = 3) || decide (vrd (val (nlN n num) n r (st0 n) (al n)) = w))
def spNets (nv rv w : Int32) : Int32 :=
  if inR rv 0 3 = false then -1 else if inR nv 1 3 = false then -2 else if inR w 0 3 = false then -2 else nI (cN (ntB nv.toNatClampNeg rv.toNatClampNeg w) (2 ^ (nv.toNatClampNeg * (nv.toNatClampNeg - 1))))
/-- only the rows of the n persons matter -/
theorem numA_congr {net net' : Nat → Nat} {n s p : Nat} (hs : vld n s) (h : ∀ q, q < n → net q = net' q) : ∀ q, numA net s p q = numA net' s p q
  | 0 => rfl
  | q + 1 => by
    unfold numA
    rw [numA_congr hs h q]
    by_cases e : (hs4 s p).testBit q = true
    · rw [if_pos e, if_pos e]
      rw [hs4_tb] at e
      simp only [Bool.and_eq_true, decide_eq_true_eq] at e
      have := (hs.2.2 _ e.2).2
      rw [h q (by omega)]
    · rw [if_neg e, if_neg e]
theorem mayB_congr {net net' : Nat → Nat} {n r s t p q : Nat} (hs : vld n s) (h : ∀ q, q < n → net q = net' q) : mayB net r s t p q = mayB net' r s t p q := by
  unfold mayB
  rw [numA_congr hs h]
theorem vAcc_net {net net' : Nat → Nat} {n r s t : Nat} {f g : Nat → Nat → V4} (hn : n < 5) (hs : vld n s) (h : ∀ q, q < n → net q = net' q) (hf : ∀ s' t', vld n s' → mu s' < mu s → f s' t' = g s' t') : ∀ k, vAcc f net n r s t k = vAcc g net' n r s t k
  | 0 => rfl
  | k + 1 => by
    have e : okP net n r s t k = okP net' n r s t k := by unfold okP; rw [mayB_congr hs h]
    unfold vAcc
    rw [vAcc_net hn hs h hf k, ← e]
    by_cases e2 : okP net n r s t k = true
    · rw [if_pos e2, if_pos e2, hf _ _ (okP_mu hn hs e2).1 (okP_mu hn hs e2).2]
    · rw [if_neg e2, if_neg e2]
theorem vF_net {net net' : Nat → Nat} {n r : Nat} (hn : n < 5) (h : ∀ q, q < n → net q = net' q) : ∀ f s t, vld n s → mu s < f → vF net n r f s t = vF net' n r f s t
  | 0, _, _, _, hm => absurd hm (Nat.not_lt_zero _)
  | f + 1, s, t, hs, hm => by
    show vEnd n s _ = vEnd n s _
    rw [vAcc_net hn hs h (fun s' t' hv hm' => vF_net hn h f s' t' hv (by omega))]
theorem val_net {net net' : Nat → Nat} {n r s t : Nat} (hn : n < 5) (hs : vld n s) (h : ∀ q, q < n → net q = net' q) : val net n r s t = val net' n r s t :=
  vF_net hn h 17 s t hs (by have := mu_le s; omega)
theorem jQ_net {net net' : Nat → Nat} {n p x : Nat} (hp : p < n) (h : ∀ q, q < n → net q = net' q) : ∀ q, jQ net p x q = jQ net' p x q
  | 0 => rfl
  | q + 1 => by
    unfold jQ
    rw [jQ_net hp h q, h p hp]
theorem jP_net {net net' : Nat → Nat} {n x : Nat} (h : ∀ q, q < n → net q = net' q) : ∀ p, p ≤ n → jP net n x p = jP net' n x p
  | 0, _ => rfl
  | p + 1, hp => by
    show jQ net p (jP net n x p) n = jQ net' p (jP net' n x p) n
    rw [jP_net h p (by omega), jQ_net (by omega) h]
theorem jA_net {net net' : Nat → Nat} {n : Nat} (h : ∀ q, q < n → net q = net' q) : ∀ k, jA net n k = jA net' n k
  | 0 => rfl
  | k + 1 => by
    show jP net n (jA net n k) n = jP net' n (jA net' n k) n
    rw [jA_net h k, jP_net h n (Nat.le_refl n)]
theorem jnB_net {net net' : Nat → Nat} {n : Nat} (h : ∀ q, q < n → net q = net' q) : jnB net n = jnB net' n := by
  unfold jnB
  rw [jA_net h]
theorem jQ_e {net : Nat → Nat} {p x q : Nat} (h : p = q) : nI (jQ net p x (q + 1)) = nI (jQ net p x q) := by rw [jQ, if_pos h]
theorem jQ_n {net : Nat → Nat} {p x q : Nat} (h : ¬ p = q) (h2 : (net p).testBit q = false) : nI (jQ net p x (q + 1)) = nI (jQ net p x q) := by rw [jQ, if_neg h, if_pos h2]
theorem jQ_1 {net : Nat → Nat} {p x q : Nat} (h : ¬ p = q) (h2 : (net p).testBit q = true) (h3 : (jQ net p x q).testBit p = true) : nI (jQ net p x (q + 1)) = nI (jQ net p x q) ||| (nI (2 ^ p) ||| nI (2 ^ q)) := by
  rw [jQ, if_neg h, if_neg (by rw [h2]; decide), if_pos h3, nI_or, nI_or]
theorem jQ_2 {net : Nat → Nat} {p x q : Nat} (h : ¬ p = q) (h2 : (net p).testBit q = true) (h3 : (jQ net p x q).testBit p = false) (h4 : (jQ net p x q).testBit q = true) : nI (jQ net p x (q + 1)) = nI (jQ net p x q) ||| (nI (2 ^ p) ||| nI (2 ^ q)) := by
  rw [jQ, if_neg h, if_neg (by rw [h2]; decide), if_neg (by rw [h3]; decide), if_pos h4, nI_or, nI_or]
theorem jQ_0 {net : Nat → Nat} {p x q : Nat} (h : ¬ p = q) (h2 : (net p).testBit q = true) (h3 : (jQ net p x q).testBit p = false) (h4 : (jQ net p x q).testBit q = false) : nI (jQ net p x (q + 1)) = nI (jQ net p x q) := by
  rw [jQ, if_neg h, if_neg (by rw [h2]; decide), if_neg (by rw [h3]; decide), if_neg (by rw [h4]; decide)]
theorem wnt_1 {net : Nat → Nat} {p : Nat} (h : net p = 0) : nI (wnt net (p + 1)) = nI (wnt net p) ||| 0 := by
  rw [wnt, if_pos h]; exact (nI_or _ 0).symm
theorem wnt_2 {net : Nat → Nat} {p : Nat} (h : ¬ net p = 0) : nI (wnt net (p + 1)) = nI (wnt net p) ||| nI (2 ^ p) := by
  rw [wnt, if_neg h, nI_or]
theorem sQ_1 {net : Nat → Nat} {x q : Nat} (h : (sQ net x q).testBit q = true) : nI (sQ net x (q + 1)) = nI (sQ net x q) ||| nI (net q) := by
  rw [sQ, if_pos h, nI_or]
theorem sQ_2 {net : Nat → Nat} {x q : Nat} (h : (sQ net x q).testBit q = false) : nI (sQ net x (q + 1)) = nI (sQ net x q) ||| 0 := by
  rw [sQ, if_neg (by rw [h]; decide)]; exact (nI_or _ 0).symm
