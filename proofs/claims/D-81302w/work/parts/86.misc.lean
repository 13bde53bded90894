/-! MISC: sums of suns; bits counted; a net by a number -/
set_option maxRecDepth 100000
def snQ (net : Nat → Nat) (n p : Nat) (b : Bool) : Nat → Bool
  | 0 => b
  | q + 1 => snQ net n p b q && (decide (net q = 0) || (ctI net false n p n).testBit q)
def snP (net : Nat → Nat) (n : Nat) : Nat → Bool
  | 0 => true
  | p + 1 => snQ net n p (snP net n p) n
theorem snQ_eq {net : Nat → Nat} {n p : Nat} {b : Bool} : ∀ q, snQ net n p b q = (b && (List.range q).all (fun q => decide (net q = 0) || (ctI net false n p n).testBit q))
  | 0 => by rw [snQ]; simp
  | q + 1 => by
    rw [snQ, snQ_eq q, List.range_succ, List.all_append]
    simp [Bool.and_assoc]
theorem snP_eq {net : Nat → Nat} {n : Nat} : ∀ p, snP net n p = (List.range p).all (fun p => (List.range n).all (fun q => decide (net q = 0) || (ctI net false n p n).testBit q))
  | 0 => by rw [snP]; simp
  | p + 1 => by
    rw [snP, snQ_eq, snP_eq p, List.range_succ, List.all_append]
    simp
theorem snP_n {net : Nat → Nat} {n : Nat} : snP net n n = snC net n := snP_eq n
theorem td_0 {net : Nat → Nat} {q : Nat} (h : (net q).testBit q = false) : tdN net q = 2 ^ q ↔ net q = 0 := by
  constructor
  · intro e
    apply Nat.eq_of_testBit_eq
    intro i
    have h1 := congrArg (fun z => Nat.testBit z i) e
    simp only [tdN_tb, tb2, Nat.zero_testBit] at h1 ⊢
    by_cases hi : q = i
    · subst hi; exact h
    · rw [decide_eq_false hi, Bool.or_false] at h1; exact h1
  · intro e; rw [tdN, e, Nat.zero_or]
theorem b2i_1 (x : Bool) : b2i x &&& 1 = b2i x := by cases x <;> decide
theorem b2i_0 (x : Bool) : b2i x &&& 0 = b2i (x && false) := by cases x <;> decide
/-- bits counted by halves -/
def us (x : Int32) (k : Int32) : Int32 := (x.toUInt32 >>> (k.toUInt32 &&& Int32.toUInt32 31)).toInt32
def bc1 (x : Int32) : Int32 := x - (us x 1 &&& 1431655765)
def bc2 (x : Int32) : Int32 := (bc1 x &&& 858993459) + (us (bc1 x) 2 &&& 858993459)
def bc3 (x : Int32) : Int32 := (bc2 x + us (bc2 x) 4) &&& 252645135
def bc4 (x : Int32) : Int32 := bc3 x + us (bc3 x) 8
def bc5 (x : Int32) : Int32 := bc4 x + us (bc4 x) 16
theorem bc_eq : ∀ x, x < 16 → bc5 (nI x) &&& 63 = nI (bts x 16) := by decide +kernel
theorem bts_td : ∀ x, x < 16 → ∀ p, p < 4 → x.testBit p = false → bts (x ||| 2 ^ p) 16 = bts x 16 + 1 := by decide +kernel
theorem num_s {x p : Nat} (hx : x < 16) (hp : p < 4) (h : x.testBit p = false) : nI (bts (x ||| 2 ^ p) 16) - 1 = nI (bts x 16) := by
  rw [bts_td x hx p hp h]; exact nI_pred _
/-- a net by a number, with own numbers -/
theorem nl_td {p q y : Nat} (h : ¬ p = q) : ((nlQ p q (0, y)).1 ||| 2 ^ p) ||| (((nlQ p q (0, y)).2 &&& 1) <<< q) = (nlQ p (q + 1) (0, y)).1 ||| 2 ^ p := by
  rw [nlQ_s h]
  show _ = ((nlQ p q (0, y)).1 ||| (((nlQ p q (0, y)).2 &&& 1) <<< q)) ||| 2 ^ p
  rw [Nat.or_assoc, Nat.or_comm (2 ^ p), ← Nat.or_assoc]
theorem nlQ_bit {p y i : Nat} : ∀ q, (nlQ p q (0, y)).1.testBit i = true → i < q ∧ ¬ i = p
  | 0, h => by
    have h : (0 : Nat).testBit i = true := h
    simp at h
  | q + 1, h => by
    by_cases e : p = q
    · rw [nlQ_e e] at h
      have := nlQ_bit q h
      exact ⟨by omega, this.2⟩
    · rw [nlQ_s e] at h
      have h : ((nlQ p q (0, y)).1 ||| (((nlQ p q (0, y)).2 &&& 1) <<< q)).testBit i = true := h
      rw [Nat.testBit_or, Bool.or_eq_true] at h
      rcases h with h | h
      · have := nlQ_bit q h
        exact ⟨by omega, this.2⟩
      · rw [Nat.testBit_shiftLeft] at h
        simp only [Bool.and_eq_true, decide_eq_true_eq] at h
        have h2 : i - q = 0 := by
          have h3 := h.2
          rw [Nat.testBit_and] at h3
          simp only [Bool.and_eq_true] at h3
          have h4 := h3.2
          rw [show (1 : Nat) = 2 ^ 0 from rfl, tb2, decide_eq_true_eq] at h4
          exact h4.symm
        exact ⟨by omega, by omega⟩
theorem nlN_NV {n num : Nat} : NV n (nlN n num) := fun q hq => ⟨fun i h => (nlQ_bit n h).1, by
  rw [Bool.eq_false_iff]
  intro h
  exact (nlQ_bit n h).2 rfl⟩
/-- the component's net laid by a number: rows done, and the row that is under way -/
def LNo (σ ω : MS) (nv num i : Nat) : Prop := ∃ g : Nat → Int32, ω = (σ.i 0 (nI nv)).b 1 g ∧ ∀ q, q < i → g q = nI (tdN (nlN nv num) q)
def LNi (σ ω : MS) (nv num i j : Nat) : Prop := ∃ g : Nat → Int32, ω = (σ.i 0 (nI nv)).b 1 g ∧ (∀ q, q < i → g q = nI (tdN (nlN nv num) q)) ∧ g i = nI ((nlQ i j (0, nlL nv num i)).1 ||| 2 ^ i)
theorem LNo.a {σ : MS} {nv num : Nat} : LNo σ (σ.i 0 (nI nv)) nv num 0 := ⟨σ.2.1 1, (MS_idb (σ.i 0 (nI nv)) 1).symm, fun q hq => absurd hq (Nat.not_lt_zero q)⟩
theorem LNo.r {σ ω : MS} {nv num i : Nat} {v : Int32} (h : LNo σ ω nv num i) (hv : v = nI (2 ^ i)) : LNi σ (ω.b 1 (upd (ω.2.1 1) i v)) nv num i 0 := by
  obtain ⟨g, rfl, hg⟩ := h
  subst hv
  refine ⟨upd g i (nI (2 ^ i)), MS_bb _ _ _ _, fun q hq => (pk_un (by omega)).trans (hg q hq), ?_⟩
  rw [pk_us]
  show _ = nI (0 ||| 2 ^ i)
  rw [Nat.zero_or]
theorem LNi.s {σ ω : MS} {nv num i j : Nat} (h : LNi σ ω nv num i j) (e : i = j) : LNi σ ω nv num i (j + 1) := by
  obtain ⟨g, h1, h2, h3⟩ := h
  exact ⟨g, h1, h2, by rw [nlQ_e e]; exact h3⟩
theorem LNi.p {σ ω : MS} {nv num i j : Nat} {v : Int32} (h : LNi σ ω nv num i j) (e : ¬ i = j) (hv : v = nI (((nlQ i j (0, nlL nv num i)).1 ||| 2 ^ i) ||| (((nlQ i j (0, nlL nv num i)).2 &&& 1) <<< j))) : LNi σ (ω.b 1 (upd (ω.2.1 1) i v)) nv num i (j + 1) := by
  obtain ⟨g, rfl, h2, h3⟩ := h
  subst hv
  refine ⟨_, MS_bb _ _ _ _, fun q hq => (pk_un (by omega)).trans (h2 q hq), ?_⟩
  rw [pk_us, nl_td e]
theorem LNi.o {σ ω : MS} {nv num i : Nat} (h : LNi σ ω nv num i nv) : LNo σ ω nv num (i + 1) := by
  obtain ⟨g, h1, h2, h3⟩ := h
  refine ⟨g, h1, fun q hq => ?_⟩
  by_cases e : q = i
  · subst e; exact h3
  · exact h2 q (by omega)
theorem LNi.g {σ ω : MS} {nv num i j : Nat} (h : LNi σ ω nv num i j) : ω.2.1 1 i = nI ((nlQ i j (0, nlL nv num i)).1 ||| 2 ^ i) := by
  obtain ⟨g, rfl, -, h3⟩ := h
  exact h3
theorem LNo.kg {σ ω : MS} {nv num : Nat} (h : LNo σ ω nv num nv) (hn : nv < 5) : KG ω nv (nlN nv num) := by
  obtain ⟨g, rfl, hg⟩ := h
  exact ⟨hn, rfl, hg, fun q _ => nlN_lt hn⟩
theorem tkE_15 {n r : Nat} (hn : n < 5) : tkE n (tof r 255) (al n) := tk8_tok (r := r) (cp := fun _ => 0) (cq := fun _ => 0) hn 0 (fun j hj => absurd hj (Nat.not_lt_zero j))
