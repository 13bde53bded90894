/-! SEARCH: facts for searches among numbers -/
set_option maxRecDepth 100000
theorem cN_f {g : Nat → Bool} {j : Nat} (h : g j = false) : cN g (j + 1) = cN g j := by
  show cN g j + (if g j = true then 1 else 0) = _
  rw [h]; rfl
theorem cN_t {g : Nat → Bool} {j : Nat} (h : g j = true) : cN g (j + 1) = cN g j + 1 := by
  show cN g j + (if g j = true then 1 else 0) = _
  rw [h]; rfl
theorem cN_row {n : Nat} {g : Nat → Nat → Bool} {p : Nat} (hn : n < 5) : cN (inN n g) (4 * (p + 1)) = cN (inN n g) (4 * p + n) := by
  have h := cN_skip (g := g) (p := p) (4 - n) (show n + (4 - n) ≤ 4 by omega)
  rw [show 4 * (p + 1) = 4 * p + n + (4 - n) by omega]
  exact h
theorem cN_all {n : Nat} {g : Nat → Nat → Bool} (hn : n < 5) : cN (inN n g) 16 = cN (inN n g) (4 * n) := by
  have h := cN_rest (g := g) (16 - 4 * n) (show 4 * n + (16 - 4 * n) ≤ 16 by omega)
  rw [show 4 * n + (16 - 4 * n) = 16 by omega] at h
  exact h
theorem kth_out {n : Nat} {g : Nat → Nat → Bool} {kv : Int32} {k : Nat} (h : ¬ k / 4 < n ∨ ¬ k % 4 < n) : kthB (inN n g) kv k = false := by
  rw [kthB, inN_out h]; rfl
theorem bst_row {n : Nat} {g : Nat → Nat → Bool} {kv : Int32} {p : Nat} (hn : n < 5) (hp : p < 4) : bstF (kthB (inN n g) kv) (16 - (4 * p + n)) (4 * p + n) = bstF (kthB (inN n g) kv) (16 - 4 * (p + 1)) (4 * (p + 1)) := by
  have h := bst_skip (n := n) (g := kthB (inN n g) kv) (p := p) (f := 16 - 4 * (p + 1)) (fun k hk => kth_out (Or.inr hk)) (4 - n) (by omega)
  rw [show 16 - 4 * (p + 1) + (4 - n) = 16 - (4 * p + n) by omega, show 4 * p + n + (4 - n) = 4 * (p + 1) by omega] at h
  exact h
theorem bst_all {n : Nat} {g : Nat → Nat → Bool} {kv : Int32} {f : Nat} : bstF (kthB (inN n g) kv) f (4 * n) = none :=
  bst_rest f (4 * n) (fun j hj => kth_out (Or.inl (by omega)))
theorem bst_step {g : Nat → Bool} {j : Nat} (h : g j = false) (hj : j < 16) : bstF g (16 - j) j = bstF g (16 - (j + 1)) (j + 1) := by
  rw [show 16 - j = (16 - (j + 1)) + 1 by omega]
  exact bstF_f h
theorem kth_f {g : Nat → Bool} {kv : Int32} {j : Nat} (h : g j = false) : kthB g kv j = false := by rw [kthB, h]; rfl
theorem kth_n {g : Nat → Bool} {kv : Int32} {j : Nat} (h : ¬ nI (cN g j) = kv) : kthB g kv j = false := by
  rw [kthB, decide_eq_false h]; exact Bool.and_false _
theorem kth_t {g : Nat → Bool} {kv : Int32} {j : Nat} (h : g j = true) (h2 : nI (cN g j) = kv) : kthB g kv j = true := by
  rw [kthB, h, decide_eq_true h2]; rfl
theorem sp_found {g : Nat → Bool} {kv : Int32} {p q : Nat} (hq : q < 4) (hp : p < 4) (h : bstF (kthB g kv) 16 0 = some (4 * p + q)) (h2 : nI (cN g (4 * p + q)) = kv) : 10 * nI p + nI q = spSearch g kv := by
  have hk : ¬ kv = -1 := by
    rw [← h2]
    intro e
    have := cN_le g (4 * p + q)
    have h3 : ¬ nI (cN g (4 * p + q)) < 0 := nI_pos (by omega)
    rw [e] at h3
    exact h3 (by decide)
  rw [spSearch, if_neg hk, h]
  show _ = nI (10 * ((4 * p + q) / 4) + (4 * p + q) % 4)
  rw [show (4 * p + q) / 4 = p by omega, show (4 * p + q) % 4 = q by omega, show (10 : Int32) * nI p = nI (10 * p) from pk_mul 10 p, nI_add]
theorem sp_count {g : Nat → Bool} {kv : Int32} (h : kv = -1) : nI (cN g 16) = spSearch g kv := by rw [spSearch, if_pos h]
theorem sp_none {g : Nat → Bool} {kv : Int32} (h : ¬ kv = -1) (h2 : bstF (kthB g kv) 16 0 = none) : (-9 : Int32) = spSearch g kv := by rw [spSearch, if_neg h, h2]
/-- only the other net has changed -/
def BRm (σ σ' : MS) : Prop := PUm σ σ' ∧ σ'.1 = σ.1 ∧ σ'.2.1 12 = σ.2.1 12 ∧ (OTm σ → OTm σ')
theorem BRm.rf {σ : MS} : BRm σ σ := ⟨PUm.rf, rfl, rfl, id⟩
theorem BRm.tr {σ σ1 σ2 : MS} (h : BRm σ σ1) (g : BRm σ1 σ2) : BRm σ σ2 := ⟨h.1.tr g.1, g.2.1.trans h.2.1, g.2.2.1.trans h.2.2.1, fun x => g.2.2.2 (h.2.2.2 x)⟩
theorem BRm.sn {σ σ' : MS} {T : Nat} (h : BRm σ σ') (hs : SNm σ T) : SNm σ' T := ⟨by rw [h.2.1]; exact hs.1, fun pl => by rw [h.2.2.1]; exact hs.2 pl⟩
theorem BRm.pt {σ σ' : MS} {T : Nat} (h : BRm σ σ') (hs : SNm σ T) : PTm σ σ' T := ⟨h.1, ⟨T, by omega, h.sn hs⟩, h.2.2.2⟩
theorem BRm.b28 {σ σ' : MS} {f : Nat → Int32} (h : BRm σ σ') (hf : OTm σ → ∀ q, q < 4 → ∃ x, x < 16 ∧ f q = nI x) : BRm σ (σ'.b 28 f) := ⟨h.1, h.2.1, h.2.2.1, fun x q hq => hf x q hq⟩
theorem upd16 {f : Nat → Int32} {k x : Nat} (hx : x < 16) (h : ∀ q, q < 4 → ∃ y, y < 16 ∧ f q = nI y) : ∀ q, q < 4 → ∃ y, y < 16 ∧ upd f k (nI x) q = nI y := by
  intro q hq
  by_cases e : q = k
  · subst e; exact ⟨x, hx, pk_us⟩
  · obtain ⟨y, hy, e2⟩ := h q hq
    exact ⟨y, hy, (pk_un e).trans e2⟩
/-- turns go on, at most d of them; the rest stays -/
def MEm (σ σ' : MS) (T d : Nat) : Prop := PUm σ σ' ∧ (∃ T', T' ≤ T + d ∧ SNm σ' T') ∧ (OTm σ → OTm σ')
theorem MEm.rf {σ : MS} {T : Nat} (h : SNm σ T) : MEm σ σ T 0 := ⟨PUm.rf, ⟨T, by omega, h⟩, id⟩
theorem MEm.wk {σ σ' : MS} {T d d' : Nat} (h : MEm σ σ' T d) (hd : d ≤ d') : MEm σ σ' T d' := by
  obtain ⟨a, ⟨T', b, c⟩, e⟩ := h
  exact ⟨a, ⟨T', by omega, c⟩, e⟩
theorem MEm.pt {σ σ' : MS} {T d : Nat} (h : MEm σ σ' T d) (hd : d ≤ 64) : PTm σ σ' T := by
  obtain ⟨a, ⟨T', b, c⟩, e⟩ := h
  exact ⟨a, ⟨T', by omega, c⟩, e⟩
theorem nlQ_s {p q y : Nat} (h : ¬ p = q) : nlQ p (q + 1) (0, y) = ((nlQ p q (0, y)).1 ||| (((nlQ p q (0, y)).2 &&& 1) <<< q), (nlQ p q (0, y)).2 >>> 1) := by rw [nlQ, if_neg h]
theorem nlQ_e {p q y : Nat} (h : p = q) : nlQ p (q + 1) (0, y) = nlQ p q (0, y) := by rw [nlQ, if_pos h]
theorem left_sh {x q : Nat} (hq : q < 4) : (nI x &&& 1) <<< (nI q &&& 31) = nI ((x &&& 1) <<< q) := by
  rw [show nI x &&& 1 = nI (x &&& 1) from nI_and x 1]
  refine nI_shl (by omega) ?_
  have h1 : x &&& 1 < 2 := Nat.lt_of_le_of_lt Nat.and_le_right (by decide)
  have h2 : 2 ^ q ≤ 2 ^ 3 := Nat.pow_le_pow_right (by decide) (by omega)
  have h3 : (x &&& 1) * 2 ^ q ≤ 1 * 2 ^ 3 := Nat.mul_le_mul (by omega) h2
  omega
theorem left_sr {x : Nat} (hx : x < 2 ^ 31) : nI x >>> ((1 : Int32) &&& 31) = nI (x >>> 1) := nI_shr (k := 1) hx (by decide)
theorem inR13 {v : Int32} (h : inR v 1 3 = true) : ∃ j, 1 ≤ j ∧ j ≤ 3 ∧ v = nI j := by
  simp only [inR, Bool.and_eq_true, Bool.not_eq_true', decide_eq_false_iff_not] at h
  have h0 : ¬ v < 0 := by
    intro e
    apply h.1
    rw [Int32.lt_iff_toInt_lt] at e ⊢
    have e1 : (0 : Int32).toInt = 0 := by decide
    have e2 : (1 : Int32).toInt = 1 := by decide
    omega
  obtain ⟨j, hj, rfl⟩ := nI_of h0
  have h1 : ¬ nI j < nI 1 := h.1
  have h3 : ¬ nI 3 < nI j := h.2
  rw [nI_ltI hj (by decide)] at h1
  rw [nI_ltI (by decide) hj] at h3
  exact ⟨j, by omega, by omega, rfl⟩
theorem inR13_nI : ∀ j, 1 ≤ j → j ≤ 3 → inR (nI j) 1 3 = true := by
  intro j h1 h2
  have h : j = 1 ∨ j = 2 ∨ j = 3 := by omega
  rcases h with rfl | rfl | rfl <;> decide
theorem nets_N : ∀ j, 1 ≤ j → j ≤ 3 → (1 : Int32) <<< ((nI j * (nI j - 1)) &&& 31) = nI (2 ^ (j * (j - 1))) ∧ 2 ^ (j * (j - 1)) ≤ 64 := by
  intro j h1 h2
  have h : j = 1 ∨ j = 2 ∨ j = 3 := by omega
  rcases h with rfl | rfl | rfl <;> decide
theorem vrd_lt (x : V4) : ∃ j, j < 3 ∧ vrd x = nI j := by
  unfold vrd
  split
  · exact ⟨0, by decide, rfl⟩
  · split
    · exact ⟨2, by decide, rfl⟩
    · exact ⟨1, by decide, rfl⟩
theorem OTm.fn {σ : MS} (h : OTm σ) : ∃ g : Nat → Nat, ∀ q, q < 4 → σ.2.1 28 q = nI (g q) ∧ g q < 16 := by
  have h0 : ∀ q : Nat, ∃ x : Nat, q < 4 → σ.2.1 28 q = nI x ∧ x < 16 := by
    intro q
    by_cases hq : q < 4
    · obtain ⟨x, hx, e⟩ := h q hq
      exact ⟨x, fun _ => ⟨e, hx⟩⟩
    · exact ⟨0, fun h => absurd h hq⟩
  obtain ⟨g, hg⟩ := Classical.axiomOfChoice h0
  exact ⟨g, hg⟩
theorem nlN_lt {n num p : Nat} (hn : n < 5) : nlN n num p < 16 := (nlQ_lt n (by omega)).1
