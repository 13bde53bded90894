/-! SRCH: a search that goes on to the end finds the same -/
set_option maxRecDepth 100000
def fnd (g : Nat → Bool) (kv : Int32) (j : Nat) : Int32 := match bstF (kthB g kv) j 0 with
  | some x => nI (10 * (x / 4) + x % 4)
  | none => -9
theorem bst_sn {g : Nat → Bool} : ∀ f k, bstF g (f + 1) k = (match bstF g f k with | some x => some x | none => if g (k + f) = true then some (k + f) else none)
  | 0, k => by
    show (if g k = true then some k else bstF g 0 (k + 1)) = _
    rfl
  | f + 1, k => by
    show (if g k = true then some k else bstF g (f + 1) (k + 1)) = (match (if g k = true then some k else bstF g f (k + 1)) with | some x => some x | none => if g (k + (f + 1)) = true then some (k + (f + 1)) else none)
    by_cases h : g k = true
    · rw [if_pos h, if_pos h]
    · rw [if_neg h, if_neg h, bst_sn f (k + 1), show k + 1 + f = k + (f + 1) by omega]
theorem bst_in {g : Nat → Bool} : ∀ f k x, bstF g f k = some x → x < k + f ∧ g x = true
  | 0, k, x, h => by cases h
  | f + 1, k, x, h => by
    by_cases e : g k = true
    · rw [show bstF g (f + 1) k = some k from if_pos e] at h
      cases h
      exact ⟨by omega, e⟩
    · rw [show bstF g (f + 1) k = bstF g f (k + 1) from if_neg e] at h
      have := bst_in f (k + 1) x h
      exact ⟨by omega, this.2⟩
theorem cN_mono (g : Nat → Bool) {i j : Nat} (h : i ≤ j) : cN g i ≤ cN g j := by
  induction h with
  | refl => exact Nat.le_refl _
  | step _ ih => exact Nat.le_trans ih (Nat.le_add_right _ _)
theorem fnd_f {g : Nat → Bool} {kv : Int32} {j : Nat} (h : kthB g kv j = false) : fnd g kv (j + 1) = fnd g kv j := by
  unfold fnd
  rw [bst_sn]
  cases e : bstF (kthB g kv) j 0 with
  | some x => rfl
  | none => rw [Nat.zero_add, h]; rfl
theorem fnd_t {g : Nat → Bool} {kv : Int32} {j : Nat} (hj : j < 17) (h : kthB g kv j = true) : fnd g kv (j + 1) = nI (10 * (j / 4) + j % 4) := by
  unfold fnd
  rw [bst_sn]
  cases e : bstF (kthB g kv) j 0 with
  | some x =>
    obtain ⟨h1, h2⟩ := bst_in _ _ _ e
    simp only [kthB, Bool.and_eq_true, decide_eq_true_eq] at h h2
    have h3 := cN_mono g (show x + 1 ≤ j by omega)
    rw [cN_t h2.1] at h3
    have h4 := cN_le g j
    have h5 := nI_inj (by omega) (by omega) (h2.2.trans h.2.symm)
    omega
  | none => rw [Nat.zero_add, if_pos h]
theorem fnd_skip {g : Nat → Bool} {kv : Int32} {j : Nat} : ∀ d, (∀ k, j ≤ k → k < j + d → g k = false) → fnd g kv (j + d) = fnd g kv j
  | 0, _ => rfl
  | d + 1, h => by
    show fnd g kv (j + d + 1) = _
    rw [fnd_f (kth_f (h (j + d) (by omega) (by omega))), fnd_skip d (fun k h1 h2 => h k h1 (by omega))]
theorem fnd_row {n : Nat} {g : Nat → Nat → Bool} {kv : Int32} {p : Nat} (hn : n < 5) : fnd (inN n g) kv (4 * (p + 1)) = fnd (inN n g) kv (4 * p + n) := by
  have h := fnd_skip (g := inN n g) (kv := kv) (j := 4 * p + n) (4 - n) (fun k h1 h2 => inN_out (Or.inr (by omega)))
  rw [show 4 * p + n + (4 - n) = 4 * (p + 1) by omega] at h
  exact h
theorem fnd_all {n : Nat} {g : Nat → Nat → Bool} {kv : Int32} (hn : n < 5) : fnd (inN n g) kv 16 = fnd (inN n g) kv (4 * n) := by
  have h := fnd_skip (g := inN n g) (kv := kv) (j := 4 * n) (16 - 4 * n) (fun k h1 h2 => inN_out (Or.inl (by omega)))
  rw [show 4 * n + (16 - 4 * n) = 16 by omega] at h
  exact h
theorem sp_fnd {g : Nat → Bool} {kv : Int32} : spSearch g kv = if kv = -1 then nI (cN g 16) else fnd g kv 16 := rfl
/-- one number more or less, seen by the component -/
theorem ntX_told {net : Nat → Nat} {p q : Nat} (hpq : ¬ p = q) : (net p ||| 2 ^ p) ^^^ 2 ^ q = ntX net p q p ||| 2 ^ p := by
  rw [ntX, if_pos rfl]
  apply Nat.eq_of_testBit_eq
  intro i
  simp only [Nat.testBit_xor, Nat.testBit_or, Nat.testBit_two_pow]
  by_cases h1 : p = i
  · have h2 : ¬ q = i := fun h => hpq (h1.trans h.symm)
    simp [h1, h2]
  · by_cases h2 : q = i
    · simp [h1, h2]
    · simp [h1, h2]
theorem told_tb {net : Nat → Nat} {p q : Nat} (hpq : ¬ p = q) : (net p ||| 2 ^ p).testBit q = (net p).testBit q := by
  rw [Nat.testBit_or, Nat.testBit_two_pow]
  simp [hpq]
theorem KG.flip {σ : MS} {n : Nat} {net : Nat → Nat} {p q : Nat} (h : KG σ n net) (hp : p < n) (hq : q < n) (hpq : ¬ p = q) : KG (σ.b 1 (upd (σ.2.1 1) p (nI (ntX net p q p ||| 2 ^ p)))) n (ntX net p q) := by
  have hn := h.1
  refine ⟨h.1, h.2.1, fun k hk => ?_, ntX_lt h.2.2.2 (by omega)⟩
  show va_up σ.2.1 1 (upd (σ.2.1 1) p (nI (ntX net p q p ||| 2 ^ p))) 1 k = _
  rw [va_up_self]
  by_cases e : k = p
  · subst e; exact pk_us
  · rw [pk_un e, h.2.2.1 k hk, ntX, if_neg e]
theorem upd_back {f : Nat → Int32} {p : Nat} {x y : Int32} (h : f p = y) : upd (upd f p x) p y = f := by
  funext j
  by_cases e : j = p
  · subst e; rw [pk_us, h]
  · rw [pk_un e, pk_un e]
theorem b_back {σ : MS} {f g : Nat → Int32} (h : g = σ.2.1 1) : (σ.b 1 f).b 1 g = σ := by
  subst h
  unfold MS.b
  refine Prod.ext rfl (Prod.ext (funext fun j => ?_) rfl)
  by_cases e : j = 1
  · simp [va_up, e]
  · simp [va_up, e]
