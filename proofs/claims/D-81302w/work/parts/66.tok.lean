/-! TOK: of tokens only those of the persons that are there count -/
set_option maxRecDepth 100000
def tkE (n t t' : Nat) : Prop := ∀ p, p < n → t.testBit p = t'.testBit p
theorem mayB_tok {n : Nat} {net : Nat → Nat} {r s t t' p q : Nat} (h : tkE n t t') (hp : p < n) : mayB net r s t p q = mayB net r s t' p q := by
  unfold mayB
  rw [h p hp]
theorem tkA_tok {n r t t' a b : Nat} (h : tkE n t t') : tkE n (tkA r t a b) (tkA r t' a b) := by
  intro p hp
  unfold tkA
  split
  · rw [Nat.testBit_or, Nat.testBit_or, Nat.testBit_and, Nat.testBit_and, h p hp]
  · split
    · rw [Nat.testBit_and, Nat.testBit_and, h p hp]
    · exact h p hp
theorem okP_tok {n : Nat} {net : Nat → Nat} {r s t t' k : Nat} (h : tkE n t t') : okP net n r s t k = okP net n r s t' k := by
  unfold okP
  by_cases h1 : k / 4 < n
  · rw [mayB_tok h h1]
  · rw [decide_eq_false h1]; rfl
theorem vAcc_tok {n : Nat} {net : Nat → Nat} {r s t t' : Nat} {f : Nat → Nat → V4} (h : tkE n t t') (hf : ∀ s t t', tkE n t t' → f s t = f s t') : ∀ k, vAcc f net n r s t k = vAcc f net n r s t' k
  | 0 => rfl
  | k + 1 => by
    rw [vAcc, vAcc, okP_tok h, vAcc_tok h hf k, hf _ _ _ (tkA_tok h)]
theorem vF_tok {n : Nat} {net : Nat → Nat} {r : Nat} : ∀ f s t t', tkE n t t' → vF net n r f s t = vF net n r f s t'
  | 0, _, _, _, _ => rfl
  | f + 1, s, t, t', h => by
    show vEnd n s _ = vEnd n s _
    rw [vAcc_tok h (fun s t t' h => vF_tok f s t t' h)]
theorem val_tok {n : Nat} {net : Nat → Nat} {r s t t' : Nat} (h : tkE n t t') : val net n r s t = val net n r s t' := vF_tok 17 s t t' h
theorem tk8_tok {n r : Nat} {cp cq : Nat → Nat} (hn : n < 5) : ∀ c, (∀ j, j < c → cp j < 4 ∧ cq j < 4) → tkE n (tof r (tk8 cp cq c)) (tkN n r cp cq c)
  | 0, _ => by
    intro p hp
    have e : tof r (tk8 cp cq 0) = 15 := by
      show tof r 255 = 15
      unfold tof
      split
      · decide
      · split <;> decide
    rw [e]
    have h : ∀ n, n < 5 → ∀ p, p < n → (15 : Nat).testBit p = (al n).testBit p := by decide +kernel
    exact h n hn p hp
  | c + 1, h => by
    show tkE n (tof r (tb8 (tk8 cp cq c) (cp c) (cq c))) (tkA r (tkN n r cp cq c) (cp c) (cq c))
    rw [tof_tb (tk8_lt c (fun j hj => h j (by omega))) (h c (by omega)).1 (h c (by omega)).2]
    exact tkA_tok (tk8_tok hn c (fun j hj => h j (by omega)))
theorem rchK_tok {n : Nat} {net : Nat → Nat} {r rt s0 t0 t0' : Nat} (h0 : tkE n t0 t0') : ∀ k s t, rchK n net r rt s0 t0 k s t → ∃ t', rchK n net r rt s0 t0' k s t' ∧ tkE n t t'
  | 0, s, t, h => ⟨t0', ⟨h.1, rfl⟩, by rw [h.2]; exact h0⟩
  | k + 1, s, t, h => by
    obtain ⟨s', t', p, q, hr, hp, hq, hm, rfl, rfl⟩ := h
    obtain ⟨t2, h2, e2⟩ := rchK_tok h0 k s' t' hr
    exact ⟨tkA rt t2 p q, ⟨s', t2, p, q, h2, hp, hq, by rw [← mayB_tok e2 hp]; exact hm, rfl, rfl⟩, tkA_tok e2⟩
theorem wiP_tok {n : Nat} {net : Nat → Nat} {r o rt s0 t0 t0' : Nat} (h0 : tkE n t0 t0') (h : wiP n net r o rt s0 t0) : wiP n net r o rt s0 t0' := by
  intro s t hr p q hp hq hm
  obtain ⟨k, hk⟩ := hr
  have h1 : tkE n t0' t0 := fun p hp => (h0 p hp).symm
  obtain ⟨t2, h2, e2⟩ := rchK_tok h1 k s t hk
  rw [mayB_tok e2 hp]
  exact h s t2 ⟨k, h2⟩ p q hp hq (by rw [← mayB_tok e2 hp]; exact hm)
