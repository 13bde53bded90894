/-! BESTF: the first step of a shortest way, by rows -/
set_option maxRecDepth 100000
theorem bstB_out {n : Nat} {net : Nat → Nat} {r sx tx k : Nat} (h : ¬ k / 4 < n ∨ ¬ k % 4 < n) : bstB n net r sx tx k = false := by
  have e : okP net n r sx tx k = false := by
    unfold okP
    rcases h with h | h
    · rw [decide_eq_false h]; rfl
    · rw [decide_eq_false h, Bool.and_false]; rfl
  rw [bstB, e]; rfl
theorem bstB_row {n : Nat} {net : Nat → Nat} {r sx tx p : Nat} (hn : n < 5) (hp : p < 4) : bstF (bstB n net r sx tx) (16 - (4 * p + n)) (4 * p + n) = bstF (bstB n net r sx tx) (16 - 4 * (p + 1)) (4 * (p + 1)) := by
  have h := bst_skip (n := n) (g := bstB n net r sx tx) (p := p) (f := 16 - 4 * (p + 1)) (fun k hk => bstB_out (Or.inr hk)) (4 - n) (by omega)
  rw [show 16 - 4 * (p + 1) + (4 - n) = 16 - (4 * p + n) by omega, show 4 * p + n + (4 - n) = 4 * (p + 1) by omega] at h
  exact h
theorem bstB_end {n : Nat} {net : Nat → Nat} {r sx tx f : Nat} : bstF (bstB n net r sx tx) f (4 * n) = none := bst_rest f (4 * n) (fun j hj => bstB_out (Or.inl (by omega)))
theorem bstB_may {n : Nat} {net : Nat → Nat} {r sx tx p q : Nat} (hn : n < 5) (hp : p < n) (hq : q < n) (h : mayB net r sx tx p q = false) : bstB n net r sx tx (4 * p + q) = false := by
  rw [bstB, okP_pq hp hq hn h]; rfl
theorem bstB_few {n : Nat} {net : Nat → Nat} {r sx tx p q : Nat} (hq : q < 4) (h : ¬ (val net n r (aft sx p q) (tkA r tx p q)).2.2.1 + 1 = (val net n r sx tx).2.2.1) : bstB n net r sx tx (4 * p + q) = false := by
  rw [bstB, show (4 * p + q) / 4 = p by omega, show (4 * p + q) % 4 = q by omega, decide_eq_false h, Bool.and_false]
theorem bstB_yes {n : Nat} {net : Nat → Nat} {r sx tx p q : Nat} (hn : n < 5) (hp : p < n) (hq : q < n) (h : mayB net r sx tx p q = true) (h2 : ¬ (val net n r (aft sx p q) (tkA r tx p q)).2.1 = 0) (h3 : (val net n r (aft sx p q) (tkA r tx p q)).2.2.1 + 1 = (val net n r sx tx).2.2.1) : bstB n net r sx tx (4 * p + q) = true := by
  rw [bstB, okP_pq hp hq hn h, show (4 * p + q) / 4 = p by omega, show (4 * p + q) % 4 = q by omega, decide_eq_true h2, decide_eq_true h3]; rfl
theorem few_0 {B : Nat} {x : V4} (h : vOk B 15 x) (h2 : 1000 ≤ x.2.2.1) : x.2.1 = 0 := by
  by_cases e : x.2.1 = 0
  · exact e
  · have := (h.2.2.2 e).1; omega
theorem few_1 {B : Nat} {x : V4} (h : vOk B 15 x) (h2 : x.2.2.1 < 1000) : ¬ x.2.1 = 0 := fun e => by
  have := (h.2.2.1 e).1; omega
theorem PTc.lay2 {σ σ1 σ2 : MS} {T : Nat} (h : SNc σ T) (hF : FRc (σ.i 9 (nI (T + 1))) σ1 (nI (T + 1))) (hG : FRc σ1 σ2 (nI (T + 1))) : PTc σ σ2 T := PTc.lay h (hF.tr hG)
theorem KB.cg {D : va_G} {dA : Nat → ClassId} {a : Nat → Nat} {σ σ' : MS} {H0 H : Heap} {locs : List Loc} (h : KB D dA a σ H0 H locs) (e : σ' = σ) : KB D dA a σ' H0 H locs := e ▸ h
