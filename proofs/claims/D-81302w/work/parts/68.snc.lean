/-! SNC: the component's marks are of counts that were -/
set_option maxRecDepth 100000
def SNc (σ : MS) (T : Nat) : Prop := σ.1 9 = nI T ∧ ∀ pl, ∃ x, x ≤ T ∧ σ.2.1 4 pl = nI x
theorem SNc.un {σ : MS} {T : Nat} (h : SNc σ T) (hT : T < 2 ^ 30) (pl : Nat) : ¬ σ.2.1 4 pl = nI (T + 1) := by
  obtain ⟨x, hx, e⟩ := h.2 pl
  rw [e]
  exact nI_ne (by omega) (by omega) (by omega)
theorem SNc.nx {σ σ' : MS} {T : Nat} (h : SNc σ T) (hF : FRc (σ.i 9 (nI (T + 1))) σ' (nI (T + 1))) : SNc σ' (T + 1) := by
  refine ⟨by rw [hF.1]; rfl, fun pl => ?_⟩
  rcases hF.2.2 pl with e | e
  · obtain ⟨x, hx, e2⟩ := h.2 pl
    exact ⟨x, by omega, e.trans e2⟩
  · exact ⟨T + 1, Nat.le_refl _, e⟩
theorem TBc.none {σ : MS} {n r T : Nat} {net : Nat → Nat} (h : SNc σ T) (hT : T < 2 ^ 30) : TBc (σ.i 9 (nI (T + 1))) n net r (nI (T + 1)) := fun _ _ _ _ hq => absurd hq (h.un hT _)
/-- behind a public method of the component that lays: what is seen stays, counts go on -/
def PTc (σ σ' : MS) (T : Nat) : Prop := (∀ k, k ≠ 9 → σ'.1 k = σ.1 k) ∧ (∀ k, k ≠ 4 → k ≠ 7 → k ≠ 8 → σ'.2.1 k = σ.2.1 k) ∧ ∃ T', T' ≤ T + 64 ∧ SNc σ' T'
theorem PTc.rf {σ : MS} {T : Nat} (h : SNc σ T) : PTc σ σ T := ⟨fun _ _ => rfl, fun _ _ _ _ => rfl, T, by omega, h⟩
theorem PTc.lay {σ σ' : MS} {T : Nat} (h : SNc σ T) (hF : FRc (σ.i 9 (nI (T + 1))) σ' (nI (T + 1))) : PTc σ σ' T :=
  ⟨fun k hk => (congrFun hF.1 k).trans (va_up_ne _ _ hk), hF.2.1, T + 1, by omega, h.nx hF⟩
theorem mC_pos {x : Nat} (h : ¬ x = 0) : mC x = nI x - 1 := by
  rw [mC, if_neg h]
  exact (by rw [show nI x - 1 = nI (x - 1) from pk_sub (b := 1) (by omega)])
