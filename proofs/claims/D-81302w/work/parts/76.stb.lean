/-! STB: the rings stay while only the component's own cells are written -/
set_option maxRecDepth 100000
theorem DY.stb {D : va_G} {dA : Nat → ClassId} {a : Nat → Nat} {n nc : Nat} {cp cq : Nat → Nat} {ed cap : Nat} {mc : Int32} {f : Nat → Option Nat} {rg : Nat → Nat} (h3 : ¬ kAd a (a 3)) (he : 0 < cap → ¬ kAd a ed) (hr : ∀ j, j < nc → ¬ kAd a (rg j)) : kStb a (DY D dA a n nc cp cq ed cap mc f rg) := by
  intro H0 H locs h hS
  refine ⟨va_P.keep h.1 hS (fun k q hq => ?_), h.2.1, h.2.2.1, fun j hj => ⟨(h.2.2.2 j hj).1, va_P.keep (h.2.2.2 j hj).2 hS (fun k q hq => ?_)⟩⟩
  · rcases LW_at hq with e | e
    · rw [e]; exact h3
    · rw [e.1]; exact he e.2
  · match k, hq with
    | 0, hq => cases hq; exact hr j hj
    | k + 1, hq => simp [rgW] at hq
