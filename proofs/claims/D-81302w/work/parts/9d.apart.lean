/-! APART: the component's cells lie apart -/
set_option maxRecDepth 100000
/-- the component's cells: all below sz, apart from the list's two -/
def CAp (a : Nat → Nat) (ed nc : Nat) (rg : Nat → Nat) (zs sz : Nat) : Prop := a 3 < sz ∧ ed < sz ∧ a 3 ≠ ed ∧ (∀ j, j < nc → rg j < sz ∧ rg j ≠ a 3 ∧ rg j ≠ ed) ∧ (∀ q, kAd a q → q < sz ∧ q ≠ a 3 ∧ q ≠ ed) ∧ zs < sz ∧ zs ≠ a 3
abbrev lA (a : Nat → Nat) (ed sz : Nat) : Nat → Prop := fun q => q = a 3 ∨ (q = ed ∨ sz ≤ q)
theorem kW_fr {D : va_G} {dA : Nat → ClassId} {a : Nat → Nat} {σ : MS} {A : Nat → Prop} {H H1 : Heap} (hI : kInj a) (h : va_P D vwCl (kW dA a σ) H) (o1 : ∀ q, q < H.size → ¬ A q → H1[q]? = H[q]?) (hA : ∀ q, kAd a q → ¬ A q) : va_P D vwCl (kW dA a σ) H1 := h.fr o1 (fun k q hq => hA _ ((kW_D (dA := dA) (σ := σ) hI).2 k q hq))
theorem DY.fr {D : va_G} {dA : Nat → ClassId} {a : Nat → Nat} {n nc : Nat} {cp cq : Nat → Nat} {ed cap : Nat} {mc : Int32} {f : Nat → Option Nat} {rg : Nat → Nat} {A : Nat → Prop} {H H1 : Heap} (h : DY D dA a n nc cp cq ed cap mc f rg H) (o1 : ∀ q, q < H.size → ¬ A q → H1[q]? = H[q]?) (h3 : ¬ A (a 3)) (he : 0 < cap → ¬ A ed) (hr : ∀ j, j < nc → ¬ A (rg j)) : DY D dA a n nc cp cq ed cap mc f rg H1 := by
  refine ⟨va_P.fr h.1 o1 (fun k q hq => ?_), h.2.1, h.2.2.1, fun j hj => ⟨(h.2.2.2 j hj).1, va_P.fr (h.2.2.2 j hj).2 o1 (one_A (hr j hj))⟩⟩
  rcases LW_at hq with e | e
  · rw [e]; exact h3
  · rw [e.1]; exact he e.2
theorem DY.any {D : va_G} {dA : Nat → ClassId} {a : Nat → Nat} {n nc : Nat} {cp cq : Nat → Nat} {ed cap : Nat} {mc : Int32} {f : Nat → Option Nat} {rg : Nat → Nat} {H : Heap} (h : DY D dA a n nc cp cq ed cap mc f rg H) (i : Nat) (hi : i < nc) (y : Nat) (hy : f i = some y) : anyR D y H := by
  have e := (h.2.2.2 i hi).1
  rw [hy] at e
  cases e
  exact ⟨_, _, knd_lt n cp cq i, (h.2.2.2 i hi).2⟩
theorem DY.one {D : va_G} {dA : Nat → ClassId} {a : Nat → Nat} {n nc : Nat} {cp cq : Nat → Nat} {ed cap : Nat} {mc : Int32} {f : Nat → Option Nat} {rg : Nat → Nat} {H : Heap} (h : DY D dA a n nc cp cq ed cap mc f rg H) (i : Nat) (hi : i < nc) (y : Nat) (hy : f i = some y) : y = rg i := by
  have e := (h.2.2.2 i hi).1
  rw [hy] at e
  cases e
  rfl
theorem o_cat {H0 H1 H2 : Heap} {A B C : Nat → Prop} (z : H0.size ≤ H1.size) (o1 : ∀ q, q < H0.size → ¬ A q → H1[q]? = H0[q]?) (o2 : ∀ q, q < H1.size → ¬ B q → H2[q]? = H1[q]?) (hA : ∀ q, A q → C q) (hB : ∀ q, B q → C q) : ∀ q, q < H0.size → ¬ C q → H2[q]? = H0[q]? := fun q h1 h2 => (o2 q (Nat.lt_of_lt_of_le h1 z) (fun h => h2 (hB q h))).trans (o1 q h1 (fun h => h2 (hA q h)))
/-- the new ring lies in the list: the component behind a call -/
theorem call_end {D : va_G} {dA : Nat → ClassId} {a : Nat → Nat} {n nc : Nat} {cp cq : Nat → Nat} {ed cap : Nat} {mc : Int32} {f : Nat → Option Nat} {rg : Nat → Nat} {zs sz sz2 p q g : Nat} {H H1 : Heap} (hCA : CAp a ed nc rg zs sz) (hz : sz ≤ sz2) (hg : sz ≤ g ∧ g < sz2) (hDY : DY D dA a n nc cp cq ed cap mc f rg H)
    (hg9 : va_P D vwCl [(g, .inr (3 + knd n (va_up cp nc p) (va_up cq nc q) nc, rgF (a 0) n (va_up cp nc p) (va_up cq nc q) nc))] H) (ho : ∀ x, x < H.size → ¬ (x = a 3 ∨ (x = ed ∨ sz2 ≤ x)) → H1[x]? = H[x]?)
    (h9 : ∃ (ed' cap' : Nat) (f' : Nat → Option Nat), va_P D vwCl (LW dA (a 3) ed' cap' (mc + 1) (nc + 1) f') H1 ∧ (cap' = 10 ∨ cap' = 15) ∧ nc + 1 ≤ cap' ∧ (∀ i, i < nc → f' i = f i) ∧ f' nc = some g ∧ (ed' = ed ∨ sz2 ≤ ed') ∧ a 3 ≠ ed') :
    ∃ (ed' cap' : Nat) (f' : Nat → Option Nat), DY D dA a n (nc + 1) (va_up cp nc p) (va_up cq nc q) ed' cap' (mc + 1) f' (va_up rg nc g) H1 ∧ (cap' = 10 ∨ cap' = 15) ∧ (ed' = ed ∨ sz ≤ ed') ∧ a 3 ≠ ed' ∧ g ≠ ed' := by
  obtain ⟨ed', cap', f', h1, h2, h3, h4, h5, h6, h7⟩ := h9
  have hge : g ≠ ed := fun h => by have := hCA.2.1; omega
  have hg3 : g ≠ a 3 := fun h => by have := hCA.1; omega
  refine ⟨ed', cap', f', DY.add h1 h3 (by omega) h4 h5 (fun j hj => ⟨(hDY.2.2.2 j hj).1, (hDY.2.2.2 j hj).2.fr ho (one_A (A := fun x => x = a 3 ∨ (x = ed ∨ sz2 ≤ x)) ?_)⟩) (hg9.fr ho (one_A (A := fun x => x = a 3 ∨ (x = ed ∨ sz2 ≤ x)) ?_)), h2, h6.imp id (fun h => Nat.le_trans hz h), h7, ?_⟩
  · have := hCA.2.2.2.1 j hj
    intro h
    rcases h with h | h | h
    · exact this.2.1 h
    · exact this.2.2 h
    · omega
  · intro h
    rcases h with h | h | h
    · exact hg3 h
    · exact hge h
    · omega
  · intro h
    rcases h6 with h6 | h6
    · exact hge (h.trans h6)
    · omega
/-- what a call leaves: nothing new, or one ring more -/
def CPost (D : va_G) (dA : Nat → ClassId) (a : Nat → Nat) (n nc : Nat) (cp cq : Nat → Nat) (ed cap : Nat) (mc : Int32) (f : Nat → Option Nat) (rg : Nat → Nat) (sz p q : Nat) (x : Int32) (H : Heap) : Prop :=
  if x < 0 then DY D dA a n nc cp cq ed cap mc f rg H else ∃ g, sz ≤ g ∧ ∃ (ed' cap' : Nat) (f' : Nat → Option Nat), DY D dA a n (nc + 1) (va_up cp nc p) (va_up cq nc q) ed' cap' (mc + 1) f' (va_up rg nc g) H ∧ (cap' = 10 ∨ cap' = 15) ∧ (ed' = ed ∨ sz ≤ ed') ∧ a 3 ≠ ed' ∧ g ≠ ed'
