/-! NETT: a net is read off a sheet, as plain functions -/
set_option maxRecDepth 100000
/-- why it is not even begun: the answer, the fault -/
def spNetQ (la : Nat → Int32) (lo : Nat → Nat) (k w i v : Int32) : Option (Int32 × Int32) :=
  if inR k 0 3 = false then some (-1, 0) else if inR w 0 2 = false then some (-2, 0)
  else if ¬ la k.toNatClampNeg = -9 ∧ ¬ la k.toNatClampNeg = w then some (-12, 2) else if la k.toNatClampNeg = -9 then some (-11, 1)
  else if v < 0 then some (-14, 4) else if i < 0 then some (-13, 3) else if lo k.toNatClampNeg < i.toNatClampNeg then some (-13, 3)
  else if lo k.toNatClampNeg - i.toNatClampNeg < v.toNatClampNeg then some (-13, 3) else none
def rdN (mp : Nat) (hh net : Nat → Nat) : Nat → Nat := fun q => if q < mp then hh q else net q
/-- all but persons, net, calls and what was read is as it was -/
def NTm (σ σ' : MS) : Prop := (∀ k, k ≠ 0 → k ≠ 5 → k ≠ 8 → k ≠ 9 → σ'.1 k = σ.1 k) ∧ ∀ k, k ≠ 6 → k ≠ 7 → σ'.2.1 k = σ.2.1 k
theorem RDm.nt {σ σ' : MS} {x : Int32} (h : RDm (σ.i 0 x) σ') : NTm σ σ' := ⟨fun k a b c d => (h.1 k c).trans (va_up_ne _ _ a), fun k _ b => h.2 k b⟩
theorem NTm.i5 {σ σ' : MS} {x : Int32} (h : NTm σ σ') : NTm σ (σ'.i 5 x) := ⟨fun k a b c d => (va_up_ne _ _ b).trans (h.1 k a b c d), h.2⟩
theorem NTm.i9 {σ σ' : MS} {x : Int32} (h : NTm σ σ') : NTm σ (σ'.i 9 x) := ⟨fun k a b c d => (va_up_ne _ _ d).trans (h.1 k a b c d), h.2⟩
theorem NTm.b6 {σ σ' : MS} {f : Nat → Int32} (h : NTm σ σ') : NTm σ (σ'.b 6 f) := ⟨h.1, fun k a b => (va_up_ne _ _ a).trans (h.2 k a b)⟩
theorem nI_n9 {c : Nat} (h : c ≤ 60) : ¬ nI c = -9 := by
  intro e
  have h1 := congrArg (fun z : Int32 => z < 0) e
  exact nI_pos (n := c) (by omega) (h1.mpr (by decide))
/-- what is done when it is begun -/
def NRm (σ σ' : MS) (net : Nat → Nat) (cp cq : Nat → Nat) (xs : Nat → Int32) (Ln : Nat) (v9 : Int32) : Prop :=
  (∃ c, spRead xs Ln = some c ∧ c ≤ 60 ∧ v9 = -100 - nI c ∧ RDm (σ.i 0 0) σ') ∨
  (spRead xs Ln = none ∧ ∃ mp hh, rd1 xs Ln = (none, mp, hh) ∧ v9 = nI mp ∧ MG σ' mp (rdN mp hh net) 0 cp cq ∧ NTm σ σ' ∧ σ'.1 0 = 0)
theorem MG.rd {σ σ' : MS} {mp : Nat} {hh net : Nat → Nat} {cp cq : Nat → Nat} (hmp : mp < 5) (h5 : σ'.1 5 = nI mp) (h9 : σ'.1 9 = nI 0) (hnet : ∀ q, q < 4 → σ.2.1 6 q = nI (net q) ∧ net q < 16) (h6 : ∀ j, j < mp → σ'.2.1 6 j = nI (hh j)) (h16 : ∀ j, j < mp → hh j < 16) (ho : ∀ j, ¬ j < mp → σ'.2.1 6 j = σ.2.1 6 j) : MG σ' mp (rdN mp hh net) 0 cp cq := by
  refine ⟨hmp, h5, fun q hq => ?_, by decide, h9, fun j hj => absurd hj (Nat.not_lt_zero j)⟩
  unfold rdN
  split
  · rename_i h; exact ⟨h6 q h, h16 q h⟩
  · rename_i h; exact ⟨(ho q h).trans (hnet q hq).1, (hnet q hq).2⟩
