/-! COPY: cells copied from sheet to sheet, as plain functions -/
set_option maxRecDepth 100000
def spCopyQ (la : Nat → Int32) (lo : Nat → Nat) (k i o j v : Int32) : Option (Int32 × Int32) :=
  if inR k 0 3 = false then some (-1, 0) else if inR o 0 3 = false then some (-1, 0)
  else if la k.toNatClampNeg = -9 then some (-11, 1) else if la o.toNatClampNeg = -9 then some (-11, 1) else if ¬ la k.toNatClampNeg = la o.toNatClampNeg then some (-12, 2)
  else if i < 0 then some (-13, 3) else if j < 0 then some (-13, 3) else if v < 0 then some (-13, 3)
  else if lo k.toNatClampNeg < i.toNatClampNeg then some (-13, 3) else if lo o.toNatClampNeg < j.toNatClampNeg then some (-13, 3)
  else if lo k.toNatClampNeg - i.toNatClampNeg < v.toNatClampNeg then some (-13, 3) else if lo o.toNatClampNeg - j.toNatClampNeg < v.toNatClampNeg then some (-13, 3) else none
/-- cells copied -/
def cpF (f : Nat → Int32) (s d n : Nat) : Nat → Int32 := fun x => if d ≤ x ∧ x < d + n then f (s + (x - d)) else f x
def cpA (f : Nat → Int32) (s d : Nat) : Nat → Nat → Int32
  | 0 => f
  | t + 1 => upd (cpA f s d t) (d + t) (f (s + t))
def cpD (f : Nat → Int32) (s d n : Nat) : Nat → Nat → Int32
  | 0 => f
  | t + 1 => upd (cpD f s d n t) (d + (n - 1 - t)) (f (s + (n - 1 - t)))
theorem cpA_F {f : Nat → Int32} {s d : Nat} : ∀ t, cpA f s d t = cpF f s d t
  | 0 => by funext x; unfold cpF; rw [if_neg (by omega)]; rfl
  | t + 1 => by
    funext x
    show upd (cpA f s d t) (d + t) (f (s + t)) x = _
    by_cases e : x = d + t
    · subst e; rw [pk_us]; unfold cpF; rw [if_pos (by omega), show d + t - d = t by omega]
    · rw [pk_un e, cpA_F t]
      unfold cpF
      by_cases h : d ≤ x ∧ x < d + t
      · rw [if_pos h, if_pos (by omega)]
      · rw [if_neg h, if_neg (by omega)]
theorem cpA_r {f : Nat → Int32} {s d t : Nat} (h : d ≤ s ∨ s + t < d) : cpA f s d t (s + t) = f (s + t) := by
  rw [cpA_F]; unfold cpF; rw [if_neg (by omega)]
theorem cpD_x {f : Nat → Int32} {s d n : Nat} : ∀ t, t ≤ n → ∀ x, cpD f s d n t x = if d + (n - t) ≤ x ∧ x < d + n then f (s + (x - d)) else f x
  | 0, _, x => by rw [if_neg (by omega)]; rfl
  | t + 1, h, x => by
    show upd (cpD f s d n t) (d + (n - 1 - t)) (f (s + (n - 1 - t))) x = _
    by_cases e : x = d + (n - 1 - t)
    · subst e; rw [pk_us, if_pos (by omega), show d + (n - 1 - t) - d = n - 1 - t by omega]
    · rw [pk_un e, cpD_x t (by omega) x]
      by_cases h2 : d + (n - t) ≤ x ∧ x < d + n
      · rw [if_pos h2, if_pos (by omega)]
      · rw [if_neg h2, if_neg (by omega)]
theorem cpD_F {f : Nat → Int32} {s d n : Nat} : cpD f s d n n = cpF f s d n := by
  funext x
  rw [cpD_x n (Nat.le_refl n) x, Nat.sub_self]; rfl
theorem cpD_r {f : Nat → Int32} {s d n t : Nat} (ht : t < n) (h : s < d ∨ d + n ≤ s) : cpD f s d n t (s + (n - 1 - t)) = f (s + (n - 1 - t)) := by
  rw [cpD_x t (by omega), if_neg (by omega)]
theorem i602 {k j t : Nat} : 60 * nI k + nI j + nI t = nI (60 * k + j + t) := by rw [i60]; exact nI_add _ _
theorem dn_ix {n t : Nat} (h : t < n) : nI n - 1 - nI t = nI (n - 1 - t) := by
  rw [show nI n - 1 = nI (n - 1) from pk_sub (b := 1) (by omega)]; exact pk_sub (by omega)
