/-! MSPEC: what methods answer and do to trace, fault, sheets, as plain functions; small facts on the reference's state -/
set_option maxRecDepth 100000
theorem MS_ii (σ : MS) (k : Nat) (x y : Int32) : (σ.i k x).i k y = σ.i k y := by
  show (va_up (va_up σ.1 k x) k y, σ.2) = (va_up σ.1 k y, σ.2)
  rw [bx_uu]
def tr31 (t b : Int32) : Int32 := 31 * t + b
def spTell (n nc : Nat) (cp cq : Nat → Nat) (t v : Int32) : Int32 × Int32 :=
  if inP v nc then
    if knd n cp cq v.toNatClampNeg = 1 then (10 * nI (cp v.toNatClampNeg) + nI (cq v.toNatClampNeg) + 100 * nI (nws n cp cq v.toNatClampNeg), tr31 (tr31 t 2) 1)
    else if knd n cp cq v.toNatClampNeg = 2 then (2 * (10 * nI (cp v.toNatClampNeg) + nI (cq v.toNatClampNeg)) + 100 * nI (nws n cp cq v.toNatClampNeg), tr31 (tr31 (tr31 (tr31 t 3) 2) 1) 1)
    else (10 * nI (cp v.toNatClampNeg) + nI (cq v.toNatClampNeg), tr31 t 1)
  else (-1, t)
def spLog (n nc : Nat) (cp cq : Nat → Nat) (t v : Int32) : Int32 × Int32 :=
  if inP v nc then (if knd n cp cq v.toNatClampNeg = 2 then (70, tr31 t 5) else (v, tr31 t 4)) else (-1, t)
def spAs (n nc : Nat) (cp cq : Nat → Nat) (v w : Int32) : Int32 × Int32 :=
  if inP v nc then (if inR w 0 2 then (if nI (knd n cp cq v.toNatClampNeg) < w then (-12, 2) else (1, 0)) else (-2, 0)) else (-1, 0)
def spBack (nc : Nat) : Int32 := if nc = 0 then -3 else nI (nc - 1)
/-- how many have all; how many numbers there are -/
def expN (n sx : Nat) : Nat → Nat
  | 0 => 0
  | i + 1 => expN n sx i + (if hs4 sx i = al n then 1 else 0)
def numN (net : Nat → Nat) : Nat → Nat
  | 0 => 0
  | i + 1 => numN net i + bts (net i) 16
def spMany (n : Nat) (net : Nat → Nat) (nc sx : Nat) (w : Int32) : Int32 :=
  if w = 0 then nI n else if w = 1 then nI nc else if w = 2 then nI (expN n sx n) else if w = 3 then nI (numN net n) else -2
theorem inR_sub {i : Int32} {z : Nat} (hz : z ≤ 60) (h : inR i 0 (nI z - 1) = true) : ∃ j, j < z ∧ i = nI j := by
  simp only [inR, Bool.and_eq_true, Bool.not_eq_true', decide_eq_false_iff_not] at h
  obtain ⟨j, hj, rfl⟩ := nI_of h.1
  refine ⟨j, ?_, rfl⟩
  cases z with
  | zero =>
    exfalso
    apply h.2
    rw [Int32.lt_iff_toInt_lt, nI_toInt hj]
    have : (nI 0 - 1).toInt = -1 := by decide
    rw [this]
    omega
  | succ z =>
    rw [nI_pred] at h
    rcases Nat.lt_or_ge j (z + 1) with q | q
    · exact q
    · exact absurd (nI_lt (by omega) hj) h.2
theorem inR_subN {j z : Nat} (hz : z ≤ 60) (h : j < z) : inR (nI j) 0 (nI z - 1) = true := by
  cases z with
  | zero => omega
  | succ z =>
    rw [nI_pred]
    exact inR_nI (by omega) (by omega)
/-- a sheet's cells are cleared -/
def clrA (f : Nat → Int32) (b : Nat) : Nat → Nat → Int32
  | 0 => f
  | i + 1 => upd (clrA f b i) (b + i) 0
/-- the reference's sheets, written -/
def mSheet (σ : MS) (k w z : Int32) : Int32 × MS :=
  if inR k 0 3 = false then (-1, σ.i 0 0) else if inR w 0 2 = false then (-2, σ.i 0 0) else if ¬ z ≤ 60 then (-2, σ.i 0 0) else if ¬ 0 ≤ z then (-14, σ.i 0 4)
  else (1, (((σ.i 0 0).b 2 (upd (σ.2.1 2) k.toNatClampNeg w)).b 3 (upd (σ.2.1 3) k.toNatClampNeg z)).b 4 (clrA (σ.2.1 4) (60 * k.toNatClampNeg) 60))
def mLose (σ : MS) (k : Int32) : Int32 × MS :=
  if inR k 0 3 = false then (-1, σ) else (if σ.2.1 2 k.toNatClampNeg = -9 then 0 else 1, σ.b 2 (upd (σ.2.1 2) k.toNatClampNeg (-9)))
/-- a value as a sheet's lane holds it -/
def laneV (la v : Int32) : Int32 := if la = 0 then v.toInt8.toInt32 else if la = 1 then v.toInt16.toInt32 else v
def mPut (σ : MS) (k i v : Int32) : Int32 × MS :=
  if inR k 0 3 = false then (-1, σ.i 0 0) else if σ.2.1 2 k.toNatClampNeg = -9 then (-11, σ.i 0 1) else if inR i 0 (σ.2.1 3 k.toNatClampNeg - 1) = false then (-13, σ.i 0 3)
  else (1, (σ.i 0 0).b 4 (upd (σ.2.1 4) (60 * k.toNatClampNeg + i.toNatClampNeg) (laneV (σ.2.1 2 k.toNatClampNeg) v)))
def mCell (σ : MS) (k i w : Int32) : Int64 × Int32 :=
  if inR k 0 3 = false then (-9223372036854775808, 0) else if inR w 0 2 = false then (-9223372036854775808, 0) else if ¬ σ.2.1 2 k.toNatClampNeg = -9 ∧ ¬ σ.2.1 2 k.toNatClampNeg = w then (-9223372036854775808, 2)
  else if σ.2.1 2 k.toNatClampNeg = -9 then (-9223372036854775808, 1) else if inR i 0 (σ.2.1 3 k.toNatClampNeg - 1) = false then (-9223372036854775808, 3)
  else ((σ.2.1 4 (60 * k.toNatClampNeg + i.toNatClampNeg)).toInt64, 0)
theorem i60 {k j : Nat} : 60 * nI k + nI j = nI (60 * k + j) := by
  rw [show (60 : Int32) * nI k = nI (60 * k) from pk_mul 60 k, nI_add]
/-- a call is laid -/
def mCallS (σ : MS) (nc : Nat) (v w : Int32) : MS := ((σ.b 10 (upd (σ.2.1 10) nc v)).b 11 (upd (σ.2.1 11) nc w)).i 9 (nI (nc + 1))
theorem MS_bb (σ : MS) (k : Nat) (f g : Nat → Int32) : (σ.b k f).b k g = σ.b k g := by
  show (σ.1, va_up (va_up σ.2.1 k f) k g, σ.2.2) = (σ.1, va_up σ.2.1 k g, σ.2.2)
  rw [bx_uu]
theorem MS_ll (σ : MS) (k : Nat) (f g : Nat → Int64) : (σ.l k f).l k g = σ.l k g := by
  show (σ.1, σ.2.1, va_up (va_up σ.2.2.1 k f) k g, σ.2.2.2) = (σ.1, σ.2.1, va_up σ.2.2.1 k g, σ.2.2.2)
  rw [bx_uu]
theorem MS_i1 (σ : MS) (k : Nat) (x : Int32) : (σ.i k x).1 k = x := va_up_self _ _ _
theorem MS_i2 (σ : MS) (k : Nat) (x : Int32) : (σ.i k x).2 = σ.2 := rfl
theorem MS_b1 (σ : MS) (k : Nat) (f : Nat → Int32) : (σ.b k f).1 = σ.1 := rfl
theorem MS_b2 (σ : MS) (k : Nat) (f : Nat → Int32) : (σ.b k f).2.1 k = f := va_up_self _ _ _
theorem va_up_id {α : Type} (f : Nat → α) (k : Nat) : va_up f k (f k) = f := by
  funext j
  unfold va_up
  split
  · rename_i h; rw [h]
  · rfl
theorem MS_idb (σ : MS) (k : Nat) : σ.b k (σ.2.1 k) = σ := by
  show (σ.1, va_up σ.2.1 k (σ.2.1 k), σ.2.2) = σ
  rw [va_up_id]
theorem MS_idi (σ : MS) (k : Nat) : σ.i k (σ.1 k) = σ := by
  show (va_up σ.1 k (σ.1 k), σ.2) = σ
  rw [va_up_id]
theorem MS_idl (σ : MS) (k : Nat) : σ.l k (σ.2.2.1 k) = σ := by
  show (σ.1, σ.2.1, va_up σ.2.2.1 k (σ.2.2.1 k), σ.2.2.2) = σ
  rw [va_up_id]
