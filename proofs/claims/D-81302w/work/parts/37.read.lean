/-! READ: a text gone through code by code, as plain functions -/
set_option maxRecDepth 100000
/-- numbers told between two places of a text -/
def rdU (xs : Nat → Int32) (c : Nat) : Nat → Nat
  | 0 => 0
  | j + 1 => if c ≤ j then rdU xs c j ||| 2 ^ (xs j - 48).toNatClampNeg else rdU xs c j
theorem rdU_0 {xs : Nat → Int32} {c : Nat} : ∀ j, j ≤ c → rdU xs c j = 0
  | 0, _ => rfl
  | j + 1, h => by
    rw [rdU, if_neg (by omega)]
    exact rdU_0 j (by omega)
theorem rdU_s {xs : Nat → Int32} {c j q : Nat} (h : c ≤ j) (hq : q < 2 ^ 31) (e : xs j - 48 = nI q) : rdU xs c (j + 1) = rdU xs c j ||| 2 ^ q := by
  rw [rdU, if_pos h, e, nI_clamp hq]
/-- a code that can't be there -/
def rdB (v : Int32) (mp u : Nat) : Bool := !inR (v - 48) 0 3 || (decide ((v - 48).toNatClampNeg = mp) || u.testBit (v - 48).toNatClampNeg)
theorem rdB_1 {v : Int32} {mp u : Nat} (h : inR (v - 48) 0 3 = false) : rdB v mp u = true := by rw [rdB, h]; rfl
theorem rdB_2 {v : Int32} {mp u q : Nat} (hq : q < 2 ^ 31) (e : v - 48 = nI q) (h : q = mp) : rdB v mp u = true := by
  rw [rdB, e, nI_clamp hq, decide_eq_true h, Bool.true_or, Bool.or_true]
theorem rdB_3 {v : Int32} {mp u q : Nat} (hq : q < 2 ^ 31) (e : v - 48 = nI q) (h : u.testBit q = true) : rdB v mp u = true := by
  rw [rdB, e, nI_clamp hq, h, Bool.or_true, Bool.or_true]
theorem rdB_4 {v : Int32} {mp u q : Nat} (hq : q < 4) (e : v - 48 = nI q) (h : ¬ q = mp) (h2 : u.testBit q = false) : rdB v mp u = false := by
  rw [rdB, e, nI_clamp (by omega), h2, decide_eq_false h, show inR (nI q) 0 3 = true from inR_nI (k := 3) (by omega) (by decide)]; rfl
/-- the numbers of one person: whether they are right, and where one stands then -/
def rdP (xs : Nat → Int32) (mp c : Nat) : Nat → Nat → Bool × Nat
  | 0, i => (true, i)
  | f + 1, i => if xs i = 59 then (true, i) else if rdB (xs i) mp (rdU xs c i) = true then (false, i) else rdP xs mp c f (i + 1)
theorem rdP_e {xs : Nat → Int32} {mp c f i : Nat} (h : f = 0) : rdP xs mp c f i = (true, i) := by subst h; rfl
theorem rdP_59 {xs : Nat → Int32} {mp c f i : Nat} (h : xs i = 59) : rdP xs mp c f i = (true, i) := by
  cases f with
  | zero => rfl
  | succ f => rw [rdP, if_pos h]
theorem rdP_b {xs : Nat → Int32} {mp c f i : Nat} (hf : 0 < f) (h : ¬ xs i = 59) (hb : rdB (xs i) mp (rdU xs c i) = true) : rdP xs mp c f i = (false, i) := by
  cases f with
  | zero => omega
  | succ f => rw [rdP, if_neg h, if_pos hb]
theorem rdP_s {xs : Nat → Int32} {mp c L i : Nat} (hf : i < L) (h : ¬ xs i = 59) (hb : rdB (xs i) mp (rdU xs c i) = false) : rdP xs mp c (L - i) i = rdP xs mp c (L - (i + 1)) (i + 1) := by
  rw [show L - i = (L - (i + 1)) + 1 by omega, rdP, if_neg h, if_neg (by rw [hb]; decide)]
theorem rdP_le {xs : Nat → Int32} {mp c : Nat} : ∀ f i, (rdP xs mp c f i).2 ≤ i + f
  | 0, i => Nat.le_refl _
  | f + 1, i => by
    rw [rdP]
    split
    · exact Nat.le_add_right _ _
    · split
      · exact Nat.le_add_right _ _
      · exact Nat.le_trans (rdP_le f (i + 1)) (by omega)
def rdH (hh : Nat → Nat) (mp u : Nat) : Nat → Nat := fun j => if j = mp then u else hh j
/-- persons of a text, one by one: where it is wrong, how many, their numbers -/
def rdA (xs : Nat → Int32) (L : Nat) : Nat → Nat → Nat → (Nat → Nat) → Option Nat × Nat × (Nat → Nat)
  | 0, mp, cc, hh => (some cc, mp, hh)
  | f + 1, mp, cc, hh =>
    if cc = L then (some cc, mp, hh) else if ¬ xs cc = 112 then (some cc, mp, hh)
    else if (rdP xs mp (cc + 1) (L - (cc + 1)) (cc + 1)).1 = false then (some (rdP xs mp (cc + 1) (L - (cc + 1)) (cc + 1)).2, mp, hh)
    else if L ≤ (rdP xs mp (cc + 1) (L - (cc + 1)) (cc + 1)).2 then (none, mp + 1, rdH hh mp (rdU xs (cc + 1) (rdP xs mp (cc + 1) (L - (cc + 1)) (cc + 1)).2))
    else if mp + 1 = 4 then (some (rdP xs mp (cc + 1) (L - (cc + 1)) (cc + 1)).2, mp, hh)
    else rdA xs L f (mp + 1) ((rdP xs mp (cc + 1) (L - (cc + 1)) (cc + 1)).2 + 1) (rdH hh mp (rdU xs (cc + 1) (rdP xs mp (cc + 1) (L - (cc + 1)) (cc + 1)).2))
theorem rdA_1 {xs : Nat → Int32} {L f mp cc : Nat} {hh : Nat → Nat} (h : cc = L) : rdA xs L (f + 1) mp cc hh = (some cc, mp, hh) := by rw [rdA, if_pos h]
theorem rdA_2 {xs : Nat → Int32} {L f mp cc : Nat} {hh : Nat → Nat} (h0 : ¬ cc = L) (h : ¬ xs cc = 112) : rdA xs L (f + 1) mp cc hh = (some cc, mp, hh) := by rw [rdA, if_neg h0, if_pos h]
theorem rdA_3 {xs : Nat → Int32} {L f mp cc i : Nat} {hh : Nat → Nat} (h0 : ¬ cc = L) (h : xs cc = 112) (hp : rdP xs mp (cc + 1) (L - (cc + 1)) (cc + 1) = (false, i)) : rdA xs L (f + 1) mp cc hh = (some i, mp, hh) := by
  rw [rdA, if_neg h0, if_neg (fun g => g h), hp, if_pos rfl]
theorem rdA_4 {xs : Nat → Int32} {L f mp cc i : Nat} {hh : Nat → Nat} (h0 : ¬ cc = L) (h : xs cc = 112) (hp : rdP xs mp (cc + 1) (L - (cc + 1)) (cc + 1) = (true, i)) (hi : L ≤ i) : rdA xs L (f + 1) mp cc hh = (none, mp + 1, rdH hh mp (rdU xs (cc + 1) i)) := by
  rw [rdA, if_neg h0, if_neg (fun g => g h), hp, if_neg (show ¬ true = false by decide), if_pos hi]
theorem rdA_5 {xs : Nat → Int32} {L f mp cc i : Nat} {hh : Nat → Nat} (h0 : ¬ cc = L) (h : xs cc = 112) (hp : rdP xs mp (cc + 1) (L - (cc + 1)) (cc + 1) = (true, i)) (hi : i < L) (hm : mp + 1 = 4) : rdA xs L (f + 1) mp cc hh = (some i, mp, hh) := by
  rw [rdA, if_neg h0, if_neg (fun g => g h), hp, if_neg (show ¬ true = false by decide), if_neg (by omega), if_pos hm]
theorem rdA_6 {xs : Nat → Int32} {L f mp cc i : Nat} {hh : Nat → Nat} (h0 : ¬ cc = L) (h : xs cc = 112) (hp : rdP xs mp (cc + 1) (L - (cc + 1)) (cc + 1) = (true, i)) (hi : i < L) (hm : ¬ mp + 1 = 4) : rdA xs L (f + 1) mp cc hh = rdA xs L f (mp + 1) (i + 1) (rdH hh mp (rdU xs (cc + 1) i)) := by
  rw [rdA, if_neg h0, if_neg (fun g => g h), hp, if_neg (show ¬ true = false by decide), if_neg (by omega), if_neg hm]
/-- the first number of one who is not there -/
def rdK (xs : Nat → Int32) (mp : Nat) : Nat → Nat → Option Nat
  | 0, _ => none
  | f + 1, k => if inR (xs k - 48) (nI mp) 3 = true then some k else rdK xs mp f (k + 1)
theorem rdK_t {xs : Nat → Int32} {mp L k : Nat} (hk : k < L) (h : inR (xs k - 48) (nI mp) 3 = true) : rdK xs mp (L - k) k = some k := by
  rw [show L - k = (L - (k + 1)) + 1 by omega, rdK, if_pos h]
theorem rdK_f {xs : Nat → Int32} {mp L k : Nat} (hk : k < L) (h : inR (xs k - 48) (nI mp) 3 = false) : rdK xs mp (L - k) k = rdK xs mp (L - (k + 1)) (k + 1) := by
  rw [show L - k = (L - (k + 1)) + 1 by omega, rdK, if_neg (by rw [h]; decide)]
def rd1 (xs : Nat → Int32) (L : Nat) : Option Nat × Nat × (Nat → Nat) := rdA xs L 4 0 0 (fun _ => 0)
def spRead (xs : Nat → Int32) (L : Nat) : Option Nat := match (rd1 xs L).1 with
  | some c => some c
  | none => rdK xs (rd1 xs L).2.1 (L - 0) 0
theorem spRead_s {xs : Nat → Int32} {L c mp : Nat} {hh : Nat → Nat} (h : rd1 xs L = (some c, mp, hh)) : spRead xs L = some c := by rw [spRead, h]
theorem spRead_n {xs : Nat → Int32} {L mp : Nat} {hh : Nat → Nat} (h : rd1 xs L = (none, mp, hh)) : spRead xs L = rdK xs mp (L - 0) 0 := by rw [spRead, h]
def rdI : Option Nat → Int32
  | some c => nI c
  | none => -9
/-- only what was read has changed -/
def RDm (σ σ' : MS) : Prop := (∀ k, k ≠ 8 → σ'.1 k = σ.1 k) ∧ ∀ k, k ≠ 7 → σ'.2.1 k = σ.2.1 k
theorem RDm.rf {σ : MS} : RDm σ σ := ⟨fun _ _ => rfl, fun _ _ => rfl⟩
theorem RDm.i8 {σ σ' : MS} {x : Int32} (h : RDm σ σ') : RDm σ (σ'.i 8 x) := ⟨fun k a => (va_up_ne _ _ a).trans (h.1 k a), h.2⟩
theorem RDm.b7 {σ σ' : MS} {f : Nat → Int32} (h : RDm σ σ') : RDm σ (σ'.b 7 f) := ⟨h.1, fun k a => (va_up_ne _ _ a).trans (h.2 k a)⟩
theorem rdU_lt {xs : Nat → Int32} {c : Nat} : ∀ j, (∀ i, c ≤ i → i < j → (xs i - 48).toNatClampNeg < 4) → rdU xs c j < 16
  | 0, _ => by show 0 < 16; decide
  | j + 1, h => by
    rw [rdU]
    have h1 := rdU_lt (xs := xs) (c := c) j (fun i a b => h i a (by omega))
    split
    · rename_i hc
      exact Nat.or_lt_two_pow (n := 4) h1 (Nat.pow_lt_pow_right (by decide) (h j hc (by omega)))
    · exact h1
theorem rd_h {hh : Nat → Nat} {mp u : Nat} {f : Nat → Int32} (h : ∀ j, j < mp → f j = nI (hh j) ∧ hh j < 16) (hu : u < 16) : ∀ j, j < mp + 1 → upd f mp (nI u) j = nI (rdH hh mp u j) ∧ rdH hh mp u j < 16 := by
  intro j hj
  unfold rdH
  by_cases e : j = mp
  · subst e; rw [if_pos rfl]; exact ⟨pk_us, hu⟩
  · rw [if_neg e]; exact ⟨(pk_un e).trans (h j (by omega)).1, (h j (by omega)).2⟩
