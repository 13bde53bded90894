/-! ALIKE: rows of calls of which a person sees the same, as plain functions -/
set_option maxRecDepth 100000
/-- a row of calls by a number: four bits a call, the first call's lowest -/
def rwP (num c : Nat) : Nat := num / 16 ^ c % 16 / 4
def rwQ (num c : Nat) : Nat := num / 16 ^ c % 4
theorem rwP_lt (num c : Nat) : rwP num c < 4 := by unfold rwP; omega
theorem rwQ_lt (num c : Nat) : rwQ num c < 4 := by unfold rwQ; omega
/-- whether a call of a row can be -/
def rwC (n : Nat) (net xp xq : Nat → Nat) (c : Nat) : Bool := decide (xp c < n) && (decide (xq c < n) && (!decide (xp c = xq c) && (numA net (stAt n xp xq c) (xp c) 4).testBit (xq c)))
def rwA (n : Nat) (net xp xq : Nat → Nat) : Nat → Bool
  | 0 => true
  | c + 1 => rwA n net xp xq c && rwC n net xp xq c
theorem rwA_f {n : Nat} {net xp xq : Nat → Nat} {c : Nat} (h : rwC n net xp xq c = false) : ∀ k, c < k → rwA n net xp xq k = false
  | 0, hk => absurd hk (Nat.not_lt_zero c)
  | k + 1, hk => by
    unfold rwA
    by_cases e : c = k
    · subst e; rw [h]; exact Bool.and_false _
    · rw [rwA_f h k (by omega)]; rfl
theorem rwA_s {n : Nat} {net xp xq : Nat → Nat} {c : Nat} (h0 : rwA n net xp xq c = true) (h : rwC n net xp xq c = true) : rwA n net xp xq (c + 1) = true := by
  unfold rwA; rw [h0, h]; rfl
/-- whether a person sees the same of two calls -/
def seC (n : Nat) (cp cq xp xq : Nat → Nat) (pa c : Nat) : Bool :=
  (decide (cp c = pa ∨ cq c = pa) == decide (xp c = pa ∨ xq c = pa)) && (!decide (cp c = pa ∨ cq c = pa) || (decide (cp c = xp c) && (decide (cq c = xq c) && decide (hs4 (stAt n cp cq (c + 1)) pa = hs4 (stAt n xp xq (c + 1)) pa))))
def seA (n : Nat) (cp cq xp xq : Nat → Nat) (pa : Nat) : Nat → Bool
  | 0 => true
  | c + 1 => seA n cp cq xp xq pa c && seC n cp cq xp xq pa c
theorem seA_f {n : Nat} {cp cq xp xq : Nat → Nat} {pa c : Nat} (h : seC n cp cq xp xq pa c = false) : ∀ k, c < k → seA n cp cq xp xq pa k = false
  | 0, hk => absurd hk (Nat.not_lt_zero c)
  | k + 1, hk => by
    unfold seA
    by_cases e : c = k
    · subst e; rw [h]; exact Bool.and_false _
    · rw [seA_f h k (by omega)]; rfl
theorem seA_s {n : Nat} {cp cq xp xq : Nat → Nat} {pa c : Nat} (h0 : seA n cp cq xp xq pa c = true) (h : seC n cp cq xp xq pa c = true) : seA n cp cq xp xq pa (c + 1) = true := by
  unfold seA; rw [h0, h]; rfl
/-- a row that can be and that one can't tell from what was -/
def akB (n : Nat) (net : Nat → Nat) (nc : Nat) (cp cq : Nat → Nat) (pa num : Nat) : Bool := rwA n net (rwP num) (rwQ num) nc && seA n cp cq (rwP num) (rwQ num) pa nc
/-- what all such rows have given each -/
def akS (n : Nat) (net : Nat → Nat) (nc : Nat) (cp cq : Nat → Nat) (pa : Nat) : Nat → Nat
  | 0 => 65535
  | j + 1 => if akB n net nc cp cq pa j = true then akS n net nc cp cq pa j &&& stAt n (rwP j) (rwQ j) nc else akS n net nc cp cq pa j
theorem akS_lt {n : Nat} {net : Nat → Nat} {nc : Nat} {cp cq : Nat → Nat} {pa : Nat} : ∀ j, akS n net nc cp cq pa j < 65536
  | 0 => by show 65535 < 65536; decide
  | j + 1 => by
    unfold akS
    split
    · exact Nat.lt_of_le_of_lt Nat.and_le_left (akS_lt j)
    · exact akS_lt j
def spAlike (n : Nat) (net : Nat → Nat) (nc : Nat) (cp cq : Nat → Nat) (v : Int32) : Int32 :=
  if inP v n = false then -1 else if 4 < nc then -3 else nI (cN (akB n net nc cp cq v.toNatClampNeg) (16 ^ nc))
def spSure (n : Nat) (net : Nat → Nat) (nc : Nat) (cp cq : Nat → Nat) (v w z : Int32) : Int32 :=
  if inP v n = false then -1 else if inP w n = false then -1 else if inP z n = false then -1 else if 4 < nc then -3 else nI (hs4 (akS n net nc cp cq v.toNatClampNeg (16 ^ nc)) w.toNatClampNeg >>> z.toNatClampNeg &&& 1)
def spKnown (n : Nat) (net : Nat → Nat) (nc : Nat) (cp cq : Nat → Nat) (v w : Int32) : Int32 :=
  if inP v n = false then -1 else if inP w n = false then -1 else if 4 < nc then -3 else nI (hs4 (akS n net nc cp cq v.toNatClampNeg (16 ^ nc)) w.toNatClampNeg)
def spEnd (n : Nat) (net : Nat → Nat) (nc : Nat) (cp cq : Nat → Nat) (v : Int32) : Int32 :=
  if inP v n = false then -1 else if 4 < nc then -3 else b2i (exB n (akS n net nc cp cq v.toNatClampNeg (16 ^ nc)))
/-- only the rows have changed -/
def RWm (σ σ' : MS) : Prop := (∀ k, k ≠ 26 → k ≠ 27 → σ'.1 k = σ.1 k) ∧ ∀ k, k ≠ 24 → k ≠ 25 → σ'.2.1 k = σ.2.1 k
theorem RWm.rf {σ : MS} : RWm σ σ := ⟨fun _ _ _ => rfl, fun _ _ _ => rfl⟩
theorem RWm.tr {σ σ1 σ2 : MS} (h : RWm σ σ1) (g : RWm σ1 σ2) : RWm σ σ2 := ⟨fun k a b => (g.1 k a b).trans (h.1 k a b), fun k a b => (g.2 k a b).trans (h.2 k a b)⟩
theorem RWm.pu {σ σ' : MS} (h : RWm σ σ') : PUm σ σ' := ⟨h.1 0 (by decide) (by decide), h.1 1 (by decide) (by decide), h.1 5 (by decide) (by decide), h.1 9 (by decide) (by decide), h.2 2 (by decide) (by decide), h.2 3 (by decide) (by decide), h.2 4 (by decide) (by decide), h.2 6 (by decide) (by decide), h.2 10 (by decide) (by decide), h.2 11 (by decide) (by decide)⟩
theorem RWm.pt {σ σ' : MS} {T : Nat} (h : RWm σ σ') (hs : SNm σ T) : PTm σ σ' T := ⟨h.pu, ⟨T, by omega, ⟨(h.1 17 (by decide) (by decide)).trans hs.1, fun pl => by rw [h.2 12 (by decide) (by decide)]; exact hs.2 pl⟩⟩, OTm.of (h.2 28 (by decide) (by decide))⟩
theorem RWm.b24 {σ σ' : MS} {f g : Nat → Int32} (h : RWm σ σ') : RWm σ ((σ'.b 24 f).b 25 g) := ⟨h.1, fun k a b => ((va_up_ne _ _ b).trans (va_up_ne _ _ a)).trans (h.2 k a b)⟩
theorem RWm.i26 {σ σ' : MS} {x y : Int32} (h : RWm σ σ') : RWm σ ((σ'.i 26 x).i 27 y) := ⟨fun k a b => ((va_up_ne _ _ b).trans (va_up_ne _ _ a)).trans (h.1 k a b), h.2⟩
theorem rwQ_eq (x : Nat) (hx : x < 2 ^ 31) : nI x - nI x / 4 * 4 = nI (x % 4) := pk_rem (d := 4) hx (by decide) (by decide)
theorem rwP_eq (x : Nat) (hx : x < 2 ^ 31) : (nI x - nI x / 16 * 16) / 4 = nI (x % 16 / 4) := by
  rw [show nI x - nI x / 16 * 16 = nI (x % 16) from pk_rem (d := 16) hx (by decide) (by decide)]
  exact pk_div (d := 4) (by omega) (by decide) (by decide)
theorem rw_next {num c : Nat} (h : num < 2 ^ 31) : nI (num / 16 ^ c) / 16 = nI (num / 16 ^ (c + 1)) := by
  rw [show nI (num / 16 ^ c) / 16 = nI (num / 16 ^ c / 16) from pk_div (d := 16) (Nat.lt_of_le_of_lt (Nat.div_le_self _ _) h) (by decide) (by decide), Nat.div_div_eq_div_mul, Nat.pow_succ]
theorem all16 : ∀ nc, nc < 5 → (1 : Int32) <<< ((4 * nI nc) &&& 31) = nI (16 ^ nc) ∧ 16 ^ nc ≤ 65536 := by decide +kernel
