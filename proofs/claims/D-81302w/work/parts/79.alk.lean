/-! ALK: rows of calls of which a person sees the same, by recursion over the calls: as plain functions, and against the rows by number -/
set_option maxRecDepth 100000
/-- whether a person sees the same of a call and of one that was -/
def seB (n : Nat) (cp cq : Nat → Nat) (pa st p q th : Nat) : Bool :=
  (decide (p = pa ∨ q = pa) == decide (cp st = pa ∨ cq st = pa)) && (!decide (p = pa ∨ q = pa) || (decide (p = cp st) && (decide (q = cq st) && decide (hs4 th pa = hs4 (stAt n cp cq (st + 1)) pa))))
/-- whether a call may stand at a step -/
def okA (n : Nat) (net cp cq : Nat → Nat) (pa st s p q : Nat) : Bool :=
  decide (p < n) && (decide (q < n) && (!decide (p = q) && ((numA net s p 4).testBit q && seB n cp cq pa st p q (aft s p q))))
/-- of the first k pairs: all ends of rows that go on with one of them -/
def akP (rec : Nat → Nat → List Nat) (n : Nat) (net cp cq : Nat → Nat) (pa st s : Nat) : Nat → List Nat
  | 0 => []
  | k + 1 => akP rec n net cp cq pa st s k ++ (if okA n net cp cq pa st s (k / 4) (k % 4) = true then rec (st + 1) (aft s (k / 4) (k % 4)) else [])
/-- ends of all rows of so many calls from a step on -/
def akR (n : Nat) (net cp cq : Nat → Nat) (pa : Nat) : Nat → Nat → Nat → List Nat
  | 0 => fun _ s => [s]
  | f + 1 => fun st s => akP (akR n net cp cq pa f) n net cp cq pa st s 16
section AKP
variable {rec : Nat → Nat → List Nat} {n : Nat} {net cp cq : Nat → Nat} {pa st s : Nat}
theorem okA_pq {p q : Nat} (hp : p < n) (hq : q < n) (hn : n < 5) {b : Bool} (h : okA n net cp cq pa st s p q = b) : okA n net cp cq pa st s ((4 * p + q) / 4) ((4 * p + q) % 4) = b := by
  rw [show (4 * p + q) / 4 = p by omega, show (4 * p + q) % 4 = q by omega]; exact h
theorem akP_f {p q : Nat} (hp : p < n) (hq : q < n) (hn : n < 5) (h : okA n net cp cq pa st s p q = false) : akP rec n net cp cq pa st s (4 * p + (q + 1)) = akP rec n net cp cq pa st s (4 * p + q) := by
  rw [show 4 * p + (q + 1) = (4 * p + q) + 1 from rfl, akP, if_neg (by rw [okA_pq hp hq hn h]; decide), List.append_nil]
theorem akP_t {p q : Nat} (hp : p < n) (hq : q < n) (hn : n < 5) (h : okA n net cp cq pa st s p q = true) : akP rec n net cp cq pa st s (4 * p + (q + 1)) = akP rec n net cp cq pa st s (4 * p + q) ++ rec (st + 1) (aft s p q) := by
  rw [show 4 * p + (q + 1) = (4 * p + q) + 1 from rfl, akP, if_pos (okA_pq hp hq hn h), show (4 * p + q) / 4 = p by omega, show (4 * p + q) % 4 = q by omega]
theorem akP_out {k : Nat} (h : ¬ (k / 4 < n ∧ k % 4 < n)) : akP rec n net cp cq pa st s (k + 1) = akP rec n net cp cq pa st s k := by
  show akP rec n net cp cq pa st s k ++ _ = _
  have e : okA n net cp cq pa st s (k / 4) (k % 4) = false := by
    unfold okA
    by_cases h1 : k / 4 < n
    · rw [decide_eq_false (show ¬ k % 4 < n from fun g => h ⟨h1, g⟩), Bool.false_and, Bool.and_false]
    · rw [decide_eq_false h1, Bool.false_and]
  rw [if_neg (by rw [e]; decide), List.append_nil]
theorem akP_sk {p : Nat} : ∀ d, n + d ≤ 4 → akP rec n net cp cq pa st s (4 * p + (n + d)) = akP rec n net cp cq pa st s (4 * p + n)
  | 0, _ => rfl
  | d + 1, h => (akP_out (k := 4 * p + (n + d)) (by omega)).trans (akP_sk d (by omega))
theorem akP_row {p : Nat} (hn : n < 5) : akP rec n net cp cq pa st s (4 * (p + 1)) = akP rec n net cp cq pa st s (4 * p + n) := by
  have := akP_sk (rec := rec) (net := net) (cp := cp) (cq := cq) (pa := pa) (st := st) (s := s) (p := p) (n := n) (4 - n) (by omega)
  rw [show 4 * p + (n + (4 - n)) = 4 * (p + 1) by omega] at this
  exact this
theorem akP_rs : ∀ d, 4 * n + d ≤ 16 → akP rec n net cp cq pa st s (4 * n + d) = akP rec n net cp cq pa st s (4 * n)
  | 0, _ => rfl
  | d + 1, h => (akP_out (k := 4 * n + d) (by omega)).trans (akP_rs d (by omega))
theorem akP_all (hn : n < 5) : akP rec n net cp cq pa st s 16 = akP rec n net cp cq pa st s (4 * n) := by
  have := akP_rs (rec := rec) (net := net) (cp := cp) (cq := cq) (pa := pa) (st := st) (s := s) (n := n) (16 - 4 * n) (by omega)
  rw [show 4 * n + (16 - 4 * n) = 16 by omega] at this
  exact this
end AKP
/-- the component's three sums, over a list of ends -/
def andL (i : Nat) (L : List Nat) : Nat := L.foldl (fun x y => x &&& y) i
def AL (n : Nat) (σ : MS) (m0 i0 : Nat) (b0 : Bool) (L : List Nat) : MS := ((σ.i 10 (nI (m0 + L.length))).i 11 (nI (andL i0 L))).i 12 (b2i (b0 && L.all (exB n)))
theorem AL_nil {n : Nat} {σ : MS} {m0 i0 : Nat} {b0 : Bool} (h1 : σ.1 10 = nI m0) (h2 : σ.1 11 = nI i0) (h3 : σ.1 12 = b2i b0) : AL n σ m0 i0 b0 [] = σ := by
  show ((σ.i 10 (nI m0)).i 11 (nI i0)).i 12 (b2i (b0 && true)) = σ
  rw [Bool.and_true, ← h1, ← h2, ← h3, MS_idi, MS_idi, MS_idi]
theorem andL_app (i : Nat) (L L' : List Nat) : andL i (L ++ L') = andL (andL i L) L' := List.foldl_append
theorem MS_ij (σ : MS) {j k : Nat} (h : j ≠ k) (x y : Int32) : (σ.i k x).i j y = (σ.i j y).i k x := by
  show (va_up (va_up σ.1 k x) j y, σ.2) = (va_up (va_up σ.1 j y) k x, σ.2)
  congr 1
  funext q
  unfold va_up
  by_cases h1 : q = j
  · by_cases h2 : q = k
    · exact absurd (h1.symm.trans h2) h
    · rw [if_pos h1, if_neg h2, if_pos h1]
  · by_cases h2 : q = k
    · rw [if_neg h1, if_pos h2, if_pos h2]
    · rw [if_neg h1, if_neg h2, if_neg h2, if_neg h1]
theorem AL_app {n : Nat} {σ : MS} {m0 i0 : Nat} {b0 : Bool} {L L' : List Nat} : AL n (AL n σ m0 i0 b0 L) (m0 + L.length) (andL i0 L) (b0 && L.all (exB n)) L' = AL n σ m0 i0 b0 (L ++ L') := by
  unfold AL
  rw [andL_app, List.length_append, List.all_append, ← Bool.and_assoc, ← Nat.add_assoc]
  rw [MS_ij (j := 10) (k := 12) _ (by decide), MS_ij (j := 10) (k := 11) _ (by decide), MS_ii, MS_ij (j := 11) (k := 12) _ (by decide), MS_ii, MS_ii]
theorem andL_lt {i : Nat} (h : i < 65536) : ∀ L : List Nat, andL i L < 65536 := by
  intro L
  induction L generalizing i with
  | nil => exact h
  | cons x L ih => exact ih (Nat.lt_of_le_of_lt Nat.and_le_left h)
/-! against the rows by number -/
/-- whether a row by number may be, from a step on -/
def okR (n : Nat) (net cp cq : Nat → Nat) (pa : Nat) : Nat → Nat → Nat → Nat → Bool
  | 0, _, _, _ => true
  | f + 1, st, s, j => okA n net cp cq pa st s (j % 16 / 4) (j % 4) && okR n net cp cq pa f (st + 1) (aft s (j % 16 / 4) (j % 4)) (j / 16)
/-- a row's end -/
def fnR : Nat → Nat → Nat → Nat
  | 0, s, _ => s
  | f + 1, s, j => fnR f (aft s (j % 16 / 4) (j % 4)) (j / 16)
/-- how many of the numbers that are k in the last place -/
theorem cN_add {g : Nat → Bool} (a : Nat) : ∀ b, cN g (a + b) = cN g a + cN (fun j => g (a + j)) b
  | 0 => rfl
  | b + 1 => by
    show cN g (a + b) + (if g (a + b) = true then 1 else 0) = cN g a + (cN (fun j => g (a + j)) b + (if g (a + b) = true then 1 else 0))
    rw [cN_add a b, Nat.add_assoc]
/-- a sum over 16 -/
def sm (h : Nat → Nat) : Nat → Nat
  | 0 => 0
  | k + 1 => sm h k + h k
theorem sm_cg {h h' : Nat → Nat} : ∀ k, (∀ j, j < k → h j = h' j) → sm h k = sm h' k
  | 0, _ => rfl
  | k + 1, e => by
    show sm h k + h k = sm h' k + h' k
    rw [sm_cg k (fun j hj => e j (by omega)), e k (by omega)]
theorem sm_ad {h h' : Nat → Nat} : ∀ k, sm (fun j => h j + h' j) k = sm h k + sm h' k
  | 0 => rfl
  | k + 1 => by
    show sm (fun j => h j + h' j) k + (h k + h' k) = sm h k + h k + (sm h' k + h' k)
    rw [sm_ad k]; omega
theorem sm_cN {g : Nat → Bool} : ∀ k, sm (fun i => if g i = true then 1 else 0) k = cN g k
  | 0 => rfl
  | k + 1 => by
    show sm (fun i => if g i = true then 1 else 0) k + (if g k = true then 1 else 0) = _
    rw [sm_cN k]; rfl
theorem cN_16 {g : Nat → Bool} : ∀ M, cN g (16 * M) = sm (fun k => cN (fun j => g (16 * j + k)) M) 16
  | 0 => rfl
  | M + 1 => by
    rw [show 16 * (M + 1) = 16 * M + 16 by omega, cN_add, cN_16 M]
    have e : (fun k => cN (fun j => g (16 * j + k)) (M + 1)) = (fun k => cN (fun j => g (16 * j + k)) M + (if g (16 * M + k) = true then 1 else 0)) := rfl
    rw [e, sm_ad]
    congr 1
theorem len_akP {rec : Nat → Nat → List Nat} {n : Nat} {net cp cq : Nat → Nat} {pa st s : Nat} : ∀ k, (akP rec n net cp cq pa st s k).length = sm (fun k => if okA n net cp cq pa st s (k / 4) (k % 4) = true then (rec (st + 1) (aft s (k / 4) (k % 4))).length else 0) k
  | 0 => rfl
  | k + 1 => by
    show (akP rec n net cp cq pa st s k ++ _).length = sm _ k + _
    rw [List.length_append, len_akP k]
    congr 1
    by_cases e : okA n net cp cq pa st s (k / 4) (k % 4) = true
    · simp only [if_pos e]
    · simp only [if_neg e]; rfl
theorem dig {j k : Nat} (hk : k < 16) : (16 * j + k) % 16 / 4 = k / 4 ∧ (16 * j + k) % 4 = k % 4 ∧ (16 * j + k) / 16 = j := by omega
theorem cN_and {b : Bool} {g : Nat → Bool} (M : Nat) : cN (fun j => b && g j) M = if b = true then cN g M else 0 := by
  cases b with
  | true => simp
  | false =>
    rw [if_neg (by decide)]
    exact cN_no (fun j _ => rfl)
theorem len_akR {n : Nat} {net cp cq : Nat → Nat} {pa : Nat} : ∀ f st s, (akR n net cp cq pa f st s).length = cN (okR n net cp cq pa f st s) (16 ^ f)
  | 0, _, _ => rfl
  | f + 1, st, s => by
    show (akP (akR n net cp cq pa f) n net cp cq pa st s 16).length = _
    rw [len_akP, Nat.pow_succ, Nat.mul_comm, cN_16]
    refine sm_cg 16 (fun k hk => ?_)
    have e : (fun j => okR n net cp cq pa (f + 1) st s (16 * j + k)) = (fun j => okA n net cp cq pa st s (k / 4) (k % 4) && okR n net cp cq pa f (st + 1) (aft s (k / 4) (k % 4)) j) := by
      funext j
      show (okA n net cp cq pa st s ((16 * j + k) % 16 / 4) ((16 * j + k) % 4) && okR n net cp cq pa f (st + 1) (aft s ((16 * j + k) % 16 / 4) ((16 * j + k) % 4)) ((16 * j + k) / 16)) = _
      rw [(dig hk).1, (dig hk).2.1, (dig hk).2.2]
    rw [e, cN_and, len_akR f]
theorem mem_akP {rec : Nat → Nat → List Nat} {n : Nat} {net cp cq : Nat → Nat} {pa st s x : Nat} : ∀ k, x ∈ akP rec n net cp cq pa st s k ↔ ∃ j, j < k ∧ okA n net cp cq pa st s (j / 4) (j % 4) = true ∧ x ∈ rec (st + 1) (aft s (j / 4) (j % 4))
  | 0 => ⟨fun h => absurd h (List.not_mem_nil), fun ⟨j, h, _⟩ => absurd h (Nat.not_lt_zero j)⟩
  | k + 1 => by
    show x ∈ akP rec n net cp cq pa st s k ++ _ ↔ _
    rw [List.mem_append, mem_akP k]
    constructor
    · rintro (⟨j, h1, h2⟩ | h)
      · exact ⟨j, by omega, h2⟩
      · split at h
        · rename_i e; exact ⟨k, by omega, e, h⟩
        · exact absurd h (List.not_mem_nil)
    · rintro ⟨j, h1, h2, h3⟩
      by_cases e : j = k
      · subst e; right; rw [if_pos h2]; exact h3
      · exact Or.inl ⟨j, by omega, h2, h3⟩
theorem mem_akR {n : Nat} {net cp cq : Nat → Nat} {pa x : Nat} : ∀ f st s, x ∈ akR n net cp cq pa f st s ↔ ∃ j, j < 16 ^ f ∧ okR n net cp cq pa f st s j = true ∧ fnR f s j = x
  | 0, _, s => by
    show x ∈ [s] ↔ _
    rw [List.mem_singleton]
    exact ⟨fun h => ⟨0, by decide, rfl, h.symm⟩, fun ⟨_, _, _, h⟩ => h.symm⟩
  | f + 1, st, s => by
    show x ∈ akP (akR n net cp cq pa f) n net cp cq pa st s 16 ↔ _
    rw [mem_akP]
    constructor
    · rintro ⟨k, hk, h1, h2⟩
      obtain ⟨j, hj, h3, h4⟩ := (mem_akR f _ _).mp h2
      refine ⟨16 * j + k, ?_, ?_, ?_⟩
      · rw [Nat.pow_succ]; omega
      · show (okA n net cp cq pa st s ((16 * j + k) % 16 / 4) ((16 * j + k) % 4) && okR n net cp cq pa f (st + 1) (aft s ((16 * j + k) % 16 / 4) ((16 * j + k) % 4)) ((16 * j + k) / 16)) = true
        rw [(dig hk).1, (dig hk).2.1, (dig hk).2.2, h1, h3]; rfl
      · show fnR f (aft s ((16 * j + k) % 16 / 4) ((16 * j + k) % 4)) ((16 * j + k) / 16) = x
        rw [(dig hk).1, (dig hk).2.1, (dig hk).2.2]; exact h4
    · rintro ⟨j, hj, h1, h2⟩
      have h1 : (okA n net cp cq pa st s (j % 16 / 4) (j % 4) && okR n net cp cq pa f (st + 1) (aft s (j % 16 / 4) (j % 4)) (j / 16)) = true := h1
      rw [Bool.and_eq_true] at h1
      have d : j % 16 % 4 = j % 4 := by omega
      refine ⟨j % 16, by omega, by rw [d]; exact h1.1, ?_⟩
      rw [d]
      refine (mem_akR f _ _).mpr ⟨j / 16, ?_, h1.2, h2⟩
      rw [Nat.pow_succ] at hj
      exact Nat.div_lt_of_lt_mul (by omega)
/-- by number: the reference's rows -/
theorem okA_rw {n : Nat} {net cp cq : Nat → Nat} {pa j c : Nat} : okA n net cp cq pa c (stAt n (rwP j) (rwQ j) c) (j / 16 ^ c % 16 / 4) (j / 16 ^ c % 4) = (rwC n net (rwP j) (rwQ j) c && seC n cp cq (rwP j) (rwQ j) pa c) := by
  have e : stAt n (rwP j) (rwQ j) (c + 1) = aft (stAt n (rwP j) (rwQ j) c) (j / 16 ^ c % 16 / 4) (j / 16 ^ c % 4) := rfl
  unfold okA rwC seC seB
  rw [e]
  rw [show rwP j c = j / 16 ^ c % 16 / 4 from rfl, show rwQ j c = j / 16 ^ c % 4 from rfl]
  generalize j / 16 ^ c % 16 / 4 = p
  generalize j / 16 ^ c % 4 = q
  generalize stAt n (rwP j) (rwQ j) c = s
  have e1 : decide (p = cp c) = decide (cp c = p) := decide_eq_decide.mpr ⟨Eq.symm, Eq.symm⟩
  have e2 : decide (q = cq c) = decide (cq c = q) := decide_eq_decide.mpr ⟨Eq.symm, Eq.symm⟩
  have e3 : decide (hs4 (aft s p q) pa = hs4 (stAt n cp cq (c + 1)) pa) = decide (hs4 (stAt n cp cq (c + 1)) pa = hs4 (aft s p q) pa) := decide_eq_decide.mpr ⟨Eq.symm, Eq.symm⟩
  rw [e1, e2, e3]
  cases decide (p < n) <;> cases decide (q < n) <;> cases decide (p = q) <;> cases (numA net s p 4).testBit q <;> cases decide (p = pa ∨ q = pa) <;> cases decide (cp c = pa ∨ cq c = pa) <;> cases decide (cp c = p) <;> cases decide (cq c = q) <;> cases decide (hs4 (stAt n cp cq (c + 1)) pa = hs4 (aft s p q) pa) <;> rfl
theorem okR_st {n : Nat} {net cp cq : Nat → Nat} {pa j : Nat} : ∀ f c, (rwA n net (rwP j) (rwQ j) c && (seA n cp cq (rwP j) (rwQ j) pa c && okR n net cp cq pa f c (stAt n (rwP j) (rwQ j) c) (j / 16 ^ c))) = (rwA n net (rwP j) (rwQ j) (c + f) && seA n cp cq (rwP j) (rwQ j) pa (c + f))
  | 0, c => by
    show (_ && (_ && true)) = _
    rw [Bool.and_true]; rfl
  | f + 1, c => by
    have h := okR_st (n := n) (net := net) (cp := cp) (cq := cq) (pa := pa) (j := j) f (c + 1)
    rw [show c + 1 + f = c + (f + 1) by omega] at h
    rw [← h]
    show (rwA n net (rwP j) (rwQ j) c && (seA n cp cq (rwP j) (rwQ j) pa c && (okA n net cp cq pa c (stAt n (rwP j) (rwQ j) c) (j / 16 ^ c % 16 / 4) (j / 16 ^ c % 4) && okR n net cp cq pa f (c + 1) (aft (stAt n (rwP j) (rwQ j) c) (j / 16 ^ c % 16 / 4) (j / 16 ^ c % 4)) (j / 16 ^ c / 16)))) = ((rwA n net (rwP j) (rwQ j) c && rwC n net (rwP j) (rwQ j) c) && ((seA n cp cq (rwP j) (rwQ j) pa c && seC n cp cq (rwP j) (rwQ j) pa c) && okR n net cp cq pa f (c + 1) (aft (stAt n (rwP j) (rwQ j) c) (j / 16 ^ c % 16 / 4) (j / 16 ^ c % 4)) (j / 16 ^ (c + 1))))
    rw [okA_rw, Nat.div_div_eq_div_mul, ← Nat.pow_succ]
    generalize okR n net cp cq pa f (c + 1) _ _ = b1
    generalize rwA n net (rwP j) (rwQ j) c = b2
    generalize rwC n net (rwP j) (rwQ j) c = b3
    generalize seA n cp cq (rwP j) (rwQ j) pa c = b4
    generalize seC n cp cq (rwP j) (rwQ j) pa c = b5
    cases b1 <;> cases b2 <;> cases b3 <;> cases b4 <;> cases b5 <;> rfl
theorem okR_akB {n : Nat} {net : Nat → Nat} {nc : Nat} {cp cq : Nat → Nat} {pa j : Nat} : okR n net cp cq pa nc 0 (st0 n) j = akB n net nc cp cq pa j := by
  have h := okR_st (n := n) (net := net) (cp := cp) (cq := cq) (pa := pa) (j := j) nc 0
  rw [Nat.zero_add, Nat.pow_zero, Nat.div_one] at h
  exact h
theorem fnR_st {n j : Nat} : ∀ f c, fnR f (stAt n (rwP j) (rwQ j) c) (j / 16 ^ c) = stAt n (rwP j) (rwQ j) (c + f)
  | 0, _ => rfl
  | f + 1, c => by
    have h := fnR_st (n := n) (j := j) f (c + 1)
    rw [show c + 1 + f = c + (f + 1) by omega] at h
    rw [← h]
    show fnR f (aft (stAt n (rwP j) (rwQ j) c) (j / 16 ^ c % 16 / 4) (j / 16 ^ c % 4)) (j / 16 ^ c / 16) = _
    rw [Nat.div_div_eq_div_mul, ← Nat.pow_succ]
    rfl
theorem fnR_stAt {n nc j : Nat} : fnR nc (st0 n) j = stAt n (rwP j) (rwQ j) nc := by
  have h := fnR_st (n := n) (j := j) nc 0
  rw [Nat.zero_add, Nat.pow_zero, Nat.div_one] at h
  exact h
theorem ak_len {n : Nat} {net : Nat → Nat} {nc : Nat} {cp cq : Nat → Nat} {pa : Nat} : (akR n net cp cq pa nc 0 (st0 n)).length = cN (akB n net nc cp cq pa) (16 ^ nc) := by
  rw [len_akR]
  exact cN_cg _ (fun j _ => okR_akB)
theorem ak_mem {n : Nat} {net : Nat → Nat} {nc : Nat} {cp cq : Nat → Nat} {pa x : Nat} : x ∈ akR n net cp cq pa nc 0 (st0 n) ↔ ∃ j, j < 16 ^ nc ∧ akB n net nc cp cq pa j = true ∧ stAt n (rwP j) (rwQ j) nc = x := by
  rw [mem_akR]
  constructor
  · rintro ⟨j, a, b, c⟩; exact ⟨j, a, by rw [← okR_akB]; exact b, by rw [← fnR_stAt]; exact c⟩
  · rintro ⟨j, a, b, c⟩; exact ⟨j, a, by rw [okR_akB]; exact b, by rw [fnR_stAt]; exact c⟩
theorem akS_tb {n : Nat} {net : Nat → Nat} {nc : Nat} {cp cq : Nat → Nat} {pa i : Nat} : ∀ k, (akS n net nc cp cq pa k).testBit i = true ↔ i < 16 ∧ ∀ j, j < k → akB n net nc cp cq pa j = true → (stAt n (rwP j) (rwQ j) nc).testBit i = true
  | 0 => by
    show (65535 : Nat).testBit i = true ↔ _
    rw [show (65535 : Nat) = 2 ^ 16 - 1 from rfl, Nat.testBit_two_pow_sub_one, decide_eq_true_eq]
    exact ⟨fun h => ⟨h, fun j hj => absurd hj (Nat.not_lt_zero j)⟩, fun h => h.1⟩
  | k + 1 => by
    unfold akS
    by_cases e : akB n net nc cp cq pa k = true
    · rw [if_pos e, Nat.testBit_and, Bool.and_eq_true, akS_tb k]
      constructor
      · rintro ⟨⟨h1, h2⟩, h3⟩
        refine ⟨h1, fun j hj he => ?_⟩
        by_cases ej : j = k
        · subst ej; exact h3
        · exact h2 j (by omega) he
      · rintro ⟨h1, h2⟩
        exact ⟨⟨h1, fun j hj => h2 j (by omega)⟩, h2 k (by omega) e⟩
    · rw [if_neg e, akS_tb k]
      constructor
      · rintro ⟨h1, h2⟩
        refine ⟨h1, fun j hj he => ?_⟩
        by_cases ej : j = k
        · subst ej; exact absurd he e
        · exact h2 j (by omega) he
      · rintro ⟨h1, h2⟩
        exact ⟨h1, fun j hj => h2 j (by omega)⟩
theorem andL_tb {i : Nat} : ∀ (L : List Nat) (a : Nat), (andL a L).testBit i = true ↔ a.testBit i = true ∧ ∀ x ∈ L, x.testBit i = true := by
  intro L
  induction L with
  | nil => intro a; exact ⟨fun h => ⟨h, fun x hx => absurd hx (List.not_mem_nil)⟩, fun h => h.1⟩
  | cons x L ih =>
    intro a
    show (andL (a &&& x) L).testBit i = true ↔ _
    rw [ih, Nat.testBit_and, Bool.and_eq_true]
    constructor
    · rintro ⟨⟨h1, h2⟩, h3⟩
      refine ⟨h1, fun y hy => ?_⟩
      rcases List.mem_cons.mp hy with rfl | h
      · exact h2
      · exact h3 y h
    · rintro ⟨h1, h2⟩
      exact ⟨⟨h1, h2 x List.mem_cons_self⟩, fun y hy => h2 y (List.mem_cons_of_mem _ hy)⟩
theorem ak_and {n : Nat} {net : Nat → Nat} {nc : Nat} {cp cq : Nat → Nat} {pa : Nat} : andL 65535 (akR n net cp cq pa nc 0 (st0 n)) = akS n net nc cp cq pa (16 ^ nc) := by
  apply Nat.eq_of_testBit_eq
  intro i
  rw [Bool.eq_iff_iff, andL_tb, akS_tb, show (65535 : Nat) = 2 ^ 16 - 1 from rfl, Nat.testBit_two_pow_sub_one, decide_eq_true_eq]
  constructor
  · rintro ⟨h1, h2⟩
    exact ⟨h1, fun j hj he => h2 _ (ak_mem.mpr ⟨j, hj, he, rfl⟩)⟩
  · rintro ⟨h1, h2⟩
    refine ⟨h1, fun x hx => ?_⟩
    obtain ⟨j, hj, he, rfl⟩ := ak_mem.mp hx
    exact h2 j hj he
