/-! VAL: states as sets of bits, their measure; a state's place tells the state; what comes of a state, counted -/
set_option maxRecDepth 100000
theorem tb15 (i : Nat) : (15 : Nat).testBit i = decide (i < 4) := Nat.testBit_two_pow_sub_one 4 i
theorem hs4_tb (s p q : Nat) : (hs4 s p).testBit q = (decide (q < 4) && s.testBit (4 * p + q)) := by
  rw [hs4, Nat.testBit_and, Nat.testBit_shiftRight, tb15, Bool.and_comm]
theorem tb_lt {x i k : Nat} (hx : x < 2 ^ k) (h : k ≤ i) : x.testBit i = false :=
  Nat.testBit_lt_two_pow (Nat.lt_of_lt_of_le hx (Nat.pow_le_pow_right (by decide) h))
theorem nat_ext {x y k : Nat} (hx : x < 2 ^ k) (hy : y < 2 ^ k) (h : ∀ i, i < k → x.testBit i = y.testBit i) : x = y := by
  apply Nat.eq_of_testBit_eq
  intro i
  by_cases hi : i < k
  · exact h i hi
  · rw [tb_lt hx (by omega), tb_lt hy (by omega)]
theorem st_ext {s s' : Nat} (hs : s < 65536) (hs' : s' < 65536) (h : ∀ p, p < 4 → hs4 s p = hs4 s' p) : s = s' := by
  refine nat_ext (k := 16) hs hs' (fun i hi => ?_)
  have e := congrArg (fun x => Nat.testBit x (i % 4)) (h (i / 4) (by omega))
  simp only [hs4_tb] at e
  rw [show 4 * (i / 4) + i % 4 = i by omega, decide_eq_true (show i % 4 < 4 by omega)] at e
  simpa using e
theorem row_tb {x p i : Nat} (hx : x < 16) : (x <<< (4 * p)).testBit i = (decide (i / 4 = p) && x.testBit (i % 4)) := by
  rw [Nat.testBit_shiftLeft]
  by_cases h : i / 4 = p
  · subst h
    rw [decide_eq_true (show i ≥ 4 * (i / 4) by omega), show i - 4 * (i / 4) = i % 4 by omega]
    simp
  · rw [decide_eq_false h]
    by_cases h2 : i ≥ 4 * p
    · rw [tb_lt (k := 4) hx (show 4 ≤ i - 4 * p by omega)]
      simp
    · rw [decide_eq_false h2]
      rfl
theorem aft_tb (s p q i : Nat) : (aft s p q).testBit i = (s.testBit i || (decide (i / 4 = p) && (hs4 s p ||| hs4 s q).testBit (i % 4)) || (decide (i / 4 = q) && (hs4 s p ||| hs4 s q).testBit (i % 4))) := by
  rw [aft, Nat.testBit_or, Nat.testBit_or, row_tb (both_lt s p q), row_tb (both_lt s p q)]
/-- a state of n persons: each has its own secret, none has or is one of more than n -/
def vld (n s : Nat) : Prop := s < 65536 ∧ (∀ p, p < n → s.testBit (5 * p) = true) ∧ ∀ i, s.testBit i = true → i / 4 < n ∧ i % 4 < n
theorem vld_diag {n s p : Nat} (h : vld n s) : s.testBit (5 * p) = decide (p < n) := by
  by_cases hp : p < n
  · rw [h.2.1 p hp, decide_eq_true hp]
  · rw [decide_eq_false hp, Bool.eq_false_iff]
    intro e
    by_cases h4 : p < 4
    · have h1 := (h.2.2 _ e).1
      have h2 := (h.2.2 _ e).2
      omega
    · rw [tb_lt (k := 16) h.1 (by omega)] at e
      cases e
theorem vld_0 : ∀ n, n < 5 → vld n (st0 n) := by
  intro n hn
  refine ⟨st0_lt n hn, ?_, ?_⟩
  · have : ∀ n, n < 5 → ∀ p, p < n → (st0 n).testBit (5 * p) = true := by decide +kernel
    exact this n hn
  · intro i h
    by_cases hi : i < 16
    · have : ∀ n, n < 5 → ∀ i, i < 16 → (st0 n).testBit i = true → i / 4 < n ∧ i % 4 < n := by decide +kernel
      exact this n hn i hi h
    · rw [tb_lt (k := 16) (st0_lt n hn) (by omega)] at h
      cases h
theorem vld_aft {n s p q : Nat} (hn : n < 5) (h : vld n s) (hp : p < n) (hq : q < n) : vld n (aft s p q) := by
  refine ⟨aft_lt h.1 (by omega) (by omega), fun k hk => ?_, fun i hi => ?_⟩
  · rw [aft_tb, h.2.1 k hk]
    rfl
  · rw [aft_tb] at hi
    simp only [Bool.or_eq_true, Bool.and_eq_true, decide_eq_true_eq, Nat.testBit_or, hs4_tb] at hi
    rcases hi with (h1 | ⟨h1, h2⟩) | ⟨h1, h2⟩
    · exact h.2.2 i h1
    · rcases h2 with ⟨h3, h4⟩ | ⟨h3, h4⟩
      · have := (h.2.2 _ h4).2
        omega
      · have := (h.2.2 _ h4).2
        omega
    · rcases h2 with ⟨h3, h4⟩ | ⟨h3, h4⟩
      · have := (h.2.2 _ h4).2
        omega
      · have := (h.2.2 _ h4).2
        omega
theorem vld_stAt {n : Nat} {cp cq : Nat → Nat} (hn : n < 5) : ∀ c, (∀ j, j < c → cp j < n ∧ cq j < n) → vld n (stAt n cp cq c)
  | 0, _ => vld_0 n hn
  | c + 1, h => vld_aft hn (vld_stAt hn c (fun j hj => h j (by omega))) (h c (by omega)).1 (h c (by omega)).2
/-- how many more bits can come -/
def mu (s : Nat) : Nat := 16 - bts s 16
theorem bts_mono {x y : Nat} : ∀ k, (∀ i, i < k → x.testBit i = true → y.testBit i = true) → bts x k ≤ bts y k
  | 0, _ => Nat.le_refl 0
  | k + 1, h => by
    have h1 := bts_mono k (fun i hi => h i (by omega))
    show bts x k + _ ≤ bts y k + _
    by_cases hx : x.testBit k = true
    · rw [if_pos hx, if_pos (h k (by omega) hx)]
      omega
    · rw [if_neg hx]
      omega
theorem bts_strict {x y j : Nat} : ∀ k, (∀ i, i < k → x.testBit i = true → y.testBit i = true) → j < k → x.testBit j = false → y.testBit j = true → bts x k < bts y k
  | 0, _, hj, _, _ => absurd hj (Nat.not_lt_zero j)
  | k + 1, h, hj, h1, h2 => by
    show bts x k + _ < bts y k + _
    by_cases e : j = k
    · subst e
      have h3 := bts_mono j (fun i hi => h i (by omega))
      rw [if_neg (by rw [h1]; decide), if_pos h2]
      omega
    · have h3 := bts_strict k (fun i hi => h i (by omega)) (by omega) h1 h2
      by_cases hx : x.testBit k = true
      · rw [if_pos hx, if_pos (h k (by omega) hx)]
        omega
      · rw [if_neg hx]
        omega
theorem aft_mono {s p q i : Nat} (h : s.testBit i = true) : (aft s p q).testBit i = true := by
  rw [aft_tb, h]
  rfl
theorem mu_aft {s p q : Nat} (hp : p < 4) (hq : q < 4) (h : hs4 s p ≠ hs4 s q) : mu (aft s p q) < mu s := by
  have key : ∃ j, j < 16 ∧ s.testBit j = false ∧ (aft s p q).testBit j = true := by
    by_cases e : ∃ b, b < 4 ∧ (hs4 s p).testBit b ≠ (hs4 s q).testBit b
    · obtain ⟨b, hb, hne⟩ := e
      cases hpb : (hs4 s p).testBit b with
      | true =>
        have hqb : (hs4 s q).testBit b = false := by
          cases h9 : (hs4 s q).testBit b with
          | true => exact absurd (hpb.trans h9.symm) hne
          | false => rfl
        refine ⟨4 * q + b, by omega, ?_, ?_⟩
        · rw [hs4_tb, decide_eq_true hb] at hqb
          simpa using hqb
        · rw [aft_tb, show (4 * q + b) % 4 = b by omega, show (4 * q + b) / 4 = q by omega, Nat.testBit_or, hpb]
          simp
      | false =>
        have hqb : (hs4 s q).testBit b = true := by
          cases h9 : (hs4 s q).testBit b with
          | true => rfl
          | false => exact absurd (hpb.trans h9.symm) hne
        refine ⟨4 * p + b, by omega, ?_, ?_⟩
        · rw [hs4_tb, decide_eq_true hb] at hpb
          simpa using hpb
        · rw [aft_tb, show (4 * p + b) % 4 = b by omega, show (4 * p + b) / 4 = p by omega, Nat.testBit_or, hqb]
          simp
    · exfalso
      apply h
      refine nat_ext (k := 4) (hs4_lt s p) (hs4_lt s q) (fun i hi => ?_)
      by_cases e2 : (hs4 s p).testBit i = (hs4 s q).testBit i
      · exact e2
      · exact absurd ⟨i, hi, e2⟩ e
  obtain ⟨j, hj, h1, h2⟩ := key
  have h3 := bts_strict (x := s) (y := aft s p q) 16 (fun i _ hi => aft_mono hi) hj h1 h2
  have h4 := bts_le (aft s p q) 16
  unfold mu
  omega
theorem may_ne {net : Nat → Nat} {n r s t p q : Nat} (hs : vld n s) (hq : q < n) (hn : n < 5) (h : mayB net r s t p q = true) : hs4 s p ≠ hs4 s q := by
  intro e
  unfold mayB at h
  split at h
  · cases h
  · split at h
    · cases h
    · split at h
      · have h1 : (hs4 s q).testBit q = true := by
          rw [hs4_tb, show 4 * q + q = 5 * q by omega, hs.2.1 q hq, decide_eq_true (show q < 4 by omega)]
          rfl
        rw [e, h1] at h
        cases h
      · cases h
/-! a state's place -/
def cpr (p x : Nat) : Nat := (x &&& (2 ^ p - 1)) ||| ((x >>> (p + 1)) <<< p)
theorem cpr_lt : ∀ p, p < 4 → ∀ x, x < 16 → cpr p x < 8 := by decide +kernel
theorem cpr_inj : ∀ p, p < 4 → ∀ x, x < 16 → ∀ y, y < 16 → x.testBit p = y.testBit p → cpr p x = cpr p y → x = y := by decide +kernel
theorem plA_eq {s t p : Nat} (hp : p < 4) : plA s t (p + 1) = plA s t p * 8 + cpr p (hs4 s p) := by
  show ((plA s t p <<< 3) ||| (hs4 s p &&& (2 ^ p - 1))) ||| ((hs4 s p >>> (p + 1)) <<< p) = _
  rw [Nat.or_assoc]
  show (plA s t p <<< 3) ||| cpr p (hs4 s p) = _
  rw [← Nat.shiftLeft_add_eq_or_of_lt (i := 3) (cpr_lt p hp _ (hs4_lt s p)), Nat.shiftLeft_eq]
theorem plc_eq {s t : Nat} (ht : t < 16) : plc s t = plA s t 4 := by
  have h := plA_lt (s := s) ht 4 (by omega)
  have : plA s t 4 &&& 65535 = plA s t 4 % 2 ^ 16 := Nat.and_two_pow_sub_one_eq_mod _ 16
  rw [plc, this]
  exact Nat.mod_eq_of_lt h
theorem plc_inj {n s s' t t' : Nat} (hs : vld n s) (hs' : vld n s') (ht : t < 16) (ht' : t' < 16) (h : plc s t = plc s' t') : s = s' ∧ t = t' := by
  rw [plc_eq ht, plc_eq ht'] at h
  have a3 := cpr_lt 3 (by omega) _ (hs4_lt s 3)
  have a2 := cpr_lt 2 (by omega) _ (hs4_lt s 2)
  have a1 := cpr_lt 1 (by omega) _ (hs4_lt s 1)
  have a0 := cpr_lt 0 (by omega) _ (hs4_lt s 0)
  have b3 := cpr_lt 3 (by omega) _ (hs4_lt s' 3)
  have b2 := cpr_lt 2 (by omega) _ (hs4_lt s' 2)
  have b1 := cpr_lt 1 (by omega) _ (hs4_lt s' 1)
  have b0 := cpr_lt 0 (by omega) _ (hs4_lt s' 0)
  rw [plA_eq (p := 3) (by omega), plA_eq (p := 2) (by omega), plA_eq (p := 1) (by omega), plA_eq (p := 0) (by omega), plA_eq (s := s') (p := 3) (by omega), plA_eq (s := s') (p := 2) (by omega), plA_eq (s := s') (p := 1) (by omega), plA_eq (s := s') (p := 0) (by omega)] at h
  have e0 : plA s t 0 = t := rfl
  have e0' : plA s' t' 0 = t' := rfl
  rw [e0, e0'] at h
  have dg : ∀ p, p < 4 → (hs4 s p).testBit p = (hs4 s' p).testBit p := fun p hp => by
    rw [hs4_tb, hs4_tb, show 4 * p + p = 5 * p by omega, vld_diag hs, vld_diag hs']
  have k3 : cpr 3 (hs4 s 3) = cpr 3 (hs4 s' 3) := by omega
  have k2 : cpr 2 (hs4 s 2) = cpr 2 (hs4 s' 2) := by omega
  have k1 : cpr 1 (hs4 s 1) = cpr 1 (hs4 s' 1) := by omega
  have k0 : cpr 0 (hs4 s 0) = cpr 0 (hs4 s' 0) := by omega
  refine ⟨st_ext hs.1 hs'.1 (fun p hp => ?_), by omega⟩
  have hc : p = 0 ∨ p = 1 ∨ p = 2 ∨ p = 3 := by omega
  rcases hc with rfl | rfl | rfl | rfl
  · exact cpr_inj 0 hp _ (hs4_lt _ _) _ (hs4_lt _ _) (dg 0 hp) k0
  · exact cpr_inj 1 hp _ (hs4_lt _ _) _ (hs4_lt _ _) (dg 1 hp) k1
  · exact cpr_inj 2 hp _ (hs4_lt _ _) _ (hs4_lt _ _) (dg 2 hp) k2
  · exact cpr_inj 3 hp _ (hs4_lt _ _) _ (hs4_lt _ _) (dg 3 hp) k3
/-! what comes of a state: runs, good ones, the fewest calls (1000: none), the most calls and one (0: none) -/
abbrev V4 : Type := Nat × Nat × Nat × Nat
def cmb (x y : V4) : V4 := (x.1 + y.1, x.2.1 + y.2.1, if y.2.1 = 0 then x.2.2.1 else min (y.2.2.1 + 1) x.2.2.1, if y.2.1 = 0 then x.2.2.2 else max (y.2.2.2 + 1) x.2.2.2)
def okP (net : Nat → Nat) (n r s t k : Nat) : Bool := decide (k / 4 < n) && decide (k % 4 < n) && mayB net r s t (k / 4) (k % 4)
def vAcc (rec : Nat → Nat → V4) (net : Nat → Nat) (n r s t : Nat) : Nat → V4
  | 0 => (0, 0, 1000, 0)
  | k + 1 => if okP net n r s t k = true then cmb (vAcc rec net n r s t k) (rec (aft s (k / 4) (k % 4)) (tkA r t (k / 4) (k % 4))) else vAcc rec net n r s t k
def vEnd (n s : Nat) (x : V4) : V4 := if x.1 = 0 then (if exB n s = true then (1, 1, 0, 1) else (1, 0, 1000, 0)) else x
def vF (net : Nat → Nat) (n r : Nat) : Nat → Nat → Nat → V4
  | 0 => fun _ _ => (1, 0, 1000, 0)
  | f + 1 => fun s t => vEnd n s (vAcc (vF net n r f) net n r s t 16)
def val (net : Nat → Nat) (n r s t : Nat) : V4 := vF net n r 17 s t
theorem okP_lt {net : Nat → Nat} {n r s t k : Nat} (h : okP net n r s t k = true) : k / 4 < n ∧ k % 4 < n ∧ mayB net r s t (k / 4) (k % 4) = true := by
  simp only [okP, Bool.and_eq_true, decide_eq_true_eq] at h
  exact ⟨h.1.1, h.1.2, h.2⟩
theorem okP_mu {net : Nat → Nat} {n r s t k : Nat} (hn : n < 5) (hs : vld n s) (h : okP net n r s t k = true) : vld n (aft s (k / 4) (k % 4)) ∧ mu (aft s (k / 4) (k % 4)) < mu s := by
  obtain ⟨h1, h2, h3⟩ := okP_lt h
  exact ⟨vld_aft hn hs h1 h2, mu_aft (by omega) (by omega) (may_ne hs h2 hn h3)⟩
theorem vAcc_congr {net : Nat → Nat} {n r s t : Nat} {f g : Nat → Nat → V4} (hn : n < 5) (hs : vld n s) (h : ∀ s' t', vld n s' → mu s' < mu s → f s' t' = g s' t') : ∀ k, vAcc f net n r s t k = vAcc g net n r s t k
  | 0 => rfl
  | k + 1 => by
    unfold vAcc
    rw [vAcc_congr hn hs h k]
    by_cases e : okP net n r s t k = true
    · rw [if_pos e, if_pos e, h _ _ (okP_mu hn hs e).1 (okP_mu hn hs e).2]
    · rw [if_neg e, if_neg e]
theorem vF_stable {net : Nat → Nat} {n r : Nat} (hn : n < 5) : ∀ f g s t, vld n s → mu s < f → mu s < g → vF net n r f s t = vF net n r g s t
  | 0, _, _, _, _, h, _ => absurd h (Nat.not_lt_zero _)
  | _ + 1, 0, _, _, _, _, h => absurd h (Nat.not_lt_zero _)
  | f + 1, g + 1, s, t, hs, h1, h2 => by
    show vEnd n s _ = vEnd n s _
    rw [vAcc_congr hn hs (fun s' t' hv hm => vF_stable hn f g s' t' hv (by omega) (by omega))]
theorem mu_le (s : Nat) : mu s ≤ 16 := Nat.sub_le _ _
theorem val_eq {net : Nat → Nat} {n r s t : Nat} (hn : n < 5) (hs : vld n s) : val net n r s t = vEnd n s (vAcc (val net n r) net n r s t 16) := by
  show vEnd n s (vAcc (vF net n r 16) net n r s t 16) = _
  rw [vAcc_congr hn hs (fun s' t' hv hm => vF_stable hn 16 17 s' t' hv (by have := mu_le s; omega) (by have := mu_le s; omega))]
  rfl
/-- bounds on what is counted -/
def vOk (B m : Nat) (x : V4) : Prop := x.1 ≤ B ∧ x.2.1 ≤ x.1 ∧ (x.2.1 = 0 → x.2.2.1 = 1000 ∧ x.2.2.2 = 0) ∧ (x.2.1 ≠ 0 → x.2.2.1 ≤ m ∧ 1 ≤ x.2.2.2 ∧ x.2.2.2 ≤ m + 1)
theorem vOk_cmb {B C m : Nat} {x y : V4} (hm : m < 100) (hx : vOk B (m + 1) x) (hy : vOk C m y) : vOk (B + C) (m + 1) (cmb x y) := by
  obtain ⟨x1, x2, x3, x4⟩ := x
  obtain ⟨y1, y2, y3, y4⟩ := y
  obtain ⟨a1, a2, a3, a4⟩ := hx
  obtain ⟨b1, b2, b3, b4⟩ := hy
  simp only [cmb, vOk] at *
  by_cases h : y2 = 0
  · subst h
    simp only [if_pos]
    refine ⟨by omega, by omega, fun e => a3 (by omega), fun e => a4 (by omega)⟩
  · simp only [if_neg h]
    have c := b4 h
    refine ⟨by omega, by omega, fun e => absurd e (by omega), fun _ => ?_⟩
    by_cases hx2 : x2 = 0
    · have d := a3 hx2
      refine ⟨by omega, by omega, by omega⟩
    · have d := a4 hx2
      refine ⟨by omega, by omega, by omega⟩
theorem vOk_mono {B B' m m' : Nat} {x : V4} (hB : B ≤ B') (hm : m ≤ m') (h : vOk B m x) : vOk B' m' x :=
  ⟨Nat.le_trans h.1 hB, h.2.1, h.2.2.1, fun e => ⟨Nat.le_trans (h.2.2.2 e).1 hm, (h.2.2.2 e).2.1, by have := (h.2.2.2 e).2.2; omega⟩⟩
theorem vAcc_ok {net : Nat → Nat} {n r s t : Nat} {f : Nat → Nat → V4} {m : Nat} (hn : n < 5) (hs : vld n s) (hm : mu s ≤ m + 1) (hm9 : m < 100) (h : ∀ s' t', vld n s' → mu s' < mu s → vOk (16 ^ m) m (f s' t')) : ∀ k, vOk (k * 16 ^ m) (m + 1) (vAcc f net n r s t k)
  | 0 => ⟨Nat.zero_le _, Nat.le_refl _, fun _ => ⟨rfl, rfl⟩, fun e => absurd rfl e⟩
  | k + 1 => by
    have h0 := vAcc_ok hn hs hm hm9 h k (r := r) (t := t) (net := net)
    unfold vAcc
    rw [Nat.succ_mul]
    split
    · rename_i e
      exact vOk_cmb hm9 h0 (h _ _ (okP_mu hn hs e).1 (okP_mu hn hs e).2)
    · exact vOk_mono (Nat.le_add_right _ _) (Nat.le_refl _) h0
theorem vEnd_ok {n s B m : Nat} {x : V4} (hB : 1 ≤ B) (h : vOk B m x) : vOk B m (vEnd n s x) ∧ 1 ≤ (vEnd n s x).1 := by
  unfold vEnd
  split
  · split
    · exact ⟨⟨hB, Nat.le_refl _, (fun e => absurd e (by decide)), fun _ => ⟨Nat.zero_le _, Nat.le_refl _, Nat.le_add_left _ _⟩⟩, Nat.le_refl _⟩
    · exact ⟨⟨hB, Nat.zero_le _, fun _ => ⟨rfl, rfl⟩, fun e => absurd rfl e⟩, Nat.le_refl _⟩
  · rename_i e
    exact ⟨h, by omega⟩
theorem pos16 (m : Nat) : 1 ≤ 16 ^ (m + 1) := Nat.pos_of_ne_zero (by simp)
theorem vF_ok {net : Nat → Nat} {n r : Nat} (hn : n < 5) : ∀ m, m < 100 → ∀ f s t, vld n s → mu s ≤ m → mu s < f → vOk (16 ^ m) m (vF net n r f s t) ∧ 1 ≤ (vF net n r f s t).1
  | 0, _, 0, _, _, _, _, h => absurd h (Nat.not_lt_zero _)
  | _ + 1, _, 0, _, _, _, _, h => absurd h (Nat.not_lt_zero _)
  | 0, _, f + 1, s, t, hs, h1, h2 => by
    have hz : ∀ k, vAcc (vF net n r f) net n r s t k = (0, 0, 1000, 0) := by
      intro k
      induction k with
      | zero => rfl
      | succ k ih =>
        unfold vAcc
        rw [if_neg (fun e => by have := (okP_mu hn hs e).2; omega), ih]
    show vOk _ _ (vEnd n s _) ∧ 1 ≤ (vEnd n s _).1
    rw [hz]
    exact vEnd_ok (Nat.le_refl 1) ⟨Nat.zero_le _, Nat.le_refl _, fun _ => ⟨rfl, rfl⟩, fun e => absurd rfl e⟩
  | m + 1, hm9, f + 1, s, t, hs, h1, h2 => by
    have h3 := vAcc_ok (net := net) (r := r) (t := t) (f := vF net n r f) (m := m) hn hs h1 (by omega) (fun s' t' hv hm => (vF_ok hn m (by omega) f s' t' hv (by omega) (by omega)).1) 16
    have e : 16 * 16 ^ m = 16 ^ (m + 1) := by rw [Nat.pow_succ, Nat.mul_comm]
    rw [e] at h3
    exact vEnd_ok (pos16 _) h3
theorem mu_vld {n s : Nat} (hn : 0 < n) (hs : vld n s) : mu s ≤ 15 := by
  have h := bts_strict (x := 0) (y := s) (j := 0) 16 (fun i _ h => by simp at h) (by decide) (by simp) (hs.2.1 0 hn)
  unfold mu
  omega
theorem val_ok {net : Nat → Nat} {n r s t : Nat} (hn : n < 5) (hs : vld n s) (hm : mu s ≤ 15) : vOk (16 ^ 15) 15 (val net n r s t) ∧ 1 ≤ (val net n r s t).1 :=
  vF_ok hn 15 (by decide) 17 s t hs hm (by omega)
theorem vAccV_ok {net : Nat → Nat} {n r s t : Nat} (hn : n < 5) (hs : vld n s) (hm : mu s ≤ 15) (k : Nat) (hk : k ≤ 16) : vOk (16 ^ 15) 15 (vAcc (val net n r) net n r s t k) := by
  by_cases h : mu s = 0
  · have hz : ∀ k, vAcc (val net n r) net n r s t k = (0, 0, 1000, 0) := by
      intro k
      induction k with
      | zero => rfl
      | succ k ih =>
        unfold vAcc
        rw [if_neg (fun e => by have := (okP_mu hn hs e).2; omega), ih]
    rw [hz]
    exact ⟨Nat.zero_le _, Nat.le_refl _, fun _ => ⟨rfl, rfl⟩, fun e => absurd rfl e⟩
  · have h3 := vAcc_ok (net := net) (r := r) (t := t) (f := val net n r) (m := 14) hn hs hm (by omega) (fun s' t' hv hm' => (vF_ok hn 14 (by omega) 17 s' t' hv (by omega) (by omega)).1) k
    exact vOk_mono (Nat.le_trans (Nat.mul_le_mul_right _ hk) (by decide)) (Nat.le_refl _) h3
