/-! ALK2: the row that was is one of those; experts in all of them; what stays behind a public method of the component -/
set_option maxRecDepth 100000
/-- the calls that were could be -/
def LG (n : Nat) (net : Nat → Nat) (nc : Nat) (cp cq : Nat → Nat) : Prop := ∀ j, j < nc → cp j < n ∧ cq j < n ∧ ¬ cp j = cq j ∧ (numA net (stAt n cp cq j) (cp j) 4).testBit (cq j) = true
theorem seB_own {n : Nat} {cp cq : Nat → Nat} {pa c : Nat} : seB n cp cq pa c (cp c) (cq c) (aft (stAt n cp cq c) (cp c) (cq c)) = true := by
  unfold seB
  rw [show aft (stAt n cp cq c) (cp c) (cq c) = stAt n cp cq (c + 1) from rfl]
  simp
theorem ak_own {n : Nat} {net : Nat → Nat} {nc : Nat} {cp cq : Nat → Nat} {pa : Nat} (hn : n < 5) (h : LG n net nc cp cq) : ∀ f c, c + f = nc → stAt n cp cq nc ∈ akR n net cp cq pa f c (stAt n cp cq c)
  | 0, c, e => by
    show _ ∈ [stAt n cp cq c]
    rw [show nc = c by omega]
    exact List.mem_singleton.mpr rfl
  | f + 1, c, e => by
    show _ ∈ akP (akR n net cp cq pa f) n net cp cq pa c (stAt n cp cq c) 16
    obtain ⟨h1, h2, h3, h4⟩ := h c (by omega)
    have d1 : (4 * cp c + cq c) / 4 = cp c := by omega
    have d2 : (4 * cp c + cq c) % 4 = cq c := by omega
    rw [mem_akP]
    refine ⟨4 * cp c + cq c, by omega, ?_, ?_⟩
    · rw [d1, d2, okA, decide_eq_true h1, decide_eq_true h2, decide_eq_false h3, h4, seB_own]; rfl
    · rw [d1, d2]; exact ak_own hn h f (c + 1) (by omega)
theorem ak_vld {n : Nat} {net : Nat → Nat} {cp cq : Nat → Nat} {pa : Nat} (hn : n < 5) : ∀ f st s, vld n s → ∀ x ∈ akR n net cp cq pa f st s, vld n x
  | 0, _, s, hs, x, hx => by
    have hx : x ∈ [s] := hx
    rw [List.mem_singleton.mp hx]; exact hs
  | f + 1, st, s, hs, x, hx => by
    have hx : x ∈ akP (akR n net cp cq pa f) n net cp cq pa st s 16 := hx
    rw [mem_akP] at hx
    obtain ⟨j, hj, h1, h2⟩ := hx
    unfold okA at h1
    simp only [Bool.and_eq_true, decide_eq_true_eq] at h1
    exact ak_vld hn f _ _ (vld_aft hn hs h1.1 h1.2.1) x h2
theorem al_tb {n q : Nat} : (al n).testBit q = decide (q < n) := Nat.testBit_two_pow_sub_one n q
theorem exB_tb {n x : Nat} (hn : n < 5) (hx : ∀ i, x.testBit i = true → i % 4 < n) : exB n x = true ↔ ∀ p q, p < n → q < n → x.testBit (4 * p + q) = true := by
  have e : exB n x = true ↔ ∀ p, p < n → hs4 x p = al n := by
    simp only [exB, List.all_eq_true, List.mem_range, beq_iff_eq]
  rw [e]
  constructor
  · intro h p q hp hq
    have h1 := congrArg (fun z => Nat.testBit z q) (h p hp)
    simp only [hs4_tb, al_tb] at h1
    rw [decide_eq_true hq, decide_eq_true (show q < 4 by omega)] at h1
    simpa using h1
  · intro h p hp
    refine nat_ext (k := 4) (hs4_lt x p) (al_lt n hn) (fun q hq => ?_)
    rw [hs4_tb, al_tb, decide_eq_true hq]
    by_cases hqn : q < n
    · rw [decide_eq_true hqn, h p q hp hqn]; rfl
    · rw [decide_eq_false hqn, Bool.true_and, Bool.eq_false_iff]
      intro h9
      have := hx _ h9
      omega
theorem exB_all {n : Nat} {L : List Nat} (hn : n < 5) (hv : ∀ x ∈ L, vld n x) {x0 : Nat} (h0 : x0 ∈ L) : L.all (exB n) = exB n (andL 65535 L) := by
  have hx : ∀ i, (andL 65535 L).testBit i = true → i % 4 < n := fun i h => ((hv x0 h0).2.2 i ((andL_tb L 65535).mp h |>.2 x0 h0)).2
  rw [Bool.eq_iff_iff, exB_tb hn hx, List.all_eq_true]
  constructor
  · intro h p q hp hq
    rw [andL_tb]
    refine ⟨?_, fun x hxL => (exB_tb hn (fun i hi => ((hv x hxL).2.2 i hi).2)).mp (h x hxL) p q hp hq⟩
    rw [show (65535 : Nat) = 2 ^ 16 - 1 from rfl, Nat.testBit_two_pow_sub_one]
    exact decide_eq_true (by omega)
  · intro h x hxL
    exact (exB_tb hn (fun i hi => ((hv x hxL).2.2 i hi).2)).mpr (fun p q hp hq => (andL_tb L 65535).mp (h p q hp hq) |>.2 x hxL)
theorem ak_end {n : Nat} {net : Nat → Nat} {nc : Nat} {cp cq : Nat → Nat} {pa : Nat} (hn : n < 5) (h : LG n net nc cp cq) : (true && (akR n net cp cq pa nc 0 (st0 n)).all (exB n)) = exB n (akS n net nc cp cq pa (16 ^ nc)) := by
  rw [← ak_and]
  exact exB_all hn (ak_vld hn nc 0 (st0 n) (vld_0 n hn)) (ak_own hn h nc 0 (by omega))
theorem AL_w {n : Nat} {σ : MS} {x y z : Int32} {m0 i0 : Nat} {b0 : Bool} {L : List Nat} : AL n (((σ.i 10 x).i 11 y).i 12 z) m0 i0 b0 L = AL n σ m0 i0 b0 L := by
  unfold AL
  rw [MS_ij (j := 10) (k := 12) _ (by decide), MS_ij (j := 10) (k := 11) _ (by decide), MS_ii, MS_ij (j := 11) (k := 12) _ (by decide), MS_ii, MS_ii]
/-- behind a public method of the component: what is seen stays, counts go on -/
def PUc (σ σ' : MS) (T : Nat) : Prop := (∀ k, k ≠ 9 → k ≠ 10 → k ≠ 11 → k ≠ 12 → σ'.1 k = σ.1 k) ∧ (∀ k, k ≠ 4 → k ≠ 7 → k ≠ 8 → σ'.2.1 k = σ.2.1 k) ∧ ∃ T', T' ≤ T + 64 ∧ SNc σ' T'
theorem PTc.pu {σ σ' : MS} {T : Nat} (h : PTc σ σ' T) : PUc σ σ' T := ⟨fun k a _ _ _ => h.1 k a, h.2.1, h.2.2⟩
theorem PUc.rf {σ : MS} {T : Nat} (h : SNc σ T) : PUc σ σ T := (PTc.rf h).pu
theorem PUc.al {n : Nat} {σ : MS} {m0 i0 : Nat} {b0 : Bool} {L : List Nat} {T : Nat} (h : SNc σ T) : PUc σ (AL n σ m0 i0 b0 L) T :=
  ⟨fun k _ a b c => ((va_up_ne _ _ c).trans (va_up_ne _ _ b)).trans (va_up_ne _ _ a), fun _ _ _ _ => rfl, T, by omega, h⟩
theorem nI_le4 {nc : Nat} (h : nc < 2 ^ 31) : nI nc ≤ 4 ↔ nc ≤ 4 := nI_leI h (by decide)
