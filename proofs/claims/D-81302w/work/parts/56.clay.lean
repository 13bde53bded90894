/-! CLAY: facts that the component's 'lay' keeps -/
set_option maxRecDepth 100000
def mnI (x y : Int32) : Int32 := if y < x then y else x
def mxI (x y : Int32) : Int32 := if x < y then y else x
theorem mnI_eq {x y : Nat} (hx : x < 2 ^ 31) (hy : y < 2 ^ 31) : mnI (nI x) (nI y) = nI (min y x) := by
  unfold mnI
  by_cases h : y < x
  · rw [if_pos (nI_lt h hx), Nat.min_eq_left (by omega)]
  · rw [if_neg (nI_nlt (by omega) hy), Nat.min_eq_right (by omega)]
theorem mC_neg {x : Nat} (hx : x < 2 ^ 31) : mC x < 0 ↔ x = 0 := by
  unfold mC
  by_cases h : x = 0
  · rw [if_pos h]; exact ⟨fun _ => h, fun _ => by decide⟩
  · rw [if_neg h]; exact ⟨fun e => absurd e (nI_pos (by omega)), fun e => absurd e h⟩
theorem mxI_eq {x y : Nat} (hx : x < 2 ^ 31) (hy : y < 2 ^ 31) (hy0 : ¬ y = 0) : mxI (mC x) (mC y + 1) = mC (max (y + 1) x) := by
  have e : mC y + 1 = nI y := by
    rw [mC, if_neg hy0, nI_1, show y - 1 + 1 = y by omega]
  rw [e]
  unfold mxI
  by_cases h : x = 0
  · have h1 : mC x < nI y := by
      rw [mC, if_pos h]
      have h2 : ¬ nI y < 0 := nI_pos hy
      rw [Int32.lt_iff_toInt_lt] at h2 ⊢
      have h3 : (-9 : Int32).toInt = -9 := by decide
      have h4 : (0 : Int32).toInt = 0 := by decide
      omega
    rw [if_pos h1, mC, if_neg (by omega), show max (y + 1) x - 1 = y by omega]
  · rw [show mC x = nI (x - 1) from if_neg h]
    by_cases h2 : x - 1 < y
    · rw [if_pos (nI_lt h2 hy), mC, if_neg (by omega), show max (y + 1) x - 1 = y by omega]
    · rw [if_neg (nI_nlt (by omega) (by omega)), mC, if_neg (by omega), show max (y + 1) x - 1 = x - 1 by omega]
theorem cmb_few {x y : V4} {B C m k : Nat} (hk : k < 1000) (hx : vOk B m x) (hm : m < 1000) (hy : vOk C k y) : (cmb x y).2.2.1 = min (y.2.2.1 + 1) x.2.2.1 := by
  by_cases h : y.2.1 = 0
  · rw [(cmb_0 h).1, (hy.2.2.1 h).1]
    have : x.2.2.1 ≤ 1000 := by
      by_cases h2 : x.2.1 = 0
      · rw [(hx.2.2.1 h2).1]; exact Nat.le_refl _
      · have := (hx.2.2.2 h2).1; omega
    omega
  · simp only [cmb, if_neg h]
theorem cmb_mo0 {x y : V4} {C k : Nat} (hy : vOk C k y) (h : y.2.2.2 = 0) : (cmb x y).2.2.2 = x.2.2.2 := by
  by_cases h2 : y.2.1 = 0
  · exact (cmb_0 h2).2
  · have := (hy.2.2.2 h2).2.1; omega
theorem cmb_mo1 {x y : V4} {C k : Nat} (hy : vOk C k y) (h : ¬ y.2.2.2 = 0) : (cmb x y).2.2.2 = max (y.2.2.2 + 1) x.2.2.2 := by
  by_cases h2 : y.2.1 = 0
  · exact absurd (hy.2.2.1 h2).2 h
  · simp only [cmb, if_neg h2]
theorem okP_pq {net : Nat → Nat} {n r s t p q : Nat} (hp : p < n) (hq : q < n) (hn : n < 5) {b : Bool} (h : mayB net r s t p q = b) : okP net n r s t (4 * p + q) = b := by
  rw [okP, show (4 * p + q) / 4 = p by omega, show (4 * p + q) % 4 = q by omega, decide_eq_true hp, decide_eq_true hq, h]; rfl
theorem vA_t {f : Nat → Nat → V4} {net : Nat → Nat} {n r s t p q : Nat} (hp : p < n) (hq : q < n) (hn : n < 5) (h : mayB net r s t p q = true) : vAcc f net n r s t (4 * p + (q + 1)) = cmb (vAcc f net n r s t (4 * p + q)) (f (aft s p q) (tkA r t p q)) := by
  have := vAcc_t (f := f) (okP_pq hp hq hn h)
  rw [show (4 * p + q) / 4 = p by omega, show (4 * p + q) % 4 = q by omega] at this
  exact this
theorem vA_f {f : Nat → Nat → V4} {net : Nat → Nat} {n r s t p q : Nat} (hp : p < n) (hq : q < n) (hn : n < 5) (h : mayB net r s t p q = false) : vAcc f net n r s t (4 * p + (q + 1)) = vAcc f net n r s t (4 * p + q) := vAcc_f (okP_pq hp hq hn h)
theorem vA_out {f : Nat → Nat → V4} {net : Nat → Nat} {n r s t k : Nat} (h : ¬ (k / 4 < n ∧ k % 4 < n)) : vAcc f net n r s t (k + 1) = vAcc f net n r s t k := by
  refine vAcc_f ?_
  unfold okP
  by_cases h1 : k / 4 < n
  · rw [decide_eq_false (show ¬ k % 4 < n from fun g => h ⟨h1, g⟩), Bool.and_false]; rfl
  · rw [decide_eq_false h1]; rfl
theorem vA_sk {f : Nat → Nat → V4} {net : Nat → Nat} {n r s t p : Nat} : ∀ d, n + d ≤ 4 → vAcc f net n r s t (4 * p + (n + d)) = vAcc f net n r s t (4 * p + n)
  | 0, _ => rfl
  | d + 1, h => (vA_out (k := 4 * p + (n + d)) (by omega)).trans (vA_sk d (by omega))
theorem vA_row {f : Nat → Nat → V4} {net : Nat → Nat} {n r s t p : Nat} (hn : n < 5) : vAcc f net n r s t (4 * (p + 1)) = vAcc f net n r s t (4 * p + n) := by
  have := vA_sk (f := f) (net := net) (r := r) (s := s) (t := t) (p := p) (n := n) (4 - n) (by omega)
  rw [show 4 * p + (n + (4 - n)) = 4 * (p + 1) by omega] at this
  exact this
theorem vA_rs {f : Nat → Nat → V4} {net : Nat → Nat} {n r s t : Nat} : ∀ d, 4 * n + d ≤ 16 → vAcc f net n r s t (4 * n + d) = vAcc f net n r s t (4 * n)
  | 0, _ => rfl
  | d + 1, h => (vA_out (k := 4 * n + d) (by omega)).trans (vA_rs d (by omega))
theorem vA_all {f : Nat → Nat → V4} {net : Nat → Nat} {n r s t : Nat} (hn : n < 5) : vAcc f net n r s t 16 = vAcc f net n r s t (4 * n) := by
  have := vA_rs (f := f) (net := net) (r := r) (s := s) (t := t) (n := n) (16 - 4 * n) (by omega)
  rw [show 4 * n + (16 - 4 * n) = 16 by omega] at this
  exact this
/-- only the table has changed, and places are marked by tn alone -/
def FRc (σ σ' : MS) (tn : Int32) : Prop := σ'.1 = σ.1 ∧ (∀ k, k ≠ 4 → k ≠ 7 → k ≠ 8 → σ'.2.1 k = σ.2.1 k) ∧ ∀ pl, σ'.2.1 4 pl = σ.2.1 4 pl ∨ σ'.2.1 4 pl = tn
theorem FRc.rf {σ : MS} {tn : Int32} : FRc σ σ tn := ⟨rfl, fun _ _ _ _ => rfl, fun _ => Or.inl rfl⟩
theorem FRc.tr {σ σ1 σ2 : MS} {tn : Int32} (h : FRc σ σ1 tn) (g : FRc σ1 σ2 tn) : FRc σ σ2 tn := ⟨g.1.trans h.1, fun k a b c => (g.2.1 k a b c).trans (h.2.1 k a b c), fun pl => by
  rcases g.2.2 pl with e | e
  · rw [e]; exact h.2.2 pl
  · exact Or.inr e⟩
theorem KG.fr {σ σ' : MS} {n : Nat} {net : Nat → Nat} {tn : Int32} (h : KG σ n net) (hF : FRc σ σ' tn) : KG σ' n net := ⟨h.1, by rw [hF.1]; exact h.2.1, fun q hq => by rw [hF.2.1 1 (by decide) (by decide) (by decide)]; exact h.2.2.1 q hq, h.2.2.2⟩
/-- a place is laid -/
def kSet (σ : MS) (pl : Nat) (tn : Int32) (v : V4) : MS := ((((σ.b 4 (upd (σ.2.1 4) pl tn)).l 5 (vp_updL (σ.2.2.1 5) pl (lN v.1))).l 6 (vp_updL (σ.2.2.1 6) pl (lN v.2.1))).b 7 (upd (σ.2.1 7) pl (nI v.2.2.1))).b 8 (upd (σ.2.1 8) pl (mC v.2.2.2))
theorem kSet_mk {σ : MS} {pl : Nat} {tn : Int32} {v : V4} {A B : Int64} {C E : Int32} (hA : A = lN v.1) (hB : B = lN v.2.1) (hC : C = nI v.2.2.1) (hE : E = mC v.2.2.2) :
    ((((σ.b 4 (upd (σ.2.1 4) pl tn)).l 5 (vp_updL (σ.2.2.1 5) pl A)).l 6 (vp_updL (σ.2.2.1 6) pl B)).b 7 (upd (σ.2.1 7) pl C)).b 8 (upd (σ.2.1 8) pl E) = kSet σ pl tn v := by
  subst hA; subst hB; subst hC; subst hE; rfl
theorem FRc.set {σ : MS} {pl : Nat} {tn : Int32} {v : V4} : FRc σ (kSet σ pl tn v) tn := ⟨rfl, fun k a b c => ((va_up_ne _ _ c).trans (va_up_ne _ _ b)).trans (va_up_ne _ _ a), fun p => by
  by_cases e : p = pl
  · subst e; exact Or.inr pk_us
  · exact Or.inl (pk_un e)⟩
theorem kSet_in {σ : MS} {pl : Nat} {tn : Int32} {v : V4} : (kSet σ pl tn v).2.1 4 pl = tn := pk_us
theorem TBc.set {σ : MS} {n r s tt : Nat} {net : Nat → Nat} {tn : Int32} (h : TBc σ n net r tn) (hs : vld n s) (ht : tt < 256) : TBc (kSet σ (sOf r s tt) tn (val net n r s (tof r tt))) n net r tn := by
  intro s' t' hv ht' hq
  by_cases e : sOf r s' t' = sOf r s tt
  · obtain ⟨e1, e2⟩ := sOf_inj hv hs ht' ht e
    rw [e, e1, e2]
    exact ⟨pk_uLs, pk_uLs, pk_us, pk_us⟩
  · have hq' : σ.2.1 4 (sOf r s' t') = tn := (show upd (σ.2.1 4) (sOf r s tt) tn (sOf r s' t') = _ from pk_un e).symm.trans hq
    obtain ⟨a1, a2, a3, a4⟩ := h s' t' hv ht' hq'
    exact ⟨(pk_uLn e).trans a1, (pk_uLn e).trans a2, (pk_un e).trans a3, (pk_un e).trans a4⟩
theorem val_1 {net : Nat → Nat} {n r s t : Nat} {x : V4} {B m : Nat} (hn : n < 5) (hs : vld n s) (e : x = vAcc (val net n r) net n r s t (4 * n)) (hx : vOk B m x) (hz : x.1 = 0) (b : Bool) (hb : exB n s = b) : val net n r s t = if b then (1, 1, 0, 1) else (1, x.2.1, x.2.2.1, x.2.2.2) := by
  rw [val_eq hn hs, vA_all hn, ← e, vEnd, if_pos hz, hb]
  have h1 : x.2.1 = 0 := by have := hx.2.1; omega
  have h2 := hx.2.2.1 h1
  rw [h1, h2.1, h2.2]
theorem val_2 {net : Nat → Nat} {n r s t : Nat} {x : V4} (hn : n < 5) (hs : vld n s) (e : x = vAcc (val net n r) net n r s t (4 * n)) (hz : ¬ x.1 = 0) : val net n r s t = x := by
  rw [val_eq hn hs, vA_all hn, ← e, vEnd, if_neg hz]
theorem vfew {B : Nat} {x : V4} (h : vOk B 15 x) : x.2.2.1 < 2000 := by
  by_cases e : x.2.1 = 0
  · rw [(h.2.2.1 e).1]; decide
  · have := (h.2.2.2 e).1; omega
theorem vmos {B : Nat} {x : V4} (h : vOk B 15 x) : x.2.2.2 < 2000 := by
  by_cases e : x.2.1 = 0
  · rw [(h.2.2.1 e).2]; decide
  · have := (h.2.2.2 e).2.2; omega
