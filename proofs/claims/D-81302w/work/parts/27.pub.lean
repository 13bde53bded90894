/-! PUB: what stays of the reference's state; answers out of the table of states -/
set_option maxRecDepth 100000
/-- what the public methods see stays -/
def PUm (σ σ' : MS) : Prop := σ'.1 0 = σ.1 0 ∧ σ'.1 1 = σ.1 1 ∧ σ'.1 5 = σ.1 5 ∧ σ'.1 9 = σ.1 9 ∧ σ'.2.1 2 = σ.2.1 2 ∧ σ'.2.1 3 = σ.2.1 3 ∧ σ'.2.1 4 = σ.2.1 4 ∧ σ'.2.1 6 = σ.2.1 6 ∧ σ'.2.1 10 = σ.2.1 10 ∧ σ'.2.1 11 = σ.2.1 11
theorem PUm.rf {σ : MS} : PUm σ σ := ⟨rfl, rfl, rfl, rfl, rfl, rfl, rfl, rfl, rfl, rfl⟩
theorem PUm.tr {σ σ1 σ2 : MS} (h : PUm σ σ1) (g : PUm σ1 σ2) : PUm σ σ2 := by
  obtain ⟨a1, a2, a3, a4, a5, a6, a7, a8, a9, a10⟩ := h
  obtain ⟨b1, b2, b3, b4, b5, b6, b7, b8, b9, b10⟩ := g
  exact ⟨b1.trans a1, b2.trans a2, b3.trans a3, b4.trans a4, b5.trans a5, b6.trans a6, b7.trans a7, b8.trans a8, b9.trans a9, b10.trans a10⟩
theorem FRm.pu {n d μ : Nat} {σ σ' : MS} (h : FRm n σ σ' d μ) : PUm σ σ' := by
  have k : ∀ k, k ≠ 12 → k ≠ 15 → k ≠ 16 → k ≠ 18 → k ≠ 19 → k ≠ 20 → σ'.2.1 k = σ.2.1 k := h.2.2.1
  exact ⟨by rw [h.1], by rw [h.1], by rw [h.1], by rw [h.1], k 2 (by decide) (by decide) (by decide) (by decide) (by decide) (by decide), k 3 (by decide) (by decide) (by decide) (by decide) (by decide) (by decide), k 4 (by decide) (by decide) (by decide) (by decide) (by decide) (by decide), k 6 (by decide) (by decide) (by decide) (by decide) (by decide) (by decide), k 10 (by decide) (by decide) (by decide) (by decide) (by decide) (by decide), k 11 (by decide) (by decide) (by decide) (by decide) (by decide) (by decide)⟩
theorem MG.pu {σ σ' : MS} {n nc : Nat} {net cp cq : Nat → Nat} (h : MG σ n net nc cp cq) (hp : PUm σ σ') : MG σ' n net nc cp cq := by
  obtain ⟨h1, h2, h3, h4, h5, h6⟩ := h
  obtain ⟨-, -, a3, a4, -, -, -, a8, a9, a10⟩ := hp
  exact ⟨h1, a3.trans h2, fun q hq => by rw [a8]; exact h3 q hq, h4, a4.trans h5, fun j hj => by rw [a9, a10]; exact h6 j hj⟩
/-- the turns: T have been, none later is seen -/
def SNm (σ : MS) (T : Nat) : Prop := σ.1 17 = nI T ∧ ∀ pl, ∃ x, x ≤ T ∧ σ.2.1 12 pl = nI x
theorem SNm.un {σ : MS} {T : Nat} (h : SNm σ T) (hT : T < 2 ^ 30) (pl : Nat) : ¬ σ.2.1 12 pl = nI (T + 1) := by
  obtain ⟨x, hx, e⟩ := h.2 pl
  rw [e]
  exact nI_ne (by omega) (by omega) (by omega)
theorem TBm.none {σ : MS} {n r : Nat} {net : Nat → Nat} {tn : Int32} (h : ∀ pl, ¬ σ.2.1 12 pl = tn) : TBm σ n net r tn := fun s t _ _ e => absurd e (h _)
theorem SNm.lay {n d μ : Nat} {σ σ0 σ' : MS} {T : Nat} (hF : FRm n σ0 σ' d μ) (h : SNm σ T) (e12 : σ0.2.1 12 = σ.2.1 12) (e17 : σ0.1 17 = nI (T + 1)) : SNm σ' (T + 1) := by
  refine ⟨by rw [hF.1]; exact e17, fun pl => ?_⟩
  rcases hF.2.2.2.2.2.2 pl with e | e
  · obtain ⟨x, hx, e2⟩ := h.2 pl
    exact ⟨x, by omega, by rw [e, e12]; exact e2⟩
  · exact ⟨T + 1, Nat.le_refl _, by rw [e]; exact e17⟩
theorem SNm.lay2 {n d μ : Nat} {σ σ' : MS} {T : Nat} (h : SNm σ T) (hF : FRm n σ σ' d μ) : SNm σ' T := by
  refine ⟨by rw [hF.1]; exact h.1, fun pl => ?_⟩
  rcases hF.2.2.2.2.2.2 pl with e | e
  · rw [e]; exact h.2 pl
  · exact ⟨T, Nat.le_refl _, by rw [e]; exact h.1⟩
theorem turn1 {σ : MS} {T : Nat} (h : SNm σ T) : σ.1 17 + 1 = nI (T + 1) := by rw [h.1]; exact nI_1 T
/-- behind a public method that lays: what is seen stays, the turns go on -/
def OTm (σ : MS) : Prop := ∀ q, q < 4 → ∃ x, x < 16 ∧ σ.2.1 28 q = nI x
def PTm (σ σ' : MS) (T : Nat) : Prop := PUm σ σ' ∧ (∃ T', T' ≤ T + 64 ∧ SNm σ' T') ∧ (OTm σ → OTm σ')
theorem PTm.rf {σ : MS} {T : Nat} (h : SNm σ T) : PTm σ σ T := ⟨PUm.rf, ⟨T, by omega, h⟩, id⟩
theorem OTm.of {σ σ' : MS} (e : σ'.2.1 28 = σ.2.1 28) (h : OTm σ) : OTm σ' := fun q hq => by rw [e]; exact h q hq
theorem FRm.ot {n d μ : Nat} {σ σ' : MS} (h : FRm n σ σ' d μ) : σ'.2.1 28 = σ.2.1 28 := h.2.2.1 28 (by decide) (by decide) (by decide) (by decide) (by decide) (by decide)
/-! answers -/
abbrev vNow (n : Nat) (net : Nat → Nat) (sx : Nat) (tk : Nat → Nat) (r : Nat) : V4 := val net n r sx (tk r)
def spRuns (n : Nat) (net : Nat → Nat) (sx : Nat) (tk : Nat → Nat) (rv wv : Int32) : Int64 :=
  if inR rv 0 3 = false then -9223372036854775808 else if inR wv 0 1 = false then -9223372036854775808 else if n = 0 then -9223372036854775808 else if wv = 0 then lN (vNow n net sx tk rv.toNatClampNeg).1 else lN (vNow n net sx tk rv.toNatClampNeg).2.1
def spVerdict (n : Nat) (net : Nat → Nat) (sx : Nat) (tk : Nat → Nat) (rv : Int32) : Int32 :=
  if inR rv 0 3 = false then -1 else if n = 0 then -3 else vrd (vNow n net sx tk rv.toNatClampNeg)
def spCalls (n : Nat) (net : Nat → Nat) (sx : Nat) (tk : Nat → Nat) (rv wv : Int32) : Int32 :=
  if inR rv 0 3 = false then -1 else if inR wv 0 1 = false then -2 else if n = 0 then -3 else if (vNow n net sx tk rv.toNatClampNeg).2.1 = 0 then -9 else if wv = 0 then nI (vNow n net sx tk rv.toNatClampNeg).2.2.1 else nI (vNow n net sx tk rv.toNatClampNeg).2.2.2 - 1
def spKeeps (n : Nat) (net : Nat → Nat) (sx : Nat) (tk : Nat → Nat) (rv v w : Int32) : Int32 :=
  if inR rv 0 3 = false then -1 else if inP v n = false then -1 else if inP w n = false then -1 else if v = w then -2 else if mayB net rv.toNatClampNeg sx (tk rv.toNatClampNeg) v.toNatClampNeg w.toNatClampNeg = false then -3
  else vrd (val net n rv.toNatClampNeg (aft sx v.toNatClampNeg w.toNatClampNeg) (tkA rv.toNatClampNeg (tk rv.toNatClampNeg) v.toNatClampNeg w.toNatClampNeg))
/-- whether a pair is the first step of a shortest way -/
def bstB (n : Nat) (net : Nat → Nat) (r sx tx k : Nat) : Bool :=
  okP net n r sx tx k && decide (¬ (val net n r (aft sx (k / 4) (k % 4)) (tkA r tx (k / 4) (k % 4))).2.1 = 0) && decide ((val net n r (aft sx (k / 4) (k % 4)) (tkA r tx (k / 4) (k % 4))).2.2.1 + 1 = (val net n r sx tx).2.2.1)
/-- the first such pair from k on, of f -/
def bstF (g : Nat → Bool) : Nat → Nat → Option Nat
  | 0, _ => none
  | f + 1, k => if g k = true then some k else bstF g f (k + 1)
def spBest (n : Nat) (net : Nat → Nat) (sx : Nat) (tk : Nat → Nat) (rv wv : Int32) : Int32 :=
  if inR rv 0 3 = false then -1 else if inR wv 0 1 = false then -2 else if n = 0 then -3 else if (vNow n net sx tk rv.toNatClampNeg).2.1 = 0 then -9
  else match bstF (bstB n net rv.toNatClampNeg sx (tk rv.toNatClampNeg)) 16 0 with
    | some k => if wv = 0 then nI (k / 4) else nI (k % 4)
    | none => -9
theorem bstF_t {g : Nat → Bool} {f k : Nat} (hf : 0 < f) (h : g k = true) : bstF g f k = some k := by
  cases f with
  | zero => omega
  | succ f => rw [bstF, if_pos h]
theorem bstF_f {g : Nat → Bool} {f k : Nat} (h : g k = false) : bstF g (f + 1) k = bstF g f (k + 1) := by
  rw [bstF, if_neg (by rw [h]; decide)]
