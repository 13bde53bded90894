/-! CWI: within, as the component goes down into it: marks, and what they say -/
set_option maxRecDepth 100000
def pW (rr s t : Nat) : Nat := 16 * soA s 15 + (if rr < 2 then 0 else t)
theorem sOf_pW {rr s tt : Nat} : sOf rr s tt = pW rr s (tof rr tt) := rfl
def okT (rr t : Nat) : Prop := t < 16 ∧ (rr < 2 → t = 15)
theorem okT_of {rr tt : Nat} (h : tt < 256) : okT rr (tof rr tt) := ⟨tof_lt h, fun h2 => tof_01 h2⟩
theorem okT_s {rr t p q : Nat} (h : okT rr t) (hq : q < 4) : okT rr (tkA rr t p q) := by
  refine ⟨tkA_lt h.1 hq, fun h2 => ?_⟩
  unfold tkA
  rw [if_neg (by omega), if_neg (by omega)]
  exact h.2 h2
theorem pW_inj {n rr s s' t t' : Nat} (hs : vld n s) (hs' : vld n s') (ht : okT rr t) (ht' : okT rr t') (h : pW rr s t = pW rr s' t') : s = s' ∧ t = t' := by
  unfold pW at h
  have h1 := ht.1
  have h2 := ht'.1
  by_cases hr : rr < 2
  · rw [if_pos hr, if_pos hr] at h
    exact ⟨soA_inj hs hs' (by omega), by rw [ht.2 hr, ht'.2 hr]⟩
  · rw [if_neg hr, if_neg hr] at h
    exact ⟨soA_inj hs hs' (by omega), by omega⟩
theorem mayB_01 {net : Nat → Nat} {r s t t' p q : Nat} (h : r < 2) : mayB net r s t p q = mayB net r s t' p q := by
  unfold mayB
  by_cases h1 : r = 1
  · simp only [if_pos h1]
  · simp only [if_pos (show r = 0 by omega)]
theorem mayB_rr {net : Nat → Nat} {r rr s tt p q : Nat} (h : r = rr ∨ r < 2) : mayB net r s (tof r tt) p q = mayB net r s (tof rr tt) p q := by
  rcases h with rfl | h
  · rfl
  · exact mayB_01 h
/-- all calls from here may be by the other, and where they come to is marked -/
def clW (n : Nat) (net : Nat → Nat) (r o rr : Nat) (M : Nat → Int32) (tn : Int32) (s t : Nat) : Prop := ∀ p q, p < n → q < n → mayB net r s t p q = true → mayB net o s t p q = true ∧ M (pW rr (aft s p q) (tkA rr t p q)) = tn
theorem clW.mono {n : Nat} {net : Nat → Nat} {r o rr : Nat} {M M' : Nat → Int32} {tn : Int32} {s t : Nat} (hm : ∀ pl, M pl = tn → M' pl = tn) (h : clW n net r o rr M tn s t) : clW n net r o rr M' tn s t := fun p q hp hq hr => ⟨(h p q hp hq hr).1, hm _ (h p q hp hq hr).2⟩
/-- all that is newly marked is closed -/
def WTc (σ ω : MS) (tn : Int32) (n : Nat) (net : Nat → Nat) (r o rr : Nat) : Prop := ∀ s t, vld n s → okT rr t → ω.2.1 4 (pW rr s t) = tn → ¬ σ.2.1 4 (pW rr s t) = tn → clW n net r o rr (ω.2.1 4) tn s t
/-- a call that may not be by the other can be come to -/
def vio (n : Nat) (net : Nat → Nat) (r o rr s t : Nat) : Prop := ∃ k s' t' p q, rchK n net r rr s t k s' t' ∧ p < n ∧ q < n ∧ mayB net r s' t' p q = true ∧ mayB net o s' t' p q = false
theorem rchK_pre {n : Nat} {net : Nat → Nat} {r rr s t p q : Nat} (hp : p < n) (hq : q < n) (hm : mayB net r s t p q = true) : ∀ k s' t', rchK n net r rr (aft s p q) (tkA rr t p q) k s' t' → rchK n net r rr s t (k + 1) s' t'
  | 0, s', t', h => ⟨s, t, p, q, ⟨rfl, rfl⟩, hp, hq, hm, h.1, h.2⟩
  | k + 1, s', t', h => by
    obtain ⟨s2, t2, p2, q2, h1, h2⟩ := h
    exact ⟨s2, t2, p2, q2, rchK_pre hp hq hm k s2 t2 h1, h2⟩
theorem vio_here {n : Nat} {net : Nat → Nat} {r o rr s t p q : Nat} (hp : p < n) (hq : q < n) (hm : mayB net r s t p q = true) (ho : mayB net o s t p q = false) : vio n net r o rr s t := ⟨0, s, t, p, q, ⟨rfl, rfl⟩, hp, hq, hm, ho⟩
theorem vio_step {n : Nat} {net : Nat → Nat} {r o rr s t p q : Nat} (hp : p < n) (hq : q < n) (hm : mayB net r s t p q = true) (h : vio n net r o rr (aft s p q) (tkA rr t p q)) : vio n net r o rr s t := by
  obtain ⟨k, s', t', p', q', h1, h2⟩ := h
  exact ⟨k + 1, s', t', p', q', rchK_pre hp hq hm k s' t' h1, h2⟩
theorem FRc.mono {σ ω : MS} {tn : Int32} (h : FRc σ ω tn) : ∀ pl, σ.2.1 4 pl = tn → ω.2.1 4 pl = tn := fun pl e => by
  rcases h.2.2 pl with h | h
  · rw [h]; exact e
  · exact h
/-- while the calls of a state are gone through -/
def WIw (σ ω : MS) (tn : Int32) (n : Nat) (net : Nat → Nat) (r o rr sx t k : Nat) : Prop := FRc σ ω tn ∧ ω.2.1 4 (pW rr sx t) = tn ∧
  (∀ s t', vld n s → okT rr t' → ω.2.1 4 (pW rr s t') = tn → ¬ σ.2.1 4 (pW rr s t') = tn → ¬ (s = sx ∧ t' = t) → clW n net r o rr (ω.2.1 4) tn s t') ∧
  ∀ x, x < k → x / 4 < n → x % 4 < n → mayB net r sx t (x / 4) (x % 4) = true → mayB net o sx t (x / 4) (x % 4) = true ∧ ω.2.1 4 (pW rr (aft sx (x / 4) (x % 4)) (tkA rr t (x / 4) (x % 4))) = tn
theorem WIw.a {σ : MS} {tn : Int32} {n : Nat} {net : Nat → Nat} {r o rr sx t : Nat} (hs : vld n sx) (ht : okT rr t) : WIw σ (σ.b 4 (upd (σ.2.1 4) (pW rr sx t) tn)) tn n net r o rr sx t 0 := by
  refine ⟨⟨rfl, fun k a _ _ => va_up_ne _ _ a, fun pl => ?_⟩, pk_us, fun s t' hv ht' hm hn hne => ?_, fun x hx => absurd hx (Nat.not_lt_zero x)⟩
  · show upd (σ.2.1 4) (pW rr sx t) tn pl = _ ∨ upd (σ.2.1 4) (pW rr sx t) tn pl = tn
    by_cases e : pl = pW rr sx t
    · subst e; exact Or.inr pk_us
    · exact Or.inl (pk_un e)
  · exfalso
    by_cases e : pW rr s t' = pW rr sx t
    · exact hne (pW_inj hv hs ht' ht e)
    · exact hn ((pk_un e).symm.trans hm)
theorem WIw.f {σ ω : MS} {tn : Int32} {n : Nat} {net : Nat → Nat} {r o rr sx t p q : Nat} (h : WIw σ ω tn n net r o rr sx t (4 * p + q)) (hq : q < 4) (hm : mayB net r sx t p q = false) : WIw σ ω tn n net r o rr sx t (4 * p + (q + 1)) := by
  refine ⟨h.1, h.2.1, h.2.2.1, fun x hx h1 h2 h3 => ?_⟩
  by_cases e : x = 4 * p + q
  · subst e
    rw [show (4 * p + q) / 4 = p by omega, show (4 * p + q) % 4 = q by omega, hm] at h3
    cases h3
  · exact h.2.2.2 x (by omega) h1 h2 h3
theorem WIw.t {σ ω ω' : MS} {tn : Int32} {n : Nat} {net : Nat → Nat} {r o rr sx t p q : Nat} (h : WIw σ ω tn n net r o rr sx t (4 * p + q)) (hq : q < 4) (ho : mayB net o sx t p q = true) (hF : FRc ω ω' tn) (hc : ω'.2.1 4 (pW rr (aft sx p q) (tkA rr t p q)) = tn) (hW : WTc ω ω' tn n net r o rr) : WIw σ ω' tn n net r o rr sx t (4 * p + (q + 1)) := by
  refine ⟨h.1.tr hF, hF.mono _ h.2.1, fun s t' hv ht' hm hn hne => ?_, fun x hx h1 h2 h3 => ?_⟩
  · by_cases e : ω.2.1 4 (pW rr s t') = tn
    · exact (h.2.2.1 s t' hv ht' e hn hne).mono hF.mono
    · exact hW s t' hv ht' hm e
  · by_cases e : x = 4 * p + q
    · subst e
      rw [show (4 * p + q) / 4 = p by omega, show (4 * p + q) % 4 = q by omega]
      exact ⟨ho, hc⟩
    · have h4 := h.2.2.2 x (by omega) h1 h2 h3
      exact ⟨h4.1, hF.mono _ h4.2⟩
theorem WIw.r {σ ω : MS} {tn : Int32} {n : Nat} {net : Nat → Nat} {r o rr sx t p : Nat} (h : WIw σ ω tn n net r o rr sx t (4 * p + n)) : WIw σ ω tn n net r o rr sx t (4 * (p + 1)) :=
  ⟨h.1, h.2.1, h.2.2.1, fun x hx h1 h2 => h.2.2.2 x (by omega) h1 h2⟩
theorem WIw.e {σ ω : MS} {tn : Int32} {n : Nat} {net : Nat → Nat} {r o rr sx t : Nat} (hn : n < 5) (h : WIw σ ω tn n net r o rr sx t (4 * n)) : ω.2.1 4 (pW rr sx t) = tn ∧ WTc σ ω tn n net r o rr := by
  refine ⟨h.2.1, fun s t' hv ht' hm hno => ?_⟩
  by_cases e : s = sx ∧ t' = t
  · obtain ⟨rfl, rfl⟩ := e
    intro p q hp hq hr
    have h1 := h.2.2.2 (4 * p + q) (by omega)
    rw [show (4 * p + q) / 4 = p by omega, show (4 * p + q) % 4 = q by omega] at h1
    exact h1 hp hq hr
  · exact h.2.2.1 s t' hv ht' hm hno e
/-- from nothing marked: all that can be come to is marked, and no call is one too many -/
theorem WTc.wi {σ ω : MS} {tn : Int32} {n : Nat} {net : Nat → Nat} {r o rr s0 t0 : Nat} (hn : n < 5) (hs : vld n s0) (ht : okT rr t0) (hu : ∀ pl, ¬ σ.2.1 4 pl = tn) (h0 : ω.2.1 4 (pW rr s0 t0) = tn) (h : WTc σ ω tn n net r o rr) : wiP n net r o rr s0 t0 := by
  have hall : ∀ k s t, rchK n net r rr s0 t0 k s t → vld n s ∧ okT rr t ∧ ω.2.1 4 (pW rr s t) = tn := by
    intro k
    induction k with
    | zero => intro s t e; obtain ⟨rfl, rfl⟩ := e; exact ⟨hs, ht, h0⟩
    | succ k ih =>
      intro s t e
      obtain ⟨s', t', p, q, hr, hp, hq, hm, rfl, rfl⟩ := e
      obtain ⟨a1, a2, a3⟩ := ih s' t' hr
      exact ⟨vld_aft hn a1 hp hq, okT_s a2 (by omega), (h s' t' a1 a2 a3 (hu _) p q hp hq hm).2⟩
  intro s t hr p q hp hq hm
  obtain ⟨k, hr⟩ := hr
  obtain ⟨a1, a2, a3⟩ := hall k s t hr
  exact (h s t a1 a2 a3 (hu _) p q hp hq hm).1
theorem vio.wi {n : Nat} {net : Nat → Nat} {r o rr s0 t0 : Nat} (h : vio n net r o rr s0 t0) : ¬ wiP n net r o rr s0 t0 := by
  intro hw
  obtain ⟨k, s', t', p, q, h1, h2, h3, h4, h5⟩ := h
  rw [hw s' t' ⟨k, h1⟩ p q h2 h3 h4] at h5
  cases h5
/-- which tokens count does not matter where no rule looks at them -/
theorem rchK_rt {n : Nat} {net : Nat → Nat} {r rt rt' s0 t0 : Nat} (h : rt < 2) (h' : rt' < 2) : ∀ k s t, rchK n net r rt s0 t0 k s t → rchK n net r rt' s0 t0 k s t
  | 0, _, _, e => e
  | k + 1, s, t, e => by
    obtain ⟨s', t', p, q, hr, hp, hq, hm, h1, h2⟩ := e
    refine ⟨s', t', p, q, rchK_rt h h' k s' t' hr, hp, hq, hm, h1, ?_⟩
    rw [h2]
    unfold tkA
    rw [if_neg (by omega), if_neg (by omega), if_neg (by omega), if_neg (by omega)]
theorem wiP_rt {n : Nat} {net : Nat → Nat} {r o rt rt' s0 t0 : Nat} (h : rt = rt' ∨ (rt < 2 ∧ rt' < 2)) (hw : wiP n net r o rt s0 t0) : wiP n net r o rt' s0 t0 := by
  rcases h with rfl | h
  · exact hw
  · intro s t hr
    obtain ⟨k, hr⟩ := hr
    exact hw s t ⟨k, rchK_rt h.2 h.1 k s t hr⟩
def wmx (r o : Nat) : Nat := if r < o then o else r
theorem wmx_I {r o : Nat} (hr : r < 4) (ho : o < 4) : mxI (nI r) (nI o) = nI (wmx r o) := by
  unfold mxI wmx
  by_cases h : r < o
  · rw [if_pos (nI_lt h (by omega)), if_pos h]
  · rw [if_neg (nI_nlt (by omega) (by omega)), if_neg h]
theorem wmx_lt {r o : Nat} (hr : r < 4) (ho : o < 4) : wmx r o < 4 := by unfold wmx; split <;> omega
theorem wmx_ok {r o : Nat} (h : ¬ (1 < r ∧ 1 < o ∧ ¬ r = o)) : (r = wmx r o ∨ r < 2) ∧ (o = wmx r o ∨ o < 2) ∧ (wmx r o = wrt r o ∨ (wmx r o < 2 ∧ wrt r o < 2)) := by
  unfold wmx wrt
  split <;> split <;> omega
theorem tof_e {a b x : Nat} (h : a = b ∨ (a < 2 ∧ b < 2)) : tof a x = tof b x := by
  rcases h with rfl | h
  · rfl
  · rw [tof_01 h.1, tof_01 h.2]
theorem wi_tok {n : Nat} {net : Nat → Nat} {r o s0 tt t0 : Nat} (h : ¬ (1 < r ∧ 1 < o ∧ ¬ r = o)) (ht : tkE n (tof (wrt r o) tt) t0) : wiP n net r o (wmx r o) s0 (tof (wmx r o) tt) ↔ wiP n net r o (wrt r o) s0 t0 := by
  have h3 := (wmx_ok h).2.2
  rw [tof_e h3]
  constructor
  · intro hw; exact wiP_tok ht (wiP_rt h3 hw)
  · intro hw
    refine wiP_rt (h3.imp Eq.symm And.symm) (wiP_tok (fun p hp => (ht p hp).symm) hw)
