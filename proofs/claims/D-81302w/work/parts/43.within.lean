/-! WITHIN: all that can be come to by one rule, as plain facts -/
set_option maxRecDepth 100000
/-- what can be come to in so many calls by a rule; tokens go by rt -/
def rchK (n : Nat) (net : Nat → Nat) (r rt s0 t0 : Nat) : Nat → Nat → Nat → Prop
  | 0, s, t => s = s0 ∧ t = t0
  | k + 1, s, t => ∃ s' t' p q, rchK n net r rt s0 t0 k s' t' ∧ p < n ∧ q < n ∧ mayB net r s' t' p q = true ∧ s = aft s' p q ∧ t = tkA rt t' p q
def rch (n : Nat) (net : Nat → Nat) (r rt s0 t0 s t : Nat) : Prop := ∃ k, rchK n net r rt s0 t0 k s t
theorem rch.st {n : Nat} {net : Nat → Nat} {r rt s0 t0 s t p q : Nat} (h : rch n net r rt s0 t0 s t) (hp : p < n) (hq : q < n) (hm : mayB net r s t p q = true) : rch n net r rt s0 t0 (aft s p q) (tkA rt t p q) := by
  obtain ⟨k, hk⟩ := h
  exact ⟨k + 1, s, t, p, q, hk, hp, hq, hm, rfl, rfl⟩
/-- whether all calls by a rule may be by another one -/
def wiP (n : Nat) (net : Nat → Nat) (r o rt s0 t0 : Nat) : Prop := ∀ s t, rch n net r rt s0 t0 s t → ∀ p q, p < n → q < n → mayB net r s t p q = true → mayB net o s t p q = true
def qcd (s t : Nat) : Nat := s ||| t <<< 16
theorem qcd_eq {s t : Nat} (hs : s < 65536) : qcd s t = t * 65536 + s := by
  unfold qcd
  rw [Nat.or_comm, ← Nat.shiftLeft_add_eq_or_of_lt (i := 16) hs t, Nat.shiftLeft_eq]
theorem qcd_i {s t : Nat} (hs : s < 65536) (ht : t < 16) : nI s ||| (nI t <<< ((16 : Int32) &&& 31)) = nI (qcd s t) := by
  rw [show nI t <<< ((16 : Int32) &&& 31) = nI (t <<< 16) from nI_shl (k := 16) (by decide) (by omega), nI_or]; rfl
theorem qcd_s {s t : Nat} (hs : s < 65536) (ht : t < 16) : nI (qcd s t) &&& 65535 = nI s := by
  show nI (qcd s t) &&& nI 65535 = nI s
  rw [nI_and, qcd_eq hs, Nat.and_two_pow_sub_one_eq_mod (n := 16)]
  congr 1
  omega
theorem qcd_t {s t : Nat} (hs : s < 65536) (ht : t < 16) : nI (qcd s t) >>> ((16 : Int32) &&& 31) = nI t := by
  have h := nI_shr (a := qcd s t) (k := 16) (by rw [qcd_eq hs]; omega) (by decide)
  rw [show ((16 : Int32) &&& 31) = nI 16 &&& 31 from rfl, h, qcd_eq hs, Nat.shiftRight_eq_div_pow]
  congr 1
  omega
def fU (f : Nat → Nat) (k v : Nat) : Nat → Nat := fun j => if j = k then v else f j
theorem fU_s {f : Nat → Nat} {k v : Nat} : fU f k v k = v := if_pos rfl
theorem fU_n {f : Nat → Nat} {k v j : Nat} (h : ¬ j = k) : fU f k v j = f j := if_neg h
theorem cN_cg {g g' : Nat → Bool} : ∀ N, (∀ j, j < N → g j = g' j) → cN g N = cN g' N
  | 0, _ => rfl
  | N + 1, h => by
    show cN g N + _ = cN g' N + _
    rw [cN_cg N (fun j hj => h j (by omega)), h N (by omega)]
theorem cN_up {g g' : Nat → Bool} {pl : Nat} (h0 : g pl = false) (h1 : g' pl = true) (he : ∀ j, ¬ j = pl → g' j = g j) : ∀ N, pl < N → cN g' N = cN g N + 1
  | 0, h => by omega
  | N + 1, h => by
    by_cases e : pl = N
    · subst e
      rw [cN_t h1, cN_f h0, cN_cg pl (fun j hj => he j (by omega))]
    · show cN g' N + _ = cN g N + _ + 1
      rw [cN_up h0 h1 he N (by omega), he N (fun x => e x.symm)]
      omega
theorem cN_no {g : Nat → Bool} {N : Nat} (h : ∀ j, j < N → g j = false) : cN g N = 0 := by
  rw [cN_cg (g' := fun _ => false) N h]
  clear h
  induction N with
  | zero => rfl
  | succ N ih => rw [cN_f rfl, ih]
theorem cN_ls {g : Nat → Bool} {N pl : Nat} (h : pl < N) (h0 : g pl = false) : cN g N < N := by
  have h1 := cN_up (g := g) (g' := fun j => if j = pl then true else g j) h0 (if_pos rfl) (fun j hj => if_neg hj) N h
  have h2 := cN_le (fun j => if j = pl then true else g j) N
  omega
/-- the queue: what it has, what is seen, how far all is followed -/
def QIm (ω : MS) (n : Nat) (net : Nat → Nat) (r o rt s0 t0 : Nat) (tn : Int32) (la : Nat) (qs qt : Nat → Nat) (fi xi : Nat) : Prop :=
  (∀ j, j < la → ω.2.1 29 j = nI (qcd (qs j) (qt j)) ∧ vld n (qs j) ∧ qt j < 16 ∧ rch n net r rt s0 t0 (qs j) (qt j))
  ∧ (∀ s t, vld n s → t < 16 → ω.2.1 12 (plc s t) = tn → ∃ j, j < la ∧ qs j = s ∧ qt j = t)
  ∧ cN (fun pl => decide (ω.2.1 12 pl = tn)) 65536 = la
  ∧ ω.2.1 12 (plc s0 t0) = tn
  ∧ ∀ j x, j < la → x < 16 → (j < fi ∨ (j = fi ∧ x < xi)) → x / 4 < n → x % 4 < n → mayB net r (qs j) (qt j) (x / 4) (x % 4) = true →
      mayB net o (qs j) (qt j) (x / 4) (x % 4) = true ∧ ω.2.1 12 (plc (aft (qs j) (x / 4) (x % 4)) (tkA rt (qt j) (x / 4) (x % 4))) = tn
theorem QIm.le {ω : MS} {n : Nat} {net : Nat → Nat} {r o rt s0 t0 : Nat} {tn : Int32} {la : Nat} {qs qt : Nat → Nat} {fi xi : Nat} (h : QIm ω n net r o rt s0 t0 tn la qs qt fi xi) : la ≤ 65536 := by
  have := cN_le (fun pl => decide (ω.2.1 12 pl = tn)) 65536
  have e := h.2.2.1
  omega
theorem QIm.lt {ω : MS} {n : Nat} {net : Nat → Nat} {r o rt s0 t0 : Nat} {tn : Int32} {la : Nat} {qs qt : Nat → Nat} {fi xi pl : Nat} (h : QIm ω n net r o rt s0 t0 tn la qs qt fi xi) (hp : pl < 65536) (hn : ¬ ω.2.1 12 pl = tn) : la < 65536 := by
  have e := h.2.2.1
  rw [← e]
  exact cN_ls hp (decide_eq_false hn)
theorem QIm.nx {ω : MS} {n : Nat} {net : Nat → Nat} {r o rt s0 t0 : Nat} {tn : Int32} {la : Nat} {qs qt : Nat → Nat} {fi : Nat} (h : QIm ω n net r o rt s0 t0 tn la qs qt fi 16) : QIm ω n net r o rt s0 t0 tn la qs qt (fi + 1) 0 := by
  refine ⟨h.1, h.2.1, h.2.2.1, h.2.2.2.1, fun j x hj hx hc => h.2.2.2.2 j x hj hx ?_⟩
  omega
/-- a call that may not be, or that comes where one was -/
theorem QIm.sk {ω : MS} {n : Nat} {net : Nat → Nat} {r o rt s0 t0 : Nat} {tn : Int32} {la : Nat} {qs qt : Nat → Nat} {fi xi : Nat} (h : QIm ω n net r o rt s0 t0 tn la qs qt fi xi)
    (hc : xi / 4 < n → xi % 4 < n → mayB net r (qs fi) (qt fi) (xi / 4) (xi % 4) = true → mayB net o (qs fi) (qt fi) (xi / 4) (xi % 4) = true ∧ ω.2.1 12 (plc (aft (qs fi) (xi / 4) (xi % 4)) (tkA rt (qt fi) (xi / 4) (xi % 4))) = tn) : QIm ω n net r o rt s0 t0 tn la qs qt fi (xi + 1) := by
  refine ⟨h.1, h.2.1, h.2.2.1, h.2.2.2.1, fun j x hj hx hd => ?_⟩
  by_cases e : j = fi ∧ x = xi
  · obtain ⟨rfl, rfl⟩ := e; exact hc
  · exact h.2.2.2.2 j x hj hx (by omega)
/-- a new one is laid behind -/
theorem QIm.pu {ω : MS} {n : Nat} {net : Nat → Nat} {r o rt s0 t0 : Nat} {tn : Int32} {la : Nat} {qs qt : Nat → Nat} {fi xi s' t' : Nat} (h : QIm ω n net r o rt s0 t0 tn la qs qt fi xi) (hfi : fi < la)
    (hs : vld n s') (ht : t' < 16) (hr : rch n net r rt s0 t0 s' t') (hn : ¬ ω.2.1 12 (plc s' t') = tn) (ho : mayB net o (qs fi) (qt fi) (xi / 4) (xi % 4) = true) (es : s' = aft (qs fi) (xi / 4) (xi % 4)) (et : t' = tkA rt (qt fi) (xi / 4) (xi % 4)) :
    QIm ((ω.b 12 (upd (ω.2.1 12) (plc s' t') tn)).b 29 (upd (ω.2.1 29) la (nI (qcd s' t')))) n net r o rt s0 t0 tn (la + 1) (fU qs la s') (fU qt la t') fi (xi + 1) := by
  have hm : ∀ pl, ω.2.1 12 pl = tn → upd (ω.2.1 12) (plc s' t') tn pl = tn := by
    intro pl e
    by_cases h9 : pl = plc s' t'
    · rw [h9]; exact pk_us
    · exact (pk_un h9).trans e
  refine ⟨fun j hj => ?_, fun s t hvs hvt e => ?_, ?_, hm _ h.2.2.2.1, fun j x hj hx hd h1 h2 h3 => ?_⟩
  · show upd (ω.2.1 29) la (nI (qcd s' t')) j = _ ∧ _
    by_cases e : j = la
    · subst e; rw [fU_s, fU_s]; exact ⟨pk_us, hs, ht, hr⟩
    · rw [fU_n e, fU_n e, pk_un e]; exact h.1 j (by omega)
  · have e : upd (ω.2.1 12) (plc s' t') tn (plc s t) = tn := e
    by_cases h9 : plc s t = plc s' t'
    · obtain ⟨e1, e2⟩ := plc_inj hvs hs hvt ht h9
      exact ⟨la, by omega, by rw [fU_s, e1], by rw [fU_s, e2]⟩
    · rw [pk_un h9] at e
      obtain ⟨j, hj, e1, e2⟩ := h.2.1 s t hvs hvt e
      exact ⟨j, by omega, by rw [fU_n (by omega), e1], by rw [fU_n (by omega), e2]⟩
  · rw [← h.2.2.1]
    exact cN_up (pl := plc s' t') (decide_eq_false hn) (decide_eq_true (show upd (ω.2.1 12) (plc s' t') tn (plc s' t') = tn from pk_us)) (fun j hj => by
      show decide (upd (ω.2.1 12) (plc s' t') tn j = tn) = decide (ω.2.1 12 j = tn)
      rw [pk_un hj]) 65536 (plc_lt _ _)
  · have hjl : ¬ j = la := by omega
    rw [fU_n hjl, fU_n hjl] at h3 ⊢
    by_cases e : j = fi ∧ x = xi
    · obtain ⟨rfl, rfl⟩ := e
      refine ⟨ho, ?_⟩
      show upd (ω.2.1 12) (plc s' t') tn _ = tn
      rw [← es, ← et]; exact pk_us
    · have h5 := h.2.2.2.2 j x (by omega) hx (by omega) h1 h2 h3
      exact ⟨h5.1, hm _ h5.2⟩
theorem QIm.all {ω : MS} {n : Nat} {net : Nat → Nat} {r o rt s0 t0 : Nat} {tn : Int32} {la : Nat} {qs qt : Nat → Nat} {fi : Nat} (hn : n < 5) (h0 : vld n s0) (ht0 : t0 < 16) (h : QIm ω n net r o rt s0 t0 tn la qs qt fi 0) (hf : la ≤ fi) : wiP n net r o rt s0 t0 := by
  have hk : ∀ p q, p < n → q < n → ∃ x, x < 16 ∧ x / 4 = p ∧ x % 4 = q := fun p q hp hq => ⟨4 * p + q, by omega, by omega, by omega⟩
  have hall : ∀ k s t, rchK n net r rt s0 t0 k s t → vld n s ∧ t < 16 ∧ ω.2.1 12 (plc s t) = tn := by
    intro k
    induction k with
    | zero => intro s t e; obtain ⟨rfl, rfl⟩ := e; exact ⟨h0, ht0, h.2.2.2.1⟩
    | succ k ih =>
      intro s t e
      obtain ⟨s', t', p, q, hr, hp, hq, hm, rfl, rfl⟩ := e
      obtain ⟨hv, ht, he⟩ := ih s' t' hr
      obtain ⟨j, hj, rfl, rfl⟩ := h.2.1 s' t' hv ht he
      obtain ⟨x, hx, rfl, rfl⟩ := hk p q hp hq
      exact ⟨vld_aft hn hv hp hq, tkA_lt ht (by omega), (h.2.2.2.2 j x hj hx (Or.inl (by omega)) hp hq hm).2⟩
  intro s t hr p q hp hq hm
  obtain ⟨k, hr⟩ := hr
  obtain ⟨hv, ht, he⟩ := hall k s t hr
  obtain ⟨j, hj, rfl, rfl⟩ := h.2.1 s t hv ht he
  obtain ⟨x, hx, rfl, rfl⟩ := hk p q hp hq
  exact (h.2.2.2.2 j x hj hx (Or.inl (by omega)) hp hq hm).1
theorem QIm.in0 {ω : MS} {n : Nat} {net : Nat → Nat} {r o rt s0 t0 : Nat} {tn : Int32} (h0 : vld n s0) (ht : t0 < 16) (hu : ∀ pl, ¬ ω.2.1 12 pl = tn) :
    QIm ((ω.b 29 (upd (ω.2.1 29) 0 (nI (qcd s0 t0)))).b 12 (upd (ω.2.1 12) (plc s0 t0) tn)) n net r o rt s0 t0 tn 1 (fun _ => s0) (fun _ => t0) 0 0 := by
  refine ⟨fun j hj => ?_, fun s t hvs hvt e => ?_, ?_, pk_us, fun j x hj hx hd => ?_⟩
  · rw [show j = 0 by omega]; exact ⟨show upd (ω.2.1 29) 0 (nI (qcd s0 t0)) 0 = _ from pk_us, h0, ht, 0, rfl, rfl⟩
  · have e : upd (ω.2.1 12) (plc s0 t0) tn (plc s t) = tn := e
    by_cases h9 : plc s t = plc s0 t0
    · obtain ⟨e1, e2⟩ := plc_inj hvs h0 hvt ht h9
      exact ⟨0, by omega, e1.symm, e2.symm⟩
    · rw [pk_un h9] at e; exact absurd e (hu _)
  · have h1 := cN_up (g := fun pl => decide (ω.2.1 12 pl = tn)) (g' := fun pl => decide (upd (ω.2.1 12) (plc s0 t0) tn pl = tn)) (pl := plc s0 t0) (decide_eq_false (hu _)) (decide_eq_true pk_us) (fun j hj => by
      show decide (upd (ω.2.1 12) (plc s0 t0) tn j = tn) = decide (ω.2.1 12 j = tn)
      rw [pk_un hj]) 65536 (plc_lt _ _)
    rw [cN_no (fun j _ => decide_eq_false (hu j))] at h1
    exact h1
  · omega
/-- only marks and the queue have changed -/
def WFm (σ σ' : MS) : Prop := (∀ k, k ≠ 17 → k ≠ 22 → k ≠ 23 → σ'.1 k = σ.1 k) ∧ ∀ k, k ≠ 12 → k ≠ 29 → σ'.2.1 k = σ.2.1 k
theorem WFm.b {σ σ' : MS} {f g : Nat → Int32} (h : WFm σ σ') : WFm σ ((σ'.b 12 f).b 29 g) := ⟨h.1, fun k a b => ((va_up_ne _ _ b).trans (va_up_ne _ _ a)).trans (h.2 k a b)⟩
theorem WFm.b2 {σ σ' : MS} {f g : Nat → Int32} (h : WFm σ σ') : WFm σ ((σ'.b 29 f).b 12 g) := ⟨h.1, fun k a b => ((va_up_ne _ _ a).trans (va_up_ne _ _ b)).trans (h.2 k a b)⟩
theorem WFm.lk {σ : MS} {x y z : Int32} {b : Nat} : WFm σ ((((σ.i 17 x).r b).i 22 y).i 23 z) := ⟨fun k a b c => ((va_up_ne _ _ c).trans (va_up_ne _ _ b)).trans (va_up_ne _ _ a), fun _ _ _ => rfl⟩
theorem WFm.pu {σ σ' : MS} (h : WFm σ σ') : PUm σ σ' := ⟨h.1 0 (by decide) (by decide) (by decide), h.1 1 (by decide) (by decide) (by decide), h.1 5 (by decide) (by decide) (by decide), h.1 9 (by decide) (by decide) (by decide), h.2 2 (by decide) (by decide), h.2 3 (by decide) (by decide), h.2 4 (by decide) (by decide), h.2 6 (by decide) (by decide), h.2 10 (by decide) (by decide), h.2 11 (by decide) (by decide)⟩
/-- marks are of turns that were -/
def SN2 (ω : MS) (T : Nat) : Prop := ω.1 17 = nI (T + 1) ∧ ∀ pl, ∃ x, x ≤ T + 1 ∧ ω.2.1 12 pl = nI x
theorem SN2.b {ω : MS} {T pl : Nat} {g : Nat → Int32} (h : SN2 ω T) : SN2 ((ω.b 12 (upd (ω.2.1 12) pl (nI (T + 1)))).b 29 g) T := by
  refine ⟨h.1, fun p => ?_⟩
  show ∃ x, x ≤ T + 1 ∧ upd (ω.2.1 12) pl (nI (T + 1)) p = nI x
  by_cases e : p = pl
  · subst e; exact ⟨T + 1, by omega, pk_us⟩
  · rw [pk_un e]; exact h.2 p
theorem SN2.b2 {ω : MS} {T pl : Nat} {g : Nat → Int32} (h : SN2 ω T) : SN2 ((ω.b 29 g).b 12 (upd (ω.2.1 12) pl (nI (T + 1)))) T := by
  refine ⟨h.1, fun p => ?_⟩
  show ∃ x, x ≤ T + 1 ∧ upd (ω.2.1 12) pl (nI (T + 1)) p = nI x
  by_cases e : p = pl
  · subst e; exact ⟨T + 1, by omega, pk_us⟩
  · rw [pk_un e]; exact h.2 p
theorem SN2.pt {σ ω : MS} {T : Nat} (h : SN2 ω T) (hw : WFm σ ω) : PTm σ ω T := ⟨hw.pu, ⟨T + 1, by omega, h⟩, OTm.of (hw.2 28 (by decide) (by decide))⟩
/-- the rule whose tokens count -/
def wrt (r o : Nat) : Nat := if 1 < r then r else o
theorem wrt_lt {r o : Nat} (hr : r < 4) (ho : o < 4) : wrt r o < 4 := by unfold wrt; split <;> omega
/-- what within answers -/
def WAm (n : Nat) (net : Nat → Nat) (s0 : Nat) (tk : Nat → Nat) (rv ov : Int32) (v : Int32) : Prop :=
  if inR rv 0 3 = false then v = -1 else if inR ov 0 3 = false then v = -1
  else if 1 < rv.toNatClampNeg ∧ 1 < ov.toNatClampNeg ∧ ¬ rv.toNatClampNeg = ov.toNatClampNeg then v = -2
  else if n = 0 then v = -3
  else (v = 1 ∧ wiP n net rv.toNatClampNeg ov.toNatClampNeg (wrt rv.toNatClampNeg ov.toNatClampNeg) s0 (tk (wrt rv.toNatClampNeg ov.toNatClampNeg)))
    ∨ (v = 0 ∧ ¬ wiP n net rv.toNatClampNeg ov.toNatClampNeg (wrt rv.toNatClampNeg ov.toNatClampNeg) s0 (tk (wrt rv.toNatClampNeg ov.toNatClampNeg)))
theorem WAm.u {n : Nat} {net : Nat → Nat} {s0 : Nat} {tk : Nat → Nat} {rv ov v v' : Int32} (h : WAm n net s0 tk rv ov v) (h' : WAm n net s0 tk rv ov v') : v = v' := by
  unfold WAm at h h'
  split at h
  · rename_i e; rw [if_pos e] at h'; rw [h, h']
  · rename_i e; rw [if_neg e] at h'
    split at h
    · rename_i e; rw [if_pos e] at h'; rw [h, h']
    · rename_i e; rw [if_neg e] at h'
      split at h
      · rename_i e; rw [if_pos e] at h'; rw [h, h']
      · rename_i e; rw [if_neg e] at h'
        split at h
        · rename_i e; rw [if_pos e] at h'; rw [h, h']
        · rename_i e; rw [if_neg e] at h'
          rcases h with ⟨a, b⟩ | ⟨a, b⟩ <;> rcases h' with ⟨c, d⟩ | ⟨c, d⟩
          · rw [a, c]
          · exact absurd b d
          · exact absurd d b
          · rw [a, c]
theorem WAm.i {n : Nat} {net : Nat → Nat} {s0 : Nat} {tk : Nat → Nat} {r o : Nat} {v : Int32} (hr : r < 4) (ho : o < 4) : WAm n net s0 tk (nI r) (nI o) v ↔ if 1 < r ∧ 1 < o ∧ ¬ r = o then v = -2 else if n = 0 then v = -3 else (v = 1 ∧ wiP n net r o (wrt r o) s0 (tk (wrt r o))) ∨ (v = 0 ∧ ¬ wiP n net r o (wrt r o) s0 (tk (wrt r o))) := by
  unfold WAm
  rw [nI_clamp (by omega), nI_clamp (by omega), if_neg (by rw [show inR (nI r) 0 3 = true from inR_nI (k := 3) (by omega) (by decide)]; decide), if_neg (by rw [show inR (nI o) 0 3 = true from inR_nI (k := 3) (by omega) (by decide)]; decide)]
