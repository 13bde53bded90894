/-! LAYP: facts that the reference's 'lay' keeps -/
set_option maxRecDepth 100000
/-- what is looked at: the net in the array kk, of n persons, by the rule r, in the turn tn -/
def LKm (a : Nat → Nat) (σ : MS) (n : Nat) (net : Nat → Nat) (r : Nat) (tn : Int32) (kk : Nat) : Prop :=
  σ.2.2.2 = a kk ∧ (kk = 6 ∨ kk = 28) ∧ (∀ q, q < 4 → σ.2.1 kk q = nI (net q) ∧ net q < 16) ∧ σ.1 22 = nI n ∧ σ.1 23 = nI r ∧ σ.1 17 = tn
/-- what is seen in this turn is right -/
def TBm (σ : MS) (n : Nat) (net : Nat → Nat) (r : Nat) (tn : Int32) : Prop := ∀ s t, vld n s → t < 16 → σ.2.1 12 (plc s t) = tn → LPv σ (plc s t) (val net n r s t) ∧ ∀ i, i < 16 → okP net n r s t i = true → σ.2.1 12 (plc (aft s (i / 4) (i % 4)) (tkA r t (i / 4) (i % 4))) = tn
/-- what is laid of a state: the sum of the first j pairs; their states are seen -/
def PAm (σ : MS) (n : Nat) (net : Nat → Nat) (r : Nat) (tn : Int32) (s t j : Nat) : Prop := LPv σ (plc s t) (vAcc (val net n r) net n r s t j) ∧ ∀ i, i < j → okP net n r s t i = true → σ.2.1 12 (plc (aft s (i / 4) (i % 4)) (tkA r t (i / 4) (i % 4))) = tn
/-- what is gone down into -/
def LFm (σ : MS) (d s t j : Nat) : Prop := σ.2.1 18 d = nI s ∧ σ.2.1 19 d = nI t ∧ σ.2.1 20 d = nI j
/-- the same at a place -/
def SPm (σ σ' : MS) (pl : Nat) : Prop := σ'.2.1 12 pl = σ.2.1 12 pl ∧ σ'.2.1 15 pl = σ.2.1 15 pl ∧ σ'.2.1 16 pl = σ.2.1 16 pl ∧ σ'.2.2.1 13 pl = σ.2.2.1 13 pl ∧ σ'.2.2.1 14 pl = σ.2.2.1 14 pl
/-- changed: only the table at states of measure at most μ, and what is gone down into from d on -/
def FRm (n : Nat) (σ σ' : MS) (d μ : Nat) : Prop :=
  σ'.1 = σ.1 ∧ σ'.2.2.2 = σ.2.2.2 ∧ (∀ k, k ≠ 12 → k ≠ 15 → k ≠ 16 → k ≠ 18 → k ≠ 19 → k ≠ 20 → σ'.2.1 k = σ.2.1 k) ∧ (∀ k, k ≠ 13 → k ≠ 14 → σ'.2.2.1 k = σ.2.2.1 k) ∧
  (∀ i, i < d → σ'.2.1 18 i = σ.2.1 18 i ∧ σ'.2.1 19 i = σ.2.1 19 i ∧ σ'.2.1 20 i = σ.2.1 20 i) ∧ (∀ s t, vld n s → t < 16 → μ < mu s → SPm σ σ' (plc s t)) ∧ ∀ pl, σ'.2.1 12 pl = σ.2.1 12 pl ∨ σ'.2.1 12 pl = σ.1 17
theorem FRm.rf {n : Nat} {σ : MS} {d μ : Nat} : FRm n σ σ d μ := ⟨rfl, rfl, fun _ _ _ _ _ _ _ => rfl, fun _ _ _ => rfl, fun _ _ => ⟨rfl, rfl, rfl⟩, fun _ _ _ _ _ => ⟨rfl, rfl, rfl, rfl, rfl⟩, fun _ => Or.inl rfl⟩
theorem FRm.tr {n : Nat} {σ σ1 σ2 : MS} {d μ : Nat} (h1 : FRm n σ σ1 d μ) (h2 : FRm n σ1 σ2 d μ) : FRm n σ σ2 d μ := by
  obtain ⟨a1, a2, a3, a4, a5, a6, a7⟩ := h1
  obtain ⟨b1, b2, b3, b4, b5, b6, b7⟩ := h2
  refine ⟨b1.trans a1, b2.trans a2, fun k c1 c2 c3 c4 c5 c6 => (b3 k c1 c2 c3 c4 c5 c6).trans (a3 k c1 c2 c3 c4 c5 c6), fun k c1 c2 => (b4 k c1 c2).trans (a4 k c1 c2), fun i hi => ?_, fun s t hv ht hm => ?_, fun pl => ?_⟩
  · exact ⟨(b5 i hi).1.trans (a5 i hi).1, (b5 i hi).2.1.trans (a5 i hi).2.1, (b5 i hi).2.2.trans (a5 i hi).2.2⟩
  · obtain ⟨x1, x2, x3, x4, x5⟩ := a6 s t hv ht hm
    obtain ⟨y1, y2, y3, y4, y5⟩ := b6 s t hv ht hm
    exact ⟨y1.trans x1, y2.trans x2, y3.trans x3, y4.trans x4, y5.trans x5⟩
  · rcases b7 pl with h | h
    · rw [h]; exact a7 pl
    · right; rw [h, a1]
theorem FRm.wk {n : Nat} {σ σ' : MS} {d d' μ μ' : Nat} (h : FRm n σ σ' d' μ') (hd : d ≤ d') (hm : μ' ≤ μ) : FRm n σ σ' d μ :=
  ⟨h.1, h.2.1, h.2.2.1, h.2.2.2.1, fun i hi => h.2.2.2.2.1 i (by omega), fun s t hv ht hq => h.2.2.2.2.2.1 s t hv ht (by omega), h.2.2.2.2.2.2⟩
theorem LKm.fr {a : Nat → Nat} {n r kk d μ : Nat} {net : Nat → Nat} {tn : Int32} {σ σ' : MS} (h : LKm a σ n net r tn kk) (hF : FRm n σ σ' d μ) : LKm a σ' n net r tn kk := by
  obtain ⟨h1, h2, h3, h4, h5, h6⟩ := h
  have e : σ'.2.1 kk = σ.2.1 kk := by
    rcases h2 with rfl | rfl
    · exact hF.2.2.1 6 (by decide) (by decide) (by decide) (by decide) (by decide) (by decide)
    · exact hF.2.2.1 28 (by decide) (by decide) (by decide) (by decide) (by decide) (by decide)
  exact ⟨hF.2.1.trans h1, h2, fun q hq => by rw [e]; exact h3 q hq, by rw [hF.1]; exact h4, by rw [hF.1]; exact h5, by rw [hF.1]; exact h6⟩
theorem LFm.fr {n d d' μ s t j : Nat} {σ σ' : MS} (h : LFm σ d s t j) (hF : FRm n σ σ' d' μ) (hd : d < d') : LFm σ' d s t j := by
  have := hF.2.2.2.2.1 d hd
  exact ⟨this.1.trans h.1, this.2.1.trans h.2.1, this.2.2.trans h.2.2⟩
theorem LPv.sp {σ σ' : MS} {pl : Nat} {x : V4} (h : LPv σ pl x) (hS : SPm σ σ' pl) : LPv σ' pl x :=
  ⟨hS.2.2.2.1.trans h.1, hS.2.2.2.2.trans h.2.1, hS.2.1.trans h.2.2.1, hS.2.2.1.trans h.2.2.2⟩
theorem LPv.set {σ : MS} {pl : Nat} {v : V4} : LPv (mSet σ pl v) pl v :=
  ⟨pk_uLs, pk_uLs, pk_us, pk_us⟩
theorem SPm.set {σ : MS} {pl pl' : Nat} {v : V4} (h : pl' ≠ pl) : SPm σ (mSet σ pl v) pl' :=
  ⟨rfl, pk_un h, pk_un h, pk_uLn h, pk_uLn h⟩
theorem SPm.close {σ : MS} {pl pl' : Nat} {v : V4} {x : Int32} (h : pl' ≠ pl) : SPm σ (mSet (σ.b 12 (upd (σ.2.1 12) pl x)) pl v) pl' :=
  ⟨pk_un h, pk_un h, pk_un h, pk_uLn h, pk_uLn h⟩
/-- steps -/
theorem FRm.next {n : Nat} {σ : MS} {d μ : Nat} {x : Int32} : FRm n σ (σ.b 20 (upd (σ.2.1 20) d x)) d μ :=
  ⟨rfl, rfl, fun k _ _ _ _ _ h => va_up_ne _ _ h, fun _ _ _ => rfl, fun i hi => ⟨rfl, rfl, pk_un (by omega)⟩, fun _ _ _ _ _ => ⟨rfl, rfl, rfl, rfl, rfl⟩, fun _ => Or.inl rfl⟩
theorem arr_set_ne {σ : MS} {pl k : Nat} {v : V4} (h1 : k ≠ 15) (h2 : k ≠ 16) : (mSet σ pl v).2.1 k = σ.2.1 k :=
  (va_up_ne _ _ h2).trans (va_up_ne _ _ h1)
theorem arrL_set_ne {σ : MS} {pl k : Nat} {v : V4} (h1 : k ≠ 13) (h2 : k ≠ 14) : (mSet σ pl v).2.2.1 k = σ.2.2.1 k :=
  (va_up_ne _ _ h2).trans (va_up_ne _ _ h1)
theorem FRm.set {n : Nat} {σ : MS} {d s t : Nat} {v : V4} (hs : vld n s) (ht : t < 16) : FRm n σ (mSet σ (plc s t) v) d (mu s) :=
  ⟨rfl, rfl, fun k _ h1 h2 _ _ _ => arr_set_ne h1 h2, fun k h1 h2 => arrL_set_ne h1 h2, fun i hi => ⟨rfl, rfl, rfl⟩, fun s' t' hv ht' hm => SPm.set (fun e => by have := (plc_inj hv hs ht' ht e).1; subst this; omega), fun _ => Or.inl rfl⟩
theorem seen_close {σ : MS} {pl : Nat} {v : V4} {x : Int32} : (mSet (σ.b 12 (upd (σ.2.1 12) pl x)) pl v).2.1 12 pl = x := pk_us
theorem FRm.close {n : Nat} {σ : MS} {d s t : Nat} {v : V4} {x : Int32} (hs : vld n s) (ht : t < 16) (hx : x = σ.1 17) : FRm n σ (mSet (σ.b 12 (upd (σ.2.1 12) (plc s t) x)) (plc s t) v) d (mu s) :=
  ⟨rfl, rfl, fun k h0 h1 h2 _ _ _ => (arr_set_ne h1 h2).trans (va_up_ne _ _ h0), fun k h1 h2 => arrL_set_ne h1 h2, fun i hi => ⟨rfl, rfl, rfl⟩, fun s' t' hv ht' hm => SPm.close (fun e => by have := (plc_inj hv hs ht' ht e).1; subst this; omega), fun pl => by
    by_cases e : pl = plc s t
    · right; subst e; exact (seen_close (σ := σ)).trans hx
    · left; exact pk_un e⟩
theorem FRm.opn {n : Nat} {σ : MS} {d s t : Nat} {v : V4} {x y z : Int32} (hs : vld n s) (ht : t < 16) : FRm n σ (mSet (((σ.b 18 (upd (σ.2.1 18) d x)).b 19 (upd (σ.2.1 19) d y)).b 20 (upd (σ.2.1 20) d z)) (plc s t) v) d (mu s) :=
  ⟨rfl, rfl, fun k h0 h1 h2 h3 h4 h5 => (arr_set_ne h1 h2).trans ((va_up_ne _ _ h5).trans ((va_up_ne _ _ h4).trans (va_up_ne _ _ h3))), fun k h1 h2 => arrL_set_ne h1 h2, fun i hi => ⟨pk_un (by omega), pk_un (by omega), pk_un (by omega)⟩, fun s' t' hv ht' hm => SPm.set (σ := ((σ.b 18 (upd (σ.2.1 18) d x)).b 19 (upd (σ.2.1 19) d y)).b 20 (upd (σ.2.1 20) d z)) (fun e => by have := (plc_inj hv hs ht' ht e).1; subst this; omega), fun _ => Or.inl rfl⟩
theorem LFm.opn {σ : MS} {d s t pl : Nat} {v : V4} : LFm (mSet (((σ.b 18 (upd (σ.2.1 18) d (nI s))).b 19 (upd (σ.2.1 19) d (nI t))).b 20 (upd (σ.2.1 20) d 0)) pl v) d s t 0 :=
  ⟨pk_us, pk_us, pk_us⟩
/-- the table stays right where an unseen place is written -/
theorem TBm.set {n r : Nat} {net : Nat → Nat} {tn : Int32} {σ σ0 : MS} {pl : Nat} {v : V4} (h : TBm σ n net r tn) (hu : σ.2.1 12 pl ≠ tn) (e12 : σ0.2.1 12 = σ.2.1 12) (e15 : σ0.2.1 15 = σ.2.1 15) (e16 : σ0.2.1 16 = σ.2.1 16) (e13 : σ0.2.2.1 13 = σ.2.2.1 13) (e14 : σ0.2.2.1 14 = σ.2.2.1 14) : TBm (mSet σ0 pl v) n net r tn := by
  intro s t hv ht hq
  have hq' : σ.2.1 12 (plc s t) = tn := by rw [← e12]; exact hq
  have hne : plc s t ≠ pl := fun e => hu (e ▸ hq')
  obtain ⟨h1, h2⟩ := h s t hv ht hq'
  refine ⟨LPv.sp (σ := σ0) ?_ (SPm.set hne), fun i hi ho => ?_⟩
  · exact ⟨by rw [e13]; exact h1.1, by rw [e14]; exact h1.2.1, by rw [e15]; exact h1.2.2.1, by rw [e16]; exact h1.2.2.2⟩
  · show σ0.2.1 12 _ = tn
    rw [e12]
    exact h2 i hi ho
theorem TBm.next {n r : Nat} {net : Nat → Nat} {tn : Int32} {σ : MS} {f : Nat → Int32} (h : TBm σ n net r tn) : TBm (σ.b 20 f) n net r tn := h
theorem seen_keep {σ : MS} {pl q : Nat} {tn : Int32} {v : V4} (h : σ.2.1 12 q = tn) : (mSet (σ.b 12 (upd (σ.2.1 12) pl tn)) pl v).2.1 12 q = tn := by
  by_cases e : q = pl
  · subst e; exact seen_close
  · exact (pk_un e).trans h
theorem TBm.close {n r s t : Nat} {net : Nat → Nat} {tn : Int32} {σ : MS} (hs : vld n s) (ht : t < 16) (h : TBm σ n net r tn) (hc : ∀ i, i < 16 → okP net n r s t i = true → σ.2.1 12 (plc (aft s (i / 4) (i % 4)) (tkA r t (i / 4) (i % 4))) = tn) : TBm (mSet (σ.b 12 (upd (σ.2.1 12) (plc s t) tn)) (plc s t) (val net n r s t)) n net r tn := by
  intro s' t' hv ht' hq
  by_cases e : plc s' t' = plc s t
  · obtain ⟨rfl, rfl⟩ := plc_inj hv hs ht' ht e
    exact ⟨LPv.set, fun i hi ho => seen_keep (hc i hi ho)⟩
  · have hq' : σ.2.1 12 (plc s' t') = tn := by
      have : (mSet (σ.b 12 (upd (σ.2.1 12) (plc s t) tn)) (plc s t) (val net n r s t)).2.1 12 (plc s' t') = σ.2.1 12 (plc s' t') := pk_un e
      rw [← this]; exact hq
    exact ⟨(h s' t' hv ht' hq').1.sp (SPm.close e), fun i hi ho => seen_keep ((h s' t' hv ht' hq').2 i hi ho)⟩
theorem PAm.fr {n r s t j d μ kk : Nat} {net : Nat → Nat} {tn : Int32} {a : Nat → Nat} {σ σ' : MS} (h : PAm σ n net r tn s t j) (hL : LKm a σ n net r tn kk) (hF : FRm n σ σ' d μ) (hS : SPm σ σ' (plc s t)) : PAm σ' n net r tn s t j := by
  refine ⟨h.1.sp hS, fun i hi ho => ?_⟩
  have h1 := h.2 i hi ho
  rcases hF.2.2.2.2.2.2 (plc (aft s (i / 4) (i % 4)) (tkA r t (i / 4) (i % 4))) with e | e
  · rw [e]; exact h1
  · rw [e]; exact hL.2.2.2.2.2
theorem PAm.zero {n r s t : Nat} {net : Nat → Nat} {tn : Int32} {σ : MS} : PAm (mSet σ (plc s t) (0, 0, 1000, 0)) n net r tn s t 0 := ⟨LPv.set, fun i hi => absurd hi (Nat.not_lt_zero i)⟩
section
variable {D : va_G} {dA : Nat → ClassId} {a : Nat → Nat} {σ : MS} {H : Heap}
theorem LK_cell {n r kk : Nat} {net : Nat → Nat} {tn : Int32} (h : LKm a σ n net r tn kk) (hP : va_P D vwCl (mW dA a σ) H) : H[σ.2.2.2]? = some (vp_cell (dA 0) (4, .inl (σ.2.1 kk))) := by
  obtain ⟨h1, h2, -⟩ := h
  rw [h1]
  rcases h2 with rfl | rfl
  · exact m_cell hP 6 (by decide) rfl
  · exact m_cell hP 28 (by decide) rfl
end
theorem vAcc_t {f : Nat → Nat → V4} {net : Nat → Nat} {n r s t k : Nat} (h : okP net n r s t k = true) : vAcc f net n r s t (k + 1) = cmb (vAcc f net n r s t k) (f (aft s (k / 4) (k % 4)) (tkA r t (k / 4) (k % 4))) := by
  rw [vAcc, if_pos h]
theorem vAcc_f {f : Nat → Nat → V4} {net : Nat → Nat} {n r s t k : Nat} (h : okP net n r s t k = false) : vAcc f net n r s t (k + 1) = vAcc f net n r s t k := by
  rw [vAcc, if_neg (by rw [h]; decide)]
theorem dec1 (x : Int32) : x + Int32.ofInt (-1) = x - 1 := by
  rw [show Int32.ofInt (-1) = (-1 : Int32) from by decide]
  exact (Int32.sub_eq_add_neg x 1).symm
theorem lt_of_nle {i n : Nat} (hi : i < 2 ^ 31) (h : ¬ nI n ≤ nI i) : i < n := by
  rcases Nat.lt_or_ge i n with q | q
  · exact q
  · exact absurd (nI_le q hi) h
theorem nlt_of_le {i n : Nat} (hi : i < 2 ^ 31) (hn : n < 2 ^ 31) (h : nI n ≤ nI i) : ¬ i < n := by
  have := (nI_leI hn hi).mp h
  omega
