/-! TAB: the reference's table of states -/
set_option maxRecDepth 100000
/-- the table holds x at a place -/
def LPv (σ : MS) (pl : Nat) (x : V4) : Prop := σ.2.2.1 13 pl = lN x.1 ∧ σ.2.2.1 14 pl = lN x.2.1 ∧ σ.2.1 15 pl = nI x.2.2.1 ∧ σ.2.1 16 pl = nI x.2.2.2 - 1
def mSet (σ : MS) (pl : Nat) (v : V4) : MS := (((σ.l 13 (vp_updL (σ.2.2.1 13) pl (lN v.1))).l 14 (vp_updL (σ.2.2.1 14) pl (lN v.2.1))).b 15 (upd (σ.2.1 15) pl (nI v.2.2.1))).b 16 (upd (σ.2.1 16) pl (nI v.2.2.2 - 1))
theorem mSet_mk {σ : MS} {pl : Nat} {v : V4} {A B : Int64} {C E : Int32} (hA : A = lN v.1) (hB : B = lN v.2.1) (hC : C = nI v.2.2.1) (hE : E = nI v.2.2.2 - 1) :
    (((σ.l 13 (vp_updL (σ.2.2.1 13) pl A)).l 14 (vp_updL (σ.2.2.1 14) pl B)).b 15 (upd (σ.2.1 15) pl C)).b 16 (upd (σ.2.1 16) pl E) = mSet σ pl v := by
  subst hA; subst hB; subst hC; subst hE; rfl
theorem upd_id (f : Nat → Int32) (k : Nat) : upd f k (f k) = f := by
  funext j
  unfold upd
  split
  · rename_i h; rw [h]
  · rfl
theorem mSet_mk0 {σ : MS} {pl : Nat} {v : V4} {A B : Int64} (hA : A = lN v.1) (hB : B = lN v.2.1) (hC : σ.2.1 15 pl = nI v.2.2.1) (hE : σ.2.1 16 pl = nI v.2.2.2 - 1) :
    (σ.l 13 (vp_updL (σ.2.2.1 13) pl A)).l 14 (vp_updL (σ.2.2.1 14) pl B) = mSet σ pl v := by
  subst hA; subst hB
  unfold mSet
  rw [← hC, ← hE, upd_id, upd_id]
  show _ = (σ.1, va_up (va_up σ.2.1 15 (σ.2.1 15)) 16 (σ.2.1 16), _)
  rw [va_up_id, va_up_id]
  rfl
theorem cmb_0 {x y : V4} (h : y.2.1 = 0) : (cmb x y).2.2.1 = x.2.2.1 ∧ (cmb x y).2.2.2 = x.2.2.2 := by simp [cmb, h]
theorem cmb_F1 {x y : V4} (h : ¬ y.2.1 = 0) (h2 : x.2.2.1 ≤ y.2.2.1 + 1) : (cmb x y).2.2.1 = x.2.2.1 := by
  simp only [cmb, if_neg h]; omega
theorem cmb_F2 {x y : V4} (h : ¬ y.2.1 = 0) (h2 : ¬ x.2.2.1 ≤ y.2.2.1 + 1) : (cmb x y).2.2.1 = y.2.2.1 + 1 := by
  simp only [cmb, if_neg h]; omega
theorem cmb_M1 {x y : V4} (h : ¬ y.2.1 = 0) (h2 : y.2.2.2 + 1 ≤ x.2.2.2) : (cmb x y).2.2.2 = x.2.2.2 := by
  simp only [cmb, if_neg h]; omega
theorem cmb_M2 {x y : V4} (h : ¬ y.2.1 = 0) (h2 : ¬ y.2.2.2 + 1 ≤ x.2.2.2) : (cmb x y).2.2.2 = y.2.2.2 + 1 := by
  simp only [cmb, if_neg h]; omega
theorem pred_le {y x : Nat} (hy : y < 1000) (hx : x < 1000) : nI y ≤ nI x - 1 ↔ y + 1 ≤ x := by
  have h : (nI x - 1).toInt = (x : Int) - 1 := pk_sub_toInt (a := x) (b := 1) (by omega) (by decide)
  rw [Int32.le_iff_toInt_le, nI_toInt (by omega), h]
  omega
theorem sub_add1 (x : Nat) : nI x - 1 + 1 = nI x := Int32.sub_add_cancel _ _
theorem nI_sub1 (x : Nat) : nI x = nI (x + 1) - 1 := (nI_pred x).symm
/-- a verdict: 0 none is good, 2 all are, 1 else -/
def vrd (x : V4) : Int32 := if x.2.1 = 0 then 0 else if x.2.1 = x.1 then 2 else 1
theorem lN_0 {x : Nat} (hx : x < 2 ^ 63) : lN x = 0 ↔ x = 0 := pk_lEQ (b := 0) hx (by decide)
theorem lN_le0 {x : Nat} (hx : x < 2 ^ 63) : lN x ≤ 0 ↔ x = 0 := by
  rw [show (0 : Int64) = lN 0 from rfl, pk_lLE hx (by decide)]
  omega
