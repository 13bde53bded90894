/-! LCALL: the list's writers as one; what a new ring says -/
set_option maxRecDepth 100000
theorem va_F.mono {A B : Nat → Prop} {s t : State} (h : va_F A s t) (hAB : ∀ q, A q → B q) : va_F B s t := ⟨h.1, fun q h1 h2 => h.2 q h1 (fun z => h2 (hAB q z))⟩
theorem GC.mono {l : Launch} {y : MethodName} {code : ByteArray} {n : Nat} {ret : Option FieldType} {fr lc mc ms : Nat} {Kp : State → Prop} {av : List Value} {Pre Pre' : Heap → Prop} {A A' : Nat → Prop} {post post' : Option Value → Heap → Prop} (h : GC l y code n ret fr lc mc ms Kp av Pre A post) (hp : ∀ H, Pre' H → Pre H) (hq : ∀ v H, post v H → post' v H) (hA : ∀ q, A q → A' q) : GC l y code n ret fr lc mc ms Kp av Pre' A' post' :=
  Met.mono h (fun _ _ x => ⟨x.1, x.2.1, hp _ x.2.2⟩) (fun _ _ _ _ _ q => ⟨(by obtain ⟨v, e, hv⟩ := q.1; exact ⟨v, e, hq _ _ hv⟩), q.2.mono hA⟩) hA
/-- the list takes one more, whatever its array -/
theorem gj_add (l : Launch) (D : va_G) (dA : Nat → ClassId) (mi zs zf : Nat) (b ed cap nc sz g : Nat) (mc : Int32) (f : Nat → Option Nat) (hbl : b < sz) (hel : ed < sz) (hbe : b ≠ ed) (hcap : cap = 0 ∨ cap = 10 ∨ cap = 15) (hnc : nc ≤ cap) (hn15 : nc < 15) (hz : zs < sz ∧ zs ≠ b) (hg : g < sz ∧ g ≠ b ∧ g ≠ ed) (hf : ∀ i, i < nc → ∀ y, f i = some y → y < sz ∧ y ≠ b ∧ y ≠ ed) :
    GC l yJ2_add cJ2_add 2 (some .boolean) 6 170 1 15 (K4 D dA mi zs zf) [.ref b, .ref g] (fun H => va_P D vwCl (LW dA b ed cap mc nc f) H ∧ sz ≤ H.size ∧ anyR D g H ∧ (cap = 0 → ZH zs zf ed H ∧ EH dA ed H) ∧ ∀ i, i < nc → ∀ y, f i = some y → anyR D y H) (fun q => q = b ∨ (q = ed ∨ sz ≤ q))
      (fun v H => v = some (.int 1) ∧ ∃ (ed' cap' : Nat) (f' : Nat → Option Nat), va_P D vwCl (LW dA b ed' cap' (mc + 1) (nc + 1) f') H ∧ (cap' = 10 ∨ cap' = 15) ∧ nc + 1 ≤ cap' ∧ (∀ i, i < nc → f' i = f i) ∧ f' nc = some g ∧ (ed' = ed ∨ sz ≤ ed') ∧ b ≠ ed') := by
  by_cases h0 : cap = 0
  · subst h0
    obtain rfl : nc = 0 := by omega
    refine GC.mono (gj_addZ l D dA mi zs zf b ed sz mc hbl ⟨hz.2, hz.1⟩ ⟨fun h => hbe h.symm, hel⟩ g hg.1 hg.2.1) ?_ ?_ ?_
    · intro H h
      exact ⟨h.1, h.2.1, (h.2.2.2.1 rfl).1, (h.2.2.2.1 rfl).2, h.2.2.1⟩
    · intro v H h
      obtain ⟨qn, h1, h2, h3, h4⟩ := h
      exact ⟨h3, qn, 10, _, by rw [LW_c (by decide)]; exact h4, Or.inl rfl, by decide, fun i hi => absurd hi (Nat.not_lt_zero i), va_up_self _ _ _, Or.inr h1, h2⟩
    · intro q h
      exact h.elim Or.inl (fun h => Or.inr (Or.inr h))
  · by_cases hr : nc < cap
    · refine GC.mono (gj_addS l D dA mi zs zf b ed cap nc mc f hbe hr (by omega) g hg.2) ?_ ?_ ?_
      · intro H h
        exact ⟨by rw [← LW_c (by omega)]; exact h.1, h.2.2.1⟩
      · intro v H h
        exact ⟨h.1, ed, cap, _, by rw [LW_c (by omega)]; exact h.2, by omega, by omega, fun i hi => va_up_ne _ _ (by omega), va_up_self _ _ _, Or.inl rfl, hbe⟩
      · intro q h
        exact h.elim Or.inl (fun h => Or.inr (Or.inl h))
    · obtain rfl : cap = 10 := by omega
      obtain rfl : nc = 10 := by omega
      refine GC.mono (gj_addT l D dA mi zs zf b ed sz mc f hbe hbl hel (fun i hi y hy => (hf i hi y hy).1) g hg.1 hg.2) ?_ ?_ ?_
      · intro H h
        exact ⟨by rw [← LW_c (by omega)]; exact h.1, h.2.1, h.2.2.1, fun i hi y hy => ⟨h.2.2.2.2 i hi y hy, (hf i hi y hy).2⟩⟩
      · intro v H h
        obtain ⟨qn, h1, h2, h3, h4, h5⟩ := h
        exact ⟨h4, qn, 15, _, by rw [LW_c (by decide)]; exact h5.sub [0, 2] rfl, Or.inr rfl, by decide, fun i hi => by rw [va_up_ne _ _ (by omega)]; unfold va_cpy; rw [if_pos (by omega)]; congr 1; omega, va_up_self _ _ _, Or.inr h1, h2⟩
      · intro q h
        exact h
/-- the list is emptied -/
theorem gj_clear (l : Launch) (D : va_G) (dA : Nat → ClassId) (mi zs zf : Nat) (b ed cap nc : Nat) (mc : Int32) (f : Nat → Option Nat) (hbe : b ≠ ed) (hc15 : cap ≤ 15) (hnc : nc ≤ cap) :
    GC l yJ2_clear cJ2_clear 4 none 0 0 0 0 (K4 D dA mi zs zf) [.ref b] (fun H => va_P D vwCl (LW dA b ed cap mc nc f) H) (fun q => q = b ∨ (q = ed ∧ 0 < cap)) (fun v H => v = none ∧ ∃ f' : Nat → Option Nat, va_P D vwCl (LW dA b ed cap (mc + 1) 0 f') H) := by
  by_cases h0 : cap = 0
  · subst h0
    obtain rfl : nc = 0 := by omega
    exact GC.mono (gj_clearZ l D dA mi zs zf b ed mc) (fun H h => h) (fun v H h => ⟨h.1, f, h.2⟩) (fun q h => Or.inl h)
  · refine GC.mono (gj_clearC l D dA mi zs zf b ed cap nc mc f hbe hnc hc15) ?_ ?_ ?_
    · intro H h
      rw [← LW_c (by omega)]; exact h
    · intro v H h
      obtain ⟨h1, f9, h2⟩ := h
      exact ⟨h1, f9, by rw [LW_c (by omega)]; exact h2⟩
    · intro q h
      exact h.elim Or.inl (fun h => Or.inr ⟨h, by omega⟩)
theorem hs4_aft1 (s p q : Nat) : hs4 (aft s p q) p = hs4 s p ||| hs4 s q := by
  apply Nat.eq_of_testBit_eq
  intro i
  rw [hs4_tb, aft_tb]
  by_cases hi : i < 4
  · rw [show (4 * p + i) / 4 = p by omega, show (4 * p + i) % 4 = i by omega]
    simp only [hi, decide_true, Bool.true_and, Nat.testBit_or, hs4_tb]
    cases s.testBit (4 * p + i) <;> cases s.testBit (4 * q + i) <;> cases decide (p = q) <;> rfl
  · simp [hi, Nat.testBit_or, hs4_tb]
theorem hs4_aft2 (s p q : Nat) : hs4 (aft s p q) q = hs4 s p ||| hs4 s q := by
  apply Nat.eq_of_testBit_eq
  intro i
  rw [hs4_tb, aft_tb]
  by_cases hi : i < 4
  · rw [show (4 * q + i) / 4 = q by omega, show (4 * q + i) % 4 = i by omega]
    simp only [hi, decide_true, Bool.true_and, Nat.testBit_or, hs4_tb]
    cases s.testBit (4 * p + i) <;> cases s.testBit (4 * q + i) <;> cases decide (q = p) <;> rfl
  · simp [hi, Nat.testBit_or, hs4_tb]
theorem nw_dec : ∀ x, x < 16 → ∀ y, y < 16 → (bts ((x ||| y) &&& (15 ^^^ x)) 16 + bts ((x ||| y) &&& (15 ^^^ y)) 16 = 0 ↔ x = y) := by decide +kernel
theorem knd_eq {n : Nat} {cp cq : Nat → Nat} {j : Nat} : knd n cp cq j = if hs4 (stAt n cp cq j) (cp j) = hs4 (stAt n cp cq j) (cq j) then 0 else if hs4 (stAt n cp cq j) (cp j) ||| hs4 (stAt n cp cq j) (cq j) = al n then 2 else 1 := by
  unfold knd nws lrnt
  rw [show stAt n cp cq (j + 1) = aft (stAt n cp cq j) (cp j) (cq j) from rfl, hs4_aft1, hs4_aft2]
  have h := nw_dec _ (hs4_lt (stAt n cp cq j) (cp j)) _ (hs4_lt (stAt n cp cq j) (cq j))
  by_cases e : hs4 (stAt n cp cq j) (cp j) = hs4 (stAt n cp cq j) (cq j)
  · rw [if_pos (h.mpr e), if_pos e]
  · rw [if_neg (fun z => e (h.mp z)), if_neg e]
theorem st_cg {n : Nat} {cp cq cp' cq' : Nat → Nat} : ∀ c, (∀ j, j < c → cp' j = cp j ∧ cq' j = cq j) → stAt n cp' cq' c = stAt n cp cq c
  | 0, _ => rfl
  | c + 1, h => by
    show aft (stAt n cp' cq' c) (cp' c) (cq' c) = aft (stAt n cp cq c) (cp c) (cq c)
    rw [st_cg c (fun j hj => h j (by omega)), (h c (by omega)).1, (h c (by omega)).2]
theorem tk_cg {cp cq cp' cq' : Nat → Nat} : ∀ c, (∀ j, j < c → cp' j = cp j ∧ cq' j = cq j) → tk8 cp' cq' c = tk8 cp cq c
  | 0, _ => rfl
  | c + 1, h => by
    show tb8 (tk8 cp' cq' c) (cp' c) (cq' c) = tb8 (tk8 cp cq c) (cp c) (cq c)
    rw [tk_cg c (fun j hj => h j (by omega)), (h c (by omega)).1, (h c (by omega)).2]
theorem up_cg {cp cq : Nat → Nat} {nc p q : Nat} : ∀ j, j < nc → va_up cp nc p j = cp j ∧ va_up cq nc q j = cq j := fun j hj => ⟨va_up_ne _ _ (by omega), va_up_ne _ _ (by omega)⟩
theorem knd_cg {n : Nat} {cp cq cp' cq' : Nat → Nat} {j : Nat} (h : ∀ i, i < j + 1 → cp' i = cp i ∧ cq' i = cq i) : knd n cp' cq' j = knd n cp cq j := by
  rw [knd_eq, knd_eq, st_cg j (fun i hi => h i (by omega)), (h j (by omega)).1, (h j (by omega)).2]
theorem rgF_cg {ao n : Nat} {cp cq cp' cq' : Nat → Nat} {j : Nat} (h : ∀ i, i < j + 1 → cp' i = cp i ∧ cq' i = cq i) : rgF ao n cp' cq' j = rgF ao n cp cq j := by
  unfold rgF lrnt
  rw [knd_cg h, st_cg (j + 1) h, st_cg j (fun i hi => h i (by omega)), tk_cg (j + 1) h, (h j (by omega)).1, (h j (by omega)).2]
theorem rgW_cg {ao n b : Nat} {cp cq cp' cq' : Nat → Nat} {j : Nat} (h : ∀ i, i < j + 1 → cp' i = cp i ∧ cq' i = cq i) : rgW ao n cp' cq' b j = rgW ao n cp cq b j := by
  unfold rgW
  rw [knd_cg h, rgF_cg h]
/-- the new ring's fields -/
theorem rgN_new {ao n nc p q κ : Nat} {cp cq : Nat → Nat} (hκ : κ = knd n (va_up cp nc p) (va_up cq nc q) nc) : rgN ao nc p q (stAt n cp cq nc) (tb8 (tk8 cp cq nc) p q) κ = rgF ao n (va_up cp nc p) (va_up cq nc q) nc := by
  subst hκ
  unfold rgN rgF lrnt
  rw [show stAt n (va_up cp nc p) (va_up cq nc q) (nc + 1) = aft (stAt n (va_up cp nc p) (va_up cq nc q) nc) (va_up cp nc p nc) (va_up cq nc q nc) from rfl, show tk8 (va_up cp nc p) (va_up cq nc q) (nc + 1) = tb8 (tk8 (va_up cp nc p) (va_up cq nc q) nc) (va_up cp nc p nc) (va_up cq nc q nc) from rfl, st_cg nc up_cg, tk_cg nc up_cg, va_up_self, va_up_self]
theorem knd_new {n nc p q : Nat} {cp cq : Nat → Nat} : knd n (va_up cp nc p) (va_up cq nc q) nc = if hs4 (stAt n cp cq nc) p = hs4 (stAt n cp cq nc) q then 0 else if hs4 (stAt n cp cq nc) p ||| hs4 (stAt n cp cq nc) q = al n then 2 else 1 := by
  rw [knd_eq, st_cg nc up_cg, va_up_self, va_up_self]
theorem DY.add {D : va_G} {dA : Nat → ClassId} {a : Nat → Nat} {n nc : Nat} {cp cq : Nat → Nat} {p q g ed' cap' : Nat} {mc' : Int32} {f f' : Nat → Option Nat} {rg : Nat → Nat} {H1 : Heap} (hL : va_P D vwCl (LW dA (a 3) ed' cap' mc' (nc + 1) f') H1) (hc : nc + 1 ≤ cap') (hc31 : cap' < 2 ^ 31) (hf : ∀ i, i < nc → f' i = f i) (hg : f' nc = some g)
    (hR : ∀ j, j < nc → f j = some (rg j) ∧ va_P D vwCl (rgW (a 0) n cp cq (rg j) j) H1) (hN : va_P D vwCl [(g, .inr (3 + knd n (va_up cp nc p) (va_up cq nc q) nc, rgF (a 0) n (va_up cp nc p) (va_up cq nc q) nc))] H1) : DY D dA a n (nc + 1) (va_up cp nc p) (va_up cq nc q) ed' cap' mc' f' (va_up rg nc g) H1 := by
  refine ⟨hL, hc, hc31, fun j hj => ?_⟩
  by_cases e : j = nc
  · subst e
    rw [va_up_self]
    exact ⟨hg, hN⟩
  · have hj' : j < nc := by omega
    rw [va_up_ne _ _ e]
    refine ⟨(hf j hj').trans (hR j hj').1, ?_⟩
    rw [rgW_cg (fun i hi => up_cg i (by omega))]
    exact (hR j hj').2
