/-! TCSN: a static call of a nest mate that throws; a reading depends on the codes alone (by program: gen/mkrdc.py) -/
set_option maxRecDepth 100000
section TCSN
variable {p : Program} {l : Launch} {e : Env} {R : Room} {s : State} {m : MethodId} {args : Array Value} {below : List Frame} {meth : Method} {c : Code} {H : Heap} {locs : List Loc} {cells slots : Nat} {Q : State → Prop}
variable {cc : ByteArray} {pc nL : Nat} {ls : Array Slot} {rest : List Value} {own : String} {A A0 : Nat → Prop} {H0 : Heap} {Kp : State → Prop} {mc ms : Nat}
variable {y : MethodName} {code : ByteArray} {n index : Nat} {ret : Option FieldType} {fr lc : Nat} {Pre : Heap → Prop} {C : String}
theorem tc_SN {host : String} (As : List Value) (nn : Nat) (S : CallFix p m c cc nL s args lw_all own) (hKw : Wm Kp) (hK : Kp s) (hS : va_S A0 H0 H locs) (hA : ∀ q, A q → A0 q) (hC : TC l y code n ret fr lc mc ms Kp As Pre A C)
    (hc : Cond.code y code n ret ∈ lw_all) (hini0 : Cond.initialized y.cls ∈ lw_all) (hl0 : va_Nw (.methodLinkNest own index y host) s) (hst0 : Cond.static y ∈ lw_all) (hd : y.cls ≠ "java/lang/invoke/MethodHandle" ∧ y.cls ≠ "java/lang/invoke/VarHandle" ∧ (parseMethodDescriptor y.desc).map (fun d => d.parameters.length) = some nn) (hn : As.length = nn) (hR : fr + 1 ≤ R.frames ∧ 8 + (n + 11) + lc ≤ R.locals)
    (hsz : ls.size = nL) (hst : (rest.map fun v => v.category).sum ≤ 8) (hdg : decode cc pc = .ok (.invokestatic index, 3)) (hf : cells + mc ≤ R.cells ∧ slots + ms ≤ R.slots) (hPh : Pre H)
    (kk : ∀ (x : Addr) (H1 : Heap) (locs1 : List Loc), exc C s H1 x → H.size ≤ H1.size → (∀ q, q < H.size → ¬ A q → H1[q]? = H[q]?) → va_S A0 H0 H1 locs1 → WT p l e R s m args below meth c H1 locs1 (cells + mc) (slots + ms) Q (F0 m pc ls rest) x) {st : List Value} (hs : st = As.reverse ++ rest) : W p l e R s m args below meth c H locs cells slots Q (F0 m pc ls st) := by
  have cw := va_cnB (R := R) (args := args) (mc := mc) (ms := ms) (rm := ({ frames := fr, cells := mc, slots := ms, locals := lc })) nn S.2.2.2.2 (lw_meth hc) rfl rfl rfl hl0 (S.2.2.2.2 _ hini0) hd hR
  obtain ⟨⟨hrc, hrs, hfr, hlo, hws, hcw⟩, hcode, hini, hy, hlen, hl⟩ := cw
  have hstt := S.2.2.2.2 _ hst0
  have hBk : BackT l R p e below s args y 8 (PreOf R mc ms (va_Pc As (fun U => Kp U ∧ Pre U.heap))) (PostT (fun _ st x t => exc C st t.heap x ∧ va_F A st t) mc ms A) := backT (bytes := code) (maxL := n) (ret := ret) hC (g_blind hKw) hrc hrs hfr hlo hws hcw (fun a' U hW => word_at hW (Or.inl (by first | rfl | simp [Cond.onTables, Cond.keeps, Cond.steady])) hini)
  intro T hT X
  obtain ⟨mk, hnamed⟩ := Cond.code_named hcode
  obtain ⟨methM, cM, hmethM, -, -, -, -, -, -, hsigM⟩ := Cond.code_spec hnamed hcode
  have hstatic : methM.isStatic = true := Cond.static_spec hnamed hmethM hstt
  obtain ⟨kP, hkP, -⟩ := className_of_methodNamed hnamed
  have hinitP : kP.init = .initialized := Cond.initialized_spec (findClass_of_methodNamed hnamed) hkP hini
  obtain ⟨vm₁, X₁, hstep₁⟩ := X.invokestaticNest S.1 S.2.2.2.1 hl hnamed hmethM hstatic hkP hinitP hy (g := F0 m pc ls st) rfl (argsL := As) (rest := rest) (hn.trans (hlen _ hsigM)) hs (by rw [S.2.1]; exact hdg)
  obtain ⟨x, ⟨U', l2, c2, s2⟩, X', ⟨g', mk', t, L, e1, e2, ⟨⟨cell, q1, q2, q3⟩, hF⟩, h1, hL, h2, h3⟩, hsteps⟩ := hBk m meth c ⟨T.setVm vm₁, locs, cells, slots⟩ { (F0 m pc ls st) with stack := rest } (.invokestatic index) 3 mk As.toArray X₁ rfl (hsz.trans S.2.2.1.symm) (by rw [S.2.1]; exact hdg) (lv_room hst) (X₁.named hnamed) ⟨hf.1, hf.2, rfl, hKw _ _ X₁.warmed hK, by show Pre T.heap; rw [hT]; exact hPh⟩
  dsimp only [Pt.U, Pt.locs, Pt.cells, Pt.slots] at X' e1 e2 h1 h2 h3 hsteps
  subst h1; subst h2; subst h3
  have hz : H.size ≤ t.heap.size := by rw [← hT]; exact hF.1
  have ho : ∀ q, q < H.size → ¬ A q → t.heap[q]? = H[q]? := fun q g1 g2 => by rw [hF.2 q (by rw [← hT] at g1; exact g1) g2, ← hT]; rfl
  have hS' : va_S A0 H0 t.heap (locs ++ L) := by
    refine ⟨Nat.le_trans hS.1 hz, fun q g1 g2 => ?_, fun q hq => ?_⟩
    · rw [ho q (Nat.lt_of_lt_of_le g1 hS.1) (fun z => g2 (hA q z))]
      exact hS.2.1 q g1 g2
    · rcases List.mem_append.mp hq with h | h
      · exact hS.2.2 q h
      · exact hA _ (hL q h)
  obtain ⟨t2, a1, b1⟩ := kk x t.heap (locs ++ L) ⟨cell, q1, (by rw [← X₁.warmed.alike.findClass]; exact q2), q3⟩ hz ho hS' U' e1 X'
  exact ⟨t2, hstep₁ _ fun acts => by rw [doInvoke_state]; exact hsteps.trans a1, b1⟩
end TCSN
theorem rdU_c {xs ys : Nat → Int32} {L c : Nat} (h : ∀ j, j < L → xs j = ys j) : ∀ j, j ≤ L → rdU xs c j = rdU ys c j
  | 0, _ => rfl
  | j + 1, hj => by
    rw [rdU, rdU, rdU_c h j (by omega), h j (by omega)]
theorem rdP_c {xs ys : Nat → Int32} {L mp c : Nat} (h : ∀ j, j < L → xs j = ys j) : ∀ f i, i + f ≤ L → rdP xs mp c f i = rdP ys mp c f i
  | 0, i, _ => rfl
  | f + 1, i, hi => by
    rw [rdP, rdP, h i (by omega), rdU_c h i (by omega), rdP_c h f (i + 1) (by omega)]
theorem rdA_c {xs ys : Nat → Int32} {L : Nat} (h : ∀ j, j < L → xs j = ys j) : ∀ f mp cc hh, cc ≤ L → rdA xs L f mp cc hh = rdA ys L f mp cc hh
  | 0, mp, cc, hh, _ => rfl
  | f + 1, mp, cc, hh, hc => by
    rw [rdA, rdA]
    by_cases e : cc = L
    · rw [if_pos e, if_pos e]
    · rw [if_neg e, if_neg e, h cc (by omega), rdP_c h (L - (cc + 1)) (cc + 1) (by omega)]
      have hle := rdP_le (xs := ys) (mp := mp) (c := cc + 1) (L - (cc + 1)) (cc + 1)
      rw [rdU_c h (rdP ys mp (cc + 1) (L - (cc + 1)) (cc + 1)).2 (by omega)]
      by_cases e2 : L ≤ (rdP ys mp (cc + 1) (L - (cc + 1)) (cc + 1)).2
      · rw [if_pos e2, if_pos e2]
      · rw [if_neg e2, if_neg e2, rdA_c h f (mp + 1) ((rdP ys mp (cc + 1) (L - (cc + 1)) (cc + 1)).2 + 1) _ (by omega)]
theorem rdK_c {xs ys : Nat → Int32} {L mp : Nat} (h : ∀ j, j < L → xs j = ys j) : ∀ f k, k + f ≤ L → rdK xs mp f k = rdK ys mp f k
  | 0, _, _ => rfl
  | f + 1, k, hk => by
    rw [rdK, rdK, h k (by omega), rdK_c h f (k + 1) (by omega)]
theorem rd1_c {xs ys : Nat → Int32} {L : Nat} (h : ∀ j, j < L → xs j = ys j) : rd1 xs L = rd1 ys L := rdA_c h 4 0 0 _ (Nat.zero_le _)
theorem spRead_c {xs ys : Nat → Int32} {L : Nat} (h : ∀ j, j < L → xs j = ys j) : spRead xs L = spRead ys L := by
  unfold spRead
  rw [rd1_c h]
  split
  · rfl
  · exact rdK_c h _ _ (by omega)
theorem CAp.up {a : Nat → Nat} {ed nc : Nat} {rg : Nat → Nat} {zs sz sz' : Nat} (h : CAp a ed nc rg zs sz) (hz : sz ≤ sz') : CAp a ed nc rg zs sz' := ⟨by have := h.1; omega, by have := h.2.1; omega, h.2.2.1, fun j hj => ⟨by have := (h.2.2.2.1 j hj).1; omega, (h.2.2.2.1 j hj).2⟩, fun q hq => ⟨by have := (h.2.2.2.2.1 q hq).1; omega, (h.2.2.2.2.1 q hq).2⟩, by have := h.2.2.2.2.2.1; omega, h.2.2.2.2.2.2⟩
theorem KG.i13 {σ : MS} {n : Nat} {net : Nat → Nat} {v : Int32} (h : KG σ n net) : KG (σ.i 13 v) n net := ⟨h.1, (show va_up σ.1 13 v 0 = _ from va_up_ne σ.1 v (by decide)).trans h.2.1, h.2.2.1, h.2.2.2⟩
/-- a net was read: the component's side -/
def NRc (D : va_G) (dA : Nat → ClassId) (a : Nat → Nat) (σ : MS) (n nc : Nat) (net cp cq : Nat → Nat) (ed cap : Nat) (mc : Int32) (f : Nat → Option Nat) (rg : Nat → Nat) (xs : Nat → Int32) (L : Nat) (v9 : Option Value) (H : Heap) : Prop :=
  (∃ ct, spRead xs L = some ct ∧ ct ≤ L ∧ v9 = some (.int (-100 - nI ct)) ∧ va_P D vwCl (kW dA a σ) H ∧ DY D dA a n nc cp cq ed cap mc f rg H) ∨
  (spRead xs L = none ∧ ∃ (mp : Nat) (hh : Nat → Nat) (σ1 : MS) (f3 : Nat → Option Nat), rd1 xs L = (none, mp, hh) ∧ v9 = some (.int (nI mp)) ∧ KG σ1 mp (rdN mp hh net) ∧ (∀ k, k ≠ 0 → σ1.1 k = σ.1 k) ∧ (∀ k, k ≠ 1 → σ1.2.1 k = σ.2.1 k) ∧ va_P D vwCl (kW dA a σ1) H ∧ DY D dA a mp 0 cp cq ed cap (mc + 1) f3 rg H)
theorem NRc.c {D : va_G} {dA : Nat → ClassId} {a : Nat → Nat} {σ : MS} {n nc : Nat} {net cp cq : Nat → Nat} {ed cap : Nat} {mc : Int32} {f : Nat → Option Nat} {rg : Nat → Nat} {xs ys : Nat → Int32} {L : Nat} {v9 : Option Value} {H : Heap} (h : NRc D dA a σ n nc net cp cq ed cap mc f rg xs L v9 H) (e : ∀ j, j < L → xs j = ys j) : NRc D dA a σ n nc net cp cq ed cap mc f rg ys L v9 H := by
  unfold NRc at h ⊢
  rw [spRead_c e, rd1_c e] at h
  exact h
theorem nI_subI {L N : Nat} (hL : L ≤ 60) (hN : N < 61) : (nI L - nI N).toInt = (L : Int) - N := by
  rw [Int32.toInt_sub, nI_toInt (by omega), nI_toInt (by omega)]
  exact Int.bmod_eq_of_le (by omega) (by omega)
theorem spNet_in {la : Nat → Int32} {lo : Nat → Nat} {k w : Nat} {i v : Int32} (hk : k < 4) (hw : w < 3) : spNetQ la lo (nI k) (nI w) i v = if ¬ la k = -9 ∧ ¬ la k = nI w then some (-12, 2) else if la k = -9 then some (-11, 1) else if v < 0 then some (-14, 4) else if i < 0 then some (-13, 3) else if lo k < i.toNatClampNeg then some (-13, 3) else if lo k - i.toNatClampNeg < v.toNatClampNeg then some (-13, 3) else none := by
  unfold spNetQ
  rw [show inR (nI k) 0 3 = true from inR_nI (k := 3) (by omega) (by decide), show inR (nI w) 0 2 = true from inR_nI (k := 2) (by omega) (by decide), nI_clamp (by omega), if_neg (by decide), if_neg (by decide)]
theorem netQ {la : Nat → Int32} {lo : Nat → Nat} {k w : Nat} {iv nv : Int32} (hk : k < 4) (hw : w < 3) (h1 : ¬ la k = -9) (h2 : la k = nI w) (hlo : lo k ≤ 60) :
    (nv < 0 ∧ spNetQ la lo (nI k) (nI w) iv nv = some (-14, 4)) ∨ (∃ N, N < 2 ^ 31 ∧ nv = nI N ∧ spNetQ la lo (nI k) (nI w) iv nv = some (-13, 3) ∧ (N < 61 → ¬ iv < 0 → ¬ (nI (lo k) - nI N < iv) → False)) ∨
    (∃ i N, iv = nI i ∧ nv = nI N ∧ spNetQ la lo (nI k) (nI w) iv nv = none ∧ i + N ≤ lo k) := by
  rw [spNet_in hk hw, if_neg (fun h => h.2 h2), if_neg h1]
  by_cases a1 : nv < 0
  · rw [if_pos a1]; exact Or.inl ⟨a1, rfl⟩
  rw [if_neg a1]
  obtain ⟨N, hN, rfl⟩ := nI_of a1
  rw [nI_clamp hN]
  by_cases a2 : iv < 0
  · rw [if_pos a2]; exact Or.inr (Or.inl ⟨N, hN, rfl, rfl, fun _ h _ => h a2⟩)
  rw [if_neg a2]
  obtain ⟨i, hi, rfl⟩ := nI_of a2
  rw [nI_clamp hi]
  have key : (lo k < i ∨ lo k - i < N) → (N < 61 → ¬ nI i < 0 → ¬ (nI (lo k) - nI N < nI i) → False) := fun h hN61 _ h9 => by
    rw [Int32.lt_iff_toInt_lt, nI_subI hlo hN61, nI_toInt hi] at h9
    omega
  by_cases a3 : lo k < i
  · rw [if_pos a3]; exact Or.inr (Or.inl ⟨N, hN, rfl, rfl, key (Or.inl a3)⟩)
  rw [if_neg a3]
  by_cases a4 : lo k - i < N
  · rw [if_pos a4]; exact Or.inr (Or.inl ⟨N, hN, rfl, rfl, key (Or.inr a4)⟩)
  rw [if_neg a4]
  exact Or.inr (Or.inr ⟨i, N, rfl, rfl, rfl, by omega⟩)
