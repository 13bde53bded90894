/-! TCU: a virtual call that throws -/
set_option maxRecDepth 100000
section TCU
variable {p : Program} {l : Launch} {e : Env} {R : Room} {s : State} {m : MethodId} {args : Array Value} {below : List Frame} {meth : Method} {c : Code} {H : Heap} {locs : List Loc} {cells slots : Nat} {Q : State → Prop}
variable {cc : ByteArray} {pc nL : Nat} {ls : Array Slot} {rest : List Value} {own : String} {A A0 : Nat → Prop} {H0 : Heap} {Kp : State → Prop} {mc ms : Nat}
variable {y : MethodName} {code : ByteArray} {n index : Nat} {ret : Option FieldType} {fr lc : Nat} {Pre : Heap → Prop} {C E : String} {b : Nat}
theorem tc_U {x : MethodName} {owner : String} (As : List Value) (nn : Nat) (S : CallFix p m c cc nL s args lw_all own) (hKw : Wm Kp) (hK : Kp s) (hS : va_S A0 H0 H locs) (hA : ∀ q, A q → A0 q) (hC : TC l y code n ret fr lc mc ms Kp (.ref b :: As) Pre A E)
    (hw : GoodIn lw_all (va_wsU own index C owner x y (ws_ y code n ret))) (hdl : va_Decl s ⟨owner, x.name, x.desc⟩) (hd : owner ≠ "java/lang/invoke/MethodHandle" ∧ owner ≠ "java/lang/invoke/VarHandle" ∧ (parseMethodDescriptor x.desc).map (fun d => d.parameters.length) = some nn) (hn : As.length = nn) (hR : fr + 1 ≤ R.frames ∧ 8 + (n + 11) + lc ≤ R.locals)
    (hrc : ∃ cell : Cell, H[b]? = some cell ∧ cell.vm.isStatics = false ∧ s.vm.findClass C = some cell.cls)
    (hsz : ls.size = nL) (hst : (rest.map fun v => v.category).sum ≤ 8) (hdg : decode cc pc = .ok (.invokevirtual index, 3)) (hf : cells + mc ≤ R.cells ∧ slots + ms ≤ R.slots) (hPh : Pre H)
    (kk : ∀ (x : Addr) (H1 : Heap) (locs1 : List Loc), exc E s H1 x → H.size ≤ H1.size → (∀ q, q < H.size → ¬ A q → H1[q]? = H[q]?) → va_S A0 H0 H1 locs1 → WT p l e R s m args below meth c H1 locs1 (cells + mc) (slots + ms) Q (F0 m pc ls rest) x) {st : List Value} (hs : st = As.reverse ++ .ref b :: rest) : W p l e R s m args below meth c H locs cells slots Q (F0 m pc ls st) := by
  have cw := cu_U (R := R) (mc := mc) (ms := ms) (rm := ({ frames := fr, cells := mc, slots := ms, locals := lc })) nn S.2.2.2.2 hw rfl rfl hdl hd hR
  obtain ⟨⟨hrc2, hrs, hfr, hlo, hws, hcw⟩, hcode, hini, hy, hlen, hl, hsame, hd0, hsel, hinst⟩ := cw
  have hBk : BackT l R p e below s args y 8 (PreOf R mc ms (va_Pc (.ref b :: As) (fun U => Kp U ∧ Pre U.heap))) (PostT (fun _ st x t => exc E st t.heap x ∧ va_F A st t) mc ms A) := backT (bytes := code) (maxL := n) (ret := ret) hC (g_blind hKw) hrc2 hrs hfr hlo hws hcw (fun a' U hW => word_at hW (Or.inl (by first | rfl | simp [Cond.onTables, Cond.keeps, Cond.steady])) hini)
  obtain ⟨cellB, hcB, hoB, hclB⟩ := hrc
  intro T hT X
  obtain ⟨r0, r, hn0, hrm, hstR, hsigR⟩ := hd0
  obtain ⟨cn, ck, r1, hcn, hck, hni, hf0, hn1⟩ := Cond.sameMethod_found hsame
  cases hn0.symm.trans hn1
  obtain ⟨mk, methM, hnamed, hmethM, -, habM⟩ := Cond.instanceMethod_spec hinst
  obtain ⟨c2, r2, m2, q1, q2, q3, q4, kP, hkP, hkPi⟩ := Cond.selects_spec hsel
  cases hclB.symm.trans q1
  cases hf0.symm.trans q2
  cases hnamed.symm.trans q3
  have hselP : selectMethod e.platform s.vm cellB.cls r0 = .method mk := by rw [Launch.admits_selectMethod X.admits]; exact q4
  obtain ⟨vm₁, X₁, hstep₁⟩ := X.invokevirtualUp S.1 S.2.2.2.1 hl hsame hy hn0 hrm hstR (a := b) (cell := cellB) (by rw [hT]; exact hcB)
    (fun z h => by rw [h] at hoB; cases hoB) hselP hmethM habM hkP hkPi (g := F0 m pc ls st) rfl (argsL := As) (rest := rest) (hn.trans (hlen _ hsigR)) hs (by rw [S.2.1]; exact hdg)
  obtain ⟨xx, ⟨U', l2, c2, s2⟩, X', ⟨g', mk', t, L, e1, e2, ⟨⟨cell, q5, q6, q7⟩, hF⟩, h1, hL, h2, h3⟩, hsteps⟩ := hBk m meth c ⟨T.setVm vm₁, locs, cells, slots⟩ { (F0 m pc ls st) with stack := rest } (.invokevirtual index) 3 mk (Value.ref b :: As).toArray X₁ rfl (hsz.trans S.2.2.1.symm) (by rw [S.2.1]; exact hdg) (lv_room hst) (X₁.named hnamed) ⟨hf.1, hf.2, rfl, hKw _ _ X₁.warmed hK, by show Pre T.heap; rw [hT]; exact hPh⟩
  dsimp only [Pt.U, Pt.locs, Pt.cells, Pt.slots] at X' e1 e2 h1 h2 h3 hsteps
  subst h1; subst h2; subst h3
  have hz : H.size ≤ t.heap.size := by rw [← hT]; exact hF.1
  have ho : ∀ q, q < H.size → ¬ A q → t.heap[q]? = H[q]? := fun q g1 g2 => by rw [hF.2 q (by rw [← hT] at g1; exact g1) g2, ← hT]; rfl
  have hS' : va_S A0 H0 t.heap (locs ++ L) := by
    refine ⟨Nat.le_trans hS.1 hz, fun q g1 g2 => ?_, fun q hq => ?_⟩
    · rw [ho q (Nat.lt_of_lt_of_le g1 hS.1) (fun z => g2 (hA q z))]
      exact hS.2.1 q g1 g2
    · rcases List.mem_append.mp hq with h | h
      · exact hS.2.2 q h
      · exact hA _ (hL q h)
  obtain ⟨t2, a1, b1⟩ := kk xx t.heap (locs ++ L) ⟨cell, q5, (by rw [← X₁.warmed.alike.findClass]; exact q6), q7⟩ hz ho hS' U' e1 X'
  exact ⟨t2, hstep₁ _ fun acts => by rw [doInvoke_state]; exact hsteps.trans a1, b1⟩
end TCU
