/-! ND: the body of a method whose class need not be initialised (an interface that lends a body): it is walked, not taken by a contract -/
set_option maxRecDepth 100000
theorem back_nd {l : Launch} {R : Room} {p : Program} {e : Env} {below : List Frame} {s : State} {sargs : Array Value} {y : MethodName} {len fr lc mc ms maxL : Nat} {Pc : Array Value → State → Prop} {Qc : Array Value → State → Outcome → State → Prop} {free : Addr → Prop} {bytes : ByteArray} {ret : Option FieldType}
    (hy : plainName y.cls = true) (hcode : ∀ (a' : Array Value) (U : State), s.WarmedH U.vm → (Cond.code y bytes maxL ret).before a' U = true) (hR : fr + 1 ≤ R.frames ∧ 8 + (maxL + 11) + lc ≤ R.locals) (hblind : FrameBlind Pc)
    (body : ∀ (st : State) (mk : MethodId) (a : Array Value) (bl : List Frame) (methY : Method) (cY : Code), s.WarmedH st.vm → st.methodNamed? y = some mk → st.vm.method? mk = some methY → cY.code = bytes → cY.maxLocals = maxL → methY.sig.returnType = ret → methY.locks = false → Pc a st →
      W p l e ({ frames := fr, cells := mc, slots := ms, locals := lc }) st mk a bl methY cY st.heap [] 0 0 (MQ bl Qc a st mc ms free) (entryFrame mk a maxL)) :
    Back l R p e below s sargs y len 8 (PreOf R mc ms Pc) (PostOf Qc mc ms free) := by
  intro m meth c A g ig mk a X hg hsize hdg hW hn hp
  obtain ⟨U, Ls, c0, s0⟩ := A
  obtain ⟨h4, h5, hp3⟩ := hp
  dsimp only [Pt.U, Pt.locs, Pt.cells, Pt.slots] at h4 h5 hp3 X hn ⊢
  obtain ⟨methY, cY, hmY, hcY, hbY, hlY, hrY, hkY, -, -⟩ := Cond.code_spec hn (hcode a U X.warmed)
  have h : At U g.method c below := by rw [hg]; exact X.here
  have hroom : (U.calling g mk a).hasRoom e.platform ({ frames := fr, cells := mc, slots := ms, locals := lc }) = true := X.room_calling (g := g) (R' := ({ frames := fr, cells := mc, slots := ms, locals := lc })) hsize hmY hcY hR.1 (by rw [hlY]; show _ + _ + lc ≤ _; omega) h4 h5
  have hf : (U.calling g mk a).frames = .invoking mk a :: .java g :: below := by rw [State.frames_calling h.top g mk a, X.tail]
  have hcur := State.cur_lt_of_frames hf
  have hf1 : ((U.calling g mk a).setFrames (.java (entryFrame mk a maxL) :: .java g :: below)).frames = .java (entryFrame mk a maxL) :: .java g :: below := State.frames_setFrames _ hcur
  have ht1 := State.topJava?_of_frames hf1
  have hmY' : (U.calling g mk a).vm.method? mk = some methY := hmY
  have hn' : (U.calling g mk a).methodNamed? y = some mk := hn
  have hrun : (U.calling g mk a).status = .running := h.running
  have hable : (U.calling g mk a).curStatus? = some .runnable := by simpa [State.calling] using h.runnable
  have halone : (U.calling g mk a).alone = true := by simpa [State.calling] using h.alone
  have hcd : (U.calling g mk a).code? g.method = some c := by
    have := h.code
    rw [State.code?_eq] at this ⊢
    simpa [State.calling, State.pushFrame, State.setFrames] using this
  have hhears : (U.calling g mk a).hears mk (.java g :: below) = true := by simp [State.hears, hcd, hdg, Except.toOption]
  have hplain : ((U.calling g mk a).setFrames (.java (entryFrame mk a maxL) :: .java g :: below)).plainMethod mk := State.plainMethod.of_named (s := U.calling g mk a) (plainFor_of_name hy) hn' hmY'
  have hAt : At ((U.calling g mk a).setFrames (.java (entryFrame mk a maxL) :: .java g :: below)) mk cY (.java g :: below) :=
    ⟨by rw [ht1]; rfl, ⟨[], by rw [hf1]; rfl⟩, hrun, by simpa using hable, by simpa using halone, by rw [State.code?_eq]; simp [State.setFrames, hmY', hcY], hplain⟩
  obtain ⟨tt, htt, -⟩ := State.frames_cons hf
  have X' : Stand p l e ({ frames := fr, cells := mc, slots := ms, locals := lc }) (U.calling g mk a) mk a (.java g :: below) methY cY ((U.calling g mk a).setFrames (.java (entryFrame mk a maxL) :: .java g :: below)) [] 0 0 :=
    ⟨X.admits, X.cas, X.clock, hf, hroom, hhears, hmY', hcY, hAt, by rw [hf1]; rfl, State.WarmedH.refl _, by rw [State.stackLimits_setFrames], by rw [State.stackBytes_setFrames], (State.sameButNew.refl _ htt).setFrames _ hcur⟩
  obtain ⟨t, hsteps, o, hrt, hend, hq, L, hfe, hL⟩ := body (U.calling g mk a) mk a (.java g :: below) methY cY X.warmed hn' hmY' hbY hlY hrY hkY (hblind _ _ _ _ hp3) ((U.calling g mk a).setFrames (.java (entryFrame mk a maxL) :: .java g :: below)) rfl X'
  have hstep : (doInvoke e (U.setTop g) [] mk a).1 = ((U.calling g mk a).setFrames (.java (entryFrame mk a maxL) :: .java g :: below)).setTop (entryFrame mk a maxL) := by
    have hft : (U.setTop g).frames = .java g :: below := by rw [State.frames_setTop' g h.top, X.tail]
    have hst : ((U.calling g mk a).setFrames (.java g :: below)) = U.setTop g := by
      obtain ⟨g₀, hg0⟩ := Option.isSome_iff_exists.mp h.top
      obtain ⟨r, hr⟩ := State.topJava?_eq_some.mp hg0
      have hr2 : r = below := by have := X.tail; rw [hr] at this; exact this
      rw [State.calling_eq h.top, State.setFrames_setFrames, State.setTop_of_frames _ hr, hr2]
    have hfull : e.platform.stackFull ((U.calling g mk a).setFrames (.java g :: below)).me ((U.calling g mk a).setFrames (.java g :: below)).frames cY.maxLocals = false := by
      obtain ⟨-, h1, -, h2⟩ := State.hasRoom_stack hroom
      rw [hf, List.length_cons] at h1
      rw [State.localsInUse_invoking hf hmY' hcY] at h2
      have hw := stackUse_le_stackWeight (.java g :: below)
      rw [State.frames_setFrames _ hcur]
      exact Platform.stackFull_eq_false (by rw [State.stackLimits_setFrames]; omega) (by rw [State.stackLimits_setFrames]; omega)
    rw [← hst, (doInvoke_java (s := (U.calling g mk a).setFrames (.java g :: below)) (e := e) (meth := methY) (code := cY) hmY' hcY hkY hfull).1, State.setTop_self ht1]
    simp only [State.pushFrame, State.frames_setFrames _ hcur, State.setFrames_setFrames, hlY, entryFrame]
  have hsteps' : Steps p.tables e below (doInvoke e (U.setTop g) [] mk a).1 t := by
    rw [hstep]
    obtain ⟨nn, hnn, hwi⟩ := hsteps
    exact ⟨nn, hnn, fun k hk => (show Within _ ([.java g] ++ below) from hwi k hk).weaken⟩
  obtain ⟨⟨v, rfl⟩, hW₂, e2, q2, q3, q4, q5, q6⟩ := id hfe
  have e3 : t = ({ (U.calling g mk a).setFrames t.frames with heap := t.heap, slotsUsed := t.slotsUsed } : State).setVm t.vm := by
    have : t = ({ t with vm := (U.calling g mk a).vm } : State).setVm t.vm := rfl
    rw [e2] at this
    exact this
  obtain ⟨c₂, i₂, len₂, hc₂, hd₂, hf₂⟩ := hend
  have hW' : U.WarmedH t.vm := hW₂
  have hcc : c₂ = c := by
    have h1 : t.code? g.method = U.code? g.method := by
      rw [State.code?_eq, State.code?_eq, hW'.alike.method?]
    exact Option.some.inj (hc₂.symm.trans (h1.trans h.code))
  subst hcc
  have hlen : len₂ = len := by rw [hdg] at hd₂; cases hd₂; rfl
  subst hlen
  obtain ⟨g₀, hg0⟩ := Option.isSome_iff_exists.mp h.top
  obtain ⟨r, hr⟩ := State.topJava?_eq_some.mp hg0
  have hr2 : r = below := by have := X.tail; rw [hr] at this; exact this
  subst hr2
  have hs₂ : t = (({ U with heap := t.heap, slotsUsed := t.slotsUsed } : State).setVm t.vm).setTop { g with pc := g.pc + len₂, stack := v.toList ++ g.stack } := by
    have hr' : (({ U with heap := t.heap, slotsUsed := t.slotsUsed } : State).setVm t.vm).frames = .java g₀ :: r := hr
    refine e3.trans ?_
    rw [hf₂, State.calling_eq h.top, State.setFrames_setFrames, State.setTop_of_frames _ hr']
    rfl
  have hsame : U.sameButNew ({ U with heap := t.heap, slotsUsed := t.slotsUsed } : State) L mc ms := by
    refine ⟨?_, q2, q3, q4, q5, q6⟩
    obtain ⟨t9, ht9, -⟩ := State.frames_cons hr
    show ({ U with heap := t.heap, slotsUsed := t.slotsUsed } : State) = { U.setFrames U.frames with heap := t.heap, slotsUsed := t.slotsUsed }
    rw [State.setFrames_self ht9]
  subst hg
  refine ⟨v, ⟨(({ U with heap := t.heap, slotsUsed := t.slotsUsed } : State).setVm t.vm), Ls ++ L, c0 + mc, s0 + ms⟩,
    ⟨X.admits, X.cas, X.clock, X.frames, X.room, X.hears, X.method, X.code, (X.here.setHeapUsed t.heap t.slotsUsed).setVm hW'.alike, X.tail, State.WarmedH.trans X.warmed hW', X.limits, X.bytes, X.same.trans (hsame.setVm s.vm)⟩,
    ⟨g, mk, t, L, rfl, rfl, hq, rfl, hL, rfl, rfl⟩, ?_⟩
  show Steps p.tables e r _ ((({ U with heap := t.heap, slotsUsed := t.slotsUsed } : State).setVm t.vm).setTop { g with pc := g.pc + len₂, stack := v.toList ++ g.stack })
  rw [← hs₂]
  exact hsteps'
