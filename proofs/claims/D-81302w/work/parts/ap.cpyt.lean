/-! CPYT: System.arraycopy throws -/
set_option maxRecDepth 100000
theorem int_print {x : Int} (h1 : -(2 : Int) ^ 33 < x) (h2 : x < 2 ^ 33) : (toString x).toList.length ≤ 11 := by
  cases h : x with
  | ofNat m =>
    rw [h] at h2
    have h2' : (m : Int) < 2 ^ 33 := h2
    have := nat_print (n := m) (by omega)
    show (toString m).toList.length ≤ 11
    omega
  | negSucc m =>
    rw [h] at h1
    have h1' : -(2 : Int) ^ 33 < -((m : Int) + 1) := by simpa [Int.negSucc_eq] using h1
    have := nat_print (n := m.succ) (by omega)
    show ("-" ++ toString m.succ).toList.length ≤ 11
    rw [String.toList_append, List.length_append]
    have h0 : "-".toList.length = 1 := by decide
    omega
/-- a text that the machine's own message is -/
def txOk (t : String) : Prop := (t == notModelled) = false ∧ (stringBytes (stringToUtf16 t)).size + 10 ≤ 600
theorem tx_copy {w : String} (h : w.toList.length ≤ 100) : txOk ("arraycopy: " ++ w) := by
  constructor
  · rw [beq_eq_false_iff_ne]
    intro h
    have h2 := congrArg String.toList h
    simp only [String.toList_append] at h2
    have h4 : notModelled.toList = '\u0000' :: " a message that is not modelled".toList := by decide
    have h5 : "arraycopy: ".toList = 'a' :: "rraycopy: ".toList := by decide
    rw [h4, h5] at h2
    simp at h2
  · have b1 := stringBytes_size_le (stringToUtf16 ("arraycopy: " ++ w))
    have b2 := utf16_size_le ("arraycopy: " ++ w)
    have b3 : ("arraycopy: " ++ w).toList.length ≤ 111 := by
      simp only [String.toList_append, List.length_append]
      have : "arraycopy: ".toList.length = 11 := by decide
      omega
    omega
theorem kind_len : ∀ w, (Native.java_lang_System.arraycopy.kindName (ldT w)).toList.length ≤ 5
  | 0 => by decide
  | 1 => by decide
  | w + 2 => by show "int".toList.length ≤ 5; decide
theorem arr_len (w L : Nat) (h : L < 2 ^ 31) : (toString (Native.java_lang_System.arraycopy.kindName (ldT w)) ++ toString "[" ++ toString L ++ toString "]").toList.length ≤ 17 := by
  show (toString (Native.java_lang_System.arraycopy.kindName (ldT w)) ++ toString "[" ++ toString L ++ toString "]").toList.length ≤ 17
  simp only [String.toList_append, List.length_append]
  have a1 : (toString "[").toList.length = 1 := by decide
  have a2 : (toString "]").toList.length = 1 := by decide
  have a3 := kind_len w
  have a4 := nat_print (n := L) (by omega)
  simp only [toString] at *
  omega
section CPW
variable {e : Env} {d : Bool} {acts : List Action} {s : State} {E : CtlPost}
theorem wp_copyN {src dst : Value} {sp dp n : Int32} (h : (src = .null ∧ (dst = .null ∨ ∃ q, dst = .ref q)) ∨ ((∃ q, src = .ref q) ∧ dst = .null)) (hE : ∀ acts', E (.throwNew "java/lang/NullPointerException" none) acts' s) :
    wp (Native.java_lang_System.arraycopy.sem #[src, .int sp, dst, .int dp, .int n]) (fun _ _ _ _ => False) E e d acts s := by
  have e1 : Native.java_lang_System.arraycopy.sem #[src, .int sp, dst, .int dp, .int n] = (do mark "nat.java_lang_System.arraycopy/null"; throwNew "java/lang/NullPointerException" : Sem (Option Value)) := by
    rcases h with ⟨rfl, rfl | ⟨q, rfl⟩⟩ | ⟨⟨q, rfl⟩, rfl⟩ <;> rfl
  rw [e1]
  simp only [wp_bind', W.mark, throwNew, ctl, wp_ctl]
  exact ⟨rfl, by cases d <;> rfl, hE _⟩
/-- arrays of two primitive kinds -/
theorem wp_copyA {src dst : Addr} {sp dp n : Int32} {cs cd : Cell} {ks kd : Class} {sComp dComp : ClassId} {sType dType : FieldType} (hs : s.heap[src]? = some cs) (hd : s.heap[dst]? = some cd) (hsobj : ∀ k, cs.vm ≠ .statics k) (hdobj : ∀ k, cd.vm ≠ .statics k)
    (hks : s.vm.classes[cs.cls]? = some ks) (hkd : s.vm.classes[cd.cls]? = some kd) (hsk : ks.kind = .array sComp sType) (hdk : kd.kind = .array dComp dType) (hty : ((refKind sType != refKind dType) || (!refKind sType && sType != dType)) = true)
    (hE : ∀ acts', E (.throwNew "java/lang/ArrayStoreException" (some (toString "arraycopy: type mismatch: can not copy " ++ toString (Native.java_lang_System.arraycopy.kindName sType) ++ toString "[] into " ++ toString (Native.java_lang_System.arraycopy.kindName dType) ++ toString "[]"))) acts' s) :
    wp (Native.java_lang_System.arraycopy.sem #[.ref src, .int sp, .ref dst, .int dp, .int n]) (fun _ _ _ _ => False) E e d acts s := by
  rw [Native.java_lang_System.arraycopy.sem_refs]
  unfold Native.java_lang_System.arraycopy.behind
  simp only [wp_bind', W.classOf, W.theClass, hs, hd, hks, hkd, Option.some.injEq, exists_eq_left', hsk, hdk]
  refine ⟨hsobj, hdobj, ?_⟩
  unfold refKind at hty
  simp only [hty, if_true]
  simp only [wp_bind', W.mark, throwNew, ctl, wp_ctl]
  exact ⟨rfl, by cases d <;> rfl, hE _⟩
theorem wp_copyO {src dst : Addr} {sp dp n : Int32} {cs cd : Cell} {w : Nat} (hsobj : ∀ k, cs.vm ≠ .statics k) (hdobj : ∀ k, cd.vm ≠ .statics k) (hzs : cs.slots.size < 2 ^ 31) (hzd : cd.slots.size < 2 ^ 31)
    (hbad : sp < 0 ∨ dp < 0 ∨ n < 0 ∨ sp.toInt + n.toInt > cs.slots.size ∨ dp.toInt + n.toInt > cd.slots.size) :
    ∃ text, txOk text ∧ ∀ (s : State) (ks kd : Class) (sComp dComp : ClassId), s.heap[src]? = some cs → s.heap[dst]? = some cd → s.vm.classes[cs.cls]? = some ks → s.vm.classes[cd.cls]? = some kd → ks.kind = .array sComp (ldT w) → kd.kind = .array dComp (ldT w) → ∀ (E : CtlPost) (acts : List Action), (∀ acts', E (.throwNew "java/lang/ArrayIndexOutOfBoundsException" (some text)) acts' s) → wp (Native.java_lang_System.arraycopy.sem #[.ref src, .int sp, .ref dst, .int dp, .int n]) (fun _ _ _ _ => False) E e d acts s := by
  have hty : ((refKind (ldT w) != refKind (ldT w)) || (!refKind (ldT w) && ldT w != ldT w)) = false := by simp
  have i1 := Int32.toInt_lt sp
  have i2 := Int32.le_toInt sp
  have i3 := Int32.toInt_lt dp
  have i4 := Int32.le_toInt dp
  have i5 := Int32.toInt_lt n
  have i6 := Int32.le_toInt n
  have l1 := arr_len w cs.slots.size hzs
  have l2 := arr_len w cd.slots.size hzd
  have key : ∃ what, what.toList.length ≤ 100 ∧ ∀ (s : State) (ks kd : Class) (sComp dComp : ClassId), s.heap[src]? = some cs → s.heap[dst]? = some cd → s.vm.classes[cs.cls]? = some ks → s.vm.classes[cd.cls]? = some kd → ks.kind = .array sComp (ldT w) → kd.kind = .array dComp (ldT w) → ∀ (E : CtlPost) (acts : List Action), (∀ acts', E (.throwNew "java/lang/ArrayIndexOutOfBoundsException" (some ("arraycopy: " ++ what))) acts' s) → wp (Native.java_lang_System.arraycopy.sem #[.ref src, .int sp, .ref dst, .int dp, .int n]) (fun _ _ _ _ => False) E e d acts s := by
    by_cases h1 : sp < 0
    · refine ⟨toString "source index " ++ toString sp ++ toString " out of bounds for " ++ toString (toString (Native.java_lang_System.arraycopy.kindName (ldT w)) ++ toString "[" ++ toString cs.slots.size ++ toString "]"), ?_, fun s ks kd sComp dComp hs hd hks hkd hsk hdk E acts hE => ?_⟩
      · have a1 : (toString "source index ").toList.length = 13 := by decide
        have a2 : (toString " out of bounds for ").toList.length = 19 := by decide
        have a3 := int32_print sp
        rw [String.toList_append, String.toList_append, String.toList_append, List.length_append, List.length_append, List.length_append]
        simp only [toString] at *
        omega
      · rw [Native.java_lang_System.arraycopy.sem_refs]
        unfold Native.java_lang_System.arraycopy.behind
        simp only [wp_bind', W.classOf, W.theClass, hs, hd, hks, hkd, Option.some.injEq, exists_eq_left', hsk, hdk]
        refine ⟨hsobj, hdobj, ?_⟩
        unfold refKind at hty
        simp only [hty, Bool.false_eq_true, if_false]
        simp only [wp_bind', W.sizeOf, hs, hd, Option.some.injEq, exists_eq_left', h1, if_true, if_false, W.mark, throwNew, ctl, wp_ctl]
        exact ⟨rfl, by cases d <;> rfl, hE _⟩
    · by_cases h2 : dp < 0
      · refine ⟨toString "destination index " ++ toString dp ++ toString " out of bounds for " ++ toString (toString (Native.java_lang_System.arraycopy.kindName (ldT w)) ++ toString "[" ++ toString cd.slots.size ++ toString "]"), ?_, fun s ks kd sComp dComp hs hd hks hkd hsk hdk E acts hE => ?_⟩
        · have a1 : (toString "destination index ").toList.length = 18 := by decide
          have a2 : (toString " out of bounds for ").toList.length = 19 := by decide
          have a3 := int32_print dp
          rw [String.toList_append, String.toList_append, String.toList_append, List.length_append, List.length_append, List.length_append]
          simp only [toString] at *
          omega
        · rw [Native.java_lang_System.arraycopy.sem_refs]
          unfold Native.java_lang_System.arraycopy.behind
          simp only [wp_bind', W.classOf, W.theClass, hs, hd, hks, hkd, Option.some.injEq, exists_eq_left', hsk, hdk]
          refine ⟨hsobj, hdobj, ?_⟩
          unfold refKind at hty
          simp only [hty, Bool.false_eq_true, if_false]
          simp only [wp_bind', W.sizeOf, hs, hd, Option.some.injEq, exists_eq_left', h1, h2, if_true, if_false, W.mark, throwNew, ctl, wp_ctl]
          exact ⟨rfl, by cases d <;> rfl, hE _⟩
      · by_cases h3 : n < 0
        · refine ⟨toString "length " ++ toString n ++ toString " is negative", ?_, fun s ks kd sComp dComp hs hd hks hkd hsk hdk E acts hE => ?_⟩
          · have a1 : (toString "length ").toList.length = 7 := by decide
            have a2 : (toString " is negative").toList.length = 12 := by decide
            have a3 := int32_print n
            rw [String.toList_append, String.toList_append, List.length_append, List.length_append]
            simp only [toString] at *
            omega
          · rw [Native.java_lang_System.arraycopy.sem_refs]
            unfold Native.java_lang_System.arraycopy.behind
            simp only [wp_bind', W.classOf, W.theClass, hs, hd, hks, hkd, Option.some.injEq, exists_eq_left', hsk, hdk]
            refine ⟨hsobj, hdobj, ?_⟩
            unfold refKind at hty
            simp only [hty, Bool.false_eq_true, if_false]
            simp only [wp_bind', W.sizeOf, hs, hd, Option.some.injEq, exists_eq_left', h1, h2, h3, if_true, if_false, W.mark, throwNew, ctl, wp_ctl]
            exact ⟨rfl, by cases d <;> rfl, hE _⟩
        · by_cases h4 : sp.toInt + n.toInt > cs.slots.size
          · refine ⟨toString "last source index " ++ toString (sp.toInt + n.toInt) ++ toString " out of bounds for " ++ toString (toString (Native.java_lang_System.arraycopy.kindName (ldT w)) ++ toString "[" ++ toString cs.slots.size ++ toString "]"), ?_, fun s ks kd sComp dComp hs hd hks hkd hsk hdk E acts hE => ?_⟩
            · have a1 : (toString "last source index ").toList.length = 18 := by decide
              have a2 : (toString " out of bounds for ").toList.length = 19 := by decide
              have a3 := int_print (x := sp.toInt + n.toInt) (by omega) (by omega)
              rw [String.toList_append, String.toList_append, String.toList_append, List.length_append, List.length_append, List.length_append]
              simp only [toString] at *
              omega
            · rw [Native.java_lang_System.arraycopy.sem_refs]
              unfold Native.java_lang_System.arraycopy.behind
              simp only [wp_bind', W.classOf, W.theClass, hs, hd, hks, hkd, Option.some.injEq, exists_eq_left', hsk, hdk]
              refine ⟨hsobj, hdobj, ?_⟩
              unfold refKind at hty
              simp only [hty, Bool.false_eq_true, if_false]
              simp only [wp_bind', W.sizeOf, hs, hd, Option.some.injEq, exists_eq_left', h1, h2, h3, h4, if_true, if_false, W.mark, throwNew, ctl, wp_ctl]
              exact ⟨rfl, by cases d <;> rfl, hE _⟩
          · by_cases h5 : dp.toInt + n.toInt > cd.slots.size
            · refine ⟨toString "last destination index " ++ toString (dp.toInt + n.toInt) ++ toString " out of bounds for " ++ toString (toString (Native.java_lang_System.arraycopy.kindName (ldT w)) ++ toString "[" ++ toString cd.slots.size ++ toString "]"), ?_, fun s ks kd sComp dComp hs hd hks hkd hsk hdk E acts hE => ?_⟩
              · have a1 : (toString "last destination index ").toList.length = 23 := by decide
                have a2 : (toString " out of bounds for ").toList.length = 19 := by decide
                have a3 := int_print (x := dp.toInt + n.toInt) (by omega) (by omega)
                rw [String.toList_append, String.toList_append, String.toList_append, List.length_append, List.length_append, List.length_append]
                simp only [toString] at *
                omega
              · rw [Native.java_lang_System.arraycopy.sem_refs]
                unfold Native.java_lang_System.arraycopy.behind
                simp only [wp_bind', W.classOf, W.theClass, hs, hd, hks, hkd, Option.some.injEq, exists_eq_left', hsk, hdk]
                refine ⟨hsobj, hdobj, ?_⟩
                unfold refKind at hty
                simp only [hty, Bool.false_eq_true, if_false]
                simp only [wp_bind', W.sizeOf, hs, hd, Option.some.injEq, exists_eq_left', h1, h2, h3, h4, h5, if_true, if_false, W.mark, throwNew, ctl, wp_ctl]
                exact ⟨rfl, by cases d <;> rfl, hE _⟩
            · exact absurd hbad (by simp only [h1, h2, h3, h4, h5, or_self, not_false_iff])
  obtain ⟨what, h1, h2⟩ := key
  exact ⟨_, tx_copy h1, h2⟩
end CPW
