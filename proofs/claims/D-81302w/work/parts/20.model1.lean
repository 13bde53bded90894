/-! MODEL 1: the reference's small methods (by program: gen/model1.py) -/
set_option maxRecDepth 100000
/-- the reference's net and calls as numbers: n persons, of each the numbers in the net, nc calls by cp of cq -/
def MG (σ : MS) (n : Nat) (net : Nat → Nat) (nc : Nat) (cp cq : Nat → Nat) : Prop :=
  n < 5 ∧ σ.1 5 = nI n ∧ (∀ q, q < 4 → σ.2.1 6 q = nI (net q) ∧ net q < 16) ∧ nc ≤ 12 ∧ σ.1 9 = nI nc ∧ ∀ j, j < nc → σ.2.1 10 j = nI (cp j) ∧ σ.2.1 11 j = nI (cq j) ∧ cp j < n ∧ cq j < n
theorem plA_step {sx tx pa : Nat} (ht : tx < 16) (hp : pa < 4) : ((nI (plA sx tx pa) <<< ((3 : Int32) &&& 31)) ||| (nI (hs4 sx pa) &&& (((1 : Int32) <<< (nI pa &&& 31)) - 1))) ||| ((nI (hs4 sx pa) >>> ((nI pa + 1) &&& 31)) <<< (nI pa &&& 31)) = nI (plA sx tx (pa + 1)) := by
  have h1 := plA_lt (s := sx) ht pa (by omega)
  have h2 : 2 ^ (4 + 3 * pa) ≤ 2 ^ 13 := Nat.pow_le_pow_right (by decide) (by omega)
  have h3 := hs4_lt sx pa
  have e3 : nI (plA sx tx pa) <<< ((3 : Int32) &&& 31) = nI (plA sx tx pa <<< 3) := nI_shl (k := 3) (by decide) (by omega)
  have e4 : ((1 : Int32) <<< (nI pa &&& 31)) - 1 = nI (2 ^ pa - 1) := al_eq pa (by omega)
  have e5 : nI (hs4 sx pa) >>> ((nI pa + 1) &&& 31) = nI (hs4 sx pa >>> (pa + 1)) := by
    rw [nI_1]
    exact nI_shr (by omega) (by omega)
  have h6 : hs4 sx pa >>> (pa + 1) < 16 := by
    rw [Nat.shiftRight_eq_div_pow]
    exact Nat.lt_of_le_of_lt (Nat.div_le_self _ _) h3
  have h7 : 2 ^ pa ≤ 2 ^ 3 := Nat.pow_le_pow_right (by decide) (by omega)
  have e6 : nI (hs4 sx pa >>> (pa + 1)) <<< (nI pa &&& 31) = nI ((hs4 sx pa >>> (pa + 1)) <<< pa) := by
    refine nI_shl (by omega) ?_
    have : hs4 sx pa >>> (pa + 1) * 2 ^ pa ≤ 16 * 2 ^ 3 := Nat.mul_le_mul (by omega) h7
    omega
  rw [e3, e4, e5, e6, nI_and, nI_or, nI_or]
  rfl
theorem num_step {nb sx pa q : Nat} {net : Nat → Nat} (hnb : net q = nb) : nI (numA net sx pa q) ||| (if (hs4 sx pa).testBit q then nI nb ||| nI (2 ^ q) else 0) = nI (numA net sx pa (q + 1)) := by
  subst hnb
  show _ = nI (numA net sx pa q ||| (if (hs4 sx pa).testBit q then net q ||| 2 ^ q else 0))
  split
  · rw [nI_or, nI_or]
  · exact nI_or _ 0
theorem bts_step {x k : Nat} (hx : x < 65536) (hk : k < 16) : nI (bts x k) + ((nI x >>> (nI k &&& 31)) &&& 1) = nI (bts x (k + 1)) := by
  rw [bit_eq (by omega) (by omega), bit_tb, nI_add]
  rfl
theorem shl1 : ∀ q, q < 4 → (1 : Int32) <<< (nI q &&& 31) = nI (2 ^ q) := by decide +kernel
theorem plc_end {sx tx : Nat} : nI (plA sx tx 4) &&& 65535 = nI (plc sx tx) := nI_and _ 65535
theorem tkA_2 {tx pa qa r : Nat} (ht : tx < 16) (hp : pa < 4) (hq : qa < 4) (h : r = 2) : (nI tx &&& (((1 : Int32) <<< (nI pa &&& 31)) ^^^ (-1))) ||| ((1 : Int32) <<< (nI qa &&& 31)) = nI (tkA r tx pa qa) := by
  rw [tk2_eq tx ht pa hp qa hq, tkA, if_pos h]
theorem tkA_3 {tx pa qa r : Nat} (ht : tx < 16) (hq : qa < 4) (h2 : ¬ r = 2) (h : r = 3) : nI tx &&& (((1 : Int32) <<< (nI qa &&& 31)) ^^^ (-1)) = nI (tkA r tx pa qa) := by
  rw [tk3_eq tx ht qa hq, tkA, if_neg h2, if_pos h]
theorem tkA_0 {tx pa qa r : Nat} (h2 : ¬ r = 2) (h : ¬ r = 3) : nI tx = nI (tkA r tx pa qa) := by
  rw [tkA, if_neg h2, if_neg h]
set_option maxHeartbeats 4000000 in
theorem r1_isIn (l : Launch) (D : va_G) (dA : Nat → ClassId) (v lo hi : Int32) : RC l yX1_isIn cX1_isIn 3 (some .boolean) 0 0 D dA [.int v, .int lo, .int hi] (fun _ => True) (fun v9 => v9 = some (.int (b2i (inR v lo hi)))) := by
  refine RC.of (by decide) (Nat.le_of_ble_eq_true rfl) ?_
  intro p e s m below meth c ls S hr hlk hK hP hl
  have hx := S.1
  have hb := S.2.1
  have hl : lv_has ls 3 [(0, .int v), (1, .int lo), (2, .int hi)] := hl
  refine lv_iload_n hx hb dX1_isIn_0 rfl (lv_at hl 0 rfl) ?_
  refine lv_iload_n hx hb dX1_isIn_1 rfl (lv_at hl 1 rfl) ?_
  refine lv_icmp_lt (tgt := 14) hx hb dX1_isIn_2 (by decide) (fun c_2 => ?_) (fun c_2 => ?_)
  · refine lv_iconst (v := 0) hx hb dX1_isIn_14 (by decide) ?_
    exact r_zret S hr hlk dX1_isIn_15 (by decide) (congrArg (fun z : Int32 => some (Value.int z)) (show 0 = b2i (inR v lo hi) from by simp [inR, b2i, *]))
  · refine lv_iload_n hx hb dX1_isIn_5 rfl (lv_at hl 0 rfl) ?_
    refine lv_iload_n hx hb dX1_isIn_6 rfl (lv_at hl 2 rfl) ?_
    refine lv_icmp_gt (tgt := 14) hx hb dX1_isIn_7 (by decide) (fun c_7 => ?_) (fun c_7 => ?_)
    · refine lv_iconst (v := 0) hx hb dX1_isIn_14 (by decide) ?_
      exact r_zret S hr hlk dX1_isIn_15 (by decide) (congrArg (fun z : Int32 => some (Value.int z)) (show 0 = b2i (inR v lo hi) from by simp [inR, b2i, *]))
    · refine lv_iconst (v := 1) hx hb dX1_isIn_10 (by decide) ?_
      refine lv_goto (tgt := 15) hx hb dX1_isIn_11 (by decide) ?_
      exact r_zret S hr hlk dX1_isIn_15 (by decide) (congrArg (fun z : Int32 => some (Value.int z)) (show 1 = b2i (inR v lo hi) from by simp [inR, b2i, *]))
set_option maxHeartbeats 4000000 in
theorem r1_isSheet (l : Launch) (D : va_G) (dA : Nat → ClassId) (v : Int32) : RC l yX1_isSheet cX1_isSheet 1 (some .boolean) 1 22 D dA [.int v] (fun _ => True) (fun v9 => v9 = some (.int (b2i (inR v 0 3)))) := by
  refine RC.of (by decide) (Nat.le_of_ble_eq_true rfl) ?_
  intro p e s m below meth c ls S hr hlk hK hP hl
  have hx := S.1
  have hb := S.2.1
  have hl : lv_has ls 1 [(0, .int v)] := hl
  refine lv_iload_n hx hb dX1_isSheet_0 rfl (lv_at hl 0 rfl) ?_
  refine lv_iconst (v := 0) hx hb dX1_isSheet_1 (by decide) ?_
  refine lv_iconst (v := 3) hx hb dX1_isSheet_2 (by decide) ?_
  refine rc_Si (rest := []) [.int v, .int 0, .int 3] 3 S hK (r1_isIn l D dA v 0 3) wl_X1_78 wd_X1_X1_isIn rfl ⟨Nat.le_of_ble_eq_true rfl, Nat.le_of_ble_eq_true rfl⟩ hl.1 (Nat.le_of_ble_eq_true rfl) dX1_isSheet_3 ⟨Nat.le_refl 0, Nat.le_refl 0⟩ (trivial) ?_ rfl
  exact r_zret S hr hlk dX1_isSheet_6 (b2i_nar _) (congrArg (fun z : Int32 => some (Value.int z)) (show b2i (inR v 0 3) = b2i (inR v 0 3) from rfl))
set_option maxHeartbeats 4000000 in
theorem r1_isLane (l : Launch) (D : va_G) (dA : Nat → ClassId) (v : Int32) : RC l yX1_isLane cX1_isLane 1 (some .boolean) 1 22 D dA [.int v] (fun _ => True) (fun v9 => v9 = some (.int (b2i (inR v 0 2)))) := by
  refine RC.of (by decide) (Nat.le_of_ble_eq_true rfl) ?_
  intro p e s m below meth c ls S hr hlk hK hP hl
  have hx := S.1
  have hb := S.2.1
  have hl : lv_has ls 1 [(0, .int v)] := hl
  refine lv_iload_n hx hb dX1_isLane_0 rfl (lv_at hl 0 rfl) ?_
  refine lv_iconst (v := 0) hx hb dX1_isLane_1 (by decide) ?_
  refine lv_iconst (v := 2) hx hb dX1_isLane_2 (by decide) ?_
  refine rc_Si (rest := []) [.int v, .int 0, .int 2] 3 S hK (r1_isIn l D dA v 0 2) wl_X1_78 wd_X1_X1_isIn rfl ⟨Nat.le_of_ble_eq_true rfl, Nat.le_of_ble_eq_true rfl⟩ hl.1 (Nat.le_of_ble_eq_true rfl) dX1_isLane_3 ⟨Nat.le_refl 0, Nat.le_refl 0⟩ (trivial) ?_ rfl
  exact r_zret S hr hlk dX1_isLane_6 (b2i_nar _) (congrArg (fun z : Int32 => some (Value.int z)) (show b2i (inR v 0 2) = b2i (inR v 0 2) from rfl))
set_option maxHeartbeats 4000000 in
theorem r1_isRule (l : Launch) (D : va_G) (dA : Nat → ClassId) (v : Int32) : RC l yX1_isRule cX1_isRule 1 (some .boolean) 1 22 D dA [.int v] (fun _ => True) (fun v9 => v9 = some (.int (b2i (inR v 0 3)))) := by
  refine RC.of (by decide) (Nat.le_of_ble_eq_true rfl) ?_
  intro p e s m below meth c ls S hr hlk hK hP hl
  have hx := S.1
  have hb := S.2.1
  have hl : lv_has ls 1 [(0, .int v)] := hl
  refine lv_iload_n hx hb dX1_isRule_0 rfl (lv_at hl 0 rfl) ?_
  refine lv_iconst (v := 0) hx hb dX1_isRule_1 (by decide) ?_
  refine lv_iconst (v := 3) hx hb dX1_isRule_2 (by decide) ?_
  refine rc_Si (rest := []) [.int v, .int 0, .int 3] 3 S hK (r1_isIn l D dA v 0 3) wl_X1_78 wd_X1_X1_isIn rfl ⟨Nat.le_of_ble_eq_true rfl, Nat.le_of_ble_eq_true rfl⟩ hl.1 (Nat.le_of_ble_eq_true rfl) dX1_isRule_3 ⟨Nat.le_refl 0, Nat.le_refl 0⟩ (trivial) ?_ rfl
  exact r_zret S hr hlk dX1_isRule_6 (b2i_nar _) (congrArg (fun z : Int32 => some (Value.int z)) (show b2i (inR v 0 3) = b2i (inR v 0 3) from rfl))
set_option maxHeartbeats 4000000 in
theorem r1_has (l : Launch) (D : va_G) (dA : Nat → ClassId) (x k : Nat) (hx9 : x < 2 ^ 31) (hk : k < 32) : RC l yX1_has cX1_has 2 (some .boolean) 0 0 D dA [.int (nI x), .int (nI k)] (fun _ => True) (fun v9 => v9 = some (.int (b2i (x.testBit k)))) := by
  refine RC.of (by decide) (Nat.le_of_ble_eq_true rfl) ?_
  intro p e s m below meth c ls S hr hlk hK hP hl
  have hx := S.1
  have hb := S.2.1
  have hl : lv_has ls 2 [(0, .int (nI x)), (1, .int (nI k))] := hl
  have hh := bit_1 hx9 hk
  refine lv_iload_n hx hb dX1_has_0 rfl (lv_at hl 0 rfl) ?_
  refine lv_iload_n hx hb dX1_has_1 rfl (lv_at hl 1 rfl) ?_
  refine lv_ishr hx hb dX1_has_2 ?_
  refine lv_iconst (v := 1) hx hb dX1_has_3 (by decide) ?_
  refine lv_iand hx hb dX1_has_4 ?_
  refine lv_iconst (v := 1) hx hb dX1_has_5 (by decide) ?_
  refine lv_icmp_ne (tgt := 13) hx hb dX1_has_6 (by decide) (fun c_6 => ?_) (fun c_6 => ?_)
  · refine lv_iconst (v := 0) hx hb dX1_has_13 (by decide) ?_
    exact r_zret S hr hlk dX1_has_14 (by decide) (congrArg (fun z : Int32 => some (Value.int z)) (show 0 = b2i (x.testBit k) from by rw [Bool.eq_false_iff.mpr (fun h9 => c_6 (hh.mpr h9))]; rfl))
  · refine lv_iconst (v := 1) hx hb dX1_has_9 (by decide) ?_
    refine lv_goto (tgt := 14) hx hb dX1_has_10 (by decide) ?_
    exact r_zret S hr hlk dX1_has_14 (by decide) (congrArg (fun z : Int32 => some (Value.int z)) (show 1 = b2i (x.testBit k) from by rw [hh.mp c_6]; rfl))
set_option maxHeartbeats 4000000 in
theorem r1_bitsOf (l : Launch) (D : va_G) (dA : Nat → ClassId) (x : Nat) (hx9 : x < 65536) : RC l yX1_bitsOf cX1_bitsOf 3 (some .int) 0 0 D dA [.int (nI x)] (fun _ => True) (fun v9 => v9 = some (.int (nI (bts x 16)))) := by
  refine RC.of (by decide) (Nat.le_of_ble_eq_true rfl) ?_
  intro p e s m below meth c ls S hr hlk hK hP hl
  have hx := S.1
  have hb := S.2.1
  have hl : lv_has ls 3 [(0, .int (nI x))] := hl
  refine lv_iconst (v := 0) hx hb dX1_bitsOf_0 (by decide) ?_
  refine lv_istore_n (lv' := [(1, .int 0), (0, .int (nI x))]) hx hb dX1_bitsOf_1 rfl hl (by decide) rfl (fun ls hl => ?_)
  refine lv_iconst (v := 0) hx hb dX1_bitsOf_2 (by decide) ?_
  refine lv_istore_n (lv' := [(2, .int 0), (1, .int 0), (0, .int (nI x))]) hx hb dX1_bitsOf_3 rfl hl (by decide) rfl (fun ls hl => ?_)
  have hloop4 : ∀ (k4 i4 : Nat), i4 + k4 = 16 → ∀ (ls : Array Slot), lv_has ls 3 [(2, .int (nI i4)), (1, .int (nI (bts x i4))), (0, .int (nI x))] → W p l e ({ frames := 0, cells := 0, slots := 0, locals := 0 }) s m [.int (nI x)].toArray below meth c s.heap [] 0 0 (RZ below (fun v9 => v9 = some (.int (nI (bts x 16)))) [.int (nI x)] s) (F0 m 4 ls []) := by
    intro k4
    induction k4 with
    | zero =>
      intro i4 hi4 ls hl
      have hi4 : i4 = 16 := by omega
      refine lv_iload_n hx hb dX1_bitsOf_4 rfl (lv_at hl 0 rfl) ?_
      refine lv_bipush (v := 16) hx hb dX1_bitsOf_5 (by decide) ?_
      refine lv_icmp_ge (tgt := 24) hx hb dX1_bitsOf_7 (by decide) (fun c_7 => ?_) (fun c_7 => absurd (show nI 16 ≤ nI i4 from nI_le (by omega) (by omega)) c_7)
      refine lv_iload_n hx hb dX1_bitsOf_24 rfl (lv_at hl 1 rfl) ?_
      exact r_iret S hr hlk dX1_bitsOf_25 (congrArg (fun z : Int32 => some (Value.int z)) (show nI (bts x i4) = nI (bts x 16) from by rw [hi4]))
    | succ k4 ih4 =>
      intro i4 hi4 ls hl
      have hlt4 : i4 < 16 := by omega
      refine lv_iload_n hx hb dX1_bitsOf_4 rfl (lv_at hl 0 rfl) ?_
      refine lv_bipush (v := 16) hx hb dX1_bitsOf_5 (by decide) ?_
      refine lv_icmp_ge (tgt := 24) hx hb dX1_bitsOf_7 (by decide) (fun c_7 => absurd c_7 (show ¬ nI 16 ≤ nI i4 from nI_ge (by omega) (by omega))) (fun c_7 => ?_)
      refine lv_iload_n hx hb dX1_bitsOf_10 rfl (lv_at hl 1 rfl) ?_
      refine lv_iload_n hx hb dX1_bitsOf_11 rfl (lv_at hl 2 rfl) ?_
      refine lv_iload_n hx hb dX1_bitsOf_12 rfl (lv_at hl 0 rfl) ?_
      refine lv_ishr hx hb dX1_bitsOf_13 ?_
      refine lv_iconst (v := 1) hx hb dX1_bitsOf_14 (by decide) ?_
      refine lv_iand hx hb dX1_bitsOf_15 ?_
      refine lv_iadd hx hb dX1_bitsOf_16 ?_
      refine lv_istore_n (lv' := [(1, .int ((nI (bts x i4)) + (((nI x) >>> ((nI i4) &&& 31)) &&& 1))), (2, .int (nI i4)), (0, .int (nI x))]) hx hb dX1_bitsOf_17 rfl hl (by decide) rfl (fun ls hl => ?_)
      refine lv_iinc (v := nI (i4 + 1)) (lv' := [(2, .int (nI (i4 + 1))), (1, .int ((nI (bts x i4)) + (((nI x) >>> ((nI i4) &&& 31)) &&& 1))), (0, .int (nI x))]) hx hb dX1_bitsOf_18 hl (k := 1) rfl (nI_1 _) (by decide) rfl (fun ls hl => ?_)
      refine lv_goto (tgt := 4) hx hb dX1_bitsOf_21 (by decide) ?_
      have e4_1 : nI (bts x (i4 + 1)) = (nI (bts x i4)) + (((nI x) >>> ((nI i4) &&& 31)) &&& 1) := by exact (bts_step hx9 hlt4).symm
      exact ih4 (i4 + 1) (by omega) ls (by rw [e4_1]; exact lv_sub hl [0, 1, 2] rfl)
  exact hloop4 (16) 0 (by omega) ls (lv_sub hl [0, 1, 2] rfl)
set_option maxHeartbeats 4000000 in
theorem r1_of (l : Launch) (D : va_G) (dA : Nat → ClassId) (sx pa : Nat) (hs : sx < 65536) (hp : pa < 4) : RC l yX1_of cX1_of 2 (some .int) 0 0 D dA [.int (nI sx), .int (nI pa)] (fun _ => True) (fun v9 => v9 = some (.int (nI (hs4 sx pa)))) := by
  refine RC.of (by decide) (Nat.le_of_ble_eq_true rfl) ?_
  intro p e s m below meth c ls S hr hlk hK hP hl
  have hx := S.1
  have hb := S.2.1
  have hl : lv_has ls 2 [(0, .int (nI sx)), (1, .int (nI pa))] := hl
  refine lv_iload_n hx hb dX1_of_0 rfl (lv_at hl 0 rfl) ?_
  refine lv_iconst (v := 4) hx hb dX1_of_1 (by decide) ?_
  refine lv_iload_n hx hb dX1_of_2 rfl (lv_at hl 1 rfl) ?_
  refine lv_imul hx hb dX1_of_3 ?_
  refine lv_ishr hx hb dX1_of_4 ?_
  refine lv_bipush (v := 15) hx hb dX1_of_5 (by decide) ?_
  refine lv_iand hx hb dX1_of_7 ?_
  exact r_iret S hr hlk dX1_of_8 (congrArg (fun z : Int32 => some (Value.int z)) (show ((nI sx) >>> ((4 * (nI pa)) &&& 31)) &&& 15 = nI (hs4 sx pa) from hs4_eq hs hp))
set_option maxHeartbeats 4000000 in
theorem r1_afterCall (l : Launch) (D : va_G) (dA : Nat → ClassId) (sx pa qa : Nat) (hs : sx < 65536) (hp : pa < 4) (hq : qa < 4) : RC l yX1_afterCall cX1_afterCall 4 (some .int) 1 21 D dA [.int (nI sx), .int (nI pa), .int (nI qa)] (fun _ => True) (fun v9 => v9 = some (.int (nI (aft sx pa qa)))) := by
  refine RC.of (by decide) (Nat.le_of_ble_eq_true rfl) ?_
  intro p e s m below meth c ls S hr hlk hK hP hl
  have hx := S.1
  have hb := S.2.1
  have hl : lv_has ls 4 [(0, .int (nI sx)), (1, .int (nI pa)), (2, .int (nI qa))] := hl
  refine lv_iload_n hx hb dX1_afterCall_0 rfl (lv_at hl 0 rfl) ?_
  refine lv_iload_n hx hb dX1_afterCall_1 rfl (lv_at hl 1 rfl) ?_
  refine rc_Si (rest := []) [.int (nI sx), .int (nI pa)] 2 S hK (r1_of l D dA sx pa (by first | assumption | omega | decide) (by first | assumption | omega | decide)) wl_X1_110 wd_X1_X1_of rfl ⟨Nat.le_of_ble_eq_true rfl, Nat.le_of_ble_eq_true rfl⟩ hl.1 (Nat.le_of_ble_eq_true rfl) dX1_afterCall_2 ⟨Nat.le_refl 0, Nat.le_refl 0⟩ (trivial) ?_ rfl
  refine lv_iload_n hx hb dX1_afterCall_5 rfl (lv_at hl 0 rfl) ?_
  refine lv_iload_n hx hb dX1_afterCall_6 rfl (lv_at hl 2 rfl) ?_
  refine rc_Si (rest := [.int (nI (hs4 sx pa))]) [.int (nI sx), .int (nI qa)] 2 S hK (r1_of l D dA sx qa (by first | assumption | omega | decide) (by first | assumption | omega | decide)) wl_X1_110 wd_X1_X1_of rfl ⟨Nat.le_of_ble_eq_true rfl, Nat.le_of_ble_eq_true rfl⟩ hl.1 (Nat.le_of_ble_eq_true rfl) dX1_afterCall_7 ⟨Nat.le_refl 0, Nat.le_refl 0⟩ (trivial) ?_ rfl
  refine lv_ior hx hb dX1_afterCall_10 ?_
  refine lv_istore_n (lv' := [(3, .int ((nI (hs4 sx pa)) ||| (nI (hs4 sx qa)))), (0, .int (nI sx)), (1, .int (nI pa)), (2, .int (nI qa))]) hx hb dX1_afterCall_11 rfl hl (by decide) rfl (fun ls hl => ?_)
  refine lv_iload_n hx hb dX1_afterCall_12 rfl (lv_at hl 1 rfl) ?_
  refine lv_iload_n hx hb dX1_afterCall_13 rfl (lv_at hl 0 rfl) ?_
  refine lv_iconst (v := 4) hx hb dX1_afterCall_14 (by decide) ?_
  refine lv_iload_n hx hb dX1_afterCall_15 rfl (lv_at hl 2 rfl) ?_
  refine lv_imul hx hb dX1_afterCall_16 ?_
  refine lv_ishl hx hb dX1_afterCall_17 ?_
  refine lv_ior hx hb dX1_afterCall_18 ?_
  refine lv_iload_n hx hb dX1_afterCall_19 rfl (lv_at hl 0 rfl) ?_
  refine lv_iconst (v := 4) hx hb dX1_afterCall_20 (by decide) ?_
  refine lv_iload_n hx hb dX1_afterCall_21 rfl (lv_at hl 3 rfl) ?_
  refine lv_imul hx hb dX1_afterCall_22 ?_
  refine lv_ishl hx hb dX1_afterCall_23 ?_
  refine lv_ior hx hb dX1_afterCall_24 ?_
  exact r_iret S hr hlk dX1_afterCall_25 (congrArg (fun z : Int32 => some (Value.int z)) (show ((nI sx) ||| (((nI (hs4 sx pa)) ||| (nI (hs4 sx qa))) <<< ((4 * (nI pa)) &&& 31))) ||| (((nI (hs4 sx pa)) ||| (nI (hs4 sx qa))) <<< ((4 * (nI qa)) &&& 31)) = nI (aft sx pa qa) from aft_eq hp hq))
set_option maxHeartbeats 4000000 in
theorem r1_startOf (l : Launch) (D : va_G) (dA : Nat → ClassId) (b : Nat) (n : Nat) (hn : n < 5) : RC l yX1_startOf cX1_startOf 2 (some .int) 0 0 D dA [.ref b, .int (nI n)] (fun _ => True) (fun v9 => v9 = some (.int (nI (st0 n)))) := by
  refine RC.of (by decide) (Nat.le_of_ble_eq_true rfl) ?_
  intro p e s m below meth c ls S hr hlk hK hP hl
  have hx := S.1
  have hb := S.2.1
  have hl : lv_has ls 2 [(0, .ref b), (1, .int (nI n))] := hl
  refine lv_ldc (v := 33825) hx hb S.2.2.2.1 (S.2.2.2.2 _ q1309) dX1_startOf_0 ?_
  refine lv_iconst (v := 1) hx hb dX1_startOf_2 (by decide) ?_
  refine lv_iconst (v := 4) hx hb dX1_startOf_3 (by decide) ?_
  refine lv_iload_n hx hb dX1_startOf_4 rfl (lv_at hl 1 rfl) ?_
  refine lv_imul hx hb dX1_startOf_5 ?_
  refine lv_ishl hx hb dX1_startOf_6 ?_
  refine lv_iconst (v := 1) hx hb dX1_startOf_7 (by decide) ?_
  refine lv_isub hx hb dX1_startOf_8 ?_
  refine lv_iand hx hb dX1_startOf_9 ?_
  exact r_iret S hr hlk dX1_startOf_10 (congrArg (fun z : Int32 => some (Value.int z)) (show 33825 &&& (((1 : Int32) <<< ((4 * (nI n)) &&& 31)) - 1) = nI (st0 n) from st0_eq n hn))
set_option maxHeartbeats 4000000 in
theorem r1_areExperts (l : Launch) (D : va_G) (dA : Nat → ClassId) (b : Nat) (sx n : Nat) (hs : sx < 65536) (hn : n < 5) : RC l yX1_areExperts cX1_areExperts 4 (some .boolean) 1 21 D dA [.ref b, .int (nI sx), .int (nI n)] (fun _ => True) (fun v9 => v9 = some (.int (b2i (exB n sx)))) := by
  refine RC.of (by decide) (Nat.le_of_ble_eq_true rfl) ?_
  intro p e s m below meth c ls S hr hlk hK hP hl
  have hx := S.1
  have hb := S.2.1
  have hl : lv_has ls 4 [(0, .ref b), (1, .int (nI sx)), (2, .int (nI n))] := hl
  refine lv_iconst (v := 0) hx hb dX1_areExperts_0 (by decide) ?_
  refine lv_istore_n (lv' := [(3, .int 0), (0, .ref b), (1, .int (nI sx)), (2, .int (nI n))]) hx hb dX1_areExperts_1 rfl hl (by decide) rfl (fun ls hl => ?_)
  have hloop2 : ∀ (k2 i2 : Nat), i2 + k2 = n → (∀ j, j < i2 → hs4 sx j = al n) → ∀ (ls : Array Slot), lv_has ls 4 [(3, .int (nI i2)), (0, .ref b), (1, .int (nI sx)), (2, .int (nI n))] → W p l e ({ frames := 1, cells := 0, slots := 0, locals := 21 }) s m [.ref b, .int (nI sx), .int (nI n)].toArray below meth c s.heap [] 0 0 (RZ below (fun v9 => v9 = some (.int (b2i (exB n sx)))) [.ref b, .int (nI sx), .int (nI n)] s) (F0 m 2 ls []) := by
    intro k2
    induction k2 with
    | zero =>
      intro i2 hi2 hinv2 ls hl
      have hi2 : i2 = n := by omega
      refine lv_iload_n hx hb dX1_areExperts_2 rfl (lv_at hl 0 rfl) ?_
      refine lv_iload_n hx hb dX1_areExperts_3 rfl (lv_at hl 3 rfl) ?_
      refine lv_icmp_ge (tgt := 28) hx hb dX1_areExperts_4 (by decide) (fun c_4 => ?_) (fun c_4 => absurd (show nI n ≤ nI i2 from nI_le (by omega) (by omega)) c_4)
      refine lv_iconst (v := 1) hx hb dX1_areExperts_28 (by decide) ?_
      exact r_zret S hr hlk dX1_areExperts_29 (by decide) (congrArg (fun z : Int32 => some (Value.int z)) (show 1 = b2i (exB n sx) from by rw [exB_true (fun j hj => hinv2 j (by omega))]; rfl))
    | succ k2 ih2 =>
      intro i2 hi2 hinv2 ls hl
      have hlt2 : i2 < n := by omega
      refine lv_iload_n hx hb dX1_areExperts_2 rfl (lv_at hl 0 rfl) ?_
      refine lv_iload_n hx hb dX1_areExperts_3 rfl (lv_at hl 3 rfl) ?_
      refine lv_icmp_ge (tgt := 28) hx hb dX1_areExperts_4 (by decide) (fun c_4 => absurd c_4 (show ¬ nI n ≤ nI i2 from nI_ge (by omega) (by omega))) (fun c_4 => ?_)
      refine lv_iload_n hx hb dX1_areExperts_7 rfl (lv_at hl 2 rfl) ?_
      refine lv_iload_n hx hb dX1_areExperts_8 rfl (lv_at hl 0 rfl) ?_
      refine rc_Si (rest := []) [.int (nI sx), .int (nI i2)] 2 S hK (r1_of l D dA sx i2 (by first | assumption | omega | decide) (by first | assumption | omega | decide)) wl_X1_110 wd_X1_X1_of rfl ⟨Nat.le_of_ble_eq_true rfl, Nat.le_of_ble_eq_true rfl⟩ hl.1 (Nat.le_of_ble_eq_true rfl) dX1_areExperts_9 ⟨Nat.le_refl 0, Nat.le_refl 0⟩ (trivial) ?_ rfl
      refine lv_iconst (v := 1) hx hb dX1_areExperts_12 (by decide) ?_
      refine lv_iload_n hx hb dX1_areExperts_13 rfl (lv_at hl 3 rfl) ?_
      refine lv_ishl hx hb dX1_areExperts_14 ?_
      refine lv_iconst (v := 1) hx hb dX1_areExperts_15 (by decide) ?_
      refine lv_isub hx hb dX1_areExperts_16 ?_
      refine topi (z := nI (al n)) (al_eq n hn) ?_
      refine lv_icmp_eq (tgt := 22) hx hb dX1_areExperts_17 (by decide) (fun c_17 => ?_) (fun c_17 => ?_)
      · have c_17 := nI_inj (Nat.lt_trans (hs4_lt _ _) (by decide)) (Nat.lt_trans (al_lt n hn) (by decide)) c_17
        refine lv_iinc (v := nI (i2 + 1)) (lv' := [(3, .int (nI (i2 + 1))), (0, .ref b), (1, .int (nI sx)), (2, .int (nI n))]) hx hb dX1_areExperts_22 hl (k := 0) rfl (nI_1 _) (by decide) rfl (fun ls hl => ?_)
        refine lv_goto (tgt := 2) hx hb dX1_areExperts_25 (by decide) ?_
        exact ih2 (i2 + 1) (by omega) (lt_s hinv2 c_17) ls (lv_sub hl [0, 1, 2, 3] rfl)
      · have c_17 : hs4 sx i2 ≠ al n := fun h9 => c_17 (congrArg nI h9)
        refine lv_iconst (v := 0) hx hb dX1_areExperts_20 (by decide) ?_
        exact r_zret S hr hlk dX1_areExperts_21 (by decide) (congrArg (fun z : Int32 => some (Value.int z)) (show 0 = b2i (exB n sx) from by rw [exB_false hlt2 c_17]; rfl))
  exact hloop2 (n) 0 (by omega) (fun j hj => absurd hj (Nat.not_lt_zero j)) ls (lv_sub hl [0, 1, 2, 3] rfl)
set_option maxHeartbeats 4000000 in
theorem r1_tokensAfter (l : Launch) (D : va_G) (dA : Nat → ClassId) (tx r pa qa : Nat) (ht : tx < 16) (hr9 : r < 4) (hp : pa < 4) (hq : qa < 4) : RC l yX1_tokensAfter cX1_tokensAfter 4 (some .int) 0 0 D dA [.int (nI tx), .int (nI r), .int (nI pa), .int (nI qa)] (fun _ => True) (fun v9 => v9 = some (.int (nI (tkA r tx pa qa)))) := by
  refine RC.of (by decide) (Nat.le_of_ble_eq_true rfl) ?_
  intro p e s m below meth c ls S hr hlk hK hP hl
  have hx := S.1
  have hb := S.2.1
  have hl : lv_has ls 4 [(0, .int (nI tx)), (1, .int (nI r)), (2, .int (nI pa)), (3, .int (nI qa))] := hl
  refine lv_iload_n hx hb dX1_tokensAfter_0 rfl (lv_at hl 1 rfl) ?_
  refine lv_iconst (v := 2) hx hb dX1_tokensAfter_1 (by decide) ?_
  refine lv_icmp_ne (tgt := 19) hx hb dX1_tokensAfter_2 (by decide) (fun c_2 => ?_) (fun c_2 => ?_)
  · have c_2 : ¬ r = 2 := fun h => c_2 (congrArg nI h)
    refine lv_iload_n hx hb dX1_tokensAfter_19 rfl (lv_at hl 1 rfl) ?_
    refine lv_iconst (v := 3) hx hb dX1_tokensAfter_20 (by decide) ?_
    refine lv_icmp_ne (tgt := 34) hx hb dX1_tokensAfter_21 (by decide) (fun c_21 => ?_) (fun c_21 => ?_)
    · have c_21 : ¬ r = 3 := fun h => c_21 (congrArg nI h)
      refine lv_iload_n hx hb dX1_tokensAfter_34 rfl (lv_at hl 0 rfl) ?_
      exact r_iret S hr hlk dX1_tokensAfter_35 (congrArg (fun z : Int32 => some (Value.int z)) (show nI tx = nI (tkA r tx pa qa) from tkA_0 c_2 c_21))
    · have c_21 : r = 3 := nI_inj (by omega) (by decide) c_21
      refine lv_iload_n hx hb dX1_tokensAfter_24 rfl (lv_at hl 0 rfl) ?_
      refine lv_iconst (v := 1) hx hb dX1_tokensAfter_25 (by decide) ?_
      refine lv_iload_n hx hb dX1_tokensAfter_26 rfl (lv_at hl 3 rfl) ?_
      refine lv_ishl hx hb dX1_tokensAfter_27 ?_
      refine lv_iconst (v := (-1)) hx hb dX1_tokensAfter_28 (by decide) ?_
      refine lv_ixor hx hb dX1_tokensAfter_29 ?_
      refine lv_iand hx hb dX1_tokensAfter_30 ?_
      refine lv_goto (tgt := 35) hx hb dX1_tokensAfter_31 (by decide) ?_
      exact r_iret S hr hlk dX1_tokensAfter_35 (congrArg (fun z : Int32 => some (Value.int z)) (show (nI tx) &&& (((1 : Int32) <<< ((nI qa) &&& 31)) ^^^ (-1)) = nI (tkA r tx pa qa) from tkA_3 ht hq c_2 c_21))
  · have c_2 : r = 2 := nI_inj (by omega) (by decide) c_2
    refine lv_iload_n hx hb dX1_tokensAfter_5 rfl (lv_at hl 0 rfl) ?_
    refine lv_iconst (v := 1) hx hb dX1_tokensAfter_6 (by decide) ?_
    refine lv_iload_n hx hb dX1_tokensAfter_7 rfl (lv_at hl 2 rfl) ?_
    refine lv_ishl hx hb dX1_tokensAfter_8 ?_
    refine lv_iconst (v := (-1)) hx hb dX1_tokensAfter_9 (by decide) ?_
    refine lv_ixor hx hb dX1_tokensAfter_10 ?_
    refine lv_iand hx hb dX1_tokensAfter_11 ?_
    refine lv_iconst (v := 1) hx hb dX1_tokensAfter_12 (by decide) ?_
    refine lv_iload_n hx hb dX1_tokensAfter_13 rfl (lv_at hl 3 rfl) ?_
    refine lv_ishl hx hb dX1_tokensAfter_14 ?_
    refine lv_ior hx hb dX1_tokensAfter_15 ?_
    refine lv_goto (tgt := 35) hx hb dX1_tokensAfter_16 (by decide) ?_
    exact r_iret S hr hlk dX1_tokensAfter_35 (congrArg (fun z : Int32 => some (Value.int z)) (show ((nI tx) &&& (((1 : Int32) <<< ((nI pa) &&& 31)) ^^^ (-1))) ||| ((1 : Int32) <<< ((nI qa) &&& 31)) = nI (tkA r tx pa qa) from tkA_2 ht hp hq c_2))
set_option maxHeartbeats 4000000 in
theorem r1_placeOf (l : Launch) (D : va_G) (dA : Nat → ClassId) (sx tx : Nat) (hs : sx < 65536) (ht : tx < 16) : RC l yX1_placeOf cX1_placeOf 7 (some .int) 1 21 D dA [.int (nI sx), .int (nI tx)] (fun _ => True) (fun v9 => v9 = some (.int (nI (plc sx tx)))) := by
  refine RC.of (by decide) (Nat.le_of_ble_eq_true rfl) ?_
  intro p e s m below meth c ls S hr hlk hK hP hl
  have hx := S.1
  have hb := S.2.1
  have hl : lv_has ls 7 [(0, .int (nI sx)), (1, .int (nI tx))] := hl
  refine lv_iload_n hx hb dX1_placeOf_0 rfl (lv_at hl 1 rfl) ?_
  refine lv_istore_n (lv' := [(2, .int (nI tx)), (0, .int (nI sx)), (1, .int (nI tx))]) hx hb dX1_placeOf_1 rfl hl (by decide) rfl (fun ls hl => ?_)
  refine lv_iconst (v := 0) hx hb dX1_placeOf_2 (by decide) ?_
  refine lv_istore_n (lv' := [(3, .int 0), (2, .int (nI tx)), (0, .int (nI sx)), (1, .int (nI tx))]) hx hb dX1_placeOf_3 rfl hl (by decide) rfl (fun ls hl => ?_)
  have hloop4 : ∀ (k4 i4 : Nat), i4 + k4 = 4 → ∀ (ls : Array Slot), lv_has ls 7 [(3, .int (nI i4)), (2, .int (nI (plA sx tx i4))), (0, .int (nI sx)), (1, .int (nI tx))] → W p l e ({ frames := 1, cells := 0, slots := 0, locals := 21 }) s m [.int (nI sx), .int (nI tx)].toArray below meth c s.heap [] 0 0 (RZ below (fun v9 => v9 = some (.int (nI (plc sx tx)))) [.int (nI sx), .int (nI tx)] s) (F0 m 4 ls []) := by
    intro k4
    induction k4 with
    | zero =>
      intro i4 hi4 ls hl
      have hi4 : i4 = 4 := by omega
      refine lv_iload_n hx hb dX1_placeOf_4 rfl (lv_at hl 0 rfl) ?_
      refine lv_iconst (v := 4) hx hb dX1_placeOf_5 (by decide) ?_
      refine lv_icmp_ge (tgt := 52) hx hb dX1_placeOf_6 (by decide) (fun c_6 => ?_) (fun c_6 => absurd (show nI 4 ≤ nI i4 from nI_le (by omega) (by omega)) c_6)
      refine lv_iload_n hx hb dX1_placeOf_52 rfl (lv_at hl 1 rfl) ?_
      refine lv_ldc (v := 65535) hx hb S.2.2.2.1 (S.2.2.2.2 _ q1383) dX1_placeOf_53 ?_
      refine lv_iand hx hb dX1_placeOf_55 ?_
      exact r_iret S hr hlk dX1_placeOf_56 (congrArg (fun z : Int32 => some (Value.int z)) (show (nI (plA sx tx i4)) &&& 65535 = nI (plc sx tx) from by rw [hi4]; exact plc_end))
    | succ k4 ih4 =>
      intro i4 hi4 ls hl
      have hlt4 : i4 < 4 := by omega
      refine lv_iload_n hx hb dX1_placeOf_4 rfl (lv_at hl 0 rfl) ?_
      refine lv_iconst (v := 4) hx hb dX1_placeOf_5 (by decide) ?_
      refine lv_icmp_ge (tgt := 52) hx hb dX1_placeOf_6 (by decide) (fun c_6 => absurd c_6 (show ¬ nI 4 ≤ nI i4 from nI_ge (by omega) (by omega))) (fun c_6 => ?_)
      refine lv_iload_n hx hb dX1_placeOf_9 rfl (lv_at hl 2 rfl) ?_
      refine lv_iload_n hx hb dX1_placeOf_10 rfl (lv_at hl 0 rfl) ?_
      refine rc_Si (rest := []) [.int (nI sx), .int (nI i4)] 2 S hK (r1_of l D dA sx i4 (by first | assumption | omega | decide) (by first | assumption | omega | decide)) wl_X1_110 wd_X1_X1_of rfl ⟨Nat.le_of_ble_eq_true rfl, Nat.le_of_ble_eq_true rfl⟩ hl.1 (Nat.le_of_ble_eq_true rfl) dX1_placeOf_11 ⟨Nat.le_refl 0, Nat.le_refl 0⟩ (trivial) ?_ rfl
      refine lv_istore (lv' := [(4, .int (nI (hs4 sx i4))), (3, .int (nI i4)), (2, .int (nI (plA sx tx i4))), (0, .int (nI sx)), (1, .int (nI tx))]) hx hb dX1_placeOf_14 hl (by decide) rfl (fun ls hl => ?_)
      refine lv_iload hx hb dX1_placeOf_16 (lv_at hl 0 rfl) ?_
      refine lv_iconst (v := 1) hx hb dX1_placeOf_18 (by decide) ?_
      refine lv_iload_n hx hb dX1_placeOf_19 rfl (lv_at hl 1 rfl) ?_
      refine lv_ishl hx hb dX1_placeOf_20 ?_
      refine lv_iconst (v := 1) hx hb dX1_placeOf_21 (by decide) ?_
      refine lv_isub hx hb dX1_placeOf_22 ?_
      refine lv_iand hx hb dX1_placeOf_23 ?_
      refine lv_istore (lv' := [(5, .int ((nI (hs4 sx i4)) &&& (((1 : Int32) <<< ((nI i4) &&& 31)) - 1))), (4, .int (nI (hs4 sx i4))), (3, .int (nI i4)), (2, .int (nI (plA sx tx i4))), (0, .int (nI sx)), (1, .int (nI tx))]) hx hb dX1_placeOf_24 hl (by decide) rfl (fun ls hl => ?_)
      refine lv_iload hx hb dX1_placeOf_26 (lv_at hl 1 rfl) ?_
      refine lv_iload_n hx hb dX1_placeOf_28 rfl (lv_at hl 2 rfl) ?_
      refine lv_iconst (v := 1) hx hb dX1_placeOf_29 (by decide) ?_
      refine lv_iadd hx hb dX1_placeOf_30 ?_
      refine lv_ishr hx hb dX1_placeOf_31 ?_
      refine lv_iload_n hx hb dX1_placeOf_32 rfl (lv_at hl 2 rfl) ?_
      refine lv_ishl hx hb dX1_placeOf_33 ?_
      refine lv_istore (lv' := [(6, .int (((nI (hs4 sx i4)) >>> (((nI i4) + 1) &&& 31)) <<< ((nI i4) &&& 31))), (5, .int ((nI (hs4 sx i4)) &&& (((1 : Int32) <<< ((nI i4) &&& 31)) - 1))), (4, .int (nI (hs4 sx i4))), (3, .int (nI i4)), (2, .int (nI (plA sx tx i4))), (0, .int (nI sx)), (1, .int (nI tx))]) hx hb dX1_placeOf_34 hl (by decide) rfl (fun ls hl => ?_)
      refine lv_iload_n hx hb dX1_placeOf_36 rfl (lv_at hl 4 rfl) ?_
      refine lv_iconst (v := 3) hx hb dX1_placeOf_37 (by decide) ?_
      refine lv_ishl hx hb dX1_placeOf_38 ?_
      refine lv_iload hx hb dX1_placeOf_39 (lv_at hl 1 rfl) ?_
      refine lv_ior hx hb dX1_placeOf_41 ?_
      refine lv_iload hx hb dX1_placeOf_42 (lv_at hl 0 rfl) ?_
      refine lv_ior hx hb dX1_placeOf_44 ?_
      refine lv_istore_n (lv' := [(2, .int ((((nI (plA sx tx i4)) <<< (3 &&& 31)) ||| ((nI (hs4 sx i4)) &&& (((1 : Int32) <<< ((nI i4) &&& 31)) - 1))) ||| (((nI (hs4 sx i4)) >>> (((nI i4) + 1) &&& 31)) <<< ((nI i4) &&& 31)))), (6, .int (((nI (hs4 sx i4)) >>> (((nI i4) + 1) &&& 31)) <<< ((nI i4) &&& 31))), (5, .int ((nI (hs4 sx i4)) &&& (((1 : Int32) <<< ((nI i4) &&& 31)) - 1))), (4, .int (nI (hs4 sx i4))), (3, .int (nI i4)), (0, .int (nI sx)), (1, .int (nI tx))]) hx hb dX1_placeOf_45 rfl hl (by decide) rfl (fun ls hl => ?_)
      refine lv_iinc (v := nI (i4 + 1)) (lv' := [(3, .int (nI (i4 + 1))), (2, .int ((((nI (plA sx tx i4)) <<< (3 &&& 31)) ||| ((nI (hs4 sx i4)) &&& (((1 : Int32) <<< ((nI i4) &&& 31)) - 1))) ||| (((nI (hs4 sx i4)) >>> (((nI i4) + 1) &&& 31)) <<< ((nI i4) &&& 31)))), (6, .int (((nI (hs4 sx i4)) >>> (((nI i4) + 1) &&& 31)) <<< ((nI i4) &&& 31))), (5, .int ((nI (hs4 sx i4)) &&& (((1 : Int32) <<< ((nI i4) &&& 31)) - 1))), (4, .int (nI (hs4 sx i4))), (0, .int (nI sx)), (1, .int (nI tx))]) hx hb dX1_placeOf_46 hl (k := 4) rfl (nI_1 _) (by decide) rfl (fun ls hl => ?_)
      refine lv_goto (tgt := 4) hx hb dX1_placeOf_49 (by decide) ?_
      have e4_2 : nI (plA sx tx (i4 + 1)) = (((nI (plA sx tx i4)) <<< (3 &&& 31)) ||| ((nI (hs4 sx i4)) &&& (((1 : Int32) <<< ((nI i4) &&& 31)) - 1))) ||| (((nI (hs4 sx i4)) >>> (((nI i4) + 1) &&& 31)) <<< ((nI i4) &&& 31)) := by exact (plA_step ht hlt4).symm
      exact ih4 (i4 + 1) (by omega) ls (by rw [e4_2]; exact lv_sub hl [0, 1, 5, 6] rfl)
  exact hloop4 (4) 0 (by omega) ls (lv_sub hl [0, 1, 2, 3] rfl)
set_option maxHeartbeats 4000000 in
theorem r1_numbersOf (l : Launch) (D : va_G) (dA : Nat → ClassId) (b : Nat) (f : Nat → Int32) (net : Nat → Nat) (sx pa : Nat) (hf : ∀ q, q < 4 → f q = nI (net q)) (hs : sx < 65536) (hp : pa < 4) : RC l yX1_numbersOf cX1_numbersOf 5 (some .int) 1 21 D dA [.ref b, .int (nI sx), .int (nI pa)] (fun H => H[b]? = some (vp_cell (dA 0) (4, .inl f))) (fun v9 => v9 = some (.int (nI (numA net sx pa 4)))) := by
  refine RC.of (by decide) (Nat.le_of_ble_eq_true rfl) ?_
  intro p e s m below meth c ls S hr hlk hK hP hl
  have hx := S.1
  have hb := S.2.1
  have hl : lv_has ls 5 [(0, .ref b), (1, .int (nI sx)), (2, .int (nI pa))] := hl
  refine lv_iconst (v := 0) hx hb dX1_numbersOf_0 (by decide) ?_
  refine lv_istore_n (lv' := [(3, .int 0), (0, .ref b), (1, .int (nI sx)), (2, .int (nI pa))]) hx hb dX1_numbersOf_1 rfl hl (by decide) rfl (fun ls hl => ?_)
  refine lv_iconst (v := 0) hx hb dX1_numbersOf_2 (by decide) ?_
  refine lv_istore (lv' := [(4, .int 0), (3, .int 0), (0, .ref b), (1, .int (nI sx)), (2, .int (nI pa))]) hx hb dX1_numbersOf_3 hl (by decide) rfl (fun ls hl => ?_)
  have hloop5 : ∀ (k5 i5 : Nat), i5 + k5 = 4 → ∀ (ls : Array Slot), lv_has ls 5 [(4, .int (nI i5)), (3, .int (nI (numA net sx pa i5))), (0, .ref b), (1, .int (nI sx)), (2, .int (nI pa))] → W p l e ({ frames := 1, cells := 0, slots := 0, locals := 21 }) s m [.ref b, .int (nI sx), .int (nI pa)].toArray below meth c s.heap [] 0 0 (RZ below (fun v9 => v9 = some (.int (nI (numA net sx pa 4)))) [.ref b, .int (nI sx), .int (nI pa)] s) (F0 m 5 ls []) := by
    intro k5
    induction k5 with
    | zero =>
      intro i5 hi5 ls hl
      have hi5 : i5 = 4 := by omega
      refine lv_iload hx hb dX1_numbersOf_5 (lv_at hl 0 rfl) ?_
      refine lv_iconst (v := 4) hx hb dX1_numbersOf_7 (by decide) ?_
      refine lv_icmp_ge (tgt := 46) hx hb dX1_numbersOf_8 (by decide) (fun c_8 => ?_) (fun c_8 => absurd (show nI 4 ≤ nI i5 from nI_le (by omega) (by omega)) c_8)
      refine lv_iload_n hx hb dX1_numbersOf_46 rfl (lv_at hl 1 rfl) ?_
      exact r_iret S hr hlk dX1_numbersOf_47 (congrArg (fun z : Int32 => some (Value.int z)) (show nI (numA net sx pa i5) = nI (numA net sx pa 4) from by rw [hi5]))
    | succ k5 ih5 =>
      intro i5 hi5 ls hl
      have hlt5 : i5 < 4 := by omega
      refine lv_iload hx hb dX1_numbersOf_5 (lv_at hl 0 rfl) ?_
      refine lv_iconst (v := 4) hx hb dX1_numbersOf_7 (by decide) ?_
      refine lv_icmp_ge (tgt := 46) hx hb dX1_numbersOf_8 (by decide) (fun c_8 => absurd c_8 (show ¬ nI 4 ≤ nI i5 from nI_ge (by omega) (by omega))) (fun c_8 => ?_)
      refine lv_iload_n hx hb dX1_numbersOf_11 rfl (lv_at hl 1 rfl) ?_
      refine lv_iload_n hx hb dX1_numbersOf_12 rfl (lv_at hl 3 rfl) ?_
      refine lv_iload_n hx hb dX1_numbersOf_13 rfl (lv_at hl 4 rfl) ?_
      refine rc_Si (rest := [.int (nI (numA net sx pa i5))]) [.int (nI sx), .int (nI pa)] 2 S hK (r1_of l D dA sx pa (by first | assumption | omega | decide) (by first | assumption | omega | decide)) wl_X1_110 wd_X1_X1_of rfl ⟨Nat.le_of_ble_eq_true rfl, Nat.le_of_ble_eq_true rfl⟩ hl.1 (Nat.le_of_ble_eq_true rfl) dX1_numbersOf_14 ⟨Nat.le_refl 0, Nat.le_refl 0⟩ (trivial) ?_ rfl
      have h16 := hs4_lt sx pa
      refine lv_iload hx hb dX1_numbersOf_17 (lv_at hl 0 rfl) ?_
      refine rc_Si (rest := [.int (nI (numA net sx pa i5))]) [.int (nI (hs4 sx pa)), .int (nI i5)] 2 S hK (r1_has l D dA (hs4 sx pa) i5 (by first | assumption | omega | decide) (by first | assumption | omega | decide)) wl_X1_106 wd_X1_X1_has rfl ⟨Nat.le_of_ble_eq_true rfl, Nat.le_of_ble_eq_true rfl⟩ hl.1 (Nat.le_of_ble_eq_true rfl) dX1_numbersOf_19 ⟨Nat.le_refl 0, Nat.le_refl 0⟩ (trivial) ?_ rfl
      refine lv_if_eq (tgt := 37) hx hb dX1_numbersOf_22 (by decide) (fun c_22 => ?_) (fun c_22 => ?_)
      · have c_22 := b2i_eq0.mp c_22
        refine lv_iconst (v := 0) hx hb dX1_numbersOf_37 (by decide) ?_
        refine lv_ior hx hb dX1_numbersOf_38 ?_
        refine lv_istore_n (lv' := [(3, .int ((nI (numA net sx pa i5)) ||| 0)), (4, .int (nI i5)), (0, .ref b), (1, .int (nI sx)), (2, .int (nI pa))]) hx hb dX1_numbersOf_39 rfl hl (by decide) rfl (fun ls hl => ?_)
        refine lv_iinc (v := nI (i5 + 1)) (lv' := [(4, .int (nI (i5 + 1))), (3, .int ((nI (numA net sx pa i5)) ||| 0)), (0, .ref b), (1, .int (nI sx)), (2, .int (nI pa))]) hx hb dX1_numbersOf_40 hl (k := 1) rfl (nI_1 _) (by decide) rfl (fun ls hl => ?_)
        refine lv_goto (tgt := 5) hx hb dX1_numbersOf_43 (by decide) ?_
        have e5_3 : nI (numA net sx pa (i5 + 1)) = (nI (numA net sx pa i5)) ||| 0 := by rw [← num_step (net := net) rfl]; simp [c_22]
        exact ih5 (i5 + 1) (by omega) ls (by rw [e5_3]; exact lv_sub hl [0, 1, 2, 3, 4] rfl)
      · have c_22 := b2i_ne0.mp c_22
        refine lv_aload_n hx hb dX1_numbersOf_25 rfl (lv_at hl 2 rfl) ?_
        refine lv_iload hx hb dX1_numbersOf_26 (lv_at hl 0 rfl) ?_
        refine c_aldn (j := i5) (v := nI (net i5)) S hK hP (by first | assumption | omega | decide) (by decide) dX1_numbersOf_28 (hf _ hlt5) ?_
        refine lv_iconst (v := 1) hx hb dX1_numbersOf_29 (by decide) ?_
        refine lv_iload hx hb dX1_numbersOf_30 (lv_at hl 0 rfl) ?_
        refine lv_ishl hx hb dX1_numbersOf_32 ?_
        refine topi (z := nI (2 ^ i5)) (shl1 _ hlt5) ?_
        refine lv_ior hx hb dX1_numbersOf_33 ?_
        refine lv_goto (tgt := 38) hx hb dX1_numbersOf_34 (by decide) ?_
        refine lv_ior hx hb dX1_numbersOf_38 ?_
        refine lv_istore_n (lv' := [(3, .int ((nI (numA net sx pa i5)) ||| ((nI (net i5)) ||| (nI (2 ^ i5))))), (4, .int (nI i5)), (0, .ref b), (1, .int (nI sx)), (2, .int (nI pa))]) hx hb dX1_numbersOf_39 rfl hl (by decide) rfl (fun ls hl => ?_)
        refine lv_iinc (v := nI (i5 + 1)) (lv' := [(4, .int (nI (i5 + 1))), (3, .int ((nI (numA net sx pa i5)) ||| ((nI (net i5)) ||| (nI (2 ^ i5))))), (0, .ref b), (1, .int (nI sx)), (2, .int (nI pa))]) hx hb dX1_numbersOf_40 hl (k := 1) rfl (nI_1 _) (by decide) rfl (fun ls hl => ?_)
        refine lv_goto (tgt := 5) hx hb dX1_numbersOf_43 (by decide) ?_
        have e5_3 : nI (numA net sx pa (i5 + 1)) = (nI (numA net sx pa i5)) ||| ((nI (net i5)) ||| (nI (2 ^ i5))) := by rw [← num_step (net := net) rfl]; simp [c_22]
        exact ih5 (i5 + 1) (by omega) ls (by rw [e5_3]; exact lv_sub hl [0, 1, 2, 3, 4] rfl)
  exact hloop5 (4) 0 (by omega) ls (lv_sub hl [0, 1, 2, 3, 4] rfl)
