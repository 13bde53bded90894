/-! CallRounds$Act -/
set_option maxRecDepth 100000
def RX2 : String := "CallRounds$Act"
abbrev cX2_init : ByteArray := prog_2_method_1_code
def yX2_init : MethodName := ⟨RX2, "<init>", "(LCallRounds;)V"⟩
def dkwX2_init_0 : List UInt8 := [42, 43, 181, 0, 3, 42, 183, 0, 9, 177]
abbrev dktX2_init_0 : List UInt8 := dkwX2_init_0 ++ []
theorem dksX2_init_0 : cX2_init.data.toList.drop 0 = dktX2_init_0 := by decide +kernel
theorem dX2_init_0 : decode cX2_init 0 = .ok (.aload_n 0, 1) := dk_42 (dk_at dksX2_init_0 0 rfl rfl)
theorem dX2_init_1 : decode cX2_init 1 = .ok (.aload_n 1, 1) := dk_43 (dk_at dksX2_init_0 1 rfl rfl)
theorem dX2_init_2 : decode cX2_init 2 = .ok (.putfield 3, 3) := dk_181 0 3 (dk_at dksX2_init_0 2 rfl rfl)
theorem dX2_init_5 : decode cX2_init 5 = .ok (.aload_n 0, 1) := dk_42 (dk_at dksX2_init_0 5 rfl rfl)
theorem dX2_init_6 : decode cX2_init 6 = .ok (.invokespecial 9, 3) := dk_183 0 9 (dk_at dksX2_init_0 6 rfl rfl)
theorem dX2_init_9 : decode cX2_init 9 = .ok (.return_, 1) := dk_177 (dk_at dksX2_init_0 9 rfl rfl)
abbrev cX2_tried : ByteArray := prog_2_method_3_code
def yX2_tried : MethodName := ⟨RX2, "tried", "()I"⟩
def dkwX2_tried_2 : List UInt8 := [6, 182, 0, 25, 172]
abbrev dktX2_tried_2 : List UInt8 := dkwX2_tried_2 ++ []
def dkwX2_tried_1 : List UInt8 := [42, 180, 0, 3, 5, 182, 0, 25, 172, 76, 42, 180, 0, 3, 7, 182, 0, 25, 172, 76, 42, 180, 0, 3]
abbrev dktX2_tried_1 : List UInt8 := dkwX2_tried_1 ++ dktX2_tried_2
def dkwX2_tried_0 : List UInt8 := [42, 180, 0, 3, 3, 181, 0, 15, 42, 182, 0, 19, 172, 76, 42, 180, 0, 3, 4, 182, 0, 25, 172, 76]
abbrev dktX2_tried_0 : List UInt8 := dkwX2_tried_0 ++ dktX2_tried_1
theorem dksX2_tried_0 : cX2_tried.data.toList.drop 0 = dktX2_tried_0 := by decide +kernel
theorem dksX2_tried_1 : cX2_tried.data.toList.drop 24 = dktX2_tried_1 := dk_seg dksX2_tried_0 24 rfl rfl
theorem dksX2_tried_2 : cX2_tried.data.toList.drop 48 = dktX2_tried_2 := dk_seg dksX2_tried_1 24 rfl rfl
theorem dX2_tried_0 : decode cX2_tried 0 = .ok (.aload_n 0, 1) := dk_42 (dk_at dksX2_tried_0 0 rfl rfl)
theorem dX2_tried_1 : decode cX2_tried 1 = .ok (.getfield 3, 3) := dk_180 0 3 (dk_at dksX2_tried_0 1 rfl rfl)
theorem dX2_tried_4 : decode cX2_tried 4 = .ok (.iconst 0, 1) := dk_3 (dk_at dksX2_tried_0 4 rfl rfl)
theorem dX2_tried_5 : decode cX2_tried 5 = .ok (.putfield 15, 3) := dk_181 0 15 (dk_at dksX2_tried_0 5 rfl rfl)
theorem dX2_tried_8 : decode cX2_tried 8 = .ok (.aload_n 0, 1) := dk_42 (dk_at dksX2_tried_0 8 rfl rfl)
theorem dX2_tried_9 : decode cX2_tried 9 = .ok (.invokevirtual 19, 3) := dk_182 0 19 (dk_at dksX2_tried_0 9 rfl rfl)
theorem dX2_tried_12 : decode cX2_tried 12 = .ok (.ireturn, 1) := dk_172 (dk_at dksX2_tried_0 12 rfl rfl)
theorem dX2_tried_13 : decode cX2_tried 13 = .ok (.astore_n 1, 1) := dk_76 (dk_at dksX2_tried_0 13 rfl rfl)
theorem dX2_tried_14 : decode cX2_tried 14 = .ok (.aload_n 0, 1) := dk_42 (dk_at dksX2_tried_0 14 rfl rfl)
theorem dX2_tried_15 : decode cX2_tried 15 = .ok (.getfield 3, 3) := dk_180 0 3 (dk_at dksX2_tried_0 15 rfl rfl)
theorem dX2_tried_18 : decode cX2_tried 18 = .ok (.iconst 1, 1) := dk_4 (dk_at dksX2_tried_0 18 rfl rfl)
theorem dX2_tried_19 : decode cX2_tried 19 = .ok (.invokevirtual 25, 3) := dk_182 0 25 (dk_at dksX2_tried_0 19 rfl rfl)
theorem dX2_tried_22 : decode cX2_tried 22 = .ok (.ireturn, 1) := dk_172 (dk_at dksX2_tried_0 22 rfl rfl)
theorem dX2_tried_23 : decode cX2_tried 23 = .ok (.astore_n 1, 1) := dk_76 (dk_at dksX2_tried_0 23 rfl rfl)
theorem dX2_tried_24 : decode cX2_tried 24 = .ok (.aload_n 0, 1) := dk_42 (dk_at dksX2_tried_1 0 rfl rfl)
theorem dX2_tried_25 : decode cX2_tried 25 = .ok (.getfield 3, 3) := dk_180 0 3 (dk_at dksX2_tried_1 1 rfl rfl)
theorem dX2_tried_28 : decode cX2_tried 28 = .ok (.iconst 2, 1) := dk_5 (dk_at dksX2_tried_1 4 rfl rfl)
theorem dX2_tried_29 : decode cX2_tried 29 = .ok (.invokevirtual 25, 3) := dk_182 0 25 (dk_at dksX2_tried_1 5 rfl rfl)
theorem dX2_tried_32 : decode cX2_tried 32 = .ok (.ireturn, 1) := dk_172 (dk_at dksX2_tried_1 8 rfl rfl)
theorem dX2_tried_33 : decode cX2_tried 33 = .ok (.astore_n 1, 1) := dk_76 (dk_at dksX2_tried_1 9 rfl rfl)
theorem dX2_tried_34 : decode cX2_tried 34 = .ok (.aload_n 0, 1) := dk_42 (dk_at dksX2_tried_1 10 rfl rfl)
theorem dX2_tried_35 : decode cX2_tried 35 = .ok (.getfield 3, 3) := dk_180 0 3 (dk_at dksX2_tried_1 11 rfl rfl)
theorem dX2_tried_38 : decode cX2_tried 38 = .ok (.iconst 4, 1) := dk_7 (dk_at dksX2_tried_1 14 rfl rfl)
theorem dX2_tried_39 : decode cX2_tried 39 = .ok (.invokevirtual 25, 3) := dk_182 0 25 (dk_at dksX2_tried_1 15 rfl rfl)
theorem dX2_tried_42 : decode cX2_tried 42 = .ok (.ireturn, 1) := dk_172 (dk_at dksX2_tried_1 18 rfl rfl)
theorem dX2_tried_43 : decode cX2_tried 43 = .ok (.astore_n 1, 1) := dk_76 (dk_at dksX2_tried_1 19 rfl rfl)
theorem dX2_tried_44 : decode cX2_tried 44 = .ok (.aload_n 0, 1) := dk_42 (dk_at dksX2_tried_1 20 rfl rfl)
theorem dX2_tried_45 : decode cX2_tried 45 = .ok (.getfield 3, 3) := dk_180 0 3 (dk_at dksX2_tried_1 21 rfl rfl)
theorem dX2_tried_48 : decode cX2_tried 48 = .ok (.iconst 3, 1) := dk_6 (dk_at dksX2_tried_2 0 rfl rfl)
theorem dX2_tried_49 : decode cX2_tried 49 = .ok (.invokevirtual 25, 3) := dk_182 0 25 (dk_at dksX2_tried_2 1 rfl rfl)
theorem dX2_tried_52 : decode cX2_tried 52 = .ok (.ireturn, 1) := dk_172 (dk_at dksX2_tried_2 4 rfl rfl)
theorem q65 : (Jvm.Cond.initialized "CallRounds$Act") ∈ lw_all := lw_g (lw_at lw_m1 6 rfl) rfl
theorem q149 : (Jvm.Cond.fieldLinkNest "CallRounds$Act" (15 : Nat) "CallRounds" "fault" "I" "CallRounds") ∈ lw_tbl := lw_at lw_m1 90 rfl
theorem q864 : (Jvm.Cond.instanceMethod ({ cls := "CallRounds$Act", name := "<init>", desc := "(LCallRounds;)V" } : Jvm.MethodName)) ∈ lw_all := lw_g (lw_at lw_m4 85 rfl) rfl
theorem q865 : (Jvm.Cond.code ({ cls := "CallRounds$Act", name := "<init>", desc := "(LCallRounds;)V" } : Jvm.MethodName) prog_2_method_1_code (2 : Nat) (Option.none : Option Jvm.ClassFile.FieldType)) ∈ lw_all := lw_g (lw_at lw_m4 86 rfl) rfl
theorem q866 : (Jvm.Cond.methodLink "CallRounds$Act" (9 : Nat) ({ cls := "java/lang/Object", name := "<init>", desc := "()V" } : Jvm.MethodName)) ∈ lw_all := lw_g (lw_at lw_m4 87 rfl) rfl
theorem q872 : (Jvm.Cond.fieldLink "CallRounds$Act" (3 : Nat) "CallRounds$Act" "this$0" "LCallRounds;") ∈ lw_all := lw_g (lw_at lw_m4 93 rfl) rfl
theorem q884 : (Jvm.Cond.soleField "CallRounds$Act" "this$0") ∈ lw_all := lw_g (lw_at lw_m4 105 rfl) rfl
theorem q888 : (Jvm.Cond.declares ({ cls := "CallRounds$Act", name := "tried", desc := "()I" } : Jvm.MethodName)) ∈ lw_tbl := lw_at lw_m4 109 rfl
theorem q890 : (Jvm.Cond.instanceMethod ({ cls := "CallRounds$Act", name := "tried", desc := "()I" } : Jvm.MethodName)) ∈ lw_all := lw_g (lw_at lw_m4 111 rfl) rfl
theorem q891 : (Jvm.Cond.codeWith ({ cls := "CallRounds$Act", name := "tried", desc := "()I" } : Jvm.MethodName) prog_2_method_3_code (2 : Nat) (Option.some Jvm.ClassFile.FieldType.int) [((8 : Nat), (12 : Nat), (13 : Nat), (23 : Nat)), ((8 : Nat), (12 : Nat), (23 : Nat), (29 : Nat)), ((8 : Nat), (12 : Nat), (23 : Nat), (31 : Nat)), ((8 : Nat), (12 : Nat), (33 : Nat), (33 : Nat)), ((8 : Nat), (12 : Nat), (43 : Nat), (35 : Nat))]) ∈ lw_all := lw_g (lw_at lw_m4 112 rfl) rfl
theorem q892 : (Jvm.Cond.classLink "CallRounds$Act" (23 : Nat) "java/lang/NullPointerException") ∈ lw_all := lw_g (lw_at lw_m4 113 rfl) rfl
theorem q893 : (Jvm.Cond.classLink "CallRounds$Act" (29 : Nat) "java/lang/ClassCastException") ∈ lw_all := lw_g (lw_at lw_m4 114 rfl) rfl
theorem q894 : (Jvm.Cond.classLink "CallRounds$Act" (31 : Nat) "java/lang/ArrayStoreException") ∈ lw_all := lw_g (lw_at lw_m4 115 rfl) rfl
theorem q908 : (Jvm.Cond.classLink "CallRounds$Act" (33 : Nat) "java/lang/NegativeArraySizeException") ∈ lw_all := lw_g (lw_at lw_m4 129 rfl) rfl
theorem q909 : (Jvm.Cond.classLink "CallRounds$Act" (35 : Nat) "java/lang/IndexOutOfBoundsException") ∈ lw_all := lw_g (lw_at lw_m4 130 rfl) rfl
theorem q910 : (Jvm.Cond.methodLink "CallRounds$Act" (19 : Nat) ({ cls := "CallRounds$Act", name := "done", desc := "()I" } : Jvm.MethodName)) ∈ lw_all := lw_g (lw_at lw_m4 131 rfl) rfl
theorem q911 : (Jvm.Cond.declares ({ cls := "CallRounds$Act", name := "done", desc := "()I" } : Jvm.MethodName)) ∈ lw_tbl := lw_at lw_m4 132 rfl
theorem q912 : (Jvm.Cond.sameMethod "CallRounds$Act" "CallRounds$Act" "done" "()I") ∈ lw_all := lw_g (lw_at lw_m4 133 rfl) rfl
theorem q1003 : (Jvm.Cond.methodLinkNest "CallRounds$Act" (25 : Nat) ({ cls := "CallRounds", name := "fails", desc := "(I)I" } : Jvm.MethodName) "CallRounds") ∈ lw_tbl := lw_at lw_m4 224 rfl
/-! CallRounds$Reading -/
set_option maxRecDepth 100000
def RX3 : String := "CallRounds$Reading"
def TX3 : u_T := fun k => match k with
  | 0 => ("CallRounds$Act", "this$0", "LCallRounds;", true)
  | 1 => ("CallRounds$Reading", "sheet", "I", true)
  | 2 => ("CallRounds$Reading", "lane", "I", true)
  | 3 => ("CallRounds$Reading", "i", "I", true)
  | 4 => ("CallRounds$Reading", "n", "I", true)
  | _ => ("CallRounds$Reading", "this$0", "LCallRounds;", true)
def tyX3 : Nat → FieldType := fun k => match k with
  | 0 => .object "CallRounds"
  | 1 => .int
  | 2 => .int
  | 3 => .int
  | 4 => .int
  | _ => .object "CallRounds"
abbrev wsX30 : List Cond := u_ws RX3 TX3 6
-- two fields of one name: no nmX3
theorem tyX3_ok : ∀ k, k < 6 → parseFieldDescriptor (TX3 k).2.2.1 = some (tyX3 k) := by decide +kernel
abbrev cX3_init : ByteArray := prog_9_method_1_code
def yX3_init : MethodName := ⟨RX3, "<init>", "(LCallRounds;IIII)V"⟩
def dkwX3_init_1 : List UInt8 := [181, 0, 20, 42, 21, 5, 181, 0, 23, 177]
abbrev dktX3_init_1 : List UInt8 := dkwX3_init_1 ++ []
def dkwX3_init_0 : List UInt8 := [42, 43, 181, 0, 1, 42, 43, 183, 0, 7, 42, 28, 181, 0, 13, 42, 29, 181, 0, 17, 42, 21, 4]
abbrev dktX3_init_0 : List UInt8 := dkwX3_init_0 ++ dktX3_init_1
theorem dksX3_init_0 : cX3_init.data.toList.drop 0 = dktX3_init_0 := by decide +kernel
theorem dksX3_init_1 : cX3_init.data.toList.drop 23 = dktX3_init_1 := dk_seg dksX3_init_0 23 rfl rfl
theorem dX3_init_0 : decode cX3_init 0 = .ok (.aload_n 0, 1) := dk_42 (dk_at dksX3_init_0 0 rfl rfl)
theorem dX3_init_1 : decode cX3_init 1 = .ok (.aload_n 1, 1) := dk_43 (dk_at dksX3_init_0 1 rfl rfl)
theorem dX3_init_2 : decode cX3_init 2 = .ok (.putfield 1, 3) := dk_181 0 1 (dk_at dksX3_init_0 2 rfl rfl)
theorem dX3_init_5 : decode cX3_init 5 = .ok (.aload_n 0, 1) := dk_42 (dk_at dksX3_init_0 5 rfl rfl)
theorem dX3_init_6 : decode cX3_init 6 = .ok (.aload_n 1, 1) := dk_43 (dk_at dksX3_init_0 6 rfl rfl)
theorem dX3_init_7 : decode cX3_init 7 = .ok (.invokespecial 7, 3) := dk_183 0 7 (dk_at dksX3_init_0 7 rfl rfl)
theorem dX3_init_10 : decode cX3_init 10 = .ok (.aload_n 0, 1) := dk_42 (dk_at dksX3_init_0 10 rfl rfl)
theorem dX3_init_11 : decode cX3_init 11 = .ok (.iload_n 2, 1) := dk_28 (dk_at dksX3_init_0 11 rfl rfl)
theorem dX3_init_12 : decode cX3_init 12 = .ok (.putfield 13, 3) := dk_181 0 13 (dk_at dksX3_init_0 12 rfl rfl)
theorem dX3_init_15 : decode cX3_init 15 = .ok (.aload_n 0, 1) := dk_42 (dk_at dksX3_init_0 15 rfl rfl)
theorem dX3_init_16 : decode cX3_init 16 = .ok (.iload_n 3, 1) := dk_29 (dk_at dksX3_init_0 16 rfl rfl)
theorem dX3_init_17 : decode cX3_init 17 = .ok (.putfield 17, 3) := dk_181 0 17 (dk_at dksX3_init_0 17 rfl rfl)
theorem dX3_init_20 : decode cX3_init 20 = .ok (.aload_n 0, 1) := dk_42 (dk_at dksX3_init_0 20 rfl rfl)
theorem dX3_init_21 : decode cX3_init 21 = .ok (.iload 4, 2) := dk_21 4 (dk_at dksX3_init_0 21 rfl rfl)
theorem dX3_init_23 : decode cX3_init 23 = .ok (.putfield 20, 3) := dk_181 0 20 (dk_at dksX3_init_1 0 rfl rfl)
theorem dX3_init_26 : decode cX3_init 26 = .ok (.aload_n 0, 1) := dk_42 (dk_at dksX3_init_1 3 rfl rfl)
theorem dX3_init_27 : decode cX3_init 27 = .ok (.iload 5, 2) := dk_21 5 (dk_at dksX3_init_1 4 rfl rfl)
theorem dX3_init_29 : decode cX3_init 29 = .ok (.putfield 23, 3) := dk_181 0 23 (dk_at dksX3_init_1 6 rfl rfl)
theorem dX3_init_32 : decode cX3_init 32 = .ok (.return_, 1) := dk_177 (dk_at dksX3_init_1 9 rfl rfl)
abbrev cX3_done : ByteArray := prog_9_method_2_code
def yX3_done : MethodName := ⟨RX3, "done", "()I"⟩
def dkwX3_done_1 : List UInt8 := [180, 0, 23, 184, 0, 32, 182, 0, 36, 172]
abbrev dktX3_done_1 : List UInt8 := dkwX3_done_1 ++ []
def dkwX3_done_0 : List UInt8 := [42, 180, 0, 1, 42, 180, 0, 1, 42, 180, 0, 13, 182, 0, 26, 42, 180, 0, 17, 42, 180, 0, 20, 42]
abbrev dktX3_done_0 : List UInt8 := dkwX3_done_0 ++ dktX3_done_1
theorem dksX3_done_0 : cX3_done.data.toList.drop 0 = dktX3_done_0 := by decide +kernel
theorem dksX3_done_1 : cX3_done.data.toList.drop 24 = dktX3_done_1 := dk_seg dksX3_done_0 24 rfl rfl
theorem dX3_done_0 : decode cX3_done 0 = .ok (.aload_n 0, 1) := dk_42 (dk_at dksX3_done_0 0 rfl rfl)
theorem dX3_done_1 : decode cX3_done 1 = .ok (.getfield 1, 3) := dk_180 0 1 (dk_at dksX3_done_0 1 rfl rfl)
theorem dX3_done_4 : decode cX3_done 4 = .ok (.aload_n 0, 1) := dk_42 (dk_at dksX3_done_0 4 rfl rfl)
theorem dX3_done_5 : decode cX3_done 5 = .ok (.getfield 1, 3) := dk_180 0 1 (dk_at dksX3_done_0 5 rfl rfl)
theorem dX3_done_8 : decode cX3_done 8 = .ok (.aload_n 0, 1) := dk_42 (dk_at dksX3_done_0 8 rfl rfl)
theorem dX3_done_9 : decode cX3_done 9 = .ok (.getfield 13, 3) := dk_180 0 13 (dk_at dksX3_done_0 9 rfl rfl)
theorem dX3_done_12 : decode cX3_done 12 = .ok (.invokevirtual 26, 3) := dk_182 0 26 (dk_at dksX3_done_0 12 rfl rfl)
theorem dX3_done_15 : decode cX3_done 15 = .ok (.aload_n 0, 1) := dk_42 (dk_at dksX3_done_0 15 rfl rfl)
theorem dX3_done_16 : decode cX3_done 16 = .ok (.getfield 17, 3) := dk_180 0 17 (dk_at dksX3_done_0 16 rfl rfl)
theorem dX3_done_19 : decode cX3_done 19 = .ok (.aload_n 0, 1) := dk_42 (dk_at dksX3_done_0 19 rfl rfl)
theorem dX3_done_20 : decode cX3_done 20 = .ok (.getfield 20, 3) := dk_180 0 20 (dk_at dksX3_done_0 20 rfl rfl)
theorem dX3_done_23 : decode cX3_done 23 = .ok (.aload_n 0, 1) := dk_42 (dk_at dksX3_done_0 23 rfl rfl)
theorem dX3_done_24 : decode cX3_done 24 = .ok (.getfield 23, 3) := dk_180 0 23 (dk_at dksX3_done_1 0 rfl rfl)
theorem dX3_done_27 : decode cX3_done 27 = .ok (.invokestatic 32, 3) := dk_184 0 32 (dk_at dksX3_done_1 3 rfl rfl)
theorem dX3_done_30 : decode cX3_done 30 = .ok (.invokevirtual 36, 3) := dk_182 0 36 (dk_at dksX3_done_1 6 rfl rfl)
theorem dX3_done_33 : decode cX3_done 33 = .ok (.ireturn, 1) := dk_172 (dk_at dksX3_done_1 9 rfl rfl)
theorem q66 : (Jvm.Cond.initialized "CallRounds$Reading") ∈ lw_all := lw_g (lw_at lw_m1 7 rfl) rfl
theorem q386 : (Jvm.Cond.selects "CallRounds$Reading" ({ cls := "java/lang/Object", name := "getClass", desc := "()Ljava/lang/Class;" } : Jvm.MethodName) ({ cls := "java/lang/Object", name := "getClass", desc := "()Ljava/lang/Class;" } : Jvm.MethodName)) ∈ lw_all := lw_g (lw_at lw_m2 87 rfl) rfl
theorem q859 : (Jvm.Cond.instantiable "CallRounds$Reading" (6 : Nat)) ∈ lw_all := lw_g (lw_at lw_m4 80 rfl) rfl
theorem q861 : (Jvm.Cond.instanceMethod ({ cls := "CallRounds$Reading", name := "<init>", desc := "(LCallRounds;IIII)V" } : Jvm.MethodName)) ∈ lw_all := lw_g (lw_at lw_m4 82 rfl) rfl
theorem q862 : (Jvm.Cond.code ({ cls := "CallRounds$Reading", name := "<init>", desc := "(LCallRounds;IIII)V" } : Jvm.MethodName) prog_9_method_1_code (6 : Nat) (Option.none : Option Jvm.ClassFile.FieldType)) ∈ lw_all := lw_g (lw_at lw_m4 83 rfl) rfl
theorem q863 : (Jvm.Cond.methodLinkNest "CallRounds$Reading" (7 : Nat) ({ cls := "CallRounds$Act", name := "<init>", desc := "(LCallRounds;)V" } : Jvm.MethodName) "CallRounds") ∈ lw_tbl := lw_at lw_m4 84 rfl
theorem q867 : (Jvm.Cond.fieldLink "CallRounds$Reading" (13 : Nat) "CallRounds$Reading" "sheet" "I") ∈ lw_all := lw_g (lw_at lw_m4 88 rfl) rfl
theorem q868 : (Jvm.Cond.fieldLink "CallRounds$Reading" (17 : Nat) "CallRounds$Reading" "lane" "I") ∈ lw_all := lw_g (lw_at lw_m4 89 rfl) rfl
theorem q869 : (Jvm.Cond.fieldLink "CallRounds$Reading" (20 : Nat) "CallRounds$Reading" "i" "I") ∈ lw_all := lw_g (lw_at lw_m4 90 rfl) rfl
theorem q870 : (Jvm.Cond.fieldLink "CallRounds$Reading" (23 : Nat) "CallRounds$Reading" "n" "I") ∈ lw_all := lw_g (lw_at lw_m4 91 rfl) rfl
theorem q871 : (Jvm.Cond.fieldLink "CallRounds$Reading" (1 : Nat) "CallRounds$Reading" "this$0" "LCallRounds;") ∈ lw_all := lw_g (lw_at lw_m4 92 rfl) rfl
theorem q873 : (Jvm.Cond.laysFinal "CallRounds$Reading" "CallRounds$Reading" "sheet" "I") ∈ lw_all := lw_g (lw_at lw_m4 94 rfl) rfl
theorem q874 : (Jvm.Cond.soleField "CallRounds$Reading" "sheet") ∈ lw_all := lw_g (lw_at lw_m4 95 rfl) rfl
theorem q875 : (Jvm.Cond.laysFinal "CallRounds$Reading" "CallRounds$Reading" "lane" "I") ∈ lw_all := lw_g (lw_at lw_m4 96 rfl) rfl
theorem q876 : (Jvm.Cond.soleField "CallRounds$Reading" "lane") ∈ lw_all := lw_g (lw_at lw_m4 97 rfl) rfl
theorem q877 : (Jvm.Cond.laysFinal "CallRounds$Reading" "CallRounds$Reading" "i" "I") ∈ lw_all := lw_g (lw_at lw_m4 98 rfl) rfl
theorem q878 : (Jvm.Cond.soleField "CallRounds$Reading" "i") ∈ lw_all := lw_g (lw_at lw_m4 99 rfl) rfl
theorem q879 : (Jvm.Cond.laysFinal "CallRounds$Reading" "CallRounds$Reading" "n" "I") ∈ lw_all := lw_g (lw_at lw_m4 100 rfl) rfl
theorem q880 : (Jvm.Cond.soleField "CallRounds$Reading" "n") ∈ lw_all := lw_g (lw_at lw_m4 101 rfl) rfl
theorem q881 : (Jvm.Cond.laysFinal "CallRounds$Reading" "CallRounds$Reading" "this$0" "LCallRounds;") ∈ lw_all := lw_g (lw_at lw_m4 102 rfl) rfl
theorem q882 : (Jvm.Cond.soleField "CallRounds$Reading" "this$0") ∈ lw_all := lw_g (lw_at lw_m4 103 rfl) rfl
theorem q883 : (Jvm.Cond.laysFinal "CallRounds$Reading" "CallRounds$Act" "this$0" "LCallRounds;") ∈ lw_all := lw_g (lw_at lw_m4 104 rfl) rfl
theorem q885 : (Jvm.Cond.superclass "CallRounds$Reading" "CallRounds$Act") ∈ lw_all := lw_g (lw_at lw_m4 106 rfl) rfl
theorem q887 : (Jvm.Cond.sameMethod "CallRounds$Reading" "CallRounds$Act" "tried" "()I") ∈ lw_all := lw_g (lw_at lw_m4 108 rfl) rfl
theorem q889 : (Jvm.Cond.selects "CallRounds$Reading" ({ cls := "CallRounds$Reading", name := "tried", desc := "()I" } : Jvm.MethodName) ({ cls := "CallRounds$Act", name := "tried", desc := "()I" } : Jvm.MethodName)) ∈ lw_all := lw_g (lw_at lw_m4 110 rfl) rfl
theorem q918 : (Jvm.Cond.selects "CallRounds$Reading" ({ cls := "CallRounds$Act", name := "done", desc := "()I" } : Jvm.MethodName) ({ cls := "CallRounds$Reading", name := "done", desc := "()I" } : Jvm.MethodName)) ∈ lw_all := lw_g (lw_at lw_m4 139 rfl) rfl
theorem q919 : (Jvm.Cond.instanceMethod ({ cls := "CallRounds$Reading", name := "done", desc := "()I" } : Jvm.MethodName)) ∈ lw_all := lw_g (lw_at lw_m4 140 rfl) rfl
theorem q920 : (Jvm.Cond.code ({ cls := "CallRounds$Reading", name := "done", desc := "()I" } : Jvm.MethodName) prog_9_method_2_code (1 : Nat) (Option.some Jvm.ClassFile.FieldType.int)) ∈ lw_all := lw_g (lw_at lw_m4 141 rfl) rfl
theorem q921 : (Jvm.Cond.methodLinkNest "CallRounds$Reading" (26 : Nat) ({ cls := "CallRounds", name := "rowIn", desc := "(I)Ljava/lang/Object;" } : Jvm.MethodName) "CallRounds") ∈ lw_tbl := lw_at lw_m4 142 rfl
theorem q922 : (Jvm.Cond.methodLinkNest "CallRounds$Reading" (32 : Nat) ({ cls := "CallRounds", name := "cellsOf", desc := "(Ljava/lang/Object;III)[I" } : Jvm.MethodName) "CallRounds") ∈ lw_tbl := lw_at lw_m4 143 rfl
theorem q943 : (Jvm.Cond.methodLinkNest "CallRounds$Reading" (36 : Nat) ({ cls := "CallRounds", name := "newNet", desc := "([I)I" } : Jvm.MethodName) "CallRounds") ∈ lw_tbl := lw_at lw_m4 164 rfl
theorem q1553 : (Jvm.Cond.castable "CallRounds$Reading" "java/lang/Object") ∈ lw_tbl := lw_at lw_m7 54 rfl
theorem in_X3 : ∀ w ∈ wsX30, w ∈ lw_all := lw_in wsX30 [883, 873, 875, 877, 879, 881] (by decide +kernel) (by decide +kernel)
/-! CallRounds$Reader -/
set_option maxRecDepth 100000
def RX4 : String := "CallRounds$Reader"
def TX4 : u_T := fun k => match k with
  | 0 => ("CallRounds$Reader", "codes", "[I", true)
  | 1 => ("CallRounds$Reader", "at", "I", false)
  | 2 => ("CallRounds$Reader", "has", "[I", true)
  | _ => ("CallRounds$Reader", "many", "I", false)
def tyX4 : Nat → FieldType := fun k => match k with
  | 0 => .array .int
  | 1 => .int
  | 2 => .array .int
  | _ => .int
abbrev wsX40 : List Cond := u_ws RX4 TX4 4
theorem nmX4 : ∀ a, a < 4 → ∀ b, b < 4 → a ≠ b → (TX4 a).2.1 ≠ (TX4 b).2.1 := by decide +kernel
theorem tyX4_ok : ∀ k, k < 4 → parseFieldDescriptor (TX4 k).2.2.1 = some (tyX4 k) := by decide +kernel
abbrev cX4_init : ByteArray := prog_8_method_1_code
def yX4_init : MethodName := ⟨RX4, "<init>", "([I)V"⟩
def dkwX4_init_0 : List UInt8 := [42, 183, 0, 3, 42, 7, 188, 10, 181, 0, 9, 42, 43, 181, 0, 15, 177]
abbrev dktX4_init_0 : List UInt8 := dkwX4_init_0 ++ []
theorem dksX4_init_0 : cX4_init.data.toList.drop 0 = dktX4_init_0 := by decide +kernel
theorem dX4_init_0 : decode cX4_init 0 = .ok (.aload_n 0, 1) := dk_42 (dk_at dksX4_init_0 0 rfl rfl)
theorem dX4_init_1 : decode cX4_init 1 = .ok (.invokespecial 3, 3) := dk_183 0 3 (dk_at dksX4_init_0 1 rfl rfl)
theorem dX4_init_4 : decode cX4_init 4 = .ok (.aload_n 0, 1) := dk_42 (dk_at dksX4_init_0 4 rfl rfl)
theorem dX4_init_5 : decode cX4_init 5 = .ok (.iconst 4, 1) := dk_7 (dk_at dksX4_init_0 5 rfl rfl)
theorem dX4_init_6 : decode cX4_init 6 = .ok (.newarray .int, 2) := dk_188_10 (dk_at dksX4_init_0 6 rfl rfl)
theorem dX4_init_8 : decode cX4_init 8 = .ok (.putfield 9, 3) := dk_181 0 9 (dk_at dksX4_init_0 8 rfl rfl)
theorem dX4_init_11 : decode cX4_init 11 = .ok (.aload_n 0, 1) := dk_42 (dk_at dksX4_init_0 11 rfl rfl)
theorem dX4_init_12 : decode cX4_init 12 = .ok (.aload_n 1, 1) := dk_43 (dk_at dksX4_init_0 12 rfl rfl)
theorem dX4_init_13 : decode cX4_init 13 = .ok (.putfield 15, 3) := dk_181 0 15 (dk_at dksX4_init_0 13 rfl rfl)
theorem dX4_init_16 : decode cX4_init 16 = .ok (.return_, 1) := dk_177 (dk_at dksX4_init_0 16 rfl rfl)
abbrev cX4_doesRead : ByteArray := prog_8_method_5_code
def yX4_doesRead : MethodName := ⟨RX4, "doesRead", "()Z"⟩
def dkwX4_doesRead_2 : List UInt8 := [182, 0, 25, 154, 255, 207, 3, 172, 42, 182, 0, 45, 172]
abbrev dktX4_doesRead_2 : List UInt8 := dkwX4_doesRead_2 ++ []
def dkwX4_doesRead_1 : List UInt8 := [162, 0, 7, 4, 167, 0, 4, 3, 60, 27, 153, 255, 224, 42, 180, 0, 22, 7, 159, 0, 12, 42, 16, 59]
abbrev dktX4_doesRead_1 : List UInt8 := dkwX4_doesRead_1 ++ dktX4_doesRead_2
def dkwX4_doesRead_0 : List UInt8 := [4, 60, 27, 153, 0, 53, 42, 182, 0, 41, 154, 0, 5, 3, 172, 42, 180, 0, 18, 42, 180, 0, 15, 190]
abbrev dktX4_doesRead_0 : List UInt8 := dkwX4_doesRead_0 ++ dktX4_doesRead_1
theorem dksX4_doesRead_0 : cX4_doesRead.data.toList.drop 0 = dktX4_doesRead_0 := by decide +kernel
theorem dksX4_doesRead_1 : cX4_doesRead.data.toList.drop 24 = dktX4_doesRead_1 := dk_seg dksX4_doesRead_0 24 rfl rfl
theorem dksX4_doesRead_2 : cX4_doesRead.data.toList.drop 48 = dktX4_doesRead_2 := dk_seg dksX4_doesRead_1 24 rfl rfl
theorem dX4_doesRead_0 : decode cX4_doesRead 0 = .ok (.iconst 1, 1) := dk_4 (dk_at dksX4_doesRead_0 0 rfl rfl)
theorem dX4_doesRead_1 : decode cX4_doesRead 1 = .ok (.istore_n 1, 1) := dk_60 (dk_at dksX4_doesRead_0 1 rfl rfl)
theorem dX4_doesRead_2 : decode cX4_doesRead 2 = .ok (.iload_n 1, 1) := dk_27 (dk_at dksX4_doesRead_0 2 rfl rfl)
theorem dX4_doesRead_3 : decode cX4_doesRead 3 = .ok (.ifCond .eq 53, 3) := dk_153 0 53 (dk_at dksX4_doesRead_0 3 rfl rfl)
theorem dX4_doesRead_6 : decode cX4_doesRead 6 = .ok (.aload_n 0, 1) := dk_42 (dk_at dksX4_doesRead_0 6 rfl rfl)
theorem dX4_doesRead_7 : decode cX4_doesRead 7 = .ok (.invokevirtual 41, 3) := dk_182 0 41 (dk_at dksX4_doesRead_0 7 rfl rfl)
theorem dX4_doesRead_10 : decode cX4_doesRead 10 = .ok (.ifCond .ne 5, 3) := dk_154 0 5 (dk_at dksX4_doesRead_0 10 rfl rfl)
theorem dX4_doesRead_13 : decode cX4_doesRead 13 = .ok (.iconst 0, 1) := dk_3 (dk_at dksX4_doesRead_0 13 rfl rfl)
theorem dX4_doesRead_14 : decode cX4_doesRead 14 = .ok (.ireturn, 1) := dk_172 (dk_at dksX4_doesRead_0 14 rfl rfl)
theorem dX4_doesRead_15 : decode cX4_doesRead 15 = .ok (.aload_n 0, 1) := dk_42 (dk_at dksX4_doesRead_0 15 rfl rfl)
theorem dX4_doesRead_16 : decode cX4_doesRead 16 = .ok (.getfield 18, 3) := dk_180 0 18 (dk_at dksX4_doesRead_0 16 rfl rfl)
theorem dX4_doesRead_19 : decode cX4_doesRead 19 = .ok (.aload_n 0, 1) := dk_42 (dk_at dksX4_doesRead_0 19 rfl rfl)
theorem dX4_doesRead_20 : decode cX4_doesRead 20 = .ok (.getfield 15, 3) := dk_180 0 15 (dk_at dksX4_doesRead_0 20 rfl rfl)
theorem dX4_doesRead_23 : decode cX4_doesRead 23 = .ok (.arraylength, 1) := dk_190 (dk_at dksX4_doesRead_0 23 rfl rfl)
theorem dX4_doesRead_24 : decode cX4_doesRead 24 = .ok (.if_icmp .ge 7, 3) := dk_162 0 7 (dk_at dksX4_doesRead_1 0 rfl rfl)
theorem dX4_doesRead_27 : decode cX4_doesRead 27 = .ok (.iconst 1, 1) := dk_4 (dk_at dksX4_doesRead_1 3 rfl rfl)
theorem dX4_doesRead_28 : decode cX4_doesRead 28 = .ok (.goto 4, 3) := dk_167 0 4 (dk_at dksX4_doesRead_1 4 rfl rfl)
theorem dX4_doesRead_31 : decode cX4_doesRead 31 = .ok (.iconst 0, 1) := dk_3 (dk_at dksX4_doesRead_1 7 rfl rfl)
theorem dX4_doesRead_32 : decode cX4_doesRead 32 = .ok (.istore_n 1, 1) := dk_60 (dk_at dksX4_doesRead_1 8 rfl rfl)
theorem dX4_doesRead_33 : decode cX4_doesRead 33 = .ok (.iload_n 1, 1) := dk_27 (dk_at dksX4_doesRead_1 9 rfl rfl)
theorem dX4_doesRead_34 : decode cX4_doesRead 34 = .ok (.ifCond .eq (-32), 3) := dk_153 255 224 (dk_at dksX4_doesRead_1 10 rfl rfl)
theorem dX4_doesRead_37 : decode cX4_doesRead 37 = .ok (.aload_n 0, 1) := dk_42 (dk_at dksX4_doesRead_1 13 rfl rfl)
theorem dX4_doesRead_38 : decode cX4_doesRead 38 = .ok (.getfield 22, 3) := dk_180 0 22 (dk_at dksX4_doesRead_1 14 rfl rfl)
theorem dX4_doesRead_41 : decode cX4_doesRead 41 = .ok (.iconst 4, 1) := dk_7 (dk_at dksX4_doesRead_1 17 rfl rfl)
theorem dX4_doesRead_42 : decode cX4_doesRead 42 = .ok (.if_icmp .eq 12, 3) := dk_159 0 12 (dk_at dksX4_doesRead_1 18 rfl rfl)
theorem dX4_doesRead_45 : decode cX4_doesRead 45 = .ok (.aload_n 0, 1) := dk_42 (dk_at dksX4_doesRead_1 21 rfl rfl)
theorem dX4_doesRead_46 : decode cX4_doesRead 46 = .ok (.bipush 59, 2) := dk_16 59 (dk_at dksX4_doesRead_1 22 rfl rfl)
theorem dX4_doesRead_48 : decode cX4_doesRead 48 = .ok (.invokevirtual 25, 3) := dk_182 0 25 (dk_at dksX4_doesRead_2 0 rfl rfl)
theorem dX4_doesRead_51 : decode cX4_doesRead 51 = .ok (.ifCond .ne (-49), 3) := dk_154 255 207 (dk_at dksX4_doesRead_2 3 rfl rfl)
theorem dX4_doesRead_54 : decode cX4_doesRead 54 = .ok (.iconst 0, 1) := dk_3 (dk_at dksX4_doesRead_2 6 rfl rfl)
theorem dX4_doesRead_55 : decode cX4_doesRead 55 = .ok (.ireturn, 1) := dk_172 (dk_at dksX4_doesRead_2 7 rfl rfl)
theorem dX4_doesRead_56 : decode cX4_doesRead 56 = .ok (.aload_n 0, 1) := dk_42 (dk_at dksX4_doesRead_2 8 rfl rfl)
theorem dX4_doesRead_57 : decode cX4_doesRead 57 = .ok (.invokevirtual 45, 3) := dk_182 0 45 (dk_at dksX4_doesRead_2 9 rfl rfl)
theorem dX4_doesRead_60 : decode cX4_doesRead 60 = .ok (.ireturn, 1) := dk_172 (dk_at dksX4_doesRead_2 12 rfl rfl)
abbrev cX4_readsPerson : ByteArray := prog_8_method_3_code
def yX4_readsPerson : MethodName := ⟨RX4, "readsPerson", "()Z"⟩
def dkwX4_readsPerson_5 : List UInt8 := [180, 0, 22, 4, 96, 181, 0, 22, 4, 172]
abbrev dktX4_readsPerson_5 : List UInt8 := dkwX4_readsPerson_5 ++ []
def dkwX4_readsPerson_4 : List UInt8 := [180, 0, 18, 4, 96, 181, 0, 18, 167, 255, 179, 42, 180, 0, 9, 42, 180, 0, 22, 27, 79, 42, 89]
abbrev dktX4_readsPerson_4 : List UInt8 := dkwX4_readsPerson_4 ++ dktX4_readsPerson_5
def dkwX4_readsPerson_3 : List UInt8 := [184, 0, 31, 153, 0, 11, 27, 28, 184, 0, 35, 153, 0, 5, 3, 172, 27, 4, 28, 120, 128, 60, 42, 89]
abbrev dktX4_readsPerson_3 : List UInt8 := dkwX4_readsPerson_3 ++ dktX4_readsPerson_4
def dkwX4_readsPerson_2 : List UInt8 := [16, 59, 159, 0, 57, 42, 180, 0, 15, 42, 180, 0, 18, 46, 16, 48, 100, 61, 28, 133, 9, 20, 0, 29]
abbrev dktX4_readsPerson_2 : List UInt8 := dkwX4_readsPerson_2 ++ dktX4_readsPerson_3
def dkwX4_readsPerson_1 : List UInt8 := [120, 60, 42, 180, 0, 18, 42, 180, 0, 15, 190, 162, 0, 71, 42, 180, 0, 15, 42, 180, 0, 18, 46]
abbrev dktX4_readsPerson_1 : List UInt8 := dkwX4_readsPerson_1 ++ dktX4_readsPerson_2
def dkwX4_readsPerson_0 : List UInt8 := [42, 180, 0, 22, 7, 159, 0, 12, 42, 16, 112, 182, 0, 25, 154, 0, 5, 3, 172, 4, 42, 180, 0, 22]
abbrev dktX4_readsPerson_0 : List UInt8 := dkwX4_readsPerson_0 ++ dktX4_readsPerson_1
theorem dksX4_readsPerson_0 : cX4_readsPerson.data.toList.drop 0 = dktX4_readsPerson_0 := by decide +kernel
theorem dksX4_readsPerson_1 : cX4_readsPerson.data.toList.drop 24 = dktX4_readsPerson_1 := dk_seg dksX4_readsPerson_0 24 rfl rfl
theorem dksX4_readsPerson_2 : cX4_readsPerson.data.toList.drop 47 = dktX4_readsPerson_2 := dk_seg dksX4_readsPerson_1 23 rfl rfl
theorem dksX4_readsPerson_3 : cX4_readsPerson.data.toList.drop 71 = dktX4_readsPerson_3 := dk_seg dksX4_readsPerson_2 24 rfl rfl
theorem dksX4_readsPerson_4 : cX4_readsPerson.data.toList.drop 95 = dktX4_readsPerson_4 := dk_seg dksX4_readsPerson_3 24 rfl rfl
theorem dksX4_readsPerson_5 : cX4_readsPerson.data.toList.drop 118 = dktX4_readsPerson_5 := dk_seg dksX4_readsPerson_4 23 rfl rfl
theorem dX4_readsPerson_0 : decode cX4_readsPerson 0 = .ok (.aload_n 0, 1) := dk_42 (dk_at dksX4_readsPerson_0 0 rfl rfl)
theorem dX4_readsPerson_1 : decode cX4_readsPerson 1 = .ok (.getfield 22, 3) := dk_180 0 22 (dk_at dksX4_readsPerson_0 1 rfl rfl)
theorem dX4_readsPerson_4 : decode cX4_readsPerson 4 = .ok (.iconst 4, 1) := dk_7 (dk_at dksX4_readsPerson_0 4 rfl rfl)
theorem dX4_readsPerson_5 : decode cX4_readsPerson 5 = .ok (.if_icmp .eq 12, 3) := dk_159 0 12 (dk_at dksX4_readsPerson_0 5 rfl rfl)
theorem dX4_readsPerson_8 : decode cX4_readsPerson 8 = .ok (.aload_n 0, 1) := dk_42 (dk_at dksX4_readsPerson_0 8 rfl rfl)
theorem dX4_readsPerson_9 : decode cX4_readsPerson 9 = .ok (.bipush 112, 2) := dk_16 112 (dk_at dksX4_readsPerson_0 9 rfl rfl)
theorem dX4_readsPerson_11 : decode cX4_readsPerson 11 = .ok (.invokevirtual 25, 3) := dk_182 0 25 (dk_at dksX4_readsPerson_0 11 rfl rfl)
theorem dX4_readsPerson_14 : decode cX4_readsPerson 14 = .ok (.ifCond .ne 5, 3) := dk_154 0 5 (dk_at dksX4_readsPerson_0 14 rfl rfl)
theorem dX4_readsPerson_17 : decode cX4_readsPerson 17 = .ok (.iconst 0, 1) := dk_3 (dk_at dksX4_readsPerson_0 17 rfl rfl)
theorem dX4_readsPerson_18 : decode cX4_readsPerson 18 = .ok (.ireturn, 1) := dk_172 (dk_at dksX4_readsPerson_0 18 rfl rfl)
theorem dX4_readsPerson_19 : decode cX4_readsPerson 19 = .ok (.iconst 1, 1) := dk_4 (dk_at dksX4_readsPerson_0 19 rfl rfl)
theorem dX4_readsPerson_20 : decode cX4_readsPerson 20 = .ok (.aload_n 0, 1) := dk_42 (dk_at dksX4_readsPerson_0 20 rfl rfl)
theorem dX4_readsPerson_21 : decode cX4_readsPerson 21 = .ok (.getfield 22, 3) := dk_180 0 22 (dk_at dksX4_readsPerson_0 21 rfl rfl)
theorem dX4_readsPerson_24 : decode cX4_readsPerson 24 = .ok (.ishl, 1) := dk_120 (dk_at dksX4_readsPerson_1 0 rfl rfl)
theorem dX4_readsPerson_25 : decode cX4_readsPerson 25 = .ok (.istore_n 1, 1) := dk_60 (dk_at dksX4_readsPerson_1 1 rfl rfl)
theorem dX4_readsPerson_26 : decode cX4_readsPerson 26 = .ok (.aload_n 0, 1) := dk_42 (dk_at dksX4_readsPerson_1 2 rfl rfl)
theorem dX4_readsPerson_27 : decode cX4_readsPerson 27 = .ok (.getfield 18, 3) := dk_180 0 18 (dk_at dksX4_readsPerson_1 3 rfl rfl)
theorem dX4_readsPerson_30 : decode cX4_readsPerson 30 = .ok (.aload_n 0, 1) := dk_42 (dk_at dksX4_readsPerson_1 6 rfl rfl)
theorem dX4_readsPerson_31 : decode cX4_readsPerson 31 = .ok (.getfield 15, 3) := dk_180 0 15 (dk_at dksX4_readsPerson_1 7 rfl rfl)
theorem dX4_readsPerson_34 : decode cX4_readsPerson 34 = .ok (.arraylength, 1) := dk_190 (dk_at dksX4_readsPerson_1 10 rfl rfl)
theorem dX4_readsPerson_35 : decode cX4_readsPerson 35 = .ok (.if_icmp .ge 71, 3) := dk_162 0 71 (dk_at dksX4_readsPerson_1 11 rfl rfl)
theorem dX4_readsPerson_38 : decode cX4_readsPerson 38 = .ok (.aload_n 0, 1) := dk_42 (dk_at dksX4_readsPerson_1 14 rfl rfl)
theorem dX4_readsPerson_39 : decode cX4_readsPerson 39 = .ok (.getfield 15, 3) := dk_180 0 15 (dk_at dksX4_readsPerson_1 15 rfl rfl)
theorem dX4_readsPerson_42 : decode cX4_readsPerson 42 = .ok (.aload_n 0, 1) := dk_42 (dk_at dksX4_readsPerson_1 18 rfl rfl)
theorem dX4_readsPerson_43 : decode cX4_readsPerson 43 = .ok (.getfield 18, 3) := dk_180 0 18 (dk_at dksX4_readsPerson_1 19 rfl rfl)
theorem dX4_readsPerson_46 : decode cX4_readsPerson 46 = .ok (.iaload, 1) := dk_46 (dk_at dksX4_readsPerson_1 22 rfl rfl)
theorem dX4_readsPerson_47 : decode cX4_readsPerson 47 = .ok (.bipush 59, 2) := dk_16 59 (dk_at dksX4_readsPerson_2 0 rfl rfl)
theorem dX4_readsPerson_49 : decode cX4_readsPerson 49 = .ok (.if_icmp .eq 57, 3) := dk_159 0 57 (dk_at dksX4_readsPerson_2 2 rfl rfl)
theorem dX4_readsPerson_52 : decode cX4_readsPerson 52 = .ok (.aload_n 0, 1) := dk_42 (dk_at dksX4_readsPerson_2 5 rfl rfl)
theorem dX4_readsPerson_53 : decode cX4_readsPerson 53 = .ok (.getfield 15, 3) := dk_180 0 15 (dk_at dksX4_readsPerson_2 6 rfl rfl)
theorem dX4_readsPerson_56 : decode cX4_readsPerson 56 = .ok (.aload_n 0, 1) := dk_42 (dk_at dksX4_readsPerson_2 9 rfl rfl)
theorem dX4_readsPerson_57 : decode cX4_readsPerson 57 = .ok (.getfield 18, 3) := dk_180 0 18 (dk_at dksX4_readsPerson_2 10 rfl rfl)
theorem dX4_readsPerson_60 : decode cX4_readsPerson 60 = .ok (.iaload, 1) := dk_46 (dk_at dksX4_readsPerson_2 13 rfl rfl)
theorem dX4_readsPerson_61 : decode cX4_readsPerson 61 = .ok (.bipush 48, 2) := dk_16 48 (dk_at dksX4_readsPerson_2 14 rfl rfl)
theorem dX4_readsPerson_63 : decode cX4_readsPerson 63 = .ok (.isub, 1) := dk_100 (dk_at dksX4_readsPerson_2 16 rfl rfl)
theorem dX4_readsPerson_64 : decode cX4_readsPerson 64 = .ok (.istore_n 2, 1) := dk_61 (dk_at dksX4_readsPerson_2 17 rfl rfl)
theorem dX4_readsPerson_65 : decode cX4_readsPerson 65 = .ok (.iload_n 2, 1) := dk_28 (dk_at dksX4_readsPerson_2 18 rfl rfl)
theorem dX4_readsPerson_66 : decode cX4_readsPerson 66 = .ok (.i2l, 1) := dk_133 (dk_at dksX4_readsPerson_2 19 rfl rfl)
theorem dX4_readsPerson_67 : decode cX4_readsPerson 67 = .ok (.lconst 0, 1) := dk_9 (dk_at dksX4_readsPerson_2 20 rfl rfl)
theorem dX4_readsPerson_68 : decode cX4_readsPerson 68 = .ok (.ldc2_w 29, 3) := dk_20 0 29 (dk_at dksX4_readsPerson_2 21 rfl rfl)
theorem dX4_readsPerson_71 : decode cX4_readsPerson 71 = .ok (.invokestatic 31, 3) := dk_184 0 31 (dk_at dksX4_readsPerson_3 0 rfl rfl)
theorem dX4_readsPerson_74 : decode cX4_readsPerson 74 = .ok (.ifCond .eq 11, 3) := dk_153 0 11 (dk_at dksX4_readsPerson_3 3 rfl rfl)
theorem dX4_readsPerson_77 : decode cX4_readsPerson 77 = .ok (.iload_n 1, 1) := dk_27 (dk_at dksX4_readsPerson_3 6 rfl rfl)
theorem dX4_readsPerson_78 : decode cX4_readsPerson 78 = .ok (.iload_n 2, 1) := dk_28 (dk_at dksX4_readsPerson_3 7 rfl rfl)
theorem dX4_readsPerson_79 : decode cX4_readsPerson 79 = .ok (.invokestatic 35, 3) := dk_184 0 35 (dk_at dksX4_readsPerson_3 8 rfl rfl)
theorem dX4_readsPerson_82 : decode cX4_readsPerson 82 = .ok (.ifCond .eq 5, 3) := dk_153 0 5 (dk_at dksX4_readsPerson_3 11 rfl rfl)
theorem dX4_readsPerson_85 : decode cX4_readsPerson 85 = .ok (.iconst 0, 1) := dk_3 (dk_at dksX4_readsPerson_3 14 rfl rfl)
theorem dX4_readsPerson_86 : decode cX4_readsPerson 86 = .ok (.ireturn, 1) := dk_172 (dk_at dksX4_readsPerson_3 15 rfl rfl)
theorem dX4_readsPerson_87 : decode cX4_readsPerson 87 = .ok (.iload_n 1, 1) := dk_27 (dk_at dksX4_readsPerson_3 16 rfl rfl)
theorem dX4_readsPerson_88 : decode cX4_readsPerson 88 = .ok (.iconst 1, 1) := dk_4 (dk_at dksX4_readsPerson_3 17 rfl rfl)
theorem dX4_readsPerson_89 : decode cX4_readsPerson 89 = .ok (.iload_n 2, 1) := dk_28 (dk_at dksX4_readsPerson_3 18 rfl rfl)
theorem dX4_readsPerson_90 : decode cX4_readsPerson 90 = .ok (.ishl, 1) := dk_120 (dk_at dksX4_readsPerson_3 19 rfl rfl)
theorem dX4_readsPerson_91 : decode cX4_readsPerson 91 = .ok (.ior, 1) := dk_128 (dk_at dksX4_readsPerson_3 20 rfl rfl)
theorem dX4_readsPerson_92 : decode cX4_readsPerson 92 = .ok (.istore_n 1, 1) := dk_60 (dk_at dksX4_readsPerson_3 21 rfl rfl)
theorem dX4_readsPerson_93 : decode cX4_readsPerson 93 = .ok (.aload_n 0, 1) := dk_42 (dk_at dksX4_readsPerson_3 22 rfl rfl)
theorem dX4_readsPerson_94 : decode cX4_readsPerson 94 = .ok (.dup, 1) := dk_89 (dk_at dksX4_readsPerson_3 23 rfl rfl)
theorem dX4_readsPerson_95 : decode cX4_readsPerson 95 = .ok (.getfield 18, 3) := dk_180 0 18 (dk_at dksX4_readsPerson_4 0 rfl rfl)
theorem dX4_readsPerson_98 : decode cX4_readsPerson 98 = .ok (.iconst 1, 1) := dk_4 (dk_at dksX4_readsPerson_4 3 rfl rfl)
theorem dX4_readsPerson_99 : decode cX4_readsPerson 99 = .ok (.iadd, 1) := dk_96 (dk_at dksX4_readsPerson_4 4 rfl rfl)
theorem dX4_readsPerson_100 : decode cX4_readsPerson 100 = .ok (.putfield 18, 3) := dk_181 0 18 (dk_at dksX4_readsPerson_4 5 rfl rfl)
theorem dX4_readsPerson_103 : decode cX4_readsPerson 103 = .ok (.goto (-77), 3) := dk_167 255 179 (dk_at dksX4_readsPerson_4 8 rfl rfl)
theorem dX4_readsPerson_106 : decode cX4_readsPerson 106 = .ok (.aload_n 0, 1) := dk_42 (dk_at dksX4_readsPerson_4 11 rfl rfl)
theorem dX4_readsPerson_107 : decode cX4_readsPerson 107 = .ok (.getfield 9, 3) := dk_180 0 9 (dk_at dksX4_readsPerson_4 12 rfl rfl)
theorem dX4_readsPerson_110 : decode cX4_readsPerson 110 = .ok (.aload_n 0, 1) := dk_42 (dk_at dksX4_readsPerson_4 15 rfl rfl)
theorem dX4_readsPerson_111 : decode cX4_readsPerson 111 = .ok (.getfield 22, 3) := dk_180 0 22 (dk_at dksX4_readsPerson_4 16 rfl rfl)
theorem dX4_readsPerson_114 : decode cX4_readsPerson 114 = .ok (.iload_n 1, 1) := dk_27 (dk_at dksX4_readsPerson_4 19 rfl rfl)
theorem dX4_readsPerson_115 : decode cX4_readsPerson 115 = .ok (.iastore, 1) := dk_79 (dk_at dksX4_readsPerson_4 20 rfl rfl)
theorem dX4_readsPerson_116 : decode cX4_readsPerson 116 = .ok (.aload_n 0, 1) := dk_42 (dk_at dksX4_readsPerson_4 21 rfl rfl)
theorem dX4_readsPerson_117 : decode cX4_readsPerson 117 = .ok (.dup, 1) := dk_89 (dk_at dksX4_readsPerson_4 22 rfl rfl)
theorem dX4_readsPerson_118 : decode cX4_readsPerson 118 = .ok (.getfield 22, 3) := dk_180 0 22 (dk_at dksX4_readsPerson_5 0 rfl rfl)
theorem dX4_readsPerson_121 : decode cX4_readsPerson 121 = .ok (.iconst 1, 1) := dk_4 (dk_at dksX4_readsPerson_5 3 rfl rfl)
theorem dX4_readsPerson_122 : decode cX4_readsPerson 122 = .ok (.iadd, 1) := dk_96 (dk_at dksX4_readsPerson_5 4 rfl rfl)
theorem dX4_readsPerson_123 : decode cX4_readsPerson 123 = .ok (.putfield 22, 3) := dk_181 0 22 (dk_at dksX4_readsPerson_5 5 rfl rfl)
theorem dX4_readsPerson_126 : decode cX4_readsPerson 126 = .ok (.iconst 1, 1) := dk_4 (dk_at dksX4_readsPerson_5 8 rfl rfl)
theorem dX4_readsPerson_127 : decode cX4_readsPerson 127 = .ok (.ireturn, 1) := dk_172 (dk_at dksX4_readsPerson_5 9 rfl rfl)
abbrev cX4_take : ByteArray := prog_8_method_2_code
def yX4_take : MethodName := ⟨RX4, "take", "(I)Z"⟩
def dkwX4_take_2 : List UInt8 := [181, 0, 18, 28, 172]
abbrev dktX4_take_2 : List UInt8 := dkwX4_take_2 ++ []
def dkwX4_take_1 : List UInt8 := [160, 0, 7, 4, 167, 0, 4, 3, 61, 42, 89, 180, 0, 18, 28, 153, 0, 7, 4, 167, 0, 4, 3, 96]
abbrev dktX4_take_1 : List UInt8 := dkwX4_take_1 ++ dktX4_take_2
def dkwX4_take_0 : List UInt8 := [42, 180, 0, 18, 42, 180, 0, 15, 190, 162, 0, 20, 42, 180, 0, 15, 42, 180, 0, 18, 46, 27]
abbrev dktX4_take_0 : List UInt8 := dkwX4_take_0 ++ dktX4_take_1
theorem dksX4_take_0 : cX4_take.data.toList.drop 0 = dktX4_take_0 := by decide +kernel
theorem dksX4_take_1 : cX4_take.data.toList.drop 22 = dktX4_take_1 := dk_seg dksX4_take_0 22 rfl rfl
theorem dksX4_take_2 : cX4_take.data.toList.drop 46 = dktX4_take_2 := dk_seg dksX4_take_1 24 rfl rfl
theorem dX4_take_0 : decode cX4_take 0 = .ok (.aload_n 0, 1) := dk_42 (dk_at dksX4_take_0 0 rfl rfl)
theorem dX4_take_1 : decode cX4_take 1 = .ok (.getfield 18, 3) := dk_180 0 18 (dk_at dksX4_take_0 1 rfl rfl)
theorem dX4_take_4 : decode cX4_take 4 = .ok (.aload_n 0, 1) := dk_42 (dk_at dksX4_take_0 4 rfl rfl)
theorem dX4_take_5 : decode cX4_take 5 = .ok (.getfield 15, 3) := dk_180 0 15 (dk_at dksX4_take_0 5 rfl rfl)
theorem dX4_take_8 : decode cX4_take 8 = .ok (.arraylength, 1) := dk_190 (dk_at dksX4_take_0 8 rfl rfl)
theorem dX4_take_9 : decode cX4_take 9 = .ok (.if_icmp .ge 20, 3) := dk_162 0 20 (dk_at dksX4_take_0 9 rfl rfl)
theorem dX4_take_12 : decode cX4_take 12 = .ok (.aload_n 0, 1) := dk_42 (dk_at dksX4_take_0 12 rfl rfl)
theorem dX4_take_13 : decode cX4_take 13 = .ok (.getfield 15, 3) := dk_180 0 15 (dk_at dksX4_take_0 13 rfl rfl)
theorem dX4_take_16 : decode cX4_take 16 = .ok (.aload_n 0, 1) := dk_42 (dk_at dksX4_take_0 16 rfl rfl)
theorem dX4_take_17 : decode cX4_take 17 = .ok (.getfield 18, 3) := dk_180 0 18 (dk_at dksX4_take_0 17 rfl rfl)
theorem dX4_take_20 : decode cX4_take 20 = .ok (.iaload, 1) := dk_46 (dk_at dksX4_take_0 20 rfl rfl)
theorem dX4_take_21 : decode cX4_take 21 = .ok (.iload_n 1, 1) := dk_27 (dk_at dksX4_take_0 21 rfl rfl)
theorem dX4_take_22 : decode cX4_take 22 = .ok (.if_icmp .ne 7, 3) := dk_160 0 7 (dk_at dksX4_take_1 0 rfl rfl)
theorem dX4_take_25 : decode cX4_take 25 = .ok (.iconst 1, 1) := dk_4 (dk_at dksX4_take_1 3 rfl rfl)
theorem dX4_take_26 : decode cX4_take 26 = .ok (.goto 4, 3) := dk_167 0 4 (dk_at dksX4_take_1 4 rfl rfl)
theorem dX4_take_29 : decode cX4_take 29 = .ok (.iconst 0, 1) := dk_3 (dk_at dksX4_take_1 7 rfl rfl)
theorem dX4_take_30 : decode cX4_take 30 = .ok (.istore_n 2, 1) := dk_61 (dk_at dksX4_take_1 8 rfl rfl)
theorem dX4_take_31 : decode cX4_take 31 = .ok (.aload_n 0, 1) := dk_42 (dk_at dksX4_take_1 9 rfl rfl)
theorem dX4_take_32 : decode cX4_take 32 = .ok (.dup, 1) := dk_89 (dk_at dksX4_take_1 10 rfl rfl)
theorem dX4_take_33 : decode cX4_take 33 = .ok (.getfield 18, 3) := dk_180 0 18 (dk_at dksX4_take_1 11 rfl rfl)
theorem dX4_take_36 : decode cX4_take 36 = .ok (.iload_n 2, 1) := dk_28 (dk_at dksX4_take_1 14 rfl rfl)
theorem dX4_take_37 : decode cX4_take 37 = .ok (.ifCond .eq 7, 3) := dk_153 0 7 (dk_at dksX4_take_1 15 rfl rfl)
theorem dX4_take_40 : decode cX4_take 40 = .ok (.iconst 1, 1) := dk_4 (dk_at dksX4_take_1 18 rfl rfl)
theorem dX4_take_41 : decode cX4_take 41 = .ok (.goto 4, 3) := dk_167 0 4 (dk_at dksX4_take_1 19 rfl rfl)
theorem dX4_take_44 : decode cX4_take 44 = .ok (.iconst 0, 1) := dk_3 (dk_at dksX4_take_1 22 rfl rfl)
theorem dX4_take_45 : decode cX4_take 45 = .ok (.iadd, 1) := dk_96 (dk_at dksX4_take_1 23 rfl rfl)
theorem dX4_take_46 : decode cX4_take 46 = .ok (.putfield 18, 3) := dk_181 0 18 (dk_at dksX4_take_2 0 rfl rfl)
theorem dX4_take_49 : decode cX4_take 49 = .ok (.iload_n 2, 1) := dk_28 (dk_at dksX4_take_2 3 rfl rfl)
theorem dX4_take_50 : decode cX4_take 50 = .ok (.ireturn, 1) := dk_172 (dk_at dksX4_take_2 4 rfl rfl)
abbrev cX4_areThere : ByteArray := prog_8_method_4_code
def yX4_areThere : MethodName := ⟨RX4, "areThere", "()Z"⟩
def dkwX4_areThere_2 : List UInt8 := [4, 172]
abbrev dktX4_areThere_2 : List UInt8 := dkwX4_areThere_2 ++ []
def dkwX4_areThere_1 : List UInt8 := [96, 133, 20, 0, 39, 184, 0, 31, 153, 0, 10, 42, 27, 181, 0, 18, 3, 172, 132, 1, 1, 167, 255, 213]
abbrev dktX4_areThere_1 : List UInt8 := dkwX4_areThere_1 ++ dktX4_areThere_2
def dkwX4_areThere_0 : List UInt8 := [3, 60, 27, 42, 180, 0, 15, 190, 162, 0, 40, 42, 180, 0, 15, 27, 46, 133, 16, 48, 42, 180, 0, 22]
abbrev dktX4_areThere_0 : List UInt8 := dkwX4_areThere_0 ++ dktX4_areThere_1
theorem dksX4_areThere_0 : cX4_areThere.data.toList.drop 0 = dktX4_areThere_0 := by decide +kernel
theorem dksX4_areThere_1 : cX4_areThere.data.toList.drop 24 = dktX4_areThere_1 := dk_seg dksX4_areThere_0 24 rfl rfl
theorem dksX4_areThere_2 : cX4_areThere.data.toList.drop 48 = dktX4_areThere_2 := dk_seg dksX4_areThere_1 24 rfl rfl
theorem dX4_areThere_0 : decode cX4_areThere 0 = .ok (.iconst 0, 1) := dk_3 (dk_at dksX4_areThere_0 0 rfl rfl)
theorem dX4_areThere_1 : decode cX4_areThere 1 = .ok (.istore_n 1, 1) := dk_60 (dk_at dksX4_areThere_0 1 rfl rfl)
theorem dX4_areThere_2 : decode cX4_areThere 2 = .ok (.iload_n 1, 1) := dk_27 (dk_at dksX4_areThere_0 2 rfl rfl)
theorem dX4_areThere_3 : decode cX4_areThere 3 = .ok (.aload_n 0, 1) := dk_42 (dk_at dksX4_areThere_0 3 rfl rfl)
theorem dX4_areThere_4 : decode cX4_areThere 4 = .ok (.getfield 15, 3) := dk_180 0 15 (dk_at dksX4_areThere_0 4 rfl rfl)
theorem dX4_areThere_7 : decode cX4_areThere 7 = .ok (.arraylength, 1) := dk_190 (dk_at dksX4_areThere_0 7 rfl rfl)
theorem dX4_areThere_8 : decode cX4_areThere 8 = .ok (.if_icmp .ge 40, 3) := dk_162 0 40 (dk_at dksX4_areThere_0 8 rfl rfl)
theorem dX4_areThere_11 : decode cX4_areThere 11 = .ok (.aload_n 0, 1) := dk_42 (dk_at dksX4_areThere_0 11 rfl rfl)
theorem dX4_areThere_12 : decode cX4_areThere 12 = .ok (.getfield 15, 3) := dk_180 0 15 (dk_at dksX4_areThere_0 12 rfl rfl)
theorem dX4_areThere_15 : decode cX4_areThere 15 = .ok (.iload_n 1, 1) := dk_27 (dk_at dksX4_areThere_0 15 rfl rfl)
theorem dX4_areThere_16 : decode cX4_areThere 16 = .ok (.iaload, 1) := dk_46 (dk_at dksX4_areThere_0 16 rfl rfl)
theorem dX4_areThere_17 : decode cX4_areThere 17 = .ok (.i2l, 1) := dk_133 (dk_at dksX4_areThere_0 17 rfl rfl)
theorem dX4_areThere_18 : decode cX4_areThere 18 = .ok (.bipush 48, 2) := dk_16 48 (dk_at dksX4_areThere_0 18 rfl rfl)
theorem dX4_areThere_20 : decode cX4_areThere 20 = .ok (.aload_n 0, 1) := dk_42 (dk_at dksX4_areThere_0 20 rfl rfl)
theorem dX4_areThere_21 : decode cX4_areThere 21 = .ok (.getfield 22, 3) := dk_180 0 22 (dk_at dksX4_areThere_0 21 rfl rfl)
theorem dX4_areThere_24 : decode cX4_areThere 24 = .ok (.iadd, 1) := dk_96 (dk_at dksX4_areThere_1 0 rfl rfl)
theorem dX4_areThere_25 : decode cX4_areThere 25 = .ok (.i2l, 1) := dk_133 (dk_at dksX4_areThere_1 1 rfl rfl)
theorem dX4_areThere_26 : decode cX4_areThere 26 = .ok (.ldc2_w 39, 3) := dk_20 0 39 (dk_at dksX4_areThere_1 2 rfl rfl)
theorem dX4_areThere_29 : decode cX4_areThere 29 = .ok (.invokestatic 31, 3) := dk_184 0 31 (dk_at dksX4_areThere_1 5 rfl rfl)
theorem dX4_areThere_32 : decode cX4_areThere 32 = .ok (.ifCond .eq 10, 3) := dk_153 0 10 (dk_at dksX4_areThere_1 8 rfl rfl)
theorem dX4_areThere_35 : decode cX4_areThere 35 = .ok (.aload_n 0, 1) := dk_42 (dk_at dksX4_areThere_1 11 rfl rfl)
theorem dX4_areThere_36 : decode cX4_areThere 36 = .ok (.iload_n 1, 1) := dk_27 (dk_at dksX4_areThere_1 12 rfl rfl)
theorem dX4_areThere_37 : decode cX4_areThere 37 = .ok (.putfield 18, 3) := dk_181 0 18 (dk_at dksX4_areThere_1 13 rfl rfl)
theorem dX4_areThere_40 : decode cX4_areThere 40 = .ok (.iconst 0, 1) := dk_3 (dk_at dksX4_areThere_1 16 rfl rfl)
theorem dX4_areThere_41 : decode cX4_areThere 41 = .ok (.ireturn, 1) := dk_172 (dk_at dksX4_areThere_1 17 rfl rfl)
theorem dX4_areThere_42 : decode cX4_areThere 42 = .ok (.iinc 1 1, 3) := dk_132 1 1 (dk_at dksX4_areThere_1 18 rfl rfl)
theorem dX4_areThere_45 : decode cX4_areThere 45 = .ok (.goto (-43), 3) := dk_167 255 213 (dk_at dksX4_areThere_1 21 rfl rfl)
theorem dX4_areThere_48 : decode cX4_areThere 48 = .ok (.iconst 1, 1) := dk_4 (dk_at dksX4_areThere_2 0 rfl rfl)
theorem dX4_areThere_49 : decode cX4_areThere 49 = .ok (.ireturn, 1) := dk_172 (dk_at dksX4_areThere_2 1 rfl rfl)
theorem q79 : (Jvm.Cond.initialized "CallRounds$Reader") ∈ lw_all := lw_g (lw_at lw_m1 20 rfl) rfl
theorem q385 : (Jvm.Cond.selects "CallRounds$Reader" ({ cls := "java/lang/Object", name := "getClass", desc := "()Ljava/lang/Class;" } : Jvm.MethodName) ({ cls := "java/lang/Object", name := "getClass", desc := "()Ljava/lang/Class;" } : Jvm.MethodName)) ∈ lw_all := lw_g (lw_at lw_m2 86 rfl) rfl
theorem q948 : (Jvm.Cond.instantiable "CallRounds$Reader" (4 : Nat)) ∈ lw_all := lw_g (lw_at lw_m4 169 rfl) rfl
theorem q950 : (Jvm.Cond.instanceMethod ({ cls := "CallRounds$Reader", name := "<init>", desc := "([I)V" } : Jvm.MethodName)) ∈ lw_all := lw_g (lw_at lw_m4 171 rfl) rfl
theorem q951 : (Jvm.Cond.code ({ cls := "CallRounds$Reader", name := "<init>", desc := "([I)V" } : Jvm.MethodName) prog_8_method_1_code (2 : Nat) (Option.none : Option Jvm.ClassFile.FieldType)) ∈ lw_all := lw_g (lw_at lw_m4 172 rfl) rfl
theorem q952 : (Jvm.Cond.methodLink "CallRounds$Reader" (3 : Nat) ({ cls := "java/lang/Object", name := "<init>", desc := "()V" } : Jvm.MethodName)) ∈ lw_all := lw_g (lw_at lw_m4 173 rfl) rfl
theorem q953 : (Jvm.Cond.fieldLink "CallRounds$Reader" (15 : Nat) "CallRounds$Reader" "codes" "[I") ∈ lw_all := lw_g (lw_at lw_m4 174 rfl) rfl
theorem q954 : (Jvm.Cond.fieldLink "CallRounds$Reader" (18 : Nat) "CallRounds$Reader" "at" "I") ∈ lw_all := lw_g (lw_at lw_m4 175 rfl) rfl
theorem q956 : (Jvm.Cond.fieldLink "CallRounds$Reader" (9 : Nat) "CallRounds$Reader" "has" "[I") ∈ lw_all := lw_g (lw_at lw_m4 177 rfl) rfl
theorem q958 : (Jvm.Cond.fieldLink "CallRounds$Reader" (22 : Nat) "CallRounds$Reader" "many" "I") ∈ lw_all := lw_g (lw_at lw_m4 179 rfl) rfl
theorem q960 : (Jvm.Cond.laysFinal "CallRounds$Reader" "CallRounds$Reader" "codes" "[I") ∈ lw_all := lw_g (lw_at lw_m4 181 rfl) rfl
theorem q961 : (Jvm.Cond.soleField "CallRounds$Reader" "codes") ∈ lw_all := lw_g (lw_at lw_m4 182 rfl) rfl
theorem q962 : (Jvm.Cond.lays "CallRounds$Reader" "CallRounds$Reader" "at" "I") ∈ lw_all := lw_g (lw_at lw_m4 183 rfl) rfl
theorem q963 : (Jvm.Cond.soleField "CallRounds$Reader" "at") ∈ lw_all := lw_g (lw_at lw_m4 184 rfl) rfl
theorem q964 : (Jvm.Cond.laysFinal "CallRounds$Reader" "CallRounds$Reader" "has" "[I") ∈ lw_all := lw_g (lw_at lw_m4 185 rfl) rfl
theorem q965 : (Jvm.Cond.soleField "CallRounds$Reader" "has") ∈ lw_all := lw_g (lw_at lw_m4 186 rfl) rfl
theorem q966 : (Jvm.Cond.lays "CallRounds$Reader" "CallRounds$Reader" "many" "I") ∈ lw_all := lw_g (lw_at lw_m4 187 rfl) rfl
theorem q967 : (Jvm.Cond.soleField "CallRounds$Reader" "many") ∈ lw_all := lw_g (lw_at lw_m4 188 rfl) rfl
theorem q968 : (Jvm.Cond.superclass "CallRounds$Reader" "java/lang/Object") ∈ lw_all := lw_g (lw_at lw_m4 189 rfl) rfl
theorem q970 : (Jvm.Cond.instanceMethod ({ cls := "CallRounds$Reader", name := "doesRead", desc := "()Z" } : Jvm.MethodName)) ∈ lw_all := lw_g (lw_at lw_m4 191 rfl) rfl
theorem q971 : (Jvm.Cond.selects "CallRounds$Reader" ({ cls := "CallRounds$Reader", name := "doesRead", desc := "()Z" } : Jvm.MethodName) ({ cls := "CallRounds$Reader", name := "doesRead", desc := "()Z" } : Jvm.MethodName)) ∈ lw_all := lw_g (lw_at lw_m4 192 rfl) rfl
theorem q972 : (Jvm.Cond.code ({ cls := "CallRounds$Reader", name := "doesRead", desc := "()Z" } : Jvm.MethodName) prog_8_method_5_code (2 : Nat) (Option.some Jvm.ClassFile.FieldType.boolean)) ∈ lw_all := lw_g (lw_at lw_m4 193 rfl) rfl
theorem q973 : (Jvm.Cond.methodLink "CallRounds$Reader" (41 : Nat) ({ cls := "CallRounds$Reader", name := "readsPerson", desc := "()Z" } : Jvm.MethodName)) ∈ lw_all := lw_g (lw_at lw_m4 194 rfl) rfl
theorem q974 : (Jvm.Cond.privateMethod ({ cls := "CallRounds$Reader", name := "readsPerson", desc := "()Z" } : Jvm.MethodName)) ∈ lw_tbl := lw_at lw_m4 195 rfl
theorem q975 : (Jvm.Cond.instanceMethod ({ cls := "CallRounds$Reader", name := "readsPerson", desc := "()Z" } : Jvm.MethodName)) ∈ lw_all := lw_g (lw_at lw_m4 196 rfl) rfl
theorem q976 : (Jvm.Cond.code ({ cls := "CallRounds$Reader", name := "readsPerson", desc := "()Z" } : Jvm.MethodName) prog_8_method_3_code (3 : Nat) (Option.some Jvm.ClassFile.FieldType.boolean)) ∈ lw_all := lw_g (lw_at lw_m4 197 rfl) rfl
theorem q977 : (Jvm.Cond.methodLink "CallRounds$Reader" (25 : Nat) ({ cls := "CallRounds$Reader", name := "take", desc := "(I)Z" } : Jvm.MethodName)) ∈ lw_all := lw_g (lw_at lw_m4 198 rfl) rfl
theorem q978 : (Jvm.Cond.privateMethod ({ cls := "CallRounds$Reader", name := "take", desc := "(I)Z" } : Jvm.MethodName)) ∈ lw_tbl := lw_at lw_m4 199 rfl
theorem q979 : (Jvm.Cond.instanceMethod ({ cls := "CallRounds$Reader", name := "take", desc := "(I)Z" } : Jvm.MethodName)) ∈ lw_all := lw_g (lw_at lw_m4 200 rfl) rfl
theorem q980 : (Jvm.Cond.code ({ cls := "CallRounds$Reader", name := "take", desc := "(I)Z" } : Jvm.MethodName) prog_8_method_2_code (3 : Nat) (Option.some Jvm.ClassFile.FieldType.boolean)) ∈ lw_all := lw_g (lw_at lw_m4 201 rfl) rfl
theorem q981 : (Jvm.Cond.constantLong "CallRounds$Reader" (29 : Nat) (3 : Int64)) ∈ lw_all := lw_g (lw_at lw_m4 202 rfl) rfl
theorem q982 : (Jvm.Cond.methodLinkNest "CallRounds$Reader" (31 : Nat) ({ cls := "CallRounds", name := "in", desc := "(JJJ)Z" } : Jvm.MethodName) "CallRounds") ∈ lw_tbl := lw_at lw_m4 203 rfl
theorem q983 : (Jvm.Cond.methodLinkNest "CallRounds$Reader" (35 : Nat) ({ cls := "CallRounds", name := "isIn", desc := "(II)Z" } : Jvm.MethodName) "CallRounds") ∈ lw_tbl := lw_at lw_m4 204 rfl
theorem q984 : (Jvm.Cond.methodLink "CallRounds$Reader" (45 : Nat) ({ cls := "CallRounds$Reader", name := "areThere", desc := "()Z" } : Jvm.MethodName)) ∈ lw_all := lw_g (lw_at lw_m4 205 rfl) rfl
theorem q985 : (Jvm.Cond.privateMethod ({ cls := "CallRounds$Reader", name := "areThere", desc := "()Z" } : Jvm.MethodName)) ∈ lw_tbl := lw_at lw_m4 206 rfl
theorem q986 : (Jvm.Cond.instanceMethod ({ cls := "CallRounds$Reader", name := "areThere", desc := "()Z" } : Jvm.MethodName)) ∈ lw_all := lw_g (lw_at lw_m4 207 rfl) rfl
theorem q987 : (Jvm.Cond.code ({ cls := "CallRounds$Reader", name := "areThere", desc := "()Z" } : Jvm.MethodName) prog_8_method_4_code (2 : Nat) (Option.some Jvm.ClassFile.FieldType.boolean)) ∈ lw_all := lw_g (lw_at lw_m4 208 rfl) rfl
theorem q988 : (Jvm.Cond.constantLong "CallRounds$Reader" (39 : Nat) (51 : Int64)) ∈ lw_all := lw_g (lw_at lw_m4 209 rfl) rfl
theorem q1560 : (Jvm.Cond.castable "CallRounds$Reader" "java/lang/Object") ∈ lw_tbl := lw_at lw_m7 61 rfl
theorem in_X4 : ∀ w ∈ wsX40, w ∈ lw_all := lw_in wsX40 [960, 962, 964, 966] (by decide +kernel) (by decide +kernel)
/-! CallRounds$Ring -/
set_option maxRecDepth 100000
def RX5 : String := "CallRounds$Ring"
def TX5 : u_T := fun k => match k with
  | 0 => ("CallRounds$Ring", "number", "I", true)
  | 1 => ("CallRounds$Ring", "from", "I", true)
  | 2 => ("CallRounds$Ring", "to", "I", true)
  | 3 => ("CallRounds$Ring", "secrets", "I", true)
  | 4 => ("CallRounds$Ring", "tokens", "I", true)
  | 5 => ("CallRounds$Ring", "learntFrom", "I", true)
  | 6 => ("CallRounds$Ring", "learntTo", "I", true)
  | _ => ("CallRounds$Ring", "this$0", "LCallRounds;", true)
def tyX5 : Nat → FieldType := fun k => match k with
  | 0 => .int
  | 1 => .int
  | 2 => .int
  | 3 => .int
  | 4 => .int
  | 5 => .int
  | 6 => .int
  | _ => .object "CallRounds"
abbrev wsX50 : List Cond := u_ws RX5 TX5 8
theorem nmX5 : ∀ a, a < 8 → ∀ b, b < 8 → a ≠ b → (TX5 a).2.1 ≠ (TX5 b).2.1 := by decide +kernel
theorem tyX5_ok : ∀ k, k < 8 → parseFieldDescriptor (TX5 k).2.2.1 = some (tyX5 k) := by decide +kernel
abbrev cX5_init : ByteArray := prog_10_method_1_code
def yX5_init : MethodName := ⟨RX5, "<init>", "(LCallRounds;IIIII)V"⟩
def dkwX5_init_3 : List UInt8 := [21, 4, 184, 0, 35, 21, 5, 21, 4, 184, 0, 35, 2, 130, 126, 181, 0, 42, 177]
abbrev dktX5_init_3 : List UInt8 := dkwX5_init_3 ++ []
def dkwX5_init_2 : List UInt8 := [180, 0, 32, 29, 184, 0, 35, 21, 5, 29, 184, 0, 35, 2, 130, 126, 181, 0, 39, 42, 42, 180, 0, 32]
abbrev dktX5_init_2 : List UInt8 := dkwX5_init_2 ++ dktX5_init_3
def dkwX5_init_1 : List UInt8 := [181, 0, 22, 42, 21, 6, 181, 0, 25, 42, 21, 5, 29, 21, 4, 184, 0, 28, 181, 0, 32, 42, 42]
abbrev dktX5_init_1 : List UInt8 := dkwX5_init_1 ++ dktX5_init_2
def dkwX5_init_0 : List UInt8 := [42, 43, 181, 0, 3, 42, 183, 0, 9, 42, 28, 181, 0, 15, 42, 29, 181, 0, 19, 42, 21, 4]
abbrev dktX5_init_0 : List UInt8 := dkwX5_init_0 ++ dktX5_init_1
theorem dksX5_init_0 : cX5_init.data.toList.drop 0 = dktX5_init_0 := by decide +kernel
theorem dksX5_init_1 : cX5_init.data.toList.drop 22 = dktX5_init_1 := dk_seg dksX5_init_0 22 rfl rfl
theorem dksX5_init_2 : cX5_init.data.toList.drop 45 = dktX5_init_2 := dk_seg dksX5_init_1 23 rfl rfl
theorem dksX5_init_3 : cX5_init.data.toList.drop 69 = dktX5_init_3 := dk_seg dksX5_init_2 24 rfl rfl
theorem dX5_init_0 : decode cX5_init 0 = .ok (.aload_n 0, 1) := dk_42 (dk_at dksX5_init_0 0 rfl rfl)
theorem dX5_init_1 : decode cX5_init 1 = .ok (.aload_n 1, 1) := dk_43 (dk_at dksX5_init_0 1 rfl rfl)
theorem dX5_init_2 : decode cX5_init 2 = .ok (.putfield 3, 3) := dk_181 0 3 (dk_at dksX5_init_0 2 rfl rfl)
theorem dX5_init_5 : decode cX5_init 5 = .ok (.aload_n 0, 1) := dk_42 (dk_at dksX5_init_0 5 rfl rfl)
theorem dX5_init_6 : decode cX5_init 6 = .ok (.invokespecial 9, 3) := dk_183 0 9 (dk_at dksX5_init_0 6 rfl rfl)
theorem dX5_init_9 : decode cX5_init 9 = .ok (.aload_n 0, 1) := dk_42 (dk_at dksX5_init_0 9 rfl rfl)
theorem dX5_init_10 : decode cX5_init 10 = .ok (.iload_n 2, 1) := dk_28 (dk_at dksX5_init_0 10 rfl rfl)
theorem dX5_init_11 : decode cX5_init 11 = .ok (.putfield 15, 3) := dk_181 0 15 (dk_at dksX5_init_0 11 rfl rfl)
theorem dX5_init_14 : decode cX5_init 14 = .ok (.aload_n 0, 1) := dk_42 (dk_at dksX5_init_0 14 rfl rfl)
theorem dX5_init_15 : decode cX5_init 15 = .ok (.iload_n 3, 1) := dk_29 (dk_at dksX5_init_0 15 rfl rfl)
theorem dX5_init_16 : decode cX5_init 16 = .ok (.putfield 19, 3) := dk_181 0 19 (dk_at dksX5_init_0 16 rfl rfl)
theorem dX5_init_19 : decode cX5_init 19 = .ok (.aload_n 0, 1) := dk_42 (dk_at dksX5_init_0 19 rfl rfl)
theorem dX5_init_20 : decode cX5_init 20 = .ok (.iload 4, 2) := dk_21 4 (dk_at dksX5_init_0 20 rfl rfl)
theorem dX5_init_22 : decode cX5_init 22 = .ok (.putfield 22, 3) := dk_181 0 22 (dk_at dksX5_init_1 0 rfl rfl)
theorem dX5_init_25 : decode cX5_init 25 = .ok (.aload_n 0, 1) := dk_42 (dk_at dksX5_init_1 3 rfl rfl)
theorem dX5_init_26 : decode cX5_init 26 = .ok (.iload 6, 2) := dk_21 6 (dk_at dksX5_init_1 4 rfl rfl)
theorem dX5_init_28 : decode cX5_init 28 = .ok (.putfield 25, 3) := dk_181 0 25 (dk_at dksX5_init_1 6 rfl rfl)
theorem dX5_init_31 : decode cX5_init 31 = .ok (.aload_n 0, 1) := dk_42 (dk_at dksX5_init_1 9 rfl rfl)
theorem dX5_init_32 : decode cX5_init 32 = .ok (.iload 5, 2) := dk_21 5 (dk_at dksX5_init_1 10 rfl rfl)
theorem dX5_init_34 : decode cX5_init 34 = .ok (.iload_n 3, 1) := dk_29 (dk_at dksX5_init_1 12 rfl rfl)
theorem dX5_init_35 : decode cX5_init 35 = .ok (.iload 4, 2) := dk_21 4 (dk_at dksX5_init_1 13 rfl rfl)
theorem dX5_init_37 : decode cX5_init 37 = .ok (.invokestatic 28, 3) := dk_184 0 28 (dk_at dksX5_init_1 15 rfl rfl)
theorem dX5_init_40 : decode cX5_init 40 = .ok (.putfield 32, 3) := dk_181 0 32 (dk_at dksX5_init_1 18 rfl rfl)
theorem dX5_init_43 : decode cX5_init 43 = .ok (.aload_n 0, 1) := dk_42 (dk_at dksX5_init_1 21 rfl rfl)
theorem dX5_init_44 : decode cX5_init 44 = .ok (.aload_n 0, 1) := dk_42 (dk_at dksX5_init_1 22 rfl rfl)
theorem dX5_init_45 : decode cX5_init 45 = .ok (.getfield 32, 3) := dk_180 0 32 (dk_at dksX5_init_2 0 rfl rfl)
theorem dX5_init_48 : decode cX5_init 48 = .ok (.iload_n 3, 1) := dk_29 (dk_at dksX5_init_2 3 rfl rfl)
theorem dX5_init_49 : decode cX5_init 49 = .ok (.invokestatic 35, 3) := dk_184 0 35 (dk_at dksX5_init_2 4 rfl rfl)
theorem dX5_init_52 : decode cX5_init 52 = .ok (.iload 5, 2) := dk_21 5 (dk_at dksX5_init_2 7 rfl rfl)
theorem dX5_init_54 : decode cX5_init 54 = .ok (.iload_n 3, 1) := dk_29 (dk_at dksX5_init_2 9 rfl rfl)
theorem dX5_init_55 : decode cX5_init 55 = .ok (.invokestatic 35, 3) := dk_184 0 35 (dk_at dksX5_init_2 10 rfl rfl)
theorem dX5_init_58 : decode cX5_init 58 = .ok (.iconst (-1), 1) := dk_2 (dk_at dksX5_init_2 13 rfl rfl)
theorem dX5_init_59 : decode cX5_init 59 = .ok (.ixor, 1) := dk_130 (dk_at dksX5_init_2 14 rfl rfl)
theorem dX5_init_60 : decode cX5_init 60 = .ok (.iand, 1) := dk_126 (dk_at dksX5_init_2 15 rfl rfl)
theorem dX5_init_61 : decode cX5_init 61 = .ok (.putfield 39, 3) := dk_181 0 39 (dk_at dksX5_init_2 16 rfl rfl)
theorem dX5_init_64 : decode cX5_init 64 = .ok (.aload_n 0, 1) := dk_42 (dk_at dksX5_init_2 19 rfl rfl)
theorem dX5_init_65 : decode cX5_init 65 = .ok (.aload_n 0, 1) := dk_42 (dk_at dksX5_init_2 20 rfl rfl)
theorem dX5_init_66 : decode cX5_init 66 = .ok (.getfield 32, 3) := dk_180 0 32 (dk_at dksX5_init_2 21 rfl rfl)
theorem dX5_init_69 : decode cX5_init 69 = .ok (.iload 4, 2) := dk_21 4 (dk_at dksX5_init_3 0 rfl rfl)
theorem dX5_init_71 : decode cX5_init 71 = .ok (.invokestatic 35, 3) := dk_184 0 35 (dk_at dksX5_init_3 2 rfl rfl)
theorem dX5_init_74 : decode cX5_init 74 = .ok (.iload 5, 2) := dk_21 5 (dk_at dksX5_init_3 5 rfl rfl)
theorem dX5_init_76 : decode cX5_init 76 = .ok (.iload 4, 2) := dk_21 4 (dk_at dksX5_init_3 7 rfl rfl)
theorem dX5_init_78 : decode cX5_init 78 = .ok (.invokestatic 35, 3) := dk_184 0 35 (dk_at dksX5_init_3 9 rfl rfl)
theorem dX5_init_81 : decode cX5_init 81 = .ok (.iconst (-1), 1) := dk_2 (dk_at dksX5_init_3 12 rfl rfl)
theorem dX5_init_82 : decode cX5_init 82 = .ok (.ixor, 1) := dk_130 (dk_at dksX5_init_3 13 rfl rfl)
theorem dX5_init_83 : decode cX5_init 83 = .ok (.iand, 1) := dk_126 (dk_at dksX5_init_3 14 rfl rfl)
theorem dX5_init_84 : decode cX5_init 84 = .ok (.putfield 42, 3) := dk_181 0 42 (dk_at dksX5_init_3 15 rfl rfl)
theorem dX5_init_87 : decode cX5_init 87 = .ok (.return_, 1) := dk_177 (dk_at dksX5_init_3 18 rfl rfl)
abbrev cX5_tells : ByteArray := prog_10_method_5_code
def yX5_tells : MethodName := ⟨RX5, "tells", "(I)I"⟩
def dkwX5_tells_2 : List UInt8 := [7, 160, 0, 10, 42, 180, 0, 42, 167, 0, 5, 16, 254, 172]
abbrev dktX5_tells_2 : List UInt8 := dkwX5_tells_2 ++ []
def dkwX5_tells_1 : List UInt8 := [5, 160, 0, 10, 42, 180, 0, 22, 167, 0, 29, 27, 6, 160, 0, 10, 42, 180, 0, 39, 167, 0, 17, 27]
abbrev dktX5_tells_1 : List UInt8 := dkwX5_tells_1 ++ dktX5_tells_2
def dkwX5_tells_0 : List UInt8 := [27, 154, 0, 10, 42, 182, 0, 51, 167, 0, 53, 27, 4, 160, 0, 10, 42, 180, 0, 19, 167, 0, 41, 27]
abbrev dktX5_tells_0 : List UInt8 := dkwX5_tells_0 ++ dktX5_tells_1
theorem dksX5_tells_0 : cX5_tells.data.toList.drop 0 = dktX5_tells_0 := by decide +kernel
theorem dksX5_tells_1 : cX5_tells.data.toList.drop 24 = dktX5_tells_1 := dk_seg dksX5_tells_0 24 rfl rfl
theorem dksX5_tells_2 : cX5_tells.data.toList.drop 48 = dktX5_tells_2 := dk_seg dksX5_tells_1 24 rfl rfl
theorem dX5_tells_0 : decode cX5_tells 0 = .ok (.iload_n 1, 1) := dk_27 (dk_at dksX5_tells_0 0 rfl rfl)
theorem dX5_tells_1 : decode cX5_tells 1 = .ok (.ifCond .ne 10, 3) := dk_154 0 10 (dk_at dksX5_tells_0 1 rfl rfl)
theorem dX5_tells_4 : decode cX5_tells 4 = .ok (.aload_n 0, 1) := dk_42 (dk_at dksX5_tells_0 4 rfl rfl)
theorem dX5_tells_5 : decode cX5_tells 5 = .ok (.invokevirtual 51, 3) := dk_182 0 51 (dk_at dksX5_tells_0 5 rfl rfl)
theorem dX5_tells_8 : decode cX5_tells 8 = .ok (.goto 53, 3) := dk_167 0 53 (dk_at dksX5_tells_0 8 rfl rfl)
theorem dX5_tells_11 : decode cX5_tells 11 = .ok (.iload_n 1, 1) := dk_27 (dk_at dksX5_tells_0 11 rfl rfl)
theorem dX5_tells_12 : decode cX5_tells 12 = .ok (.iconst 1, 1) := dk_4 (dk_at dksX5_tells_0 12 rfl rfl)
theorem dX5_tells_13 : decode cX5_tells 13 = .ok (.if_icmp .ne 10, 3) := dk_160 0 10 (dk_at dksX5_tells_0 13 rfl rfl)
theorem dX5_tells_16 : decode cX5_tells 16 = .ok (.aload_n 0, 1) := dk_42 (dk_at dksX5_tells_0 16 rfl rfl)
theorem dX5_tells_17 : decode cX5_tells 17 = .ok (.getfield 19, 3) := dk_180 0 19 (dk_at dksX5_tells_0 17 rfl rfl)
theorem dX5_tells_20 : decode cX5_tells 20 = .ok (.goto 41, 3) := dk_167 0 41 (dk_at dksX5_tells_0 20 rfl rfl)
theorem dX5_tells_23 : decode cX5_tells 23 = .ok (.iload_n 1, 1) := dk_27 (dk_at dksX5_tells_0 23 rfl rfl)
theorem dX5_tells_24 : decode cX5_tells 24 = .ok (.iconst 2, 1) := dk_5 (dk_at dksX5_tells_1 0 rfl rfl)
theorem dX5_tells_25 : decode cX5_tells 25 = .ok (.if_icmp .ne 10, 3) := dk_160 0 10 (dk_at dksX5_tells_1 1 rfl rfl)
theorem dX5_tells_28 : decode cX5_tells 28 = .ok (.aload_n 0, 1) := dk_42 (dk_at dksX5_tells_1 4 rfl rfl)
theorem dX5_tells_29 : decode cX5_tells 29 = .ok (.getfield 22, 3) := dk_180 0 22 (dk_at dksX5_tells_1 5 rfl rfl)
theorem dX5_tells_32 : decode cX5_tells 32 = .ok (.goto 29, 3) := dk_167 0 29 (dk_at dksX5_tells_1 8 rfl rfl)
theorem dX5_tells_35 : decode cX5_tells 35 = .ok (.iload_n 1, 1) := dk_27 (dk_at dksX5_tells_1 11 rfl rfl)
theorem dX5_tells_36 : decode cX5_tells 36 = .ok (.iconst 3, 1) := dk_6 (dk_at dksX5_tells_1 12 rfl rfl)
theorem dX5_tells_37 : decode cX5_tells 37 = .ok (.if_icmp .ne 10, 3) := dk_160 0 10 (dk_at dksX5_tells_1 13 rfl rfl)
theorem dX5_tells_40 : decode cX5_tells 40 = .ok (.aload_n 0, 1) := dk_42 (dk_at dksX5_tells_1 16 rfl rfl)
theorem dX5_tells_41 : decode cX5_tells 41 = .ok (.getfield 39, 3) := dk_180 0 39 (dk_at dksX5_tells_1 17 rfl rfl)
theorem dX5_tells_44 : decode cX5_tells 44 = .ok (.goto 17, 3) := dk_167 0 17 (dk_at dksX5_tells_1 20 rfl rfl)
theorem dX5_tells_47 : decode cX5_tells 47 = .ok (.iload_n 1, 1) := dk_27 (dk_at dksX5_tells_1 23 rfl rfl)
theorem dX5_tells_48 : decode cX5_tells 48 = .ok (.iconst 4, 1) := dk_7 (dk_at dksX5_tells_2 0 rfl rfl)
theorem dX5_tells_49 : decode cX5_tells 49 = .ok (.if_icmp .ne 10, 3) := dk_160 0 10 (dk_at dksX5_tells_2 1 rfl rfl)
theorem dX5_tells_52 : decode cX5_tells 52 = .ok (.aload_n 0, 1) := dk_42 (dk_at dksX5_tells_2 4 rfl rfl)
theorem dX5_tells_53 : decode cX5_tells 53 = .ok (.getfield 42, 3) := dk_180 0 42 (dk_at dksX5_tells_2 5 rfl rfl)
theorem dX5_tells_56 : decode cX5_tells 56 = .ok (.goto 5, 3) := dk_167 0 5 (dk_at dksX5_tells_2 8 rfl rfl)
theorem dX5_tells_59 : decode cX5_tells 59 = .ok (.bipush (-2), 2) := dk_16 254 (dk_at dksX5_tells_2 11 rfl rfl)
theorem dX5_tells_61 : decode cX5_tells 61 = .ok (.ireturn, 1) := dk_172 (dk_at dksX5_tells_2 13 rfl rfl)
abbrev cX5_kind : ByteArray := prog_10_method_3_code
def yX5_kind : MethodName := ⟨RX5, "kind", "()I"⟩
theorem dX5_kind_0 : decode cX5_kind 0 = .ok (.iconst 0, 1) := by decide +kernel
theorem dX5_kind_1 : decode cX5_kind 1 = .ok (.ireturn, 1) := by decide +kernel
abbrev cX5_tracedBy : ByteArray := prog_10_method_6_code
def yX5_tracedBy : MethodName := ⟨RX5, "tracedBy", "(I)I"⟩
def dkwX5_tracedBy_0 : List UInt8 := [42, 180, 0, 3, 16, 31, 42, 180, 0, 3, 180, 0, 55, 104, 27, 96, 181, 0, 55, 3, 172]
abbrev dktX5_tracedBy_0 : List UInt8 := dkwX5_tracedBy_0 ++ []
theorem dksX5_tracedBy_0 : cX5_tracedBy.data.toList.drop 0 = dktX5_tracedBy_0 := by decide +kernel
theorem dX5_tracedBy_0 : decode cX5_tracedBy 0 = .ok (.aload_n 0, 1) := dk_42 (dk_at dksX5_tracedBy_0 0 rfl rfl)
theorem dX5_tracedBy_1 : decode cX5_tracedBy 1 = .ok (.getfield 3, 3) := dk_180 0 3 (dk_at dksX5_tracedBy_0 1 rfl rfl)
theorem dX5_tracedBy_4 : decode cX5_tracedBy 4 = .ok (.bipush 31, 2) := dk_16 31 (dk_at dksX5_tracedBy_0 4 rfl rfl)
theorem dX5_tracedBy_6 : decode cX5_tracedBy 6 = .ok (.aload_n 0, 1) := dk_42 (dk_at dksX5_tracedBy_0 6 rfl rfl)
theorem dX5_tracedBy_7 : decode cX5_tracedBy 7 = .ok (.getfield 3, 3) := dk_180 0 3 (dk_at dksX5_tracedBy_0 7 rfl rfl)
theorem dX5_tracedBy_10 : decode cX5_tracedBy 10 = .ok (.getfield 55, 3) := dk_180 0 55 (dk_at dksX5_tracedBy_0 10 rfl rfl)
theorem dX5_tracedBy_13 : decode cX5_tracedBy 13 = .ok (.imul, 1) := dk_104 (dk_at dksX5_tracedBy_0 13 rfl rfl)
theorem dX5_tracedBy_14 : decode cX5_tracedBy 14 = .ok (.iload_n 1, 1) := dk_27 (dk_at dksX5_tracedBy_0 14 rfl rfl)
theorem dX5_tracedBy_15 : decode cX5_tracedBy 15 = .ok (.iadd, 1) := dk_96 (dk_at dksX5_tracedBy_0 15 rfl rfl)
theorem dX5_tracedBy_16 : decode cX5_tracedBy 16 = .ok (.putfield 55, 3) := dk_181 0 55 (dk_at dksX5_tracedBy_0 16 rfl rfl)
theorem dX5_tracedBy_19 : decode cX5_tracedBy 19 = .ok (.iconst 0, 1) := dk_3 (dk_at dksX5_tracedBy_0 19 rfl rfl)
theorem dX5_tracedBy_20 : decode cX5_tracedBy 20 = .ok (.ireturn, 1) := dk_172 (dk_at dksX5_tracedBy_0 20 rfl rfl)
abbrev cX5_learnt : ByteArray := prog_10_method_4_code
def yX5_learnt : MethodName := ⟨RX5, "learnt", "()I"⟩
def dkwX5_learnt_0 : List UInt8 := [42, 180, 0, 39, 184, 0, 45, 42, 180, 0, 42, 184, 0, 45, 96, 172]
abbrev dktX5_learnt_0 : List UInt8 := dkwX5_learnt_0 ++ []
theorem dksX5_learnt_0 : cX5_learnt.data.toList.drop 0 = dktX5_learnt_0 := by decide +kernel
theorem dX5_learnt_0 : decode cX5_learnt 0 = .ok (.aload_n 0, 1) := dk_42 (dk_at dksX5_learnt_0 0 rfl rfl)
theorem dX5_learnt_1 : decode cX5_learnt 1 = .ok (.getfield 39, 3) := dk_180 0 39 (dk_at dksX5_learnt_0 1 rfl rfl)
theorem dX5_learnt_4 : decode cX5_learnt 4 = .ok (.invokestatic 45, 3) := dk_184 0 45 (dk_at dksX5_learnt_0 4 rfl rfl)
theorem dX5_learnt_7 : decode cX5_learnt 7 = .ok (.aload_n 0, 1) := dk_42 (dk_at dksX5_learnt_0 7 rfl rfl)
theorem dX5_learnt_8 : decode cX5_learnt 8 = .ok (.getfield 42, 3) := dk_180 0 42 (dk_at dksX5_learnt_0 8 rfl rfl)
theorem dX5_learnt_11 : decode cX5_learnt 11 = .ok (.invokestatic 45, 3) := dk_184 0 45 (dk_at dksX5_learnt_0 11 rfl rfl)
theorem dX5_learnt_14 : decode cX5_learnt 14 = .ok (.iadd, 1) := dk_96 (dk_at dksX5_learnt_0 14 rfl rfl)
theorem dX5_learnt_15 : decode cX5_learnt 15 = .ok (.ireturn, 1) := dk_172 (dk_at dksX5_learnt_0 15 rfl rfl)
abbrev cX5_said : ByteArray := prog_10_method_7_code
def yX5_said : MethodName := ⟨RX5, "said", "()I"⟩
def dkwX5_said_0 : List UInt8 := [42, 4, 182, 0, 58, 16, 10, 42, 180, 0, 19, 104, 96, 42, 180, 0, 22, 96, 172]
abbrev dktX5_said_0 : List UInt8 := dkwX5_said_0 ++ []
theorem dksX5_said_0 : cX5_said.data.toList.drop 0 = dktX5_said_0 := by decide +kernel
theorem dX5_said_0 : decode cX5_said 0 = .ok (.aload_n 0, 1) := dk_42 (dk_at dksX5_said_0 0 rfl rfl)
theorem dX5_said_1 : decode cX5_said 1 = .ok (.iconst 1, 1) := dk_4 (dk_at dksX5_said_0 1 rfl rfl)
theorem dX5_said_2 : decode cX5_said 2 = .ok (.invokevirtual 58, 3) := dk_182 0 58 (dk_at dksX5_said_0 2 rfl rfl)
theorem dX5_said_5 : decode cX5_said 5 = .ok (.bipush 10, 2) := dk_16 10 (dk_at dksX5_said_0 5 rfl rfl)
theorem dX5_said_7 : decode cX5_said 7 = .ok (.aload_n 0, 1) := dk_42 (dk_at dksX5_said_0 7 rfl rfl)
theorem dX5_said_8 : decode cX5_said 8 = .ok (.getfield 19, 3) := dk_180 0 19 (dk_at dksX5_said_0 8 rfl rfl)
theorem dX5_said_11 : decode cX5_said 11 = .ok (.imul, 1) := dk_104 (dk_at dksX5_said_0 11 rfl rfl)
theorem dX5_said_12 : decode cX5_said 12 = .ok (.iadd, 1) := dk_96 (dk_at dksX5_said_0 12 rfl rfl)
theorem dX5_said_13 : decode cX5_said 13 = .ok (.aload_n 0, 1) := dk_42 (dk_at dksX5_said_0 13 rfl rfl)
theorem dX5_said_14 : decode cX5_said 14 = .ok (.getfield 22, 3) := dk_180 0 22 (dk_at dksX5_said_0 14 rfl rfl)
theorem dX5_said_17 : decode cX5_said 17 = .ok (.iadd, 1) := dk_96 (dk_at dksX5_said_0 17 rfl rfl)
theorem dX5_said_18 : decode cX5_said 18 = .ok (.ireturn, 1) := dk_172 (dk_at dksX5_said_0 18 rfl rfl)
abbrev cX5_number : ByteArray := prog_10_method_2_code
def yX5_number : MethodName := ⟨RX5, "number", "()I"⟩
theorem dX5_number_0 : decode cX5_number 0 = .ok (.aload_n 0, 1) := by decide +kernel
theorem dX5_number_1 : decode cX5_number 1 = .ok (.getfield 15, 3) := by decide +kernel
theorem dX5_number_4 : decode cX5_number 4 = .ok (.ireturn, 1) := by decide +kernel
theorem q82 : (Jvm.Cond.initialized "CallRounds$Ring") ∈ lw_all := lw_g (lw_at lw_m1 23 rfl) rfl
theorem q137 : (Jvm.Cond.fieldLinkNest "CallRounds$Ring" (55 : Nat) "CallRounds" "trace" "I" "CallRounds") ∈ lw_tbl := lw_at lw_m1 78 rfl
theorem q259 : (Jvm.Cond.instantiable "CallRounds$Ring" (8 : Nat)) ∈ lw_all := lw_g (lw_at lw_m1 200 rfl) rfl
theorem q261 : (Jvm.Cond.instanceMethod ({ cls := "CallRounds$Ring", name := "<init>", desc := "(LCallRounds;IIIII)V" } : Jvm.MethodName)) ∈ lw_all := lw_g (lw_at lw_m1 202 rfl) rfl
theorem q262 : (Jvm.Cond.code ({ cls := "CallRounds$Ring", name := "<init>", desc := "(LCallRounds;IIIII)V" } : Jvm.MethodName) prog_10_method_1_code (7 : Nat) (Option.none : Option Jvm.ClassFile.FieldType)) ∈ lw_all := lw_g (lw_at lw_m1 203 rfl) rfl
theorem q263 : (Jvm.Cond.methodLink "CallRounds$Ring" (9 : Nat) ({ cls := "java/lang/Object", name := "<init>", desc := "()V" } : Jvm.MethodName)) ∈ lw_all := lw_g (lw_at lw_m1 204 rfl) rfl
theorem q264 : (Jvm.Cond.methodLinkNest "CallRounds$Ring" (28 : Nat) ({ cls := "CallRounds", name := "behind", desc := "(III)I" } : Jvm.MethodName) "CallRounds") ∈ lw_tbl := lw_at lw_m1 205 rfl
theorem q267 : (Jvm.Cond.methodLinkNest "CallRounds$Ring" (35 : Nat) ({ cls := "CallRounds", name := "hasOf", desc := "(II)I" } : Jvm.MethodName) "CallRounds") ∈ lw_tbl := lw_at lw_m1 208 rfl
theorem q268 : (Jvm.Cond.fieldLink "CallRounds$Ring" (15 : Nat) "CallRounds$Ring" "number" "I") ∈ lw_all := lw_g (lw_at lw_m1 209 rfl) rfl
theorem q274 : (Jvm.Cond.fieldLink "CallRounds$Ring" (19 : Nat) "CallRounds$Ring" "from" "I") ∈ lw_all := lw_g (lw_at lw_m1 215 rfl) rfl
theorem q276 : (Jvm.Cond.fieldLink "CallRounds$Ring" (22 : Nat) "CallRounds$Ring" "to" "I") ∈ lw_all := lw_g (lw_at lw_m1 217 rfl) rfl
theorem q278 : (Jvm.Cond.fieldLink "CallRounds$Ring" (32 : Nat) "CallRounds$Ring" "secrets" "I") ∈ lw_all := lw_g (lw_at lw_m1 219 rfl) rfl
theorem q280 : (Jvm.Cond.fieldLink "CallRounds$Ring" (25 : Nat) "CallRounds$Ring" "tokens" "I") ∈ lw_all := lw_g (lw_at lw_m1 221 rfl) rfl
theorem q282 : (Jvm.Cond.fieldLink "CallRounds$Ring" (39 : Nat) "CallRounds$Ring" "learntFrom" "I") ∈ lw_all := lw_g (lw_at lw_m1 223 rfl) rfl
theorem q283 : (Jvm.Cond.fieldLink "CallRounds$Ring" (42 : Nat) "CallRounds$Ring" "learntTo" "I") ∈ lw_all := lw_g (lw_at lw_m1 224 rfl) rfl
theorem q284 : (Jvm.Cond.fieldLink "CallRounds$Ring" (3 : Nat) "CallRounds$Ring" "this$0" "LCallRounds;") ∈ lw_all := lw_g (lw_at lw_m1 225 rfl) rfl
theorem q285 : (Jvm.Cond.laysFinal "CallRounds$Ring" "CallRounds$Ring" "number" "I") ∈ lw_all := lw_g (lw_at lw_m1 226 rfl) rfl
theorem q286 : (Jvm.Cond.soleField "CallRounds$Ring" "number") ∈ lw_all := lw_g (lw_at lw_m1 227 rfl) rfl
theorem q287 : (Jvm.Cond.laysFinal "CallRounds$Ring" "CallRounds$Ring" "from" "I") ∈ lw_all := lw_g (lw_at lw_m1 228 rfl) rfl
theorem q288 : (Jvm.Cond.soleField "CallRounds$Ring" "from") ∈ lw_all := lw_g (lw_at lw_m1 229 rfl) rfl
theorem q289 : (Jvm.Cond.laysFinal "CallRounds$Ring" "CallRounds$Ring" "to" "I") ∈ lw_all := lw_g (lw_at lw_m1 230 rfl) rfl
theorem q290 : (Jvm.Cond.soleField "CallRounds$Ring" "to") ∈ lw_all := lw_g (lw_at lw_m1 231 rfl) rfl
theorem q291 : (Jvm.Cond.laysFinal "CallRounds$Ring" "CallRounds$Ring" "secrets" "I") ∈ lw_all := lw_g (lw_at lw_m1 232 rfl) rfl
theorem q292 : (Jvm.Cond.soleField "CallRounds$Ring" "secrets") ∈ lw_all := lw_g (lw_at lw_m1 233 rfl) rfl
theorem q293 : (Jvm.Cond.laysFinal "CallRounds$Ring" "CallRounds$Ring" "tokens" "I") ∈ lw_all := lw_g (lw_at lw_m1 234 rfl) rfl
theorem q294 : (Jvm.Cond.soleField "CallRounds$Ring" "tokens") ∈ lw_all := lw_g (lw_at lw_m1 235 rfl) rfl
theorem q295 : (Jvm.Cond.laysFinal "CallRounds$Ring" "CallRounds$Ring" "learntFrom" "I") ∈ lw_all := lw_g (lw_at lw_m1 236 rfl) rfl
theorem q296 : (Jvm.Cond.soleField "CallRounds$Ring" "learntFrom") ∈ lw_all := lw_g (lw_at lw_m1 237 rfl) rfl
theorem q297 : (Jvm.Cond.laysFinal "CallRounds$Ring" "CallRounds$Ring" "learntTo" "I") ∈ lw_all := lw_g (lw_at lw_m1 238 rfl) rfl
theorem q298 : (Jvm.Cond.soleField "CallRounds$Ring" "learntTo") ∈ lw_all := lw_g (lw_at lw_m1 239 rfl) rfl
theorem q299 : (Jvm.Cond.laysFinal "CallRounds$Ring" "CallRounds$Ring" "this$0" "LCallRounds;") ∈ lw_all := lw_g (lw_at lw_m2 0 rfl) rfl
theorem q300 : (Jvm.Cond.soleField "CallRounds$Ring" "this$0") ∈ lw_all := lw_g (lw_at lw_m2 1 rfl) rfl
theorem q301 : (Jvm.Cond.superclass "CallRounds$Ring" "java/lang/Object") ∈ lw_all := lw_g (lw_at lw_m2 2 rfl) rfl
theorem q387 : (Jvm.Cond.selects "CallRounds$Ring" ({ cls := "java/lang/Object", name := "getClass", desc := "()Ljava/lang/Class;" } : Jvm.MethodName) ({ cls := "java/lang/Object", name := "getClass", desc := "()Ljava/lang/Class;" } : Jvm.MethodName)) ∈ lw_all := lw_g (lw_at lw_m2 88 rfl) rfl
theorem q419 : (Jvm.Cond.instanceMethod ({ cls := "CallRounds$Ring", name := "tells", desc := "(I)I" } : Jvm.MethodName)) ∈ lw_all := lw_g (lw_at lw_m2 120 rfl) rfl
theorem q420 : (Jvm.Cond.selects "CallRounds$Ring" ({ cls := "CallRounds$Ring", name := "tells", desc := "(I)I" } : Jvm.MethodName) ({ cls := "CallRounds$Ring", name := "tells", desc := "(I)I" } : Jvm.MethodName)) ∈ lw_all := lw_g (lw_at lw_m2 121 rfl) rfl
theorem q421 : (Jvm.Cond.sameMethod "CallRounds$Ring" "CallRounds$Ring" "tells" "(I)I") ∈ lw_all := lw_g (lw_at lw_m2 122 rfl) rfl
theorem q424 : (Jvm.Cond.code ({ cls := "CallRounds$Ring", name := "tells", desc := "(I)I" } : Jvm.MethodName) prog_10_method_5_code (2 : Nat) (Option.some Jvm.ClassFile.FieldType.int)) ∈ lw_all := lw_g (lw_at lw_m2 125 rfl) rfl
theorem q425 : (Jvm.Cond.methodLink "CallRounds$Ring" (51 : Nat) ({ cls := "CallRounds$Ring", name := "kind", desc := "()I" } : Jvm.MethodName)) ∈ lw_all := lw_g (lw_at lw_m2 126 rfl) rfl
theorem q426 : (Jvm.Cond.instanceMethod ({ cls := "CallRounds$Ring", name := "kind", desc := "()I" } : Jvm.MethodName)) ∈ lw_all := lw_g (lw_at lw_m2 127 rfl) rfl
theorem q427 : (Jvm.Cond.selects "CallRounds$Ring" ({ cls := "CallRounds$Ring", name := "kind", desc := "()I" } : Jvm.MethodName) ({ cls := "CallRounds$Ring", name := "kind", desc := "()I" } : Jvm.MethodName)) ∈ lw_all := lw_g (lw_at lw_m2 128 rfl) rfl
theorem q428 : (Jvm.Cond.sameMethod "CallRounds$Ring" "CallRounds$Ring" "kind" "()I") ∈ lw_all := lw_g (lw_at lw_m2 129 rfl) rfl
theorem q435 : (Jvm.Cond.code ({ cls := "CallRounds$Ring", name := "kind", desc := "()I" } : Jvm.MethodName) prog_10_method_3_code (1 : Nat) (Option.some Jvm.ClassFile.FieldType.int)) ∈ lw_all := lw_g (lw_at lw_m2 136 rfl) rfl
theorem q1046 : (Jvm.Cond.instanceMethod ({ cls := "CallRounds$Ring", name := "said", desc := "()I" } : Jvm.MethodName)) ∈ lw_all := lw_g (lw_at lw_m5 27 rfl) rfl
theorem q1047 : (Jvm.Cond.selects "CallRounds$Ring" ({ cls := "CallRounds$Ring", name := "said", desc := "()I" } : Jvm.MethodName) ({ cls := "CallRounds$Ring", name := "said", desc := "()I" } : Jvm.MethodName)) ∈ lw_all := lw_g (lw_at lw_m5 28 rfl) rfl
theorem q1048 : (Jvm.Cond.sameMethod "CallRounds$Ring" "CallRounds$Ring" "said" "()I") ∈ lw_all := lw_g (lw_at lw_m5 29 rfl) rfl
theorem q1054 : (Jvm.Cond.declares ({ cls := "CallRounds$Ring", name := "tracedBy", desc := "(I)I" } : Jvm.MethodName)) ∈ lw_tbl := lw_at lw_m5 35 rfl
theorem q1057 : (Jvm.Cond.instanceMethod ({ cls := "CallRounds$Ring", name := "tracedBy", desc := "(I)I" } : Jvm.MethodName)) ∈ lw_all := lw_g (lw_at lw_m5 38 rfl) rfl
theorem q1058 : (Jvm.Cond.code ({ cls := "CallRounds$Ring", name := "tracedBy", desc := "(I)I" } : Jvm.MethodName) prog_10_method_6_code (2 : Nat) (Option.some Jvm.ClassFile.FieldType.int)) ∈ lw_all := lw_g (lw_at lw_m5 39 rfl) rfl
theorem q1062 : (Jvm.Cond.declares ({ cls := "CallRounds$Ring", name := "learnt", desc := "()I" } : Jvm.MethodName)) ∈ lw_tbl := lw_at lw_m5 43 rfl
theorem q1065 : (Jvm.Cond.instanceMethod ({ cls := "CallRounds$Ring", name := "learnt", desc := "()I" } : Jvm.MethodName)) ∈ lw_all := lw_g (lw_at lw_m5 46 rfl) rfl
theorem q1066 : (Jvm.Cond.code ({ cls := "CallRounds$Ring", name := "learnt", desc := "()I" } : Jvm.MethodName) prog_10_method_4_code (1 : Nat) (Option.some Jvm.ClassFile.FieldType.int)) ∈ lw_all := lw_g (lw_at lw_m5 47 rfl) rfl
theorem q1067 : (Jvm.Cond.methodLink "CallRounds$Ring" (45 : Nat) ({ cls := "java/lang/Integer", name := "bitCount", desc := "(I)I" } : Jvm.MethodName)) ∈ lw_all := lw_g (lw_at lw_m5 48 rfl) rfl
theorem q1086 : (Jvm.Cond.code ({ cls := "CallRounds$Ring", name := "said", desc := "()I" } : Jvm.MethodName) prog_10_method_7_code (1 : Nat) (Option.some Jvm.ClassFile.FieldType.int)) ∈ lw_all := lw_g (lw_at lw_m5 67 rfl) rfl
theorem q1087 : (Jvm.Cond.methodLink "CallRounds$Ring" (58 : Nat) ({ cls := "CallRounds$Ring", name := "tracedBy", desc := "(I)I" } : Jvm.MethodName)) ∈ lw_all := lw_g (lw_at lw_m5 68 rfl) rfl
theorem q1108 : (Jvm.Cond.publicMethod ({ cls := "CallRounds$Ring", name := "tracedBy", desc := "(I)I" } : Jvm.MethodName)) ∈ lw_tbl := lw_at lw_m5 89 rfl
theorem q1109 : (Jvm.Cond.castable "CallRounds$Ring" "CallRounds$Logged") ∈ lw_tbl := lw_at lw_m5 90 rfl
theorem q1110 : (Jvm.Cond.selects "CallRounds$Ring" ({ cls := "CallRounds$Logged", name := "tracedBy", desc := "(I)I" } : Jvm.MethodName) ({ cls := "CallRounds$Ring", name := "tracedBy", desc := "(I)I" } : Jvm.MethodName)) ∈ lw_all := lw_g (lw_at lw_m5 91 rfl) rfl
theorem q1111 : (Jvm.Cond.unhidden "CallRounds$Ring" "tracedBy" "(I)I") ∈ lw_tbl := lw_at lw_m5 92 rfl
theorem q1121 : (Jvm.Cond.instanceMethod ({ cls := "CallRounds$Ring", name := "number", desc := "()I" } : Jvm.MethodName)) ∈ lw_all := lw_g (lw_at lw_m5 102 rfl) rfl
theorem q1122 : (Jvm.Cond.publicMethod ({ cls := "CallRounds$Ring", name := "number", desc := "()I" } : Jvm.MethodName)) ∈ lw_tbl := lw_at lw_m5 103 rfl
theorem q1123 : (Jvm.Cond.code ({ cls := "CallRounds$Ring", name := "number", desc := "()I" } : Jvm.MethodName) prog_10_method_2_code (1 : Nat) (Option.some Jvm.ClassFile.FieldType.int)) ∈ lw_all := lw_g (lw_at lw_m5 104 rfl) rfl
theorem q1124 : (Jvm.Cond.selects "CallRounds$Ring" ({ cls := "CallRounds$Logged", name := "number", desc := "()I" } : Jvm.MethodName) ({ cls := "CallRounds$Ring", name := "number", desc := "()I" } : Jvm.MethodName)) ∈ lw_all := lw_g (lw_at lw_m5 105 rfl) rfl
theorem q1125 : (Jvm.Cond.unhidden "CallRounds$Ring" "number" "()I") ∈ lw_tbl := lw_at lw_m5 106 rfl
theorem q1128 : (Jvm.Cond.unhidden "CallRounds$Ring" "logged" "()I") ∈ lw_tbl := lw_at lw_m5 109 rfl
theorem q1541 : (Jvm.Cond.sameMethod "CallRounds$Ring" "CallRounds$Ring" "tracedBy" "(I)I") ∈ lw_all := lw_g (lw_at lw_m7 42 rfl) rfl
theorem q1543 : (Jvm.Cond.selects "CallRounds$Ring" ({ cls := "CallRounds$Ring", name := "tracedBy", desc := "(I)I" } : Jvm.MethodName) ({ cls := "CallRounds$Ring", name := "tracedBy", desc := "(I)I" } : Jvm.MethodName)) ∈ lw_all := lw_g (lw_at lw_m7 44 rfl) rfl
theorem q1561 : (Jvm.Cond.castable "CallRounds$Ring" "java/lang/Object") ∈ lw_tbl := lw_at lw_m7 62 rfl
theorem in_X5 : ∀ w ∈ wsX50, w ∈ lw_all := lw_in wsX50 [285, 287, 289, 291, 293, 295, 297, 299] (by decide +kernel) (by decide +kernel)
/-! CallRounds$News -/
set_option maxRecDepth 100000
def RX6 : String := "CallRounds$News"
def TX6 : u_T := fun k => match k with
  | 0 => ("CallRounds$Ring", "number", "I", true)
  | 1 => ("CallRounds$Ring", "from", "I", true)
  | 2 => ("CallRounds$Ring", "to", "I", true)
  | 3 => ("CallRounds$Ring", "secrets", "I", true)
  | 4 => ("CallRounds$Ring", "tokens", "I", true)
  | 5 => ("CallRounds$Ring", "learntFrom", "I", true)
  | 6 => ("CallRounds$Ring", "learntTo", "I", true)
  | 7 => ("CallRounds$Ring", "this$0", "LCallRounds;", true)
  | _ => ("CallRounds$News", "this$0", "LCallRounds;", true)
def tyX6 : Nat → FieldType := fun k => match k with
  | 0 => .int
  | 1 => .int
  | 2 => .int
  | 3 => .int
  | 4 => .int
  | 5 => .int
  | 6 => .int
  | 7 => .object "CallRounds"
  | _ => .object "CallRounds"
abbrev wsX60 : List Cond := u_ws RX6 TX6 9
-- two fields of one name: no nmX6
theorem tyX6_ok : ∀ k, k < 9 → parseFieldDescriptor (TX6 k).2.2.1 = some (tyX6 k) := by decide +kernel
abbrev cX6_init : ByteArray := prog_7_method_1_code
def yX6_init : MethodName := ⟨RX6, "<init>", "(LCallRounds;IIIII)V"⟩
def dkwX6_init_0 : List UInt8 := [42, 43, 181, 0, 1, 42, 43, 28, 29, 21, 4, 21, 5, 21, 6, 183, 0, 7, 177]
abbrev dktX6_init_0 : List UInt8 := dkwX6_init_0 ++ []
theorem dksX6_init_0 : cX6_init.data.toList.drop 0 = dktX6_init_0 := by decide +kernel
theorem dX6_init_0 : decode cX6_init 0 = .ok (.aload_n 0, 1) := dk_42 (dk_at dksX6_init_0 0 rfl rfl)
theorem dX6_init_1 : decode cX6_init 1 = .ok (.aload_n 1, 1) := dk_43 (dk_at dksX6_init_0 1 rfl rfl)
theorem dX6_init_2 : decode cX6_init 2 = .ok (.putfield 1, 3) := dk_181 0 1 (dk_at dksX6_init_0 2 rfl rfl)
theorem dX6_init_5 : decode cX6_init 5 = .ok (.aload_n 0, 1) := dk_42 (dk_at dksX6_init_0 5 rfl rfl)
theorem dX6_init_6 : decode cX6_init 6 = .ok (.aload_n 1, 1) := dk_43 (dk_at dksX6_init_0 6 rfl rfl)
theorem dX6_init_7 : decode cX6_init 7 = .ok (.iload_n 2, 1) := dk_28 (dk_at dksX6_init_0 7 rfl rfl)
theorem dX6_init_8 : decode cX6_init 8 = .ok (.iload_n 3, 1) := dk_29 (dk_at dksX6_init_0 8 rfl rfl)
theorem dX6_init_9 : decode cX6_init 9 = .ok (.iload 4, 2) := dk_21 4 (dk_at dksX6_init_0 9 rfl rfl)
theorem dX6_init_11 : decode cX6_init 11 = .ok (.iload 5, 2) := dk_21 5 (dk_at dksX6_init_0 11 rfl rfl)
theorem dX6_init_13 : decode cX6_init 13 = .ok (.iload 6, 2) := dk_21 6 (dk_at dksX6_init_0 13 rfl rfl)
theorem dX6_init_15 : decode cX6_init 15 = .ok (.invokespecial 7, 3) := dk_183 0 7 (dk_at dksX6_init_0 15 rfl rfl)
theorem dX6_init_18 : decode cX6_init 18 = .ok (.return_, 1) := dk_177 (dk_at dksX6_init_0 18 rfl rfl)
abbrev cX6_kind : ByteArray := prog_7_method_2_code
def yX6_kind : MethodName := ⟨RX6, "kind", "()I"⟩
theorem dX6_kind_0 : decode cX6_kind 0 = .ok (.iconst 1, 1) := by decide +kernel
theorem dX6_kind_1 : decode cX6_kind 1 = .ok (.ireturn, 1) := by decide +kernel
abbrev cX6_said : ByteArray := prog_7_method_3_code
def yX6_said : MethodName := ⟨RX6, "said", "()I"⟩
def dkwX6_said_0 : List UInt8 := [42, 5, 182, 0, 13, 42, 183, 0, 17, 96, 16, 100, 42, 182, 0, 21, 104, 96, 172]
abbrev dktX6_said_0 : List UInt8 := dkwX6_said_0 ++ []
theorem dksX6_said_0 : cX6_said.data.toList.drop 0 = dktX6_said_0 := by decide +kernel
theorem dX6_said_0 : decode cX6_said 0 = .ok (.aload_n 0, 1) := dk_42 (dk_at dksX6_said_0 0 rfl rfl)
theorem dX6_said_1 : decode cX6_said 1 = .ok (.iconst 2, 1) := dk_5 (dk_at dksX6_said_0 1 rfl rfl)
theorem dX6_said_2 : decode cX6_said 2 = .ok (.invokevirtual 13, 3) := dk_182 0 13 (dk_at dksX6_said_0 2 rfl rfl)
theorem dX6_said_5 : decode cX6_said 5 = .ok (.aload_n 0, 1) := dk_42 (dk_at dksX6_said_0 5 rfl rfl)
theorem dX6_said_6 : decode cX6_said 6 = .ok (.invokespecial 17, 3) := dk_183 0 17 (dk_at dksX6_said_0 6 rfl rfl)
theorem dX6_said_9 : decode cX6_said 9 = .ok (.iadd, 1) := dk_96 (dk_at dksX6_said_0 9 rfl rfl)
theorem dX6_said_10 : decode cX6_said 10 = .ok (.bipush 100, 2) := dk_16 100 (dk_at dksX6_said_0 10 rfl rfl)
theorem dX6_said_12 : decode cX6_said 12 = .ok (.aload_n 0, 1) := dk_42 (dk_at dksX6_said_0 12 rfl rfl)
theorem dX6_said_13 : decode cX6_said 13 = .ok (.invokevirtual 21, 3) := dk_182 0 21 (dk_at dksX6_said_0 13 rfl rfl)
theorem dX6_said_16 : decode cX6_said 16 = .ok (.imul, 1) := dk_104 (dk_at dksX6_said_0 16 rfl rfl)
theorem dX6_said_17 : decode cX6_said 17 = .ok (.iadd, 1) := dk_96 (dk_at dksX6_said_0 17 rfl rfl)
theorem dX6_said_18 : decode cX6_said 18 = .ok (.ireturn, 1) := dk_172 (dk_at dksX6_said_0 18 rfl rfl)
abbrev cX6_plainly : ByteArray := prog_7_method_4_code
def yX6_plainly : MethodName := ⟨RX6, "plainly", "()I"⟩
theorem dX6_plainly_0 : decode cX6_plainly 0 = .ok (.aload_n 0, 1) := by decide +kernel
theorem dX6_plainly_1 : decode cX6_plainly 1 = .ok (.invokespecial 17, 3) := by decide +kernel
theorem dX6_plainly_4 : decode cX6_plainly 4 = .ok (.ireturn, 1) := by decide +kernel
theorem q83 : (Jvm.Cond.initialized "CallRounds$News") ∈ lw_all := lw_g (lw_at lw_m1 24 rfl) rfl
theorem q271 : (Jvm.Cond.sameField "CallRounds$News" "CallRounds$Ring" "number" "I") ∈ lw_all := lw_g (lw_at lw_m1 212 rfl) rfl
theorem q312 : (Jvm.Cond.instanceMethod ({ cls := "CallRounds$News", name := "<init>", desc := "(LCallRounds;IIIII)V" } : Jvm.MethodName)) ∈ lw_all := lw_g (lw_at lw_m2 13 rfl) rfl
theorem q313 : (Jvm.Cond.code ({ cls := "CallRounds$News", name := "<init>", desc := "(LCallRounds;IIIII)V" } : Jvm.MethodName) prog_7_method_1_code (7 : Nat) (Option.none : Option Jvm.ClassFile.FieldType)) ∈ lw_all := lw_g (lw_at lw_m2 14 rfl) rfl
theorem q314 : (Jvm.Cond.methodLink "CallRounds$News" (7 : Nat) ({ cls := "CallRounds$Ring", name := "<init>", desc := "(LCallRounds;IIIII)V" } : Jvm.MethodName)) ∈ lw_all := lw_g (lw_at lw_m2 15 rfl) rfl
theorem q316 : (Jvm.Cond.fieldLink "CallRounds$News" (1 : Nat) "CallRounds$News" "this$0" "LCallRounds;") ∈ lw_all := lw_g (lw_at lw_m2 17 rfl) rfl
theorem q320 : (Jvm.Cond.soleField "CallRounds$News" "this$0") ∈ lw_all := lw_g (lw_at lw_m2 21 rfl) rfl
theorem q331 : (Jvm.Cond.instantiable "CallRounds$News" (9 : Nat)) ∈ lw_all := lw_g (lw_at lw_m2 32 rfl) rfl
theorem q333 : (Jvm.Cond.laysFinal "CallRounds$News" "CallRounds$News" "this$0" "LCallRounds;") ∈ lw_all := lw_g (lw_at lw_m2 34 rfl) rfl
theorem q334 : (Jvm.Cond.laysFinal "CallRounds$News" "CallRounds$Ring" "number" "I") ∈ lw_all := lw_g (lw_at lw_m2 35 rfl) rfl
theorem q335 : (Jvm.Cond.laysFinal "CallRounds$News" "CallRounds$Ring" "from" "I") ∈ lw_all := lw_g (lw_at lw_m2 36 rfl) rfl
theorem q336 : (Jvm.Cond.laysFinal "CallRounds$News" "CallRounds$Ring" "to" "I") ∈ lw_all := lw_g (lw_at lw_m2 37 rfl) rfl
theorem q337 : (Jvm.Cond.laysFinal "CallRounds$News" "CallRounds$Ring" "secrets" "I") ∈ lw_all := lw_g (lw_at lw_m2 38 rfl) rfl
theorem q338 : (Jvm.Cond.laysFinal "CallRounds$News" "CallRounds$Ring" "tokens" "I") ∈ lw_all := lw_g (lw_at lw_m2 39 rfl) rfl
theorem q339 : (Jvm.Cond.laysFinal "CallRounds$News" "CallRounds$Ring" "learntFrom" "I") ∈ lw_all := lw_g (lw_at lw_m2 40 rfl) rfl
theorem q340 : (Jvm.Cond.laysFinal "CallRounds$News" "CallRounds$Ring" "learntTo" "I") ∈ lw_all := lw_g (lw_at lw_m2 41 rfl) rfl
theorem q341 : (Jvm.Cond.laysFinal "CallRounds$News" "CallRounds$Ring" "this$0" "LCallRounds;") ∈ lw_all := lw_g (lw_at lw_m2 42 rfl) rfl
theorem q342 : (Jvm.Cond.superclass "CallRounds$News" "CallRounds$Ring") ∈ lw_all := lw_g (lw_at lw_m2 43 rfl) rfl
theorem q384 : (Jvm.Cond.selects "CallRounds$News" ({ cls := "java/lang/Object", name := "getClass", desc := "()Ljava/lang/Class;" } : Jvm.MethodName) ({ cls := "java/lang/Object", name := "getClass", desc := "()Ljava/lang/Class;" } : Jvm.MethodName)) ∈ lw_all := lw_g (lw_at lw_m2 85 rfl) rfl
theorem q422 : (Jvm.Cond.selects "CallRounds$News" ({ cls := "CallRounds$Ring", name := "tells", desc := "(I)I" } : Jvm.MethodName) ({ cls := "CallRounds$Ring", name := "tells", desc := "(I)I" } : Jvm.MethodName)) ∈ lw_all := lw_g (lw_at lw_m2 123 rfl) rfl
theorem q429 : (Jvm.Cond.selects "CallRounds$News" ({ cls := "CallRounds$Ring", name := "kind", desc := "()I" } : Jvm.MethodName) ({ cls := "CallRounds$News", name := "kind", desc := "()I" } : Jvm.MethodName)) ∈ lw_all := lw_g (lw_at lw_m2 130 rfl) rfl
theorem q430 : (Jvm.Cond.instanceMethod ({ cls := "CallRounds$News", name := "kind", desc := "()I" } : Jvm.MethodName)) ∈ lw_all := lw_g (lw_at lw_m2 131 rfl) rfl
theorem q431 : (Jvm.Cond.code ({ cls := "CallRounds$News", name := "kind", desc := "()I" } : Jvm.MethodName) prog_7_method_2_code (1 : Nat) (Option.some Jvm.ClassFile.FieldType.int)) ∈ lw_all := lw_g (lw_at lw_m2 132 rfl) rfl
theorem q1049 : (Jvm.Cond.selects "CallRounds$News" ({ cls := "CallRounds$Ring", name := "said", desc := "()I" } : Jvm.MethodName) ({ cls := "CallRounds$News", name := "said", desc := "()I" } : Jvm.MethodName)) ∈ lw_all := lw_g (lw_at lw_m5 30 rfl) rfl
theorem q1050 : (Jvm.Cond.instanceMethod ({ cls := "CallRounds$News", name := "said", desc := "()I" } : Jvm.MethodName)) ∈ lw_all := lw_g (lw_at lw_m5 31 rfl) rfl
theorem q1051 : (Jvm.Cond.code ({ cls := "CallRounds$News", name := "said", desc := "()I" } : Jvm.MethodName) prog_7_method_3_code (1 : Nat) (Option.some Jvm.ClassFile.FieldType.int)) ∈ lw_all := lw_g (lw_at lw_m5 32 rfl) rfl
theorem q1052 : (Jvm.Cond.methodLink "CallRounds$News" (13 : Nat) ({ cls := "CallRounds$News", name := "tracedBy", desc := "(I)I" } : Jvm.MethodName)) ∈ lw_all := lw_g (lw_at lw_m5 33 rfl) rfl
theorem q1053 : (Jvm.Cond.sameMethod "CallRounds$News" "CallRounds$Ring" "tracedBy" "(I)I") ∈ lw_all := lw_g (lw_at lw_m5 34 rfl) rfl
theorem q1055 : (Jvm.Cond.selects "CallRounds$News" ({ cls := "CallRounds$News", name := "tracedBy", desc := "(I)I" } : Jvm.MethodName) ({ cls := "CallRounds$Ring", name := "tracedBy", desc := "(I)I" } : Jvm.MethodName)) ∈ lw_all := lw_g (lw_at lw_m5 36 rfl) rfl
theorem q1059 : (Jvm.Cond.methodLink "CallRounds$News" (17 : Nat) ({ cls := "CallRounds$Ring", name := "said", desc := "()I" } : Jvm.MethodName)) ∈ lw_all := lw_g (lw_at lw_m5 40 rfl) rfl
theorem q1060 : (Jvm.Cond.methodLink "CallRounds$News" (21 : Nat) ({ cls := "CallRounds$News", name := "learnt", desc := "()I" } : Jvm.MethodName)) ∈ lw_all := lw_g (lw_at lw_m5 41 rfl) rfl
theorem q1061 : (Jvm.Cond.sameMethod "CallRounds$News" "CallRounds$Ring" "learnt" "()I") ∈ lw_all := lw_g (lw_at lw_m5 42 rfl) rfl
theorem q1063 : (Jvm.Cond.selects "CallRounds$News" ({ cls := "CallRounds$News", name := "learnt", desc := "()I" } : Jvm.MethodName) ({ cls := "CallRounds$Ring", name := "learnt", desc := "()I" } : Jvm.MethodName)) ∈ lw_all := lw_g (lw_at lw_m5 44 rfl) rfl
theorem q1082 : (Jvm.Cond.declares ({ cls := "CallRounds$News", name := "plainly", desc := "()I" } : Jvm.MethodName)) ∈ lw_tbl := lw_at lw_m5 63 rfl
theorem q1084 : (Jvm.Cond.instanceMethod ({ cls := "CallRounds$News", name := "plainly", desc := "()I" } : Jvm.MethodName)) ∈ lw_all := lw_g (lw_at lw_m5 65 rfl) rfl
theorem q1085 : (Jvm.Cond.code ({ cls := "CallRounds$News", name := "plainly", desc := "()I" } : Jvm.MethodName) prog_7_method_4_code (1 : Nat) (Option.some Jvm.ClassFile.FieldType.int)) ∈ lw_all := lw_g (lw_at lw_m5 66 rfl) rfl
theorem q1097 : (Jvm.Cond.castable "CallRounds$News" "CallRounds$Logged") ∈ lw_tbl := lw_at lw_m5 78 rfl
theorem q1098 : (Jvm.Cond.unhidden "CallRounds$News" "logged" "()I") ∈ lw_tbl := lw_at lw_m5 79 rfl
theorem q1106 : (Jvm.Cond.selects "CallRounds$News" ({ cls := "CallRounds$Logged", name := "tracedBy", desc := "(I)I" } : Jvm.MethodName) ({ cls := "CallRounds$Ring", name := "tracedBy", desc := "(I)I" } : Jvm.MethodName)) ∈ lw_all := lw_g (lw_at lw_m5 87 rfl) rfl
theorem q1107 : (Jvm.Cond.unhidden "CallRounds$News" "tracedBy" "(I)I") ∈ lw_tbl := lw_at lw_m5 88 rfl
theorem q1119 : (Jvm.Cond.selects "CallRounds$News" ({ cls := "CallRounds$Logged", name := "number", desc := "()I" } : Jvm.MethodName) ({ cls := "CallRounds$Ring", name := "number", desc := "()I" } : Jvm.MethodName)) ∈ lw_all := lw_g (lw_at lw_m5 100 rfl) rfl
theorem q1120 : (Jvm.Cond.unhidden "CallRounds$News" "number" "()I") ∈ lw_tbl := lw_at lw_m5 101 rfl
theorem q1540 : (Jvm.Cond.sameMethod "CallRounds$News" "CallRounds$News" "said" "()I") ∈ lw_all := lw_g (lw_at lw_m7 41 rfl) rfl
theorem q1542 : (Jvm.Cond.selects "CallRounds$News" ({ cls := "CallRounds$Ring", name := "tracedBy", desc := "(I)I" } : Jvm.MethodName) ({ cls := "CallRounds$Ring", name := "tracedBy", desc := "(I)I" } : Jvm.MethodName)) ∈ lw_all := lw_g (lw_at lw_m7 43 rfl) rfl
theorem q1546 : (Jvm.Cond.castable "CallRounds$News" "CallRounds$Ring") ∈ lw_tbl := lw_at lw_m7 47 rfl
theorem q1563 : (Jvm.Cond.castable "CallRounds$News" "java/lang/Object") ∈ lw_tbl := lw_at lw_m7 64 rfl
theorem in_X6 : ∀ w ∈ wsX60, w ∈ lw_all := lw_in wsX60 [334, 335, 336, 337, 338, 339, 340, 341, 333] (by decide +kernel) (by decide +kernel)
/-! CallRounds$Whole -/
set_option maxRecDepth 100000
def RX7 : String := "CallRounds$Whole"
def TX7 : u_T := fun k => match k with
  | 0 => ("CallRounds$Ring", "number", "I", true)
  | 1 => ("CallRounds$Ring", "from", "I", true)
  | 2 => ("CallRounds$Ring", "to", "I", true)
  | 3 => ("CallRounds$Ring", "secrets", "I", true)
  | 4 => ("CallRounds$Ring", "tokens", "I", true)
  | 5 => ("CallRounds$Ring", "learntFrom", "I", true)
  | 6 => ("CallRounds$Ring", "learntTo", "I", true)
  | 7 => ("CallRounds$Ring", "this$0", "LCallRounds;", true)
  | 8 => ("CallRounds$News", "this$0", "LCallRounds;", true)
  | _ => ("CallRounds$Whole", "this$0", "LCallRounds;", true)
def tyX7 : Nat → FieldType := fun k => match k with
  | 0 => .int
  | 1 => .int
  | 2 => .int
  | 3 => .int
  | 4 => .int
  | 5 => .int
  | 6 => .int
  | 7 => .object "CallRounds"
  | 8 => .object "CallRounds"
  | _ => .object "CallRounds"
abbrev wsX70 : List Cond := u_ws RX7 TX7 10
-- two fields of one name: no nmX7
theorem tyX7_ok : ∀ k, k < 10 → parseFieldDescriptor (TX7 k).2.2.1 = some (tyX7 k) := by decide +kernel
abbrev cX7_init : ByteArray := prog_14_method_1_code
def yX7_init : MethodName := ⟨RX7, "<init>", "(LCallRounds;IIIII)V"⟩
def dkwX7_init_0 : List UInt8 := [42, 43, 181, 0, 1, 42, 43, 28, 29, 21, 4, 21, 5, 21, 6, 183, 0, 7, 177]
abbrev dktX7_init_0 : List UInt8 := dkwX7_init_0 ++ []
theorem dksX7_init_0 : cX7_init.data.toList.drop 0 = dktX7_init_0 := by decide +kernel
theorem dX7_init_0 : decode cX7_init 0 = .ok (.aload_n 0, 1) := dk_42 (dk_at dksX7_init_0 0 rfl rfl)
theorem dX7_init_1 : decode cX7_init 1 = .ok (.aload_n 1, 1) := dk_43 (dk_at dksX7_init_0 1 rfl rfl)
theorem dX7_init_2 : decode cX7_init 2 = .ok (.putfield 1, 3) := dk_181 0 1 (dk_at dksX7_init_0 2 rfl rfl)
theorem dX7_init_5 : decode cX7_init 5 = .ok (.aload_n 0, 1) := dk_42 (dk_at dksX7_init_0 5 rfl rfl)
theorem dX7_init_6 : decode cX7_init 6 = .ok (.aload_n 1, 1) := dk_43 (dk_at dksX7_init_0 6 rfl rfl)
theorem dX7_init_7 : decode cX7_init 7 = .ok (.iload_n 2, 1) := dk_28 (dk_at dksX7_init_0 7 rfl rfl)
theorem dX7_init_8 : decode cX7_init 8 = .ok (.iload_n 3, 1) := dk_29 (dk_at dksX7_init_0 8 rfl rfl)
theorem dX7_init_9 : decode cX7_init 9 = .ok (.iload 4, 2) := dk_21 4 (dk_at dksX7_init_0 9 rfl rfl)
theorem dX7_init_11 : decode cX7_init 11 = .ok (.iload 5, 2) := dk_21 5 (dk_at dksX7_init_0 11 rfl rfl)
theorem dX7_init_13 : decode cX7_init 13 = .ok (.iload 6, 2) := dk_21 6 (dk_at dksX7_init_0 13 rfl rfl)
theorem dX7_init_15 : decode cX7_init 15 = .ok (.invokespecial 7, 3) := dk_183 0 7 (dk_at dksX7_init_0 15 rfl rfl)
theorem dX7_init_18 : decode cX7_init 18 = .ok (.return_, 1) := dk_177 (dk_at dksX7_init_0 18 rfl rfl)
abbrev cX7_kind : ByteArray := prog_14_method_2_code
def yX7_kind : MethodName := ⟨RX7, "kind", "()I"⟩
theorem dX7_kind_0 : decode cX7_kind 0 = .ok (.iconst 2, 1) := by decide +kernel
theorem dX7_kind_1 : decode cX7_kind 1 = .ok (.ireturn, 1) := by decide +kernel
abbrev cX7_said : ByteArray := prog_14_method_3_code
def yX7_said : MethodName := ⟨RX7, "said", "()I"⟩
def dkwX7_said_0 : List UInt8 := [42, 6, 182, 0, 13, 42, 183, 0, 17, 96, 42, 182, 0, 21, 96, 172]
abbrev dktX7_said_0 : List UInt8 := dkwX7_said_0 ++ []
theorem dksX7_said_0 : cX7_said.data.toList.drop 0 = dktX7_said_0 := by decide +kernel
theorem dX7_said_0 : decode cX7_said 0 = .ok (.aload_n 0, 1) := dk_42 (dk_at dksX7_said_0 0 rfl rfl)
theorem dX7_said_1 : decode cX7_said 1 = .ok (.iconst 3, 1) := dk_6 (dk_at dksX7_said_0 1 rfl rfl)
theorem dX7_said_2 : decode cX7_said 2 = .ok (.invokevirtual 13, 3) := dk_182 0 13 (dk_at dksX7_said_0 2 rfl rfl)
theorem dX7_said_5 : decode cX7_said 5 = .ok (.aload_n 0, 1) := dk_42 (dk_at dksX7_said_0 5 rfl rfl)
theorem dX7_said_6 : decode cX7_said 6 = .ok (.invokespecial 17, 3) := dk_183 0 17 (dk_at dksX7_said_0 6 rfl rfl)
theorem dX7_said_9 : decode cX7_said 9 = .ok (.iadd, 1) := dk_96 (dk_at dksX7_said_0 9 rfl rfl)
theorem dX7_said_10 : decode cX7_said 10 = .ok (.aload_n 0, 1) := dk_42 (dk_at dksX7_said_0 10 rfl rfl)
theorem dX7_said_11 : decode cX7_said 11 = .ok (.invokevirtual 21, 3) := dk_182 0 21 (dk_at dksX7_said_0 11 rfl rfl)
theorem dX7_said_14 : decode cX7_said 14 = .ok (.iadd, 1) := dk_96 (dk_at dksX7_said_0 14 rfl rfl)
theorem dX7_said_15 : decode cX7_said 15 = .ok (.ireturn, 1) := dk_172 (dk_at dksX7_said_0 15 rfl rfl)
abbrev cX7_logged : ByteArray := prog_14_method_4_code
def yX7_logged : MethodName := ⟨RX7, "logged", "()I"⟩
def dkwX7_logged_0 : List UInt8 := [42, 8, 182, 0, 13, 16, 70, 96, 172]
abbrev dktX7_logged_0 : List UInt8 := dkwX7_logged_0 ++ []
theorem dksX7_logged_0 : cX7_logged.data.toList.drop 0 = dktX7_logged_0 := by decide +kernel
theorem dX7_logged_0 : decode cX7_logged 0 = .ok (.aload_n 0, 1) := dk_42 (dk_at dksX7_logged_0 0 rfl rfl)
theorem dX7_logged_1 : decode cX7_logged 1 = .ok (.iconst 5, 1) := dk_8 (dk_at dksX7_logged_0 1 rfl rfl)
theorem dX7_logged_2 : decode cX7_logged 2 = .ok (.invokevirtual 13, 3) := dk_182 0 13 (dk_at dksX7_logged_0 2 rfl rfl)
theorem dX7_logged_5 : decode cX7_logged 5 = .ok (.bipush 70, 2) := dk_16 70 (dk_at dksX7_logged_0 5 rfl rfl)
theorem dX7_logged_7 : decode cX7_logged 7 = .ok (.iadd, 1) := dk_96 (dk_at dksX7_logged_0 7 rfl rfl)
theorem dX7_logged_8 : decode cX7_logged 8 = .ok (.ireturn, 1) := dk_172 (dk_at dksX7_logged_0 8 rfl rfl)
theorem q84 : (Jvm.Cond.initialized "CallRounds$Whole") ∈ lw_all := lw_g (lw_at lw_m1 25 rfl) rfl
theorem q273 : (Jvm.Cond.sameField "CallRounds$Whole" "CallRounds$Ring" "number" "I") ∈ lw_all := lw_g (lw_at lw_m1 214 rfl) rfl
theorem q307 : (Jvm.Cond.instantiable "CallRounds$Whole" (10 : Nat)) ∈ lw_all := lw_g (lw_at lw_m2 8 rfl) rfl
theorem q309 : (Jvm.Cond.instanceMethod ({ cls := "CallRounds$Whole", name := "<init>", desc := "(LCallRounds;IIIII)V" } : Jvm.MethodName)) ∈ lw_all := lw_g (lw_at lw_m2 10 rfl) rfl
theorem q310 : (Jvm.Cond.code ({ cls := "CallRounds$Whole", name := "<init>", desc := "(LCallRounds;IIIII)V" } : Jvm.MethodName) prog_14_method_1_code (7 : Nat) (Option.none : Option Jvm.ClassFile.FieldType)) ∈ lw_all := lw_g (lw_at lw_m2 11 rfl) rfl
theorem q311 : (Jvm.Cond.methodLink "CallRounds$Whole" (7 : Nat) ({ cls := "CallRounds$News", name := "<init>", desc := "(LCallRounds;IIIII)V" } : Jvm.MethodName)) ∈ lw_all := lw_g (lw_at lw_m2 12 rfl) rfl
theorem q315 : (Jvm.Cond.fieldLink "CallRounds$Whole" (1 : Nat) "CallRounds$Whole" "this$0" "LCallRounds;") ∈ lw_all := lw_g (lw_at lw_m2 16 rfl) rfl
theorem q317 : (Jvm.Cond.laysFinal "CallRounds$Whole" "CallRounds$Whole" "this$0" "LCallRounds;") ∈ lw_all := lw_g (lw_at lw_m2 18 rfl) rfl
theorem q318 : (Jvm.Cond.soleField "CallRounds$Whole" "this$0") ∈ lw_all := lw_g (lw_at lw_m2 19 rfl) rfl
theorem q319 : (Jvm.Cond.laysFinal "CallRounds$Whole" "CallRounds$News" "this$0" "LCallRounds;") ∈ lw_all := lw_g (lw_at lw_m2 20 rfl) rfl
theorem q321 : (Jvm.Cond.laysFinal "CallRounds$Whole" "CallRounds$Ring" "number" "I") ∈ lw_all := lw_g (lw_at lw_m2 22 rfl) rfl
theorem q322 : (Jvm.Cond.laysFinal "CallRounds$Whole" "CallRounds$Ring" "from" "I") ∈ lw_all := lw_g (lw_at lw_m2 23 rfl) rfl
theorem q323 : (Jvm.Cond.laysFinal "CallRounds$Whole" "CallRounds$Ring" "to" "I") ∈ lw_all := lw_g (lw_at lw_m2 24 rfl) rfl
theorem q324 : (Jvm.Cond.laysFinal "CallRounds$Whole" "CallRounds$Ring" "secrets" "I") ∈ lw_all := lw_g (lw_at lw_m2 25 rfl) rfl
theorem q325 : (Jvm.Cond.laysFinal "CallRounds$Whole" "CallRounds$Ring" "tokens" "I") ∈ lw_all := lw_g (lw_at lw_m2 26 rfl) rfl
theorem q326 : (Jvm.Cond.laysFinal "CallRounds$Whole" "CallRounds$Ring" "learntFrom" "I") ∈ lw_all := lw_g (lw_at lw_m2 27 rfl) rfl
theorem q327 : (Jvm.Cond.laysFinal "CallRounds$Whole" "CallRounds$Ring" "learntTo" "I") ∈ lw_all := lw_g (lw_at lw_m2 28 rfl) rfl
theorem q328 : (Jvm.Cond.laysFinal "CallRounds$Whole" "CallRounds$Ring" "this$0" "LCallRounds;") ∈ lw_all := lw_g (lw_at lw_m2 29 rfl) rfl
theorem q329 : (Jvm.Cond.superclass "CallRounds$Whole" "CallRounds$News") ∈ lw_all := lw_g (lw_at lw_m2 30 rfl) rfl
theorem q390 : (Jvm.Cond.selects "CallRounds$Whole" ({ cls := "java/lang/Object", name := "getClass", desc := "()Ljava/lang/Class;" } : Jvm.MethodName) ({ cls := "java/lang/Object", name := "getClass", desc := "()Ljava/lang/Class;" } : Jvm.MethodName)) ∈ lw_all := lw_g (lw_at lw_m2 91 rfl) rfl
theorem q423 : (Jvm.Cond.selects "CallRounds$Whole" ({ cls := "CallRounds$Ring", name := "tells", desc := "(I)I" } : Jvm.MethodName) ({ cls := "CallRounds$Ring", name := "tells", desc := "(I)I" } : Jvm.MethodName)) ∈ lw_all := lw_g (lw_at lw_m2 124 rfl) rfl
theorem q432 : (Jvm.Cond.selects "CallRounds$Whole" ({ cls := "CallRounds$Ring", name := "kind", desc := "()I" } : Jvm.MethodName) ({ cls := "CallRounds$Whole", name := "kind", desc := "()I" } : Jvm.MethodName)) ∈ lw_all := lw_g (lw_at lw_m2 133 rfl) rfl
theorem q433 : (Jvm.Cond.instanceMethod ({ cls := "CallRounds$Whole", name := "kind", desc := "()I" } : Jvm.MethodName)) ∈ lw_all := lw_g (lw_at lw_m2 134 rfl) rfl
theorem q434 : (Jvm.Cond.code ({ cls := "CallRounds$Whole", name := "kind", desc := "()I" } : Jvm.MethodName) prog_14_method_2_code (1 : Nat) (Option.some Jvm.ClassFile.FieldType.int)) ∈ lw_all := lw_g (lw_at lw_m2 135 rfl) rfl
theorem q1056 : (Jvm.Cond.selects "CallRounds$Whole" ({ cls := "CallRounds$News", name := "tracedBy", desc := "(I)I" } : Jvm.MethodName) ({ cls := "CallRounds$Ring", name := "tracedBy", desc := "(I)I" } : Jvm.MethodName)) ∈ lw_all := lw_g (lw_at lw_m5 37 rfl) rfl
theorem q1064 : (Jvm.Cond.selects "CallRounds$Whole" ({ cls := "CallRounds$News", name := "learnt", desc := "()I" } : Jvm.MethodName) ({ cls := "CallRounds$Ring", name := "learnt", desc := "()I" } : Jvm.MethodName)) ∈ lw_all := lw_g (lw_at lw_m5 45 rfl) rfl
theorem q1073 : (Jvm.Cond.selects "CallRounds$Whole" ({ cls := "CallRounds$Ring", name := "said", desc := "()I" } : Jvm.MethodName) ({ cls := "CallRounds$Whole", name := "said", desc := "()I" } : Jvm.MethodName)) ∈ lw_all := lw_g (lw_at lw_m5 54 rfl) rfl
theorem q1074 : (Jvm.Cond.instanceMethod ({ cls := "CallRounds$Whole", name := "said", desc := "()I" } : Jvm.MethodName)) ∈ lw_all := lw_g (lw_at lw_m5 55 rfl) rfl
theorem q1075 : (Jvm.Cond.code ({ cls := "CallRounds$Whole", name := "said", desc := "()I" } : Jvm.MethodName) prog_14_method_3_code (1 : Nat) (Option.some Jvm.ClassFile.FieldType.int)) ∈ lw_all := lw_g (lw_at lw_m5 56 rfl) rfl
theorem q1076 : (Jvm.Cond.methodLink "CallRounds$Whole" (13 : Nat) ({ cls := "CallRounds$Whole", name := "tracedBy", desc := "(I)I" } : Jvm.MethodName)) ∈ lw_all := lw_g (lw_at lw_m5 57 rfl) rfl
theorem q1077 : (Jvm.Cond.sameMethod "CallRounds$Whole" "CallRounds$Ring" "tracedBy" "(I)I") ∈ lw_all := lw_g (lw_at lw_m5 58 rfl) rfl
theorem q1078 : (Jvm.Cond.selects "CallRounds$Whole" ({ cls := "CallRounds$Whole", name := "tracedBy", desc := "(I)I" } : Jvm.MethodName) ({ cls := "CallRounds$Ring", name := "tracedBy", desc := "(I)I" } : Jvm.MethodName)) ∈ lw_all := lw_g (lw_at lw_m5 59 rfl) rfl
theorem q1079 : (Jvm.Cond.methodLink "CallRounds$Whole" (17 : Nat) ({ cls := "CallRounds$News", name := "said", desc := "()I" } : Jvm.MethodName)) ∈ lw_all := lw_g (lw_at lw_m5 60 rfl) rfl
theorem q1080 : (Jvm.Cond.methodLink "CallRounds$Whole" (21 : Nat) ({ cls := "CallRounds$Whole", name := "plainly", desc := "()I" } : Jvm.MethodName)) ∈ lw_all := lw_g (lw_at lw_m5 61 rfl) rfl
theorem q1081 : (Jvm.Cond.sameMethod "CallRounds$Whole" "CallRounds$News" "plainly" "()I") ∈ lw_all := lw_g (lw_at lw_m5 62 rfl) rfl
theorem q1083 : (Jvm.Cond.selects "CallRounds$Whole" ({ cls := "CallRounds$Whole", name := "plainly", desc := "()I" } : Jvm.MethodName) ({ cls := "CallRounds$News", name := "plainly", desc := "()I" } : Jvm.MethodName)) ∈ lw_all := lw_g (lw_at lw_m5 64 rfl) rfl
theorem q1112 : (Jvm.Cond.castable "CallRounds$Whole" "CallRounds$Logged") ∈ lw_tbl := lw_at lw_m5 93 rfl
theorem q1113 : (Jvm.Cond.selects "CallRounds$Whole" ({ cls := "CallRounds$Logged", name := "tracedBy", desc := "(I)I" } : Jvm.MethodName) ({ cls := "CallRounds$Ring", name := "tracedBy", desc := "(I)I" } : Jvm.MethodName)) ∈ lw_all := lw_g (lw_at lw_m5 94 rfl) rfl
theorem q1114 : (Jvm.Cond.unhidden "CallRounds$Whole" "tracedBy" "(I)I") ∈ lw_tbl := lw_at lw_m5 95 rfl
theorem q1126 : (Jvm.Cond.selects "CallRounds$Whole" ({ cls := "CallRounds$Logged", name := "number", desc := "()I" } : Jvm.MethodName) ({ cls := "CallRounds$Ring", name := "number", desc := "()I" } : Jvm.MethodName)) ∈ lw_all := lw_g (lw_at lw_m5 107 rfl) rfl
theorem q1127 : (Jvm.Cond.unhidden "CallRounds$Whole" "number" "()I") ∈ lw_tbl := lw_at lw_m5 108 rfl
theorem q1129 : (Jvm.Cond.selects "CallRounds$Whole" ({ cls := "CallRounds$Logged", name := "logged", desc := "()I" } : Jvm.MethodName) ({ cls := "CallRounds$Whole", name := "logged", desc := "()I" } : Jvm.MethodName)) ∈ lw_all := lw_g (lw_at lw_m5 110 rfl) rfl
theorem q1130 : (Jvm.Cond.unhidden "CallRounds$Whole" "logged" "()I") ∈ lw_tbl := lw_at lw_m5 111 rfl
theorem q1131 : (Jvm.Cond.instanceMethod ({ cls := "CallRounds$Whole", name := "logged", desc := "()I" } : Jvm.MethodName)) ∈ lw_all := lw_g (lw_at lw_m5 112 rfl) rfl
theorem q1132 : (Jvm.Cond.publicMethod ({ cls := "CallRounds$Whole", name := "logged", desc := "()I" } : Jvm.MethodName)) ∈ lw_tbl := lw_at lw_m5 113 rfl
theorem q1133 : (Jvm.Cond.code ({ cls := "CallRounds$Whole", name := "logged", desc := "()I" } : Jvm.MethodName) prog_14_method_4_code (1 : Nat) (Option.some Jvm.ClassFile.FieldType.int)) ∈ lw_all := lw_g (lw_at lw_m5 114 rfl) rfl
theorem q1544 : (Jvm.Cond.selects "CallRounds$Whole" ({ cls := "CallRounds$Ring", name := "tracedBy", desc := "(I)I" } : Jvm.MethodName) ({ cls := "CallRounds$Ring", name := "tracedBy", desc := "(I)I" } : Jvm.MethodName)) ∈ lw_all := lw_g (lw_at lw_m7 45 rfl) rfl
theorem q1547 : (Jvm.Cond.castable "CallRounds$Whole" "CallRounds$Ring") ∈ lw_tbl := lw_at lw_m7 48 rfl
theorem q1548 : (Jvm.Cond.castable "CallRounds$Whole" "CallRounds$News") ∈ lw_tbl := lw_at lw_m7 49 rfl
theorem q1562 : (Jvm.Cond.castable "CallRounds$Whole" "java/lang/Object") ∈ lw_tbl := lw_at lw_m7 63 rfl
theorem in_X7 : ∀ w ∈ wsX70, w ∈ lw_all := lw_in wsX70 [321, 322, 323, 324, 325, 326, 327, 328, 319, 317] (by decide +kernel) (by decide +kernel)
/-! CallRounds$Search -/
set_option maxRecDepth 100000
def RX8 : String := "CallRounds$Search"
abbrev cX8_init : ByteArray := prog_11_method_1_code
def yX8_init : MethodName := ⟨RX8, "<init>", "(LCallRounds;)V"⟩
def dkwX8_init_0 : List UInt8 := [42, 43, 181, 0, 3, 42, 183, 0, 9, 177]
abbrev dktX8_init_0 : List UInt8 := dkwX8_init_0 ++ []
theorem dksX8_init_0 : cX8_init.data.toList.drop 0 = dktX8_init_0 := by decide +kernel
theorem dX8_init_0 : decode cX8_init 0 = .ok (.aload_n 0, 1) := dk_42 (dk_at dksX8_init_0 0 rfl rfl)
theorem dX8_init_1 : decode cX8_init 1 = .ok (.aload_n 1, 1) := dk_43 (dk_at dksX8_init_0 1 rfl rfl)
theorem dX8_init_2 : decode cX8_init 2 = .ok (.putfield 3, 3) := dk_181 0 3 (dk_at dksX8_init_0 2 rfl rfl)
theorem dX8_init_5 : decode cX8_init 5 = .ok (.aload_n 0, 1) := dk_42 (dk_at dksX8_init_0 5 rfl rfl)
theorem dX8_init_6 : decode cX8_init 6 = .ok (.invokespecial 9, 3) := dk_183 0 9 (dk_at dksX8_init_0 6 rfl rfl)
theorem dX8_init_9 : decode cX8_init 9 = .ok (.return_, 1) := dk_177 (dk_at dksX8_init_0 9 rfl rfl)
abbrev cX8_tells : ByteArray := prog_11_method_3_code
def yX8_tells : MethodName := ⟨RX8, "tells", "(I)I"⟩
def dkwX8_tells_4 : List UInt8 := [172]
abbrev dktX8_tells_4 : List UInt8 := dkwX8_tells_4 ++ []
def dkwX8_tells_3 : List UInt8 := [132, 2, 1, 132, 5, 1, 167, 255, 202, 132, 4, 1, 167, 255, 181, 27, 156, 0, 7, 28, 167, 0, 4, 29]
abbrev dktX8_tells_3 : List UInt8 := dkwX8_tells_3 ++ dktX8_tells_4
def dkwX8_tells_2 : List UInt8 := [182, 0, 19, 153, 0, 24, 28, 27, 160, 0, 14, 16, 10, 21, 4, 104, 21, 5, 96, 167, 0, 4, 29, 62]
abbrev dktX8_tells_2 : List UInt8 := dkwX8_tells_2 ++ dktX8_tells_3
def dkwX8_tells_1 : List UInt8 := [21, 5, 42, 180, 0, 3, 180, 0, 15, 162, 0, 48, 21, 4, 21, 5, 159, 0, 35, 42, 21, 4, 21, 5]
abbrev dktX8_tells_1 : List UInt8 := dkwX8_tells_1 ++ dktX8_tells_2
def dkwX8_tells_0 : List UInt8 := [3, 61, 16, 247, 62, 3, 54, 4, 21, 4, 42, 180, 0, 3, 180, 0, 15, 162, 0, 69, 3, 54, 5]
abbrev dktX8_tells_0 : List UInt8 := dkwX8_tells_0 ++ dktX8_tells_1
theorem dksX8_tells_0 : cX8_tells.data.toList.drop 0 = dktX8_tells_0 := by decide +kernel
theorem dksX8_tells_1 : cX8_tells.data.toList.drop 23 = dktX8_tells_1 := dk_seg dksX8_tells_0 23 rfl rfl
theorem dksX8_tells_2 : cX8_tells.data.toList.drop 47 = dktX8_tells_2 := dk_seg dksX8_tells_1 24 rfl rfl
theorem dksX8_tells_3 : cX8_tells.data.toList.drop 71 = dktX8_tells_3 := dk_seg dksX8_tells_2 24 rfl rfl
theorem dksX8_tells_4 : cX8_tells.data.toList.drop 95 = dktX8_tells_4 := dk_seg dksX8_tells_3 24 rfl rfl
theorem dX8_tells_0 : decode cX8_tells 0 = .ok (.iconst 0, 1) := dk_3 (dk_at dksX8_tells_0 0 rfl rfl)
theorem dX8_tells_1 : decode cX8_tells 1 = .ok (.istore_n 2, 1) := dk_61 (dk_at dksX8_tells_0 1 rfl rfl)
theorem dX8_tells_2 : decode cX8_tells 2 = .ok (.bipush (-9), 2) := dk_16 247 (dk_at dksX8_tells_0 2 rfl rfl)
theorem dX8_tells_4 : decode cX8_tells 4 = .ok (.istore_n 3, 1) := dk_62 (dk_at dksX8_tells_0 4 rfl rfl)
theorem dX8_tells_5 : decode cX8_tells 5 = .ok (.iconst 0, 1) := dk_3 (dk_at dksX8_tells_0 5 rfl rfl)
theorem dX8_tells_6 : decode cX8_tells 6 = .ok (.istore 4, 2) := dk_54 4 (dk_at dksX8_tells_0 6 rfl rfl)
theorem dX8_tells_8 : decode cX8_tells 8 = .ok (.iload 4, 2) := dk_21 4 (dk_at dksX8_tells_0 8 rfl rfl)
theorem dX8_tells_10 : decode cX8_tells 10 = .ok (.aload_n 0, 1) := dk_42 (dk_at dksX8_tells_0 10 rfl rfl)
theorem dX8_tells_11 : decode cX8_tells 11 = .ok (.getfield 3, 3) := dk_180 0 3 (dk_at dksX8_tells_0 11 rfl rfl)
theorem dX8_tells_14 : decode cX8_tells 14 = .ok (.getfield 15, 3) := dk_180 0 15 (dk_at dksX8_tells_0 14 rfl rfl)
theorem dX8_tells_17 : decode cX8_tells 17 = .ok (.if_icmp .ge 69, 3) := dk_162 0 69 (dk_at dksX8_tells_0 17 rfl rfl)
theorem dX8_tells_20 : decode cX8_tells 20 = .ok (.iconst 0, 1) := dk_3 (dk_at dksX8_tells_0 20 rfl rfl)
theorem dX8_tells_21 : decode cX8_tells 21 = .ok (.istore 5, 2) := dk_54 5 (dk_at dksX8_tells_0 21 rfl rfl)
theorem dX8_tells_23 : decode cX8_tells 23 = .ok (.iload 5, 2) := dk_21 5 (dk_at dksX8_tells_1 0 rfl rfl)
theorem dX8_tells_25 : decode cX8_tells 25 = .ok (.aload_n 0, 1) := dk_42 (dk_at dksX8_tells_1 2 rfl rfl)
theorem dX8_tells_26 : decode cX8_tells 26 = .ok (.getfield 3, 3) := dk_180 0 3 (dk_at dksX8_tells_1 3 rfl rfl)
theorem dX8_tells_29 : decode cX8_tells 29 = .ok (.getfield 15, 3) := dk_180 0 15 (dk_at dksX8_tells_1 6 rfl rfl)
theorem dX8_tells_32 : decode cX8_tells 32 = .ok (.if_icmp .ge 48, 3) := dk_162 0 48 (dk_at dksX8_tells_1 9 rfl rfl)
theorem dX8_tells_35 : decode cX8_tells 35 = .ok (.iload 4, 2) := dk_21 4 (dk_at dksX8_tells_1 12 rfl rfl)
theorem dX8_tells_37 : decode cX8_tells 37 = .ok (.iload 5, 2) := dk_21 5 (dk_at dksX8_tells_1 14 rfl rfl)
theorem dX8_tells_39 : decode cX8_tells 39 = .ok (.if_icmp .eq 35, 3) := dk_159 0 35 (dk_at dksX8_tells_1 16 rfl rfl)
theorem dX8_tells_42 : decode cX8_tells 42 = .ok (.aload_n 0, 1) := dk_42 (dk_at dksX8_tells_1 19 rfl rfl)
theorem dX8_tells_43 : decode cX8_tells 43 = .ok (.iload 4, 2) := dk_21 4 (dk_at dksX8_tells_1 20 rfl rfl)
theorem dX8_tells_45 : decode cX8_tells 45 = .ok (.iload 5, 2) := dk_21 5 (dk_at dksX8_tells_1 22 rfl rfl)
theorem dX8_tells_47 : decode cX8_tells 47 = .ok (.invokevirtual 19, 3) := dk_182 0 19 (dk_at dksX8_tells_2 0 rfl rfl)
theorem dX8_tells_50 : decode cX8_tells 50 = .ok (.ifCond .eq 24, 3) := dk_153 0 24 (dk_at dksX8_tells_2 3 rfl rfl)
theorem dX8_tells_53 : decode cX8_tells 53 = .ok (.iload_n 2, 1) := dk_28 (dk_at dksX8_tells_2 6 rfl rfl)
theorem dX8_tells_54 : decode cX8_tells 54 = .ok (.iload_n 1, 1) := dk_27 (dk_at dksX8_tells_2 7 rfl rfl)
theorem dX8_tells_55 : decode cX8_tells 55 = .ok (.if_icmp .ne 14, 3) := dk_160 0 14 (dk_at dksX8_tells_2 8 rfl rfl)
theorem dX8_tells_58 : decode cX8_tells 58 = .ok (.bipush 10, 2) := dk_16 10 (dk_at dksX8_tells_2 11 rfl rfl)
theorem dX8_tells_60 : decode cX8_tells 60 = .ok (.iload 4, 2) := dk_21 4 (dk_at dksX8_tells_2 13 rfl rfl)
theorem dX8_tells_62 : decode cX8_tells 62 = .ok (.imul, 1) := dk_104 (dk_at dksX8_tells_2 15 rfl rfl)
theorem dX8_tells_63 : decode cX8_tells 63 = .ok (.iload 5, 2) := dk_21 5 (dk_at dksX8_tells_2 16 rfl rfl)
theorem dX8_tells_65 : decode cX8_tells 65 = .ok (.iadd, 1) := dk_96 (dk_at dksX8_tells_2 18 rfl rfl)
theorem dX8_tells_66 : decode cX8_tells 66 = .ok (.goto 4, 3) := dk_167 0 4 (dk_at dksX8_tells_2 19 rfl rfl)
theorem dX8_tells_69 : decode cX8_tells 69 = .ok (.iload_n 3, 1) := dk_29 (dk_at dksX8_tells_2 22 rfl rfl)
theorem dX8_tells_70 : decode cX8_tells 70 = .ok (.istore_n 3, 1) := dk_62 (dk_at dksX8_tells_2 23 rfl rfl)
theorem dX8_tells_71 : decode cX8_tells 71 = .ok (.iinc 2 1, 3) := dk_132 2 1 (dk_at dksX8_tells_3 0 rfl rfl)
theorem dX8_tells_74 : decode cX8_tells 74 = .ok (.iinc 5 1, 3) := dk_132 5 1 (dk_at dksX8_tells_3 3 rfl rfl)
theorem dX8_tells_77 : decode cX8_tells 77 = .ok (.goto (-54), 3) := dk_167 255 202 (dk_at dksX8_tells_3 6 rfl rfl)
theorem dX8_tells_80 : decode cX8_tells 80 = .ok (.iinc 4 1, 3) := dk_132 4 1 (dk_at dksX8_tells_3 9 rfl rfl)
theorem dX8_tells_83 : decode cX8_tells 83 = .ok (.goto (-75), 3) := dk_167 255 181 (dk_at dksX8_tells_3 12 rfl rfl)
theorem dX8_tells_86 : decode cX8_tells 86 = .ok (.iload_n 1, 1) := dk_27 (dk_at dksX8_tells_3 15 rfl rfl)
theorem dX8_tells_87 : decode cX8_tells 87 = .ok (.ifCond .ge 7, 3) := dk_156 0 7 (dk_at dksX8_tells_3 16 rfl rfl)
theorem dX8_tells_90 : decode cX8_tells 90 = .ok (.iload_n 2, 1) := dk_28 (dk_at dksX8_tells_3 19 rfl rfl)
theorem dX8_tells_91 : decode cX8_tells 91 = .ok (.goto 4, 3) := dk_167 0 4 (dk_at dksX8_tells_3 20 rfl rfl)
theorem dX8_tells_94 : decode cX8_tells 94 = .ok (.iload_n 3, 1) := dk_29 (dk_at dksX8_tells_3 23 rfl rfl)
theorem dX8_tells_95 : decode cX8_tells 95 = .ok (.ireturn, 1) := dk_172 (dk_at dksX8_tells_4 0 rfl rfl)
theorem q87 : (Jvm.Cond.initialized "CallRounds$Search") ∈ lw_all := lw_g (lw_at lw_m1 28 rfl) rfl
theorem q132 : (Jvm.Cond.fieldLinkNest "CallRounds$Search" (15 : Nat) "CallRounds" "persons" "I" "CallRounds") ∈ lw_tbl := lw_at lw_m1 73 rfl
theorem q569 : (Jvm.Cond.instanceMethod ({ cls := "CallRounds$Search", name := "<init>", desc := "(LCallRounds;)V" } : Jvm.MethodName)) ∈ lw_all := lw_g (lw_at lw_m3 30 rfl) rfl
theorem q570 : (Jvm.Cond.code ({ cls := "CallRounds$Search", name := "<init>", desc := "(LCallRounds;)V" } : Jvm.MethodName) prog_11_method_1_code (2 : Nat) (Option.none : Option Jvm.ClassFile.FieldType)) ∈ lw_all := lw_g (lw_at lw_m3 31 rfl) rfl
theorem q571 : (Jvm.Cond.methodLink "CallRounds$Search" (9 : Nat) ({ cls := "java/lang/Object", name := "<init>", desc := "()V" } : Jvm.MethodName)) ∈ lw_all := lw_g (lw_at lw_m3 32 rfl) rfl
theorem q573 : (Jvm.Cond.fieldLink "CallRounds$Search" (3 : Nat) "CallRounds$Search" "this$0" "LCallRounds;") ∈ lw_all := lw_g (lw_at lw_m3 34 rfl) rfl
theorem q577 : (Jvm.Cond.soleField "CallRounds$Search" "this$0") ∈ lw_all := lw_g (lw_at lw_m3 38 rfl) rfl
theorem q581 : (Jvm.Cond.declares ({ cls := "CallRounds$Search", name := "tells", desc := "(I)I" } : Jvm.MethodName)) ∈ lw_tbl := lw_at lw_m3 42 rfl
theorem q583 : (Jvm.Cond.instanceMethod ({ cls := "CallRounds$Search", name := "tells", desc := "(I)I" } : Jvm.MethodName)) ∈ lw_all := lw_g (lw_at lw_m3 44 rfl) rfl
theorem q584 : (Jvm.Cond.code ({ cls := "CallRounds$Search", name := "tells", desc := "(I)I" } : Jvm.MethodName) prog_11_method_3_code (6 : Nat) (Option.some Jvm.ClassFile.FieldType.int)) ∈ lw_all := lw_g (lw_at lw_m3 45 rfl) rfl
theorem q585 : (Jvm.Cond.methodLink "CallRounds$Search" (19 : Nat) ({ cls := "CallRounds$Search", name := "isOne", desc := "(II)Z" } : Jvm.MethodName)) ∈ lw_all := lw_g (lw_at lw_m3 46 rfl) rfl
theorem q586 : (Jvm.Cond.declares ({ cls := "CallRounds$Search", name := "isOne", desc := "(II)Z" } : Jvm.MethodName)) ∈ lw_tbl := lw_at lw_m3 47 rfl
theorem q587 : (Jvm.Cond.sameMethod "CallRounds$Search" "CallRounds$Search" "isOne" "(II)Z") ∈ lw_all := lw_g (lw_at lw_m3 48 rfl) rfl
/-! CallRounds$Bridges -/
set_option maxRecDepth 100000
def RX9 : String := "CallRounds$Bridges"
def TX9 : u_T := fun k => match k with
  | 0 => ("CallRounds$Search", "this$0", "LCallRounds;", true)
  | _ => ("CallRounds$Bridges", "this$0", "LCallRounds;", true)
def tyX9 : Nat → FieldType := fun k => match k with
  | 0 => .object "CallRounds"
  | _ => .object "CallRounds"
abbrev wsX90 : List Cond := u_ws RX9 TX9 2
-- two fields of one name: no nmX9
theorem tyX9_ok : ∀ k, k < 2 → parseFieldDescriptor (TX9 k).2.2.1 = some (tyX9 k) := by decide +kernel
abbrev cX9_init : ByteArray := prog_3_method_1_code
def yX9_init : MethodName := ⟨RX9, "<init>", "(LCallRounds;)V"⟩
def dkwX9_init_0 : List UInt8 := [42, 43, 181, 0, 1, 42, 43, 183, 0, 7, 177]
abbrev dktX9_init_0 : List UInt8 := dkwX9_init_0 ++ []
theorem dksX9_init_0 : cX9_init.data.toList.drop 0 = dktX9_init_0 := by decide +kernel
theorem dX9_init_0 : decode cX9_init 0 = .ok (.aload_n 0, 1) := dk_42 (dk_at dksX9_init_0 0 rfl rfl)
theorem dX9_init_1 : decode cX9_init 1 = .ok (.aload_n 1, 1) := dk_43 (dk_at dksX9_init_0 1 rfl rfl)
theorem dX9_init_2 : decode cX9_init 2 = .ok (.putfield 1, 3) := dk_181 0 1 (dk_at dksX9_init_0 2 rfl rfl)
theorem dX9_init_5 : decode cX9_init 5 = .ok (.aload_n 0, 1) := dk_42 (dk_at dksX9_init_0 5 rfl rfl)
theorem dX9_init_6 : decode cX9_init 6 = .ok (.aload_n 1, 1) := dk_43 (dk_at dksX9_init_0 6 rfl rfl)
theorem dX9_init_7 : decode cX9_init 7 = .ok (.invokespecial 7, 3) := dk_183 0 7 (dk_at dksX9_init_0 7 rfl rfl)
theorem dX9_init_10 : decode cX9_init 10 = .ok (.return_, 1) := dk_177 (dk_at dksX9_init_0 10 rfl rfl)
abbrev cX9_isOne : ByteArray := prog_3_method_2_code
def yX9_isOne : MethodName := ⟨RX9, "isOne", "(II)Z"⟩
def dkwX9_isOne_2 : List UInt8 := [167, 0, 4, 3, 62, 42, 180, 0, 1, 180, 0, 13, 27, 92, 46, 4, 28, 120, 130, 79, 29, 172]
abbrev dktX9_isOne_2 : List UInt8 := dkwX9_isOne_2 ++ []
def dkwX9_isOne_1 : List UInt8 := [180, 0, 13, 27, 92, 46, 4, 28, 120, 130, 79, 42, 180, 0, 1, 182, 0, 23, 154, 0, 7, 4]
abbrev dktX9_isOne_1 : List UInt8 := dkwX9_isOne_1 ++ dktX9_isOne_2
def dkwX9_isOne_0 : List UInt8 := [42, 180, 0, 1, 180, 0, 13, 27, 46, 28, 184, 0, 19, 154, 0, 5, 3, 172, 42, 180, 0, 1]
abbrev dktX9_isOne_0 : List UInt8 := dkwX9_isOne_0 ++ dktX9_isOne_1
theorem dksX9_isOne_0 : cX9_isOne.data.toList.drop 0 = dktX9_isOne_0 := by decide +kernel
theorem dksX9_isOne_1 : cX9_isOne.data.toList.drop 22 = dktX9_isOne_1 := dk_seg dksX9_isOne_0 22 rfl rfl
theorem dksX9_isOne_2 : cX9_isOne.data.toList.drop 44 = dktX9_isOne_2 := dk_seg dksX9_isOne_1 22 rfl rfl
theorem dX9_isOne_0 : decode cX9_isOne 0 = .ok (.aload_n 0, 1) := dk_42 (dk_at dksX9_isOne_0 0 rfl rfl)
theorem dX9_isOne_1 : decode cX9_isOne 1 = .ok (.getfield 1, 3) := dk_180 0 1 (dk_at dksX9_isOne_0 1 rfl rfl)
theorem dX9_isOne_4 : decode cX9_isOne 4 = .ok (.getfield 13, 3) := dk_180 0 13 (dk_at dksX9_isOne_0 4 rfl rfl)
theorem dX9_isOne_7 : decode cX9_isOne 7 = .ok (.iload_n 1, 1) := dk_27 (dk_at dksX9_isOne_0 7 rfl rfl)
theorem dX9_isOne_8 : decode cX9_isOne 8 = .ok (.iaload, 1) := dk_46 (dk_at dksX9_isOne_0 8 rfl rfl)
theorem dX9_isOne_9 : decode cX9_isOne 9 = .ok (.iload_n 2, 1) := dk_28 (dk_at dksX9_isOne_0 9 rfl rfl)
theorem dX9_isOne_10 : decode cX9_isOne 10 = .ok (.invokestatic 19, 3) := dk_184 0 19 (dk_at dksX9_isOne_0 10 rfl rfl)
theorem dX9_isOne_13 : decode cX9_isOne 13 = .ok (.ifCond .ne 5, 3) := dk_154 0 5 (dk_at dksX9_isOne_0 13 rfl rfl)
theorem dX9_isOne_16 : decode cX9_isOne 16 = .ok (.iconst 0, 1) := dk_3 (dk_at dksX9_isOne_0 16 rfl rfl)
theorem dX9_isOne_17 : decode cX9_isOne 17 = .ok (.ireturn, 1) := dk_172 (dk_at dksX9_isOne_0 17 rfl rfl)
theorem dX9_isOne_18 : decode cX9_isOne 18 = .ok (.aload_n 0, 1) := dk_42 (dk_at dksX9_isOne_0 18 rfl rfl)
theorem dX9_isOne_19 : decode cX9_isOne 19 = .ok (.getfield 1, 3) := dk_180 0 1 (dk_at dksX9_isOne_0 19 rfl rfl)
theorem dX9_isOne_22 : decode cX9_isOne 22 = .ok (.getfield 13, 3) := dk_180 0 13 (dk_at dksX9_isOne_1 0 rfl rfl)
theorem dX9_isOne_25 : decode cX9_isOne 25 = .ok (.iload_n 1, 1) := dk_27 (dk_at dksX9_isOne_1 3 rfl rfl)
theorem dX9_isOne_26 : decode cX9_isOne 26 = .ok (.dup2, 1) := dk_92 (dk_at dksX9_isOne_1 4 rfl rfl)
theorem dX9_isOne_27 : decode cX9_isOne 27 = .ok (.iaload, 1) := dk_46 (dk_at dksX9_isOne_1 5 rfl rfl)
theorem dX9_isOne_28 : decode cX9_isOne 28 = .ok (.iconst 1, 1) := dk_4 (dk_at dksX9_isOne_1 6 rfl rfl)
theorem dX9_isOne_29 : decode cX9_isOne 29 = .ok (.iload_n 2, 1) := dk_28 (dk_at dksX9_isOne_1 7 rfl rfl)
theorem dX9_isOne_30 : decode cX9_isOne 30 = .ok (.ishl, 1) := dk_120 (dk_at dksX9_isOne_1 8 rfl rfl)
theorem dX9_isOne_31 : decode cX9_isOne 31 = .ok (.ixor, 1) := dk_130 (dk_at dksX9_isOne_1 9 rfl rfl)
theorem dX9_isOne_32 : decode cX9_isOne 32 = .ok (.iastore, 1) := dk_79 (dk_at dksX9_isOne_1 10 rfl rfl)
theorem dX9_isOne_33 : decode cX9_isOne 33 = .ok (.aload_n 0, 1) := dk_42 (dk_at dksX9_isOne_1 11 rfl rfl)
theorem dX9_isOne_34 : decode cX9_isOne 34 = .ok (.getfield 1, 3) := dk_180 0 1 (dk_at dksX9_isOne_1 12 rfl rfl)
theorem dX9_isOne_37 : decode cX9_isOne 37 = .ok (.invokevirtual 23, 3) := dk_182 0 23 (dk_at dksX9_isOne_1 15 rfl rfl)
theorem dX9_isOne_40 : decode cX9_isOne 40 = .ok (.ifCond .ne 7, 3) := dk_154 0 7 (dk_at dksX9_isOne_1 18 rfl rfl)
theorem dX9_isOne_43 : decode cX9_isOne 43 = .ok (.iconst 1, 1) := dk_4 (dk_at dksX9_isOne_1 21 rfl rfl)
theorem dX9_isOne_44 : decode cX9_isOne 44 = .ok (.goto 4, 3) := dk_167 0 4 (dk_at dksX9_isOne_2 0 rfl rfl)
theorem dX9_isOne_47 : decode cX9_isOne 47 = .ok (.iconst 0, 1) := dk_3 (dk_at dksX9_isOne_2 3 rfl rfl)
theorem dX9_isOne_48 : decode cX9_isOne 48 = .ok (.istore_n 3, 1) := dk_62 (dk_at dksX9_isOne_2 4 rfl rfl)
theorem dX9_isOne_49 : decode cX9_isOne 49 = .ok (.aload_n 0, 1) := dk_42 (dk_at dksX9_isOne_2 5 rfl rfl)
theorem dX9_isOne_50 : decode cX9_isOne 50 = .ok (.getfield 1, 3) := dk_180 0 1 (dk_at dksX9_isOne_2 6 rfl rfl)
theorem dX9_isOne_53 : decode cX9_isOne 53 = .ok (.getfield 13, 3) := dk_180 0 13 (dk_at dksX9_isOne_2 9 rfl rfl)
theorem dX9_isOne_56 : decode cX9_isOne 56 = .ok (.iload_n 1, 1) := dk_27 (dk_at dksX9_isOne_2 12 rfl rfl)
theorem dX9_isOne_57 : decode cX9_isOne 57 = .ok (.dup2, 1) := dk_92 (dk_at dksX9_isOne_2 13 rfl rfl)
theorem dX9_isOne_58 : decode cX9_isOne 58 = .ok (.iaload, 1) := dk_46 (dk_at dksX9_isOne_2 14 rfl rfl)
theorem dX9_isOne_59 : decode cX9_isOne 59 = .ok (.iconst 1, 1) := dk_4 (dk_at dksX9_isOne_2 15 rfl rfl)
theorem dX9_isOne_60 : decode cX9_isOne 60 = .ok (.iload_n 2, 1) := dk_28 (dk_at dksX9_isOne_2 16 rfl rfl)
theorem dX9_isOne_61 : decode cX9_isOne 61 = .ok (.ishl, 1) := dk_120 (dk_at dksX9_isOne_2 17 rfl rfl)
theorem dX9_isOne_62 : decode cX9_isOne 62 = .ok (.ixor, 1) := dk_130 (dk_at dksX9_isOne_2 18 rfl rfl)
theorem dX9_isOne_63 : decode cX9_isOne 63 = .ok (.iastore, 1) := dk_79 (dk_at dksX9_isOne_2 19 rfl rfl)
theorem dX9_isOne_64 : decode cX9_isOne 64 = .ok (.iload_n 3, 1) := dk_29 (dk_at dksX9_isOne_2 20 rfl rfl)
theorem dX9_isOne_65 : decode cX9_isOne 65 = .ok (.ireturn, 1) := dk_172 (dk_at dksX9_isOne_2 21 rfl rfl)
theorem q88 : (Jvm.Cond.initialized "CallRounds$Bridges") ∈ lw_all := lw_g (lw_at lw_m1 29 rfl) rfl
theorem q134 : (Jvm.Cond.fieldLinkNest "CallRounds$Bridges" (13 : Nat) "CallRounds" "told" "[I" "CallRounds") ∈ lw_tbl := lw_at lw_m1 75 rfl
theorem q381 : (Jvm.Cond.selects "CallRounds$Bridges" ({ cls := "java/lang/Object", name := "getClass", desc := "()Ljava/lang/Class;" } : Jvm.MethodName) ({ cls := "java/lang/Object", name := "getClass", desc := "()Ljava/lang/Class;" } : Jvm.MethodName)) ∈ lw_all := lw_g (lw_at lw_m2 82 rfl) rfl
theorem q564 : (Jvm.Cond.instantiable "CallRounds$Bridges" (2 : Nat)) ∈ lw_all := lw_g (lw_at lw_m3 25 rfl) rfl
theorem q566 : (Jvm.Cond.instanceMethod ({ cls := "CallRounds$Bridges", name := "<init>", desc := "(LCallRounds;)V" } : Jvm.MethodName)) ∈ lw_all := lw_g (lw_at lw_m3 27 rfl) rfl
theorem q567 : (Jvm.Cond.code ({ cls := "CallRounds$Bridges", name := "<init>", desc := "(LCallRounds;)V" } : Jvm.MethodName) prog_3_method_1_code (2 : Nat) (Option.none : Option Jvm.ClassFile.FieldType)) ∈ lw_all := lw_g (lw_at lw_m3 28 rfl) rfl
theorem q568 : (Jvm.Cond.methodLinkNest "CallRounds$Bridges" (7 : Nat) ({ cls := "CallRounds$Search", name := "<init>", desc := "(LCallRounds;)V" } : Jvm.MethodName) "CallRounds") ∈ lw_tbl := lw_at lw_m3 29 rfl
theorem q572 : (Jvm.Cond.fieldLink "CallRounds$Bridges" (1 : Nat) "CallRounds$Bridges" "this$0" "LCallRounds;") ∈ lw_all := lw_g (lw_at lw_m3 33 rfl) rfl
theorem q574 : (Jvm.Cond.laysFinal "CallRounds$Bridges" "CallRounds$Bridges" "this$0" "LCallRounds;") ∈ lw_all := lw_g (lw_at lw_m3 35 rfl) rfl
theorem q575 : (Jvm.Cond.soleField "CallRounds$Bridges" "this$0") ∈ lw_all := lw_g (lw_at lw_m3 36 rfl) rfl
theorem q576 : (Jvm.Cond.laysFinal "CallRounds$Bridges" "CallRounds$Search" "this$0" "LCallRounds;") ∈ lw_all := lw_g (lw_at lw_m3 37 rfl) rfl
theorem q578 : (Jvm.Cond.superclass "CallRounds$Bridges" "CallRounds$Search") ∈ lw_all := lw_g (lw_at lw_m3 39 rfl) rfl
theorem q580 : (Jvm.Cond.sameMethod "CallRounds$Bridges" "CallRounds$Search" "tells" "(I)I") ∈ lw_all := lw_g (lw_at lw_m3 41 rfl) rfl
theorem q582 : (Jvm.Cond.selects "CallRounds$Bridges" ({ cls := "CallRounds$Bridges", name := "tells", desc := "(I)I" } : Jvm.MethodName) ({ cls := "CallRounds$Search", name := "tells", desc := "(I)I" } : Jvm.MethodName)) ∈ lw_all := lw_g (lw_at lw_m3 43 rfl) rfl
theorem q588 : (Jvm.Cond.selects "CallRounds$Bridges" ({ cls := "CallRounds$Search", name := "isOne", desc := "(II)Z" } : Jvm.MethodName) ({ cls := "CallRounds$Bridges", name := "isOne", desc := "(II)Z" } : Jvm.MethodName)) ∈ lw_all := lw_g (lw_at lw_m3 49 rfl) rfl
theorem q589 : (Jvm.Cond.instanceMethod ({ cls := "CallRounds$Bridges", name := "isOne", desc := "(II)Z" } : Jvm.MethodName)) ∈ lw_all := lw_g (lw_at lw_m3 50 rfl) rfl
theorem q590 : (Jvm.Cond.code ({ cls := "CallRounds$Bridges", name := "isOne", desc := "(II)Z" } : Jvm.MethodName) prog_3_method_2_code (4 : Nat) (Option.some Jvm.ClassFile.FieldType.boolean)) ∈ lw_all := lw_g (lw_at lw_m3 51 rfl) rfl
theorem q591 : (Jvm.Cond.methodLinkNest "CallRounds$Bridges" (19 : Nat) ({ cls := "CallRounds", name := "isIn", desc := "(II)Z" } : Jvm.MethodName) "CallRounds") ∈ lw_tbl := lw_at lw_m3 52 rfl
theorem q592 : (Jvm.Cond.methodLinkNest "CallRounds$Bridges" (23 : Nat) ({ cls := "CallRounds", name := "isJoined", desc := "()Z" } : Jvm.MethodName) "CallRounds") ∈ lw_tbl := lw_at lw_m3 53 rfl
theorem q1564 : (Jvm.Cond.castable "CallRounds$Bridges" "java/lang/Object") ∈ lw_tbl := lw_at lw_m7 65 rfl
theorem in_X9 : ∀ w ∈ wsX90, w ∈ lw_all := lw_in wsX90 [576, 574] (by decide +kernel) (by decide +kernel)
/-! CallRounds$Mends -/
set_option maxRecDepth 100000
def RX10 : String := "CallRounds$Mends"
def TX10 : u_T := fun k => match k with
  | 0 => ("CallRounds$Search", "this$0", "LCallRounds;", true)
  | 1 => ("CallRounds$Mends", "rule", "I", true)
  | _ => ("CallRounds$Mends", "this$0", "LCallRounds;", true)
def tyX10 : Nat → FieldType := fun k => match k with
  | 0 => .object "CallRounds"
  | 1 => .int
  | _ => .object "CallRounds"
abbrev wsX100 : List Cond := u_ws RX10 TX10 3
-- two fields of one name: no nmX10
theorem tyX10_ok : ∀ k, k < 3 → parseFieldDescriptor (TX10 k).2.2.1 = some (tyX10 k) := by decide +kernel
abbrev cX10_isOne : ByteArray := prog_6_method_2_code
def yX10_isOne : MethodName := ⟨RX10, "isOne", "(II)Z"⟩
def dkwX10_isOne_3 : List UInt8 := [29, 172]
abbrev dktX10_isOne_3 : List UInt8 := dkwX10_isOne_3 ++ []
def dkwX10_isOne_2 : List UInt8 := [160, 0, 7, 4, 167, 0, 4, 3, 62, 42, 180, 0, 1, 180, 0, 17, 27, 92, 46, 4, 28, 120, 130, 79]
abbrev dktX10_isOne_2 : List UInt8 := dkwX10_isOne_2 ++ dktX10_isOne_3
def dkwX10_isOne_1 : List UInt8 := [180, 0, 17, 27, 92, 46, 4, 28, 120, 130, 79, 42, 180, 0, 1, 42, 180, 0, 13, 182, 0, 27, 5]
abbrev dktX10_isOne_1 : List UInt8 := dkwX10_isOne_1 ++ dktX10_isOne_2
def dkwX10_isOne_0 : List UInt8 := [42, 180, 0, 1, 180, 0, 17, 27, 46, 28, 184, 0, 23, 153, 0, 5, 3, 172, 42, 180, 0, 1]
abbrev dktX10_isOne_0 : List UInt8 := dkwX10_isOne_0 ++ dktX10_isOne_1
theorem dksX10_isOne_0 : cX10_isOne.data.toList.drop 0 = dktX10_isOne_0 := by decide +kernel
theorem dksX10_isOne_1 : cX10_isOne.data.toList.drop 22 = dktX10_isOne_1 := dk_seg dksX10_isOne_0 22 rfl rfl
theorem dksX10_isOne_2 : cX10_isOne.data.toList.drop 45 = dktX10_isOne_2 := dk_seg dksX10_isOne_1 23 rfl rfl
theorem dksX10_isOne_3 : cX10_isOne.data.toList.drop 69 = dktX10_isOne_3 := dk_seg dksX10_isOne_2 24 rfl rfl
theorem dX10_isOne_0 : decode cX10_isOne 0 = .ok (.aload_n 0, 1) := dk_42 (dk_at dksX10_isOne_0 0 rfl rfl)
theorem dX10_isOne_1 : decode cX10_isOne 1 = .ok (.getfield 1, 3) := dk_180 0 1 (dk_at dksX10_isOne_0 1 rfl rfl)
theorem dX10_isOne_4 : decode cX10_isOne 4 = .ok (.getfield 17, 3) := dk_180 0 17 (dk_at dksX10_isOne_0 4 rfl rfl)
theorem dX10_isOne_7 : decode cX10_isOne 7 = .ok (.iload_n 1, 1) := dk_27 (dk_at dksX10_isOne_0 7 rfl rfl)
theorem dX10_isOne_8 : decode cX10_isOne 8 = .ok (.iaload, 1) := dk_46 (dk_at dksX10_isOne_0 8 rfl rfl)
theorem dX10_isOne_9 : decode cX10_isOne 9 = .ok (.iload_n 2, 1) := dk_28 (dk_at dksX10_isOne_0 9 rfl rfl)
theorem dX10_isOne_10 : decode cX10_isOne 10 = .ok (.invokestatic 23, 3) := dk_184 0 23 (dk_at dksX10_isOne_0 10 rfl rfl)
theorem dX10_isOne_13 : decode cX10_isOne 13 = .ok (.ifCond .eq 5, 3) := dk_153 0 5 (dk_at dksX10_isOne_0 13 rfl rfl)
theorem dX10_isOne_16 : decode cX10_isOne 16 = .ok (.iconst 0, 1) := dk_3 (dk_at dksX10_isOne_0 16 rfl rfl)
theorem dX10_isOne_17 : decode cX10_isOne 17 = .ok (.ireturn, 1) := dk_172 (dk_at dksX10_isOne_0 17 rfl rfl)
theorem dX10_isOne_18 : decode cX10_isOne 18 = .ok (.aload_n 0, 1) := dk_42 (dk_at dksX10_isOne_0 18 rfl rfl)
theorem dX10_isOne_19 : decode cX10_isOne 19 = .ok (.getfield 1, 3) := dk_180 0 1 (dk_at dksX10_isOne_0 19 rfl rfl)
theorem dX10_isOne_22 : decode cX10_isOne 22 = .ok (.getfield 17, 3) := dk_180 0 17 (dk_at dksX10_isOne_1 0 rfl rfl)
theorem dX10_isOne_25 : decode cX10_isOne 25 = .ok (.iload_n 1, 1) := dk_27 (dk_at dksX10_isOne_1 3 rfl rfl)
theorem dX10_isOne_26 : decode cX10_isOne 26 = .ok (.dup2, 1) := dk_92 (dk_at dksX10_isOne_1 4 rfl rfl)
theorem dX10_isOne_27 : decode cX10_isOne 27 = .ok (.iaload, 1) := dk_46 (dk_at dksX10_isOne_1 5 rfl rfl)
theorem dX10_isOne_28 : decode cX10_isOne 28 = .ok (.iconst 1, 1) := dk_4 (dk_at dksX10_isOne_1 6 rfl rfl)
theorem dX10_isOne_29 : decode cX10_isOne 29 = .ok (.iload_n 2, 1) := dk_28 (dk_at dksX10_isOne_1 7 rfl rfl)
theorem dX10_isOne_30 : decode cX10_isOne 30 = .ok (.ishl, 1) := dk_120 (dk_at dksX10_isOne_1 8 rfl rfl)
theorem dX10_isOne_31 : decode cX10_isOne 31 = .ok (.ixor, 1) := dk_130 (dk_at dksX10_isOne_1 9 rfl rfl)
theorem dX10_isOne_32 : decode cX10_isOne 32 = .ok (.iastore, 1) := dk_79 (dk_at dksX10_isOne_1 10 rfl rfl)
theorem dX10_isOne_33 : decode cX10_isOne 33 = .ok (.aload_n 0, 1) := dk_42 (dk_at dksX10_isOne_1 11 rfl rfl)
theorem dX10_isOne_34 : decode cX10_isOne 34 = .ok (.getfield 1, 3) := dk_180 0 1 (dk_at dksX10_isOne_1 12 rfl rfl)
theorem dX10_isOne_37 : decode cX10_isOne 37 = .ok (.aload_n 0, 1) := dk_42 (dk_at dksX10_isOne_1 15 rfl rfl)
theorem dX10_isOne_38 : decode cX10_isOne 38 = .ok (.getfield 13, 3) := dk_180 0 13 (dk_at dksX10_isOne_1 16 rfl rfl)
theorem dX10_isOne_41 : decode cX10_isOne 41 = .ok (.invokevirtual 27, 3) := dk_182 0 27 (dk_at dksX10_isOne_1 19 rfl rfl)
theorem dX10_isOne_44 : decode cX10_isOne 44 = .ok (.iconst 2, 1) := dk_5 (dk_at dksX10_isOne_1 22 rfl rfl)
theorem dX10_isOne_45 : decode cX10_isOne 45 = .ok (.if_icmp .ne 7, 3) := dk_160 0 7 (dk_at dksX10_isOne_2 0 rfl rfl)
theorem dX10_isOne_48 : decode cX10_isOne 48 = .ok (.iconst 1, 1) := dk_4 (dk_at dksX10_isOne_2 3 rfl rfl)
theorem dX10_isOne_49 : decode cX10_isOne 49 = .ok (.goto 4, 3) := dk_167 0 4 (dk_at dksX10_isOne_2 4 rfl rfl)
theorem dX10_isOne_52 : decode cX10_isOne 52 = .ok (.iconst 0, 1) := dk_3 (dk_at dksX10_isOne_2 7 rfl rfl)
theorem dX10_isOne_53 : decode cX10_isOne 53 = .ok (.istore_n 3, 1) := dk_62 (dk_at dksX10_isOne_2 8 rfl rfl)
theorem dX10_isOne_54 : decode cX10_isOne 54 = .ok (.aload_n 0, 1) := dk_42 (dk_at dksX10_isOne_2 9 rfl rfl)
theorem dX10_isOne_55 : decode cX10_isOne 55 = .ok (.getfield 1, 3) := dk_180 0 1 (dk_at dksX10_isOne_2 10 rfl rfl)
theorem dX10_isOne_58 : decode cX10_isOne 58 = .ok (.getfield 17, 3) := dk_180 0 17 (dk_at dksX10_isOne_2 13 rfl rfl)
theorem dX10_isOne_61 : decode cX10_isOne 61 = .ok (.iload_n 1, 1) := dk_27 (dk_at dksX10_isOne_2 16 rfl rfl)
theorem dX10_isOne_62 : decode cX10_isOne 62 = .ok (.dup2, 1) := dk_92 (dk_at dksX10_isOne_2 17 rfl rfl)
theorem dX10_isOne_63 : decode cX10_isOne 63 = .ok (.iaload, 1) := dk_46 (dk_at dksX10_isOne_2 18 rfl rfl)
theorem dX10_isOne_64 : decode cX10_isOne 64 = .ok (.iconst 1, 1) := dk_4 (dk_at dksX10_isOne_2 19 rfl rfl)
theorem dX10_isOne_65 : decode cX10_isOne 65 = .ok (.iload_n 2, 1) := dk_28 (dk_at dksX10_isOne_2 20 rfl rfl)
theorem dX10_isOne_66 : decode cX10_isOne 66 = .ok (.ishl, 1) := dk_120 (dk_at dksX10_isOne_2 21 rfl rfl)
theorem dX10_isOne_67 : decode cX10_isOne 67 = .ok (.ixor, 1) := dk_130 (dk_at dksX10_isOne_2 22 rfl rfl)
theorem dX10_isOne_68 : decode cX10_isOne 68 = .ok (.iastore, 1) := dk_79 (dk_at dksX10_isOne_2 23 rfl rfl)
theorem dX10_isOne_69 : decode cX10_isOne 69 = .ok (.iload_n 3, 1) := dk_29 (dk_at dksX10_isOne_3 0 rfl rfl)
theorem dX10_isOne_70 : decode cX10_isOne 70 = .ok (.ireturn, 1) := dk_172 (dk_at dksX10_isOne_3 1 rfl rfl)
abbrev cX10_init : ByteArray := prog_6_method_1_code
def yX10_init : MethodName := ⟨RX10, "<init>", "(LCallRounds;I)V"⟩
def dkwX10_init_0 : List UInt8 := [42, 43, 181, 0, 1, 42, 43, 183, 0, 7, 42, 28, 181, 0, 13, 177]
abbrev dktX10_init_0 : List UInt8 := dkwX10_init_0 ++ []
theorem dksX10_init_0 : cX10_init.data.toList.drop 0 = dktX10_init_0 := by decide +kernel
theorem dX10_init_0 : decode cX10_init 0 = .ok (.aload_n 0, 1) := dk_42 (dk_at dksX10_init_0 0 rfl rfl)
theorem dX10_init_1 : decode cX10_init 1 = .ok (.aload_n 1, 1) := dk_43 (dk_at dksX10_init_0 1 rfl rfl)
theorem dX10_init_2 : decode cX10_init 2 = .ok (.putfield 1, 3) := dk_181 0 1 (dk_at dksX10_init_0 2 rfl rfl)
theorem dX10_init_5 : decode cX10_init 5 = .ok (.aload_n 0, 1) := dk_42 (dk_at dksX10_init_0 5 rfl rfl)
theorem dX10_init_6 : decode cX10_init 6 = .ok (.aload_n 1, 1) := dk_43 (dk_at dksX10_init_0 6 rfl rfl)
theorem dX10_init_7 : decode cX10_init 7 = .ok (.invokespecial 7, 3) := dk_183 0 7 (dk_at dksX10_init_0 7 rfl rfl)
theorem dX10_init_10 : decode cX10_init 10 = .ok (.aload_n 0, 1) := dk_42 (dk_at dksX10_init_0 10 rfl rfl)
theorem dX10_init_11 : decode cX10_init 11 = .ok (.iload_n 2, 1) := dk_28 (dk_at dksX10_init_0 11 rfl rfl)
theorem dX10_init_12 : decode cX10_init 12 = .ok (.putfield 13, 3) := dk_181 0 13 (dk_at dksX10_init_0 12 rfl rfl)
theorem dX10_init_15 : decode cX10_init 15 = .ok (.return_, 1) := dk_177 (dk_at dksX10_init_0 15 rfl rfl)
theorem q89 : (Jvm.Cond.initialized "CallRounds$Mends") ∈ lw_all := lw_g (lw_at lw_m1 30 rfl) rfl
theorem q135 : (Jvm.Cond.fieldLinkNest "CallRounds$Mends" (17 : Nat) "CallRounds" "told" "[I" "CallRounds") ∈ lw_tbl := lw_at lw_m1 76 rfl
theorem q383 : (Jvm.Cond.selects "CallRounds$Mends" ({ cls := "java/lang/Object", name := "getClass", desc := "()Ljava/lang/Class;" } : Jvm.MethodName) ({ cls := "java/lang/Object", name := "getClass", desc := "()Ljava/lang/Class;" } : Jvm.MethodName)) ∈ lw_all := lw_g (lw_at lw_m2 84 rfl) rfl
theorem q593 : (Jvm.Cond.selects "CallRounds$Mends" ({ cls := "CallRounds$Search", name := "isOne", desc := "(II)Z" } : Jvm.MethodName) ({ cls := "CallRounds$Mends", name := "isOne", desc := "(II)Z" } : Jvm.MethodName)) ∈ lw_all := lw_g (lw_at lw_m3 54 rfl) rfl
theorem q594 : (Jvm.Cond.instanceMethod ({ cls := "CallRounds$Mends", name := "isOne", desc := "(II)Z" } : Jvm.MethodName)) ∈ lw_all := lw_g (lw_at lw_m3 55 rfl) rfl
theorem q595 : (Jvm.Cond.code ({ cls := "CallRounds$Mends", name := "isOne", desc := "(II)Z" } : Jvm.MethodName) prog_6_method_2_code (4 : Nat) (Option.some Jvm.ClassFile.FieldType.boolean)) ∈ lw_all := lw_g (lw_at lw_m3 56 rfl) rfl
theorem q596 : (Jvm.Cond.methodLinkNest "CallRounds$Mends" (23 : Nat) ({ cls := "CallRounds", name := "isIn", desc := "(II)Z" } : Jvm.MethodName) "CallRounds") ∈ lw_tbl := lw_at lw_m3 57 rfl
theorem q597 : (Jvm.Cond.methodLinkNest "CallRounds$Mends" (27 : Nat) ({ cls := "CallRounds", name := "verdictFirst", desc := "(I)I" } : Jvm.MethodName) "CallRounds") ∈ lw_tbl := lw_at lw_m3 58 rfl
theorem q606 : (Jvm.Cond.instantiable "CallRounds$Mends" (3 : Nat)) ∈ lw_all := lw_g (lw_at lw_m3 67 rfl) rfl
theorem q608 : (Jvm.Cond.instanceMethod ({ cls := "CallRounds$Mends", name := "<init>", desc := "(LCallRounds;I)V" } : Jvm.MethodName)) ∈ lw_all := lw_g (lw_at lw_m3 69 rfl) rfl
theorem q609 : (Jvm.Cond.code ({ cls := "CallRounds$Mends", name := "<init>", desc := "(LCallRounds;I)V" } : Jvm.MethodName) prog_6_method_1_code (3 : Nat) (Option.none : Option Jvm.ClassFile.FieldType)) ∈ lw_all := lw_g (lw_at lw_m3 70 rfl) rfl
theorem q610 : (Jvm.Cond.methodLinkNest "CallRounds$Mends" (7 : Nat) ({ cls := "CallRounds$Search", name := "<init>", desc := "(LCallRounds;)V" } : Jvm.MethodName) "CallRounds") ∈ lw_tbl := lw_at lw_m3 71 rfl
theorem q611 : (Jvm.Cond.fieldLink "CallRounds$Mends" (13 : Nat) "CallRounds$Mends" "rule" "I") ∈ lw_all := lw_g (lw_at lw_m3 72 rfl) rfl
theorem q612 : (Jvm.Cond.fieldLink "CallRounds$Mends" (1 : Nat) "CallRounds$Mends" "this$0" "LCallRounds;") ∈ lw_all := lw_g (lw_at lw_m3 73 rfl) rfl
theorem q613 : (Jvm.Cond.laysFinal "CallRounds$Mends" "CallRounds$Mends" "rule" "I") ∈ lw_all := lw_g (lw_at lw_m3 74 rfl) rfl
theorem q614 : (Jvm.Cond.soleField "CallRounds$Mends" "rule") ∈ lw_all := lw_g (lw_at lw_m3 75 rfl) rfl
theorem q615 : (Jvm.Cond.laysFinal "CallRounds$Mends" "CallRounds$Mends" "this$0" "LCallRounds;") ∈ lw_all := lw_g (lw_at lw_m3 76 rfl) rfl
theorem q616 : (Jvm.Cond.soleField "CallRounds$Mends" "this$0") ∈ lw_all := lw_g (lw_at lw_m3 77 rfl) rfl
theorem q617 : (Jvm.Cond.laysFinal "CallRounds$Mends" "CallRounds$Search" "this$0" "LCallRounds;") ∈ lw_all := lw_g (lw_at lw_m3 78 rfl) rfl
theorem q618 : (Jvm.Cond.superclass "CallRounds$Mends" "CallRounds$Search") ∈ lw_all := lw_g (lw_at lw_m3 79 rfl) rfl
theorem q620 : (Jvm.Cond.sameMethod "CallRounds$Mends" "CallRounds$Search" "tells" "(I)I") ∈ lw_all := lw_g (lw_at lw_m3 81 rfl) rfl
theorem q621 : (Jvm.Cond.selects "CallRounds$Mends" ({ cls := "CallRounds$Mends", name := "tells", desc := "(I)I" } : Jvm.MethodName) ({ cls := "CallRounds$Search", name := "tells", desc := "(I)I" } : Jvm.MethodName)) ∈ lw_all := lw_g (lw_at lw_m3 82 rfl) rfl
theorem q1565 : (Jvm.Cond.castable "CallRounds$Mends" "java/lang/Object") ∈ lw_tbl := lw_at lw_m7 66 rfl
theorem in_X10 : ∀ w ∈ wsX100, w ∈ lw_all := lw_in wsX100 [617, 613, 615] (by decide +kernel) (by decide +kernel)
/-! CallRounds$Sheet -/
set_option maxRecDepth 100000
def RX11 : String := "CallRounds$Sheet"
def TX11 : u_T := fun k => match k with
  | _ => ("CallRounds$Sheet", "row", "Ljava/lang/Object;", true)
def tyX11 : Nat → FieldType := fun k => match k with
  | _ => .object "java/lang/Object"
abbrev wsX110 : List Cond := u_ws RX11 TX11 1
theorem nmX11 : ∀ a, a < 1 → ∀ b, b < 1 → a ≠ b → (TX11 a).2.1 ≠ (TX11 b).2.1 := by decide +kernel
theorem tyX11_ok : ∀ k, k < 1 → parseFieldDescriptor (TX11 k).2.2.1 = some (tyX11 k) := by decide +kernel
abbrev cX11_init : ByteArray := prog_12_method_1_code
def yX11_init : MethodName := ⟨RX11, "<init>", "(Ljava/lang/Object;)V"⟩
def dkwX11_init_0 : List UInt8 := [42, 183, 0, 1, 42, 43, 181, 0, 7, 177]
abbrev dktX11_init_0 : List UInt8 := dkwX11_init_0 ++ []
theorem dksX11_init_0 : cX11_init.data.toList.drop 0 = dktX11_init_0 := by decide +kernel
theorem dX11_init_0 : decode cX11_init 0 = .ok (.aload_n 0, 1) := dk_42 (dk_at dksX11_init_0 0 rfl rfl)
theorem dX11_init_1 : decode cX11_init 1 = .ok (.invokespecial 1, 3) := dk_183 0 1 (dk_at dksX11_init_0 1 rfl rfl)
theorem dX11_init_4 : decode cX11_init 4 = .ok (.aload_n 0, 1) := dk_42 (dk_at dksX11_init_0 4 rfl rfl)
theorem dX11_init_5 : decode cX11_init 5 = .ok (.aload_n 1, 1) := dk_43 (dk_at dksX11_init_0 5 rfl rfl)
theorem dX11_init_6 : decode cX11_init 6 = .ok (.putfield 7, 3) := dk_181 0 7 (dk_at dksX11_init_0 6 rfl rfl)
theorem dX11_init_9 : decode cX11_init 9 = .ok (.return_, 1) := dk_177 (dk_at dksX11_init_0 9 rfl rfl)
theorem q90 : (Jvm.Cond.initialized "CallRounds$Sheet") ∈ lw_all := lw_g (lw_at lw_m1 31 rfl) rfl
theorem q388 : (Jvm.Cond.selects "CallRounds$Sheet" ({ cls := "java/lang/Object", name := "getClass", desc := "()Ljava/lang/Class;" } : Jvm.MethodName) ({ cls := "java/lang/Object", name := "getClass", desc := "()Ljava/lang/Class;" } : Jvm.MethodName)) ∈ lw_all := lw_g (lw_at lw_m2 89 rfl) rfl
theorem q750 : (Jvm.Cond.instantiable "CallRounds$Sheet" (1 : Nat)) ∈ lw_all := lw_g (lw_at lw_m3 211 rfl) rfl
theorem q755 : (Jvm.Cond.instanceMethod ({ cls := "CallRounds$Sheet", name := "<init>", desc := "(Ljava/lang/Object;)V" } : Jvm.MethodName)) ∈ lw_all := lw_g (lw_at lw_m3 216 rfl) rfl
theorem q756 : (Jvm.Cond.code ({ cls := "CallRounds$Sheet", name := "<init>", desc := "(Ljava/lang/Object;)V" } : Jvm.MethodName) prog_12_method_1_code (2 : Nat) (Option.none : Option Jvm.ClassFile.FieldType)) ∈ lw_all := lw_g (lw_at lw_m3 217 rfl) rfl
theorem q757 : (Jvm.Cond.methodLink "CallRounds$Sheet" (1 : Nat) ({ cls := "java/lang/Object", name := "<init>", desc := "()V" } : Jvm.MethodName)) ∈ lw_all := lw_g (lw_at lw_m3 218 rfl) rfl
theorem q758 : (Jvm.Cond.fieldLink "CallRounds$Sheet" (7 : Nat) "CallRounds$Sheet" "row" "Ljava/lang/Object;") ∈ lw_all := lw_g (lw_at lw_m3 219 rfl) rfl
theorem q760 : (Jvm.Cond.laysFinal "CallRounds$Sheet" "CallRounds$Sheet" "row" "Ljava/lang/Object;") ∈ lw_all := lw_g (lw_at lw_m3 221 rfl) rfl
theorem q761 : (Jvm.Cond.soleField "CallRounds$Sheet" "row") ∈ lw_all := lw_g (lw_at lw_m3 222 rfl) rfl
theorem q762 : (Jvm.Cond.superclass "CallRounds$Sheet" "java/lang/Object") ∈ lw_all := lw_g (lw_at lw_m3 223 rfl) rfl
theorem q1549 : (Jvm.Cond.castable "CallRounds$Sheet" "java/lang/Object") ∈ lw_tbl := lw_at lw_m7 50 rfl
theorem in_X11 : ∀ w ∈ wsX110, w ∈ lw_all := lw_in wsX110 [760] (by decide +kernel) (by decide +kernel)
/-! CallRounds$Copying -/
set_option maxRecDepth 100000
def RX12 : String := "CallRounds$Copying"
def TX12 : u_T := fun k => match k with
  | 0 => ("CallRounds$Act", "this$0", "LCallRounds;", true)
  | 1 => ("CallRounds$Copying", "from", "I", true)
  | 2 => ("CallRounds$Copying", "i", "I", true)
  | 3 => ("CallRounds$Copying", "to", "I", true)
  | 4 => ("CallRounds$Copying", "j", "I", true)
  | 5 => ("CallRounds$Copying", "n", "I", true)
  | _ => ("CallRounds$Copying", "this$0", "LCallRounds;", true)
def tyX12 : Nat → FieldType := fun k => match k with
  | 0 => .object "CallRounds"
  | 1 => .int
  | 2 => .int
  | 3 => .int
  | 4 => .int
  | 5 => .int
  | _ => .object "CallRounds"
abbrev wsX120 : List Cond := u_ws RX12 TX12 7
-- two fields of one name: no nmX12
theorem tyX12_ok : ∀ k, k < 7 → parseFieldDescriptor (TX12 k).2.2.1 = some (tyX12 k) := by decide +kernel
abbrev cX12_done : ByteArray := prog_4_method_2_code
def yX12_done : MethodName := ⟨RX12, "done", "()I"⟩
def dkwX12_done_1 : List UInt8 := [182, 0, 29, 42, 180, 0, 23, 42, 180, 0, 26, 184, 0, 35, 42, 180, 0, 26, 172]
abbrev dktX12_done_1 : List UInt8 := dkwX12_done_1 ++ []
def dkwX12_done_0 : List UInt8 := [42, 180, 0, 1, 42, 180, 0, 13, 182, 0, 29, 42, 180, 0, 17, 42, 180, 0, 1, 42, 180, 0, 20]
abbrev dktX12_done_0 : List UInt8 := dkwX12_done_0 ++ dktX12_done_1
theorem dksX12_done_0 : cX12_done.data.toList.drop 0 = dktX12_done_0 := by decide +kernel
theorem dksX12_done_1 : cX12_done.data.toList.drop 23 = dktX12_done_1 := dk_seg dksX12_done_0 23 rfl rfl
theorem dX12_done_0 : decode cX12_done 0 = .ok (.aload_n 0, 1) := dk_42 (dk_at dksX12_done_0 0 rfl rfl)
theorem dX12_done_1 : decode cX12_done 1 = .ok (.getfield 1, 3) := dk_180 0 1 (dk_at dksX12_done_0 1 rfl rfl)
theorem dX12_done_4 : decode cX12_done 4 = .ok (.aload_n 0, 1) := dk_42 (dk_at dksX12_done_0 4 rfl rfl)
theorem dX12_done_5 : decode cX12_done 5 = .ok (.getfield 13, 3) := dk_180 0 13 (dk_at dksX12_done_0 5 rfl rfl)
theorem dX12_done_8 : decode cX12_done 8 = .ok (.invokevirtual 29, 3) := dk_182 0 29 (dk_at dksX12_done_0 8 rfl rfl)
theorem dX12_done_11 : decode cX12_done 11 = .ok (.aload_n 0, 1) := dk_42 (dk_at dksX12_done_0 11 rfl rfl)
theorem dX12_done_12 : decode cX12_done 12 = .ok (.getfield 17, 3) := dk_180 0 17 (dk_at dksX12_done_0 12 rfl rfl)
theorem dX12_done_15 : decode cX12_done 15 = .ok (.aload_n 0, 1) := dk_42 (dk_at dksX12_done_0 15 rfl rfl)
theorem dX12_done_16 : decode cX12_done 16 = .ok (.getfield 1, 3) := dk_180 0 1 (dk_at dksX12_done_0 16 rfl rfl)
theorem dX12_done_19 : decode cX12_done 19 = .ok (.aload_n 0, 1) := dk_42 (dk_at dksX12_done_0 19 rfl rfl)
theorem dX12_done_20 : decode cX12_done 20 = .ok (.getfield 20, 3) := dk_180 0 20 (dk_at dksX12_done_0 20 rfl rfl)
theorem dX12_done_23 : decode cX12_done 23 = .ok (.invokevirtual 29, 3) := dk_182 0 29 (dk_at dksX12_done_1 0 rfl rfl)
theorem dX12_done_26 : decode cX12_done 26 = .ok (.aload_n 0, 1) := dk_42 (dk_at dksX12_done_1 3 rfl rfl)
theorem dX12_done_27 : decode cX12_done 27 = .ok (.getfield 23, 3) := dk_180 0 23 (dk_at dksX12_done_1 4 rfl rfl)
theorem dX12_done_30 : decode cX12_done 30 = .ok (.aload_n 0, 1) := dk_42 (dk_at dksX12_done_1 7 rfl rfl)
theorem dX12_done_31 : decode cX12_done 31 = .ok (.getfield 26, 3) := dk_180 0 26 (dk_at dksX12_done_1 8 rfl rfl)
theorem dX12_done_34 : decode cX12_done 34 = .ok (.invokestatic 35, 3) := dk_184 0 35 (dk_at dksX12_done_1 11 rfl rfl)
theorem dX12_done_37 : decode cX12_done 37 = .ok (.aload_n 0, 1) := dk_42 (dk_at dksX12_done_1 14 rfl rfl)
theorem dX12_done_38 : decode cX12_done 38 = .ok (.getfield 26, 3) := dk_180 0 26 (dk_at dksX12_done_1 15 rfl rfl)
theorem dX12_done_41 : decode cX12_done 41 = .ok (.ireturn, 1) := dk_172 (dk_at dksX12_done_1 18 rfl rfl)
abbrev cX12_init : ByteArray := prog_4_method_1_code
def yX12_init : MethodName := ⟨RX12, "<init>", "(LCallRounds;IIIII)V"⟩
def dkwX12_init_1 : List UInt8 := [181, 0, 20, 42, 21, 5, 181, 0, 23, 42, 21, 6, 181, 0, 26, 177]
abbrev dktX12_init_1 : List UInt8 := dkwX12_init_1 ++ []
def dkwX12_init_0 : List UInt8 := [42, 43, 181, 0, 1, 42, 43, 183, 0, 7, 42, 28, 181, 0, 13, 42, 29, 181, 0, 17, 42, 21, 4]
abbrev dktX12_init_0 : List UInt8 := dkwX12_init_0 ++ dktX12_init_1
theorem dksX12_init_0 : cX12_init.data.toList.drop 0 = dktX12_init_0 := by decide +kernel
theorem dksX12_init_1 : cX12_init.data.toList.drop 23 = dktX12_init_1 := dk_seg dksX12_init_0 23 rfl rfl
theorem dX12_init_0 : decode cX12_init 0 = .ok (.aload_n 0, 1) := dk_42 (dk_at dksX12_init_0 0 rfl rfl)
theorem dX12_init_1 : decode cX12_init 1 = .ok (.aload_n 1, 1) := dk_43 (dk_at dksX12_init_0 1 rfl rfl)
theorem dX12_init_2 : decode cX12_init 2 = .ok (.putfield 1, 3) := dk_181 0 1 (dk_at dksX12_init_0 2 rfl rfl)
theorem dX12_init_5 : decode cX12_init 5 = .ok (.aload_n 0, 1) := dk_42 (dk_at dksX12_init_0 5 rfl rfl)
theorem dX12_init_6 : decode cX12_init 6 = .ok (.aload_n 1, 1) := dk_43 (dk_at dksX12_init_0 6 rfl rfl)
theorem dX12_init_7 : decode cX12_init 7 = .ok (.invokespecial 7, 3) := dk_183 0 7 (dk_at dksX12_init_0 7 rfl rfl)
theorem dX12_init_10 : decode cX12_init 10 = .ok (.aload_n 0, 1) := dk_42 (dk_at dksX12_init_0 10 rfl rfl)
theorem dX12_init_11 : decode cX12_init 11 = .ok (.iload_n 2, 1) := dk_28 (dk_at dksX12_init_0 11 rfl rfl)
theorem dX12_init_12 : decode cX12_init 12 = .ok (.putfield 13, 3) := dk_181 0 13 (dk_at dksX12_init_0 12 rfl rfl)
theorem dX12_init_15 : decode cX12_init 15 = .ok (.aload_n 0, 1) := dk_42 (dk_at dksX12_init_0 15 rfl rfl)
theorem dX12_init_16 : decode cX12_init 16 = .ok (.iload_n 3, 1) := dk_29 (dk_at dksX12_init_0 16 rfl rfl)
theorem dX12_init_17 : decode cX12_init 17 = .ok (.putfield 17, 3) := dk_181 0 17 (dk_at dksX12_init_0 17 rfl rfl)
theorem dX12_init_20 : decode cX12_init 20 = .ok (.aload_n 0, 1) := dk_42 (dk_at dksX12_init_0 20 rfl rfl)
theorem dX12_init_21 : decode cX12_init 21 = .ok (.iload 4, 2) := dk_21 4 (dk_at dksX12_init_0 21 rfl rfl)
theorem dX12_init_23 : decode cX12_init 23 = .ok (.putfield 20, 3) := dk_181 0 20 (dk_at dksX12_init_1 0 rfl rfl)
theorem dX12_init_26 : decode cX12_init 26 = .ok (.aload_n 0, 1) := dk_42 (dk_at dksX12_init_1 3 rfl rfl)
theorem dX12_init_27 : decode cX12_init 27 = .ok (.iload 5, 2) := dk_21 5 (dk_at dksX12_init_1 4 rfl rfl)
theorem dX12_init_29 : decode cX12_init 29 = .ok (.putfield 23, 3) := dk_181 0 23 (dk_at dksX12_init_1 6 rfl rfl)
theorem dX12_init_32 : decode cX12_init 32 = .ok (.aload_n 0, 1) := dk_42 (dk_at dksX12_init_1 9 rfl rfl)
theorem dX12_init_33 : decode cX12_init 33 = .ok (.iload 6, 2) := dk_21 6 (dk_at dksX12_init_1 10 rfl rfl)
theorem dX12_init_35 : decode cX12_init 35 = .ok (.putfield 26, 3) := dk_181 0 26 (dk_at dksX12_init_1 12 rfl rfl)
theorem dX12_init_38 : decode cX12_init 38 = .ok (.return_, 1) := dk_177 (dk_at dksX12_init_1 15 rfl rfl)
theorem q91 : (Jvm.Cond.initialized "CallRounds$Copying") ∈ lw_all := lw_g (lw_at lw_m1 32 rfl) rfl
theorem q382 : (Jvm.Cond.selects "CallRounds$Copying" ({ cls := "java/lang/Object", name := "getClass", desc := "()Ljava/lang/Class;" } : Jvm.MethodName) ({ cls := "java/lang/Object", name := "getClass", desc := "()Ljava/lang/Class;" } : Jvm.MethodName)) ∈ lw_all := lw_g (lw_at lw_m2 83 rfl) rfl
theorem q913 : (Jvm.Cond.selects "CallRounds$Copying" ({ cls := "CallRounds$Act", name := "done", desc := "()I" } : Jvm.MethodName) ({ cls := "CallRounds$Copying", name := "done", desc := "()I" } : Jvm.MethodName)) ∈ lw_all := lw_g (lw_at lw_m4 134 rfl) rfl
theorem q914 : (Jvm.Cond.instanceMethod ({ cls := "CallRounds$Copying", name := "done", desc := "()I" } : Jvm.MethodName)) ∈ lw_all := lw_g (lw_at lw_m4 135 rfl) rfl
theorem q915 : (Jvm.Cond.code ({ cls := "CallRounds$Copying", name := "done", desc := "()I" } : Jvm.MethodName) prog_4_method_2_code (1 : Nat) (Option.some Jvm.ClassFile.FieldType.int)) ∈ lw_all := lw_g (lw_at lw_m4 136 rfl) rfl
theorem q916 : (Jvm.Cond.methodLinkNest "CallRounds$Copying" (29 : Nat) ({ cls := "CallRounds", name := "rowIn", desc := "(I)Ljava/lang/Object;" } : Jvm.MethodName) "CallRounds") ∈ lw_tbl := lw_at lw_m4 137 rfl
theorem q917 : (Jvm.Cond.methodLink "CallRounds$Copying" (35 : Nat) ({ cls := "java/lang/System", name := "arraycopy", desc := "(Ljava/lang/Object;ILjava/lang/Object;II)V" } : Jvm.MethodName)) ∈ lw_all := lw_g (lw_at lw_m4 138 rfl) rfl
theorem q1009 : (Jvm.Cond.instantiable "CallRounds$Copying" (7 : Nat)) ∈ lw_all := lw_g (lw_at lw_m4 230 rfl) rfl
theorem q1011 : (Jvm.Cond.instanceMethod ({ cls := "CallRounds$Copying", name := "<init>", desc := "(LCallRounds;IIIII)V" } : Jvm.MethodName)) ∈ lw_all := lw_g (lw_at lw_m4 232 rfl) rfl
theorem q1012 : (Jvm.Cond.code ({ cls := "CallRounds$Copying", name := "<init>", desc := "(LCallRounds;IIIII)V" } : Jvm.MethodName) prog_4_method_1_code (7 : Nat) (Option.none : Option Jvm.ClassFile.FieldType)) ∈ lw_all := lw_g (lw_at lw_m4 233 rfl) rfl
theorem q1013 : (Jvm.Cond.methodLinkNest "CallRounds$Copying" (7 : Nat) ({ cls := "CallRounds$Act", name := "<init>", desc := "(LCallRounds;)V" } : Jvm.MethodName) "CallRounds") ∈ lw_tbl := lw_at lw_m4 234 rfl
theorem q1014 : (Jvm.Cond.fieldLink "CallRounds$Copying" (13 : Nat) "CallRounds$Copying" "from" "I") ∈ lw_all := lw_g (lw_at lw_m4 235 rfl) rfl
theorem q1015 : (Jvm.Cond.fieldLink "CallRounds$Copying" (17 : Nat) "CallRounds$Copying" "i" "I") ∈ lw_all := lw_g (lw_at lw_m4 236 rfl) rfl
theorem q1016 : (Jvm.Cond.fieldLink "CallRounds$Copying" (20 : Nat) "CallRounds$Copying" "to" "I") ∈ lw_all := lw_g (lw_at lw_m4 237 rfl) rfl
theorem q1017 : (Jvm.Cond.fieldLink "CallRounds$Copying" (23 : Nat) "CallRounds$Copying" "j" "I") ∈ lw_all := lw_g (lw_at lw_m4 238 rfl) rfl
theorem q1018 : (Jvm.Cond.fieldLink "CallRounds$Copying" (26 : Nat) "CallRounds$Copying" "n" "I") ∈ lw_all := lw_g (lw_at lw_m4 239 rfl) rfl
theorem q1019 : (Jvm.Cond.fieldLink "CallRounds$Copying" (1 : Nat) "CallRounds$Copying" "this$0" "LCallRounds;") ∈ lw_all := lw_g (lw_at lw_m5 0 rfl) rfl
theorem q1020 : (Jvm.Cond.laysFinal "CallRounds$Copying" "CallRounds$Copying" "from" "I") ∈ lw_all := lw_g (lw_at lw_m5 1 rfl) rfl
theorem q1021 : (Jvm.Cond.soleField "CallRounds$Copying" "from") ∈ lw_all := lw_g (lw_at lw_m5 2 rfl) rfl
theorem q1022 : (Jvm.Cond.laysFinal "CallRounds$Copying" "CallRounds$Copying" "i" "I") ∈ lw_all := lw_g (lw_at lw_m5 3 rfl) rfl
theorem q1023 : (Jvm.Cond.soleField "CallRounds$Copying" "i") ∈ lw_all := lw_g (lw_at lw_m5 4 rfl) rfl
theorem q1024 : (Jvm.Cond.laysFinal "CallRounds$Copying" "CallRounds$Copying" "to" "I") ∈ lw_all := lw_g (lw_at lw_m5 5 rfl) rfl
theorem q1025 : (Jvm.Cond.soleField "CallRounds$Copying" "to") ∈ lw_all := lw_g (lw_at lw_m5 6 rfl) rfl
theorem q1026 : (Jvm.Cond.laysFinal "CallRounds$Copying" "CallRounds$Copying" "j" "I") ∈ lw_all := lw_g (lw_at lw_m5 7 rfl) rfl
theorem q1027 : (Jvm.Cond.soleField "CallRounds$Copying" "j") ∈ lw_all := lw_g (lw_at lw_m5 8 rfl) rfl
theorem q1028 : (Jvm.Cond.laysFinal "CallRounds$Copying" "CallRounds$Copying" "n" "I") ∈ lw_all := lw_g (lw_at lw_m5 9 rfl) rfl
theorem q1029 : (Jvm.Cond.soleField "CallRounds$Copying" "n") ∈ lw_all := lw_g (lw_at lw_m5 10 rfl) rfl
theorem q1030 : (Jvm.Cond.laysFinal "CallRounds$Copying" "CallRounds$Copying" "this$0" "LCallRounds;") ∈ lw_all := lw_g (lw_at lw_m5 11 rfl) rfl
theorem q1031 : (Jvm.Cond.soleField "CallRounds$Copying" "this$0") ∈ lw_all := lw_g (lw_at lw_m5 12 rfl) rfl
theorem q1032 : (Jvm.Cond.laysFinal "CallRounds$Copying" "CallRounds$Act" "this$0" "LCallRounds;") ∈ lw_all := lw_g (lw_at lw_m5 13 rfl) rfl
theorem q1033 : (Jvm.Cond.superclass "CallRounds$Copying" "CallRounds$Act") ∈ lw_all := lw_g (lw_at lw_m5 14 rfl) rfl
theorem q1035 : (Jvm.Cond.sameMethod "CallRounds$Copying" "CallRounds$Act" "tried" "()I") ∈ lw_all := lw_g (lw_at lw_m5 16 rfl) rfl
theorem q1036 : (Jvm.Cond.selects "CallRounds$Copying" ({ cls := "CallRounds$Copying", name := "tried", desc := "()I" } : Jvm.MethodName) ({ cls := "CallRounds$Act", name := "tried", desc := "()I" } : Jvm.MethodName)) ∈ lw_all := lw_g (lw_at lw_m5 17 rfl) rfl
theorem q1566 : (Jvm.Cond.castable "CallRounds$Copying" "java/lang/Object") ∈ lw_tbl := lw_at lw_m7 67 rfl
theorem in_X12 : ∀ w ∈ wsX120, w ∈ lw_all := lw_in wsX120 [1032, 1020, 1022, 1024, 1026, 1028, 1030] (by decide +kernel) (by decide +kernel)
/-! CallRounds$Taking -/
set_option maxRecDepth 100000
def RX13 : String := "CallRounds$Taking"
def TX13 : u_T := fun k => match k with
  | 0 => ("CallRounds$Act", "this$0", "LCallRounds;", true)
  | 1 => ("CallRounds$Taking", "ring", "LCallRounds$Ring;", true)
  | 2 => ("CallRounds$Taking", "kind", "I", true)
  | _ => ("CallRounds$Taking", "this$0", "LCallRounds;", true)
def tyX13 : Nat → FieldType := fun k => match k with
  | 0 => .object "CallRounds"
  | 1 => .object "CallRounds$Ring"
  | 2 => .int
  | _ => .object "CallRounds"
abbrev wsX130 : List Cond := u_ws RX13 TX13 4
-- two fields of one name: no nmX13
theorem tyX13_ok : ∀ k, k < 4 → parseFieldDescriptor (TX13 k).2.2.1 = some (tyX13 k) := by decide +kernel
abbrev cX13_done : ByteArray := prog_13_method_2_code
def yX13_done : MethodName := ⟨RX13, "done", "()I"⟩
def dkwX13_done_2 : List UInt8 := [180, 0, 31, 60, 27, 156, 0, 7, 3, 167, 0, 4, 4, 172]
abbrev dktX13_done_2 : List UInt8 := dkwX13_done_2 ++ []
def dkwX13_done_1 : List UInt8 := [160, 0, 16, 42, 180, 0, 13, 192, 0, 26, 180, 0, 28, 167, 0, 13, 42, 180, 0, 13, 192, 0, 29]
abbrev dktX13_done_1 : List UInt8 := dkwX13_done_1 ++ dktX13_done_2
def dkwX13_done_0 : List UInt8 := [42, 180, 0, 17, 154, 0, 13, 42, 180, 0, 13, 180, 0, 21, 167, 0, 34, 42, 180, 0, 17, 4]
abbrev dktX13_done_0 : List UInt8 := dkwX13_done_0 ++ dktX13_done_1
theorem dksX13_done_0 : cX13_done.data.toList.drop 0 = dktX13_done_0 := by decide +kernel
theorem dksX13_done_1 : cX13_done.data.toList.drop 22 = dktX13_done_1 := dk_seg dksX13_done_0 22 rfl rfl
theorem dksX13_done_2 : cX13_done.data.toList.drop 45 = dktX13_done_2 := dk_seg dksX13_done_1 23 rfl rfl
theorem dX13_done_0 : decode cX13_done 0 = .ok (.aload_n 0, 1) := dk_42 (dk_at dksX13_done_0 0 rfl rfl)
theorem dX13_done_1 : decode cX13_done 1 = .ok (.getfield 17, 3) := dk_180 0 17 (dk_at dksX13_done_0 1 rfl rfl)
theorem dX13_done_4 : decode cX13_done 4 = .ok (.ifCond .ne 13, 3) := dk_154 0 13 (dk_at dksX13_done_0 4 rfl rfl)
theorem dX13_done_7 : decode cX13_done 7 = .ok (.aload_n 0, 1) := dk_42 (dk_at dksX13_done_0 7 rfl rfl)
theorem dX13_done_8 : decode cX13_done 8 = .ok (.getfield 13, 3) := dk_180 0 13 (dk_at dksX13_done_0 8 rfl rfl)
theorem dX13_done_11 : decode cX13_done 11 = .ok (.getfield 21, 3) := dk_180 0 21 (dk_at dksX13_done_0 11 rfl rfl)
theorem dX13_done_14 : decode cX13_done 14 = .ok (.goto 34, 3) := dk_167 0 34 (dk_at dksX13_done_0 14 rfl rfl)
theorem dX13_done_17 : decode cX13_done 17 = .ok (.aload_n 0, 1) := dk_42 (dk_at dksX13_done_0 17 rfl rfl)
theorem dX13_done_18 : decode cX13_done 18 = .ok (.getfield 17, 3) := dk_180 0 17 (dk_at dksX13_done_0 18 rfl rfl)
theorem dX13_done_21 : decode cX13_done 21 = .ok (.iconst 1, 1) := dk_4 (dk_at dksX13_done_0 21 rfl rfl)
theorem dX13_done_22 : decode cX13_done 22 = .ok (.if_icmp .ne 16, 3) := dk_160 0 16 (dk_at dksX13_done_1 0 rfl rfl)
theorem dX13_done_25 : decode cX13_done 25 = .ok (.aload_n 0, 1) := dk_42 (dk_at dksX13_done_1 3 rfl rfl)
theorem dX13_done_26 : decode cX13_done 26 = .ok (.getfield 13, 3) := dk_180 0 13 (dk_at dksX13_done_1 4 rfl rfl)
theorem dX13_done_29 : decode cX13_done 29 = .ok (.checkcast 26, 3) := dk_192 0 26 (dk_at dksX13_done_1 7 rfl rfl)
theorem dX13_done_32 : decode cX13_done 32 = .ok (.getfield 28, 3) := dk_180 0 28 (dk_at dksX13_done_1 10 rfl rfl)
theorem dX13_done_35 : decode cX13_done 35 = .ok (.goto 13, 3) := dk_167 0 13 (dk_at dksX13_done_1 13 rfl rfl)
theorem dX13_done_38 : decode cX13_done 38 = .ok (.aload_n 0, 1) := dk_42 (dk_at dksX13_done_1 16 rfl rfl)
theorem dX13_done_39 : decode cX13_done 39 = .ok (.getfield 13, 3) := dk_180 0 13 (dk_at dksX13_done_1 17 rfl rfl)
theorem dX13_done_42 : decode cX13_done 42 = .ok (.checkcast 29, 3) := dk_192 0 29 (dk_at dksX13_done_1 20 rfl rfl)
theorem dX13_done_45 : decode cX13_done 45 = .ok (.getfield 31, 3) := dk_180 0 31 (dk_at dksX13_done_2 0 rfl rfl)
theorem dX13_done_48 : decode cX13_done 48 = .ok (.istore_n 1, 1) := dk_60 (dk_at dksX13_done_2 3 rfl rfl)
theorem dX13_done_49 : decode cX13_done 49 = .ok (.iload_n 1, 1) := dk_27 (dk_at dksX13_done_2 4 rfl rfl)
theorem dX13_done_50 : decode cX13_done 50 = .ok (.ifCond .ge 7, 3) := dk_156 0 7 (dk_at dksX13_done_2 5 rfl rfl)
theorem dX13_done_53 : decode cX13_done 53 = .ok (.iconst 0, 1) := dk_3 (dk_at dksX13_done_2 8 rfl rfl)
theorem dX13_done_54 : decode cX13_done 54 = .ok (.goto 4, 3) := dk_167 0 4 (dk_at dksX13_done_2 9 rfl rfl)
theorem dX13_done_57 : decode cX13_done 57 = .ok (.iconst 1, 1) := dk_4 (dk_at dksX13_done_2 12 rfl rfl)
theorem dX13_done_58 : decode cX13_done 58 = .ok (.ireturn, 1) := dk_172 (dk_at dksX13_done_2 13 rfl rfl)
abbrev cX13_init : ByteArray := prog_13_method_1_code
def yX13_init : MethodName := ⟨RX13, "<init>", "(LCallRounds;LCallRounds$Ring;I)V"⟩
def dkwX13_init_0 : List UInt8 := [42, 43, 181, 0, 1, 42, 43, 183, 0, 7, 42, 44, 181, 0, 13, 42, 29, 181, 0, 17, 177]
abbrev dktX13_init_0 : List UInt8 := dkwX13_init_0 ++ []
theorem dksX13_init_0 : cX13_init.data.toList.drop 0 = dktX13_init_0 := by decide +kernel
theorem dX13_init_0 : decode cX13_init 0 = .ok (.aload_n 0, 1) := dk_42 (dk_at dksX13_init_0 0 rfl rfl)
theorem dX13_init_1 : decode cX13_init 1 = .ok (.aload_n 1, 1) := dk_43 (dk_at dksX13_init_0 1 rfl rfl)
theorem dX13_init_2 : decode cX13_init 2 = .ok (.putfield 1, 3) := dk_181 0 1 (dk_at dksX13_init_0 2 rfl rfl)
theorem dX13_init_5 : decode cX13_init 5 = .ok (.aload_n 0, 1) := dk_42 (dk_at dksX13_init_0 5 rfl rfl)
theorem dX13_init_6 : decode cX13_init 6 = .ok (.aload_n 1, 1) := dk_43 (dk_at dksX13_init_0 6 rfl rfl)
theorem dX13_init_7 : decode cX13_init 7 = .ok (.invokespecial 7, 3) := dk_183 0 7 (dk_at dksX13_init_0 7 rfl rfl)
theorem dX13_init_10 : decode cX13_init 10 = .ok (.aload_n 0, 1) := dk_42 (dk_at dksX13_init_0 10 rfl rfl)
theorem dX13_init_11 : decode cX13_init 11 = .ok (.aload_n 2, 1) := dk_44 (dk_at dksX13_init_0 11 rfl rfl)
theorem dX13_init_12 : decode cX13_init 12 = .ok (.putfield 13, 3) := dk_181 0 13 (dk_at dksX13_init_0 12 rfl rfl)
theorem dX13_init_15 : decode cX13_init 15 = .ok (.aload_n 0, 1) := dk_42 (dk_at dksX13_init_0 15 rfl rfl)
theorem dX13_init_16 : decode cX13_init 16 = .ok (.iload_n 3, 1) := dk_29 (dk_at dksX13_init_0 16 rfl rfl)
theorem dX13_init_17 : decode cX13_init 17 = .ok (.putfield 17, 3) := dk_181 0 17 (dk_at dksX13_init_0 17 rfl rfl)
theorem dX13_init_20 : decode cX13_init 20 = .ok (.return_, 1) := dk_177 (dk_at dksX13_init_0 20 rfl rfl)
theorem q93 : (Jvm.Cond.initialized "CallRounds$Taking") ∈ lw_all := lw_g (lw_at lw_m1 34 rfl) rfl
theorem q269 : (Jvm.Cond.fieldLink "CallRounds$Taking" (21 : Nat) "CallRounds$Ring" "number" "I") ∈ lw_all := lw_g (lw_at lw_m1 210 rfl) rfl
theorem q270 : (Jvm.Cond.fieldLink "CallRounds$Taking" (28 : Nat) "CallRounds$News" "number" "I") ∈ lw_all := lw_g (lw_at lw_m1 211 rfl) rfl
theorem q272 : (Jvm.Cond.fieldLink "CallRounds$Taking" (31 : Nat) "CallRounds$Whole" "number" "I") ∈ lw_all := lw_g (lw_at lw_m1 213 rfl) rfl
theorem q389 : (Jvm.Cond.selects "CallRounds$Taking" ({ cls := "java/lang/Object", name := "getClass", desc := "()Ljava/lang/Class;" } : Jvm.MethodName) ({ cls := "java/lang/Object", name := "getClass", desc := "()Ljava/lang/Class;" } : Jvm.MethodName)) ∈ lw_all := lw_g (lw_at lw_m2 90 rfl) rfl
theorem q998 : (Jvm.Cond.selects "CallRounds$Taking" ({ cls := "CallRounds$Act", name := "done", desc := "()I" } : Jvm.MethodName) ({ cls := "CallRounds$Taking", name := "done", desc := "()I" } : Jvm.MethodName)) ∈ lw_all := lw_g (lw_at lw_m4 219 rfl) rfl
theorem q999 : (Jvm.Cond.instanceMethod ({ cls := "CallRounds$Taking", name := "done", desc := "()I" } : Jvm.MethodName)) ∈ lw_all := lw_g (lw_at lw_m4 220 rfl) rfl
theorem q1000 : (Jvm.Cond.code ({ cls := "CallRounds$Taking", name := "done", desc := "()I" } : Jvm.MethodName) prog_13_method_2_code (2 : Nat) (Option.some Jvm.ClassFile.FieldType.int)) ∈ lw_all := lw_g (lw_at lw_m4 221 rfl) rfl
theorem q1001 : (Jvm.Cond.classLink "CallRounds$Taking" (26 : Nat) "CallRounds$News") ∈ lw_all := lw_g (lw_at lw_m4 222 rfl) rfl
theorem q1002 : (Jvm.Cond.classLink "CallRounds$Taking" (29 : Nat) "CallRounds$Whole") ∈ lw_all := lw_g (lw_at lw_m4 223 rfl) rfl
theorem q1139 : (Jvm.Cond.instantiable "CallRounds$Taking" (4 : Nat)) ∈ lw_all := lw_g (lw_at lw_m5 120 rfl) rfl
theorem q1141 : (Jvm.Cond.instanceMethod ({ cls := "CallRounds$Taking", name := "<init>", desc := "(LCallRounds;LCallRounds$Ring;I)V" } : Jvm.MethodName)) ∈ lw_all := lw_g (lw_at lw_m5 122 rfl) rfl
theorem q1142 : (Jvm.Cond.code ({ cls := "CallRounds$Taking", name := "<init>", desc := "(LCallRounds;LCallRounds$Ring;I)V" } : Jvm.MethodName) prog_13_method_1_code (4 : Nat) (Option.none : Option Jvm.ClassFile.FieldType)) ∈ lw_all := lw_g (lw_at lw_m5 123 rfl) rfl
theorem q1143 : (Jvm.Cond.methodLinkNest "CallRounds$Taking" (7 : Nat) ({ cls := "CallRounds$Act", name := "<init>", desc := "(LCallRounds;)V" } : Jvm.MethodName) "CallRounds") ∈ lw_tbl := lw_at lw_m5 124 rfl
theorem q1144 : (Jvm.Cond.fieldLink "CallRounds$Taking" (13 : Nat) "CallRounds$Taking" "ring" "LCallRounds$Ring;") ∈ lw_all := lw_g (lw_at lw_m5 125 rfl) rfl
theorem q1145 : (Jvm.Cond.fieldLink "CallRounds$Taking" (17 : Nat) "CallRounds$Taking" "kind" "I") ∈ lw_all := lw_g (lw_at lw_m5 126 rfl) rfl
theorem q1146 : (Jvm.Cond.fieldLink "CallRounds$Taking" (1 : Nat) "CallRounds$Taking" "this$0" "LCallRounds;") ∈ lw_all := lw_g (lw_at lw_m5 127 rfl) rfl
theorem q1147 : (Jvm.Cond.laysFinal "CallRounds$Taking" "CallRounds$Taking" "ring" "LCallRounds$Ring;") ∈ lw_all := lw_g (lw_at lw_m5 128 rfl) rfl
theorem q1148 : (Jvm.Cond.soleField "CallRounds$Taking" "ring") ∈ lw_all := lw_g (lw_at lw_m5 129 rfl) rfl
theorem q1149 : (Jvm.Cond.laysFinal "CallRounds$Taking" "CallRounds$Taking" "kind" "I") ∈ lw_all := lw_g (lw_at lw_m5 130 rfl) rfl
theorem q1150 : (Jvm.Cond.soleField "CallRounds$Taking" "kind") ∈ lw_all := lw_g (lw_at lw_m5 131 rfl) rfl
theorem q1151 : (Jvm.Cond.laysFinal "CallRounds$Taking" "CallRounds$Taking" "this$0" "LCallRounds;") ∈ lw_all := lw_g (lw_at lw_m5 132 rfl) rfl
theorem q1152 : (Jvm.Cond.soleField "CallRounds$Taking" "this$0") ∈ lw_all := lw_g (lw_at lw_m5 133 rfl) rfl
theorem q1153 : (Jvm.Cond.laysFinal "CallRounds$Taking" "CallRounds$Act" "this$0" "LCallRounds;") ∈ lw_all := lw_g (lw_at lw_m5 134 rfl) rfl
theorem q1154 : (Jvm.Cond.superclass "CallRounds$Taking" "CallRounds$Act") ∈ lw_all := lw_g (lw_at lw_m5 135 rfl) rfl
theorem q1156 : (Jvm.Cond.sameMethod "CallRounds$Taking" "CallRounds$Act" "tried" "()I") ∈ lw_all := lw_g (lw_at lw_m5 137 rfl) rfl
theorem q1157 : (Jvm.Cond.selects "CallRounds$Taking" ({ cls := "CallRounds$Taking", name := "tried", desc := "()I" } : Jvm.MethodName) ({ cls := "CallRounds$Act", name := "tried", desc := "()I" } : Jvm.MethodName)) ∈ lw_all := lw_g (lw_at lw_m5 138 rfl) rfl
theorem q1567 : (Jvm.Cond.castable "CallRounds$Taking" "java/lang/Object") ∈ lw_tbl := lw_at lw_m7 68 rfl
theorem in_X13 : ∀ w ∈ wsX130, w ∈ lw_all := lw_in wsX130 [1153, 1147, 1149, 1151] (by decide +kernel) (by decide +kernel)
/-! CallRounds$Logged -/
set_option maxRecDepth 100000
def RX14 : String := "CallRounds$Logged"
abbrev cX14_logged : ByteArray := prog_5_method_3_code
def yX14_logged : MethodName := ⟨RX14, "logged", "()I"⟩
def dkwX14_logged_0 : List UInt8 := [42, 7, 185, 0, 1, 2, 0, 42, 185, 0, 7, 1, 0, 96, 172]
abbrev dktX14_logged_0 : List UInt8 := dkwX14_logged_0 ++ []
theorem dksX14_logged_0 : cX14_logged.data.toList.drop 0 = dktX14_logged_0 := by decide +kernel
theorem dX14_logged_0 : decode cX14_logged 0 = .ok (.aload_n 0, 1) := dk_42 (dk_at dksX14_logged_0 0 rfl rfl)
theorem dX14_logged_1 : decode cX14_logged 1 = .ok (.iconst 4, 1) := dk_7 (dk_at dksX14_logged_0 1 rfl rfl)
theorem dX14_logged_2 : decode cX14_logged 2 = .ok (.invokeinterface 1 2, 5) := by decide +kernel
theorem dX14_logged_7 : decode cX14_logged 7 = .ok (.aload_n 0, 1) := dk_42 (dk_at dksX14_logged_0 7 rfl rfl)
theorem dX14_logged_8 : decode cX14_logged 8 = .ok (.invokeinterface 7 1, 5) := by decide +kernel
theorem dX14_logged_13 : decode cX14_logged 13 = .ok (.iadd, 1) := dk_96 (dk_at dksX14_logged_0 13 rfl rfl)
theorem dX14_logged_14 : decode cX14_logged 14 = .ok (.ireturn, 1) := dk_172 (dk_at dksX14_logged_0 14 rfl rfl)
theorem q1095 : (Jvm.Cond.interfaceMethod "CallRounds$Logged" "CallRounds$Logged" "logged" "()I") ∈ lw_tbl := lw_at lw_m5 76 rfl
theorem q1096 : (Jvm.Cond.declares ({ cls := "CallRounds$Logged", name := "logged", desc := "()I" } : Jvm.MethodName)) ∈ lw_tbl := lw_at lw_m5 77 rfl
theorem q1099 : (Jvm.Cond.instanceMethod ({ cls := "CallRounds$Logged", name := "logged", desc := "()I" } : Jvm.MethodName)) ∈ lw_all := lw_g (lw_at lw_m5 80 rfl) rfl
theorem q1100 : (Jvm.Cond.publicMethod ({ cls := "CallRounds$Logged", name := "logged", desc := "()I" } : Jvm.MethodName)) ∈ lw_tbl := lw_at lw_m5 81 rfl
theorem q1101 : (Jvm.Cond.code ({ cls := "CallRounds$Logged", name := "logged", desc := "()I" } : Jvm.MethodName) prog_5_method_3_code (1 : Nat) (Option.some Jvm.ClassFile.FieldType.int)) ∈ lw_all := lw_g (lw_at lw_m5 82 rfl) rfl
theorem q1102 : (Jvm.Cond.interfaceEntry "CallRounds$Logged" (1 : Nat)) ∈ lw_tbl := lw_at lw_m5 83 rfl
theorem q1103 : (Jvm.Cond.methodLink "CallRounds$Logged" (1 : Nat) ({ cls := "CallRounds$Logged", name := "tracedBy", desc := "(I)I" } : Jvm.MethodName)) ∈ lw_all := lw_g (lw_at lw_m5 84 rfl) rfl
theorem q1104 : (Jvm.Cond.interfaceMethod "CallRounds$Logged" "CallRounds$Logged" "tracedBy" "(I)I") ∈ lw_tbl := lw_at lw_m5 85 rfl
theorem q1105 : (Jvm.Cond.declares ({ cls := "CallRounds$Logged", name := "tracedBy", desc := "(I)I" } : Jvm.MethodName)) ∈ lw_tbl := lw_at lw_m5 86 rfl
theorem q1115 : (Jvm.Cond.interfaceEntry "CallRounds$Logged" (7 : Nat)) ∈ lw_tbl := lw_at lw_m5 96 rfl
theorem q1116 : (Jvm.Cond.methodLink "CallRounds$Logged" (7 : Nat) ({ cls := "CallRounds$Logged", name := "number", desc := "()I" } : Jvm.MethodName)) ∈ lw_all := lw_g (lw_at lw_m5 97 rfl) rfl
theorem q1117 : (Jvm.Cond.interfaceMethod "CallRounds$Logged" "CallRounds$Logged" "number" "()I") ∈ lw_tbl := lw_at lw_m5 98 rfl
theorem q1118 : (Jvm.Cond.declares ({ cls := "CallRounds$Logged", name := "number", desc := "()I" } : Jvm.MethodName)) ∈ lw_tbl := lw_at lw_m5 99 rfl
