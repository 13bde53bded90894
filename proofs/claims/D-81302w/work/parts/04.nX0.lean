/-! CallRounds -/
set_option maxRecDepth 100000
def RX0 : String := "CallRounds"
def TX0 : u_T := fun k => match k with
  | 0 => ("CallRounds", "persons", "I", false)
  | 1 => ("CallRounds", "told", "[I", true)
  | 2 => ("CallRounds", "trace", "I", false)
  | 3 => ("CallRounds", "rings", "Ljava/util/List;", true)
  | 4 => ("CallRounds", "laidBy", "[I", true)
  | 5 => ("CallRounds", "runsFrom", "[J", true)
  | 6 => ("CallRounds", "goodFrom", "[J", true)
  | 7 => ("CallRounds", "fewestFrom", "[I", true)
  | 8 => ("CallRounds", "mostFrom", "[I", true)
  | 9 => ("CallRounds", "count", "I", false)
  | 10 => ("CallRounds", "alikeMany", "I", false)
  | 11 => ("CallRounds", "inAll", "I", false)
  | 12 => ("CallRounds", "allOver", "Z", false)
  | 13 => ("CallRounds", "fault", "I", false)
  | _ => ("CallRounds", "sheets", "[LCallRounds$Sheet;", true)
def tyX0 : Nat → FieldType := fun k => match k with
  | 0 => .int
  | 1 => .array .int
  | 2 => .int
  | 3 => .object "java/util/List"
  | 4 => .array .int
  | 5 => .array .long
  | 6 => .array .long
  | 7 => .array .int
  | 8 => .array .int
  | 9 => .int
  | 10 => .int
  | 11 => .int
  | 12 => .boolean
  | 13 => .int
  | _ => .array (.object "CallRounds$Sheet")
abbrev wsX00 : List Cond := u_ws RX0 TX0 15
set_option maxRecDepth 100000 in
theorem nmX0 : ∀ a, a < 15 → ∀ b, b < 15 → a ≠ b → (TX0 a).2.1 ≠ (TX0 b).2.1 := by decide +kernel
set_option maxRecDepth 100000 in
theorem tyX0_ok : ∀ k, k < 15 → parseFieldDescriptor (TX0 k).2.2.1 = some (tyX0 k) := by decide +kernel
abbrev cX0_init : ByteArray := prog_1_method_3_code
def yX0_init : MethodName := ⟨RX0, "<init>", "()V"⟩
def dkwX0_init_2 : List UInt8 := [18, 22, 188, 10, 181, 0, 33, 42, 18, 22, 188, 10, 181, 0, 36, 42, 7, 189, 0, 39, 181, 0, 41, 177]
abbrev dktX0_init_2 : List UInt8 := dkwX0_init_2 ++ []
def dkwX0_init_1 : List UInt8 := [18, 22, 188, 10, 181, 0, 23, 42, 18, 22, 188, 11, 181, 0, 26, 42, 18, 22, 188, 11, 181, 0, 30, 42]
abbrev dktX0_init_1 : List UInt8 := dkwX0_init_1 ++ dktX0_init_2
def dkwX0_init_0 : List UInt8 := [42, 183, 0, 3, 42, 7, 188, 10, 181, 0, 11, 42, 187, 0, 15, 89, 183, 0, 17, 181, 0, 18, 42]
abbrev dktX0_init_0 : List UInt8 := dkwX0_init_0 ++ dktX0_init_1
theorem dksX0_init_0 : cX0_init.data.toList.drop 0 = dktX0_init_0 := by decide +kernel
theorem dksX0_init_1 : cX0_init.data.toList.drop 23 = dktX0_init_1 := dk_seg dksX0_init_0 23 rfl rfl
theorem dksX0_init_2 : cX0_init.data.toList.drop 47 = dktX0_init_2 := dk_seg dksX0_init_1 24 rfl rfl
theorem dX0_init_0 : decode cX0_init 0 = .ok (.aload_n 0, 1) := dk_42 (dk_at dksX0_init_0 0 rfl rfl)
theorem dX0_init_1 : decode cX0_init 1 = .ok (.invokespecial 3, 3) := dk_183 0 3 (dk_at dksX0_init_0 1 rfl rfl)
theorem dX0_init_4 : decode cX0_init 4 = .ok (.aload_n 0, 1) := dk_42 (dk_at dksX0_init_0 4 rfl rfl)
theorem dX0_init_5 : decode cX0_init 5 = .ok (.iconst 4, 1) := dk_7 (dk_at dksX0_init_0 5 rfl rfl)
theorem dX0_init_6 : decode cX0_init 6 = .ok (.newarray .int, 2) := dk_188_10 (dk_at dksX0_init_0 6 rfl rfl)
theorem dX0_init_8 : decode cX0_init 8 = .ok (.putfield 11, 3) := dk_181 0 11 (dk_at dksX0_init_0 8 rfl rfl)
theorem dX0_init_11 : decode cX0_init 11 = .ok (.aload_n 0, 1) := dk_42 (dk_at dksX0_init_0 11 rfl rfl)
theorem dX0_init_12 : decode cX0_init 12 = .ok (.new 15, 3) := dk_187 0 15 (dk_at dksX0_init_0 12 rfl rfl)
theorem dX0_init_15 : decode cX0_init 15 = .ok (.dup, 1) := dk_89 (dk_at dksX0_init_0 15 rfl rfl)
theorem dX0_init_16 : decode cX0_init 16 = .ok (.invokespecial 17, 3) := dk_183 0 17 (dk_at dksX0_init_0 16 rfl rfl)
theorem dX0_init_19 : decode cX0_init 19 = .ok (.putfield 18, 3) := dk_181 0 18 (dk_at dksX0_init_0 19 rfl rfl)
theorem dX0_init_22 : decode cX0_init 22 = .ok (.aload_n 0, 1) := dk_42 (dk_at dksX0_init_0 22 rfl rfl)
theorem dX0_init_23 : decode cX0_init 23 = .ok (.ldc 22, 2) := dk_18 22 (dk_at dksX0_init_1 0 rfl rfl)
theorem dX0_init_25 : decode cX0_init 25 = .ok (.newarray .int, 2) := dk_188_10 (dk_at dksX0_init_1 2 rfl rfl)
theorem dX0_init_27 : decode cX0_init 27 = .ok (.putfield 23, 3) := dk_181 0 23 (dk_at dksX0_init_1 4 rfl rfl)
theorem dX0_init_30 : decode cX0_init 30 = .ok (.aload_n 0, 1) := dk_42 (dk_at dksX0_init_1 7 rfl rfl)
theorem dX0_init_31 : decode cX0_init 31 = .ok (.ldc 22, 2) := dk_18 22 (dk_at dksX0_init_1 8 rfl rfl)
theorem dX0_init_33 : decode cX0_init 33 = .ok (.newarray .long, 2) := dk_188_11 (dk_at dksX0_init_1 10 rfl rfl)
theorem dX0_init_35 : decode cX0_init 35 = .ok (.putfield 26, 3) := dk_181 0 26 (dk_at dksX0_init_1 12 rfl rfl)
theorem dX0_init_38 : decode cX0_init 38 = .ok (.aload_n 0, 1) := dk_42 (dk_at dksX0_init_1 15 rfl rfl)
theorem dX0_init_39 : decode cX0_init 39 = .ok (.ldc 22, 2) := dk_18 22 (dk_at dksX0_init_1 16 rfl rfl)
theorem dX0_init_41 : decode cX0_init 41 = .ok (.newarray .long, 2) := dk_188_11 (dk_at dksX0_init_1 18 rfl rfl)
theorem dX0_init_43 : decode cX0_init 43 = .ok (.putfield 30, 3) := dk_181 0 30 (dk_at dksX0_init_1 20 rfl rfl)
theorem dX0_init_46 : decode cX0_init 46 = .ok (.aload_n 0, 1) := dk_42 (dk_at dksX0_init_1 23 rfl rfl)
theorem dX0_init_47 : decode cX0_init 47 = .ok (.ldc 22, 2) := dk_18 22 (dk_at dksX0_init_2 0 rfl rfl)
theorem dX0_init_49 : decode cX0_init 49 = .ok (.newarray .int, 2) := dk_188_10 (dk_at dksX0_init_2 2 rfl rfl)
theorem dX0_init_51 : decode cX0_init 51 = .ok (.putfield 33, 3) := dk_181 0 33 (dk_at dksX0_init_2 4 rfl rfl)
theorem dX0_init_54 : decode cX0_init 54 = .ok (.aload_n 0, 1) := dk_42 (dk_at dksX0_init_2 7 rfl rfl)
theorem dX0_init_55 : decode cX0_init 55 = .ok (.ldc 22, 2) := dk_18 22 (dk_at dksX0_init_2 8 rfl rfl)
theorem dX0_init_57 : decode cX0_init 57 = .ok (.newarray .int, 2) := dk_188_10 (dk_at dksX0_init_2 10 rfl rfl)
theorem dX0_init_59 : decode cX0_init 59 = .ok (.putfield 36, 3) := dk_181 0 36 (dk_at dksX0_init_2 12 rfl rfl)
theorem dX0_init_62 : decode cX0_init 62 = .ok (.aload_n 0, 1) := dk_42 (dk_at dksX0_init_2 15 rfl rfl)
theorem dX0_init_63 : decode cX0_init 63 = .ok (.iconst 4, 1) := dk_7 (dk_at dksX0_init_2 16 rfl rfl)
theorem dX0_init_64 : decode cX0_init 64 = .ok (.anewarray 39, 3) := dk_189 0 39 (dk_at dksX0_init_2 17 rfl rfl)
theorem dX0_init_67 : decode cX0_init 67 = .ok (.putfield 41, 3) := dk_181 0 41 (dk_at dksX0_init_2 20 rfl rfl)
theorem dX0_init_70 : decode cX0_init 70 = .ok (.return_, 1) := dk_177 (dk_at dksX0_init_2 23 rfl rfl)
abbrev cX0_call : ByteArray := prog_1_method_14_code
def yX0_call : MethodName := ⟨RX0, "call", "(II)I"⟩
def dkwX0_call_7 : List UInt8 := [187, 0, 112, 89, 42, 21, 4, 27, 28, 29, 21, 7, 183, 0, 114, 185, 0, 115, 2, 0, 87, 21, 4, 172]
abbrev dktX0_call_7 : List UInt8 := dkwX0_call_7 ++ []
def dkwX0_call_6 : List UInt8 := [182, 0, 61, 160, 0, 21, 187, 0, 109, 89, 42, 21, 4, 27, 28, 29, 21, 7, 183, 0, 111, 167, 0, 18]
abbrev dktX0_call_6 : List UInt8 := dkwX0_call_6 ++ dktX0_call_7
def dkwX0_call_5 : List UInt8 := [154, 0, 21, 187, 0, 81, 89, 42, 21, 4, 27, 28, 29, 21, 7, 183, 0, 106, 167, 0, 45, 21, 5, 42]
abbrev dktX0_call_5 : List UInt8 := dkwX0_call_5 ++ dktX0_call_6
def dkwX0_call_4 : List UInt8 := [4, 167, 0, 4, 3, 54, 6, 42, 182, 0, 99, 27, 28, 184, 0, 102, 54, 7, 42, 180, 0, 18, 21, 6]
abbrev dktX0_call_4 : List UInt8 := dkwX0_call_4 ++ dktX0_call_5
def dkwX0_call_3 : List UInt8 := [184, 0, 53, 29, 28, 184, 0, 53, 128, 54, 5, 29, 27, 184, 0, 53, 29, 28, 184, 0, 53, 159, 0, 7]
abbrev dktX0_call_3 : List UInt8 := dkwX0_call_3 ++ dktX0_call_4
def dkwX0_call_2 : List UInt8 := [42, 180, 0, 18, 185, 0, 74, 1, 0, 54, 4, 21, 4, 16, 12, 160, 0, 6, 16, 252, 172, 29, 27]
abbrev dktX0_call_2 : List UInt8 := dkwX0_call_2 ++ dktX0_call_3
def dkwX0_call_1 : List UInt8 := [16, 254, 172, 42, 182, 0, 93, 62, 42, 29, 27, 182, 0, 96, 28, 184, 0, 57, 154, 0, 6, 16, 253, 172]
abbrev dktX0_call_1 : List UInt8 := dkwX0_call_1 ++ dktX0_call_2
def dkwX0_call_0 : List UInt8 := [42, 27, 182, 0, 89, 154, 0, 11, 42, 28, 182, 0, 89, 153, 0, 5, 2, 172, 27, 28, 160, 0, 6]
abbrev dktX0_call_0 : List UInt8 := dkwX0_call_0 ++ dktX0_call_1
theorem dksX0_call_0 : cX0_call.data.toList.drop 0 = dktX0_call_0 := by decide +kernel
theorem dksX0_call_1 : cX0_call.data.toList.drop 23 = dktX0_call_1 := dk_seg dksX0_call_0 23 rfl rfl
theorem dksX0_call_2 : cX0_call.data.toList.drop 47 = dktX0_call_2 := dk_seg dksX0_call_1 24 rfl rfl
theorem dksX0_call_3 : cX0_call.data.toList.drop 70 = dktX0_call_3 := dk_seg dksX0_call_2 23 rfl rfl
theorem dksX0_call_4 : cX0_call.data.toList.drop 94 = dktX0_call_4 := dk_seg dksX0_call_3 24 rfl rfl
theorem dksX0_call_5 : cX0_call.data.toList.drop 118 = dktX0_call_5 := dk_seg dksX0_call_4 24 rfl rfl
theorem dksX0_call_6 : cX0_call.data.toList.drop 142 = dktX0_call_6 := dk_seg dksX0_call_5 24 rfl rfl
theorem dksX0_call_7 : cX0_call.data.toList.drop 166 = dktX0_call_7 := dk_seg dksX0_call_6 24 rfl rfl
theorem dX0_call_0 : decode cX0_call 0 = .ok (.aload_n 0, 1) := dk_42 (dk_at dksX0_call_0 0 rfl rfl)
theorem dX0_call_1 : decode cX0_call 1 = .ok (.iload_n 1, 1) := dk_27 (dk_at dksX0_call_0 1 rfl rfl)
theorem dX0_call_2 : decode cX0_call 2 = .ok (.invokevirtual 89, 3) := dk_182 0 89 (dk_at dksX0_call_0 2 rfl rfl)
theorem dX0_call_5 : decode cX0_call 5 = .ok (.ifCond .ne 11, 3) := dk_154 0 11 (dk_at dksX0_call_0 5 rfl rfl)
theorem dX0_call_8 : decode cX0_call 8 = .ok (.aload_n 0, 1) := dk_42 (dk_at dksX0_call_0 8 rfl rfl)
theorem dX0_call_9 : decode cX0_call 9 = .ok (.iload_n 2, 1) := dk_28 (dk_at dksX0_call_0 9 rfl rfl)
theorem dX0_call_10 : decode cX0_call 10 = .ok (.invokevirtual 89, 3) := dk_182 0 89 (dk_at dksX0_call_0 10 rfl rfl)
theorem dX0_call_13 : decode cX0_call 13 = .ok (.ifCond .eq 5, 3) := dk_153 0 5 (dk_at dksX0_call_0 13 rfl rfl)
theorem dX0_call_16 : decode cX0_call 16 = .ok (.iconst (-1), 1) := dk_2 (dk_at dksX0_call_0 16 rfl rfl)
theorem dX0_call_17 : decode cX0_call 17 = .ok (.ireturn, 1) := dk_172 (dk_at dksX0_call_0 17 rfl rfl)
theorem dX0_call_18 : decode cX0_call 18 = .ok (.iload_n 1, 1) := dk_27 (dk_at dksX0_call_0 18 rfl rfl)
theorem dX0_call_19 : decode cX0_call 19 = .ok (.iload_n 2, 1) := dk_28 (dk_at dksX0_call_0 19 rfl rfl)
theorem dX0_call_20 : decode cX0_call 20 = .ok (.if_icmp .ne 6, 3) := dk_160 0 6 (dk_at dksX0_call_0 20 rfl rfl)
theorem dX0_call_23 : decode cX0_call 23 = .ok (.bipush (-2), 2) := dk_16 254 (dk_at dksX0_call_1 0 rfl rfl)
theorem dX0_call_25 : decode cX0_call 25 = .ok (.ireturn, 1) := dk_172 (dk_at dksX0_call_1 2 rfl rfl)
theorem dX0_call_26 : decode cX0_call 26 = .ok (.aload_n 0, 1) := dk_42 (dk_at dksX0_call_1 3 rfl rfl)
theorem dX0_call_27 : decode cX0_call 27 = .ok (.invokevirtual 93, 3) := dk_182 0 93 (dk_at dksX0_call_1 4 rfl rfl)
theorem dX0_call_30 : decode cX0_call 30 = .ok (.istore_n 3, 1) := dk_62 (dk_at dksX0_call_1 7 rfl rfl)
theorem dX0_call_31 : decode cX0_call 31 = .ok (.aload_n 0, 1) := dk_42 (dk_at dksX0_call_1 8 rfl rfl)
theorem dX0_call_32 : decode cX0_call 32 = .ok (.iload_n 3, 1) := dk_29 (dk_at dksX0_call_1 9 rfl rfl)
theorem dX0_call_33 : decode cX0_call 33 = .ok (.iload_n 1, 1) := dk_27 (dk_at dksX0_call_1 10 rfl rfl)
theorem dX0_call_34 : decode cX0_call 34 = .ok (.invokevirtual 96, 3) := dk_182 0 96 (dk_at dksX0_call_1 11 rfl rfl)
theorem dX0_call_37 : decode cX0_call 37 = .ok (.iload_n 2, 1) := dk_28 (dk_at dksX0_call_1 14 rfl rfl)
theorem dX0_call_38 : decode cX0_call 38 = .ok (.invokestatic 57, 3) := dk_184 0 57 (dk_at dksX0_call_1 15 rfl rfl)
theorem dX0_call_41 : decode cX0_call 41 = .ok (.ifCond .ne 6, 3) := dk_154 0 6 (dk_at dksX0_call_1 18 rfl rfl)
theorem dX0_call_44 : decode cX0_call 44 = .ok (.bipush (-3), 2) := dk_16 253 (dk_at dksX0_call_1 21 rfl rfl)
theorem dX0_call_46 : decode cX0_call 46 = .ok (.ireturn, 1) := dk_172 (dk_at dksX0_call_1 23 rfl rfl)
theorem dX0_call_47 : decode cX0_call 47 = .ok (.aload_n 0, 1) := dk_42 (dk_at dksX0_call_2 0 rfl rfl)
theorem dX0_call_48 : decode cX0_call 48 = .ok (.getfield 18, 3) := dk_180 0 18 (dk_at dksX0_call_2 1 rfl rfl)
theorem dX0_call_51 : decode cX0_call 51 = .ok (.invokeinterface 74 1, 5) := by decide +kernel
theorem dX0_call_56 : decode cX0_call 56 = .ok (.istore 4, 2) := dk_54 4 (dk_at dksX0_call_2 9 rfl rfl)
theorem dX0_call_58 : decode cX0_call 58 = .ok (.iload 4, 2) := dk_21 4 (dk_at dksX0_call_2 11 rfl rfl)
theorem dX0_call_60 : decode cX0_call 60 = .ok (.bipush 12, 2) := dk_16 12 (dk_at dksX0_call_2 13 rfl rfl)
theorem dX0_call_62 : decode cX0_call 62 = .ok (.if_icmp .ne 6, 3) := dk_160 0 6 (dk_at dksX0_call_2 15 rfl rfl)
theorem dX0_call_65 : decode cX0_call 65 = .ok (.bipush (-4), 2) := dk_16 252 (dk_at dksX0_call_2 18 rfl rfl)
theorem dX0_call_67 : decode cX0_call 67 = .ok (.ireturn, 1) := dk_172 (dk_at dksX0_call_2 20 rfl rfl)
theorem dX0_call_68 : decode cX0_call 68 = .ok (.iload_n 3, 1) := dk_29 (dk_at dksX0_call_2 21 rfl rfl)
theorem dX0_call_69 : decode cX0_call 69 = .ok (.iload_n 1, 1) := dk_27 (dk_at dksX0_call_2 22 rfl rfl)
theorem dX0_call_70 : decode cX0_call 70 = .ok (.invokestatic 53, 3) := dk_184 0 53 (dk_at dksX0_call_3 0 rfl rfl)
theorem dX0_call_73 : decode cX0_call 73 = .ok (.iload_n 3, 1) := dk_29 (dk_at dksX0_call_3 3 rfl rfl)
theorem dX0_call_74 : decode cX0_call 74 = .ok (.iload_n 2, 1) := dk_28 (dk_at dksX0_call_3 4 rfl rfl)
theorem dX0_call_75 : decode cX0_call 75 = .ok (.invokestatic 53, 3) := dk_184 0 53 (dk_at dksX0_call_3 5 rfl rfl)
theorem dX0_call_78 : decode cX0_call 78 = .ok (.ior, 1) := dk_128 (dk_at dksX0_call_3 8 rfl rfl)
theorem dX0_call_79 : decode cX0_call 79 = .ok (.istore 5, 2) := dk_54 5 (dk_at dksX0_call_3 9 rfl rfl)
theorem dX0_call_81 : decode cX0_call 81 = .ok (.iload_n 3, 1) := dk_29 (dk_at dksX0_call_3 11 rfl rfl)
theorem dX0_call_82 : decode cX0_call 82 = .ok (.iload_n 1, 1) := dk_27 (dk_at dksX0_call_3 12 rfl rfl)
theorem dX0_call_83 : decode cX0_call 83 = .ok (.invokestatic 53, 3) := dk_184 0 53 (dk_at dksX0_call_3 13 rfl rfl)
theorem dX0_call_86 : decode cX0_call 86 = .ok (.iload_n 3, 1) := dk_29 (dk_at dksX0_call_3 16 rfl rfl)
theorem dX0_call_87 : decode cX0_call 87 = .ok (.iload_n 2, 1) := dk_28 (dk_at dksX0_call_3 17 rfl rfl)
theorem dX0_call_88 : decode cX0_call 88 = .ok (.invokestatic 53, 3) := dk_184 0 53 (dk_at dksX0_call_3 18 rfl rfl)
theorem dX0_call_91 : decode cX0_call 91 = .ok (.if_icmp .eq 7, 3) := dk_159 0 7 (dk_at dksX0_call_3 21 rfl rfl)
theorem dX0_call_94 : decode cX0_call 94 = .ok (.iconst 1, 1) := dk_4 (dk_at dksX0_call_4 0 rfl rfl)
theorem dX0_call_95 : decode cX0_call 95 = .ok (.goto 4, 3) := dk_167 0 4 (dk_at dksX0_call_4 1 rfl rfl)
theorem dX0_call_98 : decode cX0_call 98 = .ok (.iconst 0, 1) := dk_3 (dk_at dksX0_call_4 4 rfl rfl)
theorem dX0_call_99 : decode cX0_call 99 = .ok (.istore 6, 2) := dk_54 6 (dk_at dksX0_call_4 5 rfl rfl)
theorem dX0_call_101 : decode cX0_call 101 = .ok (.aload_n 0, 1) := dk_42 (dk_at dksX0_call_4 7 rfl rfl)
theorem dX0_call_102 : decode cX0_call 102 = .ok (.invokevirtual 99, 3) := dk_182 0 99 (dk_at dksX0_call_4 8 rfl rfl)
theorem dX0_call_105 : decode cX0_call 105 = .ok (.iload_n 1, 1) := dk_27 (dk_at dksX0_call_4 11 rfl rfl)
theorem dX0_call_106 : decode cX0_call 106 = .ok (.iload_n 2, 1) := dk_28 (dk_at dksX0_call_4 12 rfl rfl)
theorem dX0_call_107 : decode cX0_call 107 = .ok (.invokestatic 102, 3) := dk_184 0 102 (dk_at dksX0_call_4 13 rfl rfl)
theorem dX0_call_110 : decode cX0_call 110 = .ok (.istore 7, 2) := dk_54 7 (dk_at dksX0_call_4 16 rfl rfl)
theorem dX0_call_112 : decode cX0_call 112 = .ok (.aload_n 0, 1) := dk_42 (dk_at dksX0_call_4 18 rfl rfl)
theorem dX0_call_113 : decode cX0_call 113 = .ok (.getfield 18, 3) := dk_180 0 18 (dk_at dksX0_call_4 19 rfl rfl)
theorem dX0_call_116 : decode cX0_call 116 = .ok (.iload 6, 2) := dk_21 6 (dk_at dksX0_call_4 22 rfl rfl)
theorem dX0_call_118 : decode cX0_call 118 = .ok (.ifCond .ne 21, 3) := dk_154 0 21 (dk_at dksX0_call_5 0 rfl rfl)
theorem dX0_call_121 : decode cX0_call 121 = .ok (.new 81, 3) := dk_187 0 81 (dk_at dksX0_call_5 3 rfl rfl)
theorem dX0_call_124 : decode cX0_call 124 = .ok (.dup, 1) := dk_89 (dk_at dksX0_call_5 6 rfl rfl)
theorem dX0_call_125 : decode cX0_call 125 = .ok (.aload_n 0, 1) := dk_42 (dk_at dksX0_call_5 7 rfl rfl)
theorem dX0_call_126 : decode cX0_call 126 = .ok (.iload 4, 2) := dk_21 4 (dk_at dksX0_call_5 8 rfl rfl)
theorem dX0_call_128 : decode cX0_call 128 = .ok (.iload_n 1, 1) := dk_27 (dk_at dksX0_call_5 10 rfl rfl)
theorem dX0_call_129 : decode cX0_call 129 = .ok (.iload_n 2, 1) := dk_28 (dk_at dksX0_call_5 11 rfl rfl)
theorem dX0_call_130 : decode cX0_call 130 = .ok (.iload_n 3, 1) := dk_29 (dk_at dksX0_call_5 12 rfl rfl)
theorem dX0_call_131 : decode cX0_call 131 = .ok (.iload 7, 2) := dk_21 7 (dk_at dksX0_call_5 13 rfl rfl)
theorem dX0_call_133 : decode cX0_call 133 = .ok (.invokespecial 106, 3) := dk_183 0 106 (dk_at dksX0_call_5 15 rfl rfl)
theorem dX0_call_136 : decode cX0_call 136 = .ok (.goto 45, 3) := dk_167 0 45 (dk_at dksX0_call_5 18 rfl rfl)
theorem dX0_call_139 : decode cX0_call 139 = .ok (.iload 5, 2) := dk_21 5 (dk_at dksX0_call_5 21 rfl rfl)
theorem dX0_call_141 : decode cX0_call 141 = .ok (.aload_n 0, 1) := dk_42 (dk_at dksX0_call_5 23 rfl rfl)
theorem dX0_call_142 : decode cX0_call 142 = .ok (.invokevirtual 61, 3) := dk_182 0 61 (dk_at dksX0_call_6 0 rfl rfl)
theorem dX0_call_145 : decode cX0_call 145 = .ok (.if_icmp .ne 21, 3) := dk_160 0 21 (dk_at dksX0_call_6 3 rfl rfl)
theorem dX0_call_148 : decode cX0_call 148 = .ok (.new 109, 3) := dk_187 0 109 (dk_at dksX0_call_6 6 rfl rfl)
theorem dX0_call_151 : decode cX0_call 151 = .ok (.dup, 1) := dk_89 (dk_at dksX0_call_6 9 rfl rfl)
theorem dX0_call_152 : decode cX0_call 152 = .ok (.aload_n 0, 1) := dk_42 (dk_at dksX0_call_6 10 rfl rfl)
theorem dX0_call_153 : decode cX0_call 153 = .ok (.iload 4, 2) := dk_21 4 (dk_at dksX0_call_6 11 rfl rfl)
theorem dX0_call_155 : decode cX0_call 155 = .ok (.iload_n 1, 1) := dk_27 (dk_at dksX0_call_6 13 rfl rfl)
theorem dX0_call_156 : decode cX0_call 156 = .ok (.iload_n 2, 1) := dk_28 (dk_at dksX0_call_6 14 rfl rfl)
theorem dX0_call_157 : decode cX0_call 157 = .ok (.iload_n 3, 1) := dk_29 (dk_at dksX0_call_6 15 rfl rfl)
theorem dX0_call_158 : decode cX0_call 158 = .ok (.iload 7, 2) := dk_21 7 (dk_at dksX0_call_6 16 rfl rfl)
theorem dX0_call_160 : decode cX0_call 160 = .ok (.invokespecial 111, 3) := dk_183 0 111 (dk_at dksX0_call_6 18 rfl rfl)
theorem dX0_call_163 : decode cX0_call 163 = .ok (.goto 18, 3) := dk_167 0 18 (dk_at dksX0_call_6 21 rfl rfl)
theorem dX0_call_166 : decode cX0_call 166 = .ok (.new 112, 3) := dk_187 0 112 (dk_at dksX0_call_7 0 rfl rfl)
theorem dX0_call_169 : decode cX0_call 169 = .ok (.dup, 1) := dk_89 (dk_at dksX0_call_7 3 rfl rfl)
theorem dX0_call_170 : decode cX0_call 170 = .ok (.aload_n 0, 1) := dk_42 (dk_at dksX0_call_7 4 rfl rfl)
theorem dX0_call_171 : decode cX0_call 171 = .ok (.iload 4, 2) := dk_21 4 (dk_at dksX0_call_7 5 rfl rfl)
theorem dX0_call_173 : decode cX0_call 173 = .ok (.iload_n 1, 1) := dk_27 (dk_at dksX0_call_7 7 rfl rfl)
theorem dX0_call_174 : decode cX0_call 174 = .ok (.iload_n 2, 1) := dk_28 (dk_at dksX0_call_7 8 rfl rfl)
theorem dX0_call_175 : decode cX0_call 175 = .ok (.iload_n 3, 1) := dk_29 (dk_at dksX0_call_7 9 rfl rfl)
theorem dX0_call_176 : decode cX0_call 176 = .ok (.iload 7, 2) := dk_21 7 (dk_at dksX0_call_7 10 rfl rfl)
theorem dX0_call_178 : decode cX0_call 178 = .ok (.invokespecial 114, 3) := dk_183 0 114 (dk_at dksX0_call_7 12 rfl rfl)
theorem dX0_call_181 : decode cX0_call 181 = .ok (.invokeinterface 115 2, 5) := by decide +kernel
theorem dX0_call_186 : decode cX0_call 186 = .ok (.pop, 1) := dk_87 (dk_at dksX0_call_7 20 rfl rfl)
theorem dX0_call_187 : decode cX0_call 187 = .ok (.iload 4, 2) := dk_21 4 (dk_at dksX0_call_7 21 rfl rfl)
theorem dX0_call_189 : decode cX0_call 189 = .ok (.ireturn, 1) := dk_172 (dk_at dksX0_call_7 23 rfl rfl)
abbrev cX0_noPerson : ByteArray := prog_1_method_4_code
def yX0_noPerson : MethodName := ⟨RX0, "noPerson", "(I)Z"⟩
def dkwX0_noPerson_0 : List UInt8 := [27, 133, 9, 42, 180, 0, 45, 4, 100, 133, 184, 0, 49, 154, 0, 7, 4, 167, 0, 4, 3, 172]
abbrev dktX0_noPerson_0 : List UInt8 := dkwX0_noPerson_0 ++ []
theorem dksX0_noPerson_0 : cX0_noPerson.data.toList.drop 0 = dktX0_noPerson_0 := by decide +kernel
theorem dX0_noPerson_0 : decode cX0_noPerson 0 = .ok (.iload_n 1, 1) := dk_27 (dk_at dksX0_noPerson_0 0 rfl rfl)
theorem dX0_noPerson_1 : decode cX0_noPerson 1 = .ok (.i2l, 1) := dk_133 (dk_at dksX0_noPerson_0 1 rfl rfl)
theorem dX0_noPerson_2 : decode cX0_noPerson 2 = .ok (.lconst 0, 1) := dk_9 (dk_at dksX0_noPerson_0 2 rfl rfl)
theorem dX0_noPerson_3 : decode cX0_noPerson 3 = .ok (.aload_n 0, 1) := dk_42 (dk_at dksX0_noPerson_0 3 rfl rfl)
theorem dX0_noPerson_4 : decode cX0_noPerson 4 = .ok (.getfield 45, 3) := dk_180 0 45 (dk_at dksX0_noPerson_0 4 rfl rfl)
theorem dX0_noPerson_7 : decode cX0_noPerson 7 = .ok (.iconst 1, 1) := dk_4 (dk_at dksX0_noPerson_0 7 rfl rfl)
theorem dX0_noPerson_8 : decode cX0_noPerson 8 = .ok (.isub, 1) := dk_100 (dk_at dksX0_noPerson_0 8 rfl rfl)
theorem dX0_noPerson_9 : decode cX0_noPerson 9 = .ok (.i2l, 1) := dk_133 (dk_at dksX0_noPerson_0 9 rfl rfl)
theorem dX0_noPerson_10 : decode cX0_noPerson 10 = .ok (.invokestatic 49, 3) := dk_184 0 49 (dk_at dksX0_noPerson_0 10 rfl rfl)
theorem dX0_noPerson_13 : decode cX0_noPerson 13 = .ok (.ifCond .ne 7, 3) := dk_154 0 7 (dk_at dksX0_noPerson_0 13 rfl rfl)
theorem dX0_noPerson_16 : decode cX0_noPerson 16 = .ok (.iconst 1, 1) := dk_4 (dk_at dksX0_noPerson_0 16 rfl rfl)
theorem dX0_noPerson_17 : decode cX0_noPerson 17 = .ok (.goto 4, 3) := dk_167 0 4 (dk_at dksX0_noPerson_0 17 rfl rfl)
theorem dX0_noPerson_20 : decode cX0_noPerson 20 = .ok (.iconst 0, 1) := dk_3 (dk_at dksX0_noPerson_0 20 rfl rfl)
theorem dX0_noPerson_21 : decode cX0_noPerson 21 = .ok (.ireturn, 1) := dk_172 (dk_at dksX0_noPerson_0 21 rfl rfl)
abbrev cX0_in : ByteArray := prog_1_method_1_code
def yX0_in : MethodName := ⟨RX0, "in", "(JJJ)Z"⟩
def dkwX0_in_0 : List UInt8 := [30, 32, 148, 155, 0, 14, 30, 22, 4, 148, 157, 0, 7, 4, 167, 0, 4, 3, 172]
abbrev dktX0_in_0 : List UInt8 := dkwX0_in_0 ++ []
theorem dksX0_in_0 : cX0_in.data.toList.drop 0 = dktX0_in_0 := by decide +kernel
theorem dX0_in_0 : decode cX0_in 0 = .ok (.lload_n 0, 1) := dk_30 (dk_at dksX0_in_0 0 rfl rfl)
theorem dX0_in_1 : decode cX0_in 1 = .ok (.lload_n 2, 1) := dk_32 (dk_at dksX0_in_0 1 rfl rfl)
theorem dX0_in_2 : decode cX0_in 2 = .ok (.lcmp, 1) := dk_148 (dk_at dksX0_in_0 2 rfl rfl)
theorem dX0_in_3 : decode cX0_in 3 = .ok (.ifCond .lt 14, 3) := dk_155 0 14 (dk_at dksX0_in_0 3 rfl rfl)
theorem dX0_in_6 : decode cX0_in 6 = .ok (.lload_n 0, 1) := dk_30 (dk_at dksX0_in_0 6 rfl rfl)
theorem dX0_in_7 : decode cX0_in 7 = .ok (.lload 4, 2) := dk_22 4 (dk_at dksX0_in_0 7 rfl rfl)
theorem dX0_in_9 : decode cX0_in 9 = .ok (.lcmp, 1) := dk_148 (dk_at dksX0_in_0 9 rfl rfl)
theorem dX0_in_10 : decode cX0_in 10 = .ok (.ifCond .gt 7, 3) := dk_157 0 7 (dk_at dksX0_in_0 10 rfl rfl)
theorem dX0_in_13 : decode cX0_in 13 = .ok (.iconst 1, 1) := dk_4 (dk_at dksX0_in_0 13 rfl rfl)
theorem dX0_in_14 : decode cX0_in 14 = .ok (.goto 4, 3) := dk_167 0 4 (dk_at dksX0_in_0 14 rfl rfl)
theorem dX0_in_17 : decode cX0_in 17 = .ok (.iconst 0, 1) := dk_3 (dk_at dksX0_in_0 17 rfl rfl)
theorem dX0_in_18 : decode cX0_in 18 = .ok (.ireturn, 1) := dk_172 (dk_at dksX0_in_0 18 rfl rfl)
abbrev cX0_secretsNow : ByteArray := prog_1_method_12_code
def yX0_secretsNow : MethodName := ⟨RX0, "secretsNow", "()I"⟩
def dkwX0_secretsNow_1 : List UInt8 := [180, 0, 18, 185, 0, 74, 1, 0, 4, 100, 185, 0, 77, 2, 0, 192, 0, 81, 180, 0, 83, 172]
abbrev dktX0_secretsNow_1 : List UInt8 := dkwX0_secretsNow_1 ++ []
def dkwX0_secretsNow_0 : List UInt8 := [42, 180, 0, 18, 185, 0, 65, 1, 0, 153, 0, 10, 42, 182, 0, 71, 167, 0, 29, 42, 180, 0, 18, 42]
abbrev dktX0_secretsNow_0 : List UInt8 := dkwX0_secretsNow_0 ++ dktX0_secretsNow_1
theorem dksX0_secretsNow_0 : cX0_secretsNow.data.toList.drop 0 = dktX0_secretsNow_0 := by decide +kernel
theorem dksX0_secretsNow_1 : cX0_secretsNow.data.toList.drop 24 = dktX0_secretsNow_1 := dk_seg dksX0_secretsNow_0 24 rfl rfl
theorem dX0_secretsNow_0 : decode cX0_secretsNow 0 = .ok (.aload_n 0, 1) := dk_42 (dk_at dksX0_secretsNow_0 0 rfl rfl)
theorem dX0_secretsNow_1 : decode cX0_secretsNow 1 = .ok (.getfield 18, 3) := dk_180 0 18 (dk_at dksX0_secretsNow_0 1 rfl rfl)
theorem dX0_secretsNow_4 : decode cX0_secretsNow 4 = .ok (.invokeinterface 65 1, 5) := by decide +kernel
theorem dX0_secretsNow_9 : decode cX0_secretsNow 9 = .ok (.ifCond .eq 10, 3) := dk_153 0 10 (dk_at dksX0_secretsNow_0 9 rfl rfl)
theorem dX0_secretsNow_12 : decode cX0_secretsNow 12 = .ok (.aload_n 0, 1) := dk_42 (dk_at dksX0_secretsNow_0 12 rfl rfl)
theorem dX0_secretsNow_13 : decode cX0_secretsNow 13 = .ok (.invokevirtual 71, 3) := dk_182 0 71 (dk_at dksX0_secretsNow_0 13 rfl rfl)
theorem dX0_secretsNow_16 : decode cX0_secretsNow 16 = .ok (.goto 29, 3) := dk_167 0 29 (dk_at dksX0_secretsNow_0 16 rfl rfl)
theorem dX0_secretsNow_19 : decode cX0_secretsNow 19 = .ok (.aload_n 0, 1) := dk_42 (dk_at dksX0_secretsNow_0 19 rfl rfl)
theorem dX0_secretsNow_20 : decode cX0_secretsNow 20 = .ok (.getfield 18, 3) := dk_180 0 18 (dk_at dksX0_secretsNow_0 20 rfl rfl)
theorem dX0_secretsNow_23 : decode cX0_secretsNow 23 = .ok (.aload_n 0, 1) := dk_42 (dk_at dksX0_secretsNow_0 23 rfl rfl)
theorem dX0_secretsNow_24 : decode cX0_secretsNow 24 = .ok (.getfield 18, 3) := dk_180 0 18 (dk_at dksX0_secretsNow_1 0 rfl rfl)
theorem dX0_secretsNow_27 : decode cX0_secretsNow 27 = .ok (.invokeinterface 74 1, 5) := by decide +kernel
theorem dX0_secretsNow_32 : decode cX0_secretsNow 32 = .ok (.iconst 1, 1) := dk_4 (dk_at dksX0_secretsNow_1 8 rfl rfl)
theorem dX0_secretsNow_33 : decode cX0_secretsNow 33 = .ok (.isub, 1) := dk_100 (dk_at dksX0_secretsNow_1 9 rfl rfl)
theorem dX0_secretsNow_34 : decode cX0_secretsNow 34 = .ok (.invokeinterface 77 2, 5) := by decide +kernel
theorem dX0_secretsNow_39 : decode cX0_secretsNow 39 = .ok (.checkcast 81, 3) := dk_192 0 81 (dk_at dksX0_secretsNow_1 15 rfl rfl)
theorem dX0_secretsNow_42 : decode cX0_secretsNow 42 = .ok (.getfield 83, 3) := dk_180 0 83 (dk_at dksX0_secretsNow_1 18 rfl rfl)
theorem dX0_secretsNow_45 : decode cX0_secretsNow 45 = .ok (.ireturn, 1) := dk_172 (dk_at dksX0_secretsNow_1 21 rfl rfl)
abbrev cX0_atFirst : ByteArray := prog_1_method_7_code
def yX0_atFirst : MethodName := ⟨RX0, "atFirst", "()I"⟩
def dkwX0_atFirst_1 : List UInt8 := [167, 255, 237, 27, 172]
abbrev dktX0_atFirst_1 : List UInt8 := dkwX0_atFirst_1 ++ []
def dkwX0_atFirst_0 : List UInt8 := [3, 60, 3, 61, 28, 42, 180, 0, 45, 162, 0, 17, 27, 4, 8, 28, 104, 120, 128, 60, 132, 2, 1]
abbrev dktX0_atFirst_0 : List UInt8 := dkwX0_atFirst_0 ++ dktX0_atFirst_1
theorem dksX0_atFirst_0 : cX0_atFirst.data.toList.drop 0 = dktX0_atFirst_0 := by decide +kernel
theorem dksX0_atFirst_1 : cX0_atFirst.data.toList.drop 23 = dktX0_atFirst_1 := dk_seg dksX0_atFirst_0 23 rfl rfl
theorem dX0_atFirst_0 : decode cX0_atFirst 0 = .ok (.iconst 0, 1) := dk_3 (dk_at dksX0_atFirst_0 0 rfl rfl)
theorem dX0_atFirst_1 : decode cX0_atFirst 1 = .ok (.istore_n 1, 1) := dk_60 (dk_at dksX0_atFirst_0 1 rfl rfl)
theorem dX0_atFirst_2 : decode cX0_atFirst 2 = .ok (.iconst 0, 1) := dk_3 (dk_at dksX0_atFirst_0 2 rfl rfl)
theorem dX0_atFirst_3 : decode cX0_atFirst 3 = .ok (.istore_n 2, 1) := dk_61 (dk_at dksX0_atFirst_0 3 rfl rfl)
theorem dX0_atFirst_4 : decode cX0_atFirst 4 = .ok (.iload_n 2, 1) := dk_28 (dk_at dksX0_atFirst_0 4 rfl rfl)
theorem dX0_atFirst_5 : decode cX0_atFirst 5 = .ok (.aload_n 0, 1) := dk_42 (dk_at dksX0_atFirst_0 5 rfl rfl)
theorem dX0_atFirst_6 : decode cX0_atFirst 6 = .ok (.getfield 45, 3) := dk_180 0 45 (dk_at dksX0_atFirst_0 6 rfl rfl)
theorem dX0_atFirst_9 : decode cX0_atFirst 9 = .ok (.if_icmp .ge 17, 3) := dk_162 0 17 (dk_at dksX0_atFirst_0 9 rfl rfl)
theorem dX0_atFirst_12 : decode cX0_atFirst 12 = .ok (.iload_n 1, 1) := dk_27 (dk_at dksX0_atFirst_0 12 rfl rfl)
theorem dX0_atFirst_13 : decode cX0_atFirst 13 = .ok (.iconst 1, 1) := dk_4 (dk_at dksX0_atFirst_0 13 rfl rfl)
theorem dX0_atFirst_14 : decode cX0_atFirst 14 = .ok (.iconst 5, 1) := dk_8 (dk_at dksX0_atFirst_0 14 rfl rfl)
theorem dX0_atFirst_15 : decode cX0_atFirst 15 = .ok (.iload_n 2, 1) := dk_28 (dk_at dksX0_atFirst_0 15 rfl rfl)
theorem dX0_atFirst_16 : decode cX0_atFirst 16 = .ok (.imul, 1) := dk_104 (dk_at dksX0_atFirst_0 16 rfl rfl)
theorem dX0_atFirst_17 : decode cX0_atFirst 17 = .ok (.ishl, 1) := dk_120 (dk_at dksX0_atFirst_0 17 rfl rfl)
theorem dX0_atFirst_18 : decode cX0_atFirst 18 = .ok (.ior, 1) := dk_128 (dk_at dksX0_atFirst_0 18 rfl rfl)
theorem dX0_atFirst_19 : decode cX0_atFirst 19 = .ok (.istore_n 1, 1) := dk_60 (dk_at dksX0_atFirst_0 19 rfl rfl)
theorem dX0_atFirst_20 : decode cX0_atFirst 20 = .ok (.iinc 2 1, 3) := dk_132 2 1 (dk_at dksX0_atFirst_0 20 rfl rfl)
theorem dX0_atFirst_23 : decode cX0_atFirst 23 = .ok (.goto (-19), 3) := dk_167 255 237 (dk_at dksX0_atFirst_1 0 rfl rfl)
theorem dX0_atFirst_26 : decode cX0_atFirst 26 = .ok (.iload_n 1, 1) := dk_27 (dk_at dksX0_atFirst_1 3 rfl rfl)
theorem dX0_atFirst_27 : decode cX0_atFirst 27 = .ok (.ireturn, 1) := dk_172 (dk_at dksX0_atFirst_1 4 rfl rfl)
abbrev cX0_numbersOf : ByteArray := prog_1_method_8_code
def yX0_numbersOf : MethodName := ⟨RX0, "numbersOf", "(II)I"⟩
def dkwX0_numbersOf_2 : List UInt8 := [167, 255, 217, 29, 172]
abbrev dktX0_numbersOf_2 : List UInt8 := dkwX0_numbersOf_2 ++ []
def dkwX0_numbersOf_1 : List UInt8 := [184, 0, 57, 153, 0, 13, 42, 180, 0, 11, 21, 4, 46, 167, 0, 4, 3, 128, 62, 132, 4, 1]
abbrev dktX0_numbersOf_1 : List UInt8 := dkwX0_numbersOf_1 ++ dktX0_numbersOf_2
def dkwX0_numbersOf_0 : List UInt8 := [3, 62, 3, 54, 4, 21, 4, 42, 180, 0, 45, 162, 0, 36, 29, 27, 28, 184, 0, 53, 21, 4]
abbrev dktX0_numbersOf_0 : List UInt8 := dkwX0_numbersOf_0 ++ dktX0_numbersOf_1
theorem dksX0_numbersOf_0 : cX0_numbersOf.data.toList.drop 0 = dktX0_numbersOf_0 := by decide +kernel
theorem dksX0_numbersOf_1 : cX0_numbersOf.data.toList.drop 22 = dktX0_numbersOf_1 := dk_seg dksX0_numbersOf_0 22 rfl rfl
theorem dksX0_numbersOf_2 : cX0_numbersOf.data.toList.drop 44 = dktX0_numbersOf_2 := dk_seg dksX0_numbersOf_1 22 rfl rfl
theorem dX0_numbersOf_0 : decode cX0_numbersOf 0 = .ok (.iconst 0, 1) := dk_3 (dk_at dksX0_numbersOf_0 0 rfl rfl)
theorem dX0_numbersOf_1 : decode cX0_numbersOf 1 = .ok (.istore_n 3, 1) := dk_62 (dk_at dksX0_numbersOf_0 1 rfl rfl)
theorem dX0_numbersOf_2 : decode cX0_numbersOf 2 = .ok (.iconst 0, 1) := dk_3 (dk_at dksX0_numbersOf_0 2 rfl rfl)
theorem dX0_numbersOf_3 : decode cX0_numbersOf 3 = .ok (.istore 4, 2) := dk_54 4 (dk_at dksX0_numbersOf_0 3 rfl rfl)
theorem dX0_numbersOf_5 : decode cX0_numbersOf 5 = .ok (.iload 4, 2) := dk_21 4 (dk_at dksX0_numbersOf_0 5 rfl rfl)
theorem dX0_numbersOf_7 : decode cX0_numbersOf 7 = .ok (.aload_n 0, 1) := dk_42 (dk_at dksX0_numbersOf_0 7 rfl rfl)
theorem dX0_numbersOf_8 : decode cX0_numbersOf 8 = .ok (.getfield 45, 3) := dk_180 0 45 (dk_at dksX0_numbersOf_0 8 rfl rfl)
theorem dX0_numbersOf_11 : decode cX0_numbersOf 11 = .ok (.if_icmp .ge 36, 3) := dk_162 0 36 (dk_at dksX0_numbersOf_0 11 rfl rfl)
theorem dX0_numbersOf_14 : decode cX0_numbersOf 14 = .ok (.iload_n 3, 1) := dk_29 (dk_at dksX0_numbersOf_0 14 rfl rfl)
theorem dX0_numbersOf_15 : decode cX0_numbersOf 15 = .ok (.iload_n 1, 1) := dk_27 (dk_at dksX0_numbersOf_0 15 rfl rfl)
theorem dX0_numbersOf_16 : decode cX0_numbersOf 16 = .ok (.iload_n 2, 1) := dk_28 (dk_at dksX0_numbersOf_0 16 rfl rfl)
theorem dX0_numbersOf_17 : decode cX0_numbersOf 17 = .ok (.invokestatic 53, 3) := dk_184 0 53 (dk_at dksX0_numbersOf_0 17 rfl rfl)
theorem dX0_numbersOf_20 : decode cX0_numbersOf 20 = .ok (.iload 4, 2) := dk_21 4 (dk_at dksX0_numbersOf_0 20 rfl rfl)
theorem dX0_numbersOf_22 : decode cX0_numbersOf 22 = .ok (.invokestatic 57, 3) := dk_184 0 57 (dk_at dksX0_numbersOf_1 0 rfl rfl)
theorem dX0_numbersOf_25 : decode cX0_numbersOf 25 = .ok (.ifCond .eq 13, 3) := dk_153 0 13 (dk_at dksX0_numbersOf_1 3 rfl rfl)
theorem dX0_numbersOf_28 : decode cX0_numbersOf 28 = .ok (.aload_n 0, 1) := dk_42 (dk_at dksX0_numbersOf_1 6 rfl rfl)
theorem dX0_numbersOf_29 : decode cX0_numbersOf 29 = .ok (.getfield 11, 3) := dk_180 0 11 (dk_at dksX0_numbersOf_1 7 rfl rfl)
theorem dX0_numbersOf_32 : decode cX0_numbersOf 32 = .ok (.iload 4, 2) := dk_21 4 (dk_at dksX0_numbersOf_1 10 rfl rfl)
theorem dX0_numbersOf_34 : decode cX0_numbersOf 34 = .ok (.iaload, 1) := dk_46 (dk_at dksX0_numbersOf_1 12 rfl rfl)
theorem dX0_numbersOf_35 : decode cX0_numbersOf 35 = .ok (.goto 4, 3) := dk_167 0 4 (dk_at dksX0_numbersOf_1 13 rfl rfl)
theorem dX0_numbersOf_38 : decode cX0_numbersOf 38 = .ok (.iconst 0, 1) := dk_3 (dk_at dksX0_numbersOf_1 16 rfl rfl)
theorem dX0_numbersOf_39 : decode cX0_numbersOf 39 = .ok (.ior, 1) := dk_128 (dk_at dksX0_numbersOf_1 17 rfl rfl)
theorem dX0_numbersOf_40 : decode cX0_numbersOf 40 = .ok (.istore_n 3, 1) := dk_62 (dk_at dksX0_numbersOf_1 18 rfl rfl)
theorem dX0_numbersOf_41 : decode cX0_numbersOf 41 = .ok (.iinc 4 1, 3) := dk_132 4 1 (dk_at dksX0_numbersOf_1 19 rfl rfl)
theorem dX0_numbersOf_44 : decode cX0_numbersOf 44 = .ok (.goto (-39), 3) := dk_167 255 217 (dk_at dksX0_numbersOf_2 0 rfl rfl)
theorem dX0_numbersOf_47 : decode cX0_numbersOf 47 = .ok (.iload_n 3, 1) := dk_29 (dk_at dksX0_numbersOf_2 3 rfl rfl)
theorem dX0_numbersOf_48 : decode cX0_numbersOf 48 = .ok (.ireturn, 1) := dk_172 (dk_at dksX0_numbersOf_2 4 rfl rfl)
abbrev cX0_hasOf : ByteArray := prog_1_method_6_code
def yX0_hasOf : MethodName := ⟨RX0, "hasOf", "(II)I"⟩
def dkwX0_hasOf_0 : List UInt8 := [26, 7, 27, 104, 122, 16, 15, 126, 172]
abbrev dktX0_hasOf_0 : List UInt8 := dkwX0_hasOf_0 ++ []
theorem dksX0_hasOf_0 : cX0_hasOf.data.toList.drop 0 = dktX0_hasOf_0 := by decide +kernel
theorem dX0_hasOf_0 : decode cX0_hasOf 0 = .ok (.iload_n 0, 1) := dk_26 (dk_at dksX0_hasOf_0 0 rfl rfl)
theorem dX0_hasOf_1 : decode cX0_hasOf 1 = .ok (.iconst 4, 1) := dk_7 (dk_at dksX0_hasOf_0 1 rfl rfl)
theorem dX0_hasOf_2 : decode cX0_hasOf 2 = .ok (.iload_n 1, 1) := dk_27 (dk_at dksX0_hasOf_0 2 rfl rfl)
theorem dX0_hasOf_3 : decode cX0_hasOf 3 = .ok (.imul, 1) := dk_104 (dk_at dksX0_hasOf_0 3 rfl rfl)
theorem dX0_hasOf_4 : decode cX0_hasOf 4 = .ok (.ishr, 1) := dk_122 (dk_at dksX0_hasOf_0 4 rfl rfl)
theorem dX0_hasOf_5 : decode cX0_hasOf 5 = .ok (.bipush 15, 2) := dk_16 15 (dk_at dksX0_hasOf_0 5 rfl rfl)
theorem dX0_hasOf_7 : decode cX0_hasOf 7 = .ok (.iand, 1) := dk_126 (dk_at dksX0_hasOf_0 7 rfl rfl)
theorem dX0_hasOf_8 : decode cX0_hasOf 8 = .ok (.ireturn, 1) := dk_172 (dk_at dksX0_hasOf_0 8 rfl rfl)
abbrev cX0_isIn : ByteArray := prog_1_method_2_code
def yX0_isIn : MethodName := ⟨RX0, "isIn", "(II)Z"⟩
def dkwX0_isIn_0 : List UInt8 := [26, 27, 122, 4, 126, 4, 160, 0, 7, 4, 167, 0, 4, 3, 172]
abbrev dktX0_isIn_0 : List UInt8 := dkwX0_isIn_0 ++ []
theorem dksX0_isIn_0 : cX0_isIn.data.toList.drop 0 = dktX0_isIn_0 := by decide +kernel
theorem dX0_isIn_0 : decode cX0_isIn 0 = .ok (.iload_n 0, 1) := dk_26 (dk_at dksX0_isIn_0 0 rfl rfl)
theorem dX0_isIn_1 : decode cX0_isIn 1 = .ok (.iload_n 1, 1) := dk_27 (dk_at dksX0_isIn_0 1 rfl rfl)
theorem dX0_isIn_2 : decode cX0_isIn 2 = .ok (.ishr, 1) := dk_122 (dk_at dksX0_isIn_0 2 rfl rfl)
theorem dX0_isIn_3 : decode cX0_isIn 3 = .ok (.iconst 1, 1) := dk_4 (dk_at dksX0_isIn_0 3 rfl rfl)
theorem dX0_isIn_4 : decode cX0_isIn 4 = .ok (.iand, 1) := dk_126 (dk_at dksX0_isIn_0 4 rfl rfl)
theorem dX0_isIn_5 : decode cX0_isIn 5 = .ok (.iconst 1, 1) := dk_4 (dk_at dksX0_isIn_0 5 rfl rfl)
theorem dX0_isIn_6 : decode cX0_isIn 6 = .ok (.if_icmp .ne 7, 3) := dk_160 0 7 (dk_at dksX0_isIn_0 6 rfl rfl)
theorem dX0_isIn_9 : decode cX0_isIn 9 = .ok (.iconst 1, 1) := dk_4 (dk_at dksX0_isIn_0 9 rfl rfl)
theorem dX0_isIn_10 : decode cX0_isIn 10 = .ok (.goto 4, 3) := dk_167 0 4 (dk_at dksX0_isIn_0 10 rfl rfl)
theorem dX0_isIn_13 : decode cX0_isIn 13 = .ok (.iconst 0, 1) := dk_3 (dk_at dksX0_isIn_0 13 rfl rfl)
theorem dX0_isIn_14 : decode cX0_isIn 14 = .ok (.ireturn, 1) := dk_172 (dk_at dksX0_isIn_0 14 rfl rfl)
abbrev cX0_tokensNow : ByteArray := prog_1_method_13_code
def yX0_tokensNow : MethodName := ⟨RX0, "tokensNow", "()I"⟩
def dkwX0_tokensNow_1 : List UInt8 := [180, 0, 18, 185, 0, 74, 1, 0, 4, 100, 185, 0, 77, 2, 0, 192, 0, 81, 180, 0, 86, 172]
abbrev dktX0_tokensNow_1 : List UInt8 := dkwX0_tokensNow_1 ++ []
def dkwX0_tokensNow_0 : List UInt8 := [42, 180, 0, 18, 185, 0, 65, 1, 0, 153, 0, 9, 17, 0, 255, 167, 0, 29, 42, 180, 0, 18, 42]
abbrev dktX0_tokensNow_0 : List UInt8 := dkwX0_tokensNow_0 ++ dktX0_tokensNow_1
theorem dksX0_tokensNow_0 : cX0_tokensNow.data.toList.drop 0 = dktX0_tokensNow_0 := by decide +kernel
theorem dksX0_tokensNow_1 : cX0_tokensNow.data.toList.drop 23 = dktX0_tokensNow_1 := dk_seg dksX0_tokensNow_0 23 rfl rfl
theorem dX0_tokensNow_0 : decode cX0_tokensNow 0 = .ok (.aload_n 0, 1) := dk_42 (dk_at dksX0_tokensNow_0 0 rfl rfl)
theorem dX0_tokensNow_1 : decode cX0_tokensNow 1 = .ok (.getfield 18, 3) := dk_180 0 18 (dk_at dksX0_tokensNow_0 1 rfl rfl)
theorem dX0_tokensNow_4 : decode cX0_tokensNow 4 = .ok (.invokeinterface 65 1, 5) := by decide +kernel
theorem dX0_tokensNow_9 : decode cX0_tokensNow 9 = .ok (.ifCond .eq 9, 3) := dk_153 0 9 (dk_at dksX0_tokensNow_0 9 rfl rfl)
theorem dX0_tokensNow_12 : decode cX0_tokensNow 12 = .ok (.sipush 255, 3) := dk_17 0 255 (dk_at dksX0_tokensNow_0 12 rfl rfl)
theorem dX0_tokensNow_15 : decode cX0_tokensNow 15 = .ok (.goto 29, 3) := dk_167 0 29 (dk_at dksX0_tokensNow_0 15 rfl rfl)
theorem dX0_tokensNow_18 : decode cX0_tokensNow 18 = .ok (.aload_n 0, 1) := dk_42 (dk_at dksX0_tokensNow_0 18 rfl rfl)
theorem dX0_tokensNow_19 : decode cX0_tokensNow 19 = .ok (.getfield 18, 3) := dk_180 0 18 (dk_at dksX0_tokensNow_0 19 rfl rfl)
theorem dX0_tokensNow_22 : decode cX0_tokensNow 22 = .ok (.aload_n 0, 1) := dk_42 (dk_at dksX0_tokensNow_0 22 rfl rfl)
theorem dX0_tokensNow_23 : decode cX0_tokensNow 23 = .ok (.getfield 18, 3) := dk_180 0 18 (dk_at dksX0_tokensNow_1 0 rfl rfl)
theorem dX0_tokensNow_26 : decode cX0_tokensNow 26 = .ok (.invokeinterface 74 1, 5) := by decide +kernel
theorem dX0_tokensNow_31 : decode cX0_tokensNow 31 = .ok (.iconst 1, 1) := dk_4 (dk_at dksX0_tokensNow_1 8 rfl rfl)
theorem dX0_tokensNow_32 : decode cX0_tokensNow 32 = .ok (.isub, 1) := dk_100 (dk_at dksX0_tokensNow_1 9 rfl rfl)
theorem dX0_tokensNow_33 : decode cX0_tokensNow 33 = .ok (.invokeinterface 77 2, 5) := by decide +kernel
theorem dX0_tokensNow_38 : decode cX0_tokensNow 38 = .ok (.checkcast 81, 3) := dk_192 0 81 (dk_at dksX0_tokensNow_1 15 rfl rfl)
theorem dX0_tokensNow_41 : decode cX0_tokensNow 41 = .ok (.getfield 86, 3) := dk_180 0 86 (dk_at dksX0_tokensNow_1 18 rfl rfl)
theorem dX0_tokensNow_44 : decode cX0_tokensNow 44 = .ok (.ireturn, 1) := dk_172 (dk_at dksX0_tokensNow_1 21 rfl rfl)
abbrev cX0_tokensBehind : ByteArray := prog_1_method_11_code
def yX0_tokensBehind : MethodName := ⟨RX0, "tokensBehind", "(III)I"⟩
def dkwX0_tokensBehind_1 : List UInt8 := [54, 4, 29, 21, 4, 7, 120, 128, 172]
abbrev dktX0_tokensBehind_1 : List UInt8 := dkwX0_tokensBehind_1 ++ []
def dkwX0_tokensBehind_0 : List UInt8 := [26, 16, 15, 126, 4, 27, 120, 2, 130, 126, 4, 28, 120, 128, 62, 26, 7, 122, 4, 28, 120, 2, 130, 126]
abbrev dktX0_tokensBehind_0 : List UInt8 := dkwX0_tokensBehind_0 ++ dktX0_tokensBehind_1
theorem dksX0_tokensBehind_0 : cX0_tokensBehind.data.toList.drop 0 = dktX0_tokensBehind_0 := by decide +kernel
theorem dksX0_tokensBehind_1 : cX0_tokensBehind.data.toList.drop 24 = dktX0_tokensBehind_1 := dk_seg dksX0_tokensBehind_0 24 rfl rfl
theorem dX0_tokensBehind_0 : decode cX0_tokensBehind 0 = .ok (.iload_n 0, 1) := dk_26 (dk_at dksX0_tokensBehind_0 0 rfl rfl)
theorem dX0_tokensBehind_1 : decode cX0_tokensBehind 1 = .ok (.bipush 15, 2) := dk_16 15 (dk_at dksX0_tokensBehind_0 1 rfl rfl)
theorem dX0_tokensBehind_3 : decode cX0_tokensBehind 3 = .ok (.iand, 1) := dk_126 (dk_at dksX0_tokensBehind_0 3 rfl rfl)
theorem dX0_tokensBehind_4 : decode cX0_tokensBehind 4 = .ok (.iconst 1, 1) := dk_4 (dk_at dksX0_tokensBehind_0 4 rfl rfl)
theorem dX0_tokensBehind_5 : decode cX0_tokensBehind 5 = .ok (.iload_n 1, 1) := dk_27 (dk_at dksX0_tokensBehind_0 5 rfl rfl)
theorem dX0_tokensBehind_6 : decode cX0_tokensBehind 6 = .ok (.ishl, 1) := dk_120 (dk_at dksX0_tokensBehind_0 6 rfl rfl)
theorem dX0_tokensBehind_7 : decode cX0_tokensBehind 7 = .ok (.iconst (-1), 1) := dk_2 (dk_at dksX0_tokensBehind_0 7 rfl rfl)
theorem dX0_tokensBehind_8 : decode cX0_tokensBehind 8 = .ok (.ixor, 1) := dk_130 (dk_at dksX0_tokensBehind_0 8 rfl rfl)
theorem dX0_tokensBehind_9 : decode cX0_tokensBehind 9 = .ok (.iand, 1) := dk_126 (dk_at dksX0_tokensBehind_0 9 rfl rfl)
theorem dX0_tokensBehind_10 : decode cX0_tokensBehind 10 = .ok (.iconst 1, 1) := dk_4 (dk_at dksX0_tokensBehind_0 10 rfl rfl)
theorem dX0_tokensBehind_11 : decode cX0_tokensBehind 11 = .ok (.iload_n 2, 1) := dk_28 (dk_at dksX0_tokensBehind_0 11 rfl rfl)
theorem dX0_tokensBehind_12 : decode cX0_tokensBehind 12 = .ok (.ishl, 1) := dk_120 (dk_at dksX0_tokensBehind_0 12 rfl rfl)
theorem dX0_tokensBehind_13 : decode cX0_tokensBehind 13 = .ok (.ior, 1) := dk_128 (dk_at dksX0_tokensBehind_0 13 rfl rfl)
theorem dX0_tokensBehind_14 : decode cX0_tokensBehind 14 = .ok (.istore_n 3, 1) := dk_62 (dk_at dksX0_tokensBehind_0 14 rfl rfl)
theorem dX0_tokensBehind_15 : decode cX0_tokensBehind 15 = .ok (.iload_n 0, 1) := dk_26 (dk_at dksX0_tokensBehind_0 15 rfl rfl)
theorem dX0_tokensBehind_16 : decode cX0_tokensBehind 16 = .ok (.iconst 4, 1) := dk_7 (dk_at dksX0_tokensBehind_0 16 rfl rfl)
theorem dX0_tokensBehind_17 : decode cX0_tokensBehind 17 = .ok (.ishr, 1) := dk_122 (dk_at dksX0_tokensBehind_0 17 rfl rfl)
theorem dX0_tokensBehind_18 : decode cX0_tokensBehind 18 = .ok (.iconst 1, 1) := dk_4 (dk_at dksX0_tokensBehind_0 18 rfl rfl)
theorem dX0_tokensBehind_19 : decode cX0_tokensBehind 19 = .ok (.iload_n 2, 1) := dk_28 (dk_at dksX0_tokensBehind_0 19 rfl rfl)
theorem dX0_tokensBehind_20 : decode cX0_tokensBehind 20 = .ok (.ishl, 1) := dk_120 (dk_at dksX0_tokensBehind_0 20 rfl rfl)
theorem dX0_tokensBehind_21 : decode cX0_tokensBehind 21 = .ok (.iconst (-1), 1) := dk_2 (dk_at dksX0_tokensBehind_0 21 rfl rfl)
theorem dX0_tokensBehind_22 : decode cX0_tokensBehind 22 = .ok (.ixor, 1) := dk_130 (dk_at dksX0_tokensBehind_0 22 rfl rfl)
theorem dX0_tokensBehind_23 : decode cX0_tokensBehind 23 = .ok (.iand, 1) := dk_126 (dk_at dksX0_tokensBehind_0 23 rfl rfl)
theorem dX0_tokensBehind_24 : decode cX0_tokensBehind 24 = .ok (.istore 4, 2) := dk_54 4 (dk_at dksX0_tokensBehind_1 0 rfl rfl)
theorem dX0_tokensBehind_26 : decode cX0_tokensBehind 26 = .ok (.iload_n 3, 1) := dk_29 (dk_at dksX0_tokensBehind_1 2 rfl rfl)
theorem dX0_tokensBehind_27 : decode cX0_tokensBehind 27 = .ok (.iload 4, 2) := dk_21 4 (dk_at dksX0_tokensBehind_1 3 rfl rfl)
theorem dX0_tokensBehind_29 : decode cX0_tokensBehind 29 = .ok (.iconst 4, 1) := dk_7 (dk_at dksX0_tokensBehind_1 5 rfl rfl)
theorem dX0_tokensBehind_30 : decode cX0_tokensBehind 30 = .ok (.ishl, 1) := dk_120 (dk_at dksX0_tokensBehind_1 6 rfl rfl)
theorem dX0_tokensBehind_31 : decode cX0_tokensBehind 31 = .ok (.ior, 1) := dk_128 (dk_at dksX0_tokensBehind_1 7 rfl rfl)
theorem dX0_tokensBehind_32 : decode cX0_tokensBehind 32 = .ok (.ireturn, 1) := dk_172 (dk_at dksX0_tokensBehind_1 8 rfl rfl)
abbrev cX0_behind : ByteArray := prog_1_method_9_code
def yX0_behind : MethodName := ⟨RX0, "behind", "(III)I"⟩
def dkwX0_behind_1 : List UInt8 := [128, 172]
abbrev dktX0_behind_1 : List UInt8 := dkwX0_behind_1 ++ []
def dkwX0_behind_0 : List UInt8 := [26, 27, 184, 0, 53, 26, 28, 184, 0, 53, 128, 62, 26, 29, 7, 27, 104, 120, 128, 29, 7, 28, 104, 120]
abbrev dktX0_behind_0 : List UInt8 := dkwX0_behind_0 ++ dktX0_behind_1
theorem dksX0_behind_0 : cX0_behind.data.toList.drop 0 = dktX0_behind_0 := by decide +kernel
theorem dksX0_behind_1 : cX0_behind.data.toList.drop 24 = dktX0_behind_1 := dk_seg dksX0_behind_0 24 rfl rfl
theorem dX0_behind_0 : decode cX0_behind 0 = .ok (.iload_n 0, 1) := dk_26 (dk_at dksX0_behind_0 0 rfl rfl)
theorem dX0_behind_1 : decode cX0_behind 1 = .ok (.iload_n 1, 1) := dk_27 (dk_at dksX0_behind_0 1 rfl rfl)
theorem dX0_behind_2 : decode cX0_behind 2 = .ok (.invokestatic 53, 3) := dk_184 0 53 (dk_at dksX0_behind_0 2 rfl rfl)
theorem dX0_behind_5 : decode cX0_behind 5 = .ok (.iload_n 0, 1) := dk_26 (dk_at dksX0_behind_0 5 rfl rfl)
theorem dX0_behind_6 : decode cX0_behind 6 = .ok (.iload_n 2, 1) := dk_28 (dk_at dksX0_behind_0 6 rfl rfl)
theorem dX0_behind_7 : decode cX0_behind 7 = .ok (.invokestatic 53, 3) := dk_184 0 53 (dk_at dksX0_behind_0 7 rfl rfl)
theorem dX0_behind_10 : decode cX0_behind 10 = .ok (.ior, 1) := dk_128 (dk_at dksX0_behind_0 10 rfl rfl)
theorem dX0_behind_11 : decode cX0_behind 11 = .ok (.istore_n 3, 1) := dk_62 (dk_at dksX0_behind_0 11 rfl rfl)
theorem dX0_behind_12 : decode cX0_behind 12 = .ok (.iload_n 0, 1) := dk_26 (dk_at dksX0_behind_0 12 rfl rfl)
theorem dX0_behind_13 : decode cX0_behind 13 = .ok (.iload_n 3, 1) := dk_29 (dk_at dksX0_behind_0 13 rfl rfl)
theorem dX0_behind_14 : decode cX0_behind 14 = .ok (.iconst 4, 1) := dk_7 (dk_at dksX0_behind_0 14 rfl rfl)
theorem dX0_behind_15 : decode cX0_behind 15 = .ok (.iload_n 1, 1) := dk_27 (dk_at dksX0_behind_0 15 rfl rfl)
theorem dX0_behind_16 : decode cX0_behind 16 = .ok (.imul, 1) := dk_104 (dk_at dksX0_behind_0 16 rfl rfl)
theorem dX0_behind_17 : decode cX0_behind 17 = .ok (.ishl, 1) := dk_120 (dk_at dksX0_behind_0 17 rfl rfl)
theorem dX0_behind_18 : decode cX0_behind 18 = .ok (.ior, 1) := dk_128 (dk_at dksX0_behind_0 18 rfl rfl)
theorem dX0_behind_19 : decode cX0_behind 19 = .ok (.iload_n 3, 1) := dk_29 (dk_at dksX0_behind_0 19 rfl rfl)
theorem dX0_behind_20 : decode cX0_behind 20 = .ok (.iconst 4, 1) := dk_7 (dk_at dksX0_behind_0 20 rfl rfl)
theorem dX0_behind_21 : decode cX0_behind 21 = .ok (.iload_n 2, 1) := dk_28 (dk_at dksX0_behind_0 21 rfl rfl)
theorem dX0_behind_22 : decode cX0_behind 22 = .ok (.imul, 1) := dk_104 (dk_at dksX0_behind_0 22 rfl rfl)
theorem dX0_behind_23 : decode cX0_behind 23 = .ok (.ishl, 1) := dk_120 (dk_at dksX0_behind_0 23 rfl rfl)
theorem dX0_behind_24 : decode cX0_behind 24 = .ok (.ior, 1) := dk_128 (dk_at dksX0_behind_1 0 rfl rfl)
theorem dX0_behind_25 : decode cX0_behind 25 = .ok (.ireturn, 1) := dk_172 (dk_at dksX0_behind_1 1 rfl rfl)
abbrev cX0_all : ByteArray := prog_1_method_5_code
def yX0_all : MethodName := ⟨RX0, "all", "()I"⟩
def dkwX0_all_0 : List UInt8 := [4, 42, 180, 0, 45, 120, 4, 100, 172]
abbrev dktX0_all_0 : List UInt8 := dkwX0_all_0 ++ []
theorem dksX0_all_0 : cX0_all.data.toList.drop 0 = dktX0_all_0 := by decide +kernel
theorem dX0_all_0 : decode cX0_all 0 = .ok (.iconst 1, 1) := dk_4 (dk_at dksX0_all_0 0 rfl rfl)
theorem dX0_all_1 : decode cX0_all 1 = .ok (.aload_n 0, 1) := dk_42 (dk_at dksX0_all_0 1 rfl rfl)
theorem dX0_all_2 : decode cX0_all 2 = .ok (.getfield 45, 3) := dk_180 0 45 (dk_at dksX0_all_0 2 rfl rfl)
theorem dX0_all_5 : decode cX0_all 5 = .ok (.ishl, 1) := dk_120 (dk_at dksX0_all_0 5 rfl rfl)
theorem dX0_all_6 : decode cX0_all 6 = .ok (.iconst 1, 1) := dk_4 (dk_at dksX0_all_0 6 rfl rfl)
theorem dX0_all_7 : decode cX0_all 7 = .ok (.isub, 1) := dk_100 (dk_at dksX0_all_0 7 rfl rfl)
theorem dX0_all_8 : decode cX0_all 8 = .ok (.ireturn, 1) := dk_172 (dk_at dksX0_all_0 8 rfl rfl)
abbrev cX0_ofCall : ByteArray := prog_1_method_15_code
def yX0_ofCall : MethodName := ⟨RX0, "ofCall", "(II)I"⟩
def dkwX0_ofCall_1 : List UInt8 := [180, 0, 18, 27, 185, 0, 77, 2, 0, 192, 0, 81, 28, 182, 0, 119, 167, 0, 4, 2, 172]
abbrev dktX0_ofCall_1 : List UInt8 := dkwX0_ofCall_1 ++ []
def dkwX0_ofCall_0 : List UInt8 := [27, 133, 9, 42, 180, 0, 18, 185, 0, 74, 1, 0, 4, 100, 133, 184, 0, 49, 153, 0, 23, 42]
abbrev dktX0_ofCall_0 : List UInt8 := dkwX0_ofCall_0 ++ dktX0_ofCall_1
theorem dksX0_ofCall_0 : cX0_ofCall.data.toList.drop 0 = dktX0_ofCall_0 := by decide +kernel
theorem dksX0_ofCall_1 : cX0_ofCall.data.toList.drop 22 = dktX0_ofCall_1 := dk_seg dksX0_ofCall_0 22 rfl rfl
theorem dX0_ofCall_0 : decode cX0_ofCall 0 = .ok (.iload_n 1, 1) := dk_27 (dk_at dksX0_ofCall_0 0 rfl rfl)
theorem dX0_ofCall_1 : decode cX0_ofCall 1 = .ok (.i2l, 1) := dk_133 (dk_at dksX0_ofCall_0 1 rfl rfl)
theorem dX0_ofCall_2 : decode cX0_ofCall 2 = .ok (.lconst 0, 1) := dk_9 (dk_at dksX0_ofCall_0 2 rfl rfl)
theorem dX0_ofCall_3 : decode cX0_ofCall 3 = .ok (.aload_n 0, 1) := dk_42 (dk_at dksX0_ofCall_0 3 rfl rfl)
theorem dX0_ofCall_4 : decode cX0_ofCall 4 = .ok (.getfield 18, 3) := dk_180 0 18 (dk_at dksX0_ofCall_0 4 rfl rfl)
theorem dX0_ofCall_7 : decode cX0_ofCall 7 = .ok (.invokeinterface 74 1, 5) := by decide +kernel
theorem dX0_ofCall_12 : decode cX0_ofCall 12 = .ok (.iconst 1, 1) := dk_4 (dk_at dksX0_ofCall_0 12 rfl rfl)
theorem dX0_ofCall_13 : decode cX0_ofCall 13 = .ok (.isub, 1) := dk_100 (dk_at dksX0_ofCall_0 13 rfl rfl)
theorem dX0_ofCall_14 : decode cX0_ofCall 14 = .ok (.i2l, 1) := dk_133 (dk_at dksX0_ofCall_0 14 rfl rfl)
theorem dX0_ofCall_15 : decode cX0_ofCall 15 = .ok (.invokestatic 49, 3) := dk_184 0 49 (dk_at dksX0_ofCall_0 15 rfl rfl)
theorem dX0_ofCall_18 : decode cX0_ofCall 18 = .ok (.ifCond .eq 23, 3) := dk_153 0 23 (dk_at dksX0_ofCall_0 18 rfl rfl)
theorem dX0_ofCall_21 : decode cX0_ofCall 21 = .ok (.aload_n 0, 1) := dk_42 (dk_at dksX0_ofCall_0 21 rfl rfl)
theorem dX0_ofCall_22 : decode cX0_ofCall 22 = .ok (.getfield 18, 3) := dk_180 0 18 (dk_at dksX0_ofCall_1 0 rfl rfl)
theorem dX0_ofCall_25 : decode cX0_ofCall 25 = .ok (.iload_n 1, 1) := dk_27 (dk_at dksX0_ofCall_1 3 rfl rfl)
theorem dX0_ofCall_26 : decode cX0_ofCall 26 = .ok (.invokeinterface 77 2, 5) := by decide +kernel
theorem dX0_ofCall_31 : decode cX0_ofCall 31 = .ok (.checkcast 81, 3) := dk_192 0 81 (dk_at dksX0_ofCall_1 9 rfl rfl)
theorem dX0_ofCall_34 : decode cX0_ofCall 34 = .ok (.iload_n 2, 1) := dk_28 (dk_at dksX0_ofCall_1 12 rfl rfl)
theorem dX0_ofCall_35 : decode cX0_ofCall 35 = .ok (.invokevirtual 119, 3) := dk_182 0 119 (dk_at dksX0_ofCall_1 13 rfl rfl)
theorem dX0_ofCall_38 : decode cX0_ofCall 38 = .ok (.goto 4, 3) := dk_167 0 4 (dk_at dksX0_ofCall_1 16 rfl rfl)
theorem dX0_ofCall_41 : decode cX0_ofCall 41 = .ok (.iconst (-1), 1) := dk_2 (dk_at dksX0_ofCall_1 19 rfl rfl)
theorem dX0_ofCall_42 : decode cX0_ofCall 42 = .ok (.ireturn, 1) := dk_172 (dk_at dksX0_ofCall_1 20 rfl rfl)
abbrev cX0_back : ByteArray := prog_1_method_16_code
def yX0_back : MethodName := ⟨RX0, "back", "()I"⟩
def dkwX0_back_1 : List UInt8 := [185, 0, 74, 1, 0, 4, 100, 185, 0, 123, 2, 0, 87, 42, 180, 0, 18, 185, 0, 74, 1, 0, 172]
abbrev dktX0_back_1 : List UInt8 := dkwX0_back_1 ++ []
def dkwX0_back_0 : List UInt8 := [42, 180, 0, 18, 185, 0, 65, 1, 0, 153, 0, 6, 16, 253, 172, 42, 180, 0, 18, 42, 180, 0, 18]
abbrev dktX0_back_0 : List UInt8 := dkwX0_back_0 ++ dktX0_back_1
theorem dksX0_back_0 : cX0_back.data.toList.drop 0 = dktX0_back_0 := by decide +kernel
theorem dksX0_back_1 : cX0_back.data.toList.drop 23 = dktX0_back_1 := dk_seg dksX0_back_0 23 rfl rfl
theorem dX0_back_0 : decode cX0_back 0 = .ok (.aload_n 0, 1) := dk_42 (dk_at dksX0_back_0 0 rfl rfl)
theorem dX0_back_1 : decode cX0_back 1 = .ok (.getfield 18, 3) := dk_180 0 18 (dk_at dksX0_back_0 1 rfl rfl)
theorem dX0_back_4 : decode cX0_back 4 = .ok (.invokeinterface 65 1, 5) := by decide +kernel
theorem dX0_back_9 : decode cX0_back 9 = .ok (.ifCond .eq 6, 3) := dk_153 0 6 (dk_at dksX0_back_0 9 rfl rfl)
theorem dX0_back_12 : decode cX0_back 12 = .ok (.bipush (-3), 2) := dk_16 253 (dk_at dksX0_back_0 12 rfl rfl)
theorem dX0_back_14 : decode cX0_back 14 = .ok (.ireturn, 1) := dk_172 (dk_at dksX0_back_0 14 rfl rfl)
theorem dX0_back_15 : decode cX0_back 15 = .ok (.aload_n 0, 1) := dk_42 (dk_at dksX0_back_0 15 rfl rfl)
theorem dX0_back_16 : decode cX0_back 16 = .ok (.getfield 18, 3) := dk_180 0 18 (dk_at dksX0_back_0 16 rfl rfl)
theorem dX0_back_19 : decode cX0_back 19 = .ok (.aload_n 0, 1) := dk_42 (dk_at dksX0_back_0 19 rfl rfl)
theorem dX0_back_20 : decode cX0_back 20 = .ok (.getfield 18, 3) := dk_180 0 18 (dk_at dksX0_back_0 20 rfl rfl)
theorem dX0_back_23 : decode cX0_back 23 = .ok (.invokeinterface 74 1, 5) := by decide +kernel
theorem dX0_back_28 : decode cX0_back 28 = .ok (.iconst 1, 1) := dk_4 (dk_at dksX0_back_1 5 rfl rfl)
theorem dX0_back_29 : decode cX0_back 29 = .ok (.isub, 1) := dk_100 (dk_at dksX0_back_1 6 rfl rfl)
theorem dX0_back_30 : decode cX0_back 30 = .ok (.invokeinterface 123 2, 5) := by decide +kernel
theorem dX0_back_35 : decode cX0_back 35 = .ok (.pop, 1) := dk_87 (dk_at dksX0_back_1 12 rfl rfl)
theorem dX0_back_36 : decode cX0_back 36 = .ok (.aload_n 0, 1) := dk_42 (dk_at dksX0_back_1 13 rfl rfl)
theorem dX0_back_37 : decode cX0_back 37 = .ok (.getfield 18, 3) := dk_180 0 18 (dk_at dksX0_back_1 14 rfl rfl)
theorem dX0_back_40 : decode cX0_back 40 = .ok (.invokeinterface 74 1, 5) := by decide +kernel
theorem dX0_back_45 : decode cX0_back 45 = .ok (.ireturn, 1) := dk_172 (dk_at dksX0_back_1 22 rfl rfl)
abbrev cX0_ofPerson : ByteArray := prog_1_method_17_code
def yX0_ofPerson : MethodName := ⟨RX0, "ofPerson", "(II)I"⟩
def dkwX0_ofPerson_4 : List UInt8 := [172, 42, 182, 0, 99, 7, 27, 96, 122, 4, 126, 172, 16, 254, 172]
abbrev dktX0_ofPerson_4 : List UInt8 := dkwX0_ofPerson_4 ++ []
def dkwX0_ofPerson_3 : List UInt8 := [184, 0, 53, 42, 182, 0, 61, 160, 0, 7, 4, 167, 0, 4, 3, 172, 42, 182, 0, 99, 27, 122, 4, 126]
abbrev dktX0_ofPerson_3 : List UInt8 := dkwX0_ofPerson_3 ++ dktX0_ofPerson_4
def dkwX0_ofPerson_2 : List UInt8 := [29, 27, 184, 0, 53, 172, 42, 29, 27, 182, 0, 96, 172, 42, 180, 0, 11, 27, 46, 172, 29, 27]
abbrev dktX0_ofPerson_2 : List UInt8 := dkwX0_ofPerson_2 ++ dktX0_ofPerson_3
def dkwX0_ofPerson_1 : List UInt8 := [170, 0, 0, 0, 0, 0, 0, 98, 0, 0, 0, 0, 0, 0, 0, 5, 0, 0, 0, 40, 0, 0, 0, 46, 0, 0, 0, 53, 0, 0, 0, 60, 0, 0, 0, 78, 0, 0, 0, 87]
abbrev dktX0_ofPerson_1 : List UInt8 := dkwX0_ofPerson_1 ++ dktX0_ofPerson_2
def dkwX0_ofPerson_0 : List UInt8 := [42, 27, 182, 0, 89, 153, 0, 5, 2, 172, 42, 182, 0, 93, 62, 28]
abbrev dktX0_ofPerson_0 : List UInt8 := dkwX0_ofPerson_0 ++ dktX0_ofPerson_1
theorem dksX0_ofPerson_0 : cX0_ofPerson.data.toList.drop 0 = dktX0_ofPerson_0 := by decide +kernel
theorem dksX0_ofPerson_1 : cX0_ofPerson.data.toList.drop 16 = dktX0_ofPerson_1 := dk_seg dksX0_ofPerson_0 16 rfl rfl
theorem dksX0_ofPerson_2 : cX0_ofPerson.data.toList.drop 56 = dktX0_ofPerson_2 := dk_seg dksX0_ofPerson_1 40 rfl rfl
theorem dksX0_ofPerson_3 : cX0_ofPerson.data.toList.drop 78 = dktX0_ofPerson_3 := dk_seg dksX0_ofPerson_2 22 rfl rfl
theorem dksX0_ofPerson_4 : cX0_ofPerson.data.toList.drop 102 = dktX0_ofPerson_4 := dk_seg dksX0_ofPerson_3 24 rfl rfl
theorem dX0_ofPerson_0 : decode cX0_ofPerson 0 = .ok (.aload_n 0, 1) := dk_42 (dk_at dksX0_ofPerson_0 0 rfl rfl)
theorem dX0_ofPerson_1 : decode cX0_ofPerson 1 = .ok (.iload_n 1, 1) := dk_27 (dk_at dksX0_ofPerson_0 1 rfl rfl)
theorem dX0_ofPerson_2 : decode cX0_ofPerson 2 = .ok (.invokevirtual 89, 3) := dk_182 0 89 (dk_at dksX0_ofPerson_0 2 rfl rfl)
theorem dX0_ofPerson_5 : decode cX0_ofPerson 5 = .ok (.ifCond .eq 5, 3) := dk_153 0 5 (dk_at dksX0_ofPerson_0 5 rfl rfl)
theorem dX0_ofPerson_8 : decode cX0_ofPerson 8 = .ok (.iconst (-1), 1) := dk_2 (dk_at dksX0_ofPerson_0 8 rfl rfl)
theorem dX0_ofPerson_9 : decode cX0_ofPerson 9 = .ok (.ireturn, 1) := dk_172 (dk_at dksX0_ofPerson_0 9 rfl rfl)
theorem dX0_ofPerson_10 : decode cX0_ofPerson 10 = .ok (.aload_n 0, 1) := dk_42 (dk_at dksX0_ofPerson_0 10 rfl rfl)
theorem dX0_ofPerson_11 : decode cX0_ofPerson 11 = .ok (.invokevirtual 93, 3) := dk_182 0 93 (dk_at dksX0_ofPerson_0 11 rfl rfl)
theorem dX0_ofPerson_14 : decode cX0_ofPerson 14 = .ok (.istore_n 3, 1) := dk_62 (dk_at dksX0_ofPerson_0 14 rfl rfl)
theorem dX0_ofPerson_15 : decode cX0_ofPerson 15 = .ok (.iload_n 2, 1) := dk_28 (dk_at dksX0_ofPerson_0 15 rfl rfl)
theorem dX0_ofPerson_16 : decode cX0_ofPerson 16 = .ok (.tableswitch 98 0 5 #[40, 46, 53, 60, 78, 87], 40) := by decide +kernel
theorem dX0_ofPerson_56 : decode cX0_ofPerson 56 = .ok (.iload_n 3, 1) := dk_29 (dk_at dksX0_ofPerson_2 0 rfl rfl)
theorem dX0_ofPerson_57 : decode cX0_ofPerson 57 = .ok (.iload_n 1, 1) := dk_27 (dk_at dksX0_ofPerson_2 1 rfl rfl)
theorem dX0_ofPerson_58 : decode cX0_ofPerson 58 = .ok (.invokestatic 53, 3) := dk_184 0 53 (dk_at dksX0_ofPerson_2 2 rfl rfl)
theorem dX0_ofPerson_61 : decode cX0_ofPerson 61 = .ok (.ireturn, 1) := dk_172 (dk_at dksX0_ofPerson_2 5 rfl rfl)
theorem dX0_ofPerson_62 : decode cX0_ofPerson 62 = .ok (.aload_n 0, 1) := dk_42 (dk_at dksX0_ofPerson_2 6 rfl rfl)
theorem dX0_ofPerson_63 : decode cX0_ofPerson 63 = .ok (.iload_n 3, 1) := dk_29 (dk_at dksX0_ofPerson_2 7 rfl rfl)
theorem dX0_ofPerson_64 : decode cX0_ofPerson 64 = .ok (.iload_n 1, 1) := dk_27 (dk_at dksX0_ofPerson_2 8 rfl rfl)
theorem dX0_ofPerson_65 : decode cX0_ofPerson 65 = .ok (.invokevirtual 96, 3) := dk_182 0 96 (dk_at dksX0_ofPerson_2 9 rfl rfl)
theorem dX0_ofPerson_68 : decode cX0_ofPerson 68 = .ok (.ireturn, 1) := dk_172 (dk_at dksX0_ofPerson_2 12 rfl rfl)
theorem dX0_ofPerson_69 : decode cX0_ofPerson 69 = .ok (.aload_n 0, 1) := dk_42 (dk_at dksX0_ofPerson_2 13 rfl rfl)
theorem dX0_ofPerson_70 : decode cX0_ofPerson 70 = .ok (.getfield 11, 3) := dk_180 0 11 (dk_at dksX0_ofPerson_2 14 rfl rfl)
theorem dX0_ofPerson_73 : decode cX0_ofPerson 73 = .ok (.iload_n 1, 1) := dk_27 (dk_at dksX0_ofPerson_2 17 rfl rfl)
theorem dX0_ofPerson_74 : decode cX0_ofPerson 74 = .ok (.iaload, 1) := dk_46 (dk_at dksX0_ofPerson_2 18 rfl rfl)
theorem dX0_ofPerson_75 : decode cX0_ofPerson 75 = .ok (.ireturn, 1) := dk_172 (dk_at dksX0_ofPerson_2 19 rfl rfl)
theorem dX0_ofPerson_76 : decode cX0_ofPerson 76 = .ok (.iload_n 3, 1) := dk_29 (dk_at dksX0_ofPerson_2 20 rfl rfl)
theorem dX0_ofPerson_77 : decode cX0_ofPerson 77 = .ok (.iload_n 1, 1) := dk_27 (dk_at dksX0_ofPerson_2 21 rfl rfl)
theorem dX0_ofPerson_78 : decode cX0_ofPerson 78 = .ok (.invokestatic 53, 3) := dk_184 0 53 (dk_at dksX0_ofPerson_3 0 rfl rfl)
theorem dX0_ofPerson_81 : decode cX0_ofPerson 81 = .ok (.aload_n 0, 1) := dk_42 (dk_at dksX0_ofPerson_3 3 rfl rfl)
theorem dX0_ofPerson_82 : decode cX0_ofPerson 82 = .ok (.invokevirtual 61, 3) := dk_182 0 61 (dk_at dksX0_ofPerson_3 4 rfl rfl)
theorem dX0_ofPerson_85 : decode cX0_ofPerson 85 = .ok (.if_icmp .ne 7, 3) := dk_160 0 7 (dk_at dksX0_ofPerson_3 7 rfl rfl)
theorem dX0_ofPerson_88 : decode cX0_ofPerson 88 = .ok (.iconst 1, 1) := dk_4 (dk_at dksX0_ofPerson_3 10 rfl rfl)
theorem dX0_ofPerson_89 : decode cX0_ofPerson 89 = .ok (.goto 4, 3) := dk_167 0 4 (dk_at dksX0_ofPerson_3 11 rfl rfl)
theorem dX0_ofPerson_92 : decode cX0_ofPerson 92 = .ok (.iconst 0, 1) := dk_3 (dk_at dksX0_ofPerson_3 14 rfl rfl)
theorem dX0_ofPerson_93 : decode cX0_ofPerson 93 = .ok (.ireturn, 1) := dk_172 (dk_at dksX0_ofPerson_3 15 rfl rfl)
theorem dX0_ofPerson_94 : decode cX0_ofPerson 94 = .ok (.aload_n 0, 1) := dk_42 (dk_at dksX0_ofPerson_3 16 rfl rfl)
theorem dX0_ofPerson_95 : decode cX0_ofPerson 95 = .ok (.invokevirtual 99, 3) := dk_182 0 99 (dk_at dksX0_ofPerson_3 17 rfl rfl)
theorem dX0_ofPerson_98 : decode cX0_ofPerson 98 = .ok (.iload_n 1, 1) := dk_27 (dk_at dksX0_ofPerson_3 20 rfl rfl)
theorem dX0_ofPerson_99 : decode cX0_ofPerson 99 = .ok (.ishr, 1) := dk_122 (dk_at dksX0_ofPerson_3 21 rfl rfl)
theorem dX0_ofPerson_100 : decode cX0_ofPerson 100 = .ok (.iconst 1, 1) := dk_4 (dk_at dksX0_ofPerson_3 22 rfl rfl)
theorem dX0_ofPerson_101 : decode cX0_ofPerson 101 = .ok (.iand, 1) := dk_126 (dk_at dksX0_ofPerson_3 23 rfl rfl)
theorem dX0_ofPerson_102 : decode cX0_ofPerson 102 = .ok (.ireturn, 1) := dk_172 (dk_at dksX0_ofPerson_4 0 rfl rfl)
theorem dX0_ofPerson_103 : decode cX0_ofPerson 103 = .ok (.aload_n 0, 1) := dk_42 (dk_at dksX0_ofPerson_4 1 rfl rfl)
theorem dX0_ofPerson_104 : decode cX0_ofPerson 104 = .ok (.invokevirtual 99, 3) := dk_182 0 99 (dk_at dksX0_ofPerson_4 2 rfl rfl)
theorem dX0_ofPerson_107 : decode cX0_ofPerson 107 = .ok (.iconst 4, 1) := dk_7 (dk_at dksX0_ofPerson_4 5 rfl rfl)
theorem dX0_ofPerson_108 : decode cX0_ofPerson 108 = .ok (.iload_n 1, 1) := dk_27 (dk_at dksX0_ofPerson_4 6 rfl rfl)
theorem dX0_ofPerson_109 : decode cX0_ofPerson 109 = .ok (.iadd, 1) := dk_96 (dk_at dksX0_ofPerson_4 7 rfl rfl)
theorem dX0_ofPerson_110 : decode cX0_ofPerson 110 = .ok (.ishr, 1) := dk_122 (dk_at dksX0_ofPerson_4 8 rfl rfl)
theorem dX0_ofPerson_111 : decode cX0_ofPerson 111 = .ok (.iconst 1, 1) := dk_4 (dk_at dksX0_ofPerson_4 9 rfl rfl)
theorem dX0_ofPerson_112 : decode cX0_ofPerson 112 = .ok (.iand, 1) := dk_126 (dk_at dksX0_ofPerson_4 10 rfl rfl)
theorem dX0_ofPerson_113 : decode cX0_ofPerson 113 = .ok (.ireturn, 1) := dk_172 (dk_at dksX0_ofPerson_4 11 rfl rfl)
theorem dX0_ofPerson_114 : decode cX0_ofPerson 114 = .ok (.bipush (-2), 2) := dk_16 254 (dk_at dksX0_ofPerson_4 12 rfl rfl)
theorem dX0_ofPerson_116 : decode cX0_ofPerson 116 = .ok (.ireturn, 1) := dk_172 (dk_at dksX0_ofPerson_4 14 rfl rfl)
abbrev cX0_may : ByteArray := prog_1_method_22_code
def yX0_may : MethodName := ⟨RX0, "may", "(II)I"⟩
def dkwX0_may_2 : List UInt8 := [153, 0, 10, 4, 21, 4, 120, 167, 0, 4, 3, 128, 62, 132, 4, 1, 167, 255, 214, 29, 172]
abbrev dktX0_may_2 : List UInt8 := dkwX0_may_2 ++ []
def dkwX0_may_1 : List UInt8 := [42, 180, 0, 45, 162, 0, 39, 29, 42, 27, 42, 182, 0, 93, 42, 182, 0, 99, 28, 21, 4, 182, 0, 160]
abbrev dktX0_may_1 : List UInt8 := dkwX0_may_1 ++ dktX0_may_2
def dkwX0_may_0 : List UInt8 := [27, 184, 0, 157, 154, 0, 11, 42, 28, 182, 0, 89, 153, 0, 5, 2, 172, 3, 62, 3, 54, 4, 21, 4]
abbrev dktX0_may_0 : List UInt8 := dkwX0_may_0 ++ dktX0_may_1
theorem dksX0_may_0 : cX0_may.data.toList.drop 0 = dktX0_may_0 := by decide +kernel
theorem dksX0_may_1 : cX0_may.data.toList.drop 24 = dktX0_may_1 := dk_seg dksX0_may_0 24 rfl rfl
theorem dksX0_may_2 : cX0_may.data.toList.drop 48 = dktX0_may_2 := dk_seg dksX0_may_1 24 rfl rfl
theorem dX0_may_0 : decode cX0_may 0 = .ok (.iload_n 1, 1) := dk_27 (dk_at dksX0_may_0 0 rfl rfl)
theorem dX0_may_1 : decode cX0_may 1 = .ok (.invokestatic 157, 3) := dk_184 0 157 (dk_at dksX0_may_0 1 rfl rfl)
theorem dX0_may_4 : decode cX0_may 4 = .ok (.ifCond .ne 11, 3) := dk_154 0 11 (dk_at dksX0_may_0 4 rfl rfl)
theorem dX0_may_7 : decode cX0_may 7 = .ok (.aload_n 0, 1) := dk_42 (dk_at dksX0_may_0 7 rfl rfl)
theorem dX0_may_8 : decode cX0_may 8 = .ok (.iload_n 2, 1) := dk_28 (dk_at dksX0_may_0 8 rfl rfl)
theorem dX0_may_9 : decode cX0_may 9 = .ok (.invokevirtual 89, 3) := dk_182 0 89 (dk_at dksX0_may_0 9 rfl rfl)
theorem dX0_may_12 : decode cX0_may 12 = .ok (.ifCond .eq 5, 3) := dk_153 0 5 (dk_at dksX0_may_0 12 rfl rfl)
theorem dX0_may_15 : decode cX0_may 15 = .ok (.iconst (-1), 1) := dk_2 (dk_at dksX0_may_0 15 rfl rfl)
theorem dX0_may_16 : decode cX0_may 16 = .ok (.ireturn, 1) := dk_172 (dk_at dksX0_may_0 16 rfl rfl)
theorem dX0_may_17 : decode cX0_may 17 = .ok (.iconst 0, 1) := dk_3 (dk_at dksX0_may_0 17 rfl rfl)
theorem dX0_may_18 : decode cX0_may 18 = .ok (.istore_n 3, 1) := dk_62 (dk_at dksX0_may_0 18 rfl rfl)
theorem dX0_may_19 : decode cX0_may 19 = .ok (.iconst 0, 1) := dk_3 (dk_at dksX0_may_0 19 rfl rfl)
theorem dX0_may_20 : decode cX0_may 20 = .ok (.istore 4, 2) := dk_54 4 (dk_at dksX0_may_0 20 rfl rfl)
theorem dX0_may_22 : decode cX0_may 22 = .ok (.iload 4, 2) := dk_21 4 (dk_at dksX0_may_0 22 rfl rfl)
theorem dX0_may_24 : decode cX0_may 24 = .ok (.aload_n 0, 1) := dk_42 (dk_at dksX0_may_1 0 rfl rfl)
theorem dX0_may_25 : decode cX0_may 25 = .ok (.getfield 45, 3) := dk_180 0 45 (dk_at dksX0_may_1 1 rfl rfl)
theorem dX0_may_28 : decode cX0_may 28 = .ok (.if_icmp .ge 39, 3) := dk_162 0 39 (dk_at dksX0_may_1 4 rfl rfl)
theorem dX0_may_31 : decode cX0_may 31 = .ok (.iload_n 3, 1) := dk_29 (dk_at dksX0_may_1 7 rfl rfl)
theorem dX0_may_32 : decode cX0_may 32 = .ok (.aload_n 0, 1) := dk_42 (dk_at dksX0_may_1 8 rfl rfl)
theorem dX0_may_33 : decode cX0_may 33 = .ok (.iload_n 1, 1) := dk_27 (dk_at dksX0_may_1 9 rfl rfl)
theorem dX0_may_34 : decode cX0_may 34 = .ok (.aload_n 0, 1) := dk_42 (dk_at dksX0_may_1 10 rfl rfl)
theorem dX0_may_35 : decode cX0_may 35 = .ok (.invokevirtual 93, 3) := dk_182 0 93 (dk_at dksX0_may_1 11 rfl rfl)
theorem dX0_may_38 : decode cX0_may 38 = .ok (.aload_n 0, 1) := dk_42 (dk_at dksX0_may_1 14 rfl rfl)
theorem dX0_may_39 : decode cX0_may 39 = .ok (.invokevirtual 99, 3) := dk_182 0 99 (dk_at dksX0_may_1 15 rfl rfl)
theorem dX0_may_42 : decode cX0_may 42 = .ok (.iload_n 2, 1) := dk_28 (dk_at dksX0_may_1 18 rfl rfl)
theorem dX0_may_43 : decode cX0_may 43 = .ok (.iload 4, 2) := dk_21 4 (dk_at dksX0_may_1 19 rfl rfl)
theorem dX0_may_45 : decode cX0_may 45 = .ok (.invokevirtual 160, 3) := dk_182 0 160 (dk_at dksX0_may_1 21 rfl rfl)
theorem dX0_may_48 : decode cX0_may 48 = .ok (.ifCond .eq 10, 3) := dk_153 0 10 (dk_at dksX0_may_2 0 rfl rfl)
theorem dX0_may_51 : decode cX0_may 51 = .ok (.iconst 1, 1) := dk_4 (dk_at dksX0_may_2 3 rfl rfl)
theorem dX0_may_52 : decode cX0_may 52 = .ok (.iload 4, 2) := dk_21 4 (dk_at dksX0_may_2 4 rfl rfl)
theorem dX0_may_54 : decode cX0_may 54 = .ok (.ishl, 1) := dk_120 (dk_at dksX0_may_2 6 rfl rfl)
theorem dX0_may_55 : decode cX0_may 55 = .ok (.goto 4, 3) := dk_167 0 4 (dk_at dksX0_may_2 7 rfl rfl)
theorem dX0_may_58 : decode cX0_may 58 = .ok (.iconst 0, 1) := dk_3 (dk_at dksX0_may_2 10 rfl rfl)
theorem dX0_may_59 : decode cX0_may 59 = .ok (.ior, 1) := dk_128 (dk_at dksX0_may_2 11 rfl rfl)
theorem dX0_may_60 : decode cX0_may 60 = .ok (.istore_n 3, 1) := dk_62 (dk_at dksX0_may_2 12 rfl rfl)
theorem dX0_may_61 : decode cX0_may 61 = .ok (.iinc 4 1, 3) := dk_132 4 1 (dk_at dksX0_may_2 13 rfl rfl)
theorem dX0_may_64 : decode cX0_may 64 = .ok (.goto (-42), 3) := dk_167 255 214 (dk_at dksX0_may_2 16 rfl rfl)
theorem dX0_may_67 : decode cX0_may 67 = .ok (.iload_n 3, 1) := dk_29 (dk_at dksX0_may_2 19 rfl rfl)
theorem dX0_may_68 : decode cX0_may 68 = .ok (.ireturn, 1) := dk_172 (dk_at dksX0_may_2 20 rfl rfl)
abbrev cX0_noRule : ByteArray := prog_1_method_19_code
def yX0_noRule : MethodName := ⟨RX0, "noRule", "(I)Z"⟩
def dkwX0_noRule_0 : List UInt8 := [26, 133, 9, 20, 0, 152, 184, 0, 49, 154, 0, 7, 4, 167, 0, 4, 3, 172]
abbrev dktX0_noRule_0 : List UInt8 := dkwX0_noRule_0 ++ []
theorem dksX0_noRule_0 : cX0_noRule.data.toList.drop 0 = dktX0_noRule_0 := by decide +kernel
theorem dX0_noRule_0 : decode cX0_noRule 0 = .ok (.iload_n 0, 1) := dk_26 (dk_at dksX0_noRule_0 0 rfl rfl)
theorem dX0_noRule_1 : decode cX0_noRule 1 = .ok (.i2l, 1) := dk_133 (dk_at dksX0_noRule_0 1 rfl rfl)
theorem dX0_noRule_2 : decode cX0_noRule 2 = .ok (.lconst 0, 1) := dk_9 (dk_at dksX0_noRule_0 2 rfl rfl)
theorem dX0_noRule_3 : decode cX0_noRule 3 = .ok (.ldc2_w 152, 3) := dk_20 0 152 (dk_at dksX0_noRule_0 3 rfl rfl)
theorem dX0_noRule_6 : decode cX0_noRule 6 = .ok (.invokestatic 49, 3) := dk_184 0 49 (dk_at dksX0_noRule_0 6 rfl rfl)
theorem dX0_noRule_9 : decode cX0_noRule 9 = .ok (.ifCond .ne 7, 3) := dk_154 0 7 (dk_at dksX0_noRule_0 9 rfl rfl)
theorem dX0_noRule_12 : decode cX0_noRule 12 = .ok (.iconst 1, 1) := dk_4 (dk_at dksX0_noRule_0 12 rfl rfl)
theorem dX0_noRule_13 : decode cX0_noRule 13 = .ok (.goto 4, 3) := dk_167 0 4 (dk_at dksX0_noRule_0 13 rfl rfl)
theorem dX0_noRule_16 : decode cX0_noRule 16 = .ok (.iconst 0, 1) := dk_3 (dk_at dksX0_noRule_0 16 rfl rfl)
theorem dX0_noRule_17 : decode cX0_noRule 17 = .ok (.ireturn, 1) := dk_172 (dk_at dksX0_noRule_0 17 rfl rfl)
abbrev cX0_mayRing : ByteArray := prog_1_method_21_code
def yX0_mayRing : MethodName := ⟨RX0, "mayRing", "(IIIII)Z"⟩
def dkwX0_mayRing_3 : List UInt8 := [184, 0, 154, 21, 4, 184, 0, 57, 153, 0, 7, 4, 167, 0, 4, 3, 172]
abbrev dktX0_mayRing_3 : List UInt8 := dkwX0_mayRing_3 ++ []
def dkwX0_mayRing_2 : List UInt8 := [153, 0, 39, 27, 4, 160, 0, 17, 28, 21, 4, 184, 0, 53, 21, 5, 184, 0, 57, 154, 0, 20, 29, 27]
abbrev dktX0_mayRing_2 : List UInt8 := dkwX0_mayRing_2 ++ dktX0_mayRing_3
def dkwX0_mayRing_1 : List UInt8 := [21, 4, 184, 0, 53, 28, 21, 5, 184, 0, 53, 159, 0, 7, 4, 167, 0, 4, 3, 54, 6, 21, 6]
abbrev dktX0_mayRing_1 : List UInt8 := dkwX0_mayRing_1 ++ dktX0_mayRing_2
def dkwX0_mayRing_0 : List UInt8 := [21, 4, 21, 5, 159, 0, 37, 42, 28, 21, 4, 182, 0, 96, 21, 5, 184, 0, 57, 153, 0, 22, 28]
abbrev dktX0_mayRing_0 : List UInt8 := dkwX0_mayRing_0 ++ dktX0_mayRing_1
theorem dksX0_mayRing_0 : cX0_mayRing.data.toList.drop 0 = dktX0_mayRing_0 := by decide +kernel
theorem dksX0_mayRing_1 : cX0_mayRing.data.toList.drop 23 = dktX0_mayRing_1 := dk_seg dksX0_mayRing_0 23 rfl rfl
theorem dksX0_mayRing_2 : cX0_mayRing.data.toList.drop 46 = dktX0_mayRing_2 := dk_seg dksX0_mayRing_1 23 rfl rfl
theorem dksX0_mayRing_3 : cX0_mayRing.data.toList.drop 70 = dktX0_mayRing_3 := dk_seg dksX0_mayRing_2 24 rfl rfl
theorem dX0_mayRing_0 : decode cX0_mayRing 0 = .ok (.iload 4, 2) := dk_21 4 (dk_at dksX0_mayRing_0 0 rfl rfl)
theorem dX0_mayRing_2 : decode cX0_mayRing 2 = .ok (.iload 5, 2) := dk_21 5 (dk_at dksX0_mayRing_0 2 rfl rfl)
theorem dX0_mayRing_4 : decode cX0_mayRing 4 = .ok (.if_icmp .eq 37, 3) := dk_159 0 37 (dk_at dksX0_mayRing_0 4 rfl rfl)
theorem dX0_mayRing_7 : decode cX0_mayRing 7 = .ok (.aload_n 0, 1) := dk_42 (dk_at dksX0_mayRing_0 7 rfl rfl)
theorem dX0_mayRing_8 : decode cX0_mayRing 8 = .ok (.iload_n 2, 1) := dk_28 (dk_at dksX0_mayRing_0 8 rfl rfl)
theorem dX0_mayRing_9 : decode cX0_mayRing 9 = .ok (.iload 4, 2) := dk_21 4 (dk_at dksX0_mayRing_0 9 rfl rfl)
theorem dX0_mayRing_11 : decode cX0_mayRing 11 = .ok (.invokevirtual 96, 3) := dk_182 0 96 (dk_at dksX0_mayRing_0 11 rfl rfl)
theorem dX0_mayRing_14 : decode cX0_mayRing 14 = .ok (.iload 5, 2) := dk_21 5 (dk_at dksX0_mayRing_0 14 rfl rfl)
theorem dX0_mayRing_16 : decode cX0_mayRing 16 = .ok (.invokestatic 57, 3) := dk_184 0 57 (dk_at dksX0_mayRing_0 16 rfl rfl)
theorem dX0_mayRing_19 : decode cX0_mayRing 19 = .ok (.ifCond .eq 22, 3) := dk_153 0 22 (dk_at dksX0_mayRing_0 19 rfl rfl)
theorem dX0_mayRing_22 : decode cX0_mayRing 22 = .ok (.iload_n 2, 1) := dk_28 (dk_at dksX0_mayRing_0 22 rfl rfl)
theorem dX0_mayRing_23 : decode cX0_mayRing 23 = .ok (.iload 4, 2) := dk_21 4 (dk_at dksX0_mayRing_1 0 rfl rfl)
theorem dX0_mayRing_25 : decode cX0_mayRing 25 = .ok (.invokestatic 53, 3) := dk_184 0 53 (dk_at dksX0_mayRing_1 2 rfl rfl)
theorem dX0_mayRing_28 : decode cX0_mayRing 28 = .ok (.iload_n 2, 1) := dk_28 (dk_at dksX0_mayRing_1 5 rfl rfl)
theorem dX0_mayRing_29 : decode cX0_mayRing 29 = .ok (.iload 5, 2) := dk_21 5 (dk_at dksX0_mayRing_1 6 rfl rfl)
theorem dX0_mayRing_31 : decode cX0_mayRing 31 = .ok (.invokestatic 53, 3) := dk_184 0 53 (dk_at dksX0_mayRing_1 8 rfl rfl)
theorem dX0_mayRing_34 : decode cX0_mayRing 34 = .ok (.if_icmp .eq 7, 3) := dk_159 0 7 (dk_at dksX0_mayRing_1 11 rfl rfl)
theorem dX0_mayRing_37 : decode cX0_mayRing 37 = .ok (.iconst 1, 1) := dk_4 (dk_at dksX0_mayRing_1 14 rfl rfl)
theorem dX0_mayRing_38 : decode cX0_mayRing 38 = .ok (.goto 4, 3) := dk_167 0 4 (dk_at dksX0_mayRing_1 15 rfl rfl)
theorem dX0_mayRing_41 : decode cX0_mayRing 41 = .ok (.iconst 0, 1) := dk_3 (dk_at dksX0_mayRing_1 18 rfl rfl)
theorem dX0_mayRing_42 : decode cX0_mayRing 42 = .ok (.istore 6, 2) := dk_54 6 (dk_at dksX0_mayRing_1 19 rfl rfl)
theorem dX0_mayRing_44 : decode cX0_mayRing 44 = .ok (.iload 6, 2) := dk_21 6 (dk_at dksX0_mayRing_1 21 rfl rfl)
theorem dX0_mayRing_46 : decode cX0_mayRing 46 = .ok (.ifCond .eq 39, 3) := dk_153 0 39 (dk_at dksX0_mayRing_2 0 rfl rfl)
theorem dX0_mayRing_49 : decode cX0_mayRing 49 = .ok (.iload_n 1, 1) := dk_27 (dk_at dksX0_mayRing_2 3 rfl rfl)
theorem dX0_mayRing_50 : decode cX0_mayRing 50 = .ok (.iconst 1, 1) := dk_4 (dk_at dksX0_mayRing_2 4 rfl rfl)
theorem dX0_mayRing_51 : decode cX0_mayRing 51 = .ok (.if_icmp .ne 17, 3) := dk_160 0 17 (dk_at dksX0_mayRing_2 5 rfl rfl)
theorem dX0_mayRing_54 : decode cX0_mayRing 54 = .ok (.iload_n 2, 1) := dk_28 (dk_at dksX0_mayRing_2 8 rfl rfl)
theorem dX0_mayRing_55 : decode cX0_mayRing 55 = .ok (.iload 4, 2) := dk_21 4 (dk_at dksX0_mayRing_2 9 rfl rfl)
theorem dX0_mayRing_57 : decode cX0_mayRing 57 = .ok (.invokestatic 53, 3) := dk_184 0 53 (dk_at dksX0_mayRing_2 11 rfl rfl)
theorem dX0_mayRing_60 : decode cX0_mayRing 60 = .ok (.iload 5, 2) := dk_21 5 (dk_at dksX0_mayRing_2 14 rfl rfl)
theorem dX0_mayRing_62 : decode cX0_mayRing 62 = .ok (.invokestatic 57, 3) := dk_184 0 57 (dk_at dksX0_mayRing_2 16 rfl rfl)
theorem dX0_mayRing_65 : decode cX0_mayRing 65 = .ok (.ifCond .ne 20, 3) := dk_154 0 20 (dk_at dksX0_mayRing_2 19 rfl rfl)
theorem dX0_mayRing_68 : decode cX0_mayRing 68 = .ok (.iload_n 3, 1) := dk_29 (dk_at dksX0_mayRing_2 22 rfl rfl)
theorem dX0_mayRing_69 : decode cX0_mayRing 69 = .ok (.iload_n 1, 1) := dk_27 (dk_at dksX0_mayRing_2 23 rfl rfl)
theorem dX0_mayRing_70 : decode cX0_mayRing 70 = .ok (.invokestatic 154, 3) := dk_184 0 154 (dk_at dksX0_mayRing_3 0 rfl rfl)
theorem dX0_mayRing_73 : decode cX0_mayRing 73 = .ok (.iload 4, 2) := dk_21 4 (dk_at dksX0_mayRing_3 3 rfl rfl)
theorem dX0_mayRing_75 : decode cX0_mayRing 75 = .ok (.invokestatic 57, 3) := dk_184 0 57 (dk_at dksX0_mayRing_3 5 rfl rfl)
theorem dX0_mayRing_78 : decode cX0_mayRing 78 = .ok (.ifCond .eq 7, 3) := dk_153 0 7 (dk_at dksX0_mayRing_3 8 rfl rfl)
theorem dX0_mayRing_81 : decode cX0_mayRing 81 = .ok (.iconst 1, 1) := dk_4 (dk_at dksX0_mayRing_3 11 rfl rfl)
theorem dX0_mayRing_82 : decode cX0_mayRing 82 = .ok (.goto 4, 3) := dk_167 0 4 (dk_at dksX0_mayRing_3 12 rfl rfl)
theorem dX0_mayRing_85 : decode cX0_mayRing 85 = .ok (.iconst 0, 1) := dk_3 (dk_at dksX0_mayRing_3 15 rfl rfl)
theorem dX0_mayRing_86 : decode cX0_mayRing 86 = .ok (.ireturn, 1) := dk_172 (dk_at dksX0_mayRing_3 16 rfl rfl)
abbrev cX0_tokensOf : ByteArray := prog_1_method_20_code
def yX0_tokensOf : MethodName := ⟨RX0, "tokensOf", "(II)I"⟩
def dkwX0_tokensOf_1 : List UInt8 := [16, 15, 172]
abbrev dktX0_tokensOf_1 : List UInt8 := dkwX0_tokensOf_1 ++ []
def dkwX0_tokensOf_0 : List UInt8 := [27, 5, 160, 0, 10, 26, 16, 15, 126, 167, 0, 16, 27, 6, 160, 0, 9, 26, 7, 122, 167, 0, 5]
abbrev dktX0_tokensOf_0 : List UInt8 := dkwX0_tokensOf_0 ++ dktX0_tokensOf_1
theorem dksX0_tokensOf_0 : cX0_tokensOf.data.toList.drop 0 = dktX0_tokensOf_0 := by decide +kernel
theorem dksX0_tokensOf_1 : cX0_tokensOf.data.toList.drop 23 = dktX0_tokensOf_1 := dk_seg dksX0_tokensOf_0 23 rfl rfl
theorem dX0_tokensOf_0 : decode cX0_tokensOf 0 = .ok (.iload_n 1, 1) := dk_27 (dk_at dksX0_tokensOf_0 0 rfl rfl)
theorem dX0_tokensOf_1 : decode cX0_tokensOf 1 = .ok (.iconst 2, 1) := dk_5 (dk_at dksX0_tokensOf_0 1 rfl rfl)
theorem dX0_tokensOf_2 : decode cX0_tokensOf 2 = .ok (.if_icmp .ne 10, 3) := dk_160 0 10 (dk_at dksX0_tokensOf_0 2 rfl rfl)
theorem dX0_tokensOf_5 : decode cX0_tokensOf 5 = .ok (.iload_n 0, 1) := dk_26 (dk_at dksX0_tokensOf_0 5 rfl rfl)
theorem dX0_tokensOf_6 : decode cX0_tokensOf 6 = .ok (.bipush 15, 2) := dk_16 15 (dk_at dksX0_tokensOf_0 6 rfl rfl)
theorem dX0_tokensOf_8 : decode cX0_tokensOf 8 = .ok (.iand, 1) := dk_126 (dk_at dksX0_tokensOf_0 8 rfl rfl)
theorem dX0_tokensOf_9 : decode cX0_tokensOf 9 = .ok (.goto 16, 3) := dk_167 0 16 (dk_at dksX0_tokensOf_0 9 rfl rfl)
theorem dX0_tokensOf_12 : decode cX0_tokensOf 12 = .ok (.iload_n 1, 1) := dk_27 (dk_at dksX0_tokensOf_0 12 rfl rfl)
theorem dX0_tokensOf_13 : decode cX0_tokensOf 13 = .ok (.iconst 3, 1) := dk_6 (dk_at dksX0_tokensOf_0 13 rfl rfl)
theorem dX0_tokensOf_14 : decode cX0_tokensOf 14 = .ok (.if_icmp .ne 9, 3) := dk_160 0 9 (dk_at dksX0_tokensOf_0 14 rfl rfl)
theorem dX0_tokensOf_17 : decode cX0_tokensOf 17 = .ok (.iload_n 0, 1) := dk_26 (dk_at dksX0_tokensOf_0 17 rfl rfl)
theorem dX0_tokensOf_18 : decode cX0_tokensOf 18 = .ok (.iconst 4, 1) := dk_7 (dk_at dksX0_tokensOf_0 18 rfl rfl)
theorem dX0_tokensOf_19 : decode cX0_tokensOf 19 = .ok (.ishr, 1) := dk_122 (dk_at dksX0_tokensOf_0 19 rfl rfl)
theorem dX0_tokensOf_20 : decode cX0_tokensOf 20 = .ok (.goto 5, 3) := dk_167 0 5 (dk_at dksX0_tokensOf_0 20 rfl rfl)
theorem dX0_tokensOf_23 : decode cX0_tokensOf 23 = .ok (.bipush 15, 2) := dk_16 15 (dk_at dksX0_tokensOf_1 0 rfl rfl)
theorem dX0_tokensOf_25 : decode cX0_tokensOf 25 = .ok (.ireturn, 1) := dk_172 (dk_at dksX0_tokensOf_1 2 rfl rfl)
abbrev cX0_runs : ByteArray := prog_1_method_27_code
def yX0_runs : MethodName := ⟨RX0, "runs", "(II)J"⟩
def dkwX0_runs_2 : List UInt8 := [180, 0, 30, 29, 47, 173]
abbrev dktX0_runs_2 : List UInt8 := dkwX0_runs_2 ++ []
def dkwX0_runs_1 : List UInt8 := [20, 0, 187, 173, 42, 27, 182, 0, 189, 62, 28, 154, 0, 12, 42, 180, 0, 26, 29, 47, 167, 0, 9, 42]
abbrev dktX0_runs_1 : List UInt8 := dkwX0_runs_1 ++ dktX0_runs_2
def dkwX0_runs_0 : List UInt8 := [27, 184, 0, 157, 154, 0, 20, 28, 133, 9, 10, 184, 0, 49, 153, 0, 10, 42, 180, 0, 45, 154, 0, 7]
abbrev dktX0_runs_0 : List UInt8 := dkwX0_runs_0 ++ dktX0_runs_1
theorem dksX0_runs_0 : cX0_runs.data.toList.drop 0 = dktX0_runs_0 := by decide +kernel
theorem dksX0_runs_1 : cX0_runs.data.toList.drop 24 = dktX0_runs_1 := dk_seg dksX0_runs_0 24 rfl rfl
theorem dksX0_runs_2 : cX0_runs.data.toList.drop 48 = dktX0_runs_2 := dk_seg dksX0_runs_1 24 rfl rfl
theorem dX0_runs_0 : decode cX0_runs 0 = .ok (.iload_n 1, 1) := dk_27 (dk_at dksX0_runs_0 0 rfl rfl)
theorem dX0_runs_1 : decode cX0_runs 1 = .ok (.invokestatic 157, 3) := dk_184 0 157 (dk_at dksX0_runs_0 1 rfl rfl)
theorem dX0_runs_4 : decode cX0_runs 4 = .ok (.ifCond .ne 20, 3) := dk_154 0 20 (dk_at dksX0_runs_0 4 rfl rfl)
theorem dX0_runs_7 : decode cX0_runs 7 = .ok (.iload_n 2, 1) := dk_28 (dk_at dksX0_runs_0 7 rfl rfl)
theorem dX0_runs_8 : decode cX0_runs 8 = .ok (.i2l, 1) := dk_133 (dk_at dksX0_runs_0 8 rfl rfl)
theorem dX0_runs_9 : decode cX0_runs 9 = .ok (.lconst 0, 1) := dk_9 (dk_at dksX0_runs_0 9 rfl rfl)
theorem dX0_runs_10 : decode cX0_runs 10 = .ok (.lconst 1, 1) := dk_10 (dk_at dksX0_runs_0 10 rfl rfl)
theorem dX0_runs_11 : decode cX0_runs 11 = .ok (.invokestatic 49, 3) := dk_184 0 49 (dk_at dksX0_runs_0 11 rfl rfl)
theorem dX0_runs_14 : decode cX0_runs 14 = .ok (.ifCond .eq 10, 3) := dk_153 0 10 (dk_at dksX0_runs_0 14 rfl rfl)
theorem dX0_runs_17 : decode cX0_runs 17 = .ok (.aload_n 0, 1) := dk_42 (dk_at dksX0_runs_0 17 rfl rfl)
theorem dX0_runs_18 : decode cX0_runs 18 = .ok (.getfield 45, 3) := dk_180 0 45 (dk_at dksX0_runs_0 18 rfl rfl)
theorem dX0_runs_21 : decode cX0_runs 21 = .ok (.ifCond .ne 7, 3) := dk_154 0 7 (dk_at dksX0_runs_0 21 rfl rfl)
theorem dX0_runs_24 : decode cX0_runs 24 = .ok (.ldc2_w 187, 3) := dk_20 0 187 (dk_at dksX0_runs_1 0 rfl rfl)
theorem dX0_runs_27 : decode cX0_runs 27 = .ok (.lreturn, 1) := dk_173 (dk_at dksX0_runs_1 3 rfl rfl)
theorem dX0_runs_28 : decode cX0_runs 28 = .ok (.aload_n 0, 1) := dk_42 (dk_at dksX0_runs_1 4 rfl rfl)
theorem dX0_runs_29 : decode cX0_runs 29 = .ok (.iload_n 1, 1) := dk_27 (dk_at dksX0_runs_1 5 rfl rfl)
theorem dX0_runs_30 : decode cX0_runs 30 = .ok (.invokevirtual 189, 3) := dk_182 0 189 (dk_at dksX0_runs_1 6 rfl rfl)
theorem dX0_runs_33 : decode cX0_runs 33 = .ok (.istore_n 3, 1) := dk_62 (dk_at dksX0_runs_1 9 rfl rfl)
theorem dX0_runs_34 : decode cX0_runs 34 = .ok (.iload_n 2, 1) := dk_28 (dk_at dksX0_runs_1 10 rfl rfl)
theorem dX0_runs_35 : decode cX0_runs 35 = .ok (.ifCond .ne 12, 3) := dk_154 0 12 (dk_at dksX0_runs_1 11 rfl rfl)
theorem dX0_runs_38 : decode cX0_runs 38 = .ok (.aload_n 0, 1) := dk_42 (dk_at dksX0_runs_1 14 rfl rfl)
theorem dX0_runs_39 : decode cX0_runs 39 = .ok (.getfield 26, 3) := dk_180 0 26 (dk_at dksX0_runs_1 15 rfl rfl)
theorem dX0_runs_42 : decode cX0_runs 42 = .ok (.iload_n 3, 1) := dk_29 (dk_at dksX0_runs_1 18 rfl rfl)
theorem dX0_runs_43 : decode cX0_runs 43 = .ok (.laload, 1) := dk_47 (dk_at dksX0_runs_1 19 rfl rfl)
theorem dX0_runs_44 : decode cX0_runs 44 = .ok (.goto 9, 3) := dk_167 0 9 (dk_at dksX0_runs_1 20 rfl rfl)
theorem dX0_runs_47 : decode cX0_runs 47 = .ok (.aload_n 0, 1) := dk_42 (dk_at dksX0_runs_1 23 rfl rfl)
theorem dX0_runs_48 : decode cX0_runs 48 = .ok (.getfield 30, 3) := dk_180 0 30 (dk_at dksX0_runs_2 0 rfl rfl)
theorem dX0_runs_51 : decode cX0_runs 51 = .ok (.iload_n 3, 1) := dk_29 (dk_at dksX0_runs_2 3 rfl rfl)
theorem dX0_runs_52 : decode cX0_runs 52 = .ok (.laload, 1) := dk_47 (dk_at dksX0_runs_2 4 rfl rfl)
theorem dX0_runs_53 : decode cX0_runs 53 = .ok (.lreturn, 1) := dk_173 (dk_at dksX0_runs_2 5 rfl rfl)
abbrev cX0_layNow : ByteArray := prog_1_method_25_code
def yX0_layNow : MethodName := ⟨RX0, "layNow", "(I)I"⟩
def dkwX0_layNow_0 : List UInt8 := [42, 89, 180, 0, 167, 4, 96, 181, 0, 167, 42, 27, 42, 182, 0, 93, 42, 182, 0, 99, 182, 0, 173, 172]
abbrev dktX0_layNow_0 : List UInt8 := dkwX0_layNow_0 ++ []
theorem dksX0_layNow_0 : cX0_layNow.data.toList.drop 0 = dktX0_layNow_0 := by decide +kernel
theorem dX0_layNow_0 : decode cX0_layNow 0 = .ok (.aload_n 0, 1) := dk_42 (dk_at dksX0_layNow_0 0 rfl rfl)
theorem dX0_layNow_1 : decode cX0_layNow 1 = .ok (.dup, 1) := dk_89 (dk_at dksX0_layNow_0 1 rfl rfl)
theorem dX0_layNow_2 : decode cX0_layNow 2 = .ok (.getfield 167, 3) := dk_180 0 167 (dk_at dksX0_layNow_0 2 rfl rfl)
theorem dX0_layNow_5 : decode cX0_layNow 5 = .ok (.iconst 1, 1) := dk_4 (dk_at dksX0_layNow_0 5 rfl rfl)
theorem dX0_layNow_6 : decode cX0_layNow 6 = .ok (.iadd, 1) := dk_96 (dk_at dksX0_layNow_0 6 rfl rfl)
theorem dX0_layNow_7 : decode cX0_layNow 7 = .ok (.putfield 167, 3) := dk_181 0 167 (dk_at dksX0_layNow_0 7 rfl rfl)
theorem dX0_layNow_10 : decode cX0_layNow 10 = .ok (.aload_n 0, 1) := dk_42 (dk_at dksX0_layNow_0 10 rfl rfl)
theorem dX0_layNow_11 : decode cX0_layNow 11 = .ok (.iload_n 1, 1) := dk_27 (dk_at dksX0_layNow_0 11 rfl rfl)
theorem dX0_layNow_12 : decode cX0_layNow 12 = .ok (.aload_n 0, 1) := dk_42 (dk_at dksX0_layNow_0 12 rfl rfl)
theorem dX0_layNow_13 : decode cX0_layNow 13 = .ok (.invokevirtual 93, 3) := dk_182 0 93 (dk_at dksX0_layNow_0 13 rfl rfl)
theorem dX0_layNow_16 : decode cX0_layNow 16 = .ok (.aload_n 0, 1) := dk_42 (dk_at dksX0_layNow_0 16 rfl rfl)
theorem dX0_layNow_17 : decode cX0_layNow 17 = .ok (.invokevirtual 99, 3) := dk_182 0 99 (dk_at dksX0_layNow_0 17 rfl rfl)
theorem dX0_layNow_20 : decode cX0_layNow 20 = .ok (.invokevirtual 173, 3) := dk_182 0 173 (dk_at dksX0_layNow_0 20 rfl rfl)
theorem dX0_layNow_23 : decode cX0_layNow 23 = .ok (.ireturn, 1) := dk_172 (dk_at dksX0_layNow_0 23 rfl rfl)
abbrev cX0_lay : ByteArray := prog_1_method_24_code
def yX0_lay : MethodName := ⟨RX0, "lay", "(III)I"⟩
def dkwX0_lay_13 : List UInt8 := [21, 4, 172]
abbrev dktX0_lay_13 : List UInt8 := dkwX0_lay_13 ++ []
def dkwX0_lay_12 : List UInt8 := [167, 0, 5, 21, 9, 79, 42, 180, 0, 36, 21, 4, 21, 12, 153, 0, 7, 3, 167, 0, 5, 21, 10, 79]
abbrev dktX0_lay_12 : List UInt8 := dkwX0_lay_12 ++ dktX0_lay_13
def dkwX0_lay_11 : List UInt8 := [21, 12, 153, 0, 7, 10, 167, 0, 5, 22, 7, 80, 42, 180, 0, 33, 21, 4, 21, 12, 153, 0, 7, 3]
abbrev dktX0_lay_11 : List UInt8 := dkwX0_lay_11 ++ dktX0_lay_12
def dkwX0_lay_10 : List UInt8 := [180, 0, 26, 21, 4, 21, 11, 153, 0, 7, 10, 167, 0, 5, 22, 5, 80, 42, 180, 0, 30, 21, 4]
abbrev dktX0_lay_10 : List UInt8 := dkwX0_lay_10 ++ dktX0_lay_11
def dkwX0_lay_9 : List UInt8 := [153, 0, 7, 4, 167, 0, 4, 3, 54, 12, 42, 180, 0, 23, 21, 4, 42, 180, 0, 167, 79, 42]
abbrev dktX0_lay_9 : List UInt8 := dkwX0_lay_9 ++ dktX0_lay_10
def dkwX0_lay_8 : List UInt8 := [9, 148, 154, 0, 7, 4, 167, 0, 4, 3, 54, 11, 21, 11, 153, 0, 15, 42, 28, 182, 0, 184]
abbrev dktX0_lay_8 : List UInt8 := dkwX0_lay_8 ++ dktX0_lay_9
def dkwX0_lay_7 : List UInt8 := [21, 13, 46, 4, 96, 184, 0, 181, 54, 10, 132, 12, 1, 167, 255, 136, 132, 11, 1, 167, 255, 118, 22, 5]
abbrev dktX0_lay_7 : List UInt8 := dkwX0_lay_7 ++ dktX0_lay_8
def dkwX0_lay_6 : List UInt8 := [54, 9, 42, 180, 0, 36, 21, 13, 46, 156, 0, 8, 21, 10, 167, 0, 17, 21, 10, 42, 180, 0, 36]
abbrev dktX0_lay_6 : List UInt8 := dkwX0_lay_6 ++ dktX0_lay_7
def dkwX0_lay_5 : List UInt8 := [180, 0, 30, 21, 13, 47, 97, 55, 7, 21, 9, 42, 180, 0, 33, 21, 13, 46, 4, 96, 184, 0, 176]
abbrev dktX0_lay_5 : List UInt8 := dkwX0_lay_5 ++ dktX0_lay_6
def dkwX0_lay_4 : List UInt8 := [184, 0, 102, 182, 0, 173, 54, 13, 22, 5, 42, 180, 0, 26, 21, 13, 47, 97, 55, 5, 22, 7, 42]
abbrev dktX0_lay_4 : List UInt8 := dkwX0_lay_4 ++ dktX0_lay_5
def dkwX0_lay_3 : List UInt8 := [21, 12, 182, 0, 160, 153, 0, 97, 42, 27, 28, 21, 11, 21, 12, 184, 0, 170, 29, 21, 11, 21, 12]
abbrev dktX0_lay_3 : List UInt8 := dkwX0_lay_3 ++ dktX0_lay_4
def dkwX0_lay_2 : List UInt8 := [180, 0, 45, 162, 0, 135, 3, 54, 12, 21, 12, 42, 180, 0, 45, 162, 0, 117, 42, 27, 28, 29, 21, 11]
abbrev dktX0_lay_2 : List UInt8 := dkwX0_lay_2 ++ dktX0_lay_3
def dkwX0_lay_1 : List UInt8 := [172, 9, 55, 5, 9, 55, 7, 17, 3, 232, 54, 9, 16, 247, 54, 10, 3, 54, 11, 21, 11, 42]
abbrev dktX0_lay_1 : List UInt8 := dkwX0_lay_1 ++ dktX0_lay_2
def dkwX0_lay_0 : List UInt8 := [27, 28, 29, 184, 0, 164, 54, 4, 42, 180, 0, 23, 21, 4, 46, 42, 180, 0, 167, 160, 0, 6, 21, 4]
abbrev dktX0_lay_0 : List UInt8 := dkwX0_lay_0 ++ dktX0_lay_1
theorem dksX0_lay_0 : cX0_lay.data.toList.drop 0 = dktX0_lay_0 := by decide +kernel
theorem dksX0_lay_1 : cX0_lay.data.toList.drop 24 = dktX0_lay_1 := dk_seg dksX0_lay_0 24 rfl rfl
theorem dksX0_lay_2 : cX0_lay.data.toList.drop 46 = dktX0_lay_2 := dk_seg dksX0_lay_1 22 rfl rfl
theorem dksX0_lay_3 : cX0_lay.data.toList.drop 70 = dktX0_lay_3 := dk_seg dksX0_lay_2 24 rfl rfl
theorem dksX0_lay_4 : cX0_lay.data.toList.drop 93 = dktX0_lay_4 := dk_seg dksX0_lay_3 23 rfl rfl
theorem dksX0_lay_5 : cX0_lay.data.toList.drop 116 = dktX0_lay_5 := dk_seg dksX0_lay_4 23 rfl rfl
theorem dksX0_lay_6 : cX0_lay.data.toList.drop 139 = dktX0_lay_6 := dk_seg dksX0_lay_5 23 rfl rfl
theorem dksX0_lay_7 : cX0_lay.data.toList.drop 162 = dktX0_lay_7 := dk_seg dksX0_lay_6 23 rfl rfl
theorem dksX0_lay_8 : cX0_lay.data.toList.drop 186 = dktX0_lay_8 := dk_seg dksX0_lay_7 24 rfl rfl
theorem dksX0_lay_9 : cX0_lay.data.toList.drop 208 = dktX0_lay_9 := dk_seg dksX0_lay_8 22 rfl rfl
theorem dksX0_lay_10 : cX0_lay.data.toList.drop 230 = dktX0_lay_10 := dk_seg dksX0_lay_9 22 rfl rfl
theorem dksX0_lay_11 : cX0_lay.data.toList.drop 253 = dktX0_lay_11 := dk_seg dksX0_lay_10 23 rfl rfl
theorem dksX0_lay_12 : cX0_lay.data.toList.drop 277 = dktX0_lay_12 := dk_seg dksX0_lay_11 24 rfl rfl
theorem dksX0_lay_13 : cX0_lay.data.toList.drop 301 = dktX0_lay_13 := dk_seg dksX0_lay_12 24 rfl rfl
theorem dX0_lay_0 : decode cX0_lay 0 = .ok (.iload_n 1, 1) := dk_27 (dk_at dksX0_lay_0 0 rfl rfl)
theorem dX0_lay_1 : decode cX0_lay 1 = .ok (.iload_n 2, 1) := dk_28 (dk_at dksX0_lay_0 1 rfl rfl)
theorem dX0_lay_2 : decode cX0_lay 2 = .ok (.iload_n 3, 1) := dk_29 (dk_at dksX0_lay_0 2 rfl rfl)
theorem dX0_lay_3 : decode cX0_lay 3 = .ok (.invokestatic 164, 3) := dk_184 0 164 (dk_at dksX0_lay_0 3 rfl rfl)
theorem dX0_lay_6 : decode cX0_lay 6 = .ok (.istore 4, 2) := dk_54 4 (dk_at dksX0_lay_0 6 rfl rfl)
theorem dX0_lay_8 : decode cX0_lay 8 = .ok (.aload_n 0, 1) := dk_42 (dk_at dksX0_lay_0 8 rfl rfl)
theorem dX0_lay_9 : decode cX0_lay 9 = .ok (.getfield 23, 3) := dk_180 0 23 (dk_at dksX0_lay_0 9 rfl rfl)
theorem dX0_lay_12 : decode cX0_lay 12 = .ok (.iload 4, 2) := dk_21 4 (dk_at dksX0_lay_0 12 rfl rfl)
theorem dX0_lay_14 : decode cX0_lay 14 = .ok (.iaload, 1) := dk_46 (dk_at dksX0_lay_0 14 rfl rfl)
theorem dX0_lay_15 : decode cX0_lay 15 = .ok (.aload_n 0, 1) := dk_42 (dk_at dksX0_lay_0 15 rfl rfl)
theorem dX0_lay_16 : decode cX0_lay 16 = .ok (.getfield 167, 3) := dk_180 0 167 (dk_at dksX0_lay_0 16 rfl rfl)
theorem dX0_lay_19 : decode cX0_lay 19 = .ok (.if_icmp .ne 6, 3) := dk_160 0 6 (dk_at dksX0_lay_0 19 rfl rfl)
theorem dX0_lay_22 : decode cX0_lay 22 = .ok (.iload 4, 2) := dk_21 4 (dk_at dksX0_lay_0 22 rfl rfl)
theorem dX0_lay_24 : decode cX0_lay 24 = .ok (.ireturn, 1) := dk_172 (dk_at dksX0_lay_1 0 rfl rfl)
theorem dX0_lay_25 : decode cX0_lay 25 = .ok (.lconst 0, 1) := dk_9 (dk_at dksX0_lay_1 1 rfl rfl)
theorem dX0_lay_26 : decode cX0_lay 26 = .ok (.lstore 5, 2) := dk_55 5 (dk_at dksX0_lay_1 2 rfl rfl)
theorem dX0_lay_28 : decode cX0_lay 28 = .ok (.lconst 0, 1) := dk_9 (dk_at dksX0_lay_1 4 rfl rfl)
theorem dX0_lay_29 : decode cX0_lay 29 = .ok (.lstore 7, 2) := dk_55 7 (dk_at dksX0_lay_1 5 rfl rfl)
theorem dX0_lay_31 : decode cX0_lay 31 = .ok (.sipush 1000, 3) := dk_17 3 232 (dk_at dksX0_lay_1 7 rfl rfl)
theorem dX0_lay_34 : decode cX0_lay 34 = .ok (.istore 9, 2) := dk_54 9 (dk_at dksX0_lay_1 10 rfl rfl)
theorem dX0_lay_36 : decode cX0_lay 36 = .ok (.bipush (-9), 2) := dk_16 247 (dk_at dksX0_lay_1 12 rfl rfl)
theorem dX0_lay_38 : decode cX0_lay 38 = .ok (.istore 10, 2) := dk_54 10 (dk_at dksX0_lay_1 14 rfl rfl)
theorem dX0_lay_40 : decode cX0_lay 40 = .ok (.iconst 0, 1) := dk_3 (dk_at dksX0_lay_1 16 rfl rfl)
theorem dX0_lay_41 : decode cX0_lay 41 = .ok (.istore 11, 2) := dk_54 11 (dk_at dksX0_lay_1 17 rfl rfl)
theorem dX0_lay_43 : decode cX0_lay 43 = .ok (.iload 11, 2) := dk_21 11 (dk_at dksX0_lay_1 19 rfl rfl)
theorem dX0_lay_45 : decode cX0_lay 45 = .ok (.aload_n 0, 1) := dk_42 (dk_at dksX0_lay_1 21 rfl rfl)
theorem dX0_lay_46 : decode cX0_lay 46 = .ok (.getfield 45, 3) := dk_180 0 45 (dk_at dksX0_lay_2 0 rfl rfl)
theorem dX0_lay_49 : decode cX0_lay 49 = .ok (.if_icmp .ge 135, 3) := dk_162 0 135 (dk_at dksX0_lay_2 3 rfl rfl)
theorem dX0_lay_52 : decode cX0_lay 52 = .ok (.iconst 0, 1) := dk_3 (dk_at dksX0_lay_2 6 rfl rfl)
theorem dX0_lay_53 : decode cX0_lay 53 = .ok (.istore 12, 2) := dk_54 12 (dk_at dksX0_lay_2 7 rfl rfl)
theorem dX0_lay_55 : decode cX0_lay 55 = .ok (.iload 12, 2) := dk_21 12 (dk_at dksX0_lay_2 9 rfl rfl)
theorem dX0_lay_57 : decode cX0_lay 57 = .ok (.aload_n 0, 1) := dk_42 (dk_at dksX0_lay_2 11 rfl rfl)
theorem dX0_lay_58 : decode cX0_lay 58 = .ok (.getfield 45, 3) := dk_180 0 45 (dk_at dksX0_lay_2 12 rfl rfl)
theorem dX0_lay_61 : decode cX0_lay 61 = .ok (.if_icmp .ge 117, 3) := dk_162 0 117 (dk_at dksX0_lay_2 15 rfl rfl)
theorem dX0_lay_64 : decode cX0_lay 64 = .ok (.aload_n 0, 1) := dk_42 (dk_at dksX0_lay_2 18 rfl rfl)
theorem dX0_lay_65 : decode cX0_lay 65 = .ok (.iload_n 1, 1) := dk_27 (dk_at dksX0_lay_2 19 rfl rfl)
theorem dX0_lay_66 : decode cX0_lay 66 = .ok (.iload_n 2, 1) := dk_28 (dk_at dksX0_lay_2 20 rfl rfl)
theorem dX0_lay_67 : decode cX0_lay 67 = .ok (.iload_n 3, 1) := dk_29 (dk_at dksX0_lay_2 21 rfl rfl)
theorem dX0_lay_68 : decode cX0_lay 68 = .ok (.iload 11, 2) := dk_21 11 (dk_at dksX0_lay_2 22 rfl rfl)
theorem dX0_lay_70 : decode cX0_lay 70 = .ok (.iload 12, 2) := dk_21 12 (dk_at dksX0_lay_3 0 rfl rfl)
theorem dX0_lay_72 : decode cX0_lay 72 = .ok (.invokevirtual 160, 3) := dk_182 0 160 (dk_at dksX0_lay_3 2 rfl rfl)
theorem dX0_lay_75 : decode cX0_lay 75 = .ok (.ifCond .eq 97, 3) := dk_153 0 97 (dk_at dksX0_lay_3 5 rfl rfl)
theorem dX0_lay_78 : decode cX0_lay 78 = .ok (.aload_n 0, 1) := dk_42 (dk_at dksX0_lay_3 8 rfl rfl)
theorem dX0_lay_79 : decode cX0_lay 79 = .ok (.iload_n 1, 1) := dk_27 (dk_at dksX0_lay_3 9 rfl rfl)
theorem dX0_lay_80 : decode cX0_lay 80 = .ok (.iload_n 2, 1) := dk_28 (dk_at dksX0_lay_3 10 rfl rfl)
theorem dX0_lay_81 : decode cX0_lay 81 = .ok (.iload 11, 2) := dk_21 11 (dk_at dksX0_lay_3 11 rfl rfl)
theorem dX0_lay_83 : decode cX0_lay 83 = .ok (.iload 12, 2) := dk_21 12 (dk_at dksX0_lay_3 13 rfl rfl)
theorem dX0_lay_85 : decode cX0_lay 85 = .ok (.invokestatic 170, 3) := dk_184 0 170 (dk_at dksX0_lay_3 15 rfl rfl)
theorem dX0_lay_88 : decode cX0_lay 88 = .ok (.iload_n 3, 1) := dk_29 (dk_at dksX0_lay_3 18 rfl rfl)
theorem dX0_lay_89 : decode cX0_lay 89 = .ok (.iload 11, 2) := dk_21 11 (dk_at dksX0_lay_3 19 rfl rfl)
theorem dX0_lay_91 : decode cX0_lay 91 = .ok (.iload 12, 2) := dk_21 12 (dk_at dksX0_lay_3 21 rfl rfl)
theorem dX0_lay_93 : decode cX0_lay 93 = .ok (.invokestatic 102, 3) := dk_184 0 102 (dk_at dksX0_lay_4 0 rfl rfl)
theorem dX0_lay_96 : decode cX0_lay 96 = .ok (.invokevirtual 173, 3) := dk_182 0 173 (dk_at dksX0_lay_4 3 rfl rfl)
theorem dX0_lay_99 : decode cX0_lay 99 = .ok (.istore 13, 2) := dk_54 13 (dk_at dksX0_lay_4 6 rfl rfl)
theorem dX0_lay_101 : decode cX0_lay 101 = .ok (.lload 5, 2) := dk_22 5 (dk_at dksX0_lay_4 8 rfl rfl)
theorem dX0_lay_103 : decode cX0_lay 103 = .ok (.aload_n 0, 1) := dk_42 (dk_at dksX0_lay_4 10 rfl rfl)
theorem dX0_lay_104 : decode cX0_lay 104 = .ok (.getfield 26, 3) := dk_180 0 26 (dk_at dksX0_lay_4 11 rfl rfl)
theorem dX0_lay_107 : decode cX0_lay 107 = .ok (.iload 13, 2) := dk_21 13 (dk_at dksX0_lay_4 14 rfl rfl)
theorem dX0_lay_109 : decode cX0_lay 109 = .ok (.laload, 1) := dk_47 (dk_at dksX0_lay_4 16 rfl rfl)
theorem dX0_lay_110 : decode cX0_lay 110 = .ok (.ladd, 1) := dk_97 (dk_at dksX0_lay_4 17 rfl rfl)
theorem dX0_lay_111 : decode cX0_lay 111 = .ok (.lstore 5, 2) := dk_55 5 (dk_at dksX0_lay_4 18 rfl rfl)
theorem dX0_lay_113 : decode cX0_lay 113 = .ok (.lload 7, 2) := dk_22 7 (dk_at dksX0_lay_4 20 rfl rfl)
theorem dX0_lay_115 : decode cX0_lay 115 = .ok (.aload_n 0, 1) := dk_42 (dk_at dksX0_lay_4 22 rfl rfl)
theorem dX0_lay_116 : decode cX0_lay 116 = .ok (.getfield 30, 3) := dk_180 0 30 (dk_at dksX0_lay_5 0 rfl rfl)
theorem dX0_lay_119 : decode cX0_lay 119 = .ok (.iload 13, 2) := dk_21 13 (dk_at dksX0_lay_5 3 rfl rfl)
theorem dX0_lay_121 : decode cX0_lay 121 = .ok (.laload, 1) := dk_47 (dk_at dksX0_lay_5 5 rfl rfl)
theorem dX0_lay_122 : decode cX0_lay 122 = .ok (.ladd, 1) := dk_97 (dk_at dksX0_lay_5 6 rfl rfl)
theorem dX0_lay_123 : decode cX0_lay 123 = .ok (.lstore 7, 2) := dk_55 7 (dk_at dksX0_lay_5 7 rfl rfl)
theorem dX0_lay_125 : decode cX0_lay 125 = .ok (.iload 9, 2) := dk_21 9 (dk_at dksX0_lay_5 9 rfl rfl)
theorem dX0_lay_127 : decode cX0_lay 127 = .ok (.aload_n 0, 1) := dk_42 (dk_at dksX0_lay_5 11 rfl rfl)
theorem dX0_lay_128 : decode cX0_lay 128 = .ok (.getfield 33, 3) := dk_180 0 33 (dk_at dksX0_lay_5 12 rfl rfl)
theorem dX0_lay_131 : decode cX0_lay 131 = .ok (.iload 13, 2) := dk_21 13 (dk_at dksX0_lay_5 15 rfl rfl)
theorem dX0_lay_133 : decode cX0_lay 133 = .ok (.iaload, 1) := dk_46 (dk_at dksX0_lay_5 17 rfl rfl)
theorem dX0_lay_134 : decode cX0_lay 134 = .ok (.iconst 1, 1) := dk_4 (dk_at dksX0_lay_5 18 rfl rfl)
theorem dX0_lay_135 : decode cX0_lay 135 = .ok (.iadd, 1) := dk_96 (dk_at dksX0_lay_5 19 rfl rfl)
theorem dX0_lay_136 : decode cX0_lay 136 = .ok (.invokestatic 176, 3) := dk_184 0 176 (dk_at dksX0_lay_5 20 rfl rfl)
theorem dX0_lay_139 : decode cX0_lay 139 = .ok (.istore 9, 2) := dk_54 9 (dk_at dksX0_lay_6 0 rfl rfl)
theorem dX0_lay_141 : decode cX0_lay 141 = .ok (.aload_n 0, 1) := dk_42 (dk_at dksX0_lay_6 2 rfl rfl)
theorem dX0_lay_142 : decode cX0_lay 142 = .ok (.getfield 36, 3) := dk_180 0 36 (dk_at dksX0_lay_6 3 rfl rfl)
theorem dX0_lay_145 : decode cX0_lay 145 = .ok (.iload 13, 2) := dk_21 13 (dk_at dksX0_lay_6 6 rfl rfl)
theorem dX0_lay_147 : decode cX0_lay 147 = .ok (.iaload, 1) := dk_46 (dk_at dksX0_lay_6 8 rfl rfl)
theorem dX0_lay_148 : decode cX0_lay 148 = .ok (.ifCond .ge 8, 3) := dk_156 0 8 (dk_at dksX0_lay_6 9 rfl rfl)
theorem dX0_lay_151 : decode cX0_lay 151 = .ok (.iload 10, 2) := dk_21 10 (dk_at dksX0_lay_6 12 rfl rfl)
theorem dX0_lay_153 : decode cX0_lay 153 = .ok (.goto 17, 3) := dk_167 0 17 (dk_at dksX0_lay_6 14 rfl rfl)
theorem dX0_lay_156 : decode cX0_lay 156 = .ok (.iload 10, 2) := dk_21 10 (dk_at dksX0_lay_6 17 rfl rfl)
theorem dX0_lay_158 : decode cX0_lay 158 = .ok (.aload_n 0, 1) := dk_42 (dk_at dksX0_lay_6 19 rfl rfl)
theorem dX0_lay_159 : decode cX0_lay 159 = .ok (.getfield 36, 3) := dk_180 0 36 (dk_at dksX0_lay_6 20 rfl rfl)
theorem dX0_lay_162 : decode cX0_lay 162 = .ok (.iload 13, 2) := dk_21 13 (dk_at dksX0_lay_7 0 rfl rfl)
theorem dX0_lay_164 : decode cX0_lay 164 = .ok (.iaload, 1) := dk_46 (dk_at dksX0_lay_7 2 rfl rfl)
theorem dX0_lay_165 : decode cX0_lay 165 = .ok (.iconst 1, 1) := dk_4 (dk_at dksX0_lay_7 3 rfl rfl)
theorem dX0_lay_166 : decode cX0_lay 166 = .ok (.iadd, 1) := dk_96 (dk_at dksX0_lay_7 4 rfl rfl)
theorem dX0_lay_167 : decode cX0_lay 167 = .ok (.invokestatic 181, 3) := dk_184 0 181 (dk_at dksX0_lay_7 5 rfl rfl)
theorem dX0_lay_170 : decode cX0_lay 170 = .ok (.istore 10, 2) := dk_54 10 (dk_at dksX0_lay_7 8 rfl rfl)
theorem dX0_lay_172 : decode cX0_lay 172 = .ok (.iinc 12 1, 3) := dk_132 12 1 (dk_at dksX0_lay_7 10 rfl rfl)
theorem dX0_lay_175 : decode cX0_lay 175 = .ok (.goto (-120), 3) := dk_167 255 136 (dk_at dksX0_lay_7 13 rfl rfl)
theorem dX0_lay_178 : decode cX0_lay 178 = .ok (.iinc 11 1, 3) := dk_132 11 1 (dk_at dksX0_lay_7 16 rfl rfl)
theorem dX0_lay_181 : decode cX0_lay 181 = .ok (.goto (-138), 3) := dk_167 255 118 (dk_at dksX0_lay_7 19 rfl rfl)
theorem dX0_lay_184 : decode cX0_lay 184 = .ok (.lload 5, 2) := dk_22 5 (dk_at dksX0_lay_7 22 rfl rfl)
theorem dX0_lay_186 : decode cX0_lay 186 = .ok (.lconst 0, 1) := dk_9 (dk_at dksX0_lay_8 0 rfl rfl)
theorem dX0_lay_187 : decode cX0_lay 187 = .ok (.lcmp, 1) := dk_148 (dk_at dksX0_lay_8 1 rfl rfl)
theorem dX0_lay_188 : decode cX0_lay 188 = .ok (.ifCond .ne 7, 3) := dk_154 0 7 (dk_at dksX0_lay_8 2 rfl rfl)
theorem dX0_lay_191 : decode cX0_lay 191 = .ok (.iconst 1, 1) := dk_4 (dk_at dksX0_lay_8 5 rfl rfl)
theorem dX0_lay_192 : decode cX0_lay 192 = .ok (.goto 4, 3) := dk_167 0 4 (dk_at dksX0_lay_8 6 rfl rfl)
theorem dX0_lay_195 : decode cX0_lay 195 = .ok (.iconst 0, 1) := dk_3 (dk_at dksX0_lay_8 9 rfl rfl)
theorem dX0_lay_196 : decode cX0_lay 196 = .ok (.istore 11, 2) := dk_54 11 (dk_at dksX0_lay_8 10 rfl rfl)
theorem dX0_lay_198 : decode cX0_lay 198 = .ok (.iload 11, 2) := dk_21 11 (dk_at dksX0_lay_8 12 rfl rfl)
theorem dX0_lay_200 : decode cX0_lay 200 = .ok (.ifCond .eq 15, 3) := dk_153 0 15 (dk_at dksX0_lay_8 14 rfl rfl)
theorem dX0_lay_203 : decode cX0_lay 203 = .ok (.aload_n 0, 1) := dk_42 (dk_at dksX0_lay_8 17 rfl rfl)
theorem dX0_lay_204 : decode cX0_lay 204 = .ok (.iload_n 2, 1) := dk_28 (dk_at dksX0_lay_8 18 rfl rfl)
theorem dX0_lay_205 : decode cX0_lay 205 = .ok (.invokevirtual 184, 3) := dk_182 0 184 (dk_at dksX0_lay_8 19 rfl rfl)
theorem dX0_lay_208 : decode cX0_lay 208 = .ok (.ifCond .eq 7, 3) := dk_153 0 7 (dk_at dksX0_lay_9 0 rfl rfl)
theorem dX0_lay_211 : decode cX0_lay 211 = .ok (.iconst 1, 1) := dk_4 (dk_at dksX0_lay_9 3 rfl rfl)
theorem dX0_lay_212 : decode cX0_lay 212 = .ok (.goto 4, 3) := dk_167 0 4 (dk_at dksX0_lay_9 4 rfl rfl)
theorem dX0_lay_215 : decode cX0_lay 215 = .ok (.iconst 0, 1) := dk_3 (dk_at dksX0_lay_9 7 rfl rfl)
theorem dX0_lay_216 : decode cX0_lay 216 = .ok (.istore 12, 2) := dk_54 12 (dk_at dksX0_lay_9 8 rfl rfl)
theorem dX0_lay_218 : decode cX0_lay 218 = .ok (.aload_n 0, 1) := dk_42 (dk_at dksX0_lay_9 10 rfl rfl)
theorem dX0_lay_219 : decode cX0_lay 219 = .ok (.getfield 23, 3) := dk_180 0 23 (dk_at dksX0_lay_9 11 rfl rfl)
theorem dX0_lay_222 : decode cX0_lay 222 = .ok (.iload 4, 2) := dk_21 4 (dk_at dksX0_lay_9 14 rfl rfl)
theorem dX0_lay_224 : decode cX0_lay 224 = .ok (.aload_n 0, 1) := dk_42 (dk_at dksX0_lay_9 16 rfl rfl)
theorem dX0_lay_225 : decode cX0_lay 225 = .ok (.getfield 167, 3) := dk_180 0 167 (dk_at dksX0_lay_9 17 rfl rfl)
theorem dX0_lay_228 : decode cX0_lay 228 = .ok (.iastore, 1) := dk_79 (dk_at dksX0_lay_9 20 rfl rfl)
theorem dX0_lay_229 : decode cX0_lay 229 = .ok (.aload_n 0, 1) := dk_42 (dk_at dksX0_lay_9 21 rfl rfl)
theorem dX0_lay_230 : decode cX0_lay 230 = .ok (.getfield 26, 3) := dk_180 0 26 (dk_at dksX0_lay_10 0 rfl rfl)
theorem dX0_lay_233 : decode cX0_lay 233 = .ok (.iload 4, 2) := dk_21 4 (dk_at dksX0_lay_10 3 rfl rfl)
theorem dX0_lay_235 : decode cX0_lay 235 = .ok (.iload 11, 2) := dk_21 11 (dk_at dksX0_lay_10 5 rfl rfl)
theorem dX0_lay_237 : decode cX0_lay 237 = .ok (.ifCond .eq 7, 3) := dk_153 0 7 (dk_at dksX0_lay_10 7 rfl rfl)
theorem dX0_lay_240 : decode cX0_lay 240 = .ok (.lconst 1, 1) := dk_10 (dk_at dksX0_lay_10 10 rfl rfl)
theorem dX0_lay_241 : decode cX0_lay 241 = .ok (.goto 5, 3) := dk_167 0 5 (dk_at dksX0_lay_10 11 rfl rfl)
theorem dX0_lay_244 : decode cX0_lay 244 = .ok (.lload 5, 2) := dk_22 5 (dk_at dksX0_lay_10 14 rfl rfl)
theorem dX0_lay_246 : decode cX0_lay 246 = .ok (.lastore, 1) := dk_80 (dk_at dksX0_lay_10 16 rfl rfl)
theorem dX0_lay_247 : decode cX0_lay 247 = .ok (.aload_n 0, 1) := dk_42 (dk_at dksX0_lay_10 17 rfl rfl)
theorem dX0_lay_248 : decode cX0_lay 248 = .ok (.getfield 30, 3) := dk_180 0 30 (dk_at dksX0_lay_10 18 rfl rfl)
theorem dX0_lay_251 : decode cX0_lay 251 = .ok (.iload 4, 2) := dk_21 4 (dk_at dksX0_lay_10 21 rfl rfl)
theorem dX0_lay_253 : decode cX0_lay 253 = .ok (.iload 12, 2) := dk_21 12 (dk_at dksX0_lay_11 0 rfl rfl)
theorem dX0_lay_255 : decode cX0_lay 255 = .ok (.ifCond .eq 7, 3) := dk_153 0 7 (dk_at dksX0_lay_11 2 rfl rfl)
theorem dX0_lay_258 : decode cX0_lay 258 = .ok (.lconst 1, 1) := dk_10 (dk_at dksX0_lay_11 5 rfl rfl)
theorem dX0_lay_259 : decode cX0_lay 259 = .ok (.goto 5, 3) := dk_167 0 5 (dk_at dksX0_lay_11 6 rfl rfl)
theorem dX0_lay_262 : decode cX0_lay 262 = .ok (.lload 7, 2) := dk_22 7 (dk_at dksX0_lay_11 9 rfl rfl)
theorem dX0_lay_264 : decode cX0_lay 264 = .ok (.lastore, 1) := dk_80 (dk_at dksX0_lay_11 11 rfl rfl)
theorem dX0_lay_265 : decode cX0_lay 265 = .ok (.aload_n 0, 1) := dk_42 (dk_at dksX0_lay_11 12 rfl rfl)
theorem dX0_lay_266 : decode cX0_lay 266 = .ok (.getfield 33, 3) := dk_180 0 33 (dk_at dksX0_lay_11 13 rfl rfl)
theorem dX0_lay_269 : decode cX0_lay 269 = .ok (.iload 4, 2) := dk_21 4 (dk_at dksX0_lay_11 16 rfl rfl)
theorem dX0_lay_271 : decode cX0_lay 271 = .ok (.iload 12, 2) := dk_21 12 (dk_at dksX0_lay_11 18 rfl rfl)
theorem dX0_lay_273 : decode cX0_lay 273 = .ok (.ifCond .eq 7, 3) := dk_153 0 7 (dk_at dksX0_lay_11 20 rfl rfl)
theorem dX0_lay_276 : decode cX0_lay 276 = .ok (.iconst 0, 1) := dk_3 (dk_at dksX0_lay_11 23 rfl rfl)
theorem dX0_lay_277 : decode cX0_lay 277 = .ok (.goto 5, 3) := dk_167 0 5 (dk_at dksX0_lay_12 0 rfl rfl)
theorem dX0_lay_280 : decode cX0_lay 280 = .ok (.iload 9, 2) := dk_21 9 (dk_at dksX0_lay_12 3 rfl rfl)
theorem dX0_lay_282 : decode cX0_lay 282 = .ok (.iastore, 1) := dk_79 (dk_at dksX0_lay_12 5 rfl rfl)
theorem dX0_lay_283 : decode cX0_lay 283 = .ok (.aload_n 0, 1) := dk_42 (dk_at dksX0_lay_12 6 rfl rfl)
theorem dX0_lay_284 : decode cX0_lay 284 = .ok (.getfield 36, 3) := dk_180 0 36 (dk_at dksX0_lay_12 7 rfl rfl)
theorem dX0_lay_287 : decode cX0_lay 287 = .ok (.iload 4, 2) := dk_21 4 (dk_at dksX0_lay_12 10 rfl rfl)
theorem dX0_lay_289 : decode cX0_lay 289 = .ok (.iload 12, 2) := dk_21 12 (dk_at dksX0_lay_12 12 rfl rfl)
theorem dX0_lay_291 : decode cX0_lay 291 = .ok (.ifCond .eq 7, 3) := dk_153 0 7 (dk_at dksX0_lay_12 14 rfl rfl)
theorem dX0_lay_294 : decode cX0_lay 294 = .ok (.iconst 0, 1) := dk_3 (dk_at dksX0_lay_12 17 rfl rfl)
theorem dX0_lay_295 : decode cX0_lay 295 = .ok (.goto 5, 3) := dk_167 0 5 (dk_at dksX0_lay_12 18 rfl rfl)
theorem dX0_lay_298 : decode cX0_lay 298 = .ok (.iload 10, 2) := dk_21 10 (dk_at dksX0_lay_12 21 rfl rfl)
theorem dX0_lay_300 : decode cX0_lay 300 = .ok (.iastore, 1) := dk_79 (dk_at dksX0_lay_12 23 rfl rfl)
theorem dX0_lay_301 : decode cX0_lay 301 = .ok (.iload 4, 2) := dk_21 4 (dk_at dksX0_lay_13 0 rfl rfl)
theorem dX0_lay_303 : decode cX0_lay 303 = .ok (.ireturn, 1) := dk_172 (dk_at dksX0_lay_13 2 rfl rfl)
abbrev cX0_stateOf : ByteArray := prog_1_method_23_code
def yX0_stateOf : MethodName := ⟨RX0, "stateOf", "(III)I"⟩
def dkwX0_stateOf_2 : List UInt8 := [162, 0, 7, 3, 167, 0, 8, 28, 26, 184, 0, 154, 96, 172]
abbrev dktX0_stateOf_2 : List UInt8 := dkwX0_stateOf_2 ++ []
def dkwX0_stateOf_1 : List UInt8 := [29, 104, 27, 21, 4, 122, 4, 126, 96, 62, 132, 4, 1, 167, 255, 224, 16, 16, 29, 104, 26, 5]
abbrev dktX0_stateOf_1 : List UInt8 := dkwX0_stateOf_1 ++ dktX0_stateOf_2
def dkwX0_stateOf_0 : List UInt8 := [3, 62, 4, 54, 4, 21, 4, 16, 15, 162, 0, 31, 21, 4, 8, 112, 154, 0, 7, 29, 167, 0, 13, 5]
abbrev dktX0_stateOf_0 : List UInt8 := dkwX0_stateOf_0 ++ dktX0_stateOf_1
theorem dksX0_stateOf_0 : cX0_stateOf.data.toList.drop 0 = dktX0_stateOf_0 := by decide +kernel
theorem dksX0_stateOf_1 : cX0_stateOf.data.toList.drop 24 = dktX0_stateOf_1 := dk_seg dksX0_stateOf_0 24 rfl rfl
theorem dksX0_stateOf_2 : cX0_stateOf.data.toList.drop 46 = dktX0_stateOf_2 := dk_seg dksX0_stateOf_1 22 rfl rfl
theorem dX0_stateOf_0 : decode cX0_stateOf 0 = .ok (.iconst 0, 1) := dk_3 (dk_at dksX0_stateOf_0 0 rfl rfl)
theorem dX0_stateOf_1 : decode cX0_stateOf 1 = .ok (.istore_n 3, 1) := dk_62 (dk_at dksX0_stateOf_0 1 rfl rfl)
theorem dX0_stateOf_2 : decode cX0_stateOf 2 = .ok (.iconst 1, 1) := dk_4 (dk_at dksX0_stateOf_0 2 rfl rfl)
theorem dX0_stateOf_3 : decode cX0_stateOf 3 = .ok (.istore 4, 2) := dk_54 4 (dk_at dksX0_stateOf_0 3 rfl rfl)
theorem dX0_stateOf_5 : decode cX0_stateOf 5 = .ok (.iload 4, 2) := dk_21 4 (dk_at dksX0_stateOf_0 5 rfl rfl)
theorem dX0_stateOf_7 : decode cX0_stateOf 7 = .ok (.bipush 15, 2) := dk_16 15 (dk_at dksX0_stateOf_0 7 rfl rfl)
theorem dX0_stateOf_9 : decode cX0_stateOf 9 = .ok (.if_icmp .ge 31, 3) := dk_162 0 31 (dk_at dksX0_stateOf_0 9 rfl rfl)
theorem dX0_stateOf_12 : decode cX0_stateOf 12 = .ok (.iload 4, 2) := dk_21 4 (dk_at dksX0_stateOf_0 12 rfl rfl)
theorem dX0_stateOf_14 : decode cX0_stateOf 14 = .ok (.iconst 5, 1) := dk_8 (dk_at dksX0_stateOf_0 14 rfl rfl)
theorem dX0_stateOf_15 : decode cX0_stateOf 15 = .ok (.irem, 1) := dk_112 (dk_at dksX0_stateOf_0 15 rfl rfl)
theorem dX0_stateOf_16 : decode cX0_stateOf 16 = .ok (.ifCond .ne 7, 3) := dk_154 0 7 (dk_at dksX0_stateOf_0 16 rfl rfl)
theorem dX0_stateOf_19 : decode cX0_stateOf 19 = .ok (.iload_n 3, 1) := dk_29 (dk_at dksX0_stateOf_0 19 rfl rfl)
theorem dX0_stateOf_20 : decode cX0_stateOf 20 = .ok (.goto 13, 3) := dk_167 0 13 (dk_at dksX0_stateOf_0 20 rfl rfl)
theorem dX0_stateOf_23 : decode cX0_stateOf 23 = .ok (.iconst 2, 1) := dk_5 (dk_at dksX0_stateOf_0 23 rfl rfl)
theorem dX0_stateOf_24 : decode cX0_stateOf 24 = .ok (.iload_n 3, 1) := dk_29 (dk_at dksX0_stateOf_1 0 rfl rfl)
theorem dX0_stateOf_25 : decode cX0_stateOf 25 = .ok (.imul, 1) := dk_104 (dk_at dksX0_stateOf_1 1 rfl rfl)
theorem dX0_stateOf_26 : decode cX0_stateOf 26 = .ok (.iload_n 1, 1) := dk_27 (dk_at dksX0_stateOf_1 2 rfl rfl)
theorem dX0_stateOf_27 : decode cX0_stateOf 27 = .ok (.iload 4, 2) := dk_21 4 (dk_at dksX0_stateOf_1 3 rfl rfl)
theorem dX0_stateOf_29 : decode cX0_stateOf 29 = .ok (.ishr, 1) := dk_122 (dk_at dksX0_stateOf_1 5 rfl rfl)
theorem dX0_stateOf_30 : decode cX0_stateOf 30 = .ok (.iconst 1, 1) := dk_4 (dk_at dksX0_stateOf_1 6 rfl rfl)
theorem dX0_stateOf_31 : decode cX0_stateOf 31 = .ok (.iand, 1) := dk_126 (dk_at dksX0_stateOf_1 7 rfl rfl)
theorem dX0_stateOf_32 : decode cX0_stateOf 32 = .ok (.iadd, 1) := dk_96 (dk_at dksX0_stateOf_1 8 rfl rfl)
theorem dX0_stateOf_33 : decode cX0_stateOf 33 = .ok (.istore_n 3, 1) := dk_62 (dk_at dksX0_stateOf_1 9 rfl rfl)
theorem dX0_stateOf_34 : decode cX0_stateOf 34 = .ok (.iinc 4 1, 3) := dk_132 4 1 (dk_at dksX0_stateOf_1 10 rfl rfl)
theorem dX0_stateOf_37 : decode cX0_stateOf 37 = .ok (.goto (-32), 3) := dk_167 255 224 (dk_at dksX0_stateOf_1 13 rfl rfl)
theorem dX0_stateOf_40 : decode cX0_stateOf 40 = .ok (.bipush 16, 2) := dk_16 16 (dk_at dksX0_stateOf_1 16 rfl rfl)
theorem dX0_stateOf_42 : decode cX0_stateOf 42 = .ok (.iload_n 3, 1) := dk_29 (dk_at dksX0_stateOf_1 18 rfl rfl)
theorem dX0_stateOf_43 : decode cX0_stateOf 43 = .ok (.imul, 1) := dk_104 (dk_at dksX0_stateOf_1 19 rfl rfl)
theorem dX0_stateOf_44 : decode cX0_stateOf 44 = .ok (.iload_n 0, 1) := dk_26 (dk_at dksX0_stateOf_1 20 rfl rfl)
theorem dX0_stateOf_45 : decode cX0_stateOf 45 = .ok (.iconst 2, 1) := dk_5 (dk_at dksX0_stateOf_1 21 rfl rfl)
theorem dX0_stateOf_46 : decode cX0_stateOf 46 = .ok (.if_icmp .ge 7, 3) := dk_162 0 7 (dk_at dksX0_stateOf_2 0 rfl rfl)
theorem dX0_stateOf_49 : decode cX0_stateOf 49 = .ok (.iconst 0, 1) := dk_3 (dk_at dksX0_stateOf_2 3 rfl rfl)
theorem dX0_stateOf_50 : decode cX0_stateOf 50 = .ok (.goto 8, 3) := dk_167 0 8 (dk_at dksX0_stateOf_2 4 rfl rfl)
theorem dX0_stateOf_53 : decode cX0_stateOf 53 = .ok (.iload_n 2, 1) := dk_28 (dk_at dksX0_stateOf_2 7 rfl rfl)
theorem dX0_stateOf_54 : decode cX0_stateOf 54 = .ok (.iload_n 0, 1) := dk_26 (dk_at dksX0_stateOf_2 8 rfl rfl)
theorem dX0_stateOf_55 : decode cX0_stateOf 55 = .ok (.invokestatic 154, 3) := dk_184 0 154 (dk_at dksX0_stateOf_2 9 rfl rfl)
theorem dX0_stateOf_58 : decode cX0_stateOf 58 = .ok (.iadd, 1) := dk_96 (dk_at dksX0_stateOf_2 12 rfl rfl)
theorem dX0_stateOf_59 : decode cX0_stateOf 59 = .ok (.ireturn, 1) := dk_172 (dk_at dksX0_stateOf_2 13 rfl rfl)
abbrev cX0_areExperts : ByteArray := prog_1_method_10_code
def yX0_areExperts : MethodName := ⟨RX0, "areExperts", "(I)Z"⟩
def dkwX0_areExperts_1 : List UInt8 := [160, 0, 7, 4, 167, 0, 4, 3, 126, 61, 132, 3, 1, 167, 255, 225, 28, 172]
abbrev dktX0_areExperts_1 : List UInt8 := dkwX0_areExperts_1 ++ []
def dkwX0_areExperts_0 : List UInt8 := [4, 61, 3, 62, 29, 42, 180, 0, 45, 162, 0, 29, 28, 27, 29, 184, 0, 53, 42, 182, 0, 61]
abbrev dktX0_areExperts_0 : List UInt8 := dkwX0_areExperts_0 ++ dktX0_areExperts_1
theorem dksX0_areExperts_0 : cX0_areExperts.data.toList.drop 0 = dktX0_areExperts_0 := by decide +kernel
theorem dksX0_areExperts_1 : cX0_areExperts.data.toList.drop 22 = dktX0_areExperts_1 := dk_seg dksX0_areExperts_0 22 rfl rfl
theorem dX0_areExperts_0 : decode cX0_areExperts 0 = .ok (.iconst 1, 1) := dk_4 (dk_at dksX0_areExperts_0 0 rfl rfl)
theorem dX0_areExperts_1 : decode cX0_areExperts 1 = .ok (.istore_n 2, 1) := dk_61 (dk_at dksX0_areExperts_0 1 rfl rfl)
theorem dX0_areExperts_2 : decode cX0_areExperts 2 = .ok (.iconst 0, 1) := dk_3 (dk_at dksX0_areExperts_0 2 rfl rfl)
theorem dX0_areExperts_3 : decode cX0_areExperts 3 = .ok (.istore_n 3, 1) := dk_62 (dk_at dksX0_areExperts_0 3 rfl rfl)
theorem dX0_areExperts_4 : decode cX0_areExperts 4 = .ok (.iload_n 3, 1) := dk_29 (dk_at dksX0_areExperts_0 4 rfl rfl)
theorem dX0_areExperts_5 : decode cX0_areExperts 5 = .ok (.aload_n 0, 1) := dk_42 (dk_at dksX0_areExperts_0 5 rfl rfl)
theorem dX0_areExperts_6 : decode cX0_areExperts 6 = .ok (.getfield 45, 3) := dk_180 0 45 (dk_at dksX0_areExperts_0 6 rfl rfl)
theorem dX0_areExperts_9 : decode cX0_areExperts 9 = .ok (.if_icmp .ge 29, 3) := dk_162 0 29 (dk_at dksX0_areExperts_0 9 rfl rfl)
theorem dX0_areExperts_12 : decode cX0_areExperts 12 = .ok (.iload_n 2, 1) := dk_28 (dk_at dksX0_areExperts_0 12 rfl rfl)
theorem dX0_areExperts_13 : decode cX0_areExperts 13 = .ok (.iload_n 1, 1) := dk_27 (dk_at dksX0_areExperts_0 13 rfl rfl)
theorem dX0_areExperts_14 : decode cX0_areExperts 14 = .ok (.iload_n 3, 1) := dk_29 (dk_at dksX0_areExperts_0 14 rfl rfl)
theorem dX0_areExperts_15 : decode cX0_areExperts 15 = .ok (.invokestatic 53, 3) := dk_184 0 53 (dk_at dksX0_areExperts_0 15 rfl rfl)
theorem dX0_areExperts_18 : decode cX0_areExperts 18 = .ok (.aload_n 0, 1) := dk_42 (dk_at dksX0_areExperts_0 18 rfl rfl)
theorem dX0_areExperts_19 : decode cX0_areExperts 19 = .ok (.invokevirtual 61, 3) := dk_182 0 61 (dk_at dksX0_areExperts_0 19 rfl rfl)
theorem dX0_areExperts_22 : decode cX0_areExperts 22 = .ok (.if_icmp .ne 7, 3) := dk_160 0 7 (dk_at dksX0_areExperts_1 0 rfl rfl)
theorem dX0_areExperts_25 : decode cX0_areExperts 25 = .ok (.iconst 1, 1) := dk_4 (dk_at dksX0_areExperts_1 3 rfl rfl)
theorem dX0_areExperts_26 : decode cX0_areExperts 26 = .ok (.goto 4, 3) := dk_167 0 4 (dk_at dksX0_areExperts_1 4 rfl rfl)
theorem dX0_areExperts_29 : decode cX0_areExperts 29 = .ok (.iconst 0, 1) := dk_3 (dk_at dksX0_areExperts_1 7 rfl rfl)
theorem dX0_areExperts_30 : decode cX0_areExperts 30 = .ok (.iand, 1) := dk_126 (dk_at dksX0_areExperts_1 8 rfl rfl)
theorem dX0_areExperts_31 : decode cX0_areExperts 31 = .ok (.istore_n 2, 1) := dk_61 (dk_at dksX0_areExperts_1 9 rfl rfl)
theorem dX0_areExperts_32 : decode cX0_areExperts 32 = .ok (.iinc 3 1, 3) := dk_132 3 1 (dk_at dksX0_areExperts_1 10 rfl rfl)
theorem dX0_areExperts_35 : decode cX0_areExperts 35 = .ok (.goto (-31), 3) := dk_167 255 225 (dk_at dksX0_areExperts_1 13 rfl rfl)
theorem dX0_areExperts_38 : decode cX0_areExperts 38 = .ok (.iload_n 2, 1) := dk_28 (dk_at dksX0_areExperts_1 16 rfl rfl)
theorem dX0_areExperts_39 : decode cX0_areExperts 39 = .ok (.ireturn, 1) := dk_172 (dk_at dksX0_areExperts_1 17 rfl rfl)
abbrev cX0_verdict : ByteArray := prog_1_method_28_code
def yX0_verdict : MethodName := ⟨RX0, "verdict", "(I)I"⟩
def dkwX0_verdict_1 : List UInt8 := [182, 0, 189, 182, 0, 192, 172]
abbrev dktX0_verdict_1 : List UInt8 := dkwX0_verdict_1 ++ []
def dkwX0_verdict_0 : List UInt8 := [27, 184, 0, 157, 153, 0, 5, 2, 172, 42, 180, 0, 45, 154, 0, 8, 16, 253, 167, 0, 12, 42, 42, 27]
abbrev dktX0_verdict_0 : List UInt8 := dkwX0_verdict_0 ++ dktX0_verdict_1
theorem dksX0_verdict_0 : cX0_verdict.data.toList.drop 0 = dktX0_verdict_0 := by decide +kernel
theorem dksX0_verdict_1 : cX0_verdict.data.toList.drop 24 = dktX0_verdict_1 := dk_seg dksX0_verdict_0 24 rfl rfl
theorem dX0_verdict_0 : decode cX0_verdict 0 = .ok (.iload_n 1, 1) := dk_27 (dk_at dksX0_verdict_0 0 rfl rfl)
theorem dX0_verdict_1 : decode cX0_verdict 1 = .ok (.invokestatic 157, 3) := dk_184 0 157 (dk_at dksX0_verdict_0 1 rfl rfl)
theorem dX0_verdict_4 : decode cX0_verdict 4 = .ok (.ifCond .eq 5, 3) := dk_153 0 5 (dk_at dksX0_verdict_0 4 rfl rfl)
theorem dX0_verdict_7 : decode cX0_verdict 7 = .ok (.iconst (-1), 1) := dk_2 (dk_at dksX0_verdict_0 7 rfl rfl)
theorem dX0_verdict_8 : decode cX0_verdict 8 = .ok (.ireturn, 1) := dk_172 (dk_at dksX0_verdict_0 8 rfl rfl)
theorem dX0_verdict_9 : decode cX0_verdict 9 = .ok (.aload_n 0, 1) := dk_42 (dk_at dksX0_verdict_0 9 rfl rfl)
theorem dX0_verdict_10 : decode cX0_verdict 10 = .ok (.getfield 45, 3) := dk_180 0 45 (dk_at dksX0_verdict_0 10 rfl rfl)
theorem dX0_verdict_13 : decode cX0_verdict 13 = .ok (.ifCond .ne 8, 3) := dk_154 0 8 (dk_at dksX0_verdict_0 13 rfl rfl)
theorem dX0_verdict_16 : decode cX0_verdict 16 = .ok (.bipush (-3), 2) := dk_16 253 (dk_at dksX0_verdict_0 16 rfl rfl)
theorem dX0_verdict_18 : decode cX0_verdict 18 = .ok (.goto 12, 3) := dk_167 0 12 (dk_at dksX0_verdict_0 18 rfl rfl)
theorem dX0_verdict_21 : decode cX0_verdict 21 = .ok (.aload_n 0, 1) := dk_42 (dk_at dksX0_verdict_0 21 rfl rfl)
theorem dX0_verdict_22 : decode cX0_verdict 22 = .ok (.aload_n 0, 1) := dk_42 (dk_at dksX0_verdict_0 22 rfl rfl)
theorem dX0_verdict_23 : decode cX0_verdict 23 = .ok (.iload_n 1, 1) := dk_27 (dk_at dksX0_verdict_0 23 rfl rfl)
theorem dX0_verdict_24 : decode cX0_verdict 24 = .ok (.invokevirtual 189, 3) := dk_182 0 189 (dk_at dksX0_verdict_1 0 rfl rfl)
theorem dX0_verdict_27 : decode cX0_verdict 27 = .ok (.invokevirtual 192, 3) := dk_182 0 192 (dk_at dksX0_verdict_1 3 rfl rfl)
theorem dX0_verdict_30 : decode cX0_verdict 30 = .ok (.ireturn, 1) := dk_172 (dk_at dksX0_verdict_1 6 rfl rfl)
abbrev cX0_verdictAt : ByteArray := prog_1_method_26_code
def yX0_verdictAt : MethodName := ⟨RX0, "verdictAt", "(I)I"⟩
def dkwX0_verdictAt_1 : List UInt8 := [27, 47, 9, 148, 158, 0, 7, 4, 167, 0, 4, 3, 172]
abbrev dktX0_verdictAt_1 : List UInt8 := dkwX0_verdictAt_1 ++ []
def dkwX0_verdictAt_0 : List UInt8 := [42, 180, 0, 30, 27, 47, 42, 180, 0, 26, 27, 47, 148, 154, 0, 7, 5, 167, 0, 19, 42, 180, 0, 30]
abbrev dktX0_verdictAt_0 : List UInt8 := dkwX0_verdictAt_0 ++ dktX0_verdictAt_1
theorem dksX0_verdictAt_0 : cX0_verdictAt.data.toList.drop 0 = dktX0_verdictAt_0 := by decide +kernel
theorem dksX0_verdictAt_1 : cX0_verdictAt.data.toList.drop 24 = dktX0_verdictAt_1 := dk_seg dksX0_verdictAt_0 24 rfl rfl
theorem dX0_verdictAt_0 : decode cX0_verdictAt 0 = .ok (.aload_n 0, 1) := dk_42 (dk_at dksX0_verdictAt_0 0 rfl rfl)
theorem dX0_verdictAt_1 : decode cX0_verdictAt 1 = .ok (.getfield 30, 3) := dk_180 0 30 (dk_at dksX0_verdictAt_0 1 rfl rfl)
theorem dX0_verdictAt_4 : decode cX0_verdictAt 4 = .ok (.iload_n 1, 1) := dk_27 (dk_at dksX0_verdictAt_0 4 rfl rfl)
theorem dX0_verdictAt_5 : decode cX0_verdictAt 5 = .ok (.laload, 1) := dk_47 (dk_at dksX0_verdictAt_0 5 rfl rfl)
theorem dX0_verdictAt_6 : decode cX0_verdictAt 6 = .ok (.aload_n 0, 1) := dk_42 (dk_at dksX0_verdictAt_0 6 rfl rfl)
theorem dX0_verdictAt_7 : decode cX0_verdictAt 7 = .ok (.getfield 26, 3) := dk_180 0 26 (dk_at dksX0_verdictAt_0 7 rfl rfl)
theorem dX0_verdictAt_10 : decode cX0_verdictAt 10 = .ok (.iload_n 1, 1) := dk_27 (dk_at dksX0_verdictAt_0 10 rfl rfl)
theorem dX0_verdictAt_11 : decode cX0_verdictAt 11 = .ok (.laload, 1) := dk_47 (dk_at dksX0_verdictAt_0 11 rfl rfl)
theorem dX0_verdictAt_12 : decode cX0_verdictAt 12 = .ok (.lcmp, 1) := dk_148 (dk_at dksX0_verdictAt_0 12 rfl rfl)
theorem dX0_verdictAt_13 : decode cX0_verdictAt 13 = .ok (.ifCond .ne 7, 3) := dk_154 0 7 (dk_at dksX0_verdictAt_0 13 rfl rfl)
theorem dX0_verdictAt_16 : decode cX0_verdictAt 16 = .ok (.iconst 2, 1) := dk_5 (dk_at dksX0_verdictAt_0 16 rfl rfl)
theorem dX0_verdictAt_17 : decode cX0_verdictAt 17 = .ok (.goto 19, 3) := dk_167 0 19 (dk_at dksX0_verdictAt_0 17 rfl rfl)
theorem dX0_verdictAt_20 : decode cX0_verdictAt 20 = .ok (.aload_n 0, 1) := dk_42 (dk_at dksX0_verdictAt_0 20 rfl rfl)
theorem dX0_verdictAt_21 : decode cX0_verdictAt 21 = .ok (.getfield 30, 3) := dk_180 0 30 (dk_at dksX0_verdictAt_0 21 rfl rfl)
theorem dX0_verdictAt_24 : decode cX0_verdictAt 24 = .ok (.iload_n 1, 1) := dk_27 (dk_at dksX0_verdictAt_1 0 rfl rfl)
theorem dX0_verdictAt_25 : decode cX0_verdictAt 25 = .ok (.laload, 1) := dk_47 (dk_at dksX0_verdictAt_1 1 rfl rfl)
theorem dX0_verdictAt_26 : decode cX0_verdictAt 26 = .ok (.lconst 0, 1) := dk_9 (dk_at dksX0_verdictAt_1 2 rfl rfl)
theorem dX0_verdictAt_27 : decode cX0_verdictAt 27 = .ok (.lcmp, 1) := dk_148 (dk_at dksX0_verdictAt_1 3 rfl rfl)
theorem dX0_verdictAt_28 : decode cX0_verdictAt 28 = .ok (.ifCond .le 7, 3) := dk_158 0 7 (dk_at dksX0_verdictAt_1 4 rfl rfl)
theorem dX0_verdictAt_31 : decode cX0_verdictAt 31 = .ok (.iconst 1, 1) := dk_4 (dk_at dksX0_verdictAt_1 7 rfl rfl)
theorem dX0_verdictAt_32 : decode cX0_verdictAt 32 = .ok (.goto 4, 3) := dk_167 0 4 (dk_at dksX0_verdictAt_1 8 rfl rfl)
theorem dX0_verdictAt_35 : decode cX0_verdictAt 35 = .ok (.iconst 0, 1) := dk_3 (dk_at dksX0_verdictAt_1 11 rfl rfl)
theorem dX0_verdictAt_36 : decode cX0_verdictAt 36 = .ok (.ireturn, 1) := dk_172 (dk_at dksX0_verdictAt_1 12 rfl rfl)
abbrev cX0_calls : ByteArray := prog_1_method_29_code
def yX0_calls : MethodName := ⟨RX0, "calls", "(II)I"⟩
def dkwX0_calls_3 : List UInt8 := [180, 0, 36, 29, 46, 172]
abbrev dktX0_calls_3 : List UInt8 := dkwX0_calls_3 ++ []
def dkwX0_calls_2 : List UInt8 := [154, 0, 8, 16, 247, 167, 0, 22, 28, 154, 0, 12, 42, 180, 0, 33, 29, 46, 167, 0, 9, 42]
abbrev dktX0_calls_2 : List UInt8 := dkwX0_calls_2 ++ dktX0_calls_3
def dkwX0_calls_1 : List UInt8 := [180, 0, 45, 154, 0, 6, 16, 253, 172, 42, 27, 182, 0, 189, 62, 42, 180, 0, 30, 29, 47, 9, 148]
abbrev dktX0_calls_1 : List UInt8 := dkwX0_calls_1 ++ dktX0_calls_2
def dkwX0_calls_0 : List UInt8 := [27, 184, 0, 157, 153, 0, 5, 2, 172, 28, 133, 9, 10, 184, 0, 49, 154, 0, 6, 16, 254, 172, 42]
abbrev dktX0_calls_0 : List UInt8 := dkwX0_calls_0 ++ dktX0_calls_1
theorem dksX0_calls_0 : cX0_calls.data.toList.drop 0 = dktX0_calls_0 := by decide +kernel
theorem dksX0_calls_1 : cX0_calls.data.toList.drop 23 = dktX0_calls_1 := dk_seg dksX0_calls_0 23 rfl rfl
theorem dksX0_calls_2 : cX0_calls.data.toList.drop 46 = dktX0_calls_2 := dk_seg dksX0_calls_1 23 rfl rfl
theorem dksX0_calls_3 : cX0_calls.data.toList.drop 68 = dktX0_calls_3 := dk_seg dksX0_calls_2 22 rfl rfl
theorem dX0_calls_0 : decode cX0_calls 0 = .ok (.iload_n 1, 1) := dk_27 (dk_at dksX0_calls_0 0 rfl rfl)
theorem dX0_calls_1 : decode cX0_calls 1 = .ok (.invokestatic 157, 3) := dk_184 0 157 (dk_at dksX0_calls_0 1 rfl rfl)
theorem dX0_calls_4 : decode cX0_calls 4 = .ok (.ifCond .eq 5, 3) := dk_153 0 5 (dk_at dksX0_calls_0 4 rfl rfl)
theorem dX0_calls_7 : decode cX0_calls 7 = .ok (.iconst (-1), 1) := dk_2 (dk_at dksX0_calls_0 7 rfl rfl)
theorem dX0_calls_8 : decode cX0_calls 8 = .ok (.ireturn, 1) := dk_172 (dk_at dksX0_calls_0 8 rfl rfl)
theorem dX0_calls_9 : decode cX0_calls 9 = .ok (.iload_n 2, 1) := dk_28 (dk_at dksX0_calls_0 9 rfl rfl)
theorem dX0_calls_10 : decode cX0_calls 10 = .ok (.i2l, 1) := dk_133 (dk_at dksX0_calls_0 10 rfl rfl)
theorem dX0_calls_11 : decode cX0_calls 11 = .ok (.lconst 0, 1) := dk_9 (dk_at dksX0_calls_0 11 rfl rfl)
theorem dX0_calls_12 : decode cX0_calls 12 = .ok (.lconst 1, 1) := dk_10 (dk_at dksX0_calls_0 12 rfl rfl)
theorem dX0_calls_13 : decode cX0_calls 13 = .ok (.invokestatic 49, 3) := dk_184 0 49 (dk_at dksX0_calls_0 13 rfl rfl)
theorem dX0_calls_16 : decode cX0_calls 16 = .ok (.ifCond .ne 6, 3) := dk_154 0 6 (dk_at dksX0_calls_0 16 rfl rfl)
theorem dX0_calls_19 : decode cX0_calls 19 = .ok (.bipush (-2), 2) := dk_16 254 (dk_at dksX0_calls_0 19 rfl rfl)
theorem dX0_calls_21 : decode cX0_calls 21 = .ok (.ireturn, 1) := dk_172 (dk_at dksX0_calls_0 21 rfl rfl)
theorem dX0_calls_22 : decode cX0_calls 22 = .ok (.aload_n 0, 1) := dk_42 (dk_at dksX0_calls_0 22 rfl rfl)
theorem dX0_calls_23 : decode cX0_calls 23 = .ok (.getfield 45, 3) := dk_180 0 45 (dk_at dksX0_calls_1 0 rfl rfl)
theorem dX0_calls_26 : decode cX0_calls 26 = .ok (.ifCond .ne 6, 3) := dk_154 0 6 (dk_at dksX0_calls_1 3 rfl rfl)
theorem dX0_calls_29 : decode cX0_calls 29 = .ok (.bipush (-3), 2) := dk_16 253 (dk_at dksX0_calls_1 6 rfl rfl)
theorem dX0_calls_31 : decode cX0_calls 31 = .ok (.ireturn, 1) := dk_172 (dk_at dksX0_calls_1 8 rfl rfl)
theorem dX0_calls_32 : decode cX0_calls 32 = .ok (.aload_n 0, 1) := dk_42 (dk_at dksX0_calls_1 9 rfl rfl)
theorem dX0_calls_33 : decode cX0_calls 33 = .ok (.iload_n 1, 1) := dk_27 (dk_at dksX0_calls_1 10 rfl rfl)
theorem dX0_calls_34 : decode cX0_calls 34 = .ok (.invokevirtual 189, 3) := dk_182 0 189 (dk_at dksX0_calls_1 11 rfl rfl)
theorem dX0_calls_37 : decode cX0_calls 37 = .ok (.istore_n 3, 1) := dk_62 (dk_at dksX0_calls_1 14 rfl rfl)
theorem dX0_calls_38 : decode cX0_calls 38 = .ok (.aload_n 0, 1) := dk_42 (dk_at dksX0_calls_1 15 rfl rfl)
theorem dX0_calls_39 : decode cX0_calls 39 = .ok (.getfield 30, 3) := dk_180 0 30 (dk_at dksX0_calls_1 16 rfl rfl)
theorem dX0_calls_42 : decode cX0_calls 42 = .ok (.iload_n 3, 1) := dk_29 (dk_at dksX0_calls_1 19 rfl rfl)
theorem dX0_calls_43 : decode cX0_calls 43 = .ok (.laload, 1) := dk_47 (dk_at dksX0_calls_1 20 rfl rfl)
theorem dX0_calls_44 : decode cX0_calls 44 = .ok (.lconst 0, 1) := dk_9 (dk_at dksX0_calls_1 21 rfl rfl)
theorem dX0_calls_45 : decode cX0_calls 45 = .ok (.lcmp, 1) := dk_148 (dk_at dksX0_calls_1 22 rfl rfl)
theorem dX0_calls_46 : decode cX0_calls 46 = .ok (.ifCond .ne 8, 3) := dk_154 0 8 (dk_at dksX0_calls_2 0 rfl rfl)
theorem dX0_calls_49 : decode cX0_calls 49 = .ok (.bipush (-9), 2) := dk_16 247 (dk_at dksX0_calls_2 3 rfl rfl)
theorem dX0_calls_51 : decode cX0_calls 51 = .ok (.goto 22, 3) := dk_167 0 22 (dk_at dksX0_calls_2 5 rfl rfl)
theorem dX0_calls_54 : decode cX0_calls 54 = .ok (.iload_n 2, 1) := dk_28 (dk_at dksX0_calls_2 8 rfl rfl)
theorem dX0_calls_55 : decode cX0_calls 55 = .ok (.ifCond .ne 12, 3) := dk_154 0 12 (dk_at dksX0_calls_2 9 rfl rfl)
theorem dX0_calls_58 : decode cX0_calls 58 = .ok (.aload_n 0, 1) := dk_42 (dk_at dksX0_calls_2 12 rfl rfl)
theorem dX0_calls_59 : decode cX0_calls 59 = .ok (.getfield 33, 3) := dk_180 0 33 (dk_at dksX0_calls_2 13 rfl rfl)
theorem dX0_calls_62 : decode cX0_calls 62 = .ok (.iload_n 3, 1) := dk_29 (dk_at dksX0_calls_2 16 rfl rfl)
theorem dX0_calls_63 : decode cX0_calls 63 = .ok (.iaload, 1) := dk_46 (dk_at dksX0_calls_2 17 rfl rfl)
theorem dX0_calls_64 : decode cX0_calls 64 = .ok (.goto 9, 3) := dk_167 0 9 (dk_at dksX0_calls_2 18 rfl rfl)
theorem dX0_calls_67 : decode cX0_calls 67 = .ok (.aload_n 0, 1) := dk_42 (dk_at dksX0_calls_2 21 rfl rfl)
theorem dX0_calls_68 : decode cX0_calls 68 = .ok (.getfield 36, 3) := dk_180 0 36 (dk_at dksX0_calls_3 0 rfl rfl)
theorem dX0_calls_71 : decode cX0_calls 71 = .ok (.iload_n 3, 1) := dk_29 (dk_at dksX0_calls_3 3 rfl rfl)
theorem dX0_calls_72 : decode cX0_calls 72 = .ok (.iaload, 1) := dk_46 (dk_at dksX0_calls_3 4 rfl rfl)
theorem dX0_calls_73 : decode cX0_calls 73 = .ok (.ireturn, 1) := dk_172 (dk_at dksX0_calls_3 5 rfl rfl)
abbrev cX0_keeps : ByteArray := prog_1_method_30_code
def yX0_keeps : MethodName := ⟨RX0, "keeps", "(III)I"⟩
def dkwX0_keeps_3 : List UInt8 := [29, 184, 0, 170, 42, 182, 0, 99, 28, 29, 184, 0, 102, 182, 0, 173, 182, 0, 192, 172]
abbrev dktX0_keeps_3 : List UInt8 := dkwX0_keeps_3 ++ []
def dkwX0_keeps_2 : List UInt8 := [154, 0, 6, 16, 253, 172, 42, 89, 180, 0, 167, 4, 96, 181, 0, 167, 42, 42, 27, 42, 182, 0, 93, 28]
abbrev dktX0_keeps_2 : List UInt8 := dkwX0_keeps_2 ++ dktX0_keeps_3
def dkwX0_keeps_1 : List UInt8 := [172, 28, 29, 160, 0, 6, 16, 254, 172, 42, 27, 42, 182, 0, 93, 42, 182, 0, 99, 28, 29, 182, 0, 160]
abbrev dktX0_keeps_1 : List UInt8 := dkwX0_keeps_1 ++ dktX0_keeps_2
def dkwX0_keeps_0 : List UInt8 := [27, 184, 0, 157, 154, 0, 19, 42, 28, 182, 0, 89, 154, 0, 11, 42, 29, 182, 0, 89, 153, 0, 5, 2]
abbrev dktX0_keeps_0 : List UInt8 := dkwX0_keeps_0 ++ dktX0_keeps_1
theorem dksX0_keeps_0 : cX0_keeps.data.toList.drop 0 = dktX0_keeps_0 := by decide +kernel
theorem dksX0_keeps_1 : cX0_keeps.data.toList.drop 24 = dktX0_keeps_1 := dk_seg dksX0_keeps_0 24 rfl rfl
theorem dksX0_keeps_2 : cX0_keeps.data.toList.drop 48 = dktX0_keeps_2 := dk_seg dksX0_keeps_1 24 rfl rfl
theorem dksX0_keeps_3 : cX0_keeps.data.toList.drop 72 = dktX0_keeps_3 := dk_seg dksX0_keeps_2 24 rfl rfl
theorem dX0_keeps_0 : decode cX0_keeps 0 = .ok (.iload_n 1, 1) := dk_27 (dk_at dksX0_keeps_0 0 rfl rfl)
theorem dX0_keeps_1 : decode cX0_keeps 1 = .ok (.invokestatic 157, 3) := dk_184 0 157 (dk_at dksX0_keeps_0 1 rfl rfl)
theorem dX0_keeps_4 : decode cX0_keeps 4 = .ok (.ifCond .ne 19, 3) := dk_154 0 19 (dk_at dksX0_keeps_0 4 rfl rfl)
theorem dX0_keeps_7 : decode cX0_keeps 7 = .ok (.aload_n 0, 1) := dk_42 (dk_at dksX0_keeps_0 7 rfl rfl)
theorem dX0_keeps_8 : decode cX0_keeps 8 = .ok (.iload_n 2, 1) := dk_28 (dk_at dksX0_keeps_0 8 rfl rfl)
theorem dX0_keeps_9 : decode cX0_keeps 9 = .ok (.invokevirtual 89, 3) := dk_182 0 89 (dk_at dksX0_keeps_0 9 rfl rfl)
theorem dX0_keeps_12 : decode cX0_keeps 12 = .ok (.ifCond .ne 11, 3) := dk_154 0 11 (dk_at dksX0_keeps_0 12 rfl rfl)
theorem dX0_keeps_15 : decode cX0_keeps 15 = .ok (.aload_n 0, 1) := dk_42 (dk_at dksX0_keeps_0 15 rfl rfl)
theorem dX0_keeps_16 : decode cX0_keeps 16 = .ok (.iload_n 3, 1) := dk_29 (dk_at dksX0_keeps_0 16 rfl rfl)
theorem dX0_keeps_17 : decode cX0_keeps 17 = .ok (.invokevirtual 89, 3) := dk_182 0 89 (dk_at dksX0_keeps_0 17 rfl rfl)
theorem dX0_keeps_20 : decode cX0_keeps 20 = .ok (.ifCond .eq 5, 3) := dk_153 0 5 (dk_at dksX0_keeps_0 20 rfl rfl)
theorem dX0_keeps_23 : decode cX0_keeps 23 = .ok (.iconst (-1), 1) := dk_2 (dk_at dksX0_keeps_0 23 rfl rfl)
theorem dX0_keeps_24 : decode cX0_keeps 24 = .ok (.ireturn, 1) := dk_172 (dk_at dksX0_keeps_1 0 rfl rfl)
theorem dX0_keeps_25 : decode cX0_keeps 25 = .ok (.iload_n 2, 1) := dk_28 (dk_at dksX0_keeps_1 1 rfl rfl)
theorem dX0_keeps_26 : decode cX0_keeps 26 = .ok (.iload_n 3, 1) := dk_29 (dk_at dksX0_keeps_1 2 rfl rfl)
theorem dX0_keeps_27 : decode cX0_keeps 27 = .ok (.if_icmp .ne 6, 3) := dk_160 0 6 (dk_at dksX0_keeps_1 3 rfl rfl)
theorem dX0_keeps_30 : decode cX0_keeps 30 = .ok (.bipush (-2), 2) := dk_16 254 (dk_at dksX0_keeps_1 6 rfl rfl)
theorem dX0_keeps_32 : decode cX0_keeps 32 = .ok (.ireturn, 1) := dk_172 (dk_at dksX0_keeps_1 8 rfl rfl)
theorem dX0_keeps_33 : decode cX0_keeps 33 = .ok (.aload_n 0, 1) := dk_42 (dk_at dksX0_keeps_1 9 rfl rfl)
theorem dX0_keeps_34 : decode cX0_keeps 34 = .ok (.iload_n 1, 1) := dk_27 (dk_at dksX0_keeps_1 10 rfl rfl)
theorem dX0_keeps_35 : decode cX0_keeps 35 = .ok (.aload_n 0, 1) := dk_42 (dk_at dksX0_keeps_1 11 rfl rfl)
theorem dX0_keeps_36 : decode cX0_keeps 36 = .ok (.invokevirtual 93, 3) := dk_182 0 93 (dk_at dksX0_keeps_1 12 rfl rfl)
theorem dX0_keeps_39 : decode cX0_keeps 39 = .ok (.aload_n 0, 1) := dk_42 (dk_at dksX0_keeps_1 15 rfl rfl)
theorem dX0_keeps_40 : decode cX0_keeps 40 = .ok (.invokevirtual 99, 3) := dk_182 0 99 (dk_at dksX0_keeps_1 16 rfl rfl)
theorem dX0_keeps_43 : decode cX0_keeps 43 = .ok (.iload_n 2, 1) := dk_28 (dk_at dksX0_keeps_1 19 rfl rfl)
theorem dX0_keeps_44 : decode cX0_keeps 44 = .ok (.iload_n 3, 1) := dk_29 (dk_at dksX0_keeps_1 20 rfl rfl)
theorem dX0_keeps_45 : decode cX0_keeps 45 = .ok (.invokevirtual 160, 3) := dk_182 0 160 (dk_at dksX0_keeps_1 21 rfl rfl)
theorem dX0_keeps_48 : decode cX0_keeps 48 = .ok (.ifCond .ne 6, 3) := dk_154 0 6 (dk_at dksX0_keeps_2 0 rfl rfl)
theorem dX0_keeps_51 : decode cX0_keeps 51 = .ok (.bipush (-3), 2) := dk_16 253 (dk_at dksX0_keeps_2 3 rfl rfl)
theorem dX0_keeps_53 : decode cX0_keeps 53 = .ok (.ireturn, 1) := dk_172 (dk_at dksX0_keeps_2 5 rfl rfl)
theorem dX0_keeps_54 : decode cX0_keeps 54 = .ok (.aload_n 0, 1) := dk_42 (dk_at dksX0_keeps_2 6 rfl rfl)
theorem dX0_keeps_55 : decode cX0_keeps 55 = .ok (.dup, 1) := dk_89 (dk_at dksX0_keeps_2 7 rfl rfl)
theorem dX0_keeps_56 : decode cX0_keeps 56 = .ok (.getfield 167, 3) := dk_180 0 167 (dk_at dksX0_keeps_2 8 rfl rfl)
theorem dX0_keeps_59 : decode cX0_keeps 59 = .ok (.iconst 1, 1) := dk_4 (dk_at dksX0_keeps_2 11 rfl rfl)
theorem dX0_keeps_60 : decode cX0_keeps 60 = .ok (.iadd, 1) := dk_96 (dk_at dksX0_keeps_2 12 rfl rfl)
theorem dX0_keeps_61 : decode cX0_keeps 61 = .ok (.putfield 167, 3) := dk_181 0 167 (dk_at dksX0_keeps_2 13 rfl rfl)
theorem dX0_keeps_64 : decode cX0_keeps 64 = .ok (.aload_n 0, 1) := dk_42 (dk_at dksX0_keeps_2 16 rfl rfl)
theorem dX0_keeps_65 : decode cX0_keeps 65 = .ok (.aload_n 0, 1) := dk_42 (dk_at dksX0_keeps_2 17 rfl rfl)
theorem dX0_keeps_66 : decode cX0_keeps 66 = .ok (.iload_n 1, 1) := dk_27 (dk_at dksX0_keeps_2 18 rfl rfl)
theorem dX0_keeps_67 : decode cX0_keeps 67 = .ok (.aload_n 0, 1) := dk_42 (dk_at dksX0_keeps_2 19 rfl rfl)
theorem dX0_keeps_68 : decode cX0_keeps 68 = .ok (.invokevirtual 93, 3) := dk_182 0 93 (dk_at dksX0_keeps_2 20 rfl rfl)
theorem dX0_keeps_71 : decode cX0_keeps 71 = .ok (.iload_n 2, 1) := dk_28 (dk_at dksX0_keeps_2 23 rfl rfl)
theorem dX0_keeps_72 : decode cX0_keeps 72 = .ok (.iload_n 3, 1) := dk_29 (dk_at dksX0_keeps_3 0 rfl rfl)
theorem dX0_keeps_73 : decode cX0_keeps 73 = .ok (.invokestatic 170, 3) := dk_184 0 170 (dk_at dksX0_keeps_3 1 rfl rfl)
theorem dX0_keeps_76 : decode cX0_keeps 76 = .ok (.aload_n 0, 1) := dk_42 (dk_at dksX0_keeps_3 4 rfl rfl)
theorem dX0_keeps_77 : decode cX0_keeps 77 = .ok (.invokevirtual 99, 3) := dk_182 0 99 (dk_at dksX0_keeps_3 5 rfl rfl)
theorem dX0_keeps_80 : decode cX0_keeps 80 = .ok (.iload_n 2, 1) := dk_28 (dk_at dksX0_keeps_3 8 rfl rfl)
theorem dX0_keeps_81 : decode cX0_keeps 81 = .ok (.iload_n 3, 1) := dk_29 (dk_at dksX0_keeps_3 9 rfl rfl)
theorem dX0_keeps_82 : decode cX0_keeps 82 = .ok (.invokestatic 102, 3) := dk_184 0 102 (dk_at dksX0_keeps_3 10 rfl rfl)
theorem dX0_keeps_85 : decode cX0_keeps 85 = .ok (.invokevirtual 173, 3) := dk_182 0 173 (dk_at dksX0_keeps_3 13 rfl rfl)
theorem dX0_keeps_88 : decode cX0_keeps 88 = .ok (.invokevirtual 192, 3) := dk_182 0 192 (dk_at dksX0_keeps_3 16 rfl rfl)
theorem dX0_keeps_91 : decode cX0_keeps 91 = .ok (.ireturn, 1) := dk_172 (dk_at dksX0_keeps_3 19 rfl rfl)
abbrev cX0_best : ByteArray := prog_1_method_31_code
def yX0_best : MethodName := ⟨RX0, "best", "(II)I"⟩
def dkwX0_best_7 : List UInt8 := [16, 247, 172]
abbrev dktX0_best_7 : List UInt8 := dkwX0_best_7 ++ []
def dkwX0_best_6 : List UInt8 := [154, 0, 8, 21, 4, 167, 0, 5, 21, 5, 172, 132, 5, 1, 167, 255, 170, 132, 4, 1, 167, 255, 145]
abbrev dktX0_best_6 : List UInt8 := dkwX0_best_6 ++ dktX0_best_7
def dkwX0_best_5 : List UInt8 := [42, 182, 0, 99, 21, 4, 21, 5, 184, 0, 102, 182, 0, 173, 46, 4, 96, 29, 160, 0, 15, 28]
abbrev dktX0_best_5 : List UInt8 := dkwX0_best_5 ++ dktX0_best_6
def dkwX0_best_4 : List UInt8 := [54, 6, 21, 6, 153, 0, 53, 42, 180, 0, 33, 42, 27, 42, 182, 0, 93, 21, 4, 21, 5, 184, 0, 170]
abbrev dktX0_best_4 : List UInt8 := dkwX0_best_4 ++ dktX0_best_5
def dkwX0_best_3 : List UInt8 := [180, 0, 45, 162, 0, 83, 42, 27, 42, 182, 0, 93, 42, 182, 0, 99, 21, 4, 21, 5, 182, 0, 160]
abbrev dktX0_best_3 : List UInt8 := dkwX0_best_3 ++ dktX0_best_4
def dkwX0_best_2 : List UInt8 := [21, 4, 42, 180, 0, 45, 162, 0, 108, 29, 17, 3, 232, 162, 0, 101, 3, 54, 5, 21, 5, 42]
abbrev dktX0_best_2 : List UInt8 := dkwX0_best_2 ++ dktX0_best_3
def dkwX0_best_1 : List UInt8 := [180, 0, 45, 154, 0, 6, 16, 253, 172, 42, 180, 0, 33, 42, 27, 182, 0, 189, 46, 62, 3, 54, 4]
abbrev dktX0_best_1 : List UInt8 := dkwX0_best_1 ++ dktX0_best_2
def dkwX0_best_0 : List UInt8 := [27, 184, 0, 157, 153, 0, 5, 2, 172, 28, 133, 9, 10, 184, 0, 49, 154, 0, 6, 16, 254, 172, 42]
abbrev dktX0_best_0 : List UInt8 := dkwX0_best_0 ++ dktX0_best_1
theorem dksX0_best_0 : cX0_best.data.toList.drop 0 = dktX0_best_0 := by decide +kernel
theorem dksX0_best_1 : cX0_best.data.toList.drop 23 = dktX0_best_1 := dk_seg dksX0_best_0 23 rfl rfl
theorem dksX0_best_2 : cX0_best.data.toList.drop 46 = dktX0_best_2 := dk_seg dksX0_best_1 23 rfl rfl
theorem dksX0_best_3 : cX0_best.data.toList.drop 68 = dktX0_best_3 := dk_seg dksX0_best_2 22 rfl rfl
theorem dksX0_best_4 : cX0_best.data.toList.drop 91 = dktX0_best_4 := dk_seg dksX0_best_3 23 rfl rfl
theorem dksX0_best_5 : cX0_best.data.toList.drop 115 = dktX0_best_5 := dk_seg dksX0_best_4 24 rfl rfl
theorem dksX0_best_6 : cX0_best.data.toList.drop 137 = dktX0_best_6 := dk_seg dksX0_best_5 22 rfl rfl
theorem dksX0_best_7 : cX0_best.data.toList.drop 160 = dktX0_best_7 := dk_seg dksX0_best_6 23 rfl rfl
theorem dX0_best_0 : decode cX0_best 0 = .ok (.iload_n 1, 1) := dk_27 (dk_at dksX0_best_0 0 rfl rfl)
theorem dX0_best_1 : decode cX0_best 1 = .ok (.invokestatic 157, 3) := dk_184 0 157 (dk_at dksX0_best_0 1 rfl rfl)
theorem dX0_best_4 : decode cX0_best 4 = .ok (.ifCond .eq 5, 3) := dk_153 0 5 (dk_at dksX0_best_0 4 rfl rfl)
theorem dX0_best_7 : decode cX0_best 7 = .ok (.iconst (-1), 1) := dk_2 (dk_at dksX0_best_0 7 rfl rfl)
theorem dX0_best_8 : decode cX0_best 8 = .ok (.ireturn, 1) := dk_172 (dk_at dksX0_best_0 8 rfl rfl)
theorem dX0_best_9 : decode cX0_best 9 = .ok (.iload_n 2, 1) := dk_28 (dk_at dksX0_best_0 9 rfl rfl)
theorem dX0_best_10 : decode cX0_best 10 = .ok (.i2l, 1) := dk_133 (dk_at dksX0_best_0 10 rfl rfl)
theorem dX0_best_11 : decode cX0_best 11 = .ok (.lconst 0, 1) := dk_9 (dk_at dksX0_best_0 11 rfl rfl)
theorem dX0_best_12 : decode cX0_best 12 = .ok (.lconst 1, 1) := dk_10 (dk_at dksX0_best_0 12 rfl rfl)
theorem dX0_best_13 : decode cX0_best 13 = .ok (.invokestatic 49, 3) := dk_184 0 49 (dk_at dksX0_best_0 13 rfl rfl)
theorem dX0_best_16 : decode cX0_best 16 = .ok (.ifCond .ne 6, 3) := dk_154 0 6 (dk_at dksX0_best_0 16 rfl rfl)
theorem dX0_best_19 : decode cX0_best 19 = .ok (.bipush (-2), 2) := dk_16 254 (dk_at dksX0_best_0 19 rfl rfl)
theorem dX0_best_21 : decode cX0_best 21 = .ok (.ireturn, 1) := dk_172 (dk_at dksX0_best_0 21 rfl rfl)
theorem dX0_best_22 : decode cX0_best 22 = .ok (.aload_n 0, 1) := dk_42 (dk_at dksX0_best_0 22 rfl rfl)
theorem dX0_best_23 : decode cX0_best 23 = .ok (.getfield 45, 3) := dk_180 0 45 (dk_at dksX0_best_1 0 rfl rfl)
theorem dX0_best_26 : decode cX0_best 26 = .ok (.ifCond .ne 6, 3) := dk_154 0 6 (dk_at dksX0_best_1 3 rfl rfl)
theorem dX0_best_29 : decode cX0_best 29 = .ok (.bipush (-3), 2) := dk_16 253 (dk_at dksX0_best_1 6 rfl rfl)
theorem dX0_best_31 : decode cX0_best 31 = .ok (.ireturn, 1) := dk_172 (dk_at dksX0_best_1 8 rfl rfl)
theorem dX0_best_32 : decode cX0_best 32 = .ok (.aload_n 0, 1) := dk_42 (dk_at dksX0_best_1 9 rfl rfl)
theorem dX0_best_33 : decode cX0_best 33 = .ok (.getfield 33, 3) := dk_180 0 33 (dk_at dksX0_best_1 10 rfl rfl)
theorem dX0_best_36 : decode cX0_best 36 = .ok (.aload_n 0, 1) := dk_42 (dk_at dksX0_best_1 13 rfl rfl)
theorem dX0_best_37 : decode cX0_best 37 = .ok (.iload_n 1, 1) := dk_27 (dk_at dksX0_best_1 14 rfl rfl)
theorem dX0_best_38 : decode cX0_best 38 = .ok (.invokevirtual 189, 3) := dk_182 0 189 (dk_at dksX0_best_1 15 rfl rfl)
theorem dX0_best_41 : decode cX0_best 41 = .ok (.iaload, 1) := dk_46 (dk_at dksX0_best_1 18 rfl rfl)
theorem dX0_best_42 : decode cX0_best 42 = .ok (.istore_n 3, 1) := dk_62 (dk_at dksX0_best_1 19 rfl rfl)
theorem dX0_best_43 : decode cX0_best 43 = .ok (.iconst 0, 1) := dk_3 (dk_at dksX0_best_1 20 rfl rfl)
theorem dX0_best_44 : decode cX0_best 44 = .ok (.istore 4, 2) := dk_54 4 (dk_at dksX0_best_1 21 rfl rfl)
theorem dX0_best_46 : decode cX0_best 46 = .ok (.iload 4, 2) := dk_21 4 (dk_at dksX0_best_2 0 rfl rfl)
theorem dX0_best_48 : decode cX0_best 48 = .ok (.aload_n 0, 1) := dk_42 (dk_at dksX0_best_2 2 rfl rfl)
theorem dX0_best_49 : decode cX0_best 49 = .ok (.getfield 45, 3) := dk_180 0 45 (dk_at dksX0_best_2 3 rfl rfl)
theorem dX0_best_52 : decode cX0_best 52 = .ok (.if_icmp .ge 108, 3) := dk_162 0 108 (dk_at dksX0_best_2 6 rfl rfl)
theorem dX0_best_55 : decode cX0_best 55 = .ok (.iload_n 3, 1) := dk_29 (dk_at dksX0_best_2 9 rfl rfl)
theorem dX0_best_56 : decode cX0_best 56 = .ok (.sipush 1000, 3) := dk_17 3 232 (dk_at dksX0_best_2 10 rfl rfl)
theorem dX0_best_59 : decode cX0_best 59 = .ok (.if_icmp .ge 101, 3) := dk_162 0 101 (dk_at dksX0_best_2 13 rfl rfl)
theorem dX0_best_62 : decode cX0_best 62 = .ok (.iconst 0, 1) := dk_3 (dk_at dksX0_best_2 16 rfl rfl)
theorem dX0_best_63 : decode cX0_best 63 = .ok (.istore 5, 2) := dk_54 5 (dk_at dksX0_best_2 17 rfl rfl)
theorem dX0_best_65 : decode cX0_best 65 = .ok (.iload 5, 2) := dk_21 5 (dk_at dksX0_best_2 19 rfl rfl)
theorem dX0_best_67 : decode cX0_best 67 = .ok (.aload_n 0, 1) := dk_42 (dk_at dksX0_best_2 21 rfl rfl)
theorem dX0_best_68 : decode cX0_best 68 = .ok (.getfield 45, 3) := dk_180 0 45 (dk_at dksX0_best_3 0 rfl rfl)
theorem dX0_best_71 : decode cX0_best 71 = .ok (.if_icmp .ge 83, 3) := dk_162 0 83 (dk_at dksX0_best_3 3 rfl rfl)
theorem dX0_best_74 : decode cX0_best 74 = .ok (.aload_n 0, 1) := dk_42 (dk_at dksX0_best_3 6 rfl rfl)
theorem dX0_best_75 : decode cX0_best 75 = .ok (.iload_n 1, 1) := dk_27 (dk_at dksX0_best_3 7 rfl rfl)
theorem dX0_best_76 : decode cX0_best 76 = .ok (.aload_n 0, 1) := dk_42 (dk_at dksX0_best_3 8 rfl rfl)
theorem dX0_best_77 : decode cX0_best 77 = .ok (.invokevirtual 93, 3) := dk_182 0 93 (dk_at dksX0_best_3 9 rfl rfl)
theorem dX0_best_80 : decode cX0_best 80 = .ok (.aload_n 0, 1) := dk_42 (dk_at dksX0_best_3 12 rfl rfl)
theorem dX0_best_81 : decode cX0_best 81 = .ok (.invokevirtual 99, 3) := dk_182 0 99 (dk_at dksX0_best_3 13 rfl rfl)
theorem dX0_best_84 : decode cX0_best 84 = .ok (.iload 4, 2) := dk_21 4 (dk_at dksX0_best_3 16 rfl rfl)
theorem dX0_best_86 : decode cX0_best 86 = .ok (.iload 5, 2) := dk_21 5 (dk_at dksX0_best_3 18 rfl rfl)
theorem dX0_best_88 : decode cX0_best 88 = .ok (.invokevirtual 160, 3) := dk_182 0 160 (dk_at dksX0_best_3 20 rfl rfl)
theorem dX0_best_91 : decode cX0_best 91 = .ok (.istore 6, 2) := dk_54 6 (dk_at dksX0_best_4 0 rfl rfl)
theorem dX0_best_93 : decode cX0_best 93 = .ok (.iload 6, 2) := dk_21 6 (dk_at dksX0_best_4 2 rfl rfl)
theorem dX0_best_95 : decode cX0_best 95 = .ok (.ifCond .eq 53, 3) := dk_153 0 53 (dk_at dksX0_best_4 4 rfl rfl)
theorem dX0_best_98 : decode cX0_best 98 = .ok (.aload_n 0, 1) := dk_42 (dk_at dksX0_best_4 7 rfl rfl)
theorem dX0_best_99 : decode cX0_best 99 = .ok (.getfield 33, 3) := dk_180 0 33 (dk_at dksX0_best_4 8 rfl rfl)
theorem dX0_best_102 : decode cX0_best 102 = .ok (.aload_n 0, 1) := dk_42 (dk_at dksX0_best_4 11 rfl rfl)
theorem dX0_best_103 : decode cX0_best 103 = .ok (.iload_n 1, 1) := dk_27 (dk_at dksX0_best_4 12 rfl rfl)
theorem dX0_best_104 : decode cX0_best 104 = .ok (.aload_n 0, 1) := dk_42 (dk_at dksX0_best_4 13 rfl rfl)
theorem dX0_best_105 : decode cX0_best 105 = .ok (.invokevirtual 93, 3) := dk_182 0 93 (dk_at dksX0_best_4 14 rfl rfl)
theorem dX0_best_108 : decode cX0_best 108 = .ok (.iload 4, 2) := dk_21 4 (dk_at dksX0_best_4 17 rfl rfl)
theorem dX0_best_110 : decode cX0_best 110 = .ok (.iload 5, 2) := dk_21 5 (dk_at dksX0_best_4 19 rfl rfl)
theorem dX0_best_112 : decode cX0_best 112 = .ok (.invokestatic 170, 3) := dk_184 0 170 (dk_at dksX0_best_4 21 rfl rfl)
theorem dX0_best_115 : decode cX0_best 115 = .ok (.aload_n 0, 1) := dk_42 (dk_at dksX0_best_5 0 rfl rfl)
theorem dX0_best_116 : decode cX0_best 116 = .ok (.invokevirtual 99, 3) := dk_182 0 99 (dk_at dksX0_best_5 1 rfl rfl)
theorem dX0_best_119 : decode cX0_best 119 = .ok (.iload 4, 2) := dk_21 4 (dk_at dksX0_best_5 4 rfl rfl)
theorem dX0_best_121 : decode cX0_best 121 = .ok (.iload 5, 2) := dk_21 5 (dk_at dksX0_best_5 6 rfl rfl)
theorem dX0_best_123 : decode cX0_best 123 = .ok (.invokestatic 102, 3) := dk_184 0 102 (dk_at dksX0_best_5 8 rfl rfl)
theorem dX0_best_126 : decode cX0_best 126 = .ok (.invokevirtual 173, 3) := dk_182 0 173 (dk_at dksX0_best_5 11 rfl rfl)
theorem dX0_best_129 : decode cX0_best 129 = .ok (.iaload, 1) := dk_46 (dk_at dksX0_best_5 14 rfl rfl)
theorem dX0_best_130 : decode cX0_best 130 = .ok (.iconst 1, 1) := dk_4 (dk_at dksX0_best_5 15 rfl rfl)
theorem dX0_best_131 : decode cX0_best 131 = .ok (.iadd, 1) := dk_96 (dk_at dksX0_best_5 16 rfl rfl)
theorem dX0_best_132 : decode cX0_best 132 = .ok (.iload_n 3, 1) := dk_29 (dk_at dksX0_best_5 17 rfl rfl)
theorem dX0_best_133 : decode cX0_best 133 = .ok (.if_icmp .ne 15, 3) := dk_160 0 15 (dk_at dksX0_best_5 18 rfl rfl)
theorem dX0_best_136 : decode cX0_best 136 = .ok (.iload_n 2, 1) := dk_28 (dk_at dksX0_best_5 21 rfl rfl)
theorem dX0_best_137 : decode cX0_best 137 = .ok (.ifCond .ne 8, 3) := dk_154 0 8 (dk_at dksX0_best_6 0 rfl rfl)
theorem dX0_best_140 : decode cX0_best 140 = .ok (.iload 4, 2) := dk_21 4 (dk_at dksX0_best_6 3 rfl rfl)
theorem dX0_best_142 : decode cX0_best 142 = .ok (.goto 5, 3) := dk_167 0 5 (dk_at dksX0_best_6 5 rfl rfl)
theorem dX0_best_145 : decode cX0_best 145 = .ok (.iload 5, 2) := dk_21 5 (dk_at dksX0_best_6 8 rfl rfl)
theorem dX0_best_147 : decode cX0_best 147 = .ok (.ireturn, 1) := dk_172 (dk_at dksX0_best_6 10 rfl rfl)
theorem dX0_best_148 : decode cX0_best 148 = .ok (.iinc 5 1, 3) := dk_132 5 1 (dk_at dksX0_best_6 11 rfl rfl)
theorem dX0_best_151 : decode cX0_best 151 = .ok (.goto (-86), 3) := dk_167 255 170 (dk_at dksX0_best_6 14 rfl rfl)
theorem dX0_best_154 : decode cX0_best 154 = .ok (.iinc 4 1, 3) := dk_132 4 1 (dk_at dksX0_best_6 17 rfl rfl)
theorem dX0_best_157 : decode cX0_best 157 = .ok (.goto (-111), 3) := dk_167 255 145 (dk_at dksX0_best_6 20 rfl rfl)
theorem dX0_best_160 : decode cX0_best 160 = .ok (.bipush (-9), 2) := dk_16 247 (dk_at dksX0_best_7 0 rfl rfl)
theorem dX0_best_162 : decode cX0_best 162 = .ok (.ireturn, 1) := dk_172 (dk_at dksX0_best_7 2 rfl rfl)
abbrev cX0_alike : ByteArray := prog_1_method_35_code
def yX0_alike : MethodName := ⟨RX0, "alike", "(I)I"⟩
def dkwX0_alike_1 : List UInt8 := [16, 253, 172, 42, 27, 182, 0, 220, 42, 180, 0, 201, 172]
abbrev dktX0_alike_1 : List UInt8 := dkwX0_alike_1 ++ []
def dkwX0_alike_0 : List UInt8 := [42, 27, 182, 0, 89, 153, 0, 5, 2, 172, 42, 180, 0, 18, 185, 0, 74, 1, 0, 7, 164, 0, 6]
abbrev dktX0_alike_0 : List UInt8 := dkwX0_alike_0 ++ dktX0_alike_1
theorem dksX0_alike_0 : cX0_alike.data.toList.drop 0 = dktX0_alike_0 := by decide +kernel
theorem dksX0_alike_1 : cX0_alike.data.toList.drop 23 = dktX0_alike_1 := dk_seg dksX0_alike_0 23 rfl rfl
theorem dX0_alike_0 : decode cX0_alike 0 = .ok (.aload_n 0, 1) := dk_42 (dk_at dksX0_alike_0 0 rfl rfl)
theorem dX0_alike_1 : decode cX0_alike 1 = .ok (.iload_n 1, 1) := dk_27 (dk_at dksX0_alike_0 1 rfl rfl)
theorem dX0_alike_2 : decode cX0_alike 2 = .ok (.invokevirtual 89, 3) := dk_182 0 89 (dk_at dksX0_alike_0 2 rfl rfl)
theorem dX0_alike_5 : decode cX0_alike 5 = .ok (.ifCond .eq 5, 3) := dk_153 0 5 (dk_at dksX0_alike_0 5 rfl rfl)
theorem dX0_alike_8 : decode cX0_alike 8 = .ok (.iconst (-1), 1) := dk_2 (dk_at dksX0_alike_0 8 rfl rfl)
theorem dX0_alike_9 : decode cX0_alike 9 = .ok (.ireturn, 1) := dk_172 (dk_at dksX0_alike_0 9 rfl rfl)
theorem dX0_alike_10 : decode cX0_alike 10 = .ok (.aload_n 0, 1) := dk_42 (dk_at dksX0_alike_0 10 rfl rfl)
theorem dX0_alike_11 : decode cX0_alike 11 = .ok (.getfield 18, 3) := dk_180 0 18 (dk_at dksX0_alike_0 11 rfl rfl)
theorem dX0_alike_14 : decode cX0_alike 14 = .ok (.invokeinterface 74 1, 5) := by decide +kernel
theorem dX0_alike_19 : decode cX0_alike 19 = .ok (.iconst 4, 1) := dk_7 (dk_at dksX0_alike_0 19 rfl rfl)
theorem dX0_alike_20 : decode cX0_alike 20 = .ok (.if_icmp .le 6, 3) := dk_164 0 6 (dk_at dksX0_alike_0 20 rfl rfl)
theorem dX0_alike_23 : decode cX0_alike 23 = .ok (.bipush (-3), 2) := dk_16 253 (dk_at dksX0_alike_1 0 rfl rfl)
theorem dX0_alike_25 : decode cX0_alike 25 = .ok (.ireturn, 1) := dk_172 (dk_at dksX0_alike_1 2 rfl rfl)
theorem dX0_alike_26 : decode cX0_alike 26 = .ok (.aload_n 0, 1) := dk_42 (dk_at dksX0_alike_1 3 rfl rfl)
theorem dX0_alike_27 : decode cX0_alike 27 = .ok (.iload_n 1, 1) := dk_27 (dk_at dksX0_alike_1 4 rfl rfl)
theorem dX0_alike_28 : decode cX0_alike 28 = .ok (.invokevirtual 220, 3) := dk_182 0 220 (dk_at dksX0_alike_1 5 rfl rfl)
theorem dX0_alike_31 : decode cX0_alike 31 = .ok (.aload_n 0, 1) := dk_42 (dk_at dksX0_alike_1 8 rfl rfl)
theorem dX0_alike_32 : decode cX0_alike 32 = .ok (.getfield 201, 3) := dk_180 0 201 (dk_at dksX0_alike_1 9 rfl rfl)
theorem dX0_alike_35 : decode cX0_alike 35 = .ok (.ireturn, 1) := dk_172 (dk_at dksX0_alike_1 12 rfl rfl)
abbrev cX0_layKnown : ByteArray := prog_1_method_34_code
def yX0_layKnown : MethodName := ⟨RX0, "layKnown", "(I)V"⟩
def dkwX0_layKnown_1 : List UInt8 := [182, 0, 215, 177]
abbrev dktX0_layKnown_1 : List UInt8 := dkwX0_layKnown_1 ++ []
def dkwX0_layKnown_0 : List UInt8 := [42, 3, 181, 0, 201, 42, 18, 219, 181, 0, 204, 42, 4, 181, 0, 207, 42, 27, 3, 42, 182, 0, 71]
abbrev dktX0_layKnown_0 : List UInt8 := dkwX0_layKnown_0 ++ dktX0_layKnown_1
theorem dksX0_layKnown_0 : cX0_layKnown.data.toList.drop 0 = dktX0_layKnown_0 := by decide +kernel
theorem dksX0_layKnown_1 : cX0_layKnown.data.toList.drop 23 = dktX0_layKnown_1 := dk_seg dksX0_layKnown_0 23 rfl rfl
theorem dX0_layKnown_0 : decode cX0_layKnown 0 = .ok (.aload_n 0, 1) := dk_42 (dk_at dksX0_layKnown_0 0 rfl rfl)
theorem dX0_layKnown_1 : decode cX0_layKnown 1 = .ok (.iconst 0, 1) := dk_3 (dk_at dksX0_layKnown_0 1 rfl rfl)
theorem dX0_layKnown_2 : decode cX0_layKnown 2 = .ok (.putfield 201, 3) := dk_181 0 201 (dk_at dksX0_layKnown_0 2 rfl rfl)
theorem dX0_layKnown_5 : decode cX0_layKnown 5 = .ok (.aload_n 0, 1) := dk_42 (dk_at dksX0_layKnown_0 5 rfl rfl)
theorem dX0_layKnown_6 : decode cX0_layKnown 6 = .ok (.ldc 219, 2) := dk_18 219 (dk_at dksX0_layKnown_0 6 rfl rfl)
theorem dX0_layKnown_8 : decode cX0_layKnown 8 = .ok (.putfield 204, 3) := dk_181 0 204 (dk_at dksX0_layKnown_0 8 rfl rfl)
theorem dX0_layKnown_11 : decode cX0_layKnown 11 = .ok (.aload_n 0, 1) := dk_42 (dk_at dksX0_layKnown_0 11 rfl rfl)
theorem dX0_layKnown_12 : decode cX0_layKnown 12 = .ok (.iconst 1, 1) := dk_4 (dk_at dksX0_layKnown_0 12 rfl rfl)
theorem dX0_layKnown_13 : decode cX0_layKnown 13 = .ok (.putfield 207, 3) := dk_181 0 207 (dk_at dksX0_layKnown_0 13 rfl rfl)
theorem dX0_layKnown_16 : decode cX0_layKnown 16 = .ok (.aload_n 0, 1) := dk_42 (dk_at dksX0_layKnown_0 16 rfl rfl)
theorem dX0_layKnown_17 : decode cX0_layKnown 17 = .ok (.iload_n 1, 1) := dk_27 (dk_at dksX0_layKnown_0 17 rfl rfl)
theorem dX0_layKnown_18 : decode cX0_layKnown 18 = .ok (.iconst 0, 1) := dk_3 (dk_at dksX0_layKnown_0 18 rfl rfl)
theorem dX0_layKnown_19 : decode cX0_layKnown 19 = .ok (.aload_n 0, 1) := dk_42 (dk_at dksX0_layKnown_0 19 rfl rfl)
theorem dX0_layKnown_20 : decode cX0_layKnown 20 = .ok (.invokevirtual 71, 3) := dk_182 0 71 (dk_at dksX0_layKnown_0 20 rfl rfl)
theorem dX0_layKnown_23 : decode cX0_layKnown 23 = .ok (.invokevirtual 215, 3) := dk_182 0 215 (dk_at dksX0_layKnown_1 0 rfl rfl)
theorem dX0_layKnown_26 : decode cX0_layKnown 26 = .ok (.return_, 1) := dk_177 (dk_at dksX0_layKnown_1 3 rfl rfl)
abbrev cX0_layAlike : ByteArray := prog_1_method_33_code
def yX0_layAlike : MethodName := ⟨RX0, "layAlike", "(III)V"⟩
def dkwX0_layAlike_6 : List UInt8 := [132, 5, 1, 167, 255, 175, 132, 4, 1, 167, 255, 157, 177]
abbrev dktX0_layAlike_6 : List UInt8 := dkwX0_layAlike_6 ++ []
def dkwX0_layAlike_5 : List UInt8 := [21, 4, 21, 5, 21, 6, 182, 0, 211, 153, 0, 13, 42, 27, 28, 4, 96, 21, 6, 182, 0, 215]
abbrev dktX0_layAlike_5 : List UInt8 := dkwX0_layAlike_5 ++ dktX0_layAlike_6
def dkwX0_layAlike_4 : List UInt8 := [21, 5, 184, 0, 57, 153, 0, 40, 42, 27, 42, 180, 0, 18, 28, 185, 0, 77, 2, 0, 192, 0, 81]
abbrev dktX0_layAlike_4 : List UInt8 := dkwX0_layAlike_4 ++ dktX0_layAlike_5
def dkwX0_layAlike_3 : List UInt8 := [29, 21, 4, 21, 5, 184, 0, 170, 54, 6, 21, 4, 21, 5, 159, 0, 55, 42, 29, 21, 4, 182, 0, 96]
abbrev dktX0_layAlike_3 : List UInt8 := dkwX0_layAlike_3 ++ dktX0_layAlike_4
def dkwX0_layAlike_2 : List UInt8 := [3, 54, 4, 21, 4, 42, 180, 0, 45, 162, 0, 96, 3, 54, 5, 21, 5, 42, 180, 0, 45, 162, 0, 78]
abbrev dktX0_layAlike_2 : List UInt8 := dkwX0_layAlike_2 ++ dktX0_layAlike_3
def dkwX0_layAlike_1 : List UInt8 := [89, 180, 0, 204, 29, 126, 181, 0, 204, 42, 89, 180, 0, 207, 42, 29, 182, 0, 184, 126, 181, 0, 207, 177]
abbrev dktX0_layAlike_1 : List UInt8 := dkwX0_layAlike_1 ++ dktX0_layAlike_2
def dkwX0_layAlike_0 : List UInt8 := [28, 42, 180, 0, 18, 185, 0, 74, 1, 0, 160, 0, 38, 42, 89, 180, 0, 201, 4, 96, 181, 0, 201, 42]
abbrev dktX0_layAlike_0 : List UInt8 := dkwX0_layAlike_0 ++ dktX0_layAlike_1
theorem dksX0_layAlike_0 : cX0_layAlike.data.toList.drop 0 = dktX0_layAlike_0 := by decide +kernel
theorem dksX0_layAlike_1 : cX0_layAlike.data.toList.drop 24 = dktX0_layAlike_1 := dk_seg dksX0_layAlike_0 24 rfl rfl
theorem dksX0_layAlike_2 : cX0_layAlike.data.toList.drop 48 = dktX0_layAlike_2 := dk_seg dksX0_layAlike_1 24 rfl rfl
theorem dksX0_layAlike_3 : cX0_layAlike.data.toList.drop 72 = dktX0_layAlike_3 := dk_seg dksX0_layAlike_2 24 rfl rfl
theorem dksX0_layAlike_4 : cX0_layAlike.data.toList.drop 96 = dktX0_layAlike_4 := dk_seg dksX0_layAlike_3 24 rfl rfl
theorem dksX0_layAlike_5 : cX0_layAlike.data.toList.drop 119 = dktX0_layAlike_5 := dk_seg dksX0_layAlike_4 23 rfl rfl
theorem dksX0_layAlike_6 : cX0_layAlike.data.toList.drop 141 = dktX0_layAlike_6 := dk_seg dksX0_layAlike_5 22 rfl rfl
theorem dX0_layAlike_0 : decode cX0_layAlike 0 = .ok (.iload_n 2, 1) := dk_28 (dk_at dksX0_layAlike_0 0 rfl rfl)
theorem dX0_layAlike_1 : decode cX0_layAlike 1 = .ok (.aload_n 0, 1) := dk_42 (dk_at dksX0_layAlike_0 1 rfl rfl)
theorem dX0_layAlike_2 : decode cX0_layAlike 2 = .ok (.getfield 18, 3) := dk_180 0 18 (dk_at dksX0_layAlike_0 2 rfl rfl)
theorem dX0_layAlike_5 : decode cX0_layAlike 5 = .ok (.invokeinterface 74 1, 5) := by decide +kernel
theorem dX0_layAlike_10 : decode cX0_layAlike 10 = .ok (.if_icmp .ne 38, 3) := dk_160 0 38 (dk_at dksX0_layAlike_0 10 rfl rfl)
theorem dX0_layAlike_13 : decode cX0_layAlike 13 = .ok (.aload_n 0, 1) := dk_42 (dk_at dksX0_layAlike_0 13 rfl rfl)
theorem dX0_layAlike_14 : decode cX0_layAlike 14 = .ok (.dup, 1) := dk_89 (dk_at dksX0_layAlike_0 14 rfl rfl)
theorem dX0_layAlike_15 : decode cX0_layAlike 15 = .ok (.getfield 201, 3) := dk_180 0 201 (dk_at dksX0_layAlike_0 15 rfl rfl)
theorem dX0_layAlike_18 : decode cX0_layAlike 18 = .ok (.iconst 1, 1) := dk_4 (dk_at dksX0_layAlike_0 18 rfl rfl)
theorem dX0_layAlike_19 : decode cX0_layAlike 19 = .ok (.iadd, 1) := dk_96 (dk_at dksX0_layAlike_0 19 rfl rfl)
theorem dX0_layAlike_20 : decode cX0_layAlike 20 = .ok (.putfield 201, 3) := dk_181 0 201 (dk_at dksX0_layAlike_0 20 rfl rfl)
theorem dX0_layAlike_23 : decode cX0_layAlike 23 = .ok (.aload_n 0, 1) := dk_42 (dk_at dksX0_layAlike_0 23 rfl rfl)
theorem dX0_layAlike_24 : decode cX0_layAlike 24 = .ok (.dup, 1) := dk_89 (dk_at dksX0_layAlike_1 0 rfl rfl)
theorem dX0_layAlike_25 : decode cX0_layAlike 25 = .ok (.getfield 204, 3) := dk_180 0 204 (dk_at dksX0_layAlike_1 1 rfl rfl)
theorem dX0_layAlike_28 : decode cX0_layAlike 28 = .ok (.iload_n 3, 1) := dk_29 (dk_at dksX0_layAlike_1 4 rfl rfl)
theorem dX0_layAlike_29 : decode cX0_layAlike 29 = .ok (.iand, 1) := dk_126 (dk_at dksX0_layAlike_1 5 rfl rfl)
theorem dX0_layAlike_30 : decode cX0_layAlike 30 = .ok (.putfield 204, 3) := dk_181 0 204 (dk_at dksX0_layAlike_1 6 rfl rfl)
theorem dX0_layAlike_33 : decode cX0_layAlike 33 = .ok (.aload_n 0, 1) := dk_42 (dk_at dksX0_layAlike_1 9 rfl rfl)
theorem dX0_layAlike_34 : decode cX0_layAlike 34 = .ok (.dup, 1) := dk_89 (dk_at dksX0_layAlike_1 10 rfl rfl)
theorem dX0_layAlike_35 : decode cX0_layAlike 35 = .ok (.getfield 207, 3) := dk_180 0 207 (dk_at dksX0_layAlike_1 11 rfl rfl)
theorem dX0_layAlike_38 : decode cX0_layAlike 38 = .ok (.aload_n 0, 1) := dk_42 (dk_at dksX0_layAlike_1 14 rfl rfl)
theorem dX0_layAlike_39 : decode cX0_layAlike 39 = .ok (.iload_n 3, 1) := dk_29 (dk_at dksX0_layAlike_1 15 rfl rfl)
theorem dX0_layAlike_40 : decode cX0_layAlike 40 = .ok (.invokevirtual 184, 3) := dk_182 0 184 (dk_at dksX0_layAlike_1 16 rfl rfl)
theorem dX0_layAlike_43 : decode cX0_layAlike 43 = .ok (.iand, 1) := dk_126 (dk_at dksX0_layAlike_1 19 rfl rfl)
theorem dX0_layAlike_44 : decode cX0_layAlike 44 = .ok (.putfield 207, 3) := dk_181 0 207 (dk_at dksX0_layAlike_1 20 rfl rfl)
theorem dX0_layAlike_47 : decode cX0_layAlike 47 = .ok (.return_, 1) := dk_177 (dk_at dksX0_layAlike_1 23 rfl rfl)
theorem dX0_layAlike_48 : decode cX0_layAlike 48 = .ok (.iconst 0, 1) := dk_3 (dk_at dksX0_layAlike_2 0 rfl rfl)
theorem dX0_layAlike_49 : decode cX0_layAlike 49 = .ok (.istore 4, 2) := dk_54 4 (dk_at dksX0_layAlike_2 1 rfl rfl)
theorem dX0_layAlike_51 : decode cX0_layAlike 51 = .ok (.iload 4, 2) := dk_21 4 (dk_at dksX0_layAlike_2 3 rfl rfl)
theorem dX0_layAlike_53 : decode cX0_layAlike 53 = .ok (.aload_n 0, 1) := dk_42 (dk_at dksX0_layAlike_2 5 rfl rfl)
theorem dX0_layAlike_54 : decode cX0_layAlike 54 = .ok (.getfield 45, 3) := dk_180 0 45 (dk_at dksX0_layAlike_2 6 rfl rfl)
theorem dX0_layAlike_57 : decode cX0_layAlike 57 = .ok (.if_icmp .ge 96, 3) := dk_162 0 96 (dk_at dksX0_layAlike_2 9 rfl rfl)
theorem dX0_layAlike_60 : decode cX0_layAlike 60 = .ok (.iconst 0, 1) := dk_3 (dk_at dksX0_layAlike_2 12 rfl rfl)
theorem dX0_layAlike_61 : decode cX0_layAlike 61 = .ok (.istore 5, 2) := dk_54 5 (dk_at dksX0_layAlike_2 13 rfl rfl)
theorem dX0_layAlike_63 : decode cX0_layAlike 63 = .ok (.iload 5, 2) := dk_21 5 (dk_at dksX0_layAlike_2 15 rfl rfl)
theorem dX0_layAlike_65 : decode cX0_layAlike 65 = .ok (.aload_n 0, 1) := dk_42 (dk_at dksX0_layAlike_2 17 rfl rfl)
theorem dX0_layAlike_66 : decode cX0_layAlike 66 = .ok (.getfield 45, 3) := dk_180 0 45 (dk_at dksX0_layAlike_2 18 rfl rfl)
theorem dX0_layAlike_69 : decode cX0_layAlike 69 = .ok (.if_icmp .ge 78, 3) := dk_162 0 78 (dk_at dksX0_layAlike_2 21 rfl rfl)
theorem dX0_layAlike_72 : decode cX0_layAlike 72 = .ok (.iload_n 3, 1) := dk_29 (dk_at dksX0_layAlike_3 0 rfl rfl)
theorem dX0_layAlike_73 : decode cX0_layAlike 73 = .ok (.iload 4, 2) := dk_21 4 (dk_at dksX0_layAlike_3 1 rfl rfl)
theorem dX0_layAlike_75 : decode cX0_layAlike 75 = .ok (.iload 5, 2) := dk_21 5 (dk_at dksX0_layAlike_3 3 rfl rfl)
theorem dX0_layAlike_77 : decode cX0_layAlike 77 = .ok (.invokestatic 170, 3) := dk_184 0 170 (dk_at dksX0_layAlike_3 5 rfl rfl)
theorem dX0_layAlike_80 : decode cX0_layAlike 80 = .ok (.istore 6, 2) := dk_54 6 (dk_at dksX0_layAlike_3 8 rfl rfl)
theorem dX0_layAlike_82 : decode cX0_layAlike 82 = .ok (.iload 4, 2) := dk_21 4 (dk_at dksX0_layAlike_3 10 rfl rfl)
theorem dX0_layAlike_84 : decode cX0_layAlike 84 = .ok (.iload 5, 2) := dk_21 5 (dk_at dksX0_layAlike_3 12 rfl rfl)
theorem dX0_layAlike_86 : decode cX0_layAlike 86 = .ok (.if_icmp .eq 55, 3) := dk_159 0 55 (dk_at dksX0_layAlike_3 14 rfl rfl)
theorem dX0_layAlike_89 : decode cX0_layAlike 89 = .ok (.aload_n 0, 1) := dk_42 (dk_at dksX0_layAlike_3 17 rfl rfl)
theorem dX0_layAlike_90 : decode cX0_layAlike 90 = .ok (.iload_n 3, 1) := dk_29 (dk_at dksX0_layAlike_3 18 rfl rfl)
theorem dX0_layAlike_91 : decode cX0_layAlike 91 = .ok (.iload 4, 2) := dk_21 4 (dk_at dksX0_layAlike_3 19 rfl rfl)
theorem dX0_layAlike_93 : decode cX0_layAlike 93 = .ok (.invokevirtual 96, 3) := dk_182 0 96 (dk_at dksX0_layAlike_3 21 rfl rfl)
theorem dX0_layAlike_96 : decode cX0_layAlike 96 = .ok (.iload 5, 2) := dk_21 5 (dk_at dksX0_layAlike_4 0 rfl rfl)
theorem dX0_layAlike_98 : decode cX0_layAlike 98 = .ok (.invokestatic 57, 3) := dk_184 0 57 (dk_at dksX0_layAlike_4 2 rfl rfl)
theorem dX0_layAlike_101 : decode cX0_layAlike 101 = .ok (.ifCond .eq 40, 3) := dk_153 0 40 (dk_at dksX0_layAlike_4 5 rfl rfl)
theorem dX0_layAlike_104 : decode cX0_layAlike 104 = .ok (.aload_n 0, 1) := dk_42 (dk_at dksX0_layAlike_4 8 rfl rfl)
theorem dX0_layAlike_105 : decode cX0_layAlike 105 = .ok (.iload_n 1, 1) := dk_27 (dk_at dksX0_layAlike_4 9 rfl rfl)
theorem dX0_layAlike_106 : decode cX0_layAlike 106 = .ok (.aload_n 0, 1) := dk_42 (dk_at dksX0_layAlike_4 10 rfl rfl)
theorem dX0_layAlike_107 : decode cX0_layAlike 107 = .ok (.getfield 18, 3) := dk_180 0 18 (dk_at dksX0_layAlike_4 11 rfl rfl)
theorem dX0_layAlike_110 : decode cX0_layAlike 110 = .ok (.iload_n 2, 1) := dk_28 (dk_at dksX0_layAlike_4 14 rfl rfl)
theorem dX0_layAlike_111 : decode cX0_layAlike 111 = .ok (.invokeinterface 77 2, 5) := by decide +kernel
theorem dX0_layAlike_116 : decode cX0_layAlike 116 = .ok (.checkcast 81, 3) := dk_192 0 81 (dk_at dksX0_layAlike_4 20 rfl rfl)
theorem dX0_layAlike_119 : decode cX0_layAlike 119 = .ok (.iload 4, 2) := dk_21 4 (dk_at dksX0_layAlike_5 0 rfl rfl)
theorem dX0_layAlike_121 : decode cX0_layAlike 121 = .ok (.iload 5, 2) := dk_21 5 (dk_at dksX0_layAlike_5 2 rfl rfl)
theorem dX0_layAlike_123 : decode cX0_layAlike 123 = .ok (.iload 6, 2) := dk_21 6 (dk_at dksX0_layAlike_5 4 rfl rfl)
theorem dX0_layAlike_125 : decode cX0_layAlike 125 = .ok (.invokevirtual 211, 3) := dk_182 0 211 (dk_at dksX0_layAlike_5 6 rfl rfl)
theorem dX0_layAlike_128 : decode cX0_layAlike 128 = .ok (.ifCond .eq 13, 3) := dk_153 0 13 (dk_at dksX0_layAlike_5 9 rfl rfl)
theorem dX0_layAlike_131 : decode cX0_layAlike 131 = .ok (.aload_n 0, 1) := dk_42 (dk_at dksX0_layAlike_5 12 rfl rfl)
theorem dX0_layAlike_132 : decode cX0_layAlike 132 = .ok (.iload_n 1, 1) := dk_27 (dk_at dksX0_layAlike_5 13 rfl rfl)
theorem dX0_layAlike_133 : decode cX0_layAlike 133 = .ok (.iload_n 2, 1) := dk_28 (dk_at dksX0_layAlike_5 14 rfl rfl)
theorem dX0_layAlike_134 : decode cX0_layAlike 134 = .ok (.iconst 1, 1) := dk_4 (dk_at dksX0_layAlike_5 15 rfl rfl)
theorem dX0_layAlike_135 : decode cX0_layAlike 135 = .ok (.iadd, 1) := dk_96 (dk_at dksX0_layAlike_5 16 rfl rfl)
theorem dX0_layAlike_136 : decode cX0_layAlike 136 = .ok (.iload 6, 2) := dk_21 6 (dk_at dksX0_layAlike_5 17 rfl rfl)
theorem dX0_layAlike_138 : decode cX0_layAlike 138 = .ok (.invokevirtual 215, 3) := dk_182 0 215 (dk_at dksX0_layAlike_5 19 rfl rfl)
theorem dX0_layAlike_141 : decode cX0_layAlike 141 = .ok (.iinc 5 1, 3) := dk_132 5 1 (dk_at dksX0_layAlike_6 0 rfl rfl)
theorem dX0_layAlike_144 : decode cX0_layAlike 144 = .ok (.goto (-81), 3) := dk_167 255 175 (dk_at dksX0_layAlike_6 3 rfl rfl)
theorem dX0_layAlike_147 : decode cX0_layAlike 147 = .ok (.iinc 4 1, 3) := dk_132 4 1 (dk_at dksX0_layAlike_6 6 rfl rfl)
theorem dX0_layAlike_150 : decode cX0_layAlike 150 = .ok (.goto (-99), 3) := dk_167 255 157 (dk_at dksX0_layAlike_6 9 rfl rfl)
theorem dX0_layAlike_153 : decode cX0_layAlike 153 = .ok (.return_, 1) := dk_177 (dk_at dksX0_layAlike_6 12 rfl rfl)
abbrev cX0_seesSame : ByteArray := prog_1_method_32_code
def yX0_seesSame : MethodName := ⟨RX0, "seesSame", "(ILCallRounds$Ring;III)Z"⟩
def dkwX0_seesSame_4 : List UInt8 := [3, 172]
abbrev dktX0_seesSame_4 : List UInt8 := dkwX0_seesSame_4 ++ []
def dkwX0_seesSame_3 : List UInt8 := [160, 0, 24, 21, 5, 27, 184, 0, 53, 44, 180, 0, 83, 27, 184, 0, 53, 160, 0, 7, 4, 167, 0, 4]
abbrev dktX0_seesSame_3 : List UInt8 := dkwX0_seesSame_3 ++ dktX0_seesSame_4
def dkwX0_seesSame_2 : List UInt8 := [160, 0, 46, 21, 6, 153, 0, 37, 29, 44, 180, 0, 195, 160, 0, 33, 21, 4, 44, 180, 0, 198]
abbrev dktX0_seesSame_2 : List UInt8 := dkwX0_seesSame_2 ++ dktX0_seesSame_3
def dkwX0_seesSame_1 : List UInt8 := [159, 0, 11, 44, 180, 0, 198, 27, 160, 0, 7, 4, 167, 0, 4, 3, 54, 7, 21, 6, 21, 7]
abbrev dktX0_seesSame_1 : List UInt8 := dkwX0_seesSame_1 ++ dktX0_seesSame_2
def dkwX0_seesSame_0 : List UInt8 := [29, 27, 159, 0, 9, 21, 4, 27, 160, 0, 7, 4, 167, 0, 4, 3, 54, 6, 44, 180, 0, 195, 27]
abbrev dktX0_seesSame_0 : List UInt8 := dkwX0_seesSame_0 ++ dktX0_seesSame_1
theorem dksX0_seesSame_0 : cX0_seesSame.data.toList.drop 0 = dktX0_seesSame_0 := by decide +kernel
theorem dksX0_seesSame_1 : cX0_seesSame.data.toList.drop 23 = dktX0_seesSame_1 := dk_seg dksX0_seesSame_0 23 rfl rfl
theorem dksX0_seesSame_2 : cX0_seesSame.data.toList.drop 45 = dktX0_seesSame_2 := dk_seg dksX0_seesSame_1 22 rfl rfl
theorem dksX0_seesSame_3 : cX0_seesSame.data.toList.drop 67 = dktX0_seesSame_3 := dk_seg dksX0_seesSame_2 22 rfl rfl
theorem dksX0_seesSame_4 : cX0_seesSame.data.toList.drop 91 = dktX0_seesSame_4 := dk_seg dksX0_seesSame_3 24 rfl rfl
theorem dX0_seesSame_0 : decode cX0_seesSame 0 = .ok (.iload_n 3, 1) := dk_29 (dk_at dksX0_seesSame_0 0 rfl rfl)
theorem dX0_seesSame_1 : decode cX0_seesSame 1 = .ok (.iload_n 1, 1) := dk_27 (dk_at dksX0_seesSame_0 1 rfl rfl)
theorem dX0_seesSame_2 : decode cX0_seesSame 2 = .ok (.if_icmp .eq 9, 3) := dk_159 0 9 (dk_at dksX0_seesSame_0 2 rfl rfl)
theorem dX0_seesSame_5 : decode cX0_seesSame 5 = .ok (.iload 4, 2) := dk_21 4 (dk_at dksX0_seesSame_0 5 rfl rfl)
theorem dX0_seesSame_7 : decode cX0_seesSame 7 = .ok (.iload_n 1, 1) := dk_27 (dk_at dksX0_seesSame_0 7 rfl rfl)
theorem dX0_seesSame_8 : decode cX0_seesSame 8 = .ok (.if_icmp .ne 7, 3) := dk_160 0 7 (dk_at dksX0_seesSame_0 8 rfl rfl)
theorem dX0_seesSame_11 : decode cX0_seesSame 11 = .ok (.iconst 1, 1) := dk_4 (dk_at dksX0_seesSame_0 11 rfl rfl)
theorem dX0_seesSame_12 : decode cX0_seesSame 12 = .ok (.goto 4, 3) := dk_167 0 4 (dk_at dksX0_seesSame_0 12 rfl rfl)
theorem dX0_seesSame_15 : decode cX0_seesSame 15 = .ok (.iconst 0, 1) := dk_3 (dk_at dksX0_seesSame_0 15 rfl rfl)
theorem dX0_seesSame_16 : decode cX0_seesSame 16 = .ok (.istore 6, 2) := dk_54 6 (dk_at dksX0_seesSame_0 16 rfl rfl)
theorem dX0_seesSame_18 : decode cX0_seesSame 18 = .ok (.aload_n 2, 1) := dk_44 (dk_at dksX0_seesSame_0 18 rfl rfl)
theorem dX0_seesSame_19 : decode cX0_seesSame 19 = .ok (.getfield 195, 3) := dk_180 0 195 (dk_at dksX0_seesSame_0 19 rfl rfl)
theorem dX0_seesSame_22 : decode cX0_seesSame 22 = .ok (.iload_n 1, 1) := dk_27 (dk_at dksX0_seesSame_0 22 rfl rfl)
theorem dX0_seesSame_23 : decode cX0_seesSame 23 = .ok (.if_icmp .eq 11, 3) := dk_159 0 11 (dk_at dksX0_seesSame_1 0 rfl rfl)
theorem dX0_seesSame_26 : decode cX0_seesSame 26 = .ok (.aload_n 2, 1) := dk_44 (dk_at dksX0_seesSame_1 3 rfl rfl)
theorem dX0_seesSame_27 : decode cX0_seesSame 27 = .ok (.getfield 198, 3) := dk_180 0 198 (dk_at dksX0_seesSame_1 4 rfl rfl)
theorem dX0_seesSame_30 : decode cX0_seesSame 30 = .ok (.iload_n 1, 1) := dk_27 (dk_at dksX0_seesSame_1 7 rfl rfl)
theorem dX0_seesSame_31 : decode cX0_seesSame 31 = .ok (.if_icmp .ne 7, 3) := dk_160 0 7 (dk_at dksX0_seesSame_1 8 rfl rfl)
theorem dX0_seesSame_34 : decode cX0_seesSame 34 = .ok (.iconst 1, 1) := dk_4 (dk_at dksX0_seesSame_1 11 rfl rfl)
theorem dX0_seesSame_35 : decode cX0_seesSame 35 = .ok (.goto 4, 3) := dk_167 0 4 (dk_at dksX0_seesSame_1 12 rfl rfl)
theorem dX0_seesSame_38 : decode cX0_seesSame 38 = .ok (.iconst 0, 1) := dk_3 (dk_at dksX0_seesSame_1 15 rfl rfl)
theorem dX0_seesSame_39 : decode cX0_seesSame 39 = .ok (.istore 7, 2) := dk_54 7 (dk_at dksX0_seesSame_1 16 rfl rfl)
theorem dX0_seesSame_41 : decode cX0_seesSame 41 = .ok (.iload 6, 2) := dk_21 6 (dk_at dksX0_seesSame_1 18 rfl rfl)
theorem dX0_seesSame_43 : decode cX0_seesSame 43 = .ok (.iload 7, 2) := dk_21 7 (dk_at dksX0_seesSame_1 20 rfl rfl)
theorem dX0_seesSame_45 : decode cX0_seesSame 45 = .ok (.if_icmp .ne 46, 3) := dk_160 0 46 (dk_at dksX0_seesSame_2 0 rfl rfl)
theorem dX0_seesSame_48 : decode cX0_seesSame 48 = .ok (.iload 6, 2) := dk_21 6 (dk_at dksX0_seesSame_2 3 rfl rfl)
theorem dX0_seesSame_50 : decode cX0_seesSame 50 = .ok (.ifCond .eq 37, 3) := dk_153 0 37 (dk_at dksX0_seesSame_2 5 rfl rfl)
theorem dX0_seesSame_53 : decode cX0_seesSame 53 = .ok (.iload_n 3, 1) := dk_29 (dk_at dksX0_seesSame_2 8 rfl rfl)
theorem dX0_seesSame_54 : decode cX0_seesSame 54 = .ok (.aload_n 2, 1) := dk_44 (dk_at dksX0_seesSame_2 9 rfl rfl)
theorem dX0_seesSame_55 : decode cX0_seesSame 55 = .ok (.getfield 195, 3) := dk_180 0 195 (dk_at dksX0_seesSame_2 10 rfl rfl)
theorem dX0_seesSame_58 : decode cX0_seesSame 58 = .ok (.if_icmp .ne 33, 3) := dk_160 0 33 (dk_at dksX0_seesSame_2 13 rfl rfl)
theorem dX0_seesSame_61 : decode cX0_seesSame 61 = .ok (.iload 4, 2) := dk_21 4 (dk_at dksX0_seesSame_2 16 rfl rfl)
theorem dX0_seesSame_63 : decode cX0_seesSame 63 = .ok (.aload_n 2, 1) := dk_44 (dk_at dksX0_seesSame_2 18 rfl rfl)
theorem dX0_seesSame_64 : decode cX0_seesSame 64 = .ok (.getfield 198, 3) := dk_180 0 198 (dk_at dksX0_seesSame_2 19 rfl rfl)
theorem dX0_seesSame_67 : decode cX0_seesSame 67 = .ok (.if_icmp .ne 24, 3) := dk_160 0 24 (dk_at dksX0_seesSame_3 0 rfl rfl)
theorem dX0_seesSame_70 : decode cX0_seesSame 70 = .ok (.iload 5, 2) := dk_21 5 (dk_at dksX0_seesSame_3 3 rfl rfl)
theorem dX0_seesSame_72 : decode cX0_seesSame 72 = .ok (.iload_n 1, 1) := dk_27 (dk_at dksX0_seesSame_3 5 rfl rfl)
theorem dX0_seesSame_73 : decode cX0_seesSame 73 = .ok (.invokestatic 53, 3) := dk_184 0 53 (dk_at dksX0_seesSame_3 6 rfl rfl)
theorem dX0_seesSame_76 : decode cX0_seesSame 76 = .ok (.aload_n 2, 1) := dk_44 (dk_at dksX0_seesSame_3 9 rfl rfl)
theorem dX0_seesSame_77 : decode cX0_seesSame 77 = .ok (.getfield 83, 3) := dk_180 0 83 (dk_at dksX0_seesSame_3 10 rfl rfl)
theorem dX0_seesSame_80 : decode cX0_seesSame 80 = .ok (.iload_n 1, 1) := dk_27 (dk_at dksX0_seesSame_3 13 rfl rfl)
theorem dX0_seesSame_81 : decode cX0_seesSame 81 = .ok (.invokestatic 53, 3) := dk_184 0 53 (dk_at dksX0_seesSame_3 14 rfl rfl)
theorem dX0_seesSame_84 : decode cX0_seesSame 84 = .ok (.if_icmp .ne 7, 3) := dk_160 0 7 (dk_at dksX0_seesSame_3 17 rfl rfl)
theorem dX0_seesSame_87 : decode cX0_seesSame 87 = .ok (.iconst 1, 1) := dk_4 (dk_at dksX0_seesSame_3 20 rfl rfl)
theorem dX0_seesSame_88 : decode cX0_seesSame 88 = .ok (.goto 4, 3) := dk_167 0 4 (dk_at dksX0_seesSame_3 21 rfl rfl)
theorem dX0_seesSame_91 : decode cX0_seesSame 91 = .ok (.iconst 0, 1) := dk_3 (dk_at dksX0_seesSame_4 0 rfl rfl)
theorem dX0_seesSame_92 : decode cX0_seesSame 92 = .ok (.ireturn, 1) := dk_172 (dk_at dksX0_seesSame_4 1 rfl rfl)
abbrev cX0_sure : ByteArray := prog_1_method_36_code
def yX0_sure : MethodName := ⟨RX0, "sure", "(III)I"⟩
def dkwX0_sure_2 : List UInt8 := [180, 0, 204, 28, 184, 0, 53, 29, 122, 4, 126, 172]
abbrev dktX0_sure_2 : List UInt8 := dkwX0_sure_2 ++ []
def dkwX0_sure_1 : List UInt8 := [2, 172, 42, 180, 0, 18, 185, 0, 74, 1, 0, 7, 164, 0, 6, 16, 253, 172, 42, 27, 182, 0, 220, 42]
abbrev dktX0_sure_1 : List UInt8 := dkwX0_sure_1 ++ dktX0_sure_2
def dkwX0_sure_0 : List UInt8 := [42, 27, 182, 0, 89, 154, 0, 19, 42, 28, 182, 0, 89, 154, 0, 11, 42, 29, 182, 0, 89, 153, 0, 5]
abbrev dktX0_sure_0 : List UInt8 := dkwX0_sure_0 ++ dktX0_sure_1
theorem dksX0_sure_0 : cX0_sure.data.toList.drop 0 = dktX0_sure_0 := by decide +kernel
theorem dksX0_sure_1 : cX0_sure.data.toList.drop 24 = dktX0_sure_1 := dk_seg dksX0_sure_0 24 rfl rfl
theorem dksX0_sure_2 : cX0_sure.data.toList.drop 48 = dktX0_sure_2 := dk_seg dksX0_sure_1 24 rfl rfl
theorem dX0_sure_0 : decode cX0_sure 0 = .ok (.aload_n 0, 1) := dk_42 (dk_at dksX0_sure_0 0 rfl rfl)
theorem dX0_sure_1 : decode cX0_sure 1 = .ok (.iload_n 1, 1) := dk_27 (dk_at dksX0_sure_0 1 rfl rfl)
theorem dX0_sure_2 : decode cX0_sure 2 = .ok (.invokevirtual 89, 3) := dk_182 0 89 (dk_at dksX0_sure_0 2 rfl rfl)
theorem dX0_sure_5 : decode cX0_sure 5 = .ok (.ifCond .ne 19, 3) := dk_154 0 19 (dk_at dksX0_sure_0 5 rfl rfl)
theorem dX0_sure_8 : decode cX0_sure 8 = .ok (.aload_n 0, 1) := dk_42 (dk_at dksX0_sure_0 8 rfl rfl)
theorem dX0_sure_9 : decode cX0_sure 9 = .ok (.iload_n 2, 1) := dk_28 (dk_at dksX0_sure_0 9 rfl rfl)
theorem dX0_sure_10 : decode cX0_sure 10 = .ok (.invokevirtual 89, 3) := dk_182 0 89 (dk_at dksX0_sure_0 10 rfl rfl)
theorem dX0_sure_13 : decode cX0_sure 13 = .ok (.ifCond .ne 11, 3) := dk_154 0 11 (dk_at dksX0_sure_0 13 rfl rfl)
theorem dX0_sure_16 : decode cX0_sure 16 = .ok (.aload_n 0, 1) := dk_42 (dk_at dksX0_sure_0 16 rfl rfl)
theorem dX0_sure_17 : decode cX0_sure 17 = .ok (.iload_n 3, 1) := dk_29 (dk_at dksX0_sure_0 17 rfl rfl)
theorem dX0_sure_18 : decode cX0_sure 18 = .ok (.invokevirtual 89, 3) := dk_182 0 89 (dk_at dksX0_sure_0 18 rfl rfl)
theorem dX0_sure_21 : decode cX0_sure 21 = .ok (.ifCond .eq 5, 3) := dk_153 0 5 (dk_at dksX0_sure_0 21 rfl rfl)
theorem dX0_sure_24 : decode cX0_sure 24 = .ok (.iconst (-1), 1) := dk_2 (dk_at dksX0_sure_1 0 rfl rfl)
theorem dX0_sure_25 : decode cX0_sure 25 = .ok (.ireturn, 1) := dk_172 (dk_at dksX0_sure_1 1 rfl rfl)
theorem dX0_sure_26 : decode cX0_sure 26 = .ok (.aload_n 0, 1) := dk_42 (dk_at dksX0_sure_1 2 rfl rfl)
theorem dX0_sure_27 : decode cX0_sure 27 = .ok (.getfield 18, 3) := dk_180 0 18 (dk_at dksX0_sure_1 3 rfl rfl)
theorem dX0_sure_30 : decode cX0_sure 30 = .ok (.invokeinterface 74 1, 5) := by decide +kernel
theorem dX0_sure_35 : decode cX0_sure 35 = .ok (.iconst 4, 1) := dk_7 (dk_at dksX0_sure_1 11 rfl rfl)
theorem dX0_sure_36 : decode cX0_sure 36 = .ok (.if_icmp .le 6, 3) := dk_164 0 6 (dk_at dksX0_sure_1 12 rfl rfl)
theorem dX0_sure_39 : decode cX0_sure 39 = .ok (.bipush (-3), 2) := dk_16 253 (dk_at dksX0_sure_1 15 rfl rfl)
theorem dX0_sure_41 : decode cX0_sure 41 = .ok (.ireturn, 1) := dk_172 (dk_at dksX0_sure_1 17 rfl rfl)
theorem dX0_sure_42 : decode cX0_sure 42 = .ok (.aload_n 0, 1) := dk_42 (dk_at dksX0_sure_1 18 rfl rfl)
theorem dX0_sure_43 : decode cX0_sure 43 = .ok (.iload_n 1, 1) := dk_27 (dk_at dksX0_sure_1 19 rfl rfl)
theorem dX0_sure_44 : decode cX0_sure 44 = .ok (.invokevirtual 220, 3) := dk_182 0 220 (dk_at dksX0_sure_1 20 rfl rfl)
theorem dX0_sure_47 : decode cX0_sure 47 = .ok (.aload_n 0, 1) := dk_42 (dk_at dksX0_sure_1 23 rfl rfl)
theorem dX0_sure_48 : decode cX0_sure 48 = .ok (.getfield 204, 3) := dk_180 0 204 (dk_at dksX0_sure_2 0 rfl rfl)
theorem dX0_sure_51 : decode cX0_sure 51 = .ok (.iload_n 2, 1) := dk_28 (dk_at dksX0_sure_2 3 rfl rfl)
theorem dX0_sure_52 : decode cX0_sure 52 = .ok (.invokestatic 53, 3) := dk_184 0 53 (dk_at dksX0_sure_2 4 rfl rfl)
theorem dX0_sure_55 : decode cX0_sure 55 = .ok (.iload_n 3, 1) := dk_29 (dk_at dksX0_sure_2 7 rfl rfl)
theorem dX0_sure_56 : decode cX0_sure 56 = .ok (.ishr, 1) := dk_122 (dk_at dksX0_sure_2 8 rfl rfl)
theorem dX0_sure_57 : decode cX0_sure 57 = .ok (.iconst 1, 1) := dk_4 (dk_at dksX0_sure_2 9 rfl rfl)
theorem dX0_sure_58 : decode cX0_sure 58 = .ok (.iand, 1) := dk_126 (dk_at dksX0_sure_2 10 rfl rfl)
theorem dX0_sure_59 : decode cX0_sure 59 = .ok (.ireturn, 1) := dk_172 (dk_at dksX0_sure_2 11 rfl rfl)
abbrev cX0_known : ByteArray := prog_1_method_37_code
def yX0_known : MethodName := ⟨RX0, "known", "(II)I"⟩
def dkwX0_known_2 : List UInt8 := [184, 0, 53, 172]
abbrev dktX0_known_2 : List UInt8 := dkwX0_known_2 ++ []
def dkwX0_known_1 : List UInt8 := [185, 0, 74, 1, 0, 7, 164, 0, 6, 16, 253, 172, 42, 27, 182, 0, 220, 42, 180, 0, 204, 28]
abbrev dktX0_known_1 : List UInt8 := dkwX0_known_1 ++ dktX0_known_2
def dkwX0_known_0 : List UInt8 := [42, 27, 182, 0, 89, 154, 0, 11, 42, 28, 182, 0, 89, 153, 0, 5, 2, 172, 42, 180, 0, 18]
abbrev dktX0_known_0 : List UInt8 := dkwX0_known_0 ++ dktX0_known_1
theorem dksX0_known_0 : cX0_known.data.toList.drop 0 = dktX0_known_0 := by decide +kernel
theorem dksX0_known_1 : cX0_known.data.toList.drop 22 = dktX0_known_1 := dk_seg dksX0_known_0 22 rfl rfl
theorem dksX0_known_2 : cX0_known.data.toList.drop 44 = dktX0_known_2 := dk_seg dksX0_known_1 22 rfl rfl
theorem dX0_known_0 : decode cX0_known 0 = .ok (.aload_n 0, 1) := dk_42 (dk_at dksX0_known_0 0 rfl rfl)
theorem dX0_known_1 : decode cX0_known 1 = .ok (.iload_n 1, 1) := dk_27 (dk_at dksX0_known_0 1 rfl rfl)
theorem dX0_known_2 : decode cX0_known 2 = .ok (.invokevirtual 89, 3) := dk_182 0 89 (dk_at dksX0_known_0 2 rfl rfl)
theorem dX0_known_5 : decode cX0_known 5 = .ok (.ifCond .ne 11, 3) := dk_154 0 11 (dk_at dksX0_known_0 5 rfl rfl)
theorem dX0_known_8 : decode cX0_known 8 = .ok (.aload_n 0, 1) := dk_42 (dk_at dksX0_known_0 8 rfl rfl)
theorem dX0_known_9 : decode cX0_known 9 = .ok (.iload_n 2, 1) := dk_28 (dk_at dksX0_known_0 9 rfl rfl)
theorem dX0_known_10 : decode cX0_known 10 = .ok (.invokevirtual 89, 3) := dk_182 0 89 (dk_at dksX0_known_0 10 rfl rfl)
theorem dX0_known_13 : decode cX0_known 13 = .ok (.ifCond .eq 5, 3) := dk_153 0 5 (dk_at dksX0_known_0 13 rfl rfl)
theorem dX0_known_16 : decode cX0_known 16 = .ok (.iconst (-1), 1) := dk_2 (dk_at dksX0_known_0 16 rfl rfl)
theorem dX0_known_17 : decode cX0_known 17 = .ok (.ireturn, 1) := dk_172 (dk_at dksX0_known_0 17 rfl rfl)
theorem dX0_known_18 : decode cX0_known 18 = .ok (.aload_n 0, 1) := dk_42 (dk_at dksX0_known_0 18 rfl rfl)
theorem dX0_known_19 : decode cX0_known 19 = .ok (.getfield 18, 3) := dk_180 0 18 (dk_at dksX0_known_0 19 rfl rfl)
theorem dX0_known_22 : decode cX0_known 22 = .ok (.invokeinterface 74 1, 5) := by decide +kernel
theorem dX0_known_27 : decode cX0_known 27 = .ok (.iconst 4, 1) := dk_7 (dk_at dksX0_known_1 5 rfl rfl)
theorem dX0_known_28 : decode cX0_known 28 = .ok (.if_icmp .le 6, 3) := dk_164 0 6 (dk_at dksX0_known_1 6 rfl rfl)
theorem dX0_known_31 : decode cX0_known 31 = .ok (.bipush (-3), 2) := dk_16 253 (dk_at dksX0_known_1 9 rfl rfl)
theorem dX0_known_33 : decode cX0_known 33 = .ok (.ireturn, 1) := dk_172 (dk_at dksX0_known_1 11 rfl rfl)
theorem dX0_known_34 : decode cX0_known 34 = .ok (.aload_n 0, 1) := dk_42 (dk_at dksX0_known_1 12 rfl rfl)
theorem dX0_known_35 : decode cX0_known 35 = .ok (.iload_n 1, 1) := dk_27 (dk_at dksX0_known_1 13 rfl rfl)
theorem dX0_known_36 : decode cX0_known 36 = .ok (.invokevirtual 220, 3) := dk_182 0 220 (dk_at dksX0_known_1 14 rfl rfl)
theorem dX0_known_39 : decode cX0_known 39 = .ok (.aload_n 0, 1) := dk_42 (dk_at dksX0_known_1 17 rfl rfl)
theorem dX0_known_40 : decode cX0_known 40 = .ok (.getfield 204, 3) := dk_180 0 204 (dk_at dksX0_known_1 18 rfl rfl)
theorem dX0_known_43 : decode cX0_known 43 = .ok (.iload_n 2, 1) := dk_28 (dk_at dksX0_known_1 21 rfl rfl)
theorem dX0_known_44 : decode cX0_known 44 = .ok (.invokestatic 53, 3) := dk_184 0 53 (dk_at dksX0_known_2 0 rfl rfl)
theorem dX0_known_47 : decode cX0_known 47 = .ok (.ireturn, 1) := dk_172 (dk_at dksX0_known_2 3 rfl rfl)
abbrev cX0_end : ByteArray := prog_1_method_38_code
def yX0_end : MethodName := ⟨RX0, "end", "(I)I"⟩
def dkwX0_end_1 : List UInt8 := [16, 253, 172, 42, 27, 182, 0, 220, 42, 180, 0, 207, 153, 0, 7, 4, 167, 0, 4, 3, 172]
abbrev dktX0_end_1 : List UInt8 := dkwX0_end_1 ++ []
def dkwX0_end_0 : List UInt8 := [42, 27, 182, 0, 89, 153, 0, 5, 2, 172, 42, 180, 0, 18, 185, 0, 74, 1, 0, 7, 164, 0, 6]
abbrev dktX0_end_0 : List UInt8 := dkwX0_end_0 ++ dktX0_end_1
theorem dksX0_end_0 : cX0_end.data.toList.drop 0 = dktX0_end_0 := by decide +kernel
theorem dksX0_end_1 : cX0_end.data.toList.drop 23 = dktX0_end_1 := dk_seg dksX0_end_0 23 rfl rfl
theorem dX0_end_0 : decode cX0_end 0 = .ok (.aload_n 0, 1) := dk_42 (dk_at dksX0_end_0 0 rfl rfl)
theorem dX0_end_1 : decode cX0_end 1 = .ok (.iload_n 1, 1) := dk_27 (dk_at dksX0_end_0 1 rfl rfl)
theorem dX0_end_2 : decode cX0_end 2 = .ok (.invokevirtual 89, 3) := dk_182 0 89 (dk_at dksX0_end_0 2 rfl rfl)
theorem dX0_end_5 : decode cX0_end 5 = .ok (.ifCond .eq 5, 3) := dk_153 0 5 (dk_at dksX0_end_0 5 rfl rfl)
theorem dX0_end_8 : decode cX0_end 8 = .ok (.iconst (-1), 1) := dk_2 (dk_at dksX0_end_0 8 rfl rfl)
theorem dX0_end_9 : decode cX0_end 9 = .ok (.ireturn, 1) := dk_172 (dk_at dksX0_end_0 9 rfl rfl)
theorem dX0_end_10 : decode cX0_end 10 = .ok (.aload_n 0, 1) := dk_42 (dk_at dksX0_end_0 10 rfl rfl)
theorem dX0_end_11 : decode cX0_end 11 = .ok (.getfield 18, 3) := dk_180 0 18 (dk_at dksX0_end_0 11 rfl rfl)
theorem dX0_end_14 : decode cX0_end 14 = .ok (.invokeinterface 74 1, 5) := by decide +kernel
theorem dX0_end_19 : decode cX0_end 19 = .ok (.iconst 4, 1) := dk_7 (dk_at dksX0_end_0 19 rfl rfl)
theorem dX0_end_20 : decode cX0_end 20 = .ok (.if_icmp .le 6, 3) := dk_164 0 6 (dk_at dksX0_end_0 20 rfl rfl)
theorem dX0_end_23 : decode cX0_end 23 = .ok (.bipush (-3), 2) := dk_16 253 (dk_at dksX0_end_1 0 rfl rfl)
theorem dX0_end_25 : decode cX0_end 25 = .ok (.ireturn, 1) := dk_172 (dk_at dksX0_end_1 2 rfl rfl)
theorem dX0_end_26 : decode cX0_end 26 = .ok (.aload_n 0, 1) := dk_42 (dk_at dksX0_end_1 3 rfl rfl)
theorem dX0_end_27 : decode cX0_end 27 = .ok (.iload_n 1, 1) := dk_27 (dk_at dksX0_end_1 4 rfl rfl)
theorem dX0_end_28 : decode cX0_end 28 = .ok (.invokevirtual 220, 3) := dk_182 0 220 (dk_at dksX0_end_1 5 rfl rfl)
theorem dX0_end_31 : decode cX0_end 31 = .ok (.aload_n 0, 1) := dk_42 (dk_at dksX0_end_1 8 rfl rfl)
theorem dX0_end_32 : decode cX0_end 32 = .ok (.getfield 207, 3) := dk_180 0 207 (dk_at dksX0_end_1 9 rfl rfl)
theorem dX0_end_35 : decode cX0_end 35 = .ok (.ifCond .eq 7, 3) := dk_153 0 7 (dk_at dksX0_end_1 12 rfl rfl)
theorem dX0_end_38 : decode cX0_end 38 = .ok (.iconst 1, 1) := dk_4 (dk_at dksX0_end_1 15 rfl rfl)
theorem dX0_end_39 : decode cX0_end 39 = .ok (.goto 4, 3) := dk_167 0 4 (dk_at dksX0_end_1 16 rfl rfl)
theorem dX0_end_42 : decode cX0_end 42 = .ok (.iconst 0, 1) := dk_3 (dk_at dksX0_end_1 19 rfl rfl)
theorem dX0_end_43 : decode cX0_end 43 = .ok (.ireturn, 1) := dk_172 (dk_at dksX0_end_1 20 rfl rfl)
abbrev cX0_joined : ByteArray := prog_1_method_41_code
def yX0_joined : MethodName := ⟨RX0, "joined", "()I"⟩
def dkwX0_joined_1 : List UInt8 := [172]
abbrev dktX0_joined_1 : List UInt8 := dkwX0_joined_1 ++ []
def dkwX0_joined_0 : List UInt8 := [42, 180, 0, 45, 154, 0, 8, 16, 253, 167, 0, 15, 42, 182, 0, 228, 153, 0, 7, 4, 167, 0, 4, 3]
abbrev dktX0_joined_0 : List UInt8 := dkwX0_joined_0 ++ dktX0_joined_1
theorem dksX0_joined_0 : cX0_joined.data.toList.drop 0 = dktX0_joined_0 := by decide +kernel
theorem dksX0_joined_1 : cX0_joined.data.toList.drop 24 = dktX0_joined_1 := dk_seg dksX0_joined_0 24 rfl rfl
theorem dX0_joined_0 : decode cX0_joined 0 = .ok (.aload_n 0, 1) := dk_42 (dk_at dksX0_joined_0 0 rfl rfl)
theorem dX0_joined_1 : decode cX0_joined 1 = .ok (.getfield 45, 3) := dk_180 0 45 (dk_at dksX0_joined_0 1 rfl rfl)
theorem dX0_joined_4 : decode cX0_joined 4 = .ok (.ifCond .ne 8, 3) := dk_154 0 8 (dk_at dksX0_joined_0 4 rfl rfl)
theorem dX0_joined_7 : decode cX0_joined 7 = .ok (.bipush (-3), 2) := dk_16 253 (dk_at dksX0_joined_0 7 rfl rfl)
theorem dX0_joined_9 : decode cX0_joined 9 = .ok (.goto 15, 3) := dk_167 0 15 (dk_at dksX0_joined_0 9 rfl rfl)
theorem dX0_joined_12 : decode cX0_joined 12 = .ok (.aload_n 0, 1) := dk_42 (dk_at dksX0_joined_0 12 rfl rfl)
theorem dX0_joined_13 : decode cX0_joined 13 = .ok (.invokevirtual 228, 3) := dk_182 0 228 (dk_at dksX0_joined_0 13 rfl rfl)
theorem dX0_joined_16 : decode cX0_joined 16 = .ok (.ifCond .eq 7, 3) := dk_153 0 7 (dk_at dksX0_joined_0 16 rfl rfl)
theorem dX0_joined_19 : decode cX0_joined 19 = .ok (.iconst 1, 1) := dk_4 (dk_at dksX0_joined_0 19 rfl rfl)
theorem dX0_joined_20 : decode cX0_joined 20 = .ok (.goto 4, 3) := dk_167 0 4 (dk_at dksX0_joined_0 20 rfl rfl)
theorem dX0_joined_23 : decode cX0_joined 23 = .ok (.iconst 0, 1) := dk_3 (dk_at dksX0_joined_0 23 rfl rfl)
theorem dX0_joined_24 : decode cX0_joined 24 = .ok (.ireturn, 1) := dk_172 (dk_at dksX0_joined_1 0 rfl rfl)
abbrev cX0_isJoined : ByteArray := prog_1_method_40_code
def yX0_isJoined : MethodName := ⟨RX0, "isJoined", "()Z"⟩
def dkwX0_isJoined_0 : List UInt8 := [42, 3, 4, 182, 0, 224, 42, 182, 0, 61, 160, 0, 7, 4, 167, 0, 4, 3, 172]
abbrev dktX0_isJoined_0 : List UInt8 := dkwX0_isJoined_0 ++ []
theorem dksX0_isJoined_0 : cX0_isJoined.data.toList.drop 0 = dktX0_isJoined_0 := by decide +kernel
theorem dX0_isJoined_0 : decode cX0_isJoined 0 = .ok (.aload_n 0, 1) := dk_42 (dk_at dksX0_isJoined_0 0 rfl rfl)
theorem dX0_isJoined_1 : decode cX0_isJoined 1 = .ok (.iconst 0, 1) := dk_3 (dk_at dksX0_isJoined_0 1 rfl rfl)
theorem dX0_isJoined_2 : decode cX0_isJoined 2 = .ok (.iconst 1, 1) := dk_4 (dk_at dksX0_isJoined_0 2 rfl rfl)
theorem dX0_isJoined_3 : decode cX0_isJoined 3 = .ok (.invokevirtual 224, 3) := dk_182 0 224 (dk_at dksX0_isJoined_0 3 rfl rfl)
theorem dX0_isJoined_6 : decode cX0_isJoined 6 = .ok (.aload_n 0, 1) := dk_42 (dk_at dksX0_isJoined_0 6 rfl rfl)
theorem dX0_isJoined_7 : decode cX0_isJoined 7 = .ok (.invokevirtual 61, 3) := dk_182 0 61 (dk_at dksX0_isJoined_0 7 rfl rfl)
theorem dX0_isJoined_10 : decode cX0_isJoined 10 = .ok (.if_icmp .ne 7, 3) := dk_160 0 7 (dk_at dksX0_isJoined_0 10 rfl rfl)
theorem dX0_isJoined_13 : decode cX0_isJoined 13 = .ok (.iconst 1, 1) := dk_4 (dk_at dksX0_isJoined_0 13 rfl rfl)
theorem dX0_isJoined_14 : decode cX0_isJoined 14 = .ok (.goto 4, 3) := dk_167 0 4 (dk_at dksX0_isJoined_0 14 rfl rfl)
theorem dX0_isJoined_17 : decode cX0_isJoined 17 = .ok (.iconst 0, 1) := dk_3 (dk_at dksX0_isJoined_0 17 rfl rfl)
theorem dX0_isJoined_18 : decode cX0_isJoined 18 = .ok (.ireturn, 1) := dk_172 (dk_at dksX0_isJoined_0 18 rfl rfl)
abbrev cX0_cameTo : ByteArray := prog_1_method_39_code
def yX0_cameTo : MethodName := ⟨RX0, "cameTo", "(IZ)I"⟩
def dkwX0_cameTo_5 : List UInt8 := [132, 5, 1, 167, 255, 160, 167, 255, 145, 29, 172]
abbrev dktX0_cameTo_5 : List UInt8 := dkwX0_cameTo_5 ++ []
def dkwX0_cameTo_4 : List UInt8 := [184, 0, 57, 153, 0, 10, 4, 21, 6, 120, 167, 0, 4, 3, 128, 62, 132, 6, 1, 167, 255, 178]
abbrev dktX0_cameTo_4 : List UInt8 := dkwX0_cameTo_4 ++ dktX0_cameTo_5
def dkwX0_cameTo_3 : List UInt8 := [184, 0, 57, 153, 0, 7, 4, 167, 0, 4, 3, 54, 7, 29, 21, 7, 153, 0, 19, 29, 21, 5]
abbrev dktX0_cameTo_3 : List UInt8 := dkwX0_cameTo_3 ++ dktX0_cameTo_4
def dkwX0_cameTo_2 : List UInt8 := [46, 21, 6, 184, 0, 57, 154, 0, 22, 28, 153, 0, 22, 42, 180, 0, 11, 21, 6, 46, 21, 5]
abbrev dktX0_cameTo_2 : List UInt8 := dkwX0_cameTo_2 ++ dktX0_cameTo_3
def dkwX0_cameTo_1 : List UInt8 := [180, 0, 45, 162, 0, 93, 3, 54, 6, 21, 6, 42, 180, 0, 45, 162, 0, 75, 42, 180, 0, 11, 21, 5]
abbrev dktX0_cameTo_1 : List UInt8 := dkwX0_cameTo_1 ++ dktX0_cameTo_2
def dkwX0_cameTo_0 : List UInt8 := [4, 27, 120, 62, 3, 54, 4, 29, 21, 4, 159, 0, 111, 29, 54, 4, 3, 54, 5, 21, 5, 42]
abbrev dktX0_cameTo_0 : List UInt8 := dkwX0_cameTo_0 ++ dktX0_cameTo_1
theorem dksX0_cameTo_0 : cX0_cameTo.data.toList.drop 0 = dktX0_cameTo_0 := by decide +kernel
theorem dksX0_cameTo_1 : cX0_cameTo.data.toList.drop 22 = dktX0_cameTo_1 := dk_seg dksX0_cameTo_0 22 rfl rfl
theorem dksX0_cameTo_2 : cX0_cameTo.data.toList.drop 46 = dktX0_cameTo_2 := dk_seg dksX0_cameTo_1 24 rfl rfl
theorem dksX0_cameTo_3 : cX0_cameTo.data.toList.drop 68 = dktX0_cameTo_3 := dk_seg dksX0_cameTo_2 22 rfl rfl
theorem dksX0_cameTo_4 : cX0_cameTo.data.toList.drop 90 = dktX0_cameTo_4 := dk_seg dksX0_cameTo_3 22 rfl rfl
theorem dksX0_cameTo_5 : cX0_cameTo.data.toList.drop 112 = dktX0_cameTo_5 := dk_seg dksX0_cameTo_4 22 rfl rfl
theorem dX0_cameTo_0 : decode cX0_cameTo 0 = .ok (.iconst 1, 1) := dk_4 (dk_at dksX0_cameTo_0 0 rfl rfl)
theorem dX0_cameTo_1 : decode cX0_cameTo 1 = .ok (.iload_n 1, 1) := dk_27 (dk_at dksX0_cameTo_0 1 rfl rfl)
theorem dX0_cameTo_2 : decode cX0_cameTo 2 = .ok (.ishl, 1) := dk_120 (dk_at dksX0_cameTo_0 2 rfl rfl)
theorem dX0_cameTo_3 : decode cX0_cameTo 3 = .ok (.istore_n 3, 1) := dk_62 (dk_at dksX0_cameTo_0 3 rfl rfl)
theorem dX0_cameTo_4 : decode cX0_cameTo 4 = .ok (.iconst 0, 1) := dk_3 (dk_at dksX0_cameTo_0 4 rfl rfl)
theorem dX0_cameTo_5 : decode cX0_cameTo 5 = .ok (.istore 4, 2) := dk_54 4 (dk_at dksX0_cameTo_0 5 rfl rfl)
theorem dX0_cameTo_7 : decode cX0_cameTo 7 = .ok (.iload_n 3, 1) := dk_29 (dk_at dksX0_cameTo_0 7 rfl rfl)
theorem dX0_cameTo_8 : decode cX0_cameTo 8 = .ok (.iload 4, 2) := dk_21 4 (dk_at dksX0_cameTo_0 8 rfl rfl)
theorem dX0_cameTo_10 : decode cX0_cameTo 10 = .ok (.if_icmp .eq 111, 3) := dk_159 0 111 (dk_at dksX0_cameTo_0 10 rfl rfl)
theorem dX0_cameTo_13 : decode cX0_cameTo 13 = .ok (.iload_n 3, 1) := dk_29 (dk_at dksX0_cameTo_0 13 rfl rfl)
theorem dX0_cameTo_14 : decode cX0_cameTo 14 = .ok (.istore 4, 2) := dk_54 4 (dk_at dksX0_cameTo_0 14 rfl rfl)
theorem dX0_cameTo_16 : decode cX0_cameTo 16 = .ok (.iconst 0, 1) := dk_3 (dk_at dksX0_cameTo_0 16 rfl rfl)
theorem dX0_cameTo_17 : decode cX0_cameTo 17 = .ok (.istore 5, 2) := dk_54 5 (dk_at dksX0_cameTo_0 17 rfl rfl)
theorem dX0_cameTo_19 : decode cX0_cameTo 19 = .ok (.iload 5, 2) := dk_21 5 (dk_at dksX0_cameTo_0 19 rfl rfl)
theorem dX0_cameTo_21 : decode cX0_cameTo 21 = .ok (.aload_n 0, 1) := dk_42 (dk_at dksX0_cameTo_0 21 rfl rfl)
theorem dX0_cameTo_22 : decode cX0_cameTo 22 = .ok (.getfield 45, 3) := dk_180 0 45 (dk_at dksX0_cameTo_1 0 rfl rfl)
theorem dX0_cameTo_25 : decode cX0_cameTo 25 = .ok (.if_icmp .ge 93, 3) := dk_162 0 93 (dk_at dksX0_cameTo_1 3 rfl rfl)
theorem dX0_cameTo_28 : decode cX0_cameTo 28 = .ok (.iconst 0, 1) := dk_3 (dk_at dksX0_cameTo_1 6 rfl rfl)
theorem dX0_cameTo_29 : decode cX0_cameTo 29 = .ok (.istore 6, 2) := dk_54 6 (dk_at dksX0_cameTo_1 7 rfl rfl)
theorem dX0_cameTo_31 : decode cX0_cameTo 31 = .ok (.iload 6, 2) := dk_21 6 (dk_at dksX0_cameTo_1 9 rfl rfl)
theorem dX0_cameTo_33 : decode cX0_cameTo 33 = .ok (.aload_n 0, 1) := dk_42 (dk_at dksX0_cameTo_1 11 rfl rfl)
theorem dX0_cameTo_34 : decode cX0_cameTo 34 = .ok (.getfield 45, 3) := dk_180 0 45 (dk_at dksX0_cameTo_1 12 rfl rfl)
theorem dX0_cameTo_37 : decode cX0_cameTo 37 = .ok (.if_icmp .ge 75, 3) := dk_162 0 75 (dk_at dksX0_cameTo_1 15 rfl rfl)
theorem dX0_cameTo_40 : decode cX0_cameTo 40 = .ok (.aload_n 0, 1) := dk_42 (dk_at dksX0_cameTo_1 18 rfl rfl)
theorem dX0_cameTo_41 : decode cX0_cameTo 41 = .ok (.getfield 11, 3) := dk_180 0 11 (dk_at dksX0_cameTo_1 19 rfl rfl)
theorem dX0_cameTo_44 : decode cX0_cameTo 44 = .ok (.iload 5, 2) := dk_21 5 (dk_at dksX0_cameTo_1 22 rfl rfl)
theorem dX0_cameTo_46 : decode cX0_cameTo 46 = .ok (.iaload, 1) := dk_46 (dk_at dksX0_cameTo_2 0 rfl rfl)
theorem dX0_cameTo_47 : decode cX0_cameTo 47 = .ok (.iload 6, 2) := dk_21 6 (dk_at dksX0_cameTo_2 1 rfl rfl)
theorem dX0_cameTo_49 : decode cX0_cameTo 49 = .ok (.invokestatic 57, 3) := dk_184 0 57 (dk_at dksX0_cameTo_2 3 rfl rfl)
theorem dX0_cameTo_52 : decode cX0_cameTo 52 = .ok (.ifCond .ne 22, 3) := dk_154 0 22 (dk_at dksX0_cameTo_2 6 rfl rfl)
theorem dX0_cameTo_55 : decode cX0_cameTo 55 = .ok (.iload_n 2, 1) := dk_28 (dk_at dksX0_cameTo_2 9 rfl rfl)
theorem dX0_cameTo_56 : decode cX0_cameTo 56 = .ok (.ifCond .eq 22, 3) := dk_153 0 22 (dk_at dksX0_cameTo_2 10 rfl rfl)
theorem dX0_cameTo_59 : decode cX0_cameTo 59 = .ok (.aload_n 0, 1) := dk_42 (dk_at dksX0_cameTo_2 13 rfl rfl)
theorem dX0_cameTo_60 : decode cX0_cameTo 60 = .ok (.getfield 11, 3) := dk_180 0 11 (dk_at dksX0_cameTo_2 14 rfl rfl)
theorem dX0_cameTo_63 : decode cX0_cameTo 63 = .ok (.iload 6, 2) := dk_21 6 (dk_at dksX0_cameTo_2 17 rfl rfl)
theorem dX0_cameTo_65 : decode cX0_cameTo 65 = .ok (.iaload, 1) := dk_46 (dk_at dksX0_cameTo_2 19 rfl rfl)
theorem dX0_cameTo_66 : decode cX0_cameTo 66 = .ok (.iload 5, 2) := dk_21 5 (dk_at dksX0_cameTo_2 20 rfl rfl)
theorem dX0_cameTo_68 : decode cX0_cameTo 68 = .ok (.invokestatic 57, 3) := dk_184 0 57 (dk_at dksX0_cameTo_3 0 rfl rfl)
theorem dX0_cameTo_71 : decode cX0_cameTo 71 = .ok (.ifCond .eq 7, 3) := dk_153 0 7 (dk_at dksX0_cameTo_3 3 rfl rfl)
theorem dX0_cameTo_74 : decode cX0_cameTo 74 = .ok (.iconst 1, 1) := dk_4 (dk_at dksX0_cameTo_3 6 rfl rfl)
theorem dX0_cameTo_75 : decode cX0_cameTo 75 = .ok (.goto 4, 3) := dk_167 0 4 (dk_at dksX0_cameTo_3 7 rfl rfl)
theorem dX0_cameTo_78 : decode cX0_cameTo 78 = .ok (.iconst 0, 1) := dk_3 (dk_at dksX0_cameTo_3 10 rfl rfl)
theorem dX0_cameTo_79 : decode cX0_cameTo 79 = .ok (.istore 7, 2) := dk_54 7 (dk_at dksX0_cameTo_3 11 rfl rfl)
theorem dX0_cameTo_81 : decode cX0_cameTo 81 = .ok (.iload_n 3, 1) := dk_29 (dk_at dksX0_cameTo_3 13 rfl rfl)
theorem dX0_cameTo_82 : decode cX0_cameTo 82 = .ok (.iload 7, 2) := dk_21 7 (dk_at dksX0_cameTo_3 14 rfl rfl)
theorem dX0_cameTo_84 : decode cX0_cameTo 84 = .ok (.ifCond .eq 19, 3) := dk_153 0 19 (dk_at dksX0_cameTo_3 16 rfl rfl)
theorem dX0_cameTo_87 : decode cX0_cameTo 87 = .ok (.iload_n 3, 1) := dk_29 (dk_at dksX0_cameTo_3 19 rfl rfl)
theorem dX0_cameTo_88 : decode cX0_cameTo 88 = .ok (.iload 5, 2) := dk_21 5 (dk_at dksX0_cameTo_3 20 rfl rfl)
theorem dX0_cameTo_90 : decode cX0_cameTo 90 = .ok (.invokestatic 57, 3) := dk_184 0 57 (dk_at dksX0_cameTo_4 0 rfl rfl)
theorem dX0_cameTo_93 : decode cX0_cameTo 93 = .ok (.ifCond .eq 10, 3) := dk_153 0 10 (dk_at dksX0_cameTo_4 3 rfl rfl)
theorem dX0_cameTo_96 : decode cX0_cameTo 96 = .ok (.iconst 1, 1) := dk_4 (dk_at dksX0_cameTo_4 6 rfl rfl)
theorem dX0_cameTo_97 : decode cX0_cameTo 97 = .ok (.iload 6, 2) := dk_21 6 (dk_at dksX0_cameTo_4 7 rfl rfl)
theorem dX0_cameTo_99 : decode cX0_cameTo 99 = .ok (.ishl, 1) := dk_120 (dk_at dksX0_cameTo_4 9 rfl rfl)
theorem dX0_cameTo_100 : decode cX0_cameTo 100 = .ok (.goto 4, 3) := dk_167 0 4 (dk_at dksX0_cameTo_4 10 rfl rfl)
theorem dX0_cameTo_103 : decode cX0_cameTo 103 = .ok (.iconst 0, 1) := dk_3 (dk_at dksX0_cameTo_4 13 rfl rfl)
theorem dX0_cameTo_104 : decode cX0_cameTo 104 = .ok (.ior, 1) := dk_128 (dk_at dksX0_cameTo_4 14 rfl rfl)
theorem dX0_cameTo_105 : decode cX0_cameTo 105 = .ok (.istore_n 3, 1) := dk_62 (dk_at dksX0_cameTo_4 15 rfl rfl)
theorem dX0_cameTo_106 : decode cX0_cameTo 106 = .ok (.iinc 6 1, 3) := dk_132 6 1 (dk_at dksX0_cameTo_4 16 rfl rfl)
theorem dX0_cameTo_109 : decode cX0_cameTo 109 = .ok (.goto (-78), 3) := dk_167 255 178 (dk_at dksX0_cameTo_4 19 rfl rfl)
theorem dX0_cameTo_112 : decode cX0_cameTo 112 = .ok (.iinc 5 1, 3) := dk_132 5 1 (dk_at dksX0_cameTo_5 0 rfl rfl)
theorem dX0_cameTo_115 : decode cX0_cameTo 115 = .ok (.goto (-96), 3) := dk_167 255 160 (dk_at dksX0_cameTo_5 3 rfl rfl)
theorem dX0_cameTo_118 : decode cX0_cameTo 118 = .ok (.goto (-111), 3) := dk_167 255 145 (dk_at dksX0_cameTo_5 6 rfl rfl)
theorem dX0_cameTo_121 : decode cX0_cameTo 121 = .ok (.iload_n 3, 1) := dk_29 (dk_at dksX0_cameTo_5 9 rfl rfl)
theorem dX0_cameTo_122 : decode cX0_cameTo 122 = .ok (.ireturn, 1) := dk_172 (dk_at dksX0_cameTo_5 10 rfl rfl)
abbrev cX0_bridge : ByteArray := prog_1_method_43_code
def yX0_bridge : MethodName := ⟨RX0, "bridge", "(I)I"⟩
def dkwX0_bridge_1 : List UInt8 := [182, 0, 228, 154, 0, 8, 16, 253, 167, 0, 15, 187, 0, 235, 89, 42, 183, 0, 237, 27, 182, 0, 240, 172]
abbrev dktX0_bridge_1 : List UInt8 := dkwX0_bridge_1 ++ []
def dkwX0_bridge_0 : List UInt8 := [27, 133, 20, 0, 231, 20, 0, 233, 184, 0, 49, 154, 0, 5, 2, 172, 42, 180, 0, 45, 153, 0, 10, 42]
abbrev dktX0_bridge_0 : List UInt8 := dkwX0_bridge_0 ++ dktX0_bridge_1
theorem dksX0_bridge_0 : cX0_bridge.data.toList.drop 0 = dktX0_bridge_0 := by decide +kernel
theorem dksX0_bridge_1 : cX0_bridge.data.toList.drop 24 = dktX0_bridge_1 := dk_seg dksX0_bridge_0 24 rfl rfl
theorem dX0_bridge_0 : decode cX0_bridge 0 = .ok (.iload_n 1, 1) := dk_27 (dk_at dksX0_bridge_0 0 rfl rfl)
theorem dX0_bridge_1 : decode cX0_bridge 1 = .ok (.i2l, 1) := dk_133 (dk_at dksX0_bridge_0 1 rfl rfl)
theorem dX0_bridge_2 : decode cX0_bridge 2 = .ok (.ldc2_w 231, 3) := dk_20 0 231 (dk_at dksX0_bridge_0 2 rfl rfl)
theorem dX0_bridge_5 : decode cX0_bridge 5 = .ok (.ldc2_w 233, 3) := dk_20 0 233 (dk_at dksX0_bridge_0 5 rfl rfl)
theorem dX0_bridge_8 : decode cX0_bridge 8 = .ok (.invokestatic 49, 3) := dk_184 0 49 (dk_at dksX0_bridge_0 8 rfl rfl)
theorem dX0_bridge_11 : decode cX0_bridge 11 = .ok (.ifCond .ne 5, 3) := dk_154 0 5 (dk_at dksX0_bridge_0 11 rfl rfl)
theorem dX0_bridge_14 : decode cX0_bridge 14 = .ok (.iconst (-1), 1) := dk_2 (dk_at dksX0_bridge_0 14 rfl rfl)
theorem dX0_bridge_15 : decode cX0_bridge 15 = .ok (.ireturn, 1) := dk_172 (dk_at dksX0_bridge_0 15 rfl rfl)
theorem dX0_bridge_16 : decode cX0_bridge 16 = .ok (.aload_n 0, 1) := dk_42 (dk_at dksX0_bridge_0 16 rfl rfl)
theorem dX0_bridge_17 : decode cX0_bridge 17 = .ok (.getfield 45, 3) := dk_180 0 45 (dk_at dksX0_bridge_0 17 rfl rfl)
theorem dX0_bridge_20 : decode cX0_bridge 20 = .ok (.ifCond .eq 10, 3) := dk_153 0 10 (dk_at dksX0_bridge_0 20 rfl rfl)
theorem dX0_bridge_23 : decode cX0_bridge 23 = .ok (.aload_n 0, 1) := dk_42 (dk_at dksX0_bridge_0 23 rfl rfl)
theorem dX0_bridge_24 : decode cX0_bridge 24 = .ok (.invokevirtual 228, 3) := dk_182 0 228 (dk_at dksX0_bridge_1 0 rfl rfl)
theorem dX0_bridge_27 : decode cX0_bridge 27 = .ok (.ifCond .ne 8, 3) := dk_154 0 8 (dk_at dksX0_bridge_1 3 rfl rfl)
theorem dX0_bridge_30 : decode cX0_bridge 30 = .ok (.bipush (-3), 2) := dk_16 253 (dk_at dksX0_bridge_1 6 rfl rfl)
theorem dX0_bridge_32 : decode cX0_bridge 32 = .ok (.goto 15, 3) := dk_167 0 15 (dk_at dksX0_bridge_1 8 rfl rfl)
theorem dX0_bridge_35 : decode cX0_bridge 35 = .ok (.new 235, 3) := dk_187 0 235 (dk_at dksX0_bridge_1 11 rfl rfl)
theorem dX0_bridge_38 : decode cX0_bridge 38 = .ok (.dup, 1) := dk_89 (dk_at dksX0_bridge_1 14 rfl rfl)
theorem dX0_bridge_39 : decode cX0_bridge 39 = .ok (.aload_n 0, 1) := dk_42 (dk_at dksX0_bridge_1 15 rfl rfl)
theorem dX0_bridge_40 : decode cX0_bridge 40 = .ok (.invokespecial 237, 3) := dk_183 0 237 (dk_at dksX0_bridge_1 16 rfl rfl)
theorem dX0_bridge_43 : decode cX0_bridge 43 = .ok (.iload_n 1, 1) := dk_27 (dk_at dksX0_bridge_1 19 rfl rfl)
theorem dX0_bridge_44 : decode cX0_bridge 44 = .ok (.invokevirtual 240, 3) := dk_182 0 240 (dk_at dksX0_bridge_1 20 rfl rfl)
theorem dX0_bridge_47 : decode cX0_bridge 47 = .ok (.ireturn, 1) := dk_172 (dk_at dksX0_bridge_1 23 rfl rfl)
abbrev cX0_verdictFirst : ByteArray := prog_1_method_42_code
def yX0_verdictFirst : MethodName := ⟨RX0, "verdictFirst", "(I)I"⟩
def dkwX0_verdictFirst_1 : List UInt8 := [182, 0, 192, 172]
abbrev dktX0_verdictFirst_1 : List UInt8 := dkwX0_verdictFirst_1 ++ []
def dkwX0_verdictFirst_0 : List UInt8 := [42, 89, 180, 0, 167, 4, 96, 181, 0, 167, 42, 42, 27, 42, 182, 0, 71, 17, 0, 255, 182, 0, 173]
abbrev dktX0_verdictFirst_0 : List UInt8 := dkwX0_verdictFirst_0 ++ dktX0_verdictFirst_1
theorem dksX0_verdictFirst_0 : cX0_verdictFirst.data.toList.drop 0 = dktX0_verdictFirst_0 := by decide +kernel
theorem dksX0_verdictFirst_1 : cX0_verdictFirst.data.toList.drop 23 = dktX0_verdictFirst_1 := dk_seg dksX0_verdictFirst_0 23 rfl rfl
theorem dX0_verdictFirst_0 : decode cX0_verdictFirst 0 = .ok (.aload_n 0, 1) := dk_42 (dk_at dksX0_verdictFirst_0 0 rfl rfl)
theorem dX0_verdictFirst_1 : decode cX0_verdictFirst 1 = .ok (.dup, 1) := dk_89 (dk_at dksX0_verdictFirst_0 1 rfl rfl)
theorem dX0_verdictFirst_2 : decode cX0_verdictFirst 2 = .ok (.getfield 167, 3) := dk_180 0 167 (dk_at dksX0_verdictFirst_0 2 rfl rfl)
theorem dX0_verdictFirst_5 : decode cX0_verdictFirst 5 = .ok (.iconst 1, 1) := dk_4 (dk_at dksX0_verdictFirst_0 5 rfl rfl)
theorem dX0_verdictFirst_6 : decode cX0_verdictFirst 6 = .ok (.iadd, 1) := dk_96 (dk_at dksX0_verdictFirst_0 6 rfl rfl)
theorem dX0_verdictFirst_7 : decode cX0_verdictFirst 7 = .ok (.putfield 167, 3) := dk_181 0 167 (dk_at dksX0_verdictFirst_0 7 rfl rfl)
theorem dX0_verdictFirst_10 : decode cX0_verdictFirst 10 = .ok (.aload_n 0, 1) := dk_42 (dk_at dksX0_verdictFirst_0 10 rfl rfl)
theorem dX0_verdictFirst_11 : decode cX0_verdictFirst 11 = .ok (.aload_n 0, 1) := dk_42 (dk_at dksX0_verdictFirst_0 11 rfl rfl)
theorem dX0_verdictFirst_12 : decode cX0_verdictFirst 12 = .ok (.iload_n 1, 1) := dk_27 (dk_at dksX0_verdictFirst_0 12 rfl rfl)
theorem dX0_verdictFirst_13 : decode cX0_verdictFirst 13 = .ok (.aload_n 0, 1) := dk_42 (dk_at dksX0_verdictFirst_0 13 rfl rfl)
theorem dX0_verdictFirst_14 : decode cX0_verdictFirst 14 = .ok (.invokevirtual 71, 3) := dk_182 0 71 (dk_at dksX0_verdictFirst_0 14 rfl rfl)
theorem dX0_verdictFirst_17 : decode cX0_verdictFirst 17 = .ok (.sipush 255, 3) := dk_17 0 255 (dk_at dksX0_verdictFirst_0 17 rfl rfl)
theorem dX0_verdictFirst_20 : decode cX0_verdictFirst 20 = .ok (.invokevirtual 173, 3) := dk_182 0 173 (dk_at dksX0_verdictFirst_0 20 rfl rfl)
theorem dX0_verdictFirst_23 : decode cX0_verdictFirst 23 = .ok (.invokevirtual 192, 3) := dk_182 0 192 (dk_at dksX0_verdictFirst_1 0 rfl rfl)
theorem dX0_verdictFirst_26 : decode cX0_verdictFirst 26 = .ok (.ireturn, 1) := dk_172 (dk_at dksX0_verdictFirst_1 3 rfl rfl)
abbrev cX0_mend : ByteArray := prog_1_method_44_code
def yX0_mend : MethodName := ⟨RX0, "mend", "(II)I"⟩
def dkwX0_mend_2 : List UInt8 := [172]
abbrev dktX0_mend_2 : List UInt8 := dkwX0_mend_2 ++ []
def dkwX0_mend_1 : List UInt8 := [180, 0, 45, 154, 0, 8, 16, 253, 167, 0, 16, 187, 0, 241, 89, 42, 27, 183, 0, 243, 28, 182, 0, 246]
abbrev dktX0_mend_1 : List UInt8 := dkwX0_mend_1 ++ dktX0_mend_2
def dkwX0_mend_0 : List UInt8 := [27, 184, 0, 157, 154, 0, 17, 28, 133, 20, 0, 231, 20, 0, 233, 184, 0, 49, 154, 0, 5, 2, 172, 42]
abbrev dktX0_mend_0 : List UInt8 := dkwX0_mend_0 ++ dktX0_mend_1
theorem dksX0_mend_0 : cX0_mend.data.toList.drop 0 = dktX0_mend_0 := by decide +kernel
theorem dksX0_mend_1 : cX0_mend.data.toList.drop 24 = dktX0_mend_1 := dk_seg dksX0_mend_0 24 rfl rfl
theorem dksX0_mend_2 : cX0_mend.data.toList.drop 48 = dktX0_mend_2 := dk_seg dksX0_mend_1 24 rfl rfl
theorem dX0_mend_0 : decode cX0_mend 0 = .ok (.iload_n 1, 1) := dk_27 (dk_at dksX0_mend_0 0 rfl rfl)
theorem dX0_mend_1 : decode cX0_mend 1 = .ok (.invokestatic 157, 3) := dk_184 0 157 (dk_at dksX0_mend_0 1 rfl rfl)
theorem dX0_mend_4 : decode cX0_mend 4 = .ok (.ifCond .ne 17, 3) := dk_154 0 17 (dk_at dksX0_mend_0 4 rfl rfl)
theorem dX0_mend_7 : decode cX0_mend 7 = .ok (.iload_n 2, 1) := dk_28 (dk_at dksX0_mend_0 7 rfl rfl)
theorem dX0_mend_8 : decode cX0_mend 8 = .ok (.i2l, 1) := dk_133 (dk_at dksX0_mend_0 8 rfl rfl)
theorem dX0_mend_9 : decode cX0_mend 9 = .ok (.ldc2_w 231, 3) := dk_20 0 231 (dk_at dksX0_mend_0 9 rfl rfl)
theorem dX0_mend_12 : decode cX0_mend 12 = .ok (.ldc2_w 233, 3) := dk_20 0 233 (dk_at dksX0_mend_0 12 rfl rfl)
theorem dX0_mend_15 : decode cX0_mend 15 = .ok (.invokestatic 49, 3) := dk_184 0 49 (dk_at dksX0_mend_0 15 rfl rfl)
theorem dX0_mend_18 : decode cX0_mend 18 = .ok (.ifCond .ne 5, 3) := dk_154 0 5 (dk_at dksX0_mend_0 18 rfl rfl)
theorem dX0_mend_21 : decode cX0_mend 21 = .ok (.iconst (-1), 1) := dk_2 (dk_at dksX0_mend_0 21 rfl rfl)
theorem dX0_mend_22 : decode cX0_mend 22 = .ok (.ireturn, 1) := dk_172 (dk_at dksX0_mend_0 22 rfl rfl)
theorem dX0_mend_23 : decode cX0_mend 23 = .ok (.aload_n 0, 1) := dk_42 (dk_at dksX0_mend_0 23 rfl rfl)
theorem dX0_mend_24 : decode cX0_mend 24 = .ok (.getfield 45, 3) := dk_180 0 45 (dk_at dksX0_mend_1 0 rfl rfl)
theorem dX0_mend_27 : decode cX0_mend 27 = .ok (.ifCond .ne 8, 3) := dk_154 0 8 (dk_at dksX0_mend_1 3 rfl rfl)
theorem dX0_mend_30 : decode cX0_mend 30 = .ok (.bipush (-3), 2) := dk_16 253 (dk_at dksX0_mend_1 6 rfl rfl)
theorem dX0_mend_32 : decode cX0_mend 32 = .ok (.goto 16, 3) := dk_167 0 16 (dk_at dksX0_mend_1 8 rfl rfl)
theorem dX0_mend_35 : decode cX0_mend 35 = .ok (.new 241, 3) := dk_187 0 241 (dk_at dksX0_mend_1 11 rfl rfl)
theorem dX0_mend_38 : decode cX0_mend 38 = .ok (.dup, 1) := dk_89 (dk_at dksX0_mend_1 14 rfl rfl)
theorem dX0_mend_39 : decode cX0_mend 39 = .ok (.aload_n 0, 1) := dk_42 (dk_at dksX0_mend_1 15 rfl rfl)
theorem dX0_mend_40 : decode cX0_mend 40 = .ok (.iload_n 1, 1) := dk_27 (dk_at dksX0_mend_1 16 rfl rfl)
theorem dX0_mend_41 : decode cX0_mend 41 = .ok (.invokespecial 243, 3) := dk_183 0 243 (dk_at dksX0_mend_1 17 rfl rfl)
theorem dX0_mend_44 : decode cX0_mend 44 = .ok (.iload_n 2, 1) := dk_28 (dk_at dksX0_mend_1 20 rfl rfl)
theorem dX0_mend_45 : decode cX0_mend 45 = .ok (.invokevirtual 246, 3) := dk_182 0 246 (dk_at dksX0_mend_1 21 rfl rfl)
theorem dX0_mend_48 : decode cX0_mend 48 = .ok (.ireturn, 1) := dk_172 (dk_at dksX0_mend_2 0 rfl rfl)
abbrev cX0_sun : ByteArray := prog_1_method_45_code
def yX0_sun : MethodName := ⟨RX0, "sun", "()I"⟩
def dkwX0_sun_3 : List UInt8 := [132, 2, 1, 167, 255, 196, 27, 153, 0, 7, 4, 167, 0, 4, 3, 172]
abbrev dktX0_sun_3 : List UInt8 := dkwX0_sun_3 ++ []
def dkwX0_sun_2 : List UInt8 := [182, 0, 224, 29, 184, 0, 57, 153, 0, 7, 4, 167, 0, 4, 3, 126, 60, 132, 3, 1, 167, 255, 212]
abbrev dktX0_sun_2 : List UInt8 := dkwX0_sun_2 ++ dktX0_sun_3
def dkwX0_sun_1 : List UInt8 := [29, 42, 180, 0, 45, 162, 0, 42, 27, 42, 180, 0, 11, 29, 46, 4, 29, 120, 159, 0, 16, 42, 28, 3]
abbrev dktX0_sun_1 : List UInt8 := dkwX0_sun_1 ++ dktX0_sun_2
def dkwX0_sun_0 : List UInt8 := [42, 180, 0, 45, 154, 0, 6, 16, 253, 172, 4, 60, 3, 61, 28, 42, 180, 0, 45, 162, 0, 58, 3, 62]
abbrev dktX0_sun_0 : List UInt8 := dkwX0_sun_0 ++ dktX0_sun_1
theorem dksX0_sun_0 : cX0_sun.data.toList.drop 0 = dktX0_sun_0 := by decide +kernel
theorem dksX0_sun_1 : cX0_sun.data.toList.drop 24 = dktX0_sun_1 := dk_seg dksX0_sun_0 24 rfl rfl
theorem dksX0_sun_2 : cX0_sun.data.toList.drop 48 = dktX0_sun_2 := dk_seg dksX0_sun_1 24 rfl rfl
theorem dksX0_sun_3 : cX0_sun.data.toList.drop 71 = dktX0_sun_3 := dk_seg dksX0_sun_2 23 rfl rfl
theorem dX0_sun_0 : decode cX0_sun 0 = .ok (.aload_n 0, 1) := dk_42 (dk_at dksX0_sun_0 0 rfl rfl)
theorem dX0_sun_1 : decode cX0_sun 1 = .ok (.getfield 45, 3) := dk_180 0 45 (dk_at dksX0_sun_0 1 rfl rfl)
theorem dX0_sun_4 : decode cX0_sun 4 = .ok (.ifCond .ne 6, 3) := dk_154 0 6 (dk_at dksX0_sun_0 4 rfl rfl)
theorem dX0_sun_7 : decode cX0_sun 7 = .ok (.bipush (-3), 2) := dk_16 253 (dk_at dksX0_sun_0 7 rfl rfl)
theorem dX0_sun_9 : decode cX0_sun 9 = .ok (.ireturn, 1) := dk_172 (dk_at dksX0_sun_0 9 rfl rfl)
theorem dX0_sun_10 : decode cX0_sun 10 = .ok (.iconst 1, 1) := dk_4 (dk_at dksX0_sun_0 10 rfl rfl)
theorem dX0_sun_11 : decode cX0_sun 11 = .ok (.istore_n 1, 1) := dk_60 (dk_at dksX0_sun_0 11 rfl rfl)
theorem dX0_sun_12 : decode cX0_sun 12 = .ok (.iconst 0, 1) := dk_3 (dk_at dksX0_sun_0 12 rfl rfl)
theorem dX0_sun_13 : decode cX0_sun 13 = .ok (.istore_n 2, 1) := dk_61 (dk_at dksX0_sun_0 13 rfl rfl)
theorem dX0_sun_14 : decode cX0_sun 14 = .ok (.iload_n 2, 1) := dk_28 (dk_at dksX0_sun_0 14 rfl rfl)
theorem dX0_sun_15 : decode cX0_sun 15 = .ok (.aload_n 0, 1) := dk_42 (dk_at dksX0_sun_0 15 rfl rfl)
theorem dX0_sun_16 : decode cX0_sun 16 = .ok (.getfield 45, 3) := dk_180 0 45 (dk_at dksX0_sun_0 16 rfl rfl)
theorem dX0_sun_19 : decode cX0_sun 19 = .ok (.if_icmp .ge 58, 3) := dk_162 0 58 (dk_at dksX0_sun_0 19 rfl rfl)
theorem dX0_sun_22 : decode cX0_sun 22 = .ok (.iconst 0, 1) := dk_3 (dk_at dksX0_sun_0 22 rfl rfl)
theorem dX0_sun_23 : decode cX0_sun 23 = .ok (.istore_n 3, 1) := dk_62 (dk_at dksX0_sun_0 23 rfl rfl)
theorem dX0_sun_24 : decode cX0_sun 24 = .ok (.iload_n 3, 1) := dk_29 (dk_at dksX0_sun_1 0 rfl rfl)
theorem dX0_sun_25 : decode cX0_sun 25 = .ok (.aload_n 0, 1) := dk_42 (dk_at dksX0_sun_1 1 rfl rfl)
theorem dX0_sun_26 : decode cX0_sun 26 = .ok (.getfield 45, 3) := dk_180 0 45 (dk_at dksX0_sun_1 2 rfl rfl)
theorem dX0_sun_29 : decode cX0_sun 29 = .ok (.if_icmp .ge 42, 3) := dk_162 0 42 (dk_at dksX0_sun_1 5 rfl rfl)
theorem dX0_sun_32 : decode cX0_sun 32 = .ok (.iload_n 1, 1) := dk_27 (dk_at dksX0_sun_1 8 rfl rfl)
theorem dX0_sun_33 : decode cX0_sun 33 = .ok (.aload_n 0, 1) := dk_42 (dk_at dksX0_sun_1 9 rfl rfl)
theorem dX0_sun_34 : decode cX0_sun 34 = .ok (.getfield 11, 3) := dk_180 0 11 (dk_at dksX0_sun_1 10 rfl rfl)
theorem dX0_sun_37 : decode cX0_sun 37 = .ok (.iload_n 3, 1) := dk_29 (dk_at dksX0_sun_1 13 rfl rfl)
theorem dX0_sun_38 : decode cX0_sun 38 = .ok (.iaload, 1) := dk_46 (dk_at dksX0_sun_1 14 rfl rfl)
theorem dX0_sun_39 : decode cX0_sun 39 = .ok (.iconst 1, 1) := dk_4 (dk_at dksX0_sun_1 15 rfl rfl)
theorem dX0_sun_40 : decode cX0_sun 40 = .ok (.iload_n 3, 1) := dk_29 (dk_at dksX0_sun_1 16 rfl rfl)
theorem dX0_sun_41 : decode cX0_sun 41 = .ok (.ishl, 1) := dk_120 (dk_at dksX0_sun_1 17 rfl rfl)
theorem dX0_sun_42 : decode cX0_sun 42 = .ok (.if_icmp .eq 16, 3) := dk_159 0 16 (dk_at dksX0_sun_1 18 rfl rfl)
theorem dX0_sun_45 : decode cX0_sun 45 = .ok (.aload_n 0, 1) := dk_42 (dk_at dksX0_sun_1 21 rfl rfl)
theorem dX0_sun_46 : decode cX0_sun 46 = .ok (.iload_n 2, 1) := dk_28 (dk_at dksX0_sun_1 22 rfl rfl)
theorem dX0_sun_47 : decode cX0_sun 47 = .ok (.iconst 0, 1) := dk_3 (dk_at dksX0_sun_1 23 rfl rfl)
theorem dX0_sun_48 : decode cX0_sun 48 = .ok (.invokevirtual 224, 3) := dk_182 0 224 (dk_at dksX0_sun_2 0 rfl rfl)
theorem dX0_sun_51 : decode cX0_sun 51 = .ok (.iload_n 3, 1) := dk_29 (dk_at dksX0_sun_2 3 rfl rfl)
theorem dX0_sun_52 : decode cX0_sun 52 = .ok (.invokestatic 57, 3) := dk_184 0 57 (dk_at dksX0_sun_2 4 rfl rfl)
theorem dX0_sun_55 : decode cX0_sun 55 = .ok (.ifCond .eq 7, 3) := dk_153 0 7 (dk_at dksX0_sun_2 7 rfl rfl)
theorem dX0_sun_58 : decode cX0_sun 58 = .ok (.iconst 1, 1) := dk_4 (dk_at dksX0_sun_2 10 rfl rfl)
theorem dX0_sun_59 : decode cX0_sun 59 = .ok (.goto 4, 3) := dk_167 0 4 (dk_at dksX0_sun_2 11 rfl rfl)
theorem dX0_sun_62 : decode cX0_sun 62 = .ok (.iconst 0, 1) := dk_3 (dk_at dksX0_sun_2 14 rfl rfl)
theorem dX0_sun_63 : decode cX0_sun 63 = .ok (.iand, 1) := dk_126 (dk_at dksX0_sun_2 15 rfl rfl)
theorem dX0_sun_64 : decode cX0_sun 64 = .ok (.istore_n 1, 1) := dk_60 (dk_at dksX0_sun_2 16 rfl rfl)
theorem dX0_sun_65 : decode cX0_sun 65 = .ok (.iinc 3 1, 3) := dk_132 3 1 (dk_at dksX0_sun_2 17 rfl rfl)
theorem dX0_sun_68 : decode cX0_sun 68 = .ok (.goto (-44), 3) := dk_167 255 212 (dk_at dksX0_sun_2 20 rfl rfl)
theorem dX0_sun_71 : decode cX0_sun 71 = .ok (.iinc 2 1, 3) := dk_132 2 1 (dk_at dksX0_sun_3 0 rfl rfl)
theorem dX0_sun_74 : decode cX0_sun 74 = .ok (.goto (-60), 3) := dk_167 255 196 (dk_at dksX0_sun_3 3 rfl rfl)
theorem dX0_sun_77 : decode cX0_sun 77 = .ok (.iload_n 1, 1) := dk_27 (dk_at dksX0_sun_3 6 rfl rfl)
theorem dX0_sun_78 : decode cX0_sun 78 = .ok (.ifCond .eq 7, 3) := dk_153 0 7 (dk_at dksX0_sun_3 7 rfl rfl)
theorem dX0_sun_81 : decode cX0_sun 81 = .ok (.iconst 1, 1) := dk_4 (dk_at dksX0_sun_3 10 rfl rfl)
theorem dX0_sun_82 : decode cX0_sun 82 = .ok (.goto 4, 3) := dk_167 0 4 (dk_at dksX0_sun_3 11 rfl rfl)
theorem dX0_sun_85 : decode cX0_sun 85 = .ok (.iconst 0, 1) := dk_3 (dk_at dksX0_sun_3 14 rfl rfl)
theorem dX0_sun_86 : decode cX0_sun 86 = .ok (.ireturn, 1) := dk_172 (dk_at dksX0_sun_3 15 rfl rfl)
abbrev cX0_nets : ByteArray := prog_1_method_47_code
def yX0_nets : MethodName := ⟨RX0, "nets", "(III)I"⟩
def dkwX0_nets_5 : List UInt8 := [21, 4, 181, 0, 45, 25, 5, 3, 42, 180, 0, 11, 3, 7, 184, 0, 143, 21, 6, 172]
abbrev dktX0_nets_5 : List UInt8 := dkwX0_nets_5 ++ []
def dkwX0_nets_4 : List UInt8 := [42, 28, 182, 1, 0, 29, 160, 0, 7, 4, 167, 0, 4, 3, 96, 54, 6, 132, 7, 1, 167, 255, 203, 42]
abbrev dktX0_nets_4 : List UInt8 := dkwX0_nets_4 ++ dktX0_nets_5
def dkwX0_nets_3 : List UInt8 := [162, 0, 47, 42, 27, 21, 7, 182, 0, 252, 21, 6, 42, 182, 0, 228, 153, 0, 21, 29, 6, 159, 0, 12]
abbrev dktX0_nets_3 : List UInt8 := dkwX0_nets_3 ++ dktX0_nets_4
def dkwX0_nets_2 : List UInt8 := [182, 0, 247, 192, 0, 248, 58, 5, 3, 54, 6, 3, 54, 7, 21, 7, 4, 27, 27, 4, 100, 104, 120]
abbrev dktX0_nets_2 : List UInt8 := dkwX0_nets_2 ++ dktX0_nets_3
def dkwX0_nets_1 : List UInt8 := [20, 0, 152, 184, 0, 49, 154, 0, 6, 16, 254, 172, 42, 180, 0, 45, 54, 4, 42, 180, 0, 11]
abbrev dktX0_nets_1 : List UInt8 := dkwX0_nets_1 ++ dktX0_nets_2
def dkwX0_nets_0 : List UInt8 := [28, 184, 0, 157, 153, 0, 5, 2, 172, 27, 133, 10, 20, 0, 152, 184, 0, 49, 153, 0, 15, 29, 133, 9]
abbrev dktX0_nets_0 : List UInt8 := dkwX0_nets_0 ++ dktX0_nets_1
theorem dksX0_nets_0 : cX0_nets.data.toList.drop 0 = dktX0_nets_0 := by decide +kernel
theorem dksX0_nets_1 : cX0_nets.data.toList.drop 24 = dktX0_nets_1 := dk_seg dksX0_nets_0 24 rfl rfl
theorem dksX0_nets_2 : cX0_nets.data.toList.drop 46 = dktX0_nets_2 := dk_seg dksX0_nets_1 22 rfl rfl
theorem dksX0_nets_3 : cX0_nets.data.toList.drop 69 = dktX0_nets_3 := dk_seg dksX0_nets_2 23 rfl rfl
theorem dksX0_nets_4 : cX0_nets.data.toList.drop 93 = dktX0_nets_4 := dk_seg dksX0_nets_3 24 rfl rfl
theorem dksX0_nets_5 : cX0_nets.data.toList.drop 117 = dktX0_nets_5 := dk_seg dksX0_nets_4 24 rfl rfl
theorem dX0_nets_0 : decode cX0_nets 0 = .ok (.iload_n 2, 1) := dk_28 (dk_at dksX0_nets_0 0 rfl rfl)
theorem dX0_nets_1 : decode cX0_nets 1 = .ok (.invokestatic 157, 3) := dk_184 0 157 (dk_at dksX0_nets_0 1 rfl rfl)
theorem dX0_nets_4 : decode cX0_nets 4 = .ok (.ifCond .eq 5, 3) := dk_153 0 5 (dk_at dksX0_nets_0 4 rfl rfl)
theorem dX0_nets_7 : decode cX0_nets 7 = .ok (.iconst (-1), 1) := dk_2 (dk_at dksX0_nets_0 7 rfl rfl)
theorem dX0_nets_8 : decode cX0_nets 8 = .ok (.ireturn, 1) := dk_172 (dk_at dksX0_nets_0 8 rfl rfl)
theorem dX0_nets_9 : decode cX0_nets 9 = .ok (.iload_n 1, 1) := dk_27 (dk_at dksX0_nets_0 9 rfl rfl)
theorem dX0_nets_10 : decode cX0_nets 10 = .ok (.i2l, 1) := dk_133 (dk_at dksX0_nets_0 10 rfl rfl)
theorem dX0_nets_11 : decode cX0_nets 11 = .ok (.lconst 1, 1) := dk_10 (dk_at dksX0_nets_0 11 rfl rfl)
theorem dX0_nets_12 : decode cX0_nets 12 = .ok (.ldc2_w 152, 3) := dk_20 0 152 (dk_at dksX0_nets_0 12 rfl rfl)
theorem dX0_nets_15 : decode cX0_nets 15 = .ok (.invokestatic 49, 3) := dk_184 0 49 (dk_at dksX0_nets_0 15 rfl rfl)
theorem dX0_nets_18 : decode cX0_nets 18 = .ok (.ifCond .eq 15, 3) := dk_153 0 15 (dk_at dksX0_nets_0 18 rfl rfl)
theorem dX0_nets_21 : decode cX0_nets 21 = .ok (.iload_n 3, 1) := dk_29 (dk_at dksX0_nets_0 21 rfl rfl)
theorem dX0_nets_22 : decode cX0_nets 22 = .ok (.i2l, 1) := dk_133 (dk_at dksX0_nets_0 22 rfl rfl)
theorem dX0_nets_23 : decode cX0_nets 23 = .ok (.lconst 0, 1) := dk_9 (dk_at dksX0_nets_0 23 rfl rfl)
theorem dX0_nets_24 : decode cX0_nets 24 = .ok (.ldc2_w 152, 3) := dk_20 0 152 (dk_at dksX0_nets_1 0 rfl rfl)
theorem dX0_nets_27 : decode cX0_nets 27 = .ok (.invokestatic 49, 3) := dk_184 0 49 (dk_at dksX0_nets_1 3 rfl rfl)
theorem dX0_nets_30 : decode cX0_nets 30 = .ok (.ifCond .ne 6, 3) := dk_154 0 6 (dk_at dksX0_nets_1 6 rfl rfl)
theorem dX0_nets_33 : decode cX0_nets 33 = .ok (.bipush (-2), 2) := dk_16 254 (dk_at dksX0_nets_1 9 rfl rfl)
theorem dX0_nets_35 : decode cX0_nets 35 = .ok (.ireturn, 1) := dk_172 (dk_at dksX0_nets_1 11 rfl rfl)
theorem dX0_nets_36 : decode cX0_nets 36 = .ok (.aload_n 0, 1) := dk_42 (dk_at dksX0_nets_1 12 rfl rfl)
theorem dX0_nets_37 : decode cX0_nets 37 = .ok (.getfield 45, 3) := dk_180 0 45 (dk_at dksX0_nets_1 13 rfl rfl)
theorem dX0_nets_40 : decode cX0_nets 40 = .ok (.istore 4, 2) := dk_54 4 (dk_at dksX0_nets_1 16 rfl rfl)
theorem dX0_nets_42 : decode cX0_nets 42 = .ok (.aload_n 0, 1) := dk_42 (dk_at dksX0_nets_1 18 rfl rfl)
theorem dX0_nets_43 : decode cX0_nets 43 = .ok (.getfield 11, 3) := dk_180 0 11 (dk_at dksX0_nets_1 19 rfl rfl)
theorem dX0_nets_46 : decode cX0_nets 46 = .ok (.invokevirtual 247, 3) := dk_182 0 247 (dk_at dksX0_nets_2 0 rfl rfl)
theorem dX0_nets_49 : decode cX0_nets 49 = .ok (.checkcast 248, 3) := dk_192 0 248 (dk_at dksX0_nets_2 3 rfl rfl)
theorem dX0_nets_52 : decode cX0_nets 52 = .ok (.astore 5, 2) := dk_58 5 (dk_at dksX0_nets_2 6 rfl rfl)
theorem dX0_nets_54 : decode cX0_nets 54 = .ok (.iconst 0, 1) := dk_3 (dk_at dksX0_nets_2 8 rfl rfl)
theorem dX0_nets_55 : decode cX0_nets 55 = .ok (.istore 6, 2) := dk_54 6 (dk_at dksX0_nets_2 9 rfl rfl)
theorem dX0_nets_57 : decode cX0_nets 57 = .ok (.iconst 0, 1) := dk_3 (dk_at dksX0_nets_2 11 rfl rfl)
theorem dX0_nets_58 : decode cX0_nets 58 = .ok (.istore 7, 2) := dk_54 7 (dk_at dksX0_nets_2 12 rfl rfl)
theorem dX0_nets_60 : decode cX0_nets 60 = .ok (.iload 7, 2) := dk_21 7 (dk_at dksX0_nets_2 14 rfl rfl)
theorem dX0_nets_62 : decode cX0_nets 62 = .ok (.iconst 1, 1) := dk_4 (dk_at dksX0_nets_2 16 rfl rfl)
theorem dX0_nets_63 : decode cX0_nets 63 = .ok (.iload_n 1, 1) := dk_27 (dk_at dksX0_nets_2 17 rfl rfl)
theorem dX0_nets_64 : decode cX0_nets 64 = .ok (.iload_n 1, 1) := dk_27 (dk_at dksX0_nets_2 18 rfl rfl)
theorem dX0_nets_65 : decode cX0_nets 65 = .ok (.iconst 1, 1) := dk_4 (dk_at dksX0_nets_2 19 rfl rfl)
theorem dX0_nets_66 : decode cX0_nets 66 = .ok (.isub, 1) := dk_100 (dk_at dksX0_nets_2 20 rfl rfl)
theorem dX0_nets_67 : decode cX0_nets 67 = .ok (.imul, 1) := dk_104 (dk_at dksX0_nets_2 21 rfl rfl)
theorem dX0_nets_68 : decode cX0_nets 68 = .ok (.ishl, 1) := dk_120 (dk_at dksX0_nets_2 22 rfl rfl)
theorem dX0_nets_69 : decode cX0_nets 69 = .ok (.if_icmp .ge 47, 3) := dk_162 0 47 (dk_at dksX0_nets_3 0 rfl rfl)
theorem dX0_nets_72 : decode cX0_nets 72 = .ok (.aload_n 0, 1) := dk_42 (dk_at dksX0_nets_3 3 rfl rfl)
theorem dX0_nets_73 : decode cX0_nets 73 = .ok (.iload_n 1, 1) := dk_27 (dk_at dksX0_nets_3 4 rfl rfl)
theorem dX0_nets_74 : decode cX0_nets 74 = .ok (.iload 7, 2) := dk_21 7 (dk_at dksX0_nets_3 5 rfl rfl)
theorem dX0_nets_76 : decode cX0_nets 76 = .ok (.invokevirtual 252, 3) := dk_182 0 252 (dk_at dksX0_nets_3 7 rfl rfl)
theorem dX0_nets_79 : decode cX0_nets 79 = .ok (.iload 6, 2) := dk_21 6 (dk_at dksX0_nets_3 10 rfl rfl)
theorem dX0_nets_81 : decode cX0_nets 81 = .ok (.aload_n 0, 1) := dk_42 (dk_at dksX0_nets_3 12 rfl rfl)
theorem dX0_nets_82 : decode cX0_nets 82 = .ok (.invokevirtual 228, 3) := dk_182 0 228 (dk_at dksX0_nets_3 13 rfl rfl)
theorem dX0_nets_85 : decode cX0_nets 85 = .ok (.ifCond .eq 21, 3) := dk_153 0 21 (dk_at dksX0_nets_3 16 rfl rfl)
theorem dX0_nets_88 : decode cX0_nets 88 = .ok (.iload_n 3, 1) := dk_29 (dk_at dksX0_nets_3 19 rfl rfl)
theorem dX0_nets_89 : decode cX0_nets 89 = .ok (.iconst 3, 1) := dk_6 (dk_at dksX0_nets_3 20 rfl rfl)
theorem dX0_nets_90 : decode cX0_nets 90 = .ok (.if_icmp .eq 12, 3) := dk_159 0 12 (dk_at dksX0_nets_3 21 rfl rfl)
theorem dX0_nets_93 : decode cX0_nets 93 = .ok (.aload_n 0, 1) := dk_42 (dk_at dksX0_nets_4 0 rfl rfl)
theorem dX0_nets_94 : decode cX0_nets 94 = .ok (.iload_n 2, 1) := dk_28 (dk_at dksX0_nets_4 1 rfl rfl)
theorem dX0_nets_95 : decode cX0_nets 95 = .ok (.invokevirtual 256, 3) := dk_182 1 0 (dk_at dksX0_nets_4 2 rfl rfl)
theorem dX0_nets_98 : decode cX0_nets 98 = .ok (.iload_n 3, 1) := dk_29 (dk_at dksX0_nets_4 5 rfl rfl)
theorem dX0_nets_99 : decode cX0_nets 99 = .ok (.if_icmp .ne 7, 3) := dk_160 0 7 (dk_at dksX0_nets_4 6 rfl rfl)
theorem dX0_nets_102 : decode cX0_nets 102 = .ok (.iconst 1, 1) := dk_4 (dk_at dksX0_nets_4 9 rfl rfl)
theorem dX0_nets_103 : decode cX0_nets 103 = .ok (.goto 4, 3) := dk_167 0 4 (dk_at dksX0_nets_4 10 rfl rfl)
theorem dX0_nets_106 : decode cX0_nets 106 = .ok (.iconst 0, 1) := dk_3 (dk_at dksX0_nets_4 13 rfl rfl)
theorem dX0_nets_107 : decode cX0_nets 107 = .ok (.iadd, 1) := dk_96 (dk_at dksX0_nets_4 14 rfl rfl)
theorem dX0_nets_108 : decode cX0_nets 108 = .ok (.istore 6, 2) := dk_54 6 (dk_at dksX0_nets_4 15 rfl rfl)
theorem dX0_nets_110 : decode cX0_nets 110 = .ok (.iinc 7 1, 3) := dk_132 7 1 (dk_at dksX0_nets_4 17 rfl rfl)
theorem dX0_nets_113 : decode cX0_nets 113 = .ok (.goto (-53), 3) := dk_167 255 203 (dk_at dksX0_nets_4 20 rfl rfl)
theorem dX0_nets_116 : decode cX0_nets 116 = .ok (.aload_n 0, 1) := dk_42 (dk_at dksX0_nets_4 23 rfl rfl)
theorem dX0_nets_117 : decode cX0_nets 117 = .ok (.iload 4, 2) := dk_21 4 (dk_at dksX0_nets_5 0 rfl rfl)
theorem dX0_nets_119 : decode cX0_nets 119 = .ok (.putfield 45, 3) := dk_181 0 45 (dk_at dksX0_nets_5 2 rfl rfl)
theorem dX0_nets_122 : decode cX0_nets 122 = .ok (.aload 5, 2) := dk_25 5 (dk_at dksX0_nets_5 5 rfl rfl)
theorem dX0_nets_124 : decode cX0_nets 124 = .ok (.iconst 0, 1) := dk_3 (dk_at dksX0_nets_5 7 rfl rfl)
theorem dX0_nets_125 : decode cX0_nets 125 = .ok (.aload_n 0, 1) := dk_42 (dk_at dksX0_nets_5 8 rfl rfl)
theorem dX0_nets_126 : decode cX0_nets 126 = .ok (.getfield 11, 3) := dk_180 0 11 (dk_at dksX0_nets_5 9 rfl rfl)
theorem dX0_nets_129 : decode cX0_nets 129 = .ok (.iconst 0, 1) := dk_3 (dk_at dksX0_nets_5 12 rfl rfl)
theorem dX0_nets_130 : decode cX0_nets 130 = .ok (.iconst 4, 1) := dk_7 (dk_at dksX0_nets_5 13 rfl rfl)
theorem dX0_nets_131 : decode cX0_nets 131 = .ok (.invokestatic 143, 3) := dk_184 0 143 (dk_at dksX0_nets_5 14 rfl rfl)
theorem dX0_nets_134 : decode cX0_nets 134 = .ok (.iload 6, 2) := dk_21 6 (dk_at dksX0_nets_5 17 rfl rfl)
theorem dX0_nets_136 : decode cX0_nets 136 = .ok (.ireturn, 1) := dk_172 (dk_at dksX0_nets_5 19 rfl rfl)
abbrev cX0_layNet : ByteArray := prog_1_method_46_code
def yX0_layNet : MethodName := ⟨RX0, "layNet", "(II)V"⟩
def dkwX0_layNet_3 : List UInt8 := [132, 4, 1, 167, 255, 194, 177]
abbrev dktX0_layNet_3 : List UInt8 := dkwX0_layNet_3 ++ []
def dkwX0_layNet_2 : List UInt8 := [21, 4, 92, 46, 29, 4, 126, 21, 5, 120, 128, 79, 29, 4, 122, 62, 132, 5, 1, 167, 255, 220]
abbrev dktX0_layNet_2 : List UInt8 := dkwX0_layNet_2 ++ dktX0_layNet_3
def dkwX0_layNet_1 : List UInt8 := [21, 4, 120, 79, 3, 54, 5, 21, 5, 27, 162, 0, 36, 21, 4, 21, 5, 159, 0, 23, 42, 180, 0, 11]
abbrev dktX0_layNet_1 : List UInt8 := dkwX0_layNet_1 ++ dktX0_layNet_2
def dkwX0_layNet_0 : List UInt8 := [42, 27, 181, 0, 45, 28, 62, 3, 54, 4, 21, 4, 27, 162, 0, 62, 42, 180, 0, 11, 21, 4, 4]
abbrev dktX0_layNet_0 : List UInt8 := dkwX0_layNet_0 ++ dktX0_layNet_1
theorem dksX0_layNet_0 : cX0_layNet.data.toList.drop 0 = dktX0_layNet_0 := by decide +kernel
theorem dksX0_layNet_1 : cX0_layNet.data.toList.drop 23 = dktX0_layNet_1 := dk_seg dksX0_layNet_0 23 rfl rfl
theorem dksX0_layNet_2 : cX0_layNet.data.toList.drop 47 = dktX0_layNet_2 := dk_seg dksX0_layNet_1 24 rfl rfl
theorem dksX0_layNet_3 : cX0_layNet.data.toList.drop 69 = dktX0_layNet_3 := dk_seg dksX0_layNet_2 22 rfl rfl
theorem dX0_layNet_0 : decode cX0_layNet 0 = .ok (.aload_n 0, 1) := dk_42 (dk_at dksX0_layNet_0 0 rfl rfl)
theorem dX0_layNet_1 : decode cX0_layNet 1 = .ok (.iload_n 1, 1) := dk_27 (dk_at dksX0_layNet_0 1 rfl rfl)
theorem dX0_layNet_2 : decode cX0_layNet 2 = .ok (.putfield 45, 3) := dk_181 0 45 (dk_at dksX0_layNet_0 2 rfl rfl)
theorem dX0_layNet_5 : decode cX0_layNet 5 = .ok (.iload_n 2, 1) := dk_28 (dk_at dksX0_layNet_0 5 rfl rfl)
theorem dX0_layNet_6 : decode cX0_layNet 6 = .ok (.istore_n 3, 1) := dk_62 (dk_at dksX0_layNet_0 6 rfl rfl)
theorem dX0_layNet_7 : decode cX0_layNet 7 = .ok (.iconst 0, 1) := dk_3 (dk_at dksX0_layNet_0 7 rfl rfl)
theorem dX0_layNet_8 : decode cX0_layNet 8 = .ok (.istore 4, 2) := dk_54 4 (dk_at dksX0_layNet_0 8 rfl rfl)
theorem dX0_layNet_10 : decode cX0_layNet 10 = .ok (.iload 4, 2) := dk_21 4 (dk_at dksX0_layNet_0 10 rfl rfl)
theorem dX0_layNet_12 : decode cX0_layNet 12 = .ok (.iload_n 1, 1) := dk_27 (dk_at dksX0_layNet_0 12 rfl rfl)
theorem dX0_layNet_13 : decode cX0_layNet 13 = .ok (.if_icmp .ge 62, 3) := dk_162 0 62 (dk_at dksX0_layNet_0 13 rfl rfl)
theorem dX0_layNet_16 : decode cX0_layNet 16 = .ok (.aload_n 0, 1) := dk_42 (dk_at dksX0_layNet_0 16 rfl rfl)
theorem dX0_layNet_17 : decode cX0_layNet 17 = .ok (.getfield 11, 3) := dk_180 0 11 (dk_at dksX0_layNet_0 17 rfl rfl)
theorem dX0_layNet_20 : decode cX0_layNet 20 = .ok (.iload 4, 2) := dk_21 4 (dk_at dksX0_layNet_0 20 rfl rfl)
theorem dX0_layNet_22 : decode cX0_layNet 22 = .ok (.iconst 1, 1) := dk_4 (dk_at dksX0_layNet_0 22 rfl rfl)
theorem dX0_layNet_23 : decode cX0_layNet 23 = .ok (.iload 4, 2) := dk_21 4 (dk_at dksX0_layNet_1 0 rfl rfl)
theorem dX0_layNet_25 : decode cX0_layNet 25 = .ok (.ishl, 1) := dk_120 (dk_at dksX0_layNet_1 2 rfl rfl)
theorem dX0_layNet_26 : decode cX0_layNet 26 = .ok (.iastore, 1) := dk_79 (dk_at dksX0_layNet_1 3 rfl rfl)
theorem dX0_layNet_27 : decode cX0_layNet 27 = .ok (.iconst 0, 1) := dk_3 (dk_at dksX0_layNet_1 4 rfl rfl)
theorem dX0_layNet_28 : decode cX0_layNet 28 = .ok (.istore 5, 2) := dk_54 5 (dk_at dksX0_layNet_1 5 rfl rfl)
theorem dX0_layNet_30 : decode cX0_layNet 30 = .ok (.iload 5, 2) := dk_21 5 (dk_at dksX0_layNet_1 7 rfl rfl)
theorem dX0_layNet_32 : decode cX0_layNet 32 = .ok (.iload_n 1, 1) := dk_27 (dk_at dksX0_layNet_1 9 rfl rfl)
theorem dX0_layNet_33 : decode cX0_layNet 33 = .ok (.if_icmp .ge 36, 3) := dk_162 0 36 (dk_at dksX0_layNet_1 10 rfl rfl)
theorem dX0_layNet_36 : decode cX0_layNet 36 = .ok (.iload 4, 2) := dk_21 4 (dk_at dksX0_layNet_1 13 rfl rfl)
theorem dX0_layNet_38 : decode cX0_layNet 38 = .ok (.iload 5, 2) := dk_21 5 (dk_at dksX0_layNet_1 15 rfl rfl)
theorem dX0_layNet_40 : decode cX0_layNet 40 = .ok (.if_icmp .eq 23, 3) := dk_159 0 23 (dk_at dksX0_layNet_1 17 rfl rfl)
theorem dX0_layNet_43 : decode cX0_layNet 43 = .ok (.aload_n 0, 1) := dk_42 (dk_at dksX0_layNet_1 20 rfl rfl)
theorem dX0_layNet_44 : decode cX0_layNet 44 = .ok (.getfield 11, 3) := dk_180 0 11 (dk_at dksX0_layNet_1 21 rfl rfl)
theorem dX0_layNet_47 : decode cX0_layNet 47 = .ok (.iload 4, 2) := dk_21 4 (dk_at dksX0_layNet_2 0 rfl rfl)
theorem dX0_layNet_49 : decode cX0_layNet 49 = .ok (.dup2, 1) := dk_92 (dk_at dksX0_layNet_2 2 rfl rfl)
theorem dX0_layNet_50 : decode cX0_layNet 50 = .ok (.iaload, 1) := dk_46 (dk_at dksX0_layNet_2 3 rfl rfl)
theorem dX0_layNet_51 : decode cX0_layNet 51 = .ok (.iload_n 3, 1) := dk_29 (dk_at dksX0_layNet_2 4 rfl rfl)
theorem dX0_layNet_52 : decode cX0_layNet 52 = .ok (.iconst 1, 1) := dk_4 (dk_at dksX0_layNet_2 5 rfl rfl)
theorem dX0_layNet_53 : decode cX0_layNet 53 = .ok (.iand, 1) := dk_126 (dk_at dksX0_layNet_2 6 rfl rfl)
theorem dX0_layNet_54 : decode cX0_layNet 54 = .ok (.iload 5, 2) := dk_21 5 (dk_at dksX0_layNet_2 7 rfl rfl)
theorem dX0_layNet_56 : decode cX0_layNet 56 = .ok (.ishl, 1) := dk_120 (dk_at dksX0_layNet_2 9 rfl rfl)
theorem dX0_layNet_57 : decode cX0_layNet 57 = .ok (.ior, 1) := dk_128 (dk_at dksX0_layNet_2 10 rfl rfl)
theorem dX0_layNet_58 : decode cX0_layNet 58 = .ok (.iastore, 1) := dk_79 (dk_at dksX0_layNet_2 11 rfl rfl)
theorem dX0_layNet_59 : decode cX0_layNet 59 = .ok (.iload_n 3, 1) := dk_29 (dk_at dksX0_layNet_2 12 rfl rfl)
theorem dX0_layNet_60 : decode cX0_layNet 60 = .ok (.iconst 1, 1) := dk_4 (dk_at dksX0_layNet_2 13 rfl rfl)
theorem dX0_layNet_61 : decode cX0_layNet 61 = .ok (.ishr, 1) := dk_122 (dk_at dksX0_layNet_2 14 rfl rfl)
theorem dX0_layNet_62 : decode cX0_layNet 62 = .ok (.istore_n 3, 1) := dk_62 (dk_at dksX0_layNet_2 15 rfl rfl)
theorem dX0_layNet_63 : decode cX0_layNet 63 = .ok (.iinc 5 1, 3) := dk_132 5 1 (dk_at dksX0_layNet_2 16 rfl rfl)
theorem dX0_layNet_66 : decode cX0_layNet 66 = .ok (.goto (-36), 3) := dk_167 255 220 (dk_at dksX0_layNet_2 19 rfl rfl)
theorem dX0_layNet_69 : decode cX0_layNet 69 = .ok (.iinc 4 1, 3) := dk_132 4 1 (dk_at dksX0_layNet_3 0 rfl rfl)
theorem dX0_layNet_72 : decode cX0_layNet 72 = .ok (.goto (-62), 3) := dk_167 255 194 (dk_at dksX0_layNet_3 3 rfl rfl)
theorem dX0_layNet_75 : decode cX0_layNet 75 = .ok (.return_, 1) := dk_177 (dk_at dksX0_layNet_3 6 rfl rfl)
abbrev cX0_within : ByteArray := prog_1_method_49_code
def yX0_within : MethodName := ⟨RX0, "within", "(II)I"⟩
def dkwX0_within_3 : List UInt8 := [153, 0, 7, 4, 167, 0, 4, 3, 172]
abbrev dktX0_within_3 : List UInt8 := dkwX0_within_3 ++ []
def dkwX0_within_2 : List UInt8 := [180, 0, 167, 4, 96, 181, 0, 167, 42, 27, 28, 42, 182, 0, 93, 42, 182, 0, 99, 182, 1, 3]
abbrev dktX0_within_2 : List UInt8 := dkwX0_within_2 ++ dktX0_within_3
def dkwX0_within_1 : List UInt8 := [164, 0, 11, 28, 4, 164, 0, 6, 16, 254, 172, 42, 180, 0, 45, 154, 0, 6, 16, 253, 172, 42, 89]
abbrev dktX0_within_1 : List UInt8 := dkwX0_within_1 ++ dktX0_within_2
def dkwX0_within_0 : List UInt8 := [27, 184, 0, 157, 154, 0, 10, 28, 184, 0, 157, 153, 0, 5, 2, 172, 27, 28, 159, 0, 16, 27, 4]
abbrev dktX0_within_0 : List UInt8 := dkwX0_within_0 ++ dktX0_within_1
theorem dksX0_within_0 : cX0_within.data.toList.drop 0 = dktX0_within_0 := by decide +kernel
theorem dksX0_within_1 : cX0_within.data.toList.drop 23 = dktX0_within_1 := dk_seg dksX0_within_0 23 rfl rfl
theorem dksX0_within_2 : cX0_within.data.toList.drop 46 = dktX0_within_2 := dk_seg dksX0_within_1 23 rfl rfl
theorem dksX0_within_3 : cX0_within.data.toList.drop 68 = dktX0_within_3 := dk_seg dksX0_within_2 22 rfl rfl
theorem dX0_within_0 : decode cX0_within 0 = .ok (.iload_n 1, 1) := dk_27 (dk_at dksX0_within_0 0 rfl rfl)
theorem dX0_within_1 : decode cX0_within 1 = .ok (.invokestatic 157, 3) := dk_184 0 157 (dk_at dksX0_within_0 1 rfl rfl)
theorem dX0_within_4 : decode cX0_within 4 = .ok (.ifCond .ne 10, 3) := dk_154 0 10 (dk_at dksX0_within_0 4 rfl rfl)
theorem dX0_within_7 : decode cX0_within 7 = .ok (.iload_n 2, 1) := dk_28 (dk_at dksX0_within_0 7 rfl rfl)
theorem dX0_within_8 : decode cX0_within 8 = .ok (.invokestatic 157, 3) := dk_184 0 157 (dk_at dksX0_within_0 8 rfl rfl)
theorem dX0_within_11 : decode cX0_within 11 = .ok (.ifCond .eq 5, 3) := dk_153 0 5 (dk_at dksX0_within_0 11 rfl rfl)
theorem dX0_within_14 : decode cX0_within 14 = .ok (.iconst (-1), 1) := dk_2 (dk_at dksX0_within_0 14 rfl rfl)
theorem dX0_within_15 : decode cX0_within 15 = .ok (.ireturn, 1) := dk_172 (dk_at dksX0_within_0 15 rfl rfl)
theorem dX0_within_16 : decode cX0_within 16 = .ok (.iload_n 1, 1) := dk_27 (dk_at dksX0_within_0 16 rfl rfl)
theorem dX0_within_17 : decode cX0_within 17 = .ok (.iload_n 2, 1) := dk_28 (dk_at dksX0_within_0 17 rfl rfl)
theorem dX0_within_18 : decode cX0_within 18 = .ok (.if_icmp .eq 16, 3) := dk_159 0 16 (dk_at dksX0_within_0 18 rfl rfl)
theorem dX0_within_21 : decode cX0_within 21 = .ok (.iload_n 1, 1) := dk_27 (dk_at dksX0_within_0 21 rfl rfl)
theorem dX0_within_22 : decode cX0_within 22 = .ok (.iconst 1, 1) := dk_4 (dk_at dksX0_within_0 22 rfl rfl)
theorem dX0_within_23 : decode cX0_within 23 = .ok (.if_icmp .le 11, 3) := dk_164 0 11 (dk_at dksX0_within_1 0 rfl rfl)
theorem dX0_within_26 : decode cX0_within 26 = .ok (.iload_n 2, 1) := dk_28 (dk_at dksX0_within_1 3 rfl rfl)
theorem dX0_within_27 : decode cX0_within 27 = .ok (.iconst 1, 1) := dk_4 (dk_at dksX0_within_1 4 rfl rfl)
theorem dX0_within_28 : decode cX0_within 28 = .ok (.if_icmp .le 6, 3) := dk_164 0 6 (dk_at dksX0_within_1 5 rfl rfl)
theorem dX0_within_31 : decode cX0_within 31 = .ok (.bipush (-2), 2) := dk_16 254 (dk_at dksX0_within_1 8 rfl rfl)
theorem dX0_within_33 : decode cX0_within 33 = .ok (.ireturn, 1) := dk_172 (dk_at dksX0_within_1 10 rfl rfl)
theorem dX0_within_34 : decode cX0_within 34 = .ok (.aload_n 0, 1) := dk_42 (dk_at dksX0_within_1 11 rfl rfl)
theorem dX0_within_35 : decode cX0_within 35 = .ok (.getfield 45, 3) := dk_180 0 45 (dk_at dksX0_within_1 12 rfl rfl)
theorem dX0_within_38 : decode cX0_within 38 = .ok (.ifCond .ne 6, 3) := dk_154 0 6 (dk_at dksX0_within_1 15 rfl rfl)
theorem dX0_within_41 : decode cX0_within 41 = .ok (.bipush (-3), 2) := dk_16 253 (dk_at dksX0_within_1 18 rfl rfl)
theorem dX0_within_43 : decode cX0_within 43 = .ok (.ireturn, 1) := dk_172 (dk_at dksX0_within_1 20 rfl rfl)
theorem dX0_within_44 : decode cX0_within 44 = .ok (.aload_n 0, 1) := dk_42 (dk_at dksX0_within_1 21 rfl rfl)
theorem dX0_within_45 : decode cX0_within 45 = .ok (.dup, 1) := dk_89 (dk_at dksX0_within_1 22 rfl rfl)
theorem dX0_within_46 : decode cX0_within 46 = .ok (.getfield 167, 3) := dk_180 0 167 (dk_at dksX0_within_2 0 rfl rfl)
theorem dX0_within_49 : decode cX0_within 49 = .ok (.iconst 1, 1) := dk_4 (dk_at dksX0_within_2 3 rfl rfl)
theorem dX0_within_50 : decode cX0_within 50 = .ok (.iadd, 1) := dk_96 (dk_at dksX0_within_2 4 rfl rfl)
theorem dX0_within_51 : decode cX0_within 51 = .ok (.putfield 167, 3) := dk_181 0 167 (dk_at dksX0_within_2 5 rfl rfl)
theorem dX0_within_54 : decode cX0_within 54 = .ok (.aload_n 0, 1) := dk_42 (dk_at dksX0_within_2 8 rfl rfl)
theorem dX0_within_55 : decode cX0_within 55 = .ok (.iload_n 1, 1) := dk_27 (dk_at dksX0_within_2 9 rfl rfl)
theorem dX0_within_56 : decode cX0_within 56 = .ok (.iload_n 2, 1) := dk_28 (dk_at dksX0_within_2 10 rfl rfl)
theorem dX0_within_57 : decode cX0_within 57 = .ok (.aload_n 0, 1) := dk_42 (dk_at dksX0_within_2 11 rfl rfl)
theorem dX0_within_58 : decode cX0_within 58 = .ok (.invokevirtual 93, 3) := dk_182 0 93 (dk_at dksX0_within_2 12 rfl rfl)
theorem dX0_within_61 : decode cX0_within 61 = .ok (.aload_n 0, 1) := dk_42 (dk_at dksX0_within_2 15 rfl rfl)
theorem dX0_within_62 : decode cX0_within 62 = .ok (.invokevirtual 99, 3) := dk_182 0 99 (dk_at dksX0_within_2 16 rfl rfl)
theorem dX0_within_65 : decode cX0_within 65 = .ok (.invokevirtual 259, 3) := dk_182 1 3 (dk_at dksX0_within_2 19 rfl rfl)
theorem dX0_within_68 : decode cX0_within 68 = .ok (.ifCond .eq 7, 3) := dk_153 0 7 (dk_at dksX0_within_3 0 rfl rfl)
theorem dX0_within_71 : decode cX0_within 71 = .ok (.iconst 1, 1) := dk_4 (dk_at dksX0_within_3 3 rfl rfl)
theorem dX0_within_72 : decode cX0_within 72 = .ok (.goto 4, 3) := dk_167 0 4 (dk_at dksX0_within_3 4 rfl rfl)
theorem dX0_within_75 : decode cX0_within 75 = .ok (.iconst 0, 1) := dk_3 (dk_at dksX0_within_3 7 rfl rfl)
theorem dX0_within_76 : decode cX0_within 76 = .ok (.ireturn, 1) := dk_172 (dk_at dksX0_within_3 8 rfl rfl)
abbrev cX0_isWithin : ByteArray := prog_1_method_48_code
def yX0_isWithin : MethodName := ⟨RX0, "isWithin", "(IIII)Z"⟩
def dkwX0_isWithin_5 : List UInt8 := [182, 1, 3, 154, 0, 5, 3, 172, 132, 7, 1, 167, 255, 186, 132, 6, 1, 167, 255, 168, 4, 172]
abbrev dktX0_isWithin_5 : List UInt8 := dkwX0_isWithin_5 ++ []
def dkwX0_isWithin_4 : List UInt8 := [153, 0, 29, 42, 27, 28, 29, 21, 6, 21, 7, 184, 0, 170, 21, 4, 21, 6, 21, 7, 184, 0, 102]
abbrev dktX0_isWithin_4 : List UInt8 := dkwX0_isWithin_4 ++ dktX0_isWithin_5
def dkwX0_isWithin_3 : List UInt8 := [21, 6, 21, 7, 182, 0, 160, 153, 0, 46, 42, 28, 29, 21, 4, 21, 6, 21, 7, 182, 0, 160]
abbrev dktX0_isWithin_3 : List UInt8 := dkwX0_isWithin_3 ++ dktX0_isWithin_4
def dkwX0_isWithin_2 : List UInt8 := [180, 0, 45, 162, 0, 85, 3, 54, 7, 21, 7, 42, 180, 0, 45, 162, 0, 67, 42, 27, 29, 21, 4]
abbrev dktX0_isWithin_2 : List UInt8 := dkwX0_isWithin_2 ++ dktX0_isWithin_3
def dkwX0_isWithin_1 : List UInt8 := [160, 0, 5, 4, 172, 42, 180, 0, 23, 21, 5, 42, 180, 0, 167, 79, 3, 54, 6, 21, 6, 42]
abbrev dktX0_isWithin_1 : List UInt8 := dkwX0_isWithin_1 ++ dktX0_isWithin_2
def dkwX0_isWithin_0 : List UInt8 := [27, 28, 184, 0, 181, 29, 21, 4, 184, 0, 164, 54, 5, 42, 180, 0, 23, 21, 5, 46, 42, 180, 0, 167]
abbrev dktX0_isWithin_0 : List UInt8 := dkwX0_isWithin_0 ++ dktX0_isWithin_1
theorem dksX0_isWithin_0 : cX0_isWithin.data.toList.drop 0 = dktX0_isWithin_0 := by decide +kernel
theorem dksX0_isWithin_1 : cX0_isWithin.data.toList.drop 24 = dktX0_isWithin_1 := dk_seg dksX0_isWithin_0 24 rfl rfl
theorem dksX0_isWithin_2 : cX0_isWithin.data.toList.drop 46 = dktX0_isWithin_2 := dk_seg dksX0_isWithin_1 22 rfl rfl
theorem dksX0_isWithin_3 : cX0_isWithin.data.toList.drop 69 = dktX0_isWithin_3 := dk_seg dksX0_isWithin_2 23 rfl rfl
theorem dksX0_isWithin_4 : cX0_isWithin.data.toList.drop 91 = dktX0_isWithin_4 := dk_seg dksX0_isWithin_3 22 rfl rfl
theorem dksX0_isWithin_5 : cX0_isWithin.data.toList.drop 114 = dktX0_isWithin_5 := dk_seg dksX0_isWithin_4 23 rfl rfl
theorem dX0_isWithin_0 : decode cX0_isWithin 0 = .ok (.iload_n 1, 1) := dk_27 (dk_at dksX0_isWithin_0 0 rfl rfl)
theorem dX0_isWithin_1 : decode cX0_isWithin 1 = .ok (.iload_n 2, 1) := dk_28 (dk_at dksX0_isWithin_0 1 rfl rfl)
theorem dX0_isWithin_2 : decode cX0_isWithin 2 = .ok (.invokestatic 181, 3) := dk_184 0 181 (dk_at dksX0_isWithin_0 2 rfl rfl)
theorem dX0_isWithin_5 : decode cX0_isWithin 5 = .ok (.iload_n 3, 1) := dk_29 (dk_at dksX0_isWithin_0 5 rfl rfl)
theorem dX0_isWithin_6 : decode cX0_isWithin 6 = .ok (.iload 4, 2) := dk_21 4 (dk_at dksX0_isWithin_0 6 rfl rfl)
theorem dX0_isWithin_8 : decode cX0_isWithin 8 = .ok (.invokestatic 164, 3) := dk_184 0 164 (dk_at dksX0_isWithin_0 8 rfl rfl)
theorem dX0_isWithin_11 : decode cX0_isWithin 11 = .ok (.istore 5, 2) := dk_54 5 (dk_at dksX0_isWithin_0 11 rfl rfl)
theorem dX0_isWithin_13 : decode cX0_isWithin 13 = .ok (.aload_n 0, 1) := dk_42 (dk_at dksX0_isWithin_0 13 rfl rfl)
theorem dX0_isWithin_14 : decode cX0_isWithin 14 = .ok (.getfield 23, 3) := dk_180 0 23 (dk_at dksX0_isWithin_0 14 rfl rfl)
theorem dX0_isWithin_17 : decode cX0_isWithin 17 = .ok (.iload 5, 2) := dk_21 5 (dk_at dksX0_isWithin_0 17 rfl rfl)
theorem dX0_isWithin_19 : decode cX0_isWithin 19 = .ok (.iaload, 1) := dk_46 (dk_at dksX0_isWithin_0 19 rfl rfl)
theorem dX0_isWithin_20 : decode cX0_isWithin 20 = .ok (.aload_n 0, 1) := dk_42 (dk_at dksX0_isWithin_0 20 rfl rfl)
theorem dX0_isWithin_21 : decode cX0_isWithin 21 = .ok (.getfield 167, 3) := dk_180 0 167 (dk_at dksX0_isWithin_0 21 rfl rfl)
theorem dX0_isWithin_24 : decode cX0_isWithin 24 = .ok (.if_icmp .ne 5, 3) := dk_160 0 5 (dk_at dksX0_isWithin_1 0 rfl rfl)
theorem dX0_isWithin_27 : decode cX0_isWithin 27 = .ok (.iconst 1, 1) := dk_4 (dk_at dksX0_isWithin_1 3 rfl rfl)
theorem dX0_isWithin_28 : decode cX0_isWithin 28 = .ok (.ireturn, 1) := dk_172 (dk_at dksX0_isWithin_1 4 rfl rfl)
theorem dX0_isWithin_29 : decode cX0_isWithin 29 = .ok (.aload_n 0, 1) := dk_42 (dk_at dksX0_isWithin_1 5 rfl rfl)
theorem dX0_isWithin_30 : decode cX0_isWithin 30 = .ok (.getfield 23, 3) := dk_180 0 23 (dk_at dksX0_isWithin_1 6 rfl rfl)
theorem dX0_isWithin_33 : decode cX0_isWithin 33 = .ok (.iload 5, 2) := dk_21 5 (dk_at dksX0_isWithin_1 9 rfl rfl)
theorem dX0_isWithin_35 : decode cX0_isWithin 35 = .ok (.aload_n 0, 1) := dk_42 (dk_at dksX0_isWithin_1 11 rfl rfl)
theorem dX0_isWithin_36 : decode cX0_isWithin 36 = .ok (.getfield 167, 3) := dk_180 0 167 (dk_at dksX0_isWithin_1 12 rfl rfl)
theorem dX0_isWithin_39 : decode cX0_isWithin 39 = .ok (.iastore, 1) := dk_79 (dk_at dksX0_isWithin_1 15 rfl rfl)
theorem dX0_isWithin_40 : decode cX0_isWithin 40 = .ok (.iconst 0, 1) := dk_3 (dk_at dksX0_isWithin_1 16 rfl rfl)
theorem dX0_isWithin_41 : decode cX0_isWithin 41 = .ok (.istore 6, 2) := dk_54 6 (dk_at dksX0_isWithin_1 17 rfl rfl)
theorem dX0_isWithin_43 : decode cX0_isWithin 43 = .ok (.iload 6, 2) := dk_21 6 (dk_at dksX0_isWithin_1 19 rfl rfl)
theorem dX0_isWithin_45 : decode cX0_isWithin 45 = .ok (.aload_n 0, 1) := dk_42 (dk_at dksX0_isWithin_1 21 rfl rfl)
theorem dX0_isWithin_46 : decode cX0_isWithin 46 = .ok (.getfield 45, 3) := dk_180 0 45 (dk_at dksX0_isWithin_2 0 rfl rfl)
theorem dX0_isWithin_49 : decode cX0_isWithin 49 = .ok (.if_icmp .ge 85, 3) := dk_162 0 85 (dk_at dksX0_isWithin_2 3 rfl rfl)
theorem dX0_isWithin_52 : decode cX0_isWithin 52 = .ok (.iconst 0, 1) := dk_3 (dk_at dksX0_isWithin_2 6 rfl rfl)
theorem dX0_isWithin_53 : decode cX0_isWithin 53 = .ok (.istore 7, 2) := dk_54 7 (dk_at dksX0_isWithin_2 7 rfl rfl)
theorem dX0_isWithin_55 : decode cX0_isWithin 55 = .ok (.iload 7, 2) := dk_21 7 (dk_at dksX0_isWithin_2 9 rfl rfl)
theorem dX0_isWithin_57 : decode cX0_isWithin 57 = .ok (.aload_n 0, 1) := dk_42 (dk_at dksX0_isWithin_2 11 rfl rfl)
theorem dX0_isWithin_58 : decode cX0_isWithin 58 = .ok (.getfield 45, 3) := dk_180 0 45 (dk_at dksX0_isWithin_2 12 rfl rfl)
theorem dX0_isWithin_61 : decode cX0_isWithin 61 = .ok (.if_icmp .ge 67, 3) := dk_162 0 67 (dk_at dksX0_isWithin_2 15 rfl rfl)
theorem dX0_isWithin_64 : decode cX0_isWithin 64 = .ok (.aload_n 0, 1) := dk_42 (dk_at dksX0_isWithin_2 18 rfl rfl)
theorem dX0_isWithin_65 : decode cX0_isWithin 65 = .ok (.iload_n 1, 1) := dk_27 (dk_at dksX0_isWithin_2 19 rfl rfl)
theorem dX0_isWithin_66 : decode cX0_isWithin 66 = .ok (.iload_n 3, 1) := dk_29 (dk_at dksX0_isWithin_2 20 rfl rfl)
theorem dX0_isWithin_67 : decode cX0_isWithin 67 = .ok (.iload 4, 2) := dk_21 4 (dk_at dksX0_isWithin_2 21 rfl rfl)
theorem dX0_isWithin_69 : decode cX0_isWithin 69 = .ok (.iload 6, 2) := dk_21 6 (dk_at dksX0_isWithin_3 0 rfl rfl)
theorem dX0_isWithin_71 : decode cX0_isWithin 71 = .ok (.iload 7, 2) := dk_21 7 (dk_at dksX0_isWithin_3 2 rfl rfl)
theorem dX0_isWithin_73 : decode cX0_isWithin 73 = .ok (.invokevirtual 160, 3) := dk_182 0 160 (dk_at dksX0_isWithin_3 4 rfl rfl)
theorem dX0_isWithin_76 : decode cX0_isWithin 76 = .ok (.ifCond .eq 46, 3) := dk_153 0 46 (dk_at dksX0_isWithin_3 7 rfl rfl)
theorem dX0_isWithin_79 : decode cX0_isWithin 79 = .ok (.aload_n 0, 1) := dk_42 (dk_at dksX0_isWithin_3 10 rfl rfl)
theorem dX0_isWithin_80 : decode cX0_isWithin 80 = .ok (.iload_n 2, 1) := dk_28 (dk_at dksX0_isWithin_3 11 rfl rfl)
theorem dX0_isWithin_81 : decode cX0_isWithin 81 = .ok (.iload_n 3, 1) := dk_29 (dk_at dksX0_isWithin_3 12 rfl rfl)
theorem dX0_isWithin_82 : decode cX0_isWithin 82 = .ok (.iload 4, 2) := dk_21 4 (dk_at dksX0_isWithin_3 13 rfl rfl)
theorem dX0_isWithin_84 : decode cX0_isWithin 84 = .ok (.iload 6, 2) := dk_21 6 (dk_at dksX0_isWithin_3 15 rfl rfl)
theorem dX0_isWithin_86 : decode cX0_isWithin 86 = .ok (.iload 7, 2) := dk_21 7 (dk_at dksX0_isWithin_3 17 rfl rfl)
theorem dX0_isWithin_88 : decode cX0_isWithin 88 = .ok (.invokevirtual 160, 3) := dk_182 0 160 (dk_at dksX0_isWithin_3 19 rfl rfl)
theorem dX0_isWithin_91 : decode cX0_isWithin 91 = .ok (.ifCond .eq 29, 3) := dk_153 0 29 (dk_at dksX0_isWithin_4 0 rfl rfl)
theorem dX0_isWithin_94 : decode cX0_isWithin 94 = .ok (.aload_n 0, 1) := dk_42 (dk_at dksX0_isWithin_4 3 rfl rfl)
theorem dX0_isWithin_95 : decode cX0_isWithin 95 = .ok (.iload_n 1, 1) := dk_27 (dk_at dksX0_isWithin_4 4 rfl rfl)
theorem dX0_isWithin_96 : decode cX0_isWithin 96 = .ok (.iload_n 2, 1) := dk_28 (dk_at dksX0_isWithin_4 5 rfl rfl)
theorem dX0_isWithin_97 : decode cX0_isWithin 97 = .ok (.iload_n 3, 1) := dk_29 (dk_at dksX0_isWithin_4 6 rfl rfl)
theorem dX0_isWithin_98 : decode cX0_isWithin 98 = .ok (.iload 6, 2) := dk_21 6 (dk_at dksX0_isWithin_4 7 rfl rfl)
theorem dX0_isWithin_100 : decode cX0_isWithin 100 = .ok (.iload 7, 2) := dk_21 7 (dk_at dksX0_isWithin_4 9 rfl rfl)
theorem dX0_isWithin_102 : decode cX0_isWithin 102 = .ok (.invokestatic 170, 3) := dk_184 0 170 (dk_at dksX0_isWithin_4 11 rfl rfl)
theorem dX0_isWithin_105 : decode cX0_isWithin 105 = .ok (.iload 4, 2) := dk_21 4 (dk_at dksX0_isWithin_4 14 rfl rfl)
theorem dX0_isWithin_107 : decode cX0_isWithin 107 = .ok (.iload 6, 2) := dk_21 6 (dk_at dksX0_isWithin_4 16 rfl rfl)
theorem dX0_isWithin_109 : decode cX0_isWithin 109 = .ok (.iload 7, 2) := dk_21 7 (dk_at dksX0_isWithin_4 18 rfl rfl)
theorem dX0_isWithin_111 : decode cX0_isWithin 111 = .ok (.invokestatic 102, 3) := dk_184 0 102 (dk_at dksX0_isWithin_4 20 rfl rfl)
theorem dX0_isWithin_114 : decode cX0_isWithin 114 = .ok (.invokevirtual 259, 3) := dk_182 1 3 (dk_at dksX0_isWithin_5 0 rfl rfl)
theorem dX0_isWithin_117 : decode cX0_isWithin 117 = .ok (.ifCond .ne 5, 3) := dk_154 0 5 (dk_at dksX0_isWithin_5 3 rfl rfl)
theorem dX0_isWithin_120 : decode cX0_isWithin 120 = .ok (.iconst 0, 1) := dk_3 (dk_at dksX0_isWithin_5 6 rfl rfl)
theorem dX0_isWithin_121 : decode cX0_isWithin 121 = .ok (.ireturn, 1) := dk_172 (dk_at dksX0_isWithin_5 7 rfl rfl)
theorem dX0_isWithin_122 : decode cX0_isWithin 122 = .ok (.iinc 7 1, 3) := dk_132 7 1 (dk_at dksX0_isWithin_5 8 rfl rfl)
theorem dX0_isWithin_125 : decode cX0_isWithin 125 = .ok (.goto (-70), 3) := dk_167 255 186 (dk_at dksX0_isWithin_5 11 rfl rfl)
theorem dX0_isWithin_128 : decode cX0_isWithin 128 = .ok (.iinc 6 1, 3) := dk_132 6 1 (dk_at dksX0_isWithin_5 14 rfl rfl)
theorem dX0_isWithin_131 : decode cX0_isWithin 131 = .ok (.goto (-88), 3) := dk_167 255 168 (dk_at dksX0_isWithin_5 17 rfl rfl)
theorem dX0_isWithin_134 : decode cX0_isWithin 134 = .ok (.iconst 1, 1) := dk_4 (dk_at dksX0_isWithin_5 20 rfl rfl)
theorem dX0_isWithin_135 : decode cX0_isWithin 135 = .ok (.ireturn, 1) := dk_172 (dk_at dksX0_isWithin_5 21 rfl rfl)
abbrev cX0_sheet : ByteArray := prog_1_method_59_code
def yX0_sheet : MethodName := ⟨RX0, "sheet", "(III)I"⟩
def dkwX0_sheet_3 : List UInt8 := [182, 1, 35, 172]
abbrev dktX0_sheet_3 : List UInt8 := dkwX0_sheet_3 ++ []
def dkwX0_sheet_2 : List UInt8 := [180, 0, 41, 27, 187, 0, 39, 89, 28, 29, 184, 1, 26, 183, 1, 30, 83, 4, 172, 58, 4, 42, 7]
abbrev dktX0_sheet_2 : List UInt8 := dkwX0_sheet_2 ++ dktX0_sheet_3
def dkwX0_sheet_1 : List UInt8 := [153, 0, 9, 29, 16, 60, 164, 0, 10, 42, 16, 254, 182, 1, 21, 172, 42, 3, 181, 1, 7, 42]
abbrev dktX0_sheet_1 : List UInt8 := dkwX0_sheet_1 ++ dktX0_sheet_2
def dkwX0_sheet_0 : List UInt8 := [27, 184, 1, 18, 153, 0, 9, 42, 2, 182, 1, 21, 172, 28, 133, 9, 20, 1, 24, 184, 0, 49]
abbrev dktX0_sheet_0 : List UInt8 := dkwX0_sheet_0 ++ dktX0_sheet_1
theorem dksX0_sheet_0 : cX0_sheet.data.toList.drop 0 = dktX0_sheet_0 := by decide +kernel
theorem dksX0_sheet_1 : cX0_sheet.data.toList.drop 22 = dktX0_sheet_1 := dk_seg dksX0_sheet_0 22 rfl rfl
theorem dksX0_sheet_2 : cX0_sheet.data.toList.drop 44 = dktX0_sheet_2 := dk_seg dksX0_sheet_1 22 rfl rfl
theorem dksX0_sheet_3 : cX0_sheet.data.toList.drop 67 = dktX0_sheet_3 := dk_seg dksX0_sheet_2 23 rfl rfl
theorem dX0_sheet_0 : decode cX0_sheet 0 = .ok (.iload_n 1, 1) := dk_27 (dk_at dksX0_sheet_0 0 rfl rfl)
theorem dX0_sheet_1 : decode cX0_sheet 1 = .ok (.invokestatic 274, 3) := dk_184 1 18 (dk_at dksX0_sheet_0 1 rfl rfl)
theorem dX0_sheet_4 : decode cX0_sheet 4 = .ok (.ifCond .eq 9, 3) := dk_153 0 9 (dk_at dksX0_sheet_0 4 rfl rfl)
theorem dX0_sheet_7 : decode cX0_sheet 7 = .ok (.aload_n 0, 1) := dk_42 (dk_at dksX0_sheet_0 7 rfl rfl)
theorem dX0_sheet_8 : decode cX0_sheet 8 = .ok (.iconst (-1), 1) := dk_2 (dk_at dksX0_sheet_0 8 rfl rfl)
theorem dX0_sheet_9 : decode cX0_sheet 9 = .ok (.invokevirtual 277, 3) := dk_182 1 21 (dk_at dksX0_sheet_0 9 rfl rfl)
theorem dX0_sheet_12 : decode cX0_sheet 12 = .ok (.ireturn, 1) := dk_172 (dk_at dksX0_sheet_0 12 rfl rfl)
theorem dX0_sheet_13 : decode cX0_sheet 13 = .ok (.iload_n 2, 1) := dk_28 (dk_at dksX0_sheet_0 13 rfl rfl)
theorem dX0_sheet_14 : decode cX0_sheet 14 = .ok (.i2l, 1) := dk_133 (dk_at dksX0_sheet_0 14 rfl rfl)
theorem dX0_sheet_15 : decode cX0_sheet 15 = .ok (.lconst 0, 1) := dk_9 (dk_at dksX0_sheet_0 15 rfl rfl)
theorem dX0_sheet_16 : decode cX0_sheet 16 = .ok (.ldc2_w 280, 3) := dk_20 1 24 (dk_at dksX0_sheet_0 16 rfl rfl)
theorem dX0_sheet_19 : decode cX0_sheet 19 = .ok (.invokestatic 49, 3) := dk_184 0 49 (dk_at dksX0_sheet_0 19 rfl rfl)
theorem dX0_sheet_22 : decode cX0_sheet 22 = .ok (.ifCond .eq 9, 3) := dk_153 0 9 (dk_at dksX0_sheet_1 0 rfl rfl)
theorem dX0_sheet_25 : decode cX0_sheet 25 = .ok (.iload_n 3, 1) := dk_29 (dk_at dksX0_sheet_1 3 rfl rfl)
theorem dX0_sheet_26 : decode cX0_sheet 26 = .ok (.bipush 60, 2) := dk_16 60 (dk_at dksX0_sheet_1 4 rfl rfl)
theorem dX0_sheet_28 : decode cX0_sheet 28 = .ok (.if_icmp .le 10, 3) := dk_164 0 10 (dk_at dksX0_sheet_1 6 rfl rfl)
theorem dX0_sheet_31 : decode cX0_sheet 31 = .ok (.aload_n 0, 1) := dk_42 (dk_at dksX0_sheet_1 9 rfl rfl)
theorem dX0_sheet_32 : decode cX0_sheet 32 = .ok (.bipush (-2), 2) := dk_16 254 (dk_at dksX0_sheet_1 10 rfl rfl)
theorem dX0_sheet_34 : decode cX0_sheet 34 = .ok (.invokevirtual 277, 3) := dk_182 1 21 (dk_at dksX0_sheet_1 12 rfl rfl)
theorem dX0_sheet_37 : decode cX0_sheet 37 = .ok (.ireturn, 1) := dk_172 (dk_at dksX0_sheet_1 15 rfl rfl)
theorem dX0_sheet_38 : decode cX0_sheet 38 = .ok (.aload_n 0, 1) := dk_42 (dk_at dksX0_sheet_1 16 rfl rfl)
theorem dX0_sheet_39 : decode cX0_sheet 39 = .ok (.iconst 0, 1) := dk_3 (dk_at dksX0_sheet_1 17 rfl rfl)
theorem dX0_sheet_40 : decode cX0_sheet 40 = .ok (.putfield 263, 3) := dk_181 1 7 (dk_at dksX0_sheet_1 18 rfl rfl)
theorem dX0_sheet_43 : decode cX0_sheet 43 = .ok (.aload_n 0, 1) := dk_42 (dk_at dksX0_sheet_1 21 rfl rfl)
theorem dX0_sheet_44 : decode cX0_sheet 44 = .ok (.getfield 41, 3) := dk_180 0 41 (dk_at dksX0_sheet_2 0 rfl rfl)
theorem dX0_sheet_47 : decode cX0_sheet 47 = .ok (.iload_n 1, 1) := dk_27 (dk_at dksX0_sheet_2 3 rfl rfl)
theorem dX0_sheet_48 : decode cX0_sheet 48 = .ok (.new 39, 3) := dk_187 0 39 (dk_at dksX0_sheet_2 4 rfl rfl)
theorem dX0_sheet_51 : decode cX0_sheet 51 = .ok (.dup, 1) := dk_89 (dk_at dksX0_sheet_2 7 rfl rfl)
theorem dX0_sheet_52 : decode cX0_sheet 52 = .ok (.iload_n 2, 1) := dk_28 (dk_at dksX0_sheet_2 8 rfl rfl)
theorem dX0_sheet_53 : decode cX0_sheet 53 = .ok (.iload_n 3, 1) := dk_29 (dk_at dksX0_sheet_2 9 rfl rfl)
theorem dX0_sheet_54 : decode cX0_sheet 54 = .ok (.invokestatic 282, 3) := dk_184 1 26 (dk_at dksX0_sheet_2 10 rfl rfl)
theorem dX0_sheet_57 : decode cX0_sheet 57 = .ok (.invokespecial 286, 3) := dk_183 1 30 (dk_at dksX0_sheet_2 13 rfl rfl)
theorem dX0_sheet_60 : decode cX0_sheet 60 = .ok (.aastore, 1) := dk_83 (dk_at dksX0_sheet_2 16 rfl rfl)
theorem dX0_sheet_61 : decode cX0_sheet 61 = .ok (.iconst 1, 1) := dk_4 (dk_at dksX0_sheet_2 17 rfl rfl)
theorem dX0_sheet_62 : decode cX0_sheet 62 = .ok (.ireturn, 1) := dk_172 (dk_at dksX0_sheet_2 18 rfl rfl)
theorem dX0_sheet_63 : decode cX0_sheet 63 = .ok (.astore 4, 2) := dk_58 4 (dk_at dksX0_sheet_2 19 rfl rfl)
theorem dX0_sheet_65 : decode cX0_sheet 65 = .ok (.aload_n 0, 1) := dk_42 (dk_at dksX0_sheet_2 21 rfl rfl)
theorem dX0_sheet_66 : decode cX0_sheet 66 = .ok (.iconst 4, 1) := dk_7 (dk_at dksX0_sheet_2 22 rfl rfl)
theorem dX0_sheet_67 : decode cX0_sheet 67 = .ok (.invokevirtual 291, 3) := dk_182 1 35 (dk_at dksX0_sheet_3 0 rfl rfl)
theorem dX0_sheet_70 : decode cX0_sheet 70 = .ok (.ireturn, 1) := dk_172 (dk_at dksX0_sheet_3 3 rfl rfl)
abbrev cX0_noSheet : ByteArray := prog_1_method_57_code
def yX0_noSheet : MethodName := ⟨RX0, "noSheet", "(I)Z"⟩
def dkwX0_noSheet_0 : List UInt8 := [26, 133, 9, 20, 0, 152, 184, 0, 49, 154, 0, 7, 4, 167, 0, 4, 3, 172]
abbrev dktX0_noSheet_0 : List UInt8 := dkwX0_noSheet_0 ++ []
theorem dksX0_noSheet_0 : cX0_noSheet.data.toList.drop 0 = dktX0_noSheet_0 := by decide +kernel
theorem dX0_noSheet_0 : decode cX0_noSheet 0 = .ok (.iload_n 0, 1) := dk_26 (dk_at dksX0_noSheet_0 0 rfl rfl)
theorem dX0_noSheet_1 : decode cX0_noSheet 1 = .ok (.i2l, 1) := dk_133 (dk_at dksX0_noSheet_0 1 rfl rfl)
theorem dX0_noSheet_2 : decode cX0_noSheet 2 = .ok (.lconst 0, 1) := dk_9 (dk_at dksX0_noSheet_0 2 rfl rfl)
theorem dX0_noSheet_3 : decode cX0_noSheet 3 = .ok (.ldc2_w 152, 3) := dk_20 0 152 (dk_at dksX0_noSheet_0 3 rfl rfl)
theorem dX0_noSheet_6 : decode cX0_noSheet 6 = .ok (.invokestatic 49, 3) := dk_184 0 49 (dk_at dksX0_noSheet_0 6 rfl rfl)
theorem dX0_noSheet_9 : decode cX0_noSheet 9 = .ok (.ifCond .ne 7, 3) := dk_154 0 7 (dk_at dksX0_noSheet_0 9 rfl rfl)
theorem dX0_noSheet_12 : decode cX0_noSheet 12 = .ok (.iconst 1, 1) := dk_4 (dk_at dksX0_noSheet_0 12 rfl rfl)
theorem dX0_noSheet_13 : decode cX0_noSheet 13 = .ok (.goto 4, 3) := dk_167 0 4 (dk_at dksX0_noSheet_0 13 rfl rfl)
theorem dX0_noSheet_16 : decode cX0_noSheet 16 = .ok (.iconst 0, 1) := dk_3 (dk_at dksX0_noSheet_0 16 rfl rfl)
theorem dX0_noSheet_17 : decode cX0_noSheet 17 = .ok (.ireturn, 1) := dk_172 (dk_at dksX0_noSheet_0 17 rfl rfl)
abbrev cX0_refused : ByteArray := prog_1_method_50_code
def yX0_refused : MethodName := ⟨RX0, "refused", "(I)I"⟩
def dkwX0_refused_0 : List UInt8 := [42, 3, 181, 1, 7, 27, 172]
abbrev dktX0_refused_0 : List UInt8 := dkwX0_refused_0 ++ []
theorem dksX0_refused_0 : cX0_refused.data.toList.drop 0 = dktX0_refused_0 := by decide +kernel
theorem dX0_refused_0 : decode cX0_refused 0 = .ok (.aload_n 0, 1) := dk_42 (dk_at dksX0_refused_0 0 rfl rfl)
theorem dX0_refused_1 : decode cX0_refused 1 = .ok (.iconst 0, 1) := dk_3 (dk_at dksX0_refused_0 1 rfl rfl)
theorem dX0_refused_2 : decode cX0_refused 2 = .ok (.putfield 263, 3) := dk_181 1 7 (dk_at dksX0_refused_0 2 rfl rfl)
theorem dX0_refused_5 : decode cX0_refused 5 = .ok (.iload_n 1, 1) := dk_27 (dk_at dksX0_refused_0 5 rfl rfl)
theorem dX0_refused_6 : decode cX0_refused 6 = .ok (.ireturn, 1) := dk_172 (dk_at dksX0_refused_0 6 rfl rfl)
abbrev cX0_rowOf : ByteArray := prog_1_method_53_code
def yX0_rowOf : MethodName := ⟨RX0, "rowOf", "(II)Ljava/lang/Object;"⟩
def dkwX0_rowOf_1 : List UInt8 := [176]
abbrev dktX0_rowOf_1 : List UInt8 := dkwX0_rowOf_1 ++ []
def dkwX0_rowOf_0 : List UInt8 := [26, 154, 0, 9, 27, 188, 8, 167, 0, 17, 26, 4, 160, 0, 9, 27, 188, 9, 167, 0, 6, 27, 188, 10]
abbrev dktX0_rowOf_0 : List UInt8 := dkwX0_rowOf_0 ++ dktX0_rowOf_1
theorem dksX0_rowOf_0 : cX0_rowOf.data.toList.drop 0 = dktX0_rowOf_0 := by decide +kernel
theorem dksX0_rowOf_1 : cX0_rowOf.data.toList.drop 24 = dktX0_rowOf_1 := dk_seg dksX0_rowOf_0 24 rfl rfl
theorem dX0_rowOf_0 : decode cX0_rowOf 0 = .ok (.iload_n 0, 1) := dk_26 (dk_at dksX0_rowOf_0 0 rfl rfl)
theorem dX0_rowOf_1 : decode cX0_rowOf 1 = .ok (.ifCond .ne 9, 3) := dk_154 0 9 (dk_at dksX0_rowOf_0 1 rfl rfl)
theorem dX0_rowOf_4 : decode cX0_rowOf 4 = .ok (.iload_n 1, 1) := dk_27 (dk_at dksX0_rowOf_0 4 rfl rfl)
theorem dX0_rowOf_5 : decode cX0_rowOf 5 = .ok (.newarray .byte, 2) := dk_188_8 (dk_at dksX0_rowOf_0 5 rfl rfl)
theorem dX0_rowOf_7 : decode cX0_rowOf 7 = .ok (.goto 17, 3) := dk_167 0 17 (dk_at dksX0_rowOf_0 7 rfl rfl)
theorem dX0_rowOf_10 : decode cX0_rowOf 10 = .ok (.iload_n 0, 1) := dk_26 (dk_at dksX0_rowOf_0 10 rfl rfl)
theorem dX0_rowOf_11 : decode cX0_rowOf 11 = .ok (.iconst 1, 1) := dk_4 (dk_at dksX0_rowOf_0 11 rfl rfl)
theorem dX0_rowOf_12 : decode cX0_rowOf 12 = .ok (.if_icmp .ne 9, 3) := dk_160 0 9 (dk_at dksX0_rowOf_0 12 rfl rfl)
theorem dX0_rowOf_15 : decode cX0_rowOf 15 = .ok (.iload_n 1, 1) := dk_27 (dk_at dksX0_rowOf_0 15 rfl rfl)
theorem dX0_rowOf_16 : decode cX0_rowOf 16 = .ok (.newarray .short, 2) := dk_188_9 (dk_at dksX0_rowOf_0 16 rfl rfl)
theorem dX0_rowOf_18 : decode cX0_rowOf 18 = .ok (.goto 6, 3) := dk_167 0 6 (dk_at dksX0_rowOf_0 18 rfl rfl)
theorem dX0_rowOf_21 : decode cX0_rowOf 21 = .ok (.iload_n 1, 1) := dk_27 (dk_at dksX0_rowOf_0 21 rfl rfl)
theorem dX0_rowOf_22 : decode cX0_rowOf 22 = .ok (.newarray .int, 2) := dk_188_10 (dk_at dksX0_rowOf_0 22 rfl rfl)
theorem dX0_rowOf_24 : decode cX0_rowOf 24 = .ok (.areturn, 1) := dk_176 (dk_at dksX0_rowOf_1 0 rfl rfl)
abbrev cX0_fails : ByteArray := prog_1_method_51_code
def yX0_fails : MethodName := ⟨RX0, "fails", "(I)I"⟩
def dkwX0_fails_0 : List UInt8 := [42, 27, 181, 1, 7, 16, 246, 27, 100, 172]
abbrev dktX0_fails_0 : List UInt8 := dkwX0_fails_0 ++ []
theorem dksX0_fails_0 : cX0_fails.data.toList.drop 0 = dktX0_fails_0 := by decide +kernel
theorem dX0_fails_0 : decode cX0_fails 0 = .ok (.aload_n 0, 1) := dk_42 (dk_at dksX0_fails_0 0 rfl rfl)
theorem dX0_fails_1 : decode cX0_fails 1 = .ok (.iload_n 1, 1) := dk_27 (dk_at dksX0_fails_0 1 rfl rfl)
theorem dX0_fails_2 : decode cX0_fails 2 = .ok (.putfield 263, 3) := dk_181 1 7 (dk_at dksX0_fails_0 2 rfl rfl)
theorem dX0_fails_5 : decode cX0_fails 5 = .ok (.bipush (-10), 2) := dk_16 246 (dk_at dksX0_fails_0 5 rfl rfl)
theorem dX0_fails_7 : decode cX0_fails 7 = .ok (.iload_n 1, 1) := dk_27 (dk_at dksX0_fails_0 7 rfl rfl)
theorem dX0_fails_8 : decode cX0_fails 8 = .ok (.isub, 1) := dk_100 (dk_at dksX0_fails_0 8 rfl rfl)
theorem dX0_fails_9 : decode cX0_fails 9 = .ok (.ireturn, 1) := dk_172 (dk_at dksX0_fails_0 9 rfl rfl)
abbrev cX0_lose : ByteArray := prog_1_method_60_code
def yX0_lose : MethodName := ⟨RX0, "lose", "(I)I"⟩
def dkwX0_lose_1 : List UInt8 := [42, 180, 0, 41, 27, 1, 83, 28, 172]
abbrev dktX0_lose_1 : List UInt8 := dkwX0_lose_1 ++ []
def dkwX0_lose_0 : List UInt8 := [27, 184, 1, 18, 153, 0, 5, 2, 172, 42, 180, 0, 41, 27, 50, 199, 0, 7, 3, 167, 0, 4, 4, 61]
abbrev dktX0_lose_0 : List UInt8 := dkwX0_lose_0 ++ dktX0_lose_1
theorem dksX0_lose_0 : cX0_lose.data.toList.drop 0 = dktX0_lose_0 := by decide +kernel
theorem dksX0_lose_1 : cX0_lose.data.toList.drop 24 = dktX0_lose_1 := dk_seg dksX0_lose_0 24 rfl rfl
theorem dX0_lose_0 : decode cX0_lose 0 = .ok (.iload_n 1, 1) := dk_27 (dk_at dksX0_lose_0 0 rfl rfl)
theorem dX0_lose_1 : decode cX0_lose 1 = .ok (.invokestatic 274, 3) := dk_184 1 18 (dk_at dksX0_lose_0 1 rfl rfl)
theorem dX0_lose_4 : decode cX0_lose 4 = .ok (.ifCond .eq 5, 3) := dk_153 0 5 (dk_at dksX0_lose_0 4 rfl rfl)
theorem dX0_lose_7 : decode cX0_lose 7 = .ok (.iconst (-1), 1) := dk_2 (dk_at dksX0_lose_0 7 rfl rfl)
theorem dX0_lose_8 : decode cX0_lose 8 = .ok (.ireturn, 1) := dk_172 (dk_at dksX0_lose_0 8 rfl rfl)
theorem dX0_lose_9 : decode cX0_lose 9 = .ok (.aload_n 0, 1) := dk_42 (dk_at dksX0_lose_0 9 rfl rfl)
theorem dX0_lose_10 : decode cX0_lose 10 = .ok (.getfield 41, 3) := dk_180 0 41 (dk_at dksX0_lose_0 10 rfl rfl)
theorem dX0_lose_13 : decode cX0_lose 13 = .ok (.iload_n 1, 1) := dk_27 (dk_at dksX0_lose_0 13 rfl rfl)
theorem dX0_lose_14 : decode cX0_lose 14 = .ok (.aaload, 1) := dk_50 (dk_at dksX0_lose_0 14 rfl rfl)
theorem dX0_lose_15 : decode cX0_lose 15 = .ok (.ifnonnull 7, 3) := dk_199 0 7 (dk_at dksX0_lose_0 15 rfl rfl)
theorem dX0_lose_18 : decode cX0_lose 18 = .ok (.iconst 0, 1) := dk_3 (dk_at dksX0_lose_0 18 rfl rfl)
theorem dX0_lose_19 : decode cX0_lose 19 = .ok (.goto 4, 3) := dk_167 0 4 (dk_at dksX0_lose_0 19 rfl rfl)
theorem dX0_lose_22 : decode cX0_lose 22 = .ok (.iconst 1, 1) := dk_4 (dk_at dksX0_lose_0 22 rfl rfl)
theorem dX0_lose_23 : decode cX0_lose 23 = .ok (.istore_n 2, 1) := dk_61 (dk_at dksX0_lose_0 23 rfl rfl)
theorem dX0_lose_24 : decode cX0_lose 24 = .ok (.aload_n 0, 1) := dk_42 (dk_at dksX0_lose_1 0 rfl rfl)
theorem dX0_lose_25 : decode cX0_lose 25 = .ok (.getfield 41, 3) := dk_180 0 41 (dk_at dksX0_lose_1 1 rfl rfl)
theorem dX0_lose_28 : decode cX0_lose 28 = .ok (.iload_n 1, 1) := dk_27 (dk_at dksX0_lose_1 4 rfl rfl)
theorem dX0_lose_29 : decode cX0_lose 29 = .ok (.aconst_null, 1) := dk_1 (dk_at dksX0_lose_1 5 rfl rfl)
theorem dX0_lose_30 : decode cX0_lose 30 = .ok (.aastore, 1) := dk_83 (dk_at dksX0_lose_1 6 rfl rfl)
theorem dX0_lose_31 : decode cX0_lose 31 = .ok (.iload_n 2, 1) := dk_28 (dk_at dksX0_lose_1 7 rfl rfl)
theorem dX0_lose_32 : decode cX0_lose 32 = .ok (.ireturn, 1) := dk_172 (dk_at dksX0_lose_1 8 rfl rfl)
abbrev cX0_put : ByteArray := prog_1_method_61_code
def yX0_put : MethodName := ⟨RX0, "put", "(III)I"⟩
def dkwX0_put_2 : List UInt8 := [182, 1, 35, 172]
abbrev dktX0_put_2 : List UInt8 := dkwX0_put_2 ++ []
def dkwX0_put_1 : List UInt8 := [180, 1, 14, 28, 29, 184, 1, 38, 4, 172, 58, 4, 42, 4, 182, 1, 35, 172, 58, 4, 42, 6]
abbrev dktX0_put_1 : List UInt8 := dkwX0_put_1 ++ dktX0_put_2
def dkwX0_put_0 : List UInt8 := [27, 184, 1, 18, 153, 0, 9, 42, 2, 182, 1, 21, 172, 42, 3, 181, 1, 7, 42, 180, 0, 41, 27, 50]
abbrev dktX0_put_0 : List UInt8 := dkwX0_put_0 ++ dktX0_put_1
theorem dksX0_put_0 : cX0_put.data.toList.drop 0 = dktX0_put_0 := by decide +kernel
theorem dksX0_put_1 : cX0_put.data.toList.drop 24 = dktX0_put_1 := dk_seg dksX0_put_0 24 rfl rfl
theorem dksX0_put_2 : cX0_put.data.toList.drop 46 = dktX0_put_2 := dk_seg dksX0_put_1 22 rfl rfl
theorem dX0_put_0 : decode cX0_put 0 = .ok (.iload_n 1, 1) := dk_27 (dk_at dksX0_put_0 0 rfl rfl)
theorem dX0_put_1 : decode cX0_put 1 = .ok (.invokestatic 274, 3) := dk_184 1 18 (dk_at dksX0_put_0 1 rfl rfl)
theorem dX0_put_4 : decode cX0_put 4 = .ok (.ifCond .eq 9, 3) := dk_153 0 9 (dk_at dksX0_put_0 4 rfl rfl)
theorem dX0_put_7 : decode cX0_put 7 = .ok (.aload_n 0, 1) := dk_42 (dk_at dksX0_put_0 7 rfl rfl)
theorem dX0_put_8 : decode cX0_put 8 = .ok (.iconst (-1), 1) := dk_2 (dk_at dksX0_put_0 8 rfl rfl)
theorem dX0_put_9 : decode cX0_put 9 = .ok (.invokevirtual 277, 3) := dk_182 1 21 (dk_at dksX0_put_0 9 rfl rfl)
theorem dX0_put_12 : decode cX0_put 12 = .ok (.ireturn, 1) := dk_172 (dk_at dksX0_put_0 12 rfl rfl)
theorem dX0_put_13 : decode cX0_put 13 = .ok (.aload_n 0, 1) := dk_42 (dk_at dksX0_put_0 13 rfl rfl)
theorem dX0_put_14 : decode cX0_put 14 = .ok (.iconst 0, 1) := dk_3 (dk_at dksX0_put_0 14 rfl rfl)
theorem dX0_put_15 : decode cX0_put 15 = .ok (.putfield 263, 3) := dk_181 1 7 (dk_at dksX0_put_0 15 rfl rfl)
theorem dX0_put_18 : decode cX0_put 18 = .ok (.aload_n 0, 1) := dk_42 (dk_at dksX0_put_0 18 rfl rfl)
theorem dX0_put_19 : decode cX0_put 19 = .ok (.getfield 41, 3) := dk_180 0 41 (dk_at dksX0_put_0 19 rfl rfl)
theorem dX0_put_22 : decode cX0_put 22 = .ok (.iload_n 1, 1) := dk_27 (dk_at dksX0_put_0 22 rfl rfl)
theorem dX0_put_23 : decode cX0_put 23 = .ok (.aaload, 1) := dk_50 (dk_at dksX0_put_0 23 rfl rfl)
theorem dX0_put_24 : decode cX0_put 24 = .ok (.getfield 270, 3) := dk_180 1 14 (dk_at dksX0_put_1 0 rfl rfl)
theorem dX0_put_27 : decode cX0_put 27 = .ok (.iload_n 2, 1) := dk_28 (dk_at dksX0_put_1 3 rfl rfl)
theorem dX0_put_28 : decode cX0_put 28 = .ok (.iload_n 3, 1) := dk_29 (dk_at dksX0_put_1 4 rfl rfl)
theorem dX0_put_29 : decode cX0_put 29 = .ok (.invokestatic 294, 3) := dk_184 1 38 (dk_at dksX0_put_1 5 rfl rfl)
theorem dX0_put_32 : decode cX0_put 32 = .ok (.iconst 1, 1) := dk_4 (dk_at dksX0_put_1 8 rfl rfl)
theorem dX0_put_33 : decode cX0_put 33 = .ok (.ireturn, 1) := dk_172 (dk_at dksX0_put_1 9 rfl rfl)
theorem dX0_put_34 : decode cX0_put 34 = .ok (.astore 4, 2) := dk_58 4 (dk_at dksX0_put_1 10 rfl rfl)
theorem dX0_put_36 : decode cX0_put 36 = .ok (.aload_n 0, 1) := dk_42 (dk_at dksX0_put_1 12 rfl rfl)
theorem dX0_put_37 : decode cX0_put 37 = .ok (.iconst 1, 1) := dk_4 (dk_at dksX0_put_1 13 rfl rfl)
theorem dX0_put_38 : decode cX0_put 38 = .ok (.invokevirtual 291, 3) := dk_182 1 35 (dk_at dksX0_put_1 14 rfl rfl)
theorem dX0_put_41 : decode cX0_put 41 = .ok (.ireturn, 1) := dk_172 (dk_at dksX0_put_1 17 rfl rfl)
theorem dX0_put_42 : decode cX0_put 42 = .ok (.astore 4, 2) := dk_58 4 (dk_at dksX0_put_1 18 rfl rfl)
theorem dX0_put_44 : decode cX0_put 44 = .ok (.aload_n 0, 1) := dk_42 (dk_at dksX0_put_1 20 rfl rfl)
theorem dX0_put_45 : decode cX0_put 45 = .ok (.iconst 3, 1) := dk_6 (dk_at dksX0_put_1 21 rfl rfl)
theorem dX0_put_46 : decode cX0_put 46 = .ok (.invokevirtual 291, 3) := dk_182 1 35 (dk_at dksX0_put_2 0 rfl rfl)
theorem dX0_put_49 : decode cX0_put 49 = .ok (.ireturn, 1) := dk_172 (dk_at dksX0_put_2 3 rfl rfl)
abbrev cX0_setIn : ByteArray := prog_1_method_56_code
def yX0_setIn : MethodName := ⟨RX0, "setIn", "(Ljava/lang/Object;II)V"⟩
def dkwX0_setIn_1 : List UInt8 := [153, 0, 14, 42, 192, 1, 12, 27, 28, 147, 86, 167, 0, 10, 42, 192, 0, 248, 27, 28, 79, 177]
abbrev dktX0_setIn_1 : List UInt8 := dkwX0_setIn_1 ++ []
def dkwX0_setIn_0 : List UInt8 := [42, 193, 1, 10, 153, 0, 14, 42, 192, 1, 10, 27, 28, 145, 84, 167, 0, 28, 42, 193, 1, 12]
abbrev dktX0_setIn_0 : List UInt8 := dkwX0_setIn_0 ++ dktX0_setIn_1
theorem dksX0_setIn_0 : cX0_setIn.data.toList.drop 0 = dktX0_setIn_0 := by decide +kernel
theorem dksX0_setIn_1 : cX0_setIn.data.toList.drop 22 = dktX0_setIn_1 := dk_seg dksX0_setIn_0 22 rfl rfl
theorem dX0_setIn_0 : decode cX0_setIn 0 = .ok (.aload_n 0, 1) := dk_42 (dk_at dksX0_setIn_0 0 rfl rfl)
theorem dX0_setIn_1 : decode cX0_setIn 1 = .ok (.instanceof 266, 3) := dk_193 1 10 (dk_at dksX0_setIn_0 1 rfl rfl)
theorem dX0_setIn_4 : decode cX0_setIn 4 = .ok (.ifCond .eq 14, 3) := dk_153 0 14 (dk_at dksX0_setIn_0 4 rfl rfl)
theorem dX0_setIn_7 : decode cX0_setIn 7 = .ok (.aload_n 0, 1) := dk_42 (dk_at dksX0_setIn_0 7 rfl rfl)
theorem dX0_setIn_8 : decode cX0_setIn 8 = .ok (.checkcast 266, 3) := dk_192 1 10 (dk_at dksX0_setIn_0 8 rfl rfl)
theorem dX0_setIn_11 : decode cX0_setIn 11 = .ok (.iload_n 1, 1) := dk_27 (dk_at dksX0_setIn_0 11 rfl rfl)
theorem dX0_setIn_12 : decode cX0_setIn 12 = .ok (.iload_n 2, 1) := dk_28 (dk_at dksX0_setIn_0 12 rfl rfl)
theorem dX0_setIn_13 : decode cX0_setIn 13 = .ok (.i2b, 1) := dk_145 (dk_at dksX0_setIn_0 13 rfl rfl)
theorem dX0_setIn_14 : decode cX0_setIn 14 = .ok (.bastore, 1) := dk_84 (dk_at dksX0_setIn_0 14 rfl rfl)
theorem dX0_setIn_15 : decode cX0_setIn 15 = .ok (.goto 28, 3) := dk_167 0 28 (dk_at dksX0_setIn_0 15 rfl rfl)
theorem dX0_setIn_18 : decode cX0_setIn 18 = .ok (.aload_n 0, 1) := dk_42 (dk_at dksX0_setIn_0 18 rfl rfl)
theorem dX0_setIn_19 : decode cX0_setIn 19 = .ok (.instanceof 268, 3) := dk_193 1 12 (dk_at dksX0_setIn_0 19 rfl rfl)
theorem dX0_setIn_22 : decode cX0_setIn 22 = .ok (.ifCond .eq 14, 3) := dk_153 0 14 (dk_at dksX0_setIn_1 0 rfl rfl)
theorem dX0_setIn_25 : decode cX0_setIn 25 = .ok (.aload_n 0, 1) := dk_42 (dk_at dksX0_setIn_1 3 rfl rfl)
theorem dX0_setIn_26 : decode cX0_setIn 26 = .ok (.checkcast 268, 3) := dk_192 1 12 (dk_at dksX0_setIn_1 4 rfl rfl)
theorem dX0_setIn_29 : decode cX0_setIn 29 = .ok (.iload_n 1, 1) := dk_27 (dk_at dksX0_setIn_1 7 rfl rfl)
theorem dX0_setIn_30 : decode cX0_setIn 30 = .ok (.iload_n 2, 1) := dk_28 (dk_at dksX0_setIn_1 8 rfl rfl)
theorem dX0_setIn_31 : decode cX0_setIn 31 = .ok (.i2s, 1) := dk_147 (dk_at dksX0_setIn_1 9 rfl rfl)
theorem dX0_setIn_32 : decode cX0_setIn 32 = .ok (.sastore, 1) := dk_86 (dk_at dksX0_setIn_1 10 rfl rfl)
theorem dX0_setIn_33 : decode cX0_setIn 33 = .ok (.goto 10, 3) := dk_167 0 10 (dk_at dksX0_setIn_1 11 rfl rfl)
theorem dX0_setIn_36 : decode cX0_setIn 36 = .ok (.aload_n 0, 1) := dk_42 (dk_at dksX0_setIn_1 14 rfl rfl)
theorem dX0_setIn_37 : decode cX0_setIn 37 = .ok (.checkcast 248, 3) := dk_192 0 248 (dk_at dksX0_setIn_1 15 rfl rfl)
theorem dX0_setIn_40 : decode cX0_setIn 40 = .ok (.iload_n 1, 1) := dk_27 (dk_at dksX0_setIn_1 18 rfl rfl)
theorem dX0_setIn_41 : decode cX0_setIn 41 = .ok (.iload_n 2, 1) := dk_28 (dk_at dksX0_setIn_1 19 rfl rfl)
theorem dX0_setIn_42 : decode cX0_setIn 42 = .ok (.iastore, 1) := dk_79 (dk_at dksX0_setIn_1 20 rfl rfl)
theorem dX0_setIn_43 : decode cX0_setIn 43 = .ok (.return_, 1) := dk_177 (dk_at dksX0_setIn_1 21 rfl rfl)
abbrev cX0_cell : ByteArray := prog_1_method_62_code
def yX0_cell : MethodName := ⟨RX0, "cell", "(III)J"⟩
def dkwX0_cell_2 : List UInt8 := [58, 4, 42, 5, 182, 1, 53, 173, 58, 4, 42, 6, 182, 1, 53, 173]
abbrev dktX0_cell_2 : List UInt8 := dkwX0_cell_2 ++ []
def dkwX0_cell_1 : List UInt8 := [20, 0, 187, 173, 42, 27, 182, 1, 46, 29, 28, 184, 1, 49, 133, 173, 58, 4, 42, 4, 182, 1, 53, 173]
abbrev dktX0_cell_1 : List UInt8 := dkwX0_cell_1 ++ dktX0_cell_2
def dkwX0_cell_0 : List UInt8 := [42, 3, 181, 1, 7, 27, 184, 1, 18, 154, 0, 15, 29, 133, 9, 20, 1, 24, 184, 0, 49, 154, 0, 7]
abbrev dktX0_cell_0 : List UInt8 := dkwX0_cell_0 ++ dktX0_cell_1
theorem dksX0_cell_0 : cX0_cell.data.toList.drop 0 = dktX0_cell_0 := by decide +kernel
theorem dksX0_cell_1 : cX0_cell.data.toList.drop 24 = dktX0_cell_1 := dk_seg dksX0_cell_0 24 rfl rfl
theorem dksX0_cell_2 : cX0_cell.data.toList.drop 48 = dktX0_cell_2 := dk_seg dksX0_cell_1 24 rfl rfl
theorem dX0_cell_0 : decode cX0_cell 0 = .ok (.aload_n 0, 1) := dk_42 (dk_at dksX0_cell_0 0 rfl rfl)
theorem dX0_cell_1 : decode cX0_cell 1 = .ok (.iconst 0, 1) := dk_3 (dk_at dksX0_cell_0 1 rfl rfl)
theorem dX0_cell_2 : decode cX0_cell 2 = .ok (.putfield 263, 3) := dk_181 1 7 (dk_at dksX0_cell_0 2 rfl rfl)
theorem dX0_cell_5 : decode cX0_cell 5 = .ok (.iload_n 1, 1) := dk_27 (dk_at dksX0_cell_0 5 rfl rfl)
theorem dX0_cell_6 : decode cX0_cell 6 = .ok (.invokestatic 274, 3) := dk_184 1 18 (dk_at dksX0_cell_0 6 rfl rfl)
theorem dX0_cell_9 : decode cX0_cell 9 = .ok (.ifCond .ne 15, 3) := dk_154 0 15 (dk_at dksX0_cell_0 9 rfl rfl)
theorem dX0_cell_12 : decode cX0_cell 12 = .ok (.iload_n 3, 1) := dk_29 (dk_at dksX0_cell_0 12 rfl rfl)
theorem dX0_cell_13 : decode cX0_cell 13 = .ok (.i2l, 1) := dk_133 (dk_at dksX0_cell_0 13 rfl rfl)
theorem dX0_cell_14 : decode cX0_cell 14 = .ok (.lconst 0, 1) := dk_9 (dk_at dksX0_cell_0 14 rfl rfl)
theorem dX0_cell_15 : decode cX0_cell 15 = .ok (.ldc2_w 280, 3) := dk_20 1 24 (dk_at dksX0_cell_0 15 rfl rfl)
theorem dX0_cell_18 : decode cX0_cell 18 = .ok (.invokestatic 49, 3) := dk_184 0 49 (dk_at dksX0_cell_0 18 rfl rfl)
theorem dX0_cell_21 : decode cX0_cell 21 = .ok (.ifCond .ne 7, 3) := dk_154 0 7 (dk_at dksX0_cell_0 21 rfl rfl)
theorem dX0_cell_24 : decode cX0_cell 24 = .ok (.ldc2_w 187, 3) := dk_20 0 187 (dk_at dksX0_cell_1 0 rfl rfl)
theorem dX0_cell_27 : decode cX0_cell 27 = .ok (.lreturn, 1) := dk_173 (dk_at dksX0_cell_1 3 rfl rfl)
theorem dX0_cell_28 : decode cX0_cell 28 = .ok (.aload_n 0, 1) := dk_42 (dk_at dksX0_cell_1 4 rfl rfl)
theorem dX0_cell_29 : decode cX0_cell 29 = .ok (.iload_n 1, 1) := dk_27 (dk_at dksX0_cell_1 5 rfl rfl)
theorem dX0_cell_30 : decode cX0_cell 30 = .ok (.invokevirtual 302, 3) := dk_182 1 46 (dk_at dksX0_cell_1 6 rfl rfl)
theorem dX0_cell_33 : decode cX0_cell 33 = .ok (.iload_n 3, 1) := dk_29 (dk_at dksX0_cell_1 9 rfl rfl)
theorem dX0_cell_34 : decode cX0_cell 34 = .ok (.iload_n 2, 1) := dk_28 (dk_at dksX0_cell_1 10 rfl rfl)
theorem dX0_cell_35 : decode cX0_cell 35 = .ok (.invokestatic 305, 3) := dk_184 1 49 (dk_at dksX0_cell_1 11 rfl rfl)
theorem dX0_cell_38 : decode cX0_cell 38 = .ok (.i2l, 1) := dk_133 (dk_at dksX0_cell_1 14 rfl rfl)
theorem dX0_cell_39 : decode cX0_cell 39 = .ok (.lreturn, 1) := dk_173 (dk_at dksX0_cell_1 15 rfl rfl)
theorem dX0_cell_40 : decode cX0_cell 40 = .ok (.astore 4, 2) := dk_58 4 (dk_at dksX0_cell_1 16 rfl rfl)
theorem dX0_cell_42 : decode cX0_cell 42 = .ok (.aload_n 0, 1) := dk_42 (dk_at dksX0_cell_1 18 rfl rfl)
theorem dX0_cell_43 : decode cX0_cell 43 = .ok (.iconst 1, 1) := dk_4 (dk_at dksX0_cell_1 19 rfl rfl)
theorem dX0_cell_44 : decode cX0_cell 44 = .ok (.invokevirtual 309, 3) := dk_182 1 53 (dk_at dksX0_cell_1 20 rfl rfl)
theorem dX0_cell_47 : decode cX0_cell 47 = .ok (.lreturn, 1) := dk_173 (dk_at dksX0_cell_1 23 rfl rfl)
theorem dX0_cell_48 : decode cX0_cell 48 = .ok (.astore 4, 2) := dk_58 4 (dk_at dksX0_cell_2 0 rfl rfl)
theorem dX0_cell_50 : decode cX0_cell 50 = .ok (.aload_n 0, 1) := dk_42 (dk_at dksX0_cell_2 2 rfl rfl)
theorem dX0_cell_51 : decode cX0_cell 51 = .ok (.iconst 2, 1) := dk_5 (dk_at dksX0_cell_2 3 rfl rfl)
theorem dX0_cell_52 : decode cX0_cell 52 = .ok (.invokevirtual 309, 3) := dk_182 1 53 (dk_at dksX0_cell_2 4 rfl rfl)
theorem dX0_cell_55 : decode cX0_cell 55 = .ok (.lreturn, 1) := dk_173 (dk_at dksX0_cell_2 7 rfl rfl)
theorem dX0_cell_56 : decode cX0_cell 56 = .ok (.astore 4, 2) := dk_58 4 (dk_at dksX0_cell_2 8 rfl rfl)
theorem dX0_cell_58 : decode cX0_cell 58 = .ok (.aload_n 0, 1) := dk_42 (dk_at dksX0_cell_2 10 rfl rfl)
theorem dX0_cell_59 : decode cX0_cell 59 = .ok (.iconst 3, 1) := dk_6 (dk_at dksX0_cell_2 11 rfl rfl)
theorem dX0_cell_60 : decode cX0_cell 60 = .ok (.invokevirtual 309, 3) := dk_182 1 53 (dk_at dksX0_cell_2 12 rfl rfl)
theorem dX0_cell_63 : decode cX0_cell 63 = .ok (.lreturn, 1) := dk_173 (dk_at dksX0_cell_2 15 rfl rfl)
abbrev cX0_rowIn : ByteArray := prog_1_method_58_code
def yX0_rowIn : MethodName := ⟨RX0, "rowIn", "(I)Ljava/lang/Object;"⟩
def dkwX0_rowIn_0 : List UInt8 := [42, 180, 0, 41, 27, 50, 199, 0, 7, 1, 167, 0, 12, 42, 180, 0, 41, 27, 50, 180, 1, 14, 176]
abbrev dktX0_rowIn_0 : List UInt8 := dkwX0_rowIn_0 ++ []
theorem dksX0_rowIn_0 : cX0_rowIn.data.toList.drop 0 = dktX0_rowIn_0 := by decide +kernel
theorem dX0_rowIn_0 : decode cX0_rowIn 0 = .ok (.aload_n 0, 1) := dk_42 (dk_at dksX0_rowIn_0 0 rfl rfl)
theorem dX0_rowIn_1 : decode cX0_rowIn 1 = .ok (.getfield 41, 3) := dk_180 0 41 (dk_at dksX0_rowIn_0 1 rfl rfl)
theorem dX0_rowIn_4 : decode cX0_rowIn 4 = .ok (.iload_n 1, 1) := dk_27 (dk_at dksX0_rowIn_0 4 rfl rfl)
theorem dX0_rowIn_5 : decode cX0_rowIn 5 = .ok (.aaload, 1) := dk_50 (dk_at dksX0_rowIn_0 5 rfl rfl)
theorem dX0_rowIn_6 : decode cX0_rowIn 6 = .ok (.ifnonnull 7, 3) := dk_199 0 7 (dk_at dksX0_rowIn_0 6 rfl rfl)
theorem dX0_rowIn_9 : decode cX0_rowIn 9 = .ok (.aconst_null, 1) := dk_1 (dk_at dksX0_rowIn_0 9 rfl rfl)
theorem dX0_rowIn_10 : decode cX0_rowIn 10 = .ok (.goto 12, 3) := dk_167 0 12 (dk_at dksX0_rowIn_0 10 rfl rfl)
theorem dX0_rowIn_13 : decode cX0_rowIn 13 = .ok (.aload_n 0, 1) := dk_42 (dk_at dksX0_rowIn_0 13 rfl rfl)
theorem dX0_rowIn_14 : decode cX0_rowIn 14 = .ok (.getfield 41, 3) := dk_180 0 41 (dk_at dksX0_rowIn_0 14 rfl rfl)
theorem dX0_rowIn_17 : decode cX0_rowIn 17 = .ok (.iload_n 1, 1) := dk_27 (dk_at dksX0_rowIn_0 17 rfl rfl)
theorem dX0_rowIn_18 : decode cX0_rowIn 18 = .ok (.aaload, 1) := dk_50 (dk_at dksX0_rowIn_0 18 rfl rfl)
theorem dX0_rowIn_19 : decode cX0_rowIn 19 = .ok (.getfield 270, 3) := dk_180 1 14 (dk_at dksX0_rowIn_0 19 rfl rfl)
theorem dX0_rowIn_22 : decode cX0_rowIn 22 = .ok (.areturn, 1) := dk_176 (dk_at dksX0_rowIn_0 22 rfl rfl)
abbrev cX0_cellOf : ByteArray := prog_1_method_54_code
def yX0_cellOf : MethodName := ⟨RX0, "cellOf", "(Ljava/lang/Object;II)I"⟩
def dkwX0_cellOf_1 : List UInt8 := [167, 0, 9, 42, 192, 0, 248, 28, 46, 172]
abbrev dktX0_cellOf_1 : List UInt8 := dkwX0_cellOf_1 ++ []
def dkwX0_cellOf_0 : List UInt8 := [27, 154, 0, 12, 42, 192, 1, 10, 28, 51, 167, 0, 23, 27, 4, 160, 0, 12, 42, 192, 1, 12, 28, 53]
abbrev dktX0_cellOf_0 : List UInt8 := dkwX0_cellOf_0 ++ dktX0_cellOf_1
theorem dksX0_cellOf_0 : cX0_cellOf.data.toList.drop 0 = dktX0_cellOf_0 := by decide +kernel
theorem dksX0_cellOf_1 : cX0_cellOf.data.toList.drop 24 = dktX0_cellOf_1 := dk_seg dksX0_cellOf_0 24 rfl rfl
theorem dX0_cellOf_0 : decode cX0_cellOf 0 = .ok (.iload_n 1, 1) := dk_27 (dk_at dksX0_cellOf_0 0 rfl rfl)
theorem dX0_cellOf_1 : decode cX0_cellOf 1 = .ok (.ifCond .ne 12, 3) := dk_154 0 12 (dk_at dksX0_cellOf_0 1 rfl rfl)
theorem dX0_cellOf_4 : decode cX0_cellOf 4 = .ok (.aload_n 0, 1) := dk_42 (dk_at dksX0_cellOf_0 4 rfl rfl)
theorem dX0_cellOf_5 : decode cX0_cellOf 5 = .ok (.checkcast 266, 3) := dk_192 1 10 (dk_at dksX0_cellOf_0 5 rfl rfl)
theorem dX0_cellOf_8 : decode cX0_cellOf 8 = .ok (.iload_n 2, 1) := dk_28 (dk_at dksX0_cellOf_0 8 rfl rfl)
theorem dX0_cellOf_9 : decode cX0_cellOf 9 = .ok (.baload, 1) := dk_51 (dk_at dksX0_cellOf_0 9 rfl rfl)
theorem dX0_cellOf_10 : decode cX0_cellOf 10 = .ok (.goto 23, 3) := dk_167 0 23 (dk_at dksX0_cellOf_0 10 rfl rfl)
theorem dX0_cellOf_13 : decode cX0_cellOf 13 = .ok (.iload_n 1, 1) := dk_27 (dk_at dksX0_cellOf_0 13 rfl rfl)
theorem dX0_cellOf_14 : decode cX0_cellOf 14 = .ok (.iconst 1, 1) := dk_4 (dk_at dksX0_cellOf_0 14 rfl rfl)
theorem dX0_cellOf_15 : decode cX0_cellOf 15 = .ok (.if_icmp .ne 12, 3) := dk_160 0 12 (dk_at dksX0_cellOf_0 15 rfl rfl)
theorem dX0_cellOf_18 : decode cX0_cellOf 18 = .ok (.aload_n 0, 1) := dk_42 (dk_at dksX0_cellOf_0 18 rfl rfl)
theorem dX0_cellOf_19 : decode cX0_cellOf 19 = .ok (.checkcast 268, 3) := dk_192 1 12 (dk_at dksX0_cellOf_0 19 rfl rfl)
theorem dX0_cellOf_22 : decode cX0_cellOf 22 = .ok (.iload_n 2, 1) := dk_28 (dk_at dksX0_cellOf_0 22 rfl rfl)
theorem dX0_cellOf_23 : decode cX0_cellOf 23 = .ok (.saload, 1) := dk_53 (dk_at dksX0_cellOf_0 23 rfl rfl)
theorem dX0_cellOf_24 : decode cX0_cellOf 24 = .ok (.goto 9, 3) := dk_167 0 9 (dk_at dksX0_cellOf_1 0 rfl rfl)
theorem dX0_cellOf_27 : decode cX0_cellOf 27 = .ok (.aload_n 0, 1) := dk_42 (dk_at dksX0_cellOf_1 3 rfl rfl)
theorem dX0_cellOf_28 : decode cX0_cellOf 28 = .ok (.checkcast 248, 3) := dk_192 0 248 (dk_at dksX0_cellOf_1 4 rfl rfl)
theorem dX0_cellOf_31 : decode cX0_cellOf 31 = .ok (.iload_n 2, 1) := dk_28 (dk_at dksX0_cellOf_1 7 rfl rfl)
theorem dX0_cellOf_32 : decode cX0_cellOf 32 = .ok (.iaload, 1) := dk_46 (dk_at dksX0_cellOf_1 8 rfl rfl)
theorem dX0_cellOf_33 : decode cX0_cellOf 33 = .ok (.ireturn, 1) := dk_172 (dk_at dksX0_cellOf_1 9 rfl rfl)
abbrev cX0_failsLong : ByteArray := prog_1_method_52_code
def yX0_failsLong : MethodName := ⟨RX0, "failsLong", "(I)J"⟩
def dkwX0_failsLong_0 : List UInt8 := [42, 27, 181, 1, 7, 20, 0, 187, 173]
abbrev dktX0_failsLong_0 : List UInt8 := dkwX0_failsLong_0 ++ []
theorem dksX0_failsLong_0 : cX0_failsLong.data.toList.drop 0 = dktX0_failsLong_0 := by decide +kernel
theorem dX0_failsLong_0 : decode cX0_failsLong 0 = .ok (.aload_n 0, 1) := dk_42 (dk_at dksX0_failsLong_0 0 rfl rfl)
theorem dX0_failsLong_1 : decode cX0_failsLong 1 = .ok (.iload_n 1, 1) := dk_27 (dk_at dksX0_failsLong_0 1 rfl rfl)
theorem dX0_failsLong_2 : decode cX0_failsLong 2 = .ok (.putfield 263, 3) := dk_181 1 7 (dk_at dksX0_failsLong_0 2 rfl rfl)
theorem dX0_failsLong_5 : decode cX0_failsLong 5 = .ok (.ldc2_w 187, 3) := dk_20 0 187 (dk_at dksX0_failsLong_0 5 rfl rfl)
theorem dX0_failsLong_8 : decode cX0_failsLong 8 = .ok (.lreturn, 1) := dk_173 (dk_at dksX0_failsLong_0 8 rfl rfl)
abbrev cX0_net : ByteArray := prog_1_method_65_code
def yX0_net : MethodName := ⟨RX0, "net", "(IIII)I"⟩
def dkwX0_net_2 : List UInt8 := [16, 254, 182, 1, 21, 172]
abbrev dktX0_net_2 : List UInt8 := dkwX0_net_2 ++ []
def dkwX0_net_1 : List UInt8 := [153, 0, 22, 187, 1, 72, 89, 42, 27, 28, 29, 21, 4, 183, 1, 74, 182, 1, 77, 167, 0, 9, 42]
abbrev dktX0_net_1 : List UInt8 := dkwX0_net_1 ++ dktX0_net_2
def dkwX0_net_0 : List UInt8 := [27, 184, 1, 18, 153, 0, 9, 42, 2, 182, 1, 21, 172, 28, 133, 9, 20, 1, 24, 184, 0, 49]
abbrev dktX0_net_0 : List UInt8 := dkwX0_net_0 ++ dktX0_net_1
theorem dksX0_net_0 : cX0_net.data.toList.drop 0 = dktX0_net_0 := by decide +kernel
theorem dksX0_net_1 : cX0_net.data.toList.drop 22 = dktX0_net_1 := dk_seg dksX0_net_0 22 rfl rfl
theorem dksX0_net_2 : cX0_net.data.toList.drop 45 = dktX0_net_2 := dk_seg dksX0_net_1 23 rfl rfl
theorem dX0_net_0 : decode cX0_net 0 = .ok (.iload_n 1, 1) := dk_27 (dk_at dksX0_net_0 0 rfl rfl)
theorem dX0_net_1 : decode cX0_net 1 = .ok (.invokestatic 274, 3) := dk_184 1 18 (dk_at dksX0_net_0 1 rfl rfl)
theorem dX0_net_4 : decode cX0_net 4 = .ok (.ifCond .eq 9, 3) := dk_153 0 9 (dk_at dksX0_net_0 4 rfl rfl)
theorem dX0_net_7 : decode cX0_net 7 = .ok (.aload_n 0, 1) := dk_42 (dk_at dksX0_net_0 7 rfl rfl)
theorem dX0_net_8 : decode cX0_net 8 = .ok (.iconst (-1), 1) := dk_2 (dk_at dksX0_net_0 8 rfl rfl)
theorem dX0_net_9 : decode cX0_net 9 = .ok (.invokevirtual 277, 3) := dk_182 1 21 (dk_at dksX0_net_0 9 rfl rfl)
theorem dX0_net_12 : decode cX0_net 12 = .ok (.ireturn, 1) := dk_172 (dk_at dksX0_net_0 12 rfl rfl)
theorem dX0_net_13 : decode cX0_net 13 = .ok (.iload_n 2, 1) := dk_28 (dk_at dksX0_net_0 13 rfl rfl)
theorem dX0_net_14 : decode cX0_net 14 = .ok (.i2l, 1) := dk_133 (dk_at dksX0_net_0 14 rfl rfl)
theorem dX0_net_15 : decode cX0_net 15 = .ok (.lconst 0, 1) := dk_9 (dk_at dksX0_net_0 15 rfl rfl)
theorem dX0_net_16 : decode cX0_net 16 = .ok (.ldc2_w 280, 3) := dk_20 1 24 (dk_at dksX0_net_0 16 rfl rfl)
theorem dX0_net_19 : decode cX0_net 19 = .ok (.invokestatic 49, 3) := dk_184 0 49 (dk_at dksX0_net_0 19 rfl rfl)
theorem dX0_net_22 : decode cX0_net 22 = .ok (.ifCond .eq 22, 3) := dk_153 0 22 (dk_at dksX0_net_1 0 rfl rfl)
theorem dX0_net_25 : decode cX0_net 25 = .ok (.new 328, 3) := dk_187 1 72 (dk_at dksX0_net_1 3 rfl rfl)
theorem dX0_net_28 : decode cX0_net 28 = .ok (.dup, 1) := dk_89 (dk_at dksX0_net_1 6 rfl rfl)
theorem dX0_net_29 : decode cX0_net 29 = .ok (.aload_n 0, 1) := dk_42 (dk_at dksX0_net_1 7 rfl rfl)
theorem dX0_net_30 : decode cX0_net 30 = .ok (.iload_n 1, 1) := dk_27 (dk_at dksX0_net_1 8 rfl rfl)
theorem dX0_net_31 : decode cX0_net 31 = .ok (.iload_n 2, 1) := dk_28 (dk_at dksX0_net_1 9 rfl rfl)
theorem dX0_net_32 : decode cX0_net 32 = .ok (.iload_n 3, 1) := dk_29 (dk_at dksX0_net_1 10 rfl rfl)
theorem dX0_net_33 : decode cX0_net 33 = .ok (.iload 4, 2) := dk_21 4 (dk_at dksX0_net_1 11 rfl rfl)
theorem dX0_net_35 : decode cX0_net 35 = .ok (.invokespecial 330, 3) := dk_183 1 74 (dk_at dksX0_net_1 13 rfl rfl)
theorem dX0_net_38 : decode cX0_net 38 = .ok (.invokevirtual 333, 3) := dk_182 1 77 (dk_at dksX0_net_1 16 rfl rfl)
theorem dX0_net_41 : decode cX0_net 41 = .ok (.goto 9, 3) := dk_167 0 9 (dk_at dksX0_net_1 19 rfl rfl)
theorem dX0_net_44 : decode cX0_net 44 = .ok (.aload_n 0, 1) := dk_42 (dk_at dksX0_net_1 22 rfl rfl)
theorem dX0_net_45 : decode cX0_net 45 = .ok (.bipush (-2), 2) := dk_16 254 (dk_at dksX0_net_2 0 rfl rfl)
theorem dX0_net_47 : decode cX0_net 47 = .ok (.invokevirtual 277, 3) := dk_182 1 21 (dk_at dksX0_net_2 2 rfl rfl)
theorem dX0_net_50 : decode cX0_net 50 = .ok (.ireturn, 1) := dk_172 (dk_at dksX0_net_2 5 rfl rfl)
abbrev cX0_cellsOf : ByteArray := prog_1_method_64_code
def yX0_cellsOf : MethodName := ⟨RX0, "cellsOf", "(Ljava/lang/Object;III)[I"⟩
def dkwX0_cellsOf_3 : List UInt8 := [184, 1, 49, 79, 132, 7, 1, 167, 255, 231, 25, 6, 176]
abbrev dktX0_cellsOf_3 : List UInt8 := dkwX0_cellsOf_3 ++ []
def dkwX0_cellsOf_2 : List UInt8 := [58, 6, 3, 54, 7, 21, 7, 25, 6, 190, 162, 0, 23, 25, 6, 21, 7, 42, 27, 28, 21, 7, 96]
abbrev dktX0_cellsOf_2 : List UInt8 := dkwX0_cellsOf_2 ++ dktX0_cellsOf_3
def dkwX0_cellsOf_1 : List UInt8 := [155, 0, 15, 28, 21, 4, 29, 100, 163, 0, 7, 4, 167, 0, 4, 3, 184, 1, 68, 25, 5, 190, 188, 10]
abbrev dktX0_cellsOf_1 : List UInt8 := dkwX0_cellsOf_1 ++ dktX0_cellsOf_2
def dkwX0_cellsOf_0 : List UInt8 := [42, 27, 184, 1, 64, 54, 4, 29, 16, 61, 184, 0, 176, 188, 8, 58, 5, 29, 16, 61, 162, 0, 19, 28]
abbrev dktX0_cellsOf_0 : List UInt8 := dkwX0_cellsOf_0 ++ dktX0_cellsOf_1
theorem dksX0_cellsOf_0 : cX0_cellsOf.data.toList.drop 0 = dktX0_cellsOf_0 := by decide +kernel
theorem dksX0_cellsOf_1 : cX0_cellsOf.data.toList.drop 24 = dktX0_cellsOf_1 := dk_seg dksX0_cellsOf_0 24 rfl rfl
theorem dksX0_cellsOf_2 : cX0_cellsOf.data.toList.drop 48 = dktX0_cellsOf_2 := dk_seg dksX0_cellsOf_1 24 rfl rfl
theorem dksX0_cellsOf_3 : cX0_cellsOf.data.toList.drop 71 = dktX0_cellsOf_3 := dk_seg dksX0_cellsOf_2 23 rfl rfl
theorem dX0_cellsOf_0 : decode cX0_cellsOf 0 = .ok (.aload_n 0, 1) := dk_42 (dk_at dksX0_cellsOf_0 0 rfl rfl)
theorem dX0_cellsOf_1 : decode cX0_cellsOf 1 = .ok (.iload_n 1, 1) := dk_27 (dk_at dksX0_cellsOf_0 1 rfl rfl)
theorem dX0_cellsOf_2 : decode cX0_cellsOf 2 = .ok (.invokestatic 320, 3) := dk_184 1 64 (dk_at dksX0_cellsOf_0 2 rfl rfl)
theorem dX0_cellsOf_5 : decode cX0_cellsOf 5 = .ok (.istore 4, 2) := dk_54 4 (dk_at dksX0_cellsOf_0 5 rfl rfl)
theorem dX0_cellsOf_7 : decode cX0_cellsOf 7 = .ok (.iload_n 3, 1) := dk_29 (dk_at dksX0_cellsOf_0 7 rfl rfl)
theorem dX0_cellsOf_8 : decode cX0_cellsOf 8 = .ok (.bipush 61, 2) := dk_16 61 (dk_at dksX0_cellsOf_0 8 rfl rfl)
theorem dX0_cellsOf_10 : decode cX0_cellsOf 10 = .ok (.invokestatic 176, 3) := dk_184 0 176 (dk_at dksX0_cellsOf_0 10 rfl rfl)
theorem dX0_cellsOf_13 : decode cX0_cellsOf 13 = .ok (.newarray .byte, 2) := dk_188_8 (dk_at dksX0_cellsOf_0 13 rfl rfl)
theorem dX0_cellsOf_15 : decode cX0_cellsOf 15 = .ok (.astore 5, 2) := dk_58 5 (dk_at dksX0_cellsOf_0 15 rfl rfl)
theorem dX0_cellsOf_17 : decode cX0_cellsOf 17 = .ok (.iload_n 3, 1) := dk_29 (dk_at dksX0_cellsOf_0 17 rfl rfl)
theorem dX0_cellsOf_18 : decode cX0_cellsOf 18 = .ok (.bipush 61, 2) := dk_16 61 (dk_at dksX0_cellsOf_0 18 rfl rfl)
theorem dX0_cellsOf_20 : decode cX0_cellsOf 20 = .ok (.if_icmp .ge 19, 3) := dk_162 0 19 (dk_at dksX0_cellsOf_0 20 rfl rfl)
theorem dX0_cellsOf_23 : decode cX0_cellsOf 23 = .ok (.iload_n 2, 1) := dk_28 (dk_at dksX0_cellsOf_0 23 rfl rfl)
theorem dX0_cellsOf_24 : decode cX0_cellsOf 24 = .ok (.ifCond .lt 15, 3) := dk_155 0 15 (dk_at dksX0_cellsOf_1 0 rfl rfl)
theorem dX0_cellsOf_27 : decode cX0_cellsOf 27 = .ok (.iload_n 2, 1) := dk_28 (dk_at dksX0_cellsOf_1 3 rfl rfl)
theorem dX0_cellsOf_28 : decode cX0_cellsOf 28 = .ok (.iload 4, 2) := dk_21 4 (dk_at dksX0_cellsOf_1 4 rfl rfl)
theorem dX0_cellsOf_30 : decode cX0_cellsOf 30 = .ok (.iload_n 3, 1) := dk_29 (dk_at dksX0_cellsOf_1 6 rfl rfl)
theorem dX0_cellsOf_31 : decode cX0_cellsOf 31 = .ok (.isub, 1) := dk_100 (dk_at dksX0_cellsOf_1 7 rfl rfl)
theorem dX0_cellsOf_32 : decode cX0_cellsOf 32 = .ok (.if_icmp .gt 7, 3) := dk_163 0 7 (dk_at dksX0_cellsOf_1 8 rfl rfl)
theorem dX0_cellsOf_35 : decode cX0_cellsOf 35 = .ok (.iconst 1, 1) := dk_4 (dk_at dksX0_cellsOf_1 11 rfl rfl)
theorem dX0_cellsOf_36 : decode cX0_cellsOf 36 = .ok (.goto 4, 3) := dk_167 0 4 (dk_at dksX0_cellsOf_1 12 rfl rfl)
theorem dX0_cellsOf_39 : decode cX0_cellsOf 39 = .ok (.iconst 0, 1) := dk_3 (dk_at dksX0_cellsOf_1 15 rfl rfl)
theorem dX0_cellsOf_40 : decode cX0_cellsOf 40 = .ok (.invokestatic 324, 3) := dk_184 1 68 (dk_at dksX0_cellsOf_1 16 rfl rfl)
theorem dX0_cellsOf_43 : decode cX0_cellsOf 43 = .ok (.aload 5, 2) := dk_25 5 (dk_at dksX0_cellsOf_1 19 rfl rfl)
theorem dX0_cellsOf_45 : decode cX0_cellsOf 45 = .ok (.arraylength, 1) := dk_190 (dk_at dksX0_cellsOf_1 21 rfl rfl)
theorem dX0_cellsOf_46 : decode cX0_cellsOf 46 = .ok (.newarray .int, 2) := dk_188_10 (dk_at dksX0_cellsOf_1 22 rfl rfl)
theorem dX0_cellsOf_48 : decode cX0_cellsOf 48 = .ok (.astore 6, 2) := dk_58 6 (dk_at dksX0_cellsOf_2 0 rfl rfl)
theorem dX0_cellsOf_50 : decode cX0_cellsOf 50 = .ok (.iconst 0, 1) := dk_3 (dk_at dksX0_cellsOf_2 2 rfl rfl)
theorem dX0_cellsOf_51 : decode cX0_cellsOf 51 = .ok (.istore 7, 2) := dk_54 7 (dk_at dksX0_cellsOf_2 3 rfl rfl)
theorem dX0_cellsOf_53 : decode cX0_cellsOf 53 = .ok (.iload 7, 2) := dk_21 7 (dk_at dksX0_cellsOf_2 5 rfl rfl)
theorem dX0_cellsOf_55 : decode cX0_cellsOf 55 = .ok (.aload 6, 2) := dk_25 6 (dk_at dksX0_cellsOf_2 7 rfl rfl)
theorem dX0_cellsOf_57 : decode cX0_cellsOf 57 = .ok (.arraylength, 1) := dk_190 (dk_at dksX0_cellsOf_2 9 rfl rfl)
theorem dX0_cellsOf_58 : decode cX0_cellsOf 58 = .ok (.if_icmp .ge 23, 3) := dk_162 0 23 (dk_at dksX0_cellsOf_2 10 rfl rfl)
theorem dX0_cellsOf_61 : decode cX0_cellsOf 61 = .ok (.aload 6, 2) := dk_25 6 (dk_at dksX0_cellsOf_2 13 rfl rfl)
theorem dX0_cellsOf_63 : decode cX0_cellsOf 63 = .ok (.iload 7, 2) := dk_21 7 (dk_at dksX0_cellsOf_2 15 rfl rfl)
theorem dX0_cellsOf_65 : decode cX0_cellsOf 65 = .ok (.aload_n 0, 1) := dk_42 (dk_at dksX0_cellsOf_2 17 rfl rfl)
theorem dX0_cellsOf_66 : decode cX0_cellsOf 66 = .ok (.iload_n 1, 1) := dk_27 (dk_at dksX0_cellsOf_2 18 rfl rfl)
theorem dX0_cellsOf_67 : decode cX0_cellsOf 67 = .ok (.iload_n 2, 1) := dk_28 (dk_at dksX0_cellsOf_2 19 rfl rfl)
theorem dX0_cellsOf_68 : decode cX0_cellsOf 68 = .ok (.iload 7, 2) := dk_21 7 (dk_at dksX0_cellsOf_2 20 rfl rfl)
theorem dX0_cellsOf_70 : decode cX0_cellsOf 70 = .ok (.iadd, 1) := dk_96 (dk_at dksX0_cellsOf_2 22 rfl rfl)
theorem dX0_cellsOf_71 : decode cX0_cellsOf 71 = .ok (.invokestatic 305, 3) := dk_184 1 49 (dk_at dksX0_cellsOf_3 0 rfl rfl)
theorem dX0_cellsOf_74 : decode cX0_cellsOf 74 = .ok (.iastore, 1) := dk_79 (dk_at dksX0_cellsOf_3 3 rfl rfl)
theorem dX0_cellsOf_75 : decode cX0_cellsOf 75 = .ok (.iinc 7 1, 3) := dk_132 7 1 (dk_at dksX0_cellsOf_3 4 rfl rfl)
theorem dX0_cellsOf_78 : decode cX0_cellsOf 78 = .ok (.goto (-25), 3) := dk_167 255 231 (dk_at dksX0_cellsOf_3 7 rfl rfl)
theorem dX0_cellsOf_81 : decode cX0_cellsOf 81 = .ok (.aload 6, 2) := dk_25 6 (dk_at dksX0_cellsOf_3 10 rfl rfl)
theorem dX0_cellsOf_83 : decode cX0_cellsOf 83 = .ok (.areturn, 1) := dk_176 (dk_at dksX0_cellsOf_3 12 rfl rfl)
abbrev cX0_sizeOf : ByteArray := prog_1_method_55_code
def yX0_sizeOf : MethodName := ⟨RX0, "sizeOf", "(Ljava/lang/Object;I)I"⟩
def dkwX0_sizeOf_1 : List UInt8 := [167, 0, 8, 42, 192, 0, 248, 190, 172]
abbrev dktX0_sizeOf_1 : List UInt8 := dkwX0_sizeOf_1 ++ []
def dkwX0_sizeOf_0 : List UInt8 := [27, 154, 0, 11, 42, 192, 1, 10, 190, 167, 0, 21, 27, 4, 160, 0, 11, 42, 192, 1, 12, 190]
abbrev dktX0_sizeOf_0 : List UInt8 := dkwX0_sizeOf_0 ++ dktX0_sizeOf_1
theorem dksX0_sizeOf_0 : cX0_sizeOf.data.toList.drop 0 = dktX0_sizeOf_0 := by decide +kernel
theorem dksX0_sizeOf_1 : cX0_sizeOf.data.toList.drop 22 = dktX0_sizeOf_1 := dk_seg dksX0_sizeOf_0 22 rfl rfl
theorem dX0_sizeOf_0 : decode cX0_sizeOf 0 = .ok (.iload_n 1, 1) := dk_27 (dk_at dksX0_sizeOf_0 0 rfl rfl)
theorem dX0_sizeOf_1 : decode cX0_sizeOf 1 = .ok (.ifCond .ne 11, 3) := dk_154 0 11 (dk_at dksX0_sizeOf_0 1 rfl rfl)
theorem dX0_sizeOf_4 : decode cX0_sizeOf 4 = .ok (.aload_n 0, 1) := dk_42 (dk_at dksX0_sizeOf_0 4 rfl rfl)
theorem dX0_sizeOf_5 : decode cX0_sizeOf 5 = .ok (.checkcast 266, 3) := dk_192 1 10 (dk_at dksX0_sizeOf_0 5 rfl rfl)
theorem dX0_sizeOf_8 : decode cX0_sizeOf 8 = .ok (.arraylength, 1) := dk_190 (dk_at dksX0_sizeOf_0 8 rfl rfl)
theorem dX0_sizeOf_9 : decode cX0_sizeOf 9 = .ok (.goto 21, 3) := dk_167 0 21 (dk_at dksX0_sizeOf_0 9 rfl rfl)
theorem dX0_sizeOf_12 : decode cX0_sizeOf 12 = .ok (.iload_n 1, 1) := dk_27 (dk_at dksX0_sizeOf_0 12 rfl rfl)
theorem dX0_sizeOf_13 : decode cX0_sizeOf 13 = .ok (.iconst 1, 1) := dk_4 (dk_at dksX0_sizeOf_0 13 rfl rfl)
theorem dX0_sizeOf_14 : decode cX0_sizeOf 14 = .ok (.if_icmp .ne 11, 3) := dk_160 0 11 (dk_at dksX0_sizeOf_0 14 rfl rfl)
theorem dX0_sizeOf_17 : decode cX0_sizeOf 17 = .ok (.aload_n 0, 1) := dk_42 (dk_at dksX0_sizeOf_0 17 rfl rfl)
theorem dX0_sizeOf_18 : decode cX0_sizeOf 18 = .ok (.checkcast 268, 3) := dk_192 1 12 (dk_at dksX0_sizeOf_0 18 rfl rfl)
theorem dX0_sizeOf_21 : decode cX0_sizeOf 21 = .ok (.arraylength, 1) := dk_190 (dk_at dksX0_sizeOf_0 21 rfl rfl)
theorem dX0_sizeOf_22 : decode cX0_sizeOf 22 = .ok (.goto 8, 3) := dk_167 0 8 (dk_at dksX0_sizeOf_1 0 rfl rfl)
theorem dX0_sizeOf_25 : decode cX0_sizeOf 25 = .ok (.aload_n 0, 1) := dk_42 (dk_at dksX0_sizeOf_1 3 rfl rfl)
theorem dX0_sizeOf_26 : decode cX0_sizeOf 26 = .ok (.checkcast 248, 3) := dk_192 0 248 (dk_at dksX0_sizeOf_1 4 rfl rfl)
theorem dX0_sizeOf_29 : decode cX0_sizeOf 29 = .ok (.arraylength, 1) := dk_190 (dk_at dksX0_sizeOf_1 7 rfl rfl)
theorem dX0_sizeOf_30 : decode cX0_sizeOf 30 = .ok (.ireturn, 1) := dk_172 (dk_at dksX0_sizeOf_1 8 rfl rfl)
abbrev cX0_need : ByteArray := prog_1_method_63_code
def yX0_need : MethodName := ⟨RX0, "need", "(Z)V"⟩
def dkwX0_need_0 : List UInt8 := [26, 154, 0, 14, 187, 1, 44, 89, 19, 1, 59, 183, 1, 61, 191, 177]
abbrev dktX0_need_0 : List UInt8 := dkwX0_need_0 ++ []
theorem dksX0_need_0 : cX0_need.data.toList.drop 0 = dktX0_need_0 := by decide +kernel
theorem dX0_need_0 : decode cX0_need 0 = .ok (.iload_n 0, 1) := dk_26 (dk_at dksX0_need_0 0 rfl rfl)
theorem dX0_need_1 : decode cX0_need 1 = .ok (.ifCond .ne 14, 3) := dk_154 0 14 (dk_at dksX0_need_0 1 rfl rfl)
theorem dX0_need_4 : decode cX0_need 4 = .ok (.new 300, 3) := dk_187 1 44 (dk_at dksX0_need_0 4 rfl rfl)
theorem dX0_need_7 : decode cX0_need 7 = .ok (.dup, 1) := dk_89 (dk_at dksX0_need_0 7 rfl rfl)
theorem dX0_need_8 : decode cX0_need 8 = .ok (.ldc_w 315, 3) := dk_19 1 59 (dk_at dksX0_need_0 8 rfl rfl)
theorem dX0_need_11 : decode cX0_need 11 = .ok (.invokespecial 317, 3) := dk_183 1 61 (dk_at dksX0_need_0 11 rfl rfl)
theorem dX0_need_14 : decode cX0_need 14 = .ok (.athrow, 1) := dk_191 (dk_at dksX0_need_0 14 rfl rfl)
theorem dX0_need_15 : decode cX0_need 15 = .ok (.return_, 1) := dk_177 (dk_at dksX0_need_0 15 rfl rfl)
abbrev cX0_newNet : ByteArray := prog_1_method_18_code
def yX0_newNet : MethodName := ⟨RX0, "newNet", "([I)I"⟩
def dkwX0_newNet_2 : List UInt8 := [180, 0, 18, 185, 0, 149, 1, 0, 42, 180, 0, 45, 172]
abbrev dktX0_newNet_2 : List UInt8 := dkwX0_newNet_2 ++ []
def dkwX0_newNet_1 : List UInt8 := [42, 44, 180, 0, 137, 181, 0, 45, 44, 180, 0, 140, 3, 42, 180, 0, 11, 3, 7, 184, 0, 143, 42]
abbrev dktX0_newNet_1 : List UInt8 := dkwX0_newNet_1 ++ dktX0_newNet_2
def dkwX0_newNet_0 : List UInt8 := [187, 0, 126, 89, 43, 183, 0, 128, 77, 44, 182, 0, 131, 154, 0, 11, 16, 156, 44, 180, 0, 134, 100, 172]
abbrev dktX0_newNet_0 : List UInt8 := dkwX0_newNet_0 ++ dktX0_newNet_1
theorem dksX0_newNet_0 : cX0_newNet.data.toList.drop 0 = dktX0_newNet_0 := by decide +kernel
theorem dksX0_newNet_1 : cX0_newNet.data.toList.drop 24 = dktX0_newNet_1 := dk_seg dksX0_newNet_0 24 rfl rfl
theorem dksX0_newNet_2 : cX0_newNet.data.toList.drop 47 = dktX0_newNet_2 := dk_seg dksX0_newNet_1 23 rfl rfl
theorem dX0_newNet_0 : decode cX0_newNet 0 = .ok (.new 126, 3) := dk_187 0 126 (dk_at dksX0_newNet_0 0 rfl rfl)
theorem dX0_newNet_3 : decode cX0_newNet 3 = .ok (.dup, 1) := dk_89 (dk_at dksX0_newNet_0 3 rfl rfl)
theorem dX0_newNet_4 : decode cX0_newNet 4 = .ok (.aload_n 1, 1) := dk_43 (dk_at dksX0_newNet_0 4 rfl rfl)
theorem dX0_newNet_5 : decode cX0_newNet 5 = .ok (.invokespecial 128, 3) := dk_183 0 128 (dk_at dksX0_newNet_0 5 rfl rfl)
theorem dX0_newNet_8 : decode cX0_newNet 8 = .ok (.astore_n 2, 1) := dk_77 (dk_at dksX0_newNet_0 8 rfl rfl)
theorem dX0_newNet_9 : decode cX0_newNet 9 = .ok (.aload_n 2, 1) := dk_44 (dk_at dksX0_newNet_0 9 rfl rfl)
theorem dX0_newNet_10 : decode cX0_newNet 10 = .ok (.invokevirtual 131, 3) := dk_182 0 131 (dk_at dksX0_newNet_0 10 rfl rfl)
theorem dX0_newNet_13 : decode cX0_newNet 13 = .ok (.ifCond .ne 11, 3) := dk_154 0 11 (dk_at dksX0_newNet_0 13 rfl rfl)
theorem dX0_newNet_16 : decode cX0_newNet 16 = .ok (.bipush (-100), 2) := dk_16 156 (dk_at dksX0_newNet_0 16 rfl rfl)
theorem dX0_newNet_18 : decode cX0_newNet 18 = .ok (.aload_n 2, 1) := dk_44 (dk_at dksX0_newNet_0 18 rfl rfl)
theorem dX0_newNet_19 : decode cX0_newNet 19 = .ok (.getfield 134, 3) := dk_180 0 134 (dk_at dksX0_newNet_0 19 rfl rfl)
theorem dX0_newNet_22 : decode cX0_newNet 22 = .ok (.isub, 1) := dk_100 (dk_at dksX0_newNet_0 22 rfl rfl)
theorem dX0_newNet_23 : decode cX0_newNet 23 = .ok (.ireturn, 1) := dk_172 (dk_at dksX0_newNet_0 23 rfl rfl)
theorem dX0_newNet_24 : decode cX0_newNet 24 = .ok (.aload_n 0, 1) := dk_42 (dk_at dksX0_newNet_1 0 rfl rfl)
theorem dX0_newNet_25 : decode cX0_newNet 25 = .ok (.aload_n 2, 1) := dk_44 (dk_at dksX0_newNet_1 1 rfl rfl)
theorem dX0_newNet_26 : decode cX0_newNet 26 = .ok (.getfield 137, 3) := dk_180 0 137 (dk_at dksX0_newNet_1 2 rfl rfl)
theorem dX0_newNet_29 : decode cX0_newNet 29 = .ok (.putfield 45, 3) := dk_181 0 45 (dk_at dksX0_newNet_1 5 rfl rfl)
theorem dX0_newNet_32 : decode cX0_newNet 32 = .ok (.aload_n 2, 1) := dk_44 (dk_at dksX0_newNet_1 8 rfl rfl)
theorem dX0_newNet_33 : decode cX0_newNet 33 = .ok (.getfield 140, 3) := dk_180 0 140 (dk_at dksX0_newNet_1 9 rfl rfl)
theorem dX0_newNet_36 : decode cX0_newNet 36 = .ok (.iconst 0, 1) := dk_3 (dk_at dksX0_newNet_1 12 rfl rfl)
theorem dX0_newNet_37 : decode cX0_newNet 37 = .ok (.aload_n 0, 1) := dk_42 (dk_at dksX0_newNet_1 13 rfl rfl)
theorem dX0_newNet_38 : decode cX0_newNet 38 = .ok (.getfield 11, 3) := dk_180 0 11 (dk_at dksX0_newNet_1 14 rfl rfl)
theorem dX0_newNet_41 : decode cX0_newNet 41 = .ok (.iconst 0, 1) := dk_3 (dk_at dksX0_newNet_1 17 rfl rfl)
theorem dX0_newNet_42 : decode cX0_newNet 42 = .ok (.iconst 4, 1) := dk_7 (dk_at dksX0_newNet_1 18 rfl rfl)
theorem dX0_newNet_43 : decode cX0_newNet 43 = .ok (.invokestatic 143, 3) := dk_184 0 143 (dk_at dksX0_newNet_1 19 rfl rfl)
theorem dX0_newNet_46 : decode cX0_newNet 46 = .ok (.aload_n 0, 1) := dk_42 (dk_at dksX0_newNet_1 22 rfl rfl)
theorem dX0_newNet_47 : decode cX0_newNet 47 = .ok (.getfield 18, 3) := dk_180 0 18 (dk_at dksX0_newNet_2 0 rfl rfl)
theorem dX0_newNet_50 : decode cX0_newNet 50 = .ok (.invokeinterface 149 1, 5) := by decide +kernel
theorem dX0_newNet_55 : decode cX0_newNet 55 = .ok (.aload_n 0, 1) := dk_42 (dk_at dksX0_newNet_2 8 rfl rfl)
theorem dX0_newNet_56 : decode cX0_newNet 56 = .ok (.getfield 45, 3) := dk_180 0 45 (dk_at dksX0_newNet_2 9 rfl rfl)
theorem dX0_newNet_59 : decode cX0_newNet 59 = .ok (.ireturn, 1) := dk_172 (dk_at dksX0_newNet_2 12 rfl rfl)
abbrev cX0_copy : ByteArray := prog_1_method_66_code
def yX0_copy : MethodName := ⟨RX0, "copy", "(IIIII)I"⟩
def dkwX0_copy_1 : List UInt8 := [187, 1, 80, 89, 42, 27, 28, 29, 21, 4, 21, 5, 183, 1, 82, 182, 1, 83, 172]
abbrev dktX0_copy_1 : List UInt8 := dkwX0_copy_1 ++ []
def dkwX0_copy_0 : List UInt8 := [27, 184, 1, 18, 154, 0, 10, 29, 184, 1, 18, 153, 0, 11, 42, 2, 182, 1, 21, 167, 0, 21]
abbrev dktX0_copy_0 : List UInt8 := dkwX0_copy_0 ++ dktX0_copy_1
theorem dksX0_copy_0 : cX0_copy.data.toList.drop 0 = dktX0_copy_0 := by decide +kernel
theorem dksX0_copy_1 : cX0_copy.data.toList.drop 22 = dktX0_copy_1 := dk_seg dksX0_copy_0 22 rfl rfl
theorem dX0_copy_0 : decode cX0_copy 0 = .ok (.iload_n 1, 1) := dk_27 (dk_at dksX0_copy_0 0 rfl rfl)
theorem dX0_copy_1 : decode cX0_copy 1 = .ok (.invokestatic 274, 3) := dk_184 1 18 (dk_at dksX0_copy_0 1 rfl rfl)
theorem dX0_copy_4 : decode cX0_copy 4 = .ok (.ifCond .ne 10, 3) := dk_154 0 10 (dk_at dksX0_copy_0 4 rfl rfl)
theorem dX0_copy_7 : decode cX0_copy 7 = .ok (.iload_n 3, 1) := dk_29 (dk_at dksX0_copy_0 7 rfl rfl)
theorem dX0_copy_8 : decode cX0_copy 8 = .ok (.invokestatic 274, 3) := dk_184 1 18 (dk_at dksX0_copy_0 8 rfl rfl)
theorem dX0_copy_11 : decode cX0_copy 11 = .ok (.ifCond .eq 11, 3) := dk_153 0 11 (dk_at dksX0_copy_0 11 rfl rfl)
theorem dX0_copy_14 : decode cX0_copy 14 = .ok (.aload_n 0, 1) := dk_42 (dk_at dksX0_copy_0 14 rfl rfl)
theorem dX0_copy_15 : decode cX0_copy 15 = .ok (.iconst (-1), 1) := dk_2 (dk_at dksX0_copy_0 15 rfl rfl)
theorem dX0_copy_16 : decode cX0_copy 16 = .ok (.invokevirtual 277, 3) := dk_182 1 21 (dk_at dksX0_copy_0 16 rfl rfl)
theorem dX0_copy_19 : decode cX0_copy 19 = .ok (.goto 21, 3) := dk_167 0 21 (dk_at dksX0_copy_0 19 rfl rfl)
theorem dX0_copy_22 : decode cX0_copy 22 = .ok (.new 336, 3) := dk_187 1 80 (dk_at dksX0_copy_1 0 rfl rfl)
theorem dX0_copy_25 : decode cX0_copy 25 = .ok (.dup, 1) := dk_89 (dk_at dksX0_copy_1 3 rfl rfl)
theorem dX0_copy_26 : decode cX0_copy 26 = .ok (.aload_n 0, 1) := dk_42 (dk_at dksX0_copy_1 4 rfl rfl)
theorem dX0_copy_27 : decode cX0_copy 27 = .ok (.iload_n 1, 1) := dk_27 (dk_at dksX0_copy_1 5 rfl rfl)
theorem dX0_copy_28 : decode cX0_copy 28 = .ok (.iload_n 2, 1) := dk_28 (dk_at dksX0_copy_1 6 rfl rfl)
theorem dX0_copy_29 : decode cX0_copy 29 = .ok (.iload_n 3, 1) := dk_29 (dk_at dksX0_copy_1 7 rfl rfl)
theorem dX0_copy_30 : decode cX0_copy 30 = .ok (.iload 4, 2) := dk_21 4 (dk_at dksX0_copy_1 8 rfl rfl)
theorem dX0_copy_32 : decode cX0_copy 32 = .ok (.iload 5, 2) := dk_21 5 (dk_at dksX0_copy_1 10 rfl rfl)
theorem dX0_copy_34 : decode cX0_copy 34 = .ok (.invokespecial 338, 3) := dk_183 1 82 (dk_at dksX0_copy_1 12 rfl rfl)
theorem dX0_copy_37 : decode cX0_copy 37 = .ok (.invokevirtual 339, 3) := dk_182 1 83 (dk_at dksX0_copy_1 15 rfl rfl)
theorem dX0_copy_40 : decode cX0_copy 40 = .ok (.ireturn, 1) := dk_172 (dk_at dksX0_copy_1 18 rfl rfl)
abbrev cX0_tell : ByteArray := prog_1_method_68_code
def yX0_tell : MethodName := ⟨RX0, "tell", "(I)I"⟩
def dkwX0_tell_1 : List UInt8 := [192, 0, 81, 182, 1, 87, 172]
abbrev dktX0_tell_1 : List UInt8 := dkwX0_tell_1 ++ []
def dkwX0_tell_0 : List UInt8 := [42, 27, 182, 1, 84, 153, 0, 7, 2, 167, 0, 19, 42, 180, 0, 18, 27, 185, 0, 77, 2, 0]
abbrev dktX0_tell_0 : List UInt8 := dkwX0_tell_0 ++ dktX0_tell_1
theorem dksX0_tell_0 : cX0_tell.data.toList.drop 0 = dktX0_tell_0 := by decide +kernel
theorem dksX0_tell_1 : cX0_tell.data.toList.drop 22 = dktX0_tell_1 := dk_seg dksX0_tell_0 22 rfl rfl
theorem dX0_tell_0 : decode cX0_tell 0 = .ok (.aload_n 0, 1) := dk_42 (dk_at dksX0_tell_0 0 rfl rfl)
theorem dX0_tell_1 : decode cX0_tell 1 = .ok (.iload_n 1, 1) := dk_27 (dk_at dksX0_tell_0 1 rfl rfl)
theorem dX0_tell_2 : decode cX0_tell 2 = .ok (.invokevirtual 340, 3) := dk_182 1 84 (dk_at dksX0_tell_0 2 rfl rfl)
theorem dX0_tell_5 : decode cX0_tell 5 = .ok (.ifCond .eq 7, 3) := dk_153 0 7 (dk_at dksX0_tell_0 5 rfl rfl)
theorem dX0_tell_8 : decode cX0_tell 8 = .ok (.iconst (-1), 1) := dk_2 (dk_at dksX0_tell_0 8 rfl rfl)
theorem dX0_tell_9 : decode cX0_tell 9 = .ok (.goto 19, 3) := dk_167 0 19 (dk_at dksX0_tell_0 9 rfl rfl)
theorem dX0_tell_12 : decode cX0_tell 12 = .ok (.aload_n 0, 1) := dk_42 (dk_at dksX0_tell_0 12 rfl rfl)
theorem dX0_tell_13 : decode cX0_tell 13 = .ok (.getfield 18, 3) := dk_180 0 18 (dk_at dksX0_tell_0 13 rfl rfl)
theorem dX0_tell_16 : decode cX0_tell 16 = .ok (.iload_n 1, 1) := dk_27 (dk_at dksX0_tell_0 16 rfl rfl)
theorem dX0_tell_17 : decode cX0_tell 17 = .ok (.invokeinterface 77 2, 5) := by decide +kernel
theorem dX0_tell_22 : decode cX0_tell 22 = .ok (.checkcast 81, 3) := dk_192 0 81 (dk_at dksX0_tell_1 0 rfl rfl)
theorem dX0_tell_25 : decode cX0_tell 25 = .ok (.invokevirtual 343, 3) := dk_182 1 87 (dk_at dksX0_tell_1 3 rfl rfl)
theorem dX0_tell_28 : decode cX0_tell 28 = .ok (.ireturn, 1) := dk_172 (dk_at dksX0_tell_1 6 rfl rfl)
abbrev cX0_noRing : ByteArray := prog_1_method_67_code
def yX0_noRing : MethodName := ⟨RX0, "noRing", "(I)Z"⟩
def dkwX0_noRing_1 : List UInt8 := [167, 0, 4, 3, 172]
abbrev dktX0_noRing_1 : List UInt8 := dkwX0_noRing_1 ++ []
def dkwX0_noRing_0 : List UInt8 := [27, 133, 9, 42, 180, 0, 18, 185, 0, 74, 1, 0, 4, 100, 133, 184, 0, 49, 154, 0, 7, 4]
abbrev dktX0_noRing_0 : List UInt8 := dkwX0_noRing_0 ++ dktX0_noRing_1
theorem dksX0_noRing_0 : cX0_noRing.data.toList.drop 0 = dktX0_noRing_0 := by decide +kernel
theorem dksX0_noRing_1 : cX0_noRing.data.toList.drop 22 = dktX0_noRing_1 := dk_seg dksX0_noRing_0 22 rfl rfl
theorem dX0_noRing_0 : decode cX0_noRing 0 = .ok (.iload_n 1, 1) := dk_27 (dk_at dksX0_noRing_0 0 rfl rfl)
theorem dX0_noRing_1 : decode cX0_noRing 1 = .ok (.i2l, 1) := dk_133 (dk_at dksX0_noRing_0 1 rfl rfl)
theorem dX0_noRing_2 : decode cX0_noRing 2 = .ok (.lconst 0, 1) := dk_9 (dk_at dksX0_noRing_0 2 rfl rfl)
theorem dX0_noRing_3 : decode cX0_noRing 3 = .ok (.aload_n 0, 1) := dk_42 (dk_at dksX0_noRing_0 3 rfl rfl)
theorem dX0_noRing_4 : decode cX0_noRing 4 = .ok (.getfield 18, 3) := dk_180 0 18 (dk_at dksX0_noRing_0 4 rfl rfl)
theorem dX0_noRing_7 : decode cX0_noRing 7 = .ok (.invokeinterface 74 1, 5) := by decide +kernel
theorem dX0_noRing_12 : decode cX0_noRing 12 = .ok (.iconst 1, 1) := dk_4 (dk_at dksX0_noRing_0 12 rfl rfl)
theorem dX0_noRing_13 : decode cX0_noRing 13 = .ok (.isub, 1) := dk_100 (dk_at dksX0_noRing_0 13 rfl rfl)
theorem dX0_noRing_14 : decode cX0_noRing 14 = .ok (.i2l, 1) := dk_133 (dk_at dksX0_noRing_0 14 rfl rfl)
theorem dX0_noRing_15 : decode cX0_noRing 15 = .ok (.invokestatic 49, 3) := dk_184 0 49 (dk_at dksX0_noRing_0 15 rfl rfl)
theorem dX0_noRing_18 : decode cX0_noRing 18 = .ok (.ifCond .ne 7, 3) := dk_154 0 7 (dk_at dksX0_noRing_0 18 rfl rfl)
theorem dX0_noRing_21 : decode cX0_noRing 21 = .ok (.iconst 1, 1) := dk_4 (dk_at dksX0_noRing_0 21 rfl rfl)
theorem dX0_noRing_22 : decode cX0_noRing 22 = .ok (.goto 4, 3) := dk_167 0 4 (dk_at dksX0_noRing_1 0 rfl rfl)
theorem dX0_noRing_25 : decode cX0_noRing 25 = .ok (.iconst 0, 1) := dk_3 (dk_at dksX0_noRing_1 3 rfl rfl)
theorem dX0_noRing_26 : decode cX0_noRing 26 = .ok (.ireturn, 1) := dk_172 (dk_at dksX0_noRing_1 4 rfl rfl)
abbrev cX0_log : ByteArray := prog_1_method_69_code
def yX0_log : MethodName := ⟨RX0, "log", "(I)I"⟩
def dkwX0_log_1 : List UInt8 := [44, 185, 1, 92, 1, 0, 172]
abbrev dktX0_log_1 : List UInt8 := dkwX0_log_1 ++ []
def dkwX0_log_0 : List UInt8 := [42, 27, 182, 1, 84, 153, 0, 5, 2, 172, 42, 180, 0, 18, 27, 185, 0, 77, 2, 0, 192, 1, 90, 77]
abbrev dktX0_log_0 : List UInt8 := dkwX0_log_0 ++ dktX0_log_1
theorem dksX0_log_0 : cX0_log.data.toList.drop 0 = dktX0_log_0 := by decide +kernel
theorem dksX0_log_1 : cX0_log.data.toList.drop 24 = dktX0_log_1 := dk_seg dksX0_log_0 24 rfl rfl
theorem dX0_log_0 : decode cX0_log 0 = .ok (.aload_n 0, 1) := dk_42 (dk_at dksX0_log_0 0 rfl rfl)
theorem dX0_log_1 : decode cX0_log 1 = .ok (.iload_n 1, 1) := dk_27 (dk_at dksX0_log_0 1 rfl rfl)
theorem dX0_log_2 : decode cX0_log 2 = .ok (.invokevirtual 340, 3) := dk_182 1 84 (dk_at dksX0_log_0 2 rfl rfl)
theorem dX0_log_5 : decode cX0_log 5 = .ok (.ifCond .eq 5, 3) := dk_153 0 5 (dk_at dksX0_log_0 5 rfl rfl)
theorem dX0_log_8 : decode cX0_log 8 = .ok (.iconst (-1), 1) := dk_2 (dk_at dksX0_log_0 8 rfl rfl)
theorem dX0_log_9 : decode cX0_log 9 = .ok (.ireturn, 1) := dk_172 (dk_at dksX0_log_0 9 rfl rfl)
theorem dX0_log_10 : decode cX0_log 10 = .ok (.aload_n 0, 1) := dk_42 (dk_at dksX0_log_0 10 rfl rfl)
theorem dX0_log_11 : decode cX0_log 11 = .ok (.getfield 18, 3) := dk_180 0 18 (dk_at dksX0_log_0 11 rfl rfl)
theorem dX0_log_14 : decode cX0_log 14 = .ok (.iload_n 1, 1) := dk_27 (dk_at dksX0_log_0 14 rfl rfl)
theorem dX0_log_15 : decode cX0_log 15 = .ok (.invokeinterface 77 2, 5) := by decide +kernel
theorem dX0_log_20 : decode cX0_log 20 = .ok (.checkcast 346, 3) := dk_192 1 90 (dk_at dksX0_log_0 20 rfl rfl)
theorem dX0_log_23 : decode cX0_log 23 = .ok (.astore_n 2, 1) := dk_77 (dk_at dksX0_log_0 23 rfl rfl)
theorem dX0_log_24 : decode cX0_log 24 = .ok (.aload_n 2, 1) := dk_44 (dk_at dksX0_log_1 0 rfl rfl)
theorem dX0_log_25 : decode cX0_log 25 = .ok (.invokeinterface 348 1, 5) := by decide +kernel
theorem dX0_log_30 : decode cX0_log 30 = .ok (.ireturn, 1) := dk_172 (dk_at dksX0_log_1 6 rfl rfl)
abbrev cX0_as : ByteArray := prog_1_method_70_code
def yX0_as : MethodName := ⟨RX0, "as", "(II)I"⟩
def dkwX0_as_2 : List UInt8 := [183, 1, 97, 182, 1, 100, 167, 0, 9, 42, 16, 254, 182, 1, 21, 172]
abbrev dktX0_as_2 : List UInt8 := dkwX0_as_2 ++ []
def dkwX0_as_1 : List UInt8 := [153, 0, 31, 187, 1, 95, 89, 42, 42, 180, 0, 18, 27, 185, 0, 77, 2, 0, 192, 0, 81, 28]
abbrev dktX0_as_1 : List UInt8 := dkwX0_as_1 ++ dktX0_as_2
def dkwX0_as_0 : List UInt8 := [42, 27, 182, 1, 84, 153, 0, 9, 42, 2, 182, 1, 21, 172, 28, 133, 9, 20, 1, 24, 184, 0, 49]
abbrev dktX0_as_0 : List UInt8 := dkwX0_as_0 ++ dktX0_as_1
theorem dksX0_as_0 : cX0_as.data.toList.drop 0 = dktX0_as_0 := by decide +kernel
theorem dksX0_as_1 : cX0_as.data.toList.drop 23 = dktX0_as_1 := dk_seg dksX0_as_0 23 rfl rfl
theorem dksX0_as_2 : cX0_as.data.toList.drop 45 = dktX0_as_2 := dk_seg dksX0_as_1 22 rfl rfl
theorem dX0_as_0 : decode cX0_as 0 = .ok (.aload_n 0, 1) := dk_42 (dk_at dksX0_as_0 0 rfl rfl)
theorem dX0_as_1 : decode cX0_as 1 = .ok (.iload_n 1, 1) := dk_27 (dk_at dksX0_as_0 1 rfl rfl)
theorem dX0_as_2 : decode cX0_as 2 = .ok (.invokevirtual 340, 3) := dk_182 1 84 (dk_at dksX0_as_0 2 rfl rfl)
theorem dX0_as_5 : decode cX0_as 5 = .ok (.ifCond .eq 9, 3) := dk_153 0 9 (dk_at dksX0_as_0 5 rfl rfl)
theorem dX0_as_8 : decode cX0_as 8 = .ok (.aload_n 0, 1) := dk_42 (dk_at dksX0_as_0 8 rfl rfl)
theorem dX0_as_9 : decode cX0_as 9 = .ok (.iconst (-1), 1) := dk_2 (dk_at dksX0_as_0 9 rfl rfl)
theorem dX0_as_10 : decode cX0_as 10 = .ok (.invokevirtual 277, 3) := dk_182 1 21 (dk_at dksX0_as_0 10 rfl rfl)
theorem dX0_as_13 : decode cX0_as 13 = .ok (.ireturn, 1) := dk_172 (dk_at dksX0_as_0 13 rfl rfl)
theorem dX0_as_14 : decode cX0_as 14 = .ok (.iload_n 2, 1) := dk_28 (dk_at dksX0_as_0 14 rfl rfl)
theorem dX0_as_15 : decode cX0_as 15 = .ok (.i2l, 1) := dk_133 (dk_at dksX0_as_0 15 rfl rfl)
theorem dX0_as_16 : decode cX0_as 16 = .ok (.lconst 0, 1) := dk_9 (dk_at dksX0_as_0 16 rfl rfl)
theorem dX0_as_17 : decode cX0_as 17 = .ok (.ldc2_w 280, 3) := dk_20 1 24 (dk_at dksX0_as_0 17 rfl rfl)
theorem dX0_as_20 : decode cX0_as 20 = .ok (.invokestatic 49, 3) := dk_184 0 49 (dk_at dksX0_as_0 20 rfl rfl)
theorem dX0_as_23 : decode cX0_as 23 = .ok (.ifCond .eq 31, 3) := dk_153 0 31 (dk_at dksX0_as_1 0 rfl rfl)
theorem dX0_as_26 : decode cX0_as 26 = .ok (.new 351, 3) := dk_187 1 95 (dk_at dksX0_as_1 3 rfl rfl)
theorem dX0_as_29 : decode cX0_as 29 = .ok (.dup, 1) := dk_89 (dk_at dksX0_as_1 6 rfl rfl)
theorem dX0_as_30 : decode cX0_as 30 = .ok (.aload_n 0, 1) := dk_42 (dk_at dksX0_as_1 7 rfl rfl)
theorem dX0_as_31 : decode cX0_as 31 = .ok (.aload_n 0, 1) := dk_42 (dk_at dksX0_as_1 8 rfl rfl)
theorem dX0_as_32 : decode cX0_as 32 = .ok (.getfield 18, 3) := dk_180 0 18 (dk_at dksX0_as_1 9 rfl rfl)
theorem dX0_as_35 : decode cX0_as 35 = .ok (.iload_n 1, 1) := dk_27 (dk_at dksX0_as_1 12 rfl rfl)
theorem dX0_as_36 : decode cX0_as 36 = .ok (.invokeinterface 77 2, 5) := by decide +kernel
theorem dX0_as_41 : decode cX0_as 41 = .ok (.checkcast 81, 3) := dk_192 0 81 (dk_at dksX0_as_1 18 rfl rfl)
theorem dX0_as_44 : decode cX0_as 44 = .ok (.iload_n 2, 1) := dk_28 (dk_at dksX0_as_1 21 rfl rfl)
theorem dX0_as_45 : decode cX0_as 45 = .ok (.invokespecial 353, 3) := dk_183 1 97 (dk_at dksX0_as_2 0 rfl rfl)
theorem dX0_as_48 : decode cX0_as 48 = .ok (.invokevirtual 356, 3) := dk_182 1 100 (dk_at dksX0_as_2 3 rfl rfl)
theorem dX0_as_51 : decode cX0_as 51 = .ok (.goto 9, 3) := dk_167 0 9 (dk_at dksX0_as_2 6 rfl rfl)
theorem dX0_as_54 : decode cX0_as 54 = .ok (.aload_n 0, 1) := dk_42 (dk_at dksX0_as_2 9 rfl rfl)
theorem dX0_as_55 : decode cX0_as 55 = .ok (.bipush (-2), 2) := dk_16 254 (dk_at dksX0_as_2 10 rfl rfl)
theorem dX0_as_57 : decode cX0_as 57 = .ok (.invokevirtual 277, 3) := dk_182 1 21 (dk_at dksX0_as_2 12 rfl rfl)
theorem dX0_as_60 : decode cX0_as 60 = .ok (.ireturn, 1) := dk_172 (dk_at dksX0_as_2 15 rfl rfl)
abbrev cX0_trace : ByteArray := prog_1_method_71_code
def yX0_trace : MethodName := ⟨RX0, "trace", "()I"⟩
theorem dX0_trace_0 : decode cX0_trace 0 = .ok (.aload_n 0, 1) := by decide +kernel
theorem dX0_trace_1 : decode cX0_trace 1 = .ok (.getfield 357, 3) := by decide +kernel
theorem dX0_trace_4 : decode cX0_trace 4 = .ok (.ireturn, 1) := by decide +kernel
abbrev cX0_fault : ByteArray := prog_1_method_72_code
def yX0_fault : MethodName := ⟨RX0, "fault", "()I"⟩
theorem dX0_fault_0 : decode cX0_fault 0 = .ok (.aload_n 0, 1) := by decide +kernel
theorem dX0_fault_1 : decode cX0_fault 1 = .ok (.getfield 263, 3) := by decide +kernel
theorem dX0_fault_4 : decode cX0_fault 4 = .ok (.ireturn, 1) := by decide +kernel
abbrev cX0_many : ByteArray := prog_1_method_73_code
def yX0_many : MethodName := ⟨RX0, "many", "(I)I"⟩
def dkwX0_many_4 : List UInt8 := [160, 0, 7, 28, 167, 0, 14, 27, 6, 160, 0, 7, 29, 167, 0, 5, 16, 254, 172]
abbrev dktX0_many_4 : List UInt8 := dkwX0_many_4 ++ []
def dkwX0_many_3 : List UInt8 := [167, 0, 40, 27, 4, 160, 0, 15, 42, 180, 0, 18, 185, 0, 74, 1, 0, 167, 0, 23, 27, 5]
abbrev dktX0_many_3 : List UInt8 := dkwX0_many_3 ++ dktX0_many_4
def dkwX0_many_2 : List UInt8 := [46, 184, 1, 104, 4, 100, 96, 62, 132, 4, 1, 167, 255, 205, 27, 154, 0, 10, 42, 180, 0, 45]
abbrev dktX0_many_2 : List UInt8 := dkwX0_many_2 ++ dktX0_many_3
def dkwX0_many_1 : List UInt8 := [184, 0, 53, 42, 182, 0, 61, 160, 0, 7, 4, 167, 0, 4, 3, 96, 61, 29, 42, 180, 0, 11, 21, 4]
abbrev dktX0_many_1 : List UInt8 := dkwX0_many_1 ++ dktX0_many_2
def dkwX0_many_0 : List UInt8 := [3, 61, 3, 62, 3, 54, 4, 21, 4, 42, 180, 0, 45, 162, 0, 48, 28, 42, 182, 0, 93, 21, 4]
abbrev dktX0_many_0 : List UInt8 := dkwX0_many_0 ++ dktX0_many_1
theorem dksX0_many_0 : cX0_many.data.toList.drop 0 = dktX0_many_0 := by decide +kernel
theorem dksX0_many_1 : cX0_many.data.toList.drop 23 = dktX0_many_1 := dk_seg dksX0_many_0 23 rfl rfl
theorem dksX0_many_2 : cX0_many.data.toList.drop 47 = dktX0_many_2 := dk_seg dksX0_many_1 24 rfl rfl
theorem dksX0_many_3 : cX0_many.data.toList.drop 69 = dktX0_many_3 := dk_seg dksX0_many_2 22 rfl rfl
theorem dksX0_many_4 : cX0_many.data.toList.drop 91 = dktX0_many_4 := dk_seg dksX0_many_3 22 rfl rfl
theorem dX0_many_0 : decode cX0_many 0 = .ok (.iconst 0, 1) := dk_3 (dk_at dksX0_many_0 0 rfl rfl)
theorem dX0_many_1 : decode cX0_many 1 = .ok (.istore_n 2, 1) := dk_61 (dk_at dksX0_many_0 1 rfl rfl)
theorem dX0_many_2 : decode cX0_many 2 = .ok (.iconst 0, 1) := dk_3 (dk_at dksX0_many_0 2 rfl rfl)
theorem dX0_many_3 : decode cX0_many 3 = .ok (.istore_n 3, 1) := dk_62 (dk_at dksX0_many_0 3 rfl rfl)
theorem dX0_many_4 : decode cX0_many 4 = .ok (.iconst 0, 1) := dk_3 (dk_at dksX0_many_0 4 rfl rfl)
theorem dX0_many_5 : decode cX0_many 5 = .ok (.istore 4, 2) := dk_54 4 (dk_at dksX0_many_0 5 rfl rfl)
theorem dX0_many_7 : decode cX0_many 7 = .ok (.iload 4, 2) := dk_21 4 (dk_at dksX0_many_0 7 rfl rfl)
theorem dX0_many_9 : decode cX0_many 9 = .ok (.aload_n 0, 1) := dk_42 (dk_at dksX0_many_0 9 rfl rfl)
theorem dX0_many_10 : decode cX0_many 10 = .ok (.getfield 45, 3) := dk_180 0 45 (dk_at dksX0_many_0 10 rfl rfl)
theorem dX0_many_13 : decode cX0_many 13 = .ok (.if_icmp .ge 48, 3) := dk_162 0 48 (dk_at dksX0_many_0 13 rfl rfl)
theorem dX0_many_16 : decode cX0_many 16 = .ok (.iload_n 2, 1) := dk_28 (dk_at dksX0_many_0 16 rfl rfl)
theorem dX0_many_17 : decode cX0_many 17 = .ok (.aload_n 0, 1) := dk_42 (dk_at dksX0_many_0 17 rfl rfl)
theorem dX0_many_18 : decode cX0_many 18 = .ok (.invokevirtual 93, 3) := dk_182 0 93 (dk_at dksX0_many_0 18 rfl rfl)
theorem dX0_many_21 : decode cX0_many 21 = .ok (.iload 4, 2) := dk_21 4 (dk_at dksX0_many_0 21 rfl rfl)
theorem dX0_many_23 : decode cX0_many 23 = .ok (.invokestatic 53, 3) := dk_184 0 53 (dk_at dksX0_many_1 0 rfl rfl)
theorem dX0_many_26 : decode cX0_many 26 = .ok (.aload_n 0, 1) := dk_42 (dk_at dksX0_many_1 3 rfl rfl)
theorem dX0_many_27 : decode cX0_many 27 = .ok (.invokevirtual 61, 3) := dk_182 0 61 (dk_at dksX0_many_1 4 rfl rfl)
theorem dX0_many_30 : decode cX0_many 30 = .ok (.if_icmp .ne 7, 3) := dk_160 0 7 (dk_at dksX0_many_1 7 rfl rfl)
theorem dX0_many_33 : decode cX0_many 33 = .ok (.iconst 1, 1) := dk_4 (dk_at dksX0_many_1 10 rfl rfl)
theorem dX0_many_34 : decode cX0_many 34 = .ok (.goto 4, 3) := dk_167 0 4 (dk_at dksX0_many_1 11 rfl rfl)
theorem dX0_many_37 : decode cX0_many 37 = .ok (.iconst 0, 1) := dk_3 (dk_at dksX0_many_1 14 rfl rfl)
theorem dX0_many_38 : decode cX0_many 38 = .ok (.iadd, 1) := dk_96 (dk_at dksX0_many_1 15 rfl rfl)
theorem dX0_many_39 : decode cX0_many 39 = .ok (.istore_n 2, 1) := dk_61 (dk_at dksX0_many_1 16 rfl rfl)
theorem dX0_many_40 : decode cX0_many 40 = .ok (.iload_n 3, 1) := dk_29 (dk_at dksX0_many_1 17 rfl rfl)
theorem dX0_many_41 : decode cX0_many 41 = .ok (.aload_n 0, 1) := dk_42 (dk_at dksX0_many_1 18 rfl rfl)
theorem dX0_many_42 : decode cX0_many 42 = .ok (.getfield 11, 3) := dk_180 0 11 (dk_at dksX0_many_1 19 rfl rfl)
theorem dX0_many_45 : decode cX0_many 45 = .ok (.iload 4, 2) := dk_21 4 (dk_at dksX0_many_1 22 rfl rfl)
theorem dX0_many_47 : decode cX0_many 47 = .ok (.iaload, 1) := dk_46 (dk_at dksX0_many_2 0 rfl rfl)
theorem dX0_many_48 : decode cX0_many 48 = .ok (.invokestatic 360, 3) := dk_184 1 104 (dk_at dksX0_many_2 1 rfl rfl)
theorem dX0_many_51 : decode cX0_many 51 = .ok (.iconst 1, 1) := dk_4 (dk_at dksX0_many_2 4 rfl rfl)
theorem dX0_many_52 : decode cX0_many 52 = .ok (.isub, 1) := dk_100 (dk_at dksX0_many_2 5 rfl rfl)
theorem dX0_many_53 : decode cX0_many 53 = .ok (.iadd, 1) := dk_96 (dk_at dksX0_many_2 6 rfl rfl)
theorem dX0_many_54 : decode cX0_many 54 = .ok (.istore_n 3, 1) := dk_62 (dk_at dksX0_many_2 7 rfl rfl)
theorem dX0_many_55 : decode cX0_many 55 = .ok (.iinc 4 1, 3) := dk_132 4 1 (dk_at dksX0_many_2 8 rfl rfl)
theorem dX0_many_58 : decode cX0_many 58 = .ok (.goto (-51), 3) := dk_167 255 205 (dk_at dksX0_many_2 11 rfl rfl)
theorem dX0_many_61 : decode cX0_many 61 = .ok (.iload_n 1, 1) := dk_27 (dk_at dksX0_many_2 14 rfl rfl)
theorem dX0_many_62 : decode cX0_many 62 = .ok (.ifCond .ne 10, 3) := dk_154 0 10 (dk_at dksX0_many_2 15 rfl rfl)
theorem dX0_many_65 : decode cX0_many 65 = .ok (.aload_n 0, 1) := dk_42 (dk_at dksX0_many_2 18 rfl rfl)
theorem dX0_many_66 : decode cX0_many 66 = .ok (.getfield 45, 3) := dk_180 0 45 (dk_at dksX0_many_2 19 rfl rfl)
theorem dX0_many_69 : decode cX0_many 69 = .ok (.goto 40, 3) := dk_167 0 40 (dk_at dksX0_many_3 0 rfl rfl)
theorem dX0_many_72 : decode cX0_many 72 = .ok (.iload_n 1, 1) := dk_27 (dk_at dksX0_many_3 3 rfl rfl)
theorem dX0_many_73 : decode cX0_many 73 = .ok (.iconst 1, 1) := dk_4 (dk_at dksX0_many_3 4 rfl rfl)
theorem dX0_many_74 : decode cX0_many 74 = .ok (.if_icmp .ne 15, 3) := dk_160 0 15 (dk_at dksX0_many_3 5 rfl rfl)
theorem dX0_many_77 : decode cX0_many 77 = .ok (.aload_n 0, 1) := dk_42 (dk_at dksX0_many_3 8 rfl rfl)
theorem dX0_many_78 : decode cX0_many 78 = .ok (.getfield 18, 3) := dk_180 0 18 (dk_at dksX0_many_3 9 rfl rfl)
theorem dX0_many_81 : decode cX0_many 81 = .ok (.invokeinterface 74 1, 5) := by decide +kernel
theorem dX0_many_86 : decode cX0_many 86 = .ok (.goto 23, 3) := dk_167 0 23 (dk_at dksX0_many_3 17 rfl rfl)
theorem dX0_many_89 : decode cX0_many 89 = .ok (.iload_n 1, 1) := dk_27 (dk_at dksX0_many_3 20 rfl rfl)
theorem dX0_many_90 : decode cX0_many 90 = .ok (.iconst 2, 1) := dk_5 (dk_at dksX0_many_3 21 rfl rfl)
theorem dX0_many_91 : decode cX0_many 91 = .ok (.if_icmp .ne 7, 3) := dk_160 0 7 (dk_at dksX0_many_4 0 rfl rfl)
theorem dX0_many_94 : decode cX0_many 94 = .ok (.iload_n 2, 1) := dk_28 (dk_at dksX0_many_4 3 rfl rfl)
theorem dX0_many_95 : decode cX0_many 95 = .ok (.goto 14, 3) := dk_167 0 14 (dk_at dksX0_many_4 4 rfl rfl)
theorem dX0_many_98 : decode cX0_many 98 = .ok (.iload_n 1, 1) := dk_27 (dk_at dksX0_many_4 7 rfl rfl)
theorem dX0_many_99 : decode cX0_many 99 = .ok (.iconst 3, 1) := dk_6 (dk_at dksX0_many_4 8 rfl rfl)
theorem dX0_many_100 : decode cX0_many 100 = .ok (.if_icmp .ne 7, 3) := dk_160 0 7 (dk_at dksX0_many_4 9 rfl rfl)
theorem dX0_many_103 : decode cX0_many 103 = .ok (.iload_n 3, 1) := dk_29 (dk_at dksX0_many_4 12 rfl rfl)
theorem dX0_many_104 : decode cX0_many 104 = .ok (.goto 5, 3) := dk_167 0 5 (dk_at dksX0_many_4 13 rfl rfl)
theorem dX0_many_107 : decode cX0_many 107 = .ok (.bipush (-2), 2) := dk_16 254 (dk_at dksX0_many_4 16 rfl rfl)
theorem dX0_many_109 : decode cX0_many 109 = .ok (.ireturn, 1) := dk_172 (dk_at dksX0_many_4 18 rfl rfl)
theorem q60 : (Jvm.Cond.initialized "CallRounds") ∈ lw_all := lw_g (lw_at lw_m1 1 rfl) rfl
theorem q95 : (Jvm.Cond.instantiable "CallRounds" (15 : Nat)) ∈ lw_all := lw_g (lw_at lw_m1 36 rfl) rfl
theorem q97 : (Jvm.Cond.instanceMethod ({ cls := "CallRounds", name := "<init>", desc := "()V" } : Jvm.MethodName)) ∈ lw_all := lw_g (lw_at lw_m1 38 rfl) rfl
theorem q98 : (Jvm.Cond.code ({ cls := "CallRounds", name := "<init>", desc := "()V" } : Jvm.MethodName) prog_1_method_3_code (1 : Nat) (Option.none : Option Jvm.ClassFile.FieldType)) ∈ lw_all := lw_g (lw_at lw_m1 39 rfl) rfl
theorem q99 : (Jvm.Cond.methodLink "CallRounds" (3 : Nat) ({ cls := "java/lang/Object", name := "<init>", desc := "()V" } : Jvm.MethodName)) ∈ lw_all := lw_g (lw_at lw_m1 40 rfl) rfl
theorem q102 : (Jvm.Cond.classLink "CallRounds" (15 : Nat) "java/util/ArrayList") ∈ lw_all := lw_g (lw_at lw_m1 43 rfl) rfl
theorem q104 : (Jvm.Cond.methodLink "CallRounds" (17 : Nat) ({ cls := "java/util/ArrayList", name := "<init>", desc := "()V" } : Jvm.MethodName)) ∈ lw_all := lw_g (lw_at lw_m1 45 rfl) rfl
theorem q129 : (Jvm.Cond.constant "CallRounds" (22 : Nat) (65536 : Int32)) ∈ lw_all := lw_g (lw_at lw_m1 70 rfl) rfl
theorem q130 : (Jvm.Cond.classLink "CallRounds" (39 : Nat) "CallRounds$Sheet") ∈ lw_all := lw_g (lw_at lw_m1 71 rfl) rfl
theorem q133 : (Jvm.Cond.fieldLink "CallRounds" (45 : Nat) "CallRounds" "persons" "I") ∈ lw_all := lw_g (lw_at lw_m1 74 rfl) rfl
theorem q136 : (Jvm.Cond.fieldLink "CallRounds" (11 : Nat) "CallRounds" "told" "[I") ∈ lw_all := lw_g (lw_at lw_m1 77 rfl) rfl
theorem q138 : (Jvm.Cond.fieldLink "CallRounds" (357 : Nat) "CallRounds" "trace" "I") ∈ lw_all := lw_g (lw_at lw_m1 79 rfl) rfl
theorem q139 : (Jvm.Cond.fieldLink "CallRounds" (18 : Nat) "CallRounds" "rings" "Ljava/util/List;") ∈ lw_all := lw_g (lw_at lw_m1 80 rfl) rfl
theorem q140 : (Jvm.Cond.fieldLink "CallRounds" (23 : Nat) "CallRounds" "laidBy" "[I") ∈ lw_all := lw_g (lw_at lw_m1 81 rfl) rfl
theorem q141 : (Jvm.Cond.fieldLink "CallRounds" (26 : Nat) "CallRounds" "runsFrom" "[J") ∈ lw_all := lw_g (lw_at lw_m1 82 rfl) rfl
theorem q142 : (Jvm.Cond.fieldLink "CallRounds" (30 : Nat) "CallRounds" "goodFrom" "[J") ∈ lw_all := lw_g (lw_at lw_m1 83 rfl) rfl
theorem q143 : (Jvm.Cond.fieldLink "CallRounds" (33 : Nat) "CallRounds" "fewestFrom" "[I") ∈ lw_all := lw_g (lw_at lw_m1 84 rfl) rfl
theorem q144 : (Jvm.Cond.fieldLink "CallRounds" (36 : Nat) "CallRounds" "mostFrom" "[I") ∈ lw_all := lw_g (lw_at lw_m1 85 rfl) rfl
theorem q145 : (Jvm.Cond.fieldLink "CallRounds" (167 : Nat) "CallRounds" "count" "I") ∈ lw_all := lw_g (lw_at lw_m1 86 rfl) rfl
theorem q146 : (Jvm.Cond.fieldLink "CallRounds" (201 : Nat) "CallRounds" "alikeMany" "I") ∈ lw_all := lw_g (lw_at lw_m1 87 rfl) rfl
theorem q147 : (Jvm.Cond.fieldLink "CallRounds" (204 : Nat) "CallRounds" "inAll" "I") ∈ lw_all := lw_g (lw_at lw_m1 88 rfl) rfl
theorem q148 : (Jvm.Cond.fieldLink "CallRounds" (207 : Nat) "CallRounds" "allOver" "Z") ∈ lw_all := lw_g (lw_at lw_m1 89 rfl) rfl
theorem q150 : (Jvm.Cond.fieldLink "CallRounds" (263 : Nat) "CallRounds" "fault" "I") ∈ lw_all := lw_g (lw_at lw_m1 91 rfl) rfl
theorem q151 : (Jvm.Cond.fieldLink "CallRounds" (41 : Nat) "CallRounds" "sheets" "[LCallRounds$Sheet;") ∈ lw_all := lw_g (lw_at lw_m1 92 rfl) rfl
theorem q152 : (Jvm.Cond.lays "CallRounds" "CallRounds" "persons" "I") ∈ lw_all := lw_g (lw_at lw_m1 93 rfl) rfl
theorem q153 : (Jvm.Cond.soleField "CallRounds" "persons") ∈ lw_all := lw_g (lw_at lw_m1 94 rfl) rfl
theorem q154 : (Jvm.Cond.laysFinal "CallRounds" "CallRounds" "told" "[I") ∈ lw_all := lw_g (lw_at lw_m1 95 rfl) rfl
theorem q155 : (Jvm.Cond.soleField "CallRounds" "told") ∈ lw_all := lw_g (lw_at lw_m1 96 rfl) rfl
theorem q156 : (Jvm.Cond.lays "CallRounds" "CallRounds" "trace" "I") ∈ lw_all := lw_g (lw_at lw_m1 97 rfl) rfl
theorem q157 : (Jvm.Cond.soleField "CallRounds" "trace") ∈ lw_all := lw_g (lw_at lw_m1 98 rfl) rfl
theorem q158 : (Jvm.Cond.laysFinal "CallRounds" "CallRounds" "rings" "Ljava/util/List;") ∈ lw_all := lw_g (lw_at lw_m1 99 rfl) rfl
theorem q159 : (Jvm.Cond.soleField "CallRounds" "rings") ∈ lw_all := lw_g (lw_at lw_m1 100 rfl) rfl
theorem q160 : (Jvm.Cond.laysFinal "CallRounds" "CallRounds" "laidBy" "[I") ∈ lw_all := lw_g (lw_at lw_m1 101 rfl) rfl
theorem q161 : (Jvm.Cond.soleField "CallRounds" "laidBy") ∈ lw_all := lw_g (lw_at lw_m1 102 rfl) rfl
theorem q162 : (Jvm.Cond.laysFinal "CallRounds" "CallRounds" "runsFrom" "[J") ∈ lw_all := lw_g (lw_at lw_m1 103 rfl) rfl
theorem q163 : (Jvm.Cond.soleField "CallRounds" "runsFrom") ∈ lw_all := lw_g (lw_at lw_m1 104 rfl) rfl
theorem q164 : (Jvm.Cond.laysFinal "CallRounds" "CallRounds" "goodFrom" "[J") ∈ lw_all := lw_g (lw_at lw_m1 105 rfl) rfl
theorem q165 : (Jvm.Cond.soleField "CallRounds" "goodFrom") ∈ lw_all := lw_g (lw_at lw_m1 106 rfl) rfl
theorem q166 : (Jvm.Cond.laysFinal "CallRounds" "CallRounds" "fewestFrom" "[I") ∈ lw_all := lw_g (lw_at lw_m1 107 rfl) rfl
theorem q167 : (Jvm.Cond.soleField "CallRounds" "fewestFrom") ∈ lw_all := lw_g (lw_at lw_m1 108 rfl) rfl
theorem q168 : (Jvm.Cond.laysFinal "CallRounds" "CallRounds" "mostFrom" "[I") ∈ lw_all := lw_g (lw_at lw_m1 109 rfl) rfl
theorem q169 : (Jvm.Cond.soleField "CallRounds" "mostFrom") ∈ lw_all := lw_g (lw_at lw_m1 110 rfl) rfl
theorem q170 : (Jvm.Cond.lays "CallRounds" "CallRounds" "count" "I") ∈ lw_all := lw_g (lw_at lw_m1 111 rfl) rfl
theorem q171 : (Jvm.Cond.soleField "CallRounds" "count") ∈ lw_all := lw_g (lw_at lw_m1 112 rfl) rfl
theorem q172 : (Jvm.Cond.lays "CallRounds" "CallRounds" "alikeMany" "I") ∈ lw_all := lw_g (lw_at lw_m1 113 rfl) rfl
theorem q173 : (Jvm.Cond.soleField "CallRounds" "alikeMany") ∈ lw_all := lw_g (lw_at lw_m1 114 rfl) rfl
theorem q174 : (Jvm.Cond.lays "CallRounds" "CallRounds" "inAll" "I") ∈ lw_all := lw_g (lw_at lw_m1 115 rfl) rfl
theorem q175 : (Jvm.Cond.soleField "CallRounds" "inAll") ∈ lw_all := lw_g (lw_at lw_m1 116 rfl) rfl
theorem q176 : (Jvm.Cond.lays "CallRounds" "CallRounds" "allOver" "Z") ∈ lw_all := lw_g (lw_at lw_m1 117 rfl) rfl
theorem q177 : (Jvm.Cond.soleField "CallRounds" "allOver") ∈ lw_all := lw_g (lw_at lw_m1 118 rfl) rfl
theorem q178 : (Jvm.Cond.lays "CallRounds" "CallRounds" "fault" "I") ∈ lw_all := lw_g (lw_at lw_m1 119 rfl) rfl
theorem q179 : (Jvm.Cond.soleField "CallRounds" "fault") ∈ lw_all := lw_g (lw_at lw_m1 120 rfl) rfl
theorem q180 : (Jvm.Cond.laysFinal "CallRounds" "CallRounds" "sheets" "[LCallRounds$Sheet;") ∈ lw_all := lw_g (lw_at lw_m1 121 rfl) rfl
theorem q181 : (Jvm.Cond.soleField "CallRounds" "sheets") ∈ lw_all := lw_g (lw_at lw_m1 122 rfl) rfl
theorem q182 : (Jvm.Cond.superclass "CallRounds" "java/lang/Object") ∈ lw_all := lw_g (lw_at lw_m1 123 rfl) rfl
theorem q185 : (Jvm.Cond.instanceMethod ({ cls := "CallRounds", name := "call", desc := "(II)I" } : Jvm.MethodName)) ∈ lw_all := lw_g (lw_at lw_m1 126 rfl) rfl
theorem q186 : (Jvm.Cond.selects "CallRounds" ({ cls := "CallRounds", name := "call", desc := "(II)I" } : Jvm.MethodName) ({ cls := "CallRounds", name := "call", desc := "(II)I" } : Jvm.MethodName)) ∈ lw_all := lw_g (lw_at lw_m1 127 rfl) rfl
theorem q187 : (Jvm.Cond.code ({ cls := "CallRounds", name := "call", desc := "(II)I" } : Jvm.MethodName) prog_1_method_14_code (8 : Nat) (Option.some Jvm.ClassFile.FieldType.int)) ∈ lw_all := lw_g (lw_at lw_m1 128 rfl) rfl
theorem q188 : (Jvm.Cond.methodLink "CallRounds" (89 : Nat) ({ cls := "CallRounds", name := "noPerson", desc := "(I)Z" } : Jvm.MethodName)) ∈ lw_all := lw_g (lw_at lw_m1 129 rfl) rfl
theorem q189 : (Jvm.Cond.privateMethod ({ cls := "CallRounds", name := "noPerson", desc := "(I)Z" } : Jvm.MethodName)) ∈ lw_tbl := lw_at lw_m1 130 rfl
theorem q190 : (Jvm.Cond.instanceMethod ({ cls := "CallRounds", name := "noPerson", desc := "(I)Z" } : Jvm.MethodName)) ∈ lw_all := lw_g (lw_at lw_m1 131 rfl) rfl
theorem q191 : (Jvm.Cond.code ({ cls := "CallRounds", name := "noPerson", desc := "(I)Z" } : Jvm.MethodName) prog_1_method_4_code (2 : Nat) (Option.some Jvm.ClassFile.FieldType.boolean)) ∈ lw_all := lw_g (lw_at lw_m1 132 rfl) rfl
theorem q192 : (Jvm.Cond.methodLink "CallRounds" (49 : Nat) ({ cls := "CallRounds", name := "in", desc := "(JJJ)Z" } : Jvm.MethodName)) ∈ lw_all := lw_g (lw_at lw_m1 133 rfl) rfl
theorem q193 : (Jvm.Cond.static ({ cls := "CallRounds", name := "in", desc := "(JJJ)Z" } : Jvm.MethodName)) ∈ lw_all := lw_g (lw_at lw_m1 134 rfl) rfl
theorem q194 : (Jvm.Cond.code ({ cls := "CallRounds", name := "in", desc := "(JJJ)Z" } : Jvm.MethodName) prog_1_method_1_code (6 : Nat) (Option.some Jvm.ClassFile.FieldType.boolean)) ∈ lw_all := lw_g (lw_at lw_m1 135 rfl) rfl
theorem q195 : (Jvm.Cond.methodLink "CallRounds" (93 : Nat) ({ cls := "CallRounds", name := "secretsNow", desc := "()I" } : Jvm.MethodName)) ∈ lw_all := lw_g (lw_at lw_m1 136 rfl) rfl
theorem q196 : (Jvm.Cond.privateMethod ({ cls := "CallRounds", name := "secretsNow", desc := "()I" } : Jvm.MethodName)) ∈ lw_tbl := lw_at lw_m1 137 rfl
theorem q197 : (Jvm.Cond.instanceMethod ({ cls := "CallRounds", name := "secretsNow", desc := "()I" } : Jvm.MethodName)) ∈ lw_all := lw_g (lw_at lw_m1 138 rfl) rfl
theorem q198 : (Jvm.Cond.code ({ cls := "CallRounds", name := "secretsNow", desc := "()I" } : Jvm.MethodName) prog_1_method_12_code (1 : Nat) (Option.some Jvm.ClassFile.FieldType.int)) ∈ lw_all := lw_g (lw_at lw_m1 139 rfl) rfl
theorem q199 : (Jvm.Cond.interfaceEntry "CallRounds" (65 : Nat)) ∈ lw_tbl := lw_at lw_m1 140 rfl
theorem q200 : (Jvm.Cond.methodLink "CallRounds" (65 : Nat) ({ cls := "java/util/List", name := "isEmpty", desc := "()Z" } : Jvm.MethodName)) ∈ lw_all := lw_g (lw_at lw_m1 141 rfl) rfl
theorem q209 : (Jvm.Cond.methodLink "CallRounds" (71 : Nat) ({ cls := "CallRounds", name := "atFirst", desc := "()I" } : Jvm.MethodName)) ∈ lw_all := lw_g (lw_at lw_m1 150 rfl) rfl
theorem q210 : (Jvm.Cond.privateMethod ({ cls := "CallRounds", name := "atFirst", desc := "()I" } : Jvm.MethodName)) ∈ lw_tbl := lw_at lw_m1 151 rfl
theorem q211 : (Jvm.Cond.instanceMethod ({ cls := "CallRounds", name := "atFirst", desc := "()I" } : Jvm.MethodName)) ∈ lw_all := lw_g (lw_at lw_m1 152 rfl) rfl
theorem q212 : (Jvm.Cond.code ({ cls := "CallRounds", name := "atFirst", desc := "()I" } : Jvm.MethodName) prog_1_method_7_code (3 : Nat) (Option.some Jvm.ClassFile.FieldType.int)) ∈ lw_all := lw_g (lw_at lw_m1 153 rfl) rfl
theorem q213 : (Jvm.Cond.interfaceEntry "CallRounds" (74 : Nat)) ∈ lw_tbl := lw_at lw_m1 154 rfl
theorem q214 : (Jvm.Cond.methodLink "CallRounds" (74 : Nat) ({ cls := "java/util/List", name := "size", desc := "()I" } : Jvm.MethodName)) ∈ lw_all := lw_g (lw_at lw_m1 155 rfl) rfl
theorem q222 : (Jvm.Cond.interfaceEntry "CallRounds" (77 : Nat)) ∈ lw_tbl := lw_at lw_m1 163 rfl
theorem q223 : (Jvm.Cond.methodLink "CallRounds" (77 : Nat) ({ cls := "java/util/List", name := "get", desc := "(I)Ljava/lang/Object;" } : Jvm.MethodName)) ∈ lw_all := lw_g (lw_at lw_m1 164 rfl) rfl
theorem q241 : (Jvm.Cond.classLink "CallRounds" (81 : Nat) "CallRounds$Ring") ∈ lw_all := lw_g (lw_at lw_m1 182 rfl) rfl
theorem q242 : (Jvm.Cond.methodLink "CallRounds" (96 : Nat) ({ cls := "CallRounds", name := "numbersOf", desc := "(II)I" } : Jvm.MethodName)) ∈ lw_all := lw_g (lw_at lw_m1 183 rfl) rfl
theorem q243 : (Jvm.Cond.privateMethod ({ cls := "CallRounds", name := "numbersOf", desc := "(II)I" } : Jvm.MethodName)) ∈ lw_tbl := lw_at lw_m1 184 rfl
theorem q244 : (Jvm.Cond.instanceMethod ({ cls := "CallRounds", name := "numbersOf", desc := "(II)I" } : Jvm.MethodName)) ∈ lw_all := lw_g (lw_at lw_m1 185 rfl) rfl
theorem q245 : (Jvm.Cond.code ({ cls := "CallRounds", name := "numbersOf", desc := "(II)I" } : Jvm.MethodName) prog_1_method_8_code (5 : Nat) (Option.some Jvm.ClassFile.FieldType.int)) ∈ lw_all := lw_g (lw_at lw_m1 186 rfl) rfl
theorem q246 : (Jvm.Cond.methodLink "CallRounds" (53 : Nat) ({ cls := "CallRounds", name := "hasOf", desc := "(II)I" } : Jvm.MethodName)) ∈ lw_all := lw_g (lw_at lw_m1 187 rfl) rfl
theorem q247 : (Jvm.Cond.static ({ cls := "CallRounds", name := "hasOf", desc := "(II)I" } : Jvm.MethodName)) ∈ lw_all := lw_g (lw_at lw_m1 188 rfl) rfl
theorem q248 : (Jvm.Cond.code ({ cls := "CallRounds", name := "hasOf", desc := "(II)I" } : Jvm.MethodName) prog_1_method_6_code (2 : Nat) (Option.some Jvm.ClassFile.FieldType.int)) ∈ lw_all := lw_g (lw_at lw_m1 189 rfl) rfl
theorem q249 : (Jvm.Cond.methodLink "CallRounds" (57 : Nat) ({ cls := "CallRounds", name := "isIn", desc := "(II)Z" } : Jvm.MethodName)) ∈ lw_all := lw_g (lw_at lw_m1 190 rfl) rfl
theorem q250 : (Jvm.Cond.static ({ cls := "CallRounds", name := "isIn", desc := "(II)Z" } : Jvm.MethodName)) ∈ lw_all := lw_g (lw_at lw_m1 191 rfl) rfl
theorem q251 : (Jvm.Cond.code ({ cls := "CallRounds", name := "isIn", desc := "(II)Z" } : Jvm.MethodName) prog_1_method_2_code (2 : Nat) (Option.some Jvm.ClassFile.FieldType.boolean)) ∈ lw_all := lw_g (lw_at lw_m1 192 rfl) rfl
theorem q252 : (Jvm.Cond.methodLink "CallRounds" (99 : Nat) ({ cls := "CallRounds", name := "tokensNow", desc := "()I" } : Jvm.MethodName)) ∈ lw_all := lw_g (lw_at lw_m1 193 rfl) rfl
theorem q253 : (Jvm.Cond.privateMethod ({ cls := "CallRounds", name := "tokensNow", desc := "()I" } : Jvm.MethodName)) ∈ lw_tbl := lw_at lw_m1 194 rfl
theorem q254 : (Jvm.Cond.instanceMethod ({ cls := "CallRounds", name := "tokensNow", desc := "()I" } : Jvm.MethodName)) ∈ lw_all := lw_g (lw_at lw_m1 195 rfl) rfl
theorem q255 : (Jvm.Cond.code ({ cls := "CallRounds", name := "tokensNow", desc := "()I" } : Jvm.MethodName) prog_1_method_13_code (1 : Nat) (Option.some Jvm.ClassFile.FieldType.int)) ∈ lw_all := lw_g (lw_at lw_m1 196 rfl) rfl
theorem q256 : (Jvm.Cond.methodLink "CallRounds" (102 : Nat) ({ cls := "CallRounds", name := "tokensBehind", desc := "(III)I" } : Jvm.MethodName)) ∈ lw_all := lw_g (lw_at lw_m1 197 rfl) rfl
theorem q257 : (Jvm.Cond.static ({ cls := "CallRounds", name := "tokensBehind", desc := "(III)I" } : Jvm.MethodName)) ∈ lw_all := lw_g (lw_at lw_m1 198 rfl) rfl
theorem q258 : (Jvm.Cond.code ({ cls := "CallRounds", name := "tokensBehind", desc := "(III)I" } : Jvm.MethodName) prog_1_method_11_code (5 : Nat) (Option.some Jvm.ClassFile.FieldType.int)) ∈ lw_all := lw_g (lw_at lw_m1 199 rfl) rfl
theorem q260 : (Jvm.Cond.methodLink "CallRounds" (106 : Nat) ({ cls := "CallRounds$Ring", name := "<init>", desc := "(LCallRounds;IIIII)V" } : Jvm.MethodName)) ∈ lw_all := lw_g (lw_at lw_m1 201 rfl) rfl
theorem q265 : (Jvm.Cond.static ({ cls := "CallRounds", name := "behind", desc := "(III)I" } : Jvm.MethodName)) ∈ lw_all := lw_g (lw_at lw_m1 206 rfl) rfl
theorem q266 : (Jvm.Cond.code ({ cls := "CallRounds", name := "behind", desc := "(III)I" } : Jvm.MethodName) prog_1_method_9_code (4 : Nat) (Option.some Jvm.ClassFile.FieldType.int)) ∈ lw_all := lw_g (lw_at lw_m1 207 rfl) rfl
theorem q275 : (Jvm.Cond.fieldLink "CallRounds" (195 : Nat) "CallRounds$Ring" "from" "I") ∈ lw_all := lw_g (lw_at lw_m1 216 rfl) rfl
theorem q277 : (Jvm.Cond.fieldLink "CallRounds" (198 : Nat) "CallRounds$Ring" "to" "I") ∈ lw_all := lw_g (lw_at lw_m1 218 rfl) rfl
theorem q279 : (Jvm.Cond.fieldLink "CallRounds" (83 : Nat) "CallRounds$Ring" "secrets" "I") ∈ lw_all := lw_g (lw_at lw_m1 220 rfl) rfl
theorem q281 : (Jvm.Cond.fieldLink "CallRounds" (86 : Nat) "CallRounds$Ring" "tokens" "I") ∈ lw_all := lw_g (lw_at lw_m1 222 rfl) rfl
theorem q302 : (Jvm.Cond.methodLink "CallRounds" (61 : Nat) ({ cls := "CallRounds", name := "all", desc := "()I" } : Jvm.MethodName)) ∈ lw_all := lw_g (lw_at lw_m2 3 rfl) rfl
theorem q303 : (Jvm.Cond.privateMethod ({ cls := "CallRounds", name := "all", desc := "()I" } : Jvm.MethodName)) ∈ lw_tbl := lw_at lw_m2 4 rfl
theorem q304 : (Jvm.Cond.instanceMethod ({ cls := "CallRounds", name := "all", desc := "()I" } : Jvm.MethodName)) ∈ lw_all := lw_g (lw_at lw_m2 5 rfl) rfl
theorem q305 : (Jvm.Cond.code ({ cls := "CallRounds", name := "all", desc := "()I" } : Jvm.MethodName) prog_1_method_5_code (1 : Nat) (Option.some Jvm.ClassFile.FieldType.int)) ∈ lw_all := lw_g (lw_at lw_m2 6 rfl) rfl
theorem q306 : (Jvm.Cond.classLink "CallRounds" (109 : Nat) "CallRounds$Whole") ∈ lw_all := lw_g (lw_at lw_m2 7 rfl) rfl
theorem q308 : (Jvm.Cond.methodLink "CallRounds" (111 : Nat) ({ cls := "CallRounds$Whole", name := "<init>", desc := "(LCallRounds;IIIII)V" } : Jvm.MethodName)) ∈ lw_all := lw_g (lw_at lw_m2 9 rfl) rfl
theorem q330 : (Jvm.Cond.classLink "CallRounds" (112 : Nat) "CallRounds$News") ∈ lw_all := lw_g (lw_at lw_m2 31 rfl) rfl
theorem q332 : (Jvm.Cond.methodLink "CallRounds" (114 : Nat) ({ cls := "CallRounds$News", name := "<init>", desc := "(LCallRounds;IIIII)V" } : Jvm.MethodName)) ∈ lw_all := lw_g (lw_at lw_m2 33 rfl) rfl
theorem q343 : (Jvm.Cond.interfaceEntry "CallRounds" (115 : Nat)) ∈ lw_tbl := lw_at lw_m2 44 rfl
theorem q344 : (Jvm.Cond.methodLink "CallRounds" (115 : Nat) ({ cls := "java/util/List", name := "add", desc := "(Ljava/lang/Object;)Z" } : Jvm.MethodName)) ∈ lw_all := lw_g (lw_at lw_m2 45 rfl) rfl
theorem q380 : (Jvm.Cond.selects "CallRounds" ({ cls := "java/lang/Object", name := "getClass", desc := "()Ljava/lang/Class;" } : Jvm.MethodName) ({ cls := "java/lang/Object", name := "getClass", desc := "()Ljava/lang/Class;" } : Jvm.MethodName)) ∈ lw_all := lw_g (lw_at lw_m2 81 rfl) rfl
theorem q415 : (Jvm.Cond.instanceMethod ({ cls := "CallRounds", name := "ofCall", desc := "(II)I" } : Jvm.MethodName)) ∈ lw_all := lw_g (lw_at lw_m2 116 rfl) rfl
theorem q416 : (Jvm.Cond.selects "CallRounds" ({ cls := "CallRounds", name := "ofCall", desc := "(II)I" } : Jvm.MethodName) ({ cls := "CallRounds", name := "ofCall", desc := "(II)I" } : Jvm.MethodName)) ∈ lw_all := lw_g (lw_at lw_m2 117 rfl) rfl
theorem q417 : (Jvm.Cond.code ({ cls := "CallRounds", name := "ofCall", desc := "(II)I" } : Jvm.MethodName) prog_1_method_15_code (3 : Nat) (Option.some Jvm.ClassFile.FieldType.int)) ∈ lw_all := lw_g (lw_at lw_m2 118 rfl) rfl
theorem q418 : (Jvm.Cond.methodLink "CallRounds" (119 : Nat) ({ cls := "CallRounds$Ring", name := "tells", desc := "(I)I" } : Jvm.MethodName)) ∈ lw_all := lw_g (lw_at lw_m2 119 rfl) rfl
theorem q437 : (Jvm.Cond.instanceMethod ({ cls := "CallRounds", name := "back", desc := "()I" } : Jvm.MethodName)) ∈ lw_all := lw_g (lw_at lw_m2 138 rfl) rfl
theorem q438 : (Jvm.Cond.selects "CallRounds" ({ cls := "CallRounds", name := "back", desc := "()I" } : Jvm.MethodName) ({ cls := "CallRounds", name := "back", desc := "()I" } : Jvm.MethodName)) ∈ lw_all := lw_g (lw_at lw_m2 139 rfl) rfl
theorem q439 : (Jvm.Cond.code ({ cls := "CallRounds", name := "back", desc := "()I" } : Jvm.MethodName) prog_1_method_16_code (1 : Nat) (Option.some Jvm.ClassFile.FieldType.int)) ∈ lw_all := lw_g (lw_at lw_m2 140 rfl) rfl
theorem q440 : (Jvm.Cond.interfaceEntry "CallRounds" (123 : Nat)) ∈ lw_tbl := lw_at lw_m2 141 rfl
theorem q441 : (Jvm.Cond.methodLink "CallRounds" (123 : Nat) ({ cls := "java/util/List", name := "remove", desc := "(I)Ljava/lang/Object;" } : Jvm.MethodName)) ∈ lw_all := lw_g (lw_at lw_m2 142 rfl) rfl
theorem q455 : (Jvm.Cond.instanceMethod ({ cls := "CallRounds", name := "ofPerson", desc := "(II)I" } : Jvm.MethodName)) ∈ lw_all := lw_g (lw_at lw_m2 156 rfl) rfl
theorem q456 : (Jvm.Cond.selects "CallRounds" ({ cls := "CallRounds", name := "ofPerson", desc := "(II)I" } : Jvm.MethodName) ({ cls := "CallRounds", name := "ofPerson", desc := "(II)I" } : Jvm.MethodName)) ∈ lw_all := lw_g (lw_at lw_m2 157 rfl) rfl
theorem q457 : (Jvm.Cond.code ({ cls := "CallRounds", name := "ofPerson", desc := "(II)I" } : Jvm.MethodName) prog_1_method_17_code (4 : Nat) (Option.some Jvm.ClassFile.FieldType.int)) ∈ lw_all := lw_g (lw_at lw_m2 158 rfl) rfl
theorem q459 : (Jvm.Cond.instanceMethod ({ cls := "CallRounds", name := "may", desc := "(II)I" } : Jvm.MethodName)) ∈ lw_all := lw_g (lw_at lw_m2 160 rfl) rfl
theorem q460 : (Jvm.Cond.selects "CallRounds" ({ cls := "CallRounds", name := "may", desc := "(II)I" } : Jvm.MethodName) ({ cls := "CallRounds", name := "may", desc := "(II)I" } : Jvm.MethodName)) ∈ lw_all := lw_g (lw_at lw_m2 161 rfl) rfl
theorem q461 : (Jvm.Cond.code ({ cls := "CallRounds", name := "may", desc := "(II)I" } : Jvm.MethodName) prog_1_method_22_code (5 : Nat) (Option.some Jvm.ClassFile.FieldType.int)) ∈ lw_all := lw_g (lw_at lw_m2 162 rfl) rfl
theorem q462 : (Jvm.Cond.methodLink "CallRounds" (157 : Nat) ({ cls := "CallRounds", name := "noRule", desc := "(I)Z" } : Jvm.MethodName)) ∈ lw_all := lw_g (lw_at lw_m2 163 rfl) rfl
theorem q463 : (Jvm.Cond.static ({ cls := "CallRounds", name := "noRule", desc := "(I)Z" } : Jvm.MethodName)) ∈ lw_all := lw_g (lw_at lw_m2 164 rfl) rfl
theorem q464 : (Jvm.Cond.code ({ cls := "CallRounds", name := "noRule", desc := "(I)Z" } : Jvm.MethodName) prog_1_method_19_code (1 : Nat) (Option.some Jvm.ClassFile.FieldType.boolean)) ∈ lw_all := lw_g (lw_at lw_m2 165 rfl) rfl
theorem q465 : (Jvm.Cond.constantLong "CallRounds" (152 : Nat) (3 : Int64)) ∈ lw_all := lw_g (lw_at lw_m2 166 rfl) rfl
theorem q466 : (Jvm.Cond.methodLink "CallRounds" (160 : Nat) ({ cls := "CallRounds", name := "mayRing", desc := "(IIIII)Z" } : Jvm.MethodName)) ∈ lw_all := lw_g (lw_at lw_m2 167 rfl) rfl
theorem q467 : (Jvm.Cond.privateMethod ({ cls := "CallRounds", name := "mayRing", desc := "(IIIII)Z" } : Jvm.MethodName)) ∈ lw_tbl := lw_at lw_m2 168 rfl
theorem q468 : (Jvm.Cond.instanceMethod ({ cls := "CallRounds", name := "mayRing", desc := "(IIIII)Z" } : Jvm.MethodName)) ∈ lw_all := lw_g (lw_at lw_m2 169 rfl) rfl
theorem q469 : (Jvm.Cond.code ({ cls := "CallRounds", name := "mayRing", desc := "(IIIII)Z" } : Jvm.MethodName) prog_1_method_21_code (7 : Nat) (Option.some Jvm.ClassFile.FieldType.boolean)) ∈ lw_all := lw_g (lw_at lw_m2 170 rfl) rfl
theorem q470 : (Jvm.Cond.methodLink "CallRounds" (154 : Nat) ({ cls := "CallRounds", name := "tokensOf", desc := "(II)I" } : Jvm.MethodName)) ∈ lw_all := lw_g (lw_at lw_m2 171 rfl) rfl
theorem q471 : (Jvm.Cond.static ({ cls := "CallRounds", name := "tokensOf", desc := "(II)I" } : Jvm.MethodName)) ∈ lw_all := lw_g (lw_at lw_m2 172 rfl) rfl
theorem q472 : (Jvm.Cond.code ({ cls := "CallRounds", name := "tokensOf", desc := "(II)I" } : Jvm.MethodName) prog_1_method_20_code (2 : Nat) (Option.some Jvm.ClassFile.FieldType.int)) ∈ lw_all := lw_g (lw_at lw_m2 173 rfl) rfl
theorem q474 : (Jvm.Cond.instanceMethod ({ cls := "CallRounds", name := "runs", desc := "(II)J" } : Jvm.MethodName)) ∈ lw_all := lw_g (lw_at lw_m2 175 rfl) rfl
theorem q475 : (Jvm.Cond.selects "CallRounds" ({ cls := "CallRounds", name := "runs", desc := "(II)J" } : Jvm.MethodName) ({ cls := "CallRounds", name := "runs", desc := "(II)J" } : Jvm.MethodName)) ∈ lw_all := lw_g (lw_at lw_m2 176 rfl) rfl
theorem q476 : (Jvm.Cond.code ({ cls := "CallRounds", name := "runs", desc := "(II)J" } : Jvm.MethodName) prog_1_method_27_code (4 : Nat) (Option.some Jvm.ClassFile.FieldType.long)) ∈ lw_all := lw_g (lw_at lw_m2 177 rfl) rfl
theorem q477 : (Jvm.Cond.constantLong "CallRounds" (187 : Nat) (-9223372036854775808 : Int64)) ∈ lw_all := lw_g (lw_at lw_m2 178 rfl) rfl
theorem q478 : (Jvm.Cond.methodLink "CallRounds" (189 : Nat) ({ cls := "CallRounds", name := "layNow", desc := "(I)I" } : Jvm.MethodName)) ∈ lw_all := lw_g (lw_at lw_m2 179 rfl) rfl
theorem q479 : (Jvm.Cond.privateMethod ({ cls := "CallRounds", name := "layNow", desc := "(I)I" } : Jvm.MethodName)) ∈ lw_tbl := lw_at lw_m2 180 rfl
theorem q480 : (Jvm.Cond.instanceMethod ({ cls := "CallRounds", name := "layNow", desc := "(I)I" } : Jvm.MethodName)) ∈ lw_all := lw_g (lw_at lw_m2 181 rfl) rfl
theorem q481 : (Jvm.Cond.code ({ cls := "CallRounds", name := "layNow", desc := "(I)I" } : Jvm.MethodName) prog_1_method_25_code (2 : Nat) (Option.some Jvm.ClassFile.FieldType.int)) ∈ lw_all := lw_g (lw_at lw_m2 182 rfl) rfl
theorem q482 : (Jvm.Cond.methodLink "CallRounds" (173 : Nat) ({ cls := "CallRounds", name := "lay", desc := "(III)I" } : Jvm.MethodName)) ∈ lw_all := lw_g (lw_at lw_m2 183 rfl) rfl
theorem q483 : (Jvm.Cond.privateMethod ({ cls := "CallRounds", name := "lay", desc := "(III)I" } : Jvm.MethodName)) ∈ lw_tbl := lw_at lw_m2 184 rfl
theorem q484 : (Jvm.Cond.instanceMethod ({ cls := "CallRounds", name := "lay", desc := "(III)I" } : Jvm.MethodName)) ∈ lw_all := lw_g (lw_at lw_m2 185 rfl) rfl
theorem q485 : (Jvm.Cond.code ({ cls := "CallRounds", name := "lay", desc := "(III)I" } : Jvm.MethodName) prog_1_method_24_code (14 : Nat) (Option.some Jvm.ClassFile.FieldType.int)) ∈ lw_all := lw_g (lw_at lw_m2 186 rfl) rfl
theorem q486 : (Jvm.Cond.methodLink "CallRounds" (164 : Nat) ({ cls := "CallRounds", name := "stateOf", desc := "(III)I" } : Jvm.MethodName)) ∈ lw_all := lw_g (lw_at lw_m2 187 rfl) rfl
theorem q487 : (Jvm.Cond.static ({ cls := "CallRounds", name := "stateOf", desc := "(III)I" } : Jvm.MethodName)) ∈ lw_all := lw_g (lw_at lw_m2 188 rfl) rfl
theorem q488 : (Jvm.Cond.code ({ cls := "CallRounds", name := "stateOf", desc := "(III)I" } : Jvm.MethodName) prog_1_method_23_code (5 : Nat) (Option.some Jvm.ClassFile.FieldType.int)) ∈ lw_all := lw_g (lw_at lw_m2 189 rfl) rfl
theorem q489 : (Jvm.Cond.methodLink "CallRounds" (170 : Nat) ({ cls := "CallRounds", name := "behind", desc := "(III)I" } : Jvm.MethodName)) ∈ lw_all := lw_g (lw_at lw_m2 190 rfl) rfl
theorem q490 : (Jvm.Cond.methodLink "CallRounds" (176 : Nat) ({ cls := "java/lang/Math", name := "min", desc := "(II)I" } : Jvm.MethodName)) ∈ lw_all := lw_g (lw_at lw_m2 191 rfl) rfl
theorem q491 : (Jvm.Cond.methodLink "CallRounds" (181 : Nat) ({ cls := "java/lang/Math", name := "max", desc := "(II)I" } : Jvm.MethodName)) ∈ lw_all := lw_g (lw_at lw_m2 192 rfl) rfl
theorem q492 : (Jvm.Cond.methodLink "CallRounds" (184 : Nat) ({ cls := "CallRounds", name := "areExperts", desc := "(I)Z" } : Jvm.MethodName)) ∈ lw_all := lw_g (lw_at lw_m2 193 rfl) rfl
theorem q493 : (Jvm.Cond.privateMethod ({ cls := "CallRounds", name := "areExperts", desc := "(I)Z" } : Jvm.MethodName)) ∈ lw_tbl := lw_at lw_m2 194 rfl
theorem q494 : (Jvm.Cond.instanceMethod ({ cls := "CallRounds", name := "areExperts", desc := "(I)Z" } : Jvm.MethodName)) ∈ lw_all := lw_g (lw_at lw_m2 195 rfl) rfl
theorem q495 : (Jvm.Cond.code ({ cls := "CallRounds", name := "areExperts", desc := "(I)Z" } : Jvm.MethodName) prog_1_method_10_code (4 : Nat) (Option.some Jvm.ClassFile.FieldType.boolean)) ∈ lw_all := lw_g (lw_at lw_m2 196 rfl) rfl
theorem q497 : (Jvm.Cond.instanceMethod ({ cls := "CallRounds", name := "verdict", desc := "(I)I" } : Jvm.MethodName)) ∈ lw_all := lw_g (lw_at lw_m2 198 rfl) rfl
theorem q498 : (Jvm.Cond.selects "CallRounds" ({ cls := "CallRounds", name := "verdict", desc := "(I)I" } : Jvm.MethodName) ({ cls := "CallRounds", name := "verdict", desc := "(I)I" } : Jvm.MethodName)) ∈ lw_all := lw_g (lw_at lw_m2 199 rfl) rfl
theorem q499 : (Jvm.Cond.code ({ cls := "CallRounds", name := "verdict", desc := "(I)I" } : Jvm.MethodName) prog_1_method_28_code (2 : Nat) (Option.some Jvm.ClassFile.FieldType.int)) ∈ lw_all := lw_g (lw_at lw_m2 200 rfl) rfl
theorem q500 : (Jvm.Cond.methodLink "CallRounds" (192 : Nat) ({ cls := "CallRounds", name := "verdictAt", desc := "(I)I" } : Jvm.MethodName)) ∈ lw_all := lw_g (lw_at lw_m2 201 rfl) rfl
theorem q501 : (Jvm.Cond.privateMethod ({ cls := "CallRounds", name := "verdictAt", desc := "(I)I" } : Jvm.MethodName)) ∈ lw_tbl := lw_at lw_m2 202 rfl
theorem q502 : (Jvm.Cond.instanceMethod ({ cls := "CallRounds", name := "verdictAt", desc := "(I)I" } : Jvm.MethodName)) ∈ lw_all := lw_g (lw_at lw_m2 203 rfl) rfl
theorem q503 : (Jvm.Cond.code ({ cls := "CallRounds", name := "verdictAt", desc := "(I)I" } : Jvm.MethodName) prog_1_method_26_code (2 : Nat) (Option.some Jvm.ClassFile.FieldType.int)) ∈ lw_all := lw_g (lw_at lw_m2 204 rfl) rfl
theorem q505 : (Jvm.Cond.instanceMethod ({ cls := "CallRounds", name := "calls", desc := "(II)I" } : Jvm.MethodName)) ∈ lw_all := lw_g (lw_at lw_m2 206 rfl) rfl
theorem q506 : (Jvm.Cond.selects "CallRounds" ({ cls := "CallRounds", name := "calls", desc := "(II)I" } : Jvm.MethodName) ({ cls := "CallRounds", name := "calls", desc := "(II)I" } : Jvm.MethodName)) ∈ lw_all := lw_g (lw_at lw_m2 207 rfl) rfl
theorem q507 : (Jvm.Cond.code ({ cls := "CallRounds", name := "calls", desc := "(II)I" } : Jvm.MethodName) prog_1_method_29_code (4 : Nat) (Option.some Jvm.ClassFile.FieldType.int)) ∈ lw_all := lw_g (lw_at lw_m2 208 rfl) rfl
theorem q509 : (Jvm.Cond.instanceMethod ({ cls := "CallRounds", name := "keeps", desc := "(III)I" } : Jvm.MethodName)) ∈ lw_all := lw_g (lw_at lw_m2 210 rfl) rfl
theorem q510 : (Jvm.Cond.selects "CallRounds" ({ cls := "CallRounds", name := "keeps", desc := "(III)I" } : Jvm.MethodName) ({ cls := "CallRounds", name := "keeps", desc := "(III)I" } : Jvm.MethodName)) ∈ lw_all := lw_g (lw_at lw_m2 211 rfl) rfl
theorem q511 : (Jvm.Cond.code ({ cls := "CallRounds", name := "keeps", desc := "(III)I" } : Jvm.MethodName) prog_1_method_30_code (4 : Nat) (Option.some Jvm.ClassFile.FieldType.int)) ∈ lw_all := lw_g (lw_at lw_m2 212 rfl) rfl
theorem q513 : (Jvm.Cond.instanceMethod ({ cls := "CallRounds", name := "best", desc := "(II)I" } : Jvm.MethodName)) ∈ lw_all := lw_g (lw_at lw_m2 214 rfl) rfl
theorem q514 : (Jvm.Cond.selects "CallRounds" ({ cls := "CallRounds", name := "best", desc := "(II)I" } : Jvm.MethodName) ({ cls := "CallRounds", name := "best", desc := "(II)I" } : Jvm.MethodName)) ∈ lw_all := lw_g (lw_at lw_m2 215 rfl) rfl
theorem q515 : (Jvm.Cond.code ({ cls := "CallRounds", name := "best", desc := "(II)I" } : Jvm.MethodName) prog_1_method_31_code (7 : Nat) (Option.some Jvm.ClassFile.FieldType.int)) ∈ lw_all := lw_g (lw_at lw_m2 216 rfl) rfl
theorem q517 : (Jvm.Cond.instanceMethod ({ cls := "CallRounds", name := "alike", desc := "(I)I" } : Jvm.MethodName)) ∈ lw_all := lw_g (lw_at lw_m2 218 rfl) rfl
theorem q518 : (Jvm.Cond.selects "CallRounds" ({ cls := "CallRounds", name := "alike", desc := "(I)I" } : Jvm.MethodName) ({ cls := "CallRounds", name := "alike", desc := "(I)I" } : Jvm.MethodName)) ∈ lw_all := lw_g (lw_at lw_m2 219 rfl) rfl
theorem q519 : (Jvm.Cond.code ({ cls := "CallRounds", name := "alike", desc := "(I)I" } : Jvm.MethodName) prog_1_method_35_code (2 : Nat) (Option.some Jvm.ClassFile.FieldType.int)) ∈ lw_all := lw_g (lw_at lw_m2 220 rfl) rfl
theorem q520 : (Jvm.Cond.methodLink "CallRounds" (220 : Nat) ({ cls := "CallRounds", name := "layKnown", desc := "(I)V" } : Jvm.MethodName)) ∈ lw_all := lw_g (lw_at lw_m2 221 rfl) rfl
theorem q521 : (Jvm.Cond.privateMethod ({ cls := "CallRounds", name := "layKnown", desc := "(I)V" } : Jvm.MethodName)) ∈ lw_tbl := lw_at lw_m2 222 rfl
theorem q522 : (Jvm.Cond.instanceMethod ({ cls := "CallRounds", name := "layKnown", desc := "(I)V" } : Jvm.MethodName)) ∈ lw_all := lw_g (lw_at lw_m2 223 rfl) rfl
theorem q523 : (Jvm.Cond.code ({ cls := "CallRounds", name := "layKnown", desc := "(I)V" } : Jvm.MethodName) prog_1_method_34_code (2 : Nat) (Option.none : Option Jvm.ClassFile.FieldType)) ∈ lw_all := lw_g (lw_at lw_m2 224 rfl) rfl
theorem q524 : (Jvm.Cond.constant "CallRounds" (219 : Nat) (65535 : Int32)) ∈ lw_all := lw_g (lw_at lw_m2 225 rfl) rfl
theorem q525 : (Jvm.Cond.methodLink "CallRounds" (215 : Nat) ({ cls := "CallRounds", name := "layAlike", desc := "(III)V" } : Jvm.MethodName)) ∈ lw_all := lw_g (lw_at lw_m2 226 rfl) rfl
theorem q526 : (Jvm.Cond.privateMethod ({ cls := "CallRounds", name := "layAlike", desc := "(III)V" } : Jvm.MethodName)) ∈ lw_tbl := lw_at lw_m2 227 rfl
theorem q527 : (Jvm.Cond.instanceMethod ({ cls := "CallRounds", name := "layAlike", desc := "(III)V" } : Jvm.MethodName)) ∈ lw_all := lw_g (lw_at lw_m2 228 rfl) rfl
theorem q528 : (Jvm.Cond.code ({ cls := "CallRounds", name := "layAlike", desc := "(III)V" } : Jvm.MethodName) prog_1_method_33_code (7 : Nat) (Option.none : Option Jvm.ClassFile.FieldType)) ∈ lw_all := lw_g (lw_at lw_m2 229 rfl) rfl
theorem q529 : (Jvm.Cond.methodLink "CallRounds" (211 : Nat) ({ cls := "CallRounds", name := "seesSame", desc := "(ILCallRounds$Ring;III)Z" } : Jvm.MethodName)) ∈ lw_all := lw_g (lw_at lw_m2 230 rfl) rfl
theorem q530 : (Jvm.Cond.privateMethod ({ cls := "CallRounds", name := "seesSame", desc := "(ILCallRounds$Ring;III)Z" } : Jvm.MethodName)) ∈ lw_tbl := lw_at lw_m2 231 rfl
theorem q531 : (Jvm.Cond.instanceMethod ({ cls := "CallRounds", name := "seesSame", desc := "(ILCallRounds$Ring;III)Z" } : Jvm.MethodName)) ∈ lw_all := lw_g (lw_at lw_m2 232 rfl) rfl
theorem q532 : (Jvm.Cond.code ({ cls := "CallRounds", name := "seesSame", desc := "(ILCallRounds$Ring;III)Z" } : Jvm.MethodName) prog_1_method_32_code (8 : Nat) (Option.some Jvm.ClassFile.FieldType.boolean)) ∈ lw_all := lw_g (lw_at lw_m2 233 rfl) rfl
theorem q534 : (Jvm.Cond.instanceMethod ({ cls := "CallRounds", name := "sure", desc := "(III)I" } : Jvm.MethodName)) ∈ lw_all := lw_g (lw_at lw_m2 235 rfl) rfl
theorem q535 : (Jvm.Cond.selects "CallRounds" ({ cls := "CallRounds", name := "sure", desc := "(III)I" } : Jvm.MethodName) ({ cls := "CallRounds", name := "sure", desc := "(III)I" } : Jvm.MethodName)) ∈ lw_all := lw_g (lw_at lw_m2 236 rfl) rfl
theorem q536 : (Jvm.Cond.code ({ cls := "CallRounds", name := "sure", desc := "(III)I" } : Jvm.MethodName) prog_1_method_36_code (4 : Nat) (Option.some Jvm.ClassFile.FieldType.int)) ∈ lw_all := lw_g (lw_at lw_m2 237 rfl) rfl
theorem q538 : (Jvm.Cond.instanceMethod ({ cls := "CallRounds", name := "known", desc := "(II)I" } : Jvm.MethodName)) ∈ lw_all := lw_g (lw_at lw_m2 239 rfl) rfl
theorem q539 : (Jvm.Cond.selects "CallRounds" ({ cls := "CallRounds", name := "known", desc := "(II)I" } : Jvm.MethodName) ({ cls := "CallRounds", name := "known", desc := "(II)I" } : Jvm.MethodName)) ∈ lw_all := lw_g (lw_at lw_m3 0 rfl) rfl
theorem q540 : (Jvm.Cond.code ({ cls := "CallRounds", name := "known", desc := "(II)I" } : Jvm.MethodName) prog_1_method_37_code (3 : Nat) (Option.some Jvm.ClassFile.FieldType.int)) ∈ lw_all := lw_g (lw_at lw_m3 1 rfl) rfl
theorem q542 : (Jvm.Cond.instanceMethod ({ cls := "CallRounds", name := "end", desc := "(I)I" } : Jvm.MethodName)) ∈ lw_all := lw_g (lw_at lw_m3 3 rfl) rfl
theorem q543 : (Jvm.Cond.selects "CallRounds" ({ cls := "CallRounds", name := "end", desc := "(I)I" } : Jvm.MethodName) ({ cls := "CallRounds", name := "end", desc := "(I)I" } : Jvm.MethodName)) ∈ lw_all := lw_g (lw_at lw_m3 4 rfl) rfl
theorem q544 : (Jvm.Cond.code ({ cls := "CallRounds", name := "end", desc := "(I)I" } : Jvm.MethodName) prog_1_method_38_code (2 : Nat) (Option.some Jvm.ClassFile.FieldType.int)) ∈ lw_all := lw_g (lw_at lw_m3 5 rfl) rfl
theorem q546 : (Jvm.Cond.instanceMethod ({ cls := "CallRounds", name := "joined", desc := "()I" } : Jvm.MethodName)) ∈ lw_all := lw_g (lw_at lw_m3 7 rfl) rfl
theorem q547 : (Jvm.Cond.selects "CallRounds" ({ cls := "CallRounds", name := "joined", desc := "()I" } : Jvm.MethodName) ({ cls := "CallRounds", name := "joined", desc := "()I" } : Jvm.MethodName)) ∈ lw_all := lw_g (lw_at lw_m3 8 rfl) rfl
theorem q548 : (Jvm.Cond.code ({ cls := "CallRounds", name := "joined", desc := "()I" } : Jvm.MethodName) prog_1_method_41_code (1 : Nat) (Option.some Jvm.ClassFile.FieldType.int)) ∈ lw_all := lw_g (lw_at lw_m3 9 rfl) rfl
theorem q549 : (Jvm.Cond.methodLink "CallRounds" (228 : Nat) ({ cls := "CallRounds", name := "isJoined", desc := "()Z" } : Jvm.MethodName)) ∈ lw_all := lw_g (lw_at lw_m3 10 rfl) rfl
theorem q550 : (Jvm.Cond.privateMethod ({ cls := "CallRounds", name := "isJoined", desc := "()Z" } : Jvm.MethodName)) ∈ lw_tbl := lw_at lw_m3 11 rfl
theorem q551 : (Jvm.Cond.instanceMethod ({ cls := "CallRounds", name := "isJoined", desc := "()Z" } : Jvm.MethodName)) ∈ lw_all := lw_g (lw_at lw_m3 12 rfl) rfl
theorem q552 : (Jvm.Cond.code ({ cls := "CallRounds", name := "isJoined", desc := "()Z" } : Jvm.MethodName) prog_1_method_40_code (1 : Nat) (Option.some Jvm.ClassFile.FieldType.boolean)) ∈ lw_all := lw_g (lw_at lw_m3 13 rfl) rfl
theorem q553 : (Jvm.Cond.methodLink "CallRounds" (224 : Nat) ({ cls := "CallRounds", name := "cameTo", desc := "(IZ)I" } : Jvm.MethodName)) ∈ lw_all := lw_g (lw_at lw_m3 14 rfl) rfl
theorem q554 : (Jvm.Cond.privateMethod ({ cls := "CallRounds", name := "cameTo", desc := "(IZ)I" } : Jvm.MethodName)) ∈ lw_tbl := lw_at lw_m3 15 rfl
theorem q555 : (Jvm.Cond.instanceMethod ({ cls := "CallRounds", name := "cameTo", desc := "(IZ)I" } : Jvm.MethodName)) ∈ lw_all := lw_g (lw_at lw_m3 16 rfl) rfl
theorem q556 : (Jvm.Cond.code ({ cls := "CallRounds", name := "cameTo", desc := "(IZ)I" } : Jvm.MethodName) prog_1_method_39_code (8 : Nat) (Option.some Jvm.ClassFile.FieldType.int)) ∈ lw_all := lw_g (lw_at lw_m3 17 rfl) rfl
theorem q558 : (Jvm.Cond.instanceMethod ({ cls := "CallRounds", name := "bridge", desc := "(I)I" } : Jvm.MethodName)) ∈ lw_all := lw_g (lw_at lw_m3 19 rfl) rfl
theorem q559 : (Jvm.Cond.selects "CallRounds" ({ cls := "CallRounds", name := "bridge", desc := "(I)I" } : Jvm.MethodName) ({ cls := "CallRounds", name := "bridge", desc := "(I)I" } : Jvm.MethodName)) ∈ lw_all := lw_g (lw_at lw_m3 20 rfl) rfl
theorem q560 : (Jvm.Cond.code ({ cls := "CallRounds", name := "bridge", desc := "(I)I" } : Jvm.MethodName) prog_1_method_43_code (2 : Nat) (Option.some Jvm.ClassFile.FieldType.int)) ∈ lw_all := lw_g (lw_at lw_m3 21 rfl) rfl
theorem q561 : (Jvm.Cond.constantLong "CallRounds" (231 : Nat) (-1 : Int64)) ∈ lw_all := lw_g (lw_at lw_m3 22 rfl) rfl
theorem q562 : (Jvm.Cond.constantLong "CallRounds" (233 : Nat) (11 : Int64)) ∈ lw_all := lw_g (lw_at lw_m3 23 rfl) rfl
theorem q563 : (Jvm.Cond.classLink "CallRounds" (235 : Nat) "CallRounds$Bridges") ∈ lw_all := lw_g (lw_at lw_m3 24 rfl) rfl
theorem q565 : (Jvm.Cond.methodLinkNest "CallRounds" (237 : Nat) ({ cls := "CallRounds$Bridges", name := "<init>", desc := "(LCallRounds;)V" } : Jvm.MethodName) "CallRounds") ∈ lw_tbl := lw_at lw_m3 26 rfl
theorem q579 : (Jvm.Cond.methodLink "CallRounds" (240 : Nat) ({ cls := "CallRounds$Bridges", name := "tells", desc := "(I)I" } : Jvm.MethodName)) ∈ lw_all := lw_g (lw_at lw_m3 40 rfl) rfl
theorem q598 : (Jvm.Cond.privateMethod ({ cls := "CallRounds", name := "verdictFirst", desc := "(I)I" } : Jvm.MethodName)) ∈ lw_tbl := lw_at lw_m3 59 rfl
theorem q599 : (Jvm.Cond.instanceMethod ({ cls := "CallRounds", name := "verdictFirst", desc := "(I)I" } : Jvm.MethodName)) ∈ lw_all := lw_g (lw_at lw_m3 60 rfl) rfl
theorem q600 : (Jvm.Cond.code ({ cls := "CallRounds", name := "verdictFirst", desc := "(I)I" } : Jvm.MethodName) prog_1_method_42_code (2 : Nat) (Option.some Jvm.ClassFile.FieldType.int)) ∈ lw_all := lw_g (lw_at lw_m3 61 rfl) rfl
theorem q602 : (Jvm.Cond.instanceMethod ({ cls := "CallRounds", name := "mend", desc := "(II)I" } : Jvm.MethodName)) ∈ lw_all := lw_g (lw_at lw_m3 63 rfl) rfl
theorem q603 : (Jvm.Cond.selects "CallRounds" ({ cls := "CallRounds", name := "mend", desc := "(II)I" } : Jvm.MethodName) ({ cls := "CallRounds", name := "mend", desc := "(II)I" } : Jvm.MethodName)) ∈ lw_all := lw_g (lw_at lw_m3 64 rfl) rfl
theorem q604 : (Jvm.Cond.code ({ cls := "CallRounds", name := "mend", desc := "(II)I" } : Jvm.MethodName) prog_1_method_44_code (3 : Nat) (Option.some Jvm.ClassFile.FieldType.int)) ∈ lw_all := lw_g (lw_at lw_m3 65 rfl) rfl
theorem q605 : (Jvm.Cond.classLink "CallRounds" (241 : Nat) "CallRounds$Mends") ∈ lw_all := lw_g (lw_at lw_m3 66 rfl) rfl
theorem q607 : (Jvm.Cond.methodLink "CallRounds" (243 : Nat) ({ cls := "CallRounds$Mends", name := "<init>", desc := "(LCallRounds;I)V" } : Jvm.MethodName)) ∈ lw_all := lw_g (lw_at lw_m3 68 rfl) rfl
theorem q619 : (Jvm.Cond.methodLink "CallRounds" (246 : Nat) ({ cls := "CallRounds$Mends", name := "tells", desc := "(I)I" } : Jvm.MethodName)) ∈ lw_all := lw_g (lw_at lw_m3 80 rfl) rfl
theorem q623 : (Jvm.Cond.instanceMethod ({ cls := "CallRounds", name := "sun", desc := "()I" } : Jvm.MethodName)) ∈ lw_all := lw_g (lw_at lw_m3 84 rfl) rfl
theorem q624 : (Jvm.Cond.selects "CallRounds" ({ cls := "CallRounds", name := "sun", desc := "()I" } : Jvm.MethodName) ({ cls := "CallRounds", name := "sun", desc := "()I" } : Jvm.MethodName)) ∈ lw_all := lw_g (lw_at lw_m3 85 rfl) rfl
theorem q625 : (Jvm.Cond.code ({ cls := "CallRounds", name := "sun", desc := "()I" } : Jvm.MethodName) prog_1_method_45_code (4 : Nat) (Option.some Jvm.ClassFile.FieldType.int)) ∈ lw_all := lw_g (lw_at lw_m3 86 rfl) rfl
theorem q627 : (Jvm.Cond.instanceMethod ({ cls := "CallRounds", name := "nets", desc := "(III)I" } : Jvm.MethodName)) ∈ lw_all := lw_g (lw_at lw_m3 88 rfl) rfl
theorem q628 : (Jvm.Cond.selects "CallRounds" ({ cls := "CallRounds", name := "nets", desc := "(III)I" } : Jvm.MethodName) ({ cls := "CallRounds", name := "nets", desc := "(III)I" } : Jvm.MethodName)) ∈ lw_all := lw_g (lw_at lw_m3 89 rfl) rfl
theorem q629 : (Jvm.Cond.code ({ cls := "CallRounds", name := "nets", desc := "(III)I" } : Jvm.MethodName) prog_1_method_47_code (8 : Nat) (Option.some Jvm.ClassFile.FieldType.int)) ∈ lw_all := lw_g (lw_at lw_m3 90 rfl) rfl
theorem q630 : (Jvm.Cond.methodLink "CallRounds" (247 : Nat) ({ cls := "[I", name := "clone", desc := "()Ljava/lang/Object;" } : Jvm.MethodName)) ∈ lw_all := lw_g (lw_at lw_m3 91 rfl) rfl
theorem q636 : (Jvm.Cond.classLink "CallRounds" (248 : Nat) "[I") ∈ lw_all := lw_g (lw_at lw_m3 97 rfl) rfl
theorem q637 : (Jvm.Cond.methodLink "CallRounds" (252 : Nat) ({ cls := "CallRounds", name := "layNet", desc := "(II)V" } : Jvm.MethodName)) ∈ lw_all := lw_g (lw_at lw_m3 98 rfl) rfl
theorem q638 : (Jvm.Cond.privateMethod ({ cls := "CallRounds", name := "layNet", desc := "(II)V" } : Jvm.MethodName)) ∈ lw_tbl := lw_at lw_m3 99 rfl
theorem q639 : (Jvm.Cond.instanceMethod ({ cls := "CallRounds", name := "layNet", desc := "(II)V" } : Jvm.MethodName)) ∈ lw_all := lw_g (lw_at lw_m3 100 rfl) rfl
theorem q640 : (Jvm.Cond.code ({ cls := "CallRounds", name := "layNet", desc := "(II)V" } : Jvm.MethodName) prog_1_method_46_code (6 : Nat) (Option.none : Option Jvm.ClassFile.FieldType)) ∈ lw_all := lw_g (lw_at lw_m3 101 rfl) rfl
theorem q641 : (Jvm.Cond.methodLink "CallRounds" (256 : Nat) ({ cls := "CallRounds", name := "verdictFirst", desc := "(I)I" } : Jvm.MethodName)) ∈ lw_all := lw_g (lw_at lw_m3 102 rfl) rfl
theorem q642 : (Jvm.Cond.methodLink "CallRounds" (143 : Nat) ({ cls := "java/lang/System", name := "arraycopy", desc := "(Ljava/lang/Object;ILjava/lang/Object;II)V" } : Jvm.MethodName)) ∈ lw_all := lw_g (lw_at lw_m3 103 rfl) rfl
theorem q644 : (Jvm.Cond.instanceMethod ({ cls := "CallRounds", name := "within", desc := "(II)I" } : Jvm.MethodName)) ∈ lw_all := lw_g (lw_at lw_m3 105 rfl) rfl
theorem q645 : (Jvm.Cond.selects "CallRounds" ({ cls := "CallRounds", name := "within", desc := "(II)I" } : Jvm.MethodName) ({ cls := "CallRounds", name := "within", desc := "(II)I" } : Jvm.MethodName)) ∈ lw_all := lw_g (lw_at lw_m3 106 rfl) rfl
theorem q646 : (Jvm.Cond.code ({ cls := "CallRounds", name := "within", desc := "(II)I" } : Jvm.MethodName) prog_1_method_49_code (3 : Nat) (Option.some Jvm.ClassFile.FieldType.int)) ∈ lw_all := lw_g (lw_at lw_m3 107 rfl) rfl
theorem q647 : (Jvm.Cond.methodLink "CallRounds" (259 : Nat) ({ cls := "CallRounds", name := "isWithin", desc := "(IIII)Z" } : Jvm.MethodName)) ∈ lw_all := lw_g (lw_at lw_m3 108 rfl) rfl
theorem q648 : (Jvm.Cond.privateMethod ({ cls := "CallRounds", name := "isWithin", desc := "(IIII)Z" } : Jvm.MethodName)) ∈ lw_tbl := lw_at lw_m3 109 rfl
theorem q649 : (Jvm.Cond.instanceMethod ({ cls := "CallRounds", name := "isWithin", desc := "(IIII)Z" } : Jvm.MethodName)) ∈ lw_all := lw_g (lw_at lw_m3 110 rfl) rfl
theorem q650 : (Jvm.Cond.code ({ cls := "CallRounds", name := "isWithin", desc := "(IIII)Z" } : Jvm.MethodName) prog_1_method_48_code (8 : Nat) (Option.some Jvm.ClassFile.FieldType.boolean)) ∈ lw_all := lw_g (lw_at lw_m3 111 rfl) rfl
theorem q652 : (Jvm.Cond.instanceMethod ({ cls := "CallRounds", name := "sheet", desc := "(III)I" } : Jvm.MethodName)) ∈ lw_all := lw_g (lw_at lw_m3 113 rfl) rfl
theorem q653 : (Jvm.Cond.selects "CallRounds" ({ cls := "CallRounds", name := "sheet", desc := "(III)I" } : Jvm.MethodName) ({ cls := "CallRounds", name := "sheet", desc := "(III)I" } : Jvm.MethodName)) ∈ lw_all := lw_g (lw_at lw_m3 114 rfl) rfl
theorem q654 : (Jvm.Cond.codeWith ({ cls := "CallRounds", name := "sheet", desc := "(III)I" } : Jvm.MethodName) prog_1_method_59_code (5 : Nat) (Option.some Jvm.ClassFile.FieldType.int) [((43 : Nat), (62 : Nat), (63 : Nat), (289 : Nat))]) ∈ lw_all := lw_g (lw_at lw_m3 115 rfl) rfl
theorem q655 : (Jvm.Cond.classLink "CallRounds" (289 : Nat) "java/lang/NegativeArraySizeException") ∈ lw_all := lw_g (lw_at lw_m3 116 rfl) rfl
theorem q742 : (Jvm.Cond.methodLink "CallRounds" (274 : Nat) ({ cls := "CallRounds", name := "noSheet", desc := "(I)Z" } : Jvm.MethodName)) ∈ lw_all := lw_g (lw_at lw_m3 203 rfl) rfl
theorem q743 : (Jvm.Cond.static ({ cls := "CallRounds", name := "noSheet", desc := "(I)Z" } : Jvm.MethodName)) ∈ lw_all := lw_g (lw_at lw_m3 204 rfl) rfl
theorem q744 : (Jvm.Cond.code ({ cls := "CallRounds", name := "noSheet", desc := "(I)Z" } : Jvm.MethodName) prog_1_method_57_code (1 : Nat) (Option.some Jvm.ClassFile.FieldType.boolean)) ∈ lw_all := lw_g (lw_at lw_m3 205 rfl) rfl
theorem q745 : (Jvm.Cond.methodLink "CallRounds" (277 : Nat) ({ cls := "CallRounds", name := "refused", desc := "(I)I" } : Jvm.MethodName)) ∈ lw_all := lw_g (lw_at lw_m3 206 rfl) rfl
theorem q746 : (Jvm.Cond.privateMethod ({ cls := "CallRounds", name := "refused", desc := "(I)I" } : Jvm.MethodName)) ∈ lw_tbl := lw_at lw_m3 207 rfl
theorem q747 : (Jvm.Cond.instanceMethod ({ cls := "CallRounds", name := "refused", desc := "(I)I" } : Jvm.MethodName)) ∈ lw_all := lw_g (lw_at lw_m3 208 rfl) rfl
theorem q748 : (Jvm.Cond.code ({ cls := "CallRounds", name := "refused", desc := "(I)I" } : Jvm.MethodName) prog_1_method_50_code (2 : Nat) (Option.some Jvm.ClassFile.FieldType.int)) ∈ lw_all := lw_g (lw_at lw_m3 209 rfl) rfl
theorem q749 : (Jvm.Cond.constantLong "CallRounds" (280 : Nat) (2 : Int64)) ∈ lw_all := lw_g (lw_at lw_m3 210 rfl) rfl
theorem q751 : (Jvm.Cond.methodLink "CallRounds" (282 : Nat) ({ cls := "CallRounds", name := "rowOf", desc := "(II)Ljava/lang/Object;" } : Jvm.MethodName)) ∈ lw_all := lw_g (lw_at lw_m3 212 rfl) rfl
theorem q752 : (Jvm.Cond.static ({ cls := "CallRounds", name := "rowOf", desc := "(II)Ljava/lang/Object;" } : Jvm.MethodName)) ∈ lw_all := lw_g (lw_at lw_m3 213 rfl) rfl
theorem q753 : (Jvm.Cond.code ({ cls := "CallRounds", name := "rowOf", desc := "(II)Ljava/lang/Object;" } : Jvm.MethodName) prog_1_method_53_code (2 : Nat) (Option.some (Jvm.ClassFile.FieldType.object "java/lang/Object"))) ∈ lw_all := lw_g (lw_at lw_m3 214 rfl) rfl
theorem q754 : (Jvm.Cond.methodLink "CallRounds" (286 : Nat) ({ cls := "CallRounds$Sheet", name := "<init>", desc := "(Ljava/lang/Object;)V" } : Jvm.MethodName)) ∈ lw_all := lw_g (lw_at lw_m3 215 rfl) rfl
theorem q759 : (Jvm.Cond.fieldLink "CallRounds" (270 : Nat) "CallRounds$Sheet" "row" "Ljava/lang/Object;") ∈ lw_all := lw_g (lw_at lw_m3 220 rfl) rfl
theorem q764 : (Jvm.Cond.methodLink "CallRounds" (291 : Nat) ({ cls := "CallRounds", name := "fails", desc := "(I)I" } : Jvm.MethodName)) ∈ lw_all := lw_g (lw_at lw_m3 225 rfl) rfl
theorem q765 : (Jvm.Cond.privateMethod ({ cls := "CallRounds", name := "fails", desc := "(I)I" } : Jvm.MethodName)) ∈ lw_tbl := lw_at lw_m3 226 rfl
theorem q766 : (Jvm.Cond.instanceMethod ({ cls := "CallRounds", name := "fails", desc := "(I)I" } : Jvm.MethodName)) ∈ lw_all := lw_g (lw_at lw_m3 227 rfl) rfl
theorem q767 : (Jvm.Cond.code ({ cls := "CallRounds", name := "fails", desc := "(I)I" } : Jvm.MethodName) prog_1_method_51_code (2 : Nat) (Option.some Jvm.ClassFile.FieldType.int)) ∈ lw_all := lw_g (lw_at lw_m3 228 rfl) rfl
theorem q769 : (Jvm.Cond.instanceMethod ({ cls := "CallRounds", name := "lose", desc := "(I)I" } : Jvm.MethodName)) ∈ lw_all := lw_g (lw_at lw_m3 230 rfl) rfl
theorem q770 : (Jvm.Cond.selects "CallRounds" ({ cls := "CallRounds", name := "lose", desc := "(I)I" } : Jvm.MethodName) ({ cls := "CallRounds", name := "lose", desc := "(I)I" } : Jvm.MethodName)) ∈ lw_all := lw_g (lw_at lw_m3 231 rfl) rfl
theorem q771 : (Jvm.Cond.code ({ cls := "CallRounds", name := "lose", desc := "(I)I" } : Jvm.MethodName) prog_1_method_60_code (3 : Nat) (Option.some Jvm.ClassFile.FieldType.int)) ∈ lw_all := lw_g (lw_at lw_m3 232 rfl) rfl
theorem q773 : (Jvm.Cond.instanceMethod ({ cls := "CallRounds", name := "put", desc := "(III)I" } : Jvm.MethodName)) ∈ lw_all := lw_g (lw_at lw_m3 234 rfl) rfl
theorem q774 : (Jvm.Cond.selects "CallRounds" ({ cls := "CallRounds", name := "put", desc := "(III)I" } : Jvm.MethodName) ({ cls := "CallRounds", name := "put", desc := "(III)I" } : Jvm.MethodName)) ∈ lw_all := lw_g (lw_at lw_m3 235 rfl) rfl
theorem q775 : (Jvm.Cond.codeWith ({ cls := "CallRounds", name := "put", desc := "(III)I" } : Jvm.MethodName) prog_1_method_61_code (5 : Nat) (Option.some Jvm.ClassFile.FieldType.int) [((18 : Nat), (33 : Nat), (34 : Nat), (298 : Nat)), ((18 : Nat), (33 : Nat), (42 : Nat), (300 : Nat))]) ∈ lw_all := lw_g (lw_at lw_m3 236 rfl) rfl
theorem q776 : (Jvm.Cond.classLink "CallRounds" (298 : Nat) "java/lang/NullPointerException") ∈ lw_all := lw_g (lw_at lw_m3 237 rfl) rfl
theorem q801 : (Jvm.Cond.classLink "CallRounds" (300 : Nat) "java/lang/IndexOutOfBoundsException") ∈ lw_all := lw_g (lw_at lw_m4 22 rfl) rfl
theorem q820 : (Jvm.Cond.methodLink "CallRounds" (294 : Nat) ({ cls := "CallRounds", name := "setIn", desc := "(Ljava/lang/Object;II)V" } : Jvm.MethodName)) ∈ lw_all := lw_g (lw_at lw_m4 41 rfl) rfl
theorem q821 : (Jvm.Cond.static ({ cls := "CallRounds", name := "setIn", desc := "(Ljava/lang/Object;II)V" } : Jvm.MethodName)) ∈ lw_all := lw_g (lw_at lw_m4 42 rfl) rfl
theorem q822 : (Jvm.Cond.code ({ cls := "CallRounds", name := "setIn", desc := "(Ljava/lang/Object;II)V" } : Jvm.MethodName) prog_1_method_56_code (3 : Nat) (Option.none : Option Jvm.ClassFile.FieldType)) ∈ lw_all := lw_g (lw_at lw_m4 43 rfl) rfl
theorem q823 : (Jvm.Cond.classLink "CallRounds" (266 : Nat) "[B") ∈ lw_all := lw_g (lw_at lw_m4 44 rfl) rfl
theorem q824 : (Jvm.Cond.classLink "CallRounds" (268 : Nat) "[S") ∈ lw_all := lw_g (lw_at lw_m4 45 rfl) rfl
theorem q826 : (Jvm.Cond.instanceMethod ({ cls := "CallRounds", name := "cell", desc := "(III)J" } : Jvm.MethodName)) ∈ lw_all := lw_g (lw_at lw_m4 47 rfl) rfl
theorem q827 : (Jvm.Cond.selects "CallRounds" ({ cls := "CallRounds", name := "cell", desc := "(III)J" } : Jvm.MethodName) ({ cls := "CallRounds", name := "cell", desc := "(III)J" } : Jvm.MethodName)) ∈ lw_all := lw_g (lw_at lw_m4 48 rfl) rfl
theorem q828 : (Jvm.Cond.codeWith ({ cls := "CallRounds", name := "cell", desc := "(III)J" } : Jvm.MethodName) prog_1_method_62_code (5 : Nat) (Option.some Jvm.ClassFile.FieldType.long) [((28 : Nat), (39 : Nat), (40 : Nat), (298 : Nat)), ((28 : Nat), (39 : Nat), (48 : Nat), (313 : Nat)), ((28 : Nat), (39 : Nat), (56 : Nat), (300 : Nat))]) ∈ lw_all := lw_g (lw_at lw_m4 49 rfl) rfl
theorem q829 : (Jvm.Cond.classLink "CallRounds" (313 : Nat) "java/lang/ClassCastException") ∈ lw_all := lw_g (lw_at lw_m4 50 rfl) rfl
theorem q843 : (Jvm.Cond.methodLink "CallRounds" (302 : Nat) ({ cls := "CallRounds", name := "rowIn", desc := "(I)Ljava/lang/Object;" } : Jvm.MethodName)) ∈ lw_all := lw_g (lw_at lw_m4 64 rfl) rfl
theorem q844 : (Jvm.Cond.privateMethod ({ cls := "CallRounds", name := "rowIn", desc := "(I)Ljava/lang/Object;" } : Jvm.MethodName)) ∈ lw_tbl := lw_at lw_m4 65 rfl
theorem q845 : (Jvm.Cond.instanceMethod ({ cls := "CallRounds", name := "rowIn", desc := "(I)Ljava/lang/Object;" } : Jvm.MethodName)) ∈ lw_all := lw_g (lw_at lw_m4 66 rfl) rfl
theorem q846 : (Jvm.Cond.code ({ cls := "CallRounds", name := "rowIn", desc := "(I)Ljava/lang/Object;" } : Jvm.MethodName) prog_1_method_58_code (2 : Nat) (Option.some (Jvm.ClassFile.FieldType.object "java/lang/Object"))) ∈ lw_all := lw_g (lw_at lw_m4 67 rfl) rfl
theorem q847 : (Jvm.Cond.methodLink "CallRounds" (305 : Nat) ({ cls := "CallRounds", name := "cellOf", desc := "(Ljava/lang/Object;II)I" } : Jvm.MethodName)) ∈ lw_all := lw_g (lw_at lw_m4 68 rfl) rfl
theorem q848 : (Jvm.Cond.static ({ cls := "CallRounds", name := "cellOf", desc := "(Ljava/lang/Object;II)I" } : Jvm.MethodName)) ∈ lw_all := lw_g (lw_at lw_m4 69 rfl) rfl
theorem q849 : (Jvm.Cond.code ({ cls := "CallRounds", name := "cellOf", desc := "(Ljava/lang/Object;II)I" } : Jvm.MethodName) prog_1_method_54_code (3 : Nat) (Option.some Jvm.ClassFile.FieldType.int)) ∈ lw_all := lw_g (lw_at lw_m4 70 rfl) rfl
theorem q850 : (Jvm.Cond.methodLink "CallRounds" (309 : Nat) ({ cls := "CallRounds", name := "failsLong", desc := "(I)J" } : Jvm.MethodName)) ∈ lw_all := lw_g (lw_at lw_m4 71 rfl) rfl
theorem q851 : (Jvm.Cond.privateMethod ({ cls := "CallRounds", name := "failsLong", desc := "(I)J" } : Jvm.MethodName)) ∈ lw_tbl := lw_at lw_m4 72 rfl
theorem q852 : (Jvm.Cond.instanceMethod ({ cls := "CallRounds", name := "failsLong", desc := "(I)J" } : Jvm.MethodName)) ∈ lw_all := lw_g (lw_at lw_m4 73 rfl) rfl
theorem q853 : (Jvm.Cond.code ({ cls := "CallRounds", name := "failsLong", desc := "(I)J" } : Jvm.MethodName) prog_1_method_52_code (2 : Nat) (Option.some Jvm.ClassFile.FieldType.long)) ∈ lw_all := lw_g (lw_at lw_m4 74 rfl) rfl
theorem q855 : (Jvm.Cond.instanceMethod ({ cls := "CallRounds", name := "net", desc := "(IIII)I" } : Jvm.MethodName)) ∈ lw_all := lw_g (lw_at lw_m4 76 rfl) rfl
theorem q856 : (Jvm.Cond.selects "CallRounds" ({ cls := "CallRounds", name := "net", desc := "(IIII)I" } : Jvm.MethodName) ({ cls := "CallRounds", name := "net", desc := "(IIII)I" } : Jvm.MethodName)) ∈ lw_all := lw_g (lw_at lw_m4 77 rfl) rfl
theorem q857 : (Jvm.Cond.code ({ cls := "CallRounds", name := "net", desc := "(IIII)I" } : Jvm.MethodName) prog_1_method_65_code (5 : Nat) (Option.some Jvm.ClassFile.FieldType.int)) ∈ lw_all := lw_g (lw_at lw_m4 78 rfl) rfl
theorem q858 : (Jvm.Cond.classLink "CallRounds" (328 : Nat) "CallRounds$Reading") ∈ lw_all := lw_g (lw_at lw_m4 79 rfl) rfl
theorem q860 : (Jvm.Cond.methodLink "CallRounds" (330 : Nat) ({ cls := "CallRounds$Reading", name := "<init>", desc := "(LCallRounds;IIII)V" } : Jvm.MethodName)) ∈ lw_all := lw_g (lw_at lw_m4 81 rfl) rfl
theorem q886 : (Jvm.Cond.methodLink "CallRounds" (333 : Nat) ({ cls := "CallRounds$Reading", name := "tried", desc := "()I" } : Jvm.MethodName)) ∈ lw_all := lw_g (lw_at lw_m4 107 rfl) rfl
theorem q923 : (Jvm.Cond.static ({ cls := "CallRounds", name := "cellsOf", desc := "(Ljava/lang/Object;III)[I" } : Jvm.MethodName)) ∈ lw_all := lw_g (lw_at lw_m4 144 rfl) rfl
theorem q924 : (Jvm.Cond.code ({ cls := "CallRounds", name := "cellsOf", desc := "(Ljava/lang/Object;III)[I" } : Jvm.MethodName) prog_1_method_64_code (8 : Nat) (Option.some (Jvm.ClassFile.FieldType.array Jvm.ClassFile.FieldType.int))) ∈ lw_all := lw_g (lw_at lw_m4 145 rfl) rfl
theorem q925 : (Jvm.Cond.methodLink "CallRounds" (320 : Nat) ({ cls := "CallRounds", name := "sizeOf", desc := "(Ljava/lang/Object;I)I" } : Jvm.MethodName)) ∈ lw_all := lw_g (lw_at lw_m4 146 rfl) rfl
theorem q926 : (Jvm.Cond.static ({ cls := "CallRounds", name := "sizeOf", desc := "(Ljava/lang/Object;I)I" } : Jvm.MethodName)) ∈ lw_all := lw_g (lw_at lw_m4 147 rfl) rfl
theorem q927 : (Jvm.Cond.code ({ cls := "CallRounds", name := "sizeOf", desc := "(Ljava/lang/Object;I)I" } : Jvm.MethodName) prog_1_method_55_code (2 : Nat) (Option.some Jvm.ClassFile.FieldType.int)) ∈ lw_all := lw_g (lw_at lw_m4 148 rfl) rfl
theorem q928 : (Jvm.Cond.methodLink "CallRounds" (324 : Nat) ({ cls := "CallRounds", name := "need", desc := "(Z)V" } : Jvm.MethodName)) ∈ lw_all := lw_g (lw_at lw_m4 149 rfl) rfl
theorem q929 : (Jvm.Cond.static ({ cls := "CallRounds", name := "need", desc := "(Z)V" } : Jvm.MethodName)) ∈ lw_all := lw_g (lw_at lw_m4 150 rfl) rfl
theorem q930 : (Jvm.Cond.code ({ cls := "CallRounds", name := "need", desc := "(Z)V" } : Jvm.MethodName) prog_1_method_63_code (1 : Nat) (Option.none : Option Jvm.ClassFile.FieldType)) ∈ lw_all := lw_g (lw_at lw_m4 151 rfl) rfl
theorem q939 : (Jvm.Cond.stringRef "CallRounds" (315 : Nat) "not all there") ∈ lw_tbl := lw_at lw_m4 160 rfl
theorem q940 : (Jvm.Cond.methodLink "CallRounds" (317 : Nat) ({ cls := "java/lang/IndexOutOfBoundsException", name := "<init>", desc := "(Ljava/lang/String;)V" } : Jvm.MethodName)) ∈ lw_all := lw_g (lw_at lw_m4 161 rfl) rfl
theorem q944 : (Jvm.Cond.privateMethod ({ cls := "CallRounds", name := "newNet", desc := "([I)I" } : Jvm.MethodName)) ∈ lw_tbl := lw_at lw_m4 165 rfl
theorem q945 : (Jvm.Cond.instanceMethod ({ cls := "CallRounds", name := "newNet", desc := "([I)I" } : Jvm.MethodName)) ∈ lw_all := lw_g (lw_at lw_m4 166 rfl) rfl
theorem q946 : (Jvm.Cond.code ({ cls := "CallRounds", name := "newNet", desc := "([I)I" } : Jvm.MethodName) prog_1_method_18_code (3 : Nat) (Option.some Jvm.ClassFile.FieldType.int)) ∈ lw_all := lw_g (lw_at lw_m4 167 rfl) rfl
theorem q947 : (Jvm.Cond.classLink "CallRounds" (126 : Nat) "CallRounds$Reader") ∈ lw_all := lw_g (lw_at lw_m4 168 rfl) rfl
theorem q949 : (Jvm.Cond.methodLink "CallRounds" (128 : Nat) ({ cls := "CallRounds$Reader", name := "<init>", desc := "([I)V" } : Jvm.MethodName)) ∈ lw_all := lw_g (lw_at lw_m4 170 rfl) rfl
theorem q955 : (Jvm.Cond.fieldLinkNest "CallRounds" (134 : Nat) "CallRounds$Reader" "at" "I" "CallRounds") ∈ lw_tbl := lw_at lw_m4 176 rfl
theorem q957 : (Jvm.Cond.fieldLinkNest "CallRounds" (140 : Nat) "CallRounds$Reader" "has" "[I" "CallRounds") ∈ lw_tbl := lw_at lw_m4 178 rfl
theorem q959 : (Jvm.Cond.fieldLinkNest "CallRounds" (137 : Nat) "CallRounds$Reader" "many" "I" "CallRounds") ∈ lw_tbl := lw_at lw_m4 180 rfl
theorem q969 : (Jvm.Cond.methodLink "CallRounds" (131 : Nat) ({ cls := "CallRounds$Reader", name := "doesRead", desc := "()Z" } : Jvm.MethodName)) ∈ lw_all := lw_g (lw_at lw_m4 190 rfl) rfl
theorem q989 : (Jvm.Cond.interfaceEntry "CallRounds" (149 : Nat)) ∈ lw_tbl := lw_at lw_m4 210 rfl
theorem q990 : (Jvm.Cond.methodLink "CallRounds" (149 : Nat) ({ cls := "java/util/List", name := "clear", desc := "()V" } : Jvm.MethodName)) ∈ lw_all := lw_g (lw_at lw_m4 211 rfl) rfl
theorem q1005 : (Jvm.Cond.instanceMethod ({ cls := "CallRounds", name := "copy", desc := "(IIIII)I" } : Jvm.MethodName)) ∈ lw_all := lw_g (lw_at lw_m4 226 rfl) rfl
theorem q1006 : (Jvm.Cond.selects "CallRounds" ({ cls := "CallRounds", name := "copy", desc := "(IIIII)I" } : Jvm.MethodName) ({ cls := "CallRounds", name := "copy", desc := "(IIIII)I" } : Jvm.MethodName)) ∈ lw_all := lw_g (lw_at lw_m4 227 rfl) rfl
theorem q1007 : (Jvm.Cond.code ({ cls := "CallRounds", name := "copy", desc := "(IIIII)I" } : Jvm.MethodName) prog_1_method_66_code (6 : Nat) (Option.some Jvm.ClassFile.FieldType.int)) ∈ lw_all := lw_g (lw_at lw_m4 228 rfl) rfl
theorem q1008 : (Jvm.Cond.classLink "CallRounds" (336 : Nat) "CallRounds$Copying") ∈ lw_all := lw_g (lw_at lw_m4 229 rfl) rfl
theorem q1010 : (Jvm.Cond.methodLink "CallRounds" (338 : Nat) ({ cls := "CallRounds$Copying", name := "<init>", desc := "(LCallRounds;IIIII)V" } : Jvm.MethodName)) ∈ lw_all := lw_g (lw_at lw_m4 231 rfl) rfl
theorem q1034 : (Jvm.Cond.methodLink "CallRounds" (339 : Nat) ({ cls := "CallRounds$Copying", name := "tried", desc := "()I" } : Jvm.MethodName)) ∈ lw_all := lw_g (lw_at lw_m5 15 rfl) rfl
theorem q1038 : (Jvm.Cond.instanceMethod ({ cls := "CallRounds", name := "tell", desc := "(I)I" } : Jvm.MethodName)) ∈ lw_all := lw_g (lw_at lw_m5 19 rfl) rfl
theorem q1039 : (Jvm.Cond.selects "CallRounds" ({ cls := "CallRounds", name := "tell", desc := "(I)I" } : Jvm.MethodName) ({ cls := "CallRounds", name := "tell", desc := "(I)I" } : Jvm.MethodName)) ∈ lw_all := lw_g (lw_at lw_m5 20 rfl) rfl
theorem q1040 : (Jvm.Cond.code ({ cls := "CallRounds", name := "tell", desc := "(I)I" } : Jvm.MethodName) prog_1_method_68_code (2 : Nat) (Option.some Jvm.ClassFile.FieldType.int)) ∈ lw_all := lw_g (lw_at lw_m5 21 rfl) rfl
theorem q1041 : (Jvm.Cond.methodLink "CallRounds" (340 : Nat) ({ cls := "CallRounds", name := "noRing", desc := "(I)Z" } : Jvm.MethodName)) ∈ lw_all := lw_g (lw_at lw_m5 22 rfl) rfl
theorem q1042 : (Jvm.Cond.privateMethod ({ cls := "CallRounds", name := "noRing", desc := "(I)Z" } : Jvm.MethodName)) ∈ lw_tbl := lw_at lw_m5 23 rfl
theorem q1043 : (Jvm.Cond.instanceMethod ({ cls := "CallRounds", name := "noRing", desc := "(I)Z" } : Jvm.MethodName)) ∈ lw_all := lw_g (lw_at lw_m5 24 rfl) rfl
theorem q1044 : (Jvm.Cond.code ({ cls := "CallRounds", name := "noRing", desc := "(I)Z" } : Jvm.MethodName) prog_1_method_67_code (2 : Nat) (Option.some Jvm.ClassFile.FieldType.boolean)) ∈ lw_all := lw_g (lw_at lw_m5 25 rfl) rfl
theorem q1045 : (Jvm.Cond.methodLink "CallRounds" (343 : Nat) ({ cls := "CallRounds$Ring", name := "said", desc := "()I" } : Jvm.MethodName)) ∈ lw_all := lw_g (lw_at lw_m5 26 rfl) rfl
theorem q1089 : (Jvm.Cond.instanceMethod ({ cls := "CallRounds", name := "log", desc := "(I)I" } : Jvm.MethodName)) ∈ lw_all := lw_g (lw_at lw_m5 70 rfl) rfl
theorem q1090 : (Jvm.Cond.selects "CallRounds" ({ cls := "CallRounds", name := "log", desc := "(I)I" } : Jvm.MethodName) ({ cls := "CallRounds", name := "log", desc := "(I)I" } : Jvm.MethodName)) ∈ lw_all := lw_g (lw_at lw_m5 71 rfl) rfl
theorem q1091 : (Jvm.Cond.code ({ cls := "CallRounds", name := "log", desc := "(I)I" } : Jvm.MethodName) prog_1_method_69_code (3 : Nat) (Option.some Jvm.ClassFile.FieldType.int)) ∈ lw_all := lw_g (lw_at lw_m5 72 rfl) rfl
theorem q1092 : (Jvm.Cond.classLink "CallRounds" (346 : Nat) "CallRounds$Logged") ∈ lw_all := lw_g (lw_at lw_m5 73 rfl) rfl
theorem q1093 : (Jvm.Cond.interfaceEntry "CallRounds" (348 : Nat)) ∈ lw_tbl := lw_at lw_m5 74 rfl
theorem q1094 : (Jvm.Cond.methodLink "CallRounds" (348 : Nat) ({ cls := "CallRounds$Logged", name := "logged", desc := "()I" } : Jvm.MethodName)) ∈ lw_all := lw_g (lw_at lw_m5 75 rfl) rfl
theorem q1135 : (Jvm.Cond.instanceMethod ({ cls := "CallRounds", name := "as", desc := "(II)I" } : Jvm.MethodName)) ∈ lw_all := lw_g (lw_at lw_m5 116 rfl) rfl
theorem q1136 : (Jvm.Cond.selects "CallRounds" ({ cls := "CallRounds", name := "as", desc := "(II)I" } : Jvm.MethodName) ({ cls := "CallRounds", name := "as", desc := "(II)I" } : Jvm.MethodName)) ∈ lw_all := lw_g (lw_at lw_m5 117 rfl) rfl
theorem q1137 : (Jvm.Cond.code ({ cls := "CallRounds", name := "as", desc := "(II)I" } : Jvm.MethodName) prog_1_method_70_code (3 : Nat) (Option.some Jvm.ClassFile.FieldType.int)) ∈ lw_all := lw_g (lw_at lw_m5 118 rfl) rfl
theorem q1138 : (Jvm.Cond.classLink "CallRounds" (351 : Nat) "CallRounds$Taking") ∈ lw_all := lw_g (lw_at lw_m5 119 rfl) rfl
theorem q1140 : (Jvm.Cond.methodLink "CallRounds" (353 : Nat) ({ cls := "CallRounds$Taking", name := "<init>", desc := "(LCallRounds;LCallRounds$Ring;I)V" } : Jvm.MethodName)) ∈ lw_all := lw_g (lw_at lw_m5 121 rfl) rfl
theorem q1155 : (Jvm.Cond.methodLink "CallRounds" (356 : Nat) ({ cls := "CallRounds$Taking", name := "tried", desc := "()I" } : Jvm.MethodName)) ∈ lw_all := lw_g (lw_at lw_m5 136 rfl) rfl
theorem q1159 : (Jvm.Cond.instanceMethod ({ cls := "CallRounds", name := "trace", desc := "()I" } : Jvm.MethodName)) ∈ lw_all := lw_g (lw_at lw_m5 140 rfl) rfl
theorem q1160 : (Jvm.Cond.selects "CallRounds" ({ cls := "CallRounds", name := "trace", desc := "()I" } : Jvm.MethodName) ({ cls := "CallRounds", name := "trace", desc := "()I" } : Jvm.MethodName)) ∈ lw_all := lw_g (lw_at lw_m5 141 rfl) rfl
theorem q1161 : (Jvm.Cond.code ({ cls := "CallRounds", name := "trace", desc := "()I" } : Jvm.MethodName) prog_1_method_71_code (1 : Nat) (Option.some Jvm.ClassFile.FieldType.int)) ∈ lw_all := lw_g (lw_at lw_m5 142 rfl) rfl
theorem q1163 : (Jvm.Cond.instanceMethod ({ cls := "CallRounds", name := "fault", desc := "()I" } : Jvm.MethodName)) ∈ lw_all := lw_g (lw_at lw_m5 144 rfl) rfl
theorem q1164 : (Jvm.Cond.selects "CallRounds" ({ cls := "CallRounds", name := "fault", desc := "()I" } : Jvm.MethodName) ({ cls := "CallRounds", name := "fault", desc := "()I" } : Jvm.MethodName)) ∈ lw_all := lw_g (lw_at lw_m5 145 rfl) rfl
theorem q1165 : (Jvm.Cond.code ({ cls := "CallRounds", name := "fault", desc := "()I" } : Jvm.MethodName) prog_1_method_72_code (1 : Nat) (Option.some Jvm.ClassFile.FieldType.int)) ∈ lw_all := lw_g (lw_at lw_m5 146 rfl) rfl
theorem q1167 : (Jvm.Cond.instanceMethod ({ cls := "CallRounds", name := "many", desc := "(I)I" } : Jvm.MethodName)) ∈ lw_all := lw_g (lw_at lw_m5 148 rfl) rfl
theorem q1168 : (Jvm.Cond.selects "CallRounds" ({ cls := "CallRounds", name := "many", desc := "(I)I" } : Jvm.MethodName) ({ cls := "CallRounds", name := "many", desc := "(I)I" } : Jvm.MethodName)) ∈ lw_all := lw_g (lw_at lw_m5 149 rfl) rfl
theorem q1169 : (Jvm.Cond.code ({ cls := "CallRounds", name := "many", desc := "(I)I" } : Jvm.MethodName) prog_1_method_73_code (5 : Nat) (Option.some Jvm.ClassFile.FieldType.int)) ∈ lw_all := lw_g (lw_at lw_m5 150 rfl) rfl
theorem q1170 : (Jvm.Cond.methodLink "CallRounds" (360 : Nat) ({ cls := "java/lang/Integer", name := "bitCount", desc := "(I)I" } : Jvm.MethodName)) ∈ lw_all := lw_g (lw_at lw_m5 151 rfl) rfl
theorem q1550 : (Jvm.Cond.castable "CallRounds" "java/lang/Object") ∈ lw_tbl := lw_at lw_m7 51 rfl
theorem in_X0 : ∀ w ∈ wsX00, w ∈ lw_all := lw_in wsX00 [152, 154, 156, 158, 160, 162, 164, 166, 168, 170, 172, 174, 176, 178, 180] (by decide +kernel) (by decide +kernel)
