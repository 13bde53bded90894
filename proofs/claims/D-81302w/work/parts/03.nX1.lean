/-! CallRoundsModel -/
set_option maxRecDepth 100000
def RX1 : String := "CallRoundsModel"
def TX1 : u_T := fun k => match k with
  | 0 => ("CallRoundsModel", "fault", "I", false)
  | 1 => ("CallRoundsModel", "trace", "I", false)
  | 2 => ("CallRoundsModel", "lanes", "[I", true)
  | 3 => ("CallRoundsModel", "sheetLong", "[I", true)
  | 4 => ("CallRoundsModel", "cells", "[I", true)
  | 5 => ("CallRoundsModel", "persons", "I", false)
  | 6 => ("CallRoundsModel", "net", "[I", true)
  | 7 => ("CallRoundsModel", "readNet", "[I", true)
  | 8 => ("CallRoundsModel", "read", "I", false)
  | 9 => ("CallRoundsModel", "calls", "I", false)
  | 10 => ("CallRoundsModel", "callP", "[I", true)
  | 11 => ("CallRoundsModel", "callQ", "[I", true)
  | 12 => ("CallRoundsModel", "seen", "[I", true)
  | 13 => ("CallRoundsModel", "runs", "[J", true)
  | 14 => ("CallRoundsModel", "good", "[J", true)
  | 15 => ("CallRoundsModel", "fewest", "[I", true)
  | 16 => ("CallRoundsModel", "most", "[I", true)
  | 17 => ("CallRoundsModel", "turn", "I", false)
  | 18 => ("CallRoundsModel", "downState", "[I", true)
  | 19 => ("CallRoundsModel", "downTokens", "[I", true)
  | 20 => ("CallRoundsModel", "downNext", "[I", true)
  | 21 => ("CallRoundsModel", "lookNet", "[I", false)
  | 22 => ("CallRoundsModel", "lookMany", "I", false)
  | 23 => ("CallRoundsModel", "lookRule", "I", false)
  | 24 => ("CallRoundsModel", "rowP", "[I", true)
  | 25 => ("CallRoundsModel", "rowQ", "[I", true)
  | 26 => ("CallRoundsModel", "alikeMany", "I", false)
  | 27 => ("CallRoundsModel", "alikeState", "I", false)
  | 28 => ("CallRoundsModel", "other", "[I", true)
  | _ => ("CallRoundsModel", "queue", "[I", true)
def tyX1 : Nat → FieldType := fun k => match k with
  | 0 => .int
  | 1 => .int
  | 2 => .array .int
  | 3 => .array .int
  | 4 => .array .int
  | 5 => .int
  | 6 => .array .int
  | 7 => .array .int
  | 8 => .int
  | 9 => .int
  | 10 => .array .int
  | 11 => .array .int
  | 12 => .array .int
  | 13 => .array .long
  | 14 => .array .long
  | 15 => .array .int
  | 16 => .array .int
  | 17 => .int
  | 18 => .array .int
  | 19 => .array .int
  | 20 => .array .int
  | 21 => .array .int
  | 22 => .int
  | 23 => .int
  | 24 => .array .int
  | 25 => .array .int
  | 26 => .int
  | 27 => .int
  | 28 => .array .int
  | _ => .array .int
abbrev wsX10 : List Cond := u_ws RX1 TX1 30
set_option maxRecDepth 100000 in
theorem nmX1 : ∀ a, a < 30 → ∀ b, b < 30 → a ≠ b → (TX1 a).2.1 ≠ (TX1 b).2.1 := by decide +kernel
set_option maxRecDepth 100000 in
theorem tyX1_ok : ∀ k, k < 30 → parseFieldDescriptor (TX1 k).2.2.1 = some (tyX1 k) := by decide +kernel
abbrev cX1_init : ByteArray := prog_16_method_1_code
def yX1_init : MethodName := ⟨RX1, "<init>", "()V"⟩
def dkwX1_init_7 : List UInt8 := [181, 0, 66, 42, 18, 31, 188, 10, 181, 0, 69, 177]
abbrev dktX1_init_7 : List UInt8 := dkwX1_init_7 ++ []
def dkwX1_init_6 : List UInt8 := [180, 0, 19, 181, 0, 57, 42, 7, 188, 10, 181, 0, 60, 42, 7, 188, 10, 181, 0, 63, 42, 7, 188, 10]
abbrev dktX1_init_6 : List UInt8 := dkwX1_init_6 ++ dktX1_init_7
def dkwX1_init_5 : List UInt8 := [188, 10, 181, 0, 48, 42, 16, 16, 188, 10, 181, 0, 51, 42, 16, 16, 188, 10, 181, 0, 54, 42, 42]
abbrev dktX1_init_5 : List UInt8 := dkwX1_init_5 ++ dktX1_init_6
def dkwX1_init_4 : List UInt8 := [188, 11, 181, 0, 39, 42, 18, 31, 188, 10, 181, 0, 42, 42, 18, 31, 188, 10, 181, 0, 45, 42, 16, 16]
abbrev dktX1_init_4 : List UInt8 := dkwX1_init_4 ++ dktX1_init_5
def dkwX1_init_3 : List UInt8 := [188, 10, 181, 0, 28, 42, 18, 31, 188, 10, 181, 0, 32, 42, 18, 31, 188, 11, 181, 0, 35, 42, 18, 31]
abbrev dktX1_init_3 : List UInt8 := dkwX1_init_3 ++ dktX1_init_4
def dkwX1_init_2 : List UInt8 := [7, 188, 10, 181, 0, 19, 42, 7, 188, 10, 181, 0, 22, 42, 16, 12, 188, 10, 181, 0, 25, 42, 16, 12]
abbrev dktX1_init_2 : List UInt8 := dkwX1_init_2 ++ dktX1_init_3
def dkwX1_init_1 : List UInt8 := [6, 16, 247, 79, 181, 0, 9, 42, 7, 188, 10, 181, 0, 13, 42, 17, 0, 240, 188, 10, 181, 0, 16, 42]
abbrev dktX1_init_1 : List UInt8 := dkwX1_init_1 ++ dktX1_init_2
def dkwX1_init_0 : List UInt8 := [42, 183, 0, 1, 42, 7, 188, 10, 89, 3, 16, 247, 79, 89, 4, 16, 247, 79, 89, 5, 16, 247, 79, 89]
abbrev dktX1_init_0 : List UInt8 := dkwX1_init_0 ++ dktX1_init_1
theorem dksX1_init_0 : cX1_init.data.toList.drop 0 = dktX1_init_0 := by decide +kernel
theorem dksX1_init_1 : cX1_init.data.toList.drop 24 = dktX1_init_1 := dk_seg dksX1_init_0 24 rfl rfl
theorem dksX1_init_2 : cX1_init.data.toList.drop 48 = dktX1_init_2 := dk_seg dksX1_init_1 24 rfl rfl
theorem dksX1_init_3 : cX1_init.data.toList.drop 72 = dktX1_init_3 := dk_seg dksX1_init_2 24 rfl rfl
theorem dksX1_init_4 : cX1_init.data.toList.drop 96 = dktX1_init_4 := dk_seg dksX1_init_3 24 rfl rfl
theorem dksX1_init_5 : cX1_init.data.toList.drop 120 = dktX1_init_5 := dk_seg dksX1_init_4 24 rfl rfl
theorem dksX1_init_6 : cX1_init.data.toList.drop 143 = dktX1_init_6 := dk_seg dksX1_init_5 23 rfl rfl
theorem dksX1_init_7 : cX1_init.data.toList.drop 167 = dktX1_init_7 := dk_seg dksX1_init_6 24 rfl rfl
theorem dX1_init_0 : decode cX1_init 0 = .ok (.aload_n 0, 1) := dk_42 (dk_at dksX1_init_0 0 rfl rfl)
theorem dX1_init_1 : decode cX1_init 1 = .ok (.invokespecial 1, 3) := dk_183 0 1 (dk_at dksX1_init_0 1 rfl rfl)
theorem dX1_init_4 : decode cX1_init 4 = .ok (.aload_n 0, 1) := dk_42 (dk_at dksX1_init_0 4 rfl rfl)
theorem dX1_init_5 : decode cX1_init 5 = .ok (.iconst 4, 1) := dk_7 (dk_at dksX1_init_0 5 rfl rfl)
theorem dX1_init_6 : decode cX1_init 6 = .ok (.newarray .int, 2) := dk_188_10 (dk_at dksX1_init_0 6 rfl rfl)
theorem dX1_init_8 : decode cX1_init 8 = .ok (.dup, 1) := dk_89 (dk_at dksX1_init_0 8 rfl rfl)
theorem dX1_init_9 : decode cX1_init 9 = .ok (.iconst 0, 1) := dk_3 (dk_at dksX1_init_0 9 rfl rfl)
theorem dX1_init_10 : decode cX1_init 10 = .ok (.bipush (-9), 2) := dk_16 247 (dk_at dksX1_init_0 10 rfl rfl)
theorem dX1_init_12 : decode cX1_init 12 = .ok (.iastore, 1) := dk_79 (dk_at dksX1_init_0 12 rfl rfl)
theorem dX1_init_13 : decode cX1_init 13 = .ok (.dup, 1) := dk_89 (dk_at dksX1_init_0 13 rfl rfl)
theorem dX1_init_14 : decode cX1_init 14 = .ok (.iconst 1, 1) := dk_4 (dk_at dksX1_init_0 14 rfl rfl)
theorem dX1_init_15 : decode cX1_init 15 = .ok (.bipush (-9), 2) := dk_16 247 (dk_at dksX1_init_0 15 rfl rfl)
theorem dX1_init_17 : decode cX1_init 17 = .ok (.iastore, 1) := dk_79 (dk_at dksX1_init_0 17 rfl rfl)
theorem dX1_init_18 : decode cX1_init 18 = .ok (.dup, 1) := dk_89 (dk_at dksX1_init_0 18 rfl rfl)
theorem dX1_init_19 : decode cX1_init 19 = .ok (.iconst 2, 1) := dk_5 (dk_at dksX1_init_0 19 rfl rfl)
theorem dX1_init_20 : decode cX1_init 20 = .ok (.bipush (-9), 2) := dk_16 247 (dk_at dksX1_init_0 20 rfl rfl)
theorem dX1_init_22 : decode cX1_init 22 = .ok (.iastore, 1) := dk_79 (dk_at dksX1_init_0 22 rfl rfl)
theorem dX1_init_23 : decode cX1_init 23 = .ok (.dup, 1) := dk_89 (dk_at dksX1_init_0 23 rfl rfl)
theorem dX1_init_24 : decode cX1_init 24 = .ok (.iconst 3, 1) := dk_6 (dk_at dksX1_init_1 0 rfl rfl)
theorem dX1_init_25 : decode cX1_init 25 = .ok (.bipush (-9), 2) := dk_16 247 (dk_at dksX1_init_1 1 rfl rfl)
theorem dX1_init_27 : decode cX1_init 27 = .ok (.iastore, 1) := dk_79 (dk_at dksX1_init_1 3 rfl rfl)
theorem dX1_init_28 : decode cX1_init 28 = .ok (.putfield 9, 3) := dk_181 0 9 (dk_at dksX1_init_1 4 rfl rfl)
theorem dX1_init_31 : decode cX1_init 31 = .ok (.aload_n 0, 1) := dk_42 (dk_at dksX1_init_1 7 rfl rfl)
theorem dX1_init_32 : decode cX1_init 32 = .ok (.iconst 4, 1) := dk_7 (dk_at dksX1_init_1 8 rfl rfl)
theorem dX1_init_33 : decode cX1_init 33 = .ok (.newarray .int, 2) := dk_188_10 (dk_at dksX1_init_1 9 rfl rfl)
theorem dX1_init_35 : decode cX1_init 35 = .ok (.putfield 13, 3) := dk_181 0 13 (dk_at dksX1_init_1 11 rfl rfl)
theorem dX1_init_38 : decode cX1_init 38 = .ok (.aload_n 0, 1) := dk_42 (dk_at dksX1_init_1 14 rfl rfl)
theorem dX1_init_39 : decode cX1_init 39 = .ok (.sipush 240, 3) := dk_17 0 240 (dk_at dksX1_init_1 15 rfl rfl)
theorem dX1_init_42 : decode cX1_init 42 = .ok (.newarray .int, 2) := dk_188_10 (dk_at dksX1_init_1 18 rfl rfl)
theorem dX1_init_44 : decode cX1_init 44 = .ok (.putfield 16, 3) := dk_181 0 16 (dk_at dksX1_init_1 20 rfl rfl)
theorem dX1_init_47 : decode cX1_init 47 = .ok (.aload_n 0, 1) := dk_42 (dk_at dksX1_init_1 23 rfl rfl)
theorem dX1_init_48 : decode cX1_init 48 = .ok (.iconst 4, 1) := dk_7 (dk_at dksX1_init_2 0 rfl rfl)
theorem dX1_init_49 : decode cX1_init 49 = .ok (.newarray .int, 2) := dk_188_10 (dk_at dksX1_init_2 1 rfl rfl)
theorem dX1_init_51 : decode cX1_init 51 = .ok (.putfield 19, 3) := dk_181 0 19 (dk_at dksX1_init_2 3 rfl rfl)
theorem dX1_init_54 : decode cX1_init 54 = .ok (.aload_n 0, 1) := dk_42 (dk_at dksX1_init_2 6 rfl rfl)
theorem dX1_init_55 : decode cX1_init 55 = .ok (.iconst 4, 1) := dk_7 (dk_at dksX1_init_2 7 rfl rfl)
theorem dX1_init_56 : decode cX1_init 56 = .ok (.newarray .int, 2) := dk_188_10 (dk_at dksX1_init_2 8 rfl rfl)
theorem dX1_init_58 : decode cX1_init 58 = .ok (.putfield 22, 3) := dk_181 0 22 (dk_at dksX1_init_2 10 rfl rfl)
theorem dX1_init_61 : decode cX1_init 61 = .ok (.aload_n 0, 1) := dk_42 (dk_at dksX1_init_2 13 rfl rfl)
theorem dX1_init_62 : decode cX1_init 62 = .ok (.bipush 12, 2) := dk_16 12 (dk_at dksX1_init_2 14 rfl rfl)
theorem dX1_init_64 : decode cX1_init 64 = .ok (.newarray .int, 2) := dk_188_10 (dk_at dksX1_init_2 16 rfl rfl)
theorem dX1_init_66 : decode cX1_init 66 = .ok (.putfield 25, 3) := dk_181 0 25 (dk_at dksX1_init_2 18 rfl rfl)
theorem dX1_init_69 : decode cX1_init 69 = .ok (.aload_n 0, 1) := dk_42 (dk_at dksX1_init_2 21 rfl rfl)
theorem dX1_init_70 : decode cX1_init 70 = .ok (.bipush 12, 2) := dk_16 12 (dk_at dksX1_init_2 22 rfl rfl)
theorem dX1_init_72 : decode cX1_init 72 = .ok (.newarray .int, 2) := dk_188_10 (dk_at dksX1_init_3 0 rfl rfl)
theorem dX1_init_74 : decode cX1_init 74 = .ok (.putfield 28, 3) := dk_181 0 28 (dk_at dksX1_init_3 2 rfl rfl)
theorem dX1_init_77 : decode cX1_init 77 = .ok (.aload_n 0, 1) := dk_42 (dk_at dksX1_init_3 5 rfl rfl)
theorem dX1_init_78 : decode cX1_init 78 = .ok (.ldc 31, 2) := dk_18 31 (dk_at dksX1_init_3 6 rfl rfl)
theorem dX1_init_80 : decode cX1_init 80 = .ok (.newarray .int, 2) := dk_188_10 (dk_at dksX1_init_3 8 rfl rfl)
theorem dX1_init_82 : decode cX1_init 82 = .ok (.putfield 32, 3) := dk_181 0 32 (dk_at dksX1_init_3 10 rfl rfl)
theorem dX1_init_85 : decode cX1_init 85 = .ok (.aload_n 0, 1) := dk_42 (dk_at dksX1_init_3 13 rfl rfl)
theorem dX1_init_86 : decode cX1_init 86 = .ok (.ldc 31, 2) := dk_18 31 (dk_at dksX1_init_3 14 rfl rfl)
theorem dX1_init_88 : decode cX1_init 88 = .ok (.newarray .long, 2) := dk_188_11 (dk_at dksX1_init_3 16 rfl rfl)
theorem dX1_init_90 : decode cX1_init 90 = .ok (.putfield 35, 3) := dk_181 0 35 (dk_at dksX1_init_3 18 rfl rfl)
theorem dX1_init_93 : decode cX1_init 93 = .ok (.aload_n 0, 1) := dk_42 (dk_at dksX1_init_3 21 rfl rfl)
theorem dX1_init_94 : decode cX1_init 94 = .ok (.ldc 31, 2) := dk_18 31 (dk_at dksX1_init_3 22 rfl rfl)
theorem dX1_init_96 : decode cX1_init 96 = .ok (.newarray .long, 2) := dk_188_11 (dk_at dksX1_init_4 0 rfl rfl)
theorem dX1_init_98 : decode cX1_init 98 = .ok (.putfield 39, 3) := dk_181 0 39 (dk_at dksX1_init_4 2 rfl rfl)
theorem dX1_init_101 : decode cX1_init 101 = .ok (.aload_n 0, 1) := dk_42 (dk_at dksX1_init_4 5 rfl rfl)
theorem dX1_init_102 : decode cX1_init 102 = .ok (.ldc 31, 2) := dk_18 31 (dk_at dksX1_init_4 6 rfl rfl)
theorem dX1_init_104 : decode cX1_init 104 = .ok (.newarray .int, 2) := dk_188_10 (dk_at dksX1_init_4 8 rfl rfl)
theorem dX1_init_106 : decode cX1_init 106 = .ok (.putfield 42, 3) := dk_181 0 42 (dk_at dksX1_init_4 10 rfl rfl)
theorem dX1_init_109 : decode cX1_init 109 = .ok (.aload_n 0, 1) := dk_42 (dk_at dksX1_init_4 13 rfl rfl)
theorem dX1_init_110 : decode cX1_init 110 = .ok (.ldc 31, 2) := dk_18 31 (dk_at dksX1_init_4 14 rfl rfl)
theorem dX1_init_112 : decode cX1_init 112 = .ok (.newarray .int, 2) := dk_188_10 (dk_at dksX1_init_4 16 rfl rfl)
theorem dX1_init_114 : decode cX1_init 114 = .ok (.putfield 45, 3) := dk_181 0 45 (dk_at dksX1_init_4 18 rfl rfl)
theorem dX1_init_117 : decode cX1_init 117 = .ok (.aload_n 0, 1) := dk_42 (dk_at dksX1_init_4 21 rfl rfl)
theorem dX1_init_118 : decode cX1_init 118 = .ok (.bipush 16, 2) := dk_16 16 (dk_at dksX1_init_4 22 rfl rfl)
theorem dX1_init_120 : decode cX1_init 120 = .ok (.newarray .int, 2) := dk_188_10 (dk_at dksX1_init_5 0 rfl rfl)
theorem dX1_init_122 : decode cX1_init 122 = .ok (.putfield 48, 3) := dk_181 0 48 (dk_at dksX1_init_5 2 rfl rfl)
theorem dX1_init_125 : decode cX1_init 125 = .ok (.aload_n 0, 1) := dk_42 (dk_at dksX1_init_5 5 rfl rfl)
theorem dX1_init_126 : decode cX1_init 126 = .ok (.bipush 16, 2) := dk_16 16 (dk_at dksX1_init_5 6 rfl rfl)
theorem dX1_init_128 : decode cX1_init 128 = .ok (.newarray .int, 2) := dk_188_10 (dk_at dksX1_init_5 8 rfl rfl)
theorem dX1_init_130 : decode cX1_init 130 = .ok (.putfield 51, 3) := dk_181 0 51 (dk_at dksX1_init_5 10 rfl rfl)
theorem dX1_init_133 : decode cX1_init 133 = .ok (.aload_n 0, 1) := dk_42 (dk_at dksX1_init_5 13 rfl rfl)
theorem dX1_init_134 : decode cX1_init 134 = .ok (.bipush 16, 2) := dk_16 16 (dk_at dksX1_init_5 14 rfl rfl)
theorem dX1_init_136 : decode cX1_init 136 = .ok (.newarray .int, 2) := dk_188_10 (dk_at dksX1_init_5 16 rfl rfl)
theorem dX1_init_138 : decode cX1_init 138 = .ok (.putfield 54, 3) := dk_181 0 54 (dk_at dksX1_init_5 18 rfl rfl)
theorem dX1_init_141 : decode cX1_init 141 = .ok (.aload_n 0, 1) := dk_42 (dk_at dksX1_init_5 21 rfl rfl)
theorem dX1_init_142 : decode cX1_init 142 = .ok (.aload_n 0, 1) := dk_42 (dk_at dksX1_init_5 22 rfl rfl)
theorem dX1_init_143 : decode cX1_init 143 = .ok (.getfield 19, 3) := dk_180 0 19 (dk_at dksX1_init_6 0 rfl rfl)
theorem dX1_init_146 : decode cX1_init 146 = .ok (.putfield 57, 3) := dk_181 0 57 (dk_at dksX1_init_6 3 rfl rfl)
theorem dX1_init_149 : decode cX1_init 149 = .ok (.aload_n 0, 1) := dk_42 (dk_at dksX1_init_6 6 rfl rfl)
theorem dX1_init_150 : decode cX1_init 150 = .ok (.iconst 4, 1) := dk_7 (dk_at dksX1_init_6 7 rfl rfl)
theorem dX1_init_151 : decode cX1_init 151 = .ok (.newarray .int, 2) := dk_188_10 (dk_at dksX1_init_6 8 rfl rfl)
theorem dX1_init_153 : decode cX1_init 153 = .ok (.putfield 60, 3) := dk_181 0 60 (dk_at dksX1_init_6 10 rfl rfl)
theorem dX1_init_156 : decode cX1_init 156 = .ok (.aload_n 0, 1) := dk_42 (dk_at dksX1_init_6 13 rfl rfl)
theorem dX1_init_157 : decode cX1_init 157 = .ok (.iconst 4, 1) := dk_7 (dk_at dksX1_init_6 14 rfl rfl)
theorem dX1_init_158 : decode cX1_init 158 = .ok (.newarray .int, 2) := dk_188_10 (dk_at dksX1_init_6 15 rfl rfl)
theorem dX1_init_160 : decode cX1_init 160 = .ok (.putfield 63, 3) := dk_181 0 63 (dk_at dksX1_init_6 17 rfl rfl)
theorem dX1_init_163 : decode cX1_init 163 = .ok (.aload_n 0, 1) := dk_42 (dk_at dksX1_init_6 20 rfl rfl)
theorem dX1_init_164 : decode cX1_init 164 = .ok (.iconst 4, 1) := dk_7 (dk_at dksX1_init_6 21 rfl rfl)
theorem dX1_init_165 : decode cX1_init 165 = .ok (.newarray .int, 2) := dk_188_10 (dk_at dksX1_init_6 22 rfl rfl)
theorem dX1_init_167 : decode cX1_init 167 = .ok (.putfield 66, 3) := dk_181 0 66 (dk_at dksX1_init_7 0 rfl rfl)
theorem dX1_init_170 : decode cX1_init 170 = .ok (.aload_n 0, 1) := dk_42 (dk_at dksX1_init_7 3 rfl rfl)
theorem dX1_init_171 : decode cX1_init 171 = .ok (.ldc 31, 2) := dk_18 31 (dk_at dksX1_init_7 4 rfl rfl)
theorem dX1_init_173 : decode cX1_init 173 = .ok (.newarray .int, 2) := dk_188_10 (dk_at dksX1_init_7 6 rfl rfl)
theorem dX1_init_175 : decode cX1_init 175 = .ok (.putfield 69, 3) := dk_181 0 69 (dk_at dksX1_init_7 8 rfl rfl)
theorem dX1_init_178 : decode cX1_init 178 = .ok (.return_, 1) := dk_177 (dk_at dksX1_init_7 11 rfl rfl)
abbrev cX1_net : ByteArray := prog_16_method_12_code
def yX1_net : MethodName := ⟨RX1, "net", "(IIII)I"⟩
def dkwX1_net_8 : List UInt8 := [42, 180, 0, 82, 172]
abbrev dktX1_net_8 : List UInt8 := dkwX1_net_8 ++ []
def dkwX1_net_7 : List UInt8 := [180, 0, 19, 21, 7, 42, 180, 0, 22, 21, 7, 46, 79, 132, 7, 1, 167, 255, 230, 42, 3, 181, 0, 103]
abbrev dktX1_net_7 : List UInt8 := dkwX1_net_7 ++ dktX1_net_8
def dkwX1_net_6 : List UInt8 := [100, 172, 42, 42, 180, 0, 100, 181, 0, 82, 3, 54, 7, 21, 7, 42, 180, 0, 100, 162, 0, 23, 42]
abbrev dktX1_net_6 : List UInt8 := dkwX1_net_6 ++ dktX1_net_7
def dkwX1_net_5 : List UInt8 := [96, 54, 5, 42, 21, 5, 21, 4, 182, 0, 96, 54, 6, 21, 6, 16, 247, 159, 0, 9, 16, 156, 21, 6]
abbrev dktX1_net_5 : List UInt8 := dkwX1_net_5 ++ dktX1_net_6
def dkwX1_net_4 : List UInt8 := [21, 4, 42, 180, 0, 13, 27, 46, 29, 100, 164, 0, 9, 42, 6, 182, 0, 92, 172, 16, 60, 27, 104, 29]
abbrev dktX1_net_4 : List UInt8 := dkwX1_net_4 ++ dktX1_net_5
def dkwX1_net_3 : List UInt8 := [156, 0, 9, 42, 7, 182, 0, 92, 172, 29, 155, 0, 26, 29, 42, 180, 0, 13, 27, 46, 163, 0, 16]
abbrev dktX1_net_3 : List UInt8 := dkwX1_net_3 ++ dktX1_net_4
def dkwX1_net_2 : List UInt8 := [182, 0, 92, 172, 42, 180, 0, 9, 27, 46, 16, 247, 160, 0, 9, 42, 4, 182, 0, 92, 172, 21, 4]
abbrev dktX1_net_2 : List UInt8 := dkwX1_net_2 ++ dktX1_net_3
def dkwX1_net_1 : List UInt8 := [42, 180, 0, 9, 27, 46, 16, 247, 159, 0, 19, 42, 180, 0, 9, 27, 46, 28, 159, 0, 9, 42, 5]
abbrev dktX1_net_1 : List UInt8 := dkwX1_net_1 ++ dktX1_net_2
def dkwX1_net_0 : List UInt8 := [42, 3, 181, 0, 72, 27, 184, 0, 85, 154, 0, 5, 2, 172, 28, 184, 0, 89, 154, 0, 6, 16, 254, 172]
abbrev dktX1_net_0 : List UInt8 := dkwX1_net_0 ++ dktX1_net_1
theorem dksX1_net_0 : cX1_net.data.toList.drop 0 = dktX1_net_0 := by decide +kernel
theorem dksX1_net_1 : cX1_net.data.toList.drop 24 = dktX1_net_1 := dk_seg dksX1_net_0 24 rfl rfl
theorem dksX1_net_2 : cX1_net.data.toList.drop 47 = dktX1_net_2 := dk_seg dksX1_net_1 23 rfl rfl
theorem dksX1_net_3 : cX1_net.data.toList.drop 70 = dktX1_net_3 := dk_seg dksX1_net_2 23 rfl rfl
theorem dksX1_net_4 : cX1_net.data.toList.drop 93 = dktX1_net_4 := dk_seg dksX1_net_3 23 rfl rfl
theorem dksX1_net_5 : cX1_net.data.toList.drop 117 = dktX1_net_5 := dk_seg dksX1_net_4 24 rfl rfl
theorem dksX1_net_6 : cX1_net.data.toList.drop 141 = dktX1_net_6 := dk_seg dksX1_net_5 24 rfl rfl
theorem dksX1_net_7 : cX1_net.data.toList.drop 164 = dktX1_net_7 := dk_seg dksX1_net_6 23 rfl rfl
theorem dksX1_net_8 : cX1_net.data.toList.drop 188 = dktX1_net_8 := dk_seg dksX1_net_7 24 rfl rfl
theorem dX1_net_0 : decode cX1_net 0 = .ok (.aload_n 0, 1) := dk_42 (dk_at dksX1_net_0 0 rfl rfl)
theorem dX1_net_1 : decode cX1_net 1 = .ok (.iconst 0, 1) := dk_3 (dk_at dksX1_net_0 1 rfl rfl)
theorem dX1_net_2 : decode cX1_net 2 = .ok (.putfield 72, 3) := dk_181 0 72 (dk_at dksX1_net_0 2 rfl rfl)
theorem dX1_net_5 : decode cX1_net 5 = .ok (.iload_n 1, 1) := dk_27 (dk_at dksX1_net_0 5 rfl rfl)
theorem dX1_net_6 : decode cX1_net 6 = .ok (.invokestatic 85, 3) := dk_184 0 85 (dk_at dksX1_net_0 6 rfl rfl)
theorem dX1_net_9 : decode cX1_net 9 = .ok (.ifCond .ne 5, 3) := dk_154 0 5 (dk_at dksX1_net_0 9 rfl rfl)
theorem dX1_net_12 : decode cX1_net 12 = .ok (.iconst (-1), 1) := dk_2 (dk_at dksX1_net_0 12 rfl rfl)
theorem dX1_net_13 : decode cX1_net 13 = .ok (.ireturn, 1) := dk_172 (dk_at dksX1_net_0 13 rfl rfl)
theorem dX1_net_14 : decode cX1_net 14 = .ok (.iload_n 2, 1) := dk_28 (dk_at dksX1_net_0 14 rfl rfl)
theorem dX1_net_15 : decode cX1_net 15 = .ok (.invokestatic 89, 3) := dk_184 0 89 (dk_at dksX1_net_0 15 rfl rfl)
theorem dX1_net_18 : decode cX1_net 18 = .ok (.ifCond .ne 6, 3) := dk_154 0 6 (dk_at dksX1_net_0 18 rfl rfl)
theorem dX1_net_21 : decode cX1_net 21 = .ok (.bipush (-2), 2) := dk_16 254 (dk_at dksX1_net_0 21 rfl rfl)
theorem dX1_net_23 : decode cX1_net 23 = .ok (.ireturn, 1) := dk_172 (dk_at dksX1_net_0 23 rfl rfl)
theorem dX1_net_24 : decode cX1_net 24 = .ok (.aload_n 0, 1) := dk_42 (dk_at dksX1_net_1 0 rfl rfl)
theorem dX1_net_25 : decode cX1_net 25 = .ok (.getfield 9, 3) := dk_180 0 9 (dk_at dksX1_net_1 1 rfl rfl)
theorem dX1_net_28 : decode cX1_net 28 = .ok (.iload_n 1, 1) := dk_27 (dk_at dksX1_net_1 4 rfl rfl)
theorem dX1_net_29 : decode cX1_net 29 = .ok (.iaload, 1) := dk_46 (dk_at dksX1_net_1 5 rfl rfl)
theorem dX1_net_30 : decode cX1_net 30 = .ok (.bipush (-9), 2) := dk_16 247 (dk_at dksX1_net_1 6 rfl rfl)
theorem dX1_net_32 : decode cX1_net 32 = .ok (.if_icmp .eq 19, 3) := dk_159 0 19 (dk_at dksX1_net_1 8 rfl rfl)
theorem dX1_net_35 : decode cX1_net 35 = .ok (.aload_n 0, 1) := dk_42 (dk_at dksX1_net_1 11 rfl rfl)
theorem dX1_net_36 : decode cX1_net 36 = .ok (.getfield 9, 3) := dk_180 0 9 (dk_at dksX1_net_1 12 rfl rfl)
theorem dX1_net_39 : decode cX1_net 39 = .ok (.iload_n 1, 1) := dk_27 (dk_at dksX1_net_1 15 rfl rfl)
theorem dX1_net_40 : decode cX1_net 40 = .ok (.iaload, 1) := dk_46 (dk_at dksX1_net_1 16 rfl rfl)
theorem dX1_net_41 : decode cX1_net 41 = .ok (.iload_n 2, 1) := dk_28 (dk_at dksX1_net_1 17 rfl rfl)
theorem dX1_net_42 : decode cX1_net 42 = .ok (.if_icmp .eq 9, 3) := dk_159 0 9 (dk_at dksX1_net_1 18 rfl rfl)
theorem dX1_net_45 : decode cX1_net 45 = .ok (.aload_n 0, 1) := dk_42 (dk_at dksX1_net_1 21 rfl rfl)
theorem dX1_net_46 : decode cX1_net 46 = .ok (.iconst 2, 1) := dk_5 (dk_at dksX1_net_1 22 rfl rfl)
theorem dX1_net_47 : decode cX1_net 47 = .ok (.invokevirtual 92, 3) := dk_182 0 92 (dk_at dksX1_net_2 0 rfl rfl)
theorem dX1_net_50 : decode cX1_net 50 = .ok (.ireturn, 1) := dk_172 (dk_at dksX1_net_2 3 rfl rfl)
theorem dX1_net_51 : decode cX1_net 51 = .ok (.aload_n 0, 1) := dk_42 (dk_at dksX1_net_2 4 rfl rfl)
theorem dX1_net_52 : decode cX1_net 52 = .ok (.getfield 9, 3) := dk_180 0 9 (dk_at dksX1_net_2 5 rfl rfl)
theorem dX1_net_55 : decode cX1_net 55 = .ok (.iload_n 1, 1) := dk_27 (dk_at dksX1_net_2 8 rfl rfl)
theorem dX1_net_56 : decode cX1_net 56 = .ok (.iaload, 1) := dk_46 (dk_at dksX1_net_2 9 rfl rfl)
theorem dX1_net_57 : decode cX1_net 57 = .ok (.bipush (-9), 2) := dk_16 247 (dk_at dksX1_net_2 10 rfl rfl)
theorem dX1_net_59 : decode cX1_net 59 = .ok (.if_icmp .ne 9, 3) := dk_160 0 9 (dk_at dksX1_net_2 12 rfl rfl)
theorem dX1_net_62 : decode cX1_net 62 = .ok (.aload_n 0, 1) := dk_42 (dk_at dksX1_net_2 15 rfl rfl)
theorem dX1_net_63 : decode cX1_net 63 = .ok (.iconst 1, 1) := dk_4 (dk_at dksX1_net_2 16 rfl rfl)
theorem dX1_net_64 : decode cX1_net 64 = .ok (.invokevirtual 92, 3) := dk_182 0 92 (dk_at dksX1_net_2 17 rfl rfl)
theorem dX1_net_67 : decode cX1_net 67 = .ok (.ireturn, 1) := dk_172 (dk_at dksX1_net_2 20 rfl rfl)
theorem dX1_net_68 : decode cX1_net 68 = .ok (.iload 4, 2) := dk_21 4 (dk_at dksX1_net_2 21 rfl rfl)
theorem dX1_net_70 : decode cX1_net 70 = .ok (.ifCond .ge 9, 3) := dk_156 0 9 (dk_at dksX1_net_3 0 rfl rfl)
theorem dX1_net_73 : decode cX1_net 73 = .ok (.aload_n 0, 1) := dk_42 (dk_at dksX1_net_3 3 rfl rfl)
theorem dX1_net_74 : decode cX1_net 74 = .ok (.iconst 4, 1) := dk_7 (dk_at dksX1_net_3 4 rfl rfl)
theorem dX1_net_75 : decode cX1_net 75 = .ok (.invokevirtual 92, 3) := dk_182 0 92 (dk_at dksX1_net_3 5 rfl rfl)
theorem dX1_net_78 : decode cX1_net 78 = .ok (.ireturn, 1) := dk_172 (dk_at dksX1_net_3 8 rfl rfl)
theorem dX1_net_79 : decode cX1_net 79 = .ok (.iload_n 3, 1) := dk_29 (dk_at dksX1_net_3 9 rfl rfl)
theorem dX1_net_80 : decode cX1_net 80 = .ok (.ifCond .lt 26, 3) := dk_155 0 26 (dk_at dksX1_net_3 10 rfl rfl)
theorem dX1_net_83 : decode cX1_net 83 = .ok (.iload_n 3, 1) := dk_29 (dk_at dksX1_net_3 13 rfl rfl)
theorem dX1_net_84 : decode cX1_net 84 = .ok (.aload_n 0, 1) := dk_42 (dk_at dksX1_net_3 14 rfl rfl)
theorem dX1_net_85 : decode cX1_net 85 = .ok (.getfield 13, 3) := dk_180 0 13 (dk_at dksX1_net_3 15 rfl rfl)
theorem dX1_net_88 : decode cX1_net 88 = .ok (.iload_n 1, 1) := dk_27 (dk_at dksX1_net_3 18 rfl rfl)
theorem dX1_net_89 : decode cX1_net 89 = .ok (.iaload, 1) := dk_46 (dk_at dksX1_net_3 19 rfl rfl)
theorem dX1_net_90 : decode cX1_net 90 = .ok (.if_icmp .gt 16, 3) := dk_163 0 16 (dk_at dksX1_net_3 20 rfl rfl)
theorem dX1_net_93 : decode cX1_net 93 = .ok (.iload 4, 2) := dk_21 4 (dk_at dksX1_net_4 0 rfl rfl)
theorem dX1_net_95 : decode cX1_net 95 = .ok (.aload_n 0, 1) := dk_42 (dk_at dksX1_net_4 2 rfl rfl)
theorem dX1_net_96 : decode cX1_net 96 = .ok (.getfield 13, 3) := dk_180 0 13 (dk_at dksX1_net_4 3 rfl rfl)
theorem dX1_net_99 : decode cX1_net 99 = .ok (.iload_n 1, 1) := dk_27 (dk_at dksX1_net_4 6 rfl rfl)
theorem dX1_net_100 : decode cX1_net 100 = .ok (.iaload, 1) := dk_46 (dk_at dksX1_net_4 7 rfl rfl)
theorem dX1_net_101 : decode cX1_net 101 = .ok (.iload_n 3, 1) := dk_29 (dk_at dksX1_net_4 8 rfl rfl)
theorem dX1_net_102 : decode cX1_net 102 = .ok (.isub, 1) := dk_100 (dk_at dksX1_net_4 9 rfl rfl)
theorem dX1_net_103 : decode cX1_net 103 = .ok (.if_icmp .le 9, 3) := dk_164 0 9 (dk_at dksX1_net_4 10 rfl rfl)
theorem dX1_net_106 : decode cX1_net 106 = .ok (.aload_n 0, 1) := dk_42 (dk_at dksX1_net_4 13 rfl rfl)
theorem dX1_net_107 : decode cX1_net 107 = .ok (.iconst 3, 1) := dk_6 (dk_at dksX1_net_4 14 rfl rfl)
theorem dX1_net_108 : decode cX1_net 108 = .ok (.invokevirtual 92, 3) := dk_182 0 92 (dk_at dksX1_net_4 15 rfl rfl)
theorem dX1_net_111 : decode cX1_net 111 = .ok (.ireturn, 1) := dk_172 (dk_at dksX1_net_4 18 rfl rfl)
theorem dX1_net_112 : decode cX1_net 112 = .ok (.bipush 60, 2) := dk_16 60 (dk_at dksX1_net_4 19 rfl rfl)
theorem dX1_net_114 : decode cX1_net 114 = .ok (.iload_n 1, 1) := dk_27 (dk_at dksX1_net_4 21 rfl rfl)
theorem dX1_net_115 : decode cX1_net 115 = .ok (.imul, 1) := dk_104 (dk_at dksX1_net_4 22 rfl rfl)
theorem dX1_net_116 : decode cX1_net 116 = .ok (.iload_n 3, 1) := dk_29 (dk_at dksX1_net_4 23 rfl rfl)
theorem dX1_net_117 : decode cX1_net 117 = .ok (.iadd, 1) := dk_96 (dk_at dksX1_net_5 0 rfl rfl)
theorem dX1_net_118 : decode cX1_net 118 = .ok (.istore 5, 2) := dk_54 5 (dk_at dksX1_net_5 1 rfl rfl)
theorem dX1_net_120 : decode cX1_net 120 = .ok (.aload_n 0, 1) := dk_42 (dk_at dksX1_net_5 3 rfl rfl)
theorem dX1_net_121 : decode cX1_net 121 = .ok (.iload 5, 2) := dk_21 5 (dk_at dksX1_net_5 4 rfl rfl)
theorem dX1_net_123 : decode cX1_net 123 = .ok (.iload 4, 2) := dk_21 4 (dk_at dksX1_net_5 6 rfl rfl)
theorem dX1_net_125 : decode cX1_net 125 = .ok (.invokevirtual 96, 3) := dk_182 0 96 (dk_at dksX1_net_5 8 rfl rfl)
theorem dX1_net_128 : decode cX1_net 128 = .ok (.istore 6, 2) := dk_54 6 (dk_at dksX1_net_5 11 rfl rfl)
theorem dX1_net_130 : decode cX1_net 130 = .ok (.iload 6, 2) := dk_21 6 (dk_at dksX1_net_5 13 rfl rfl)
theorem dX1_net_132 : decode cX1_net 132 = .ok (.bipush (-9), 2) := dk_16 247 (dk_at dksX1_net_5 15 rfl rfl)
theorem dX1_net_134 : decode cX1_net 134 = .ok (.if_icmp .eq 9, 3) := dk_159 0 9 (dk_at dksX1_net_5 17 rfl rfl)
theorem dX1_net_137 : decode cX1_net 137 = .ok (.bipush (-100), 2) := dk_16 156 (dk_at dksX1_net_5 20 rfl rfl)
theorem dX1_net_139 : decode cX1_net 139 = .ok (.iload 6, 2) := dk_21 6 (dk_at dksX1_net_5 22 rfl rfl)
theorem dX1_net_141 : decode cX1_net 141 = .ok (.isub, 1) := dk_100 (dk_at dksX1_net_6 0 rfl rfl)
theorem dX1_net_142 : decode cX1_net 142 = .ok (.ireturn, 1) := dk_172 (dk_at dksX1_net_6 1 rfl rfl)
theorem dX1_net_143 : decode cX1_net 143 = .ok (.aload_n 0, 1) := dk_42 (dk_at dksX1_net_6 2 rfl rfl)
theorem dX1_net_144 : decode cX1_net 144 = .ok (.aload_n 0, 1) := dk_42 (dk_at dksX1_net_6 3 rfl rfl)
theorem dX1_net_145 : decode cX1_net 145 = .ok (.getfield 100, 3) := dk_180 0 100 (dk_at dksX1_net_6 4 rfl rfl)
theorem dX1_net_148 : decode cX1_net 148 = .ok (.putfield 82, 3) := dk_181 0 82 (dk_at dksX1_net_6 7 rfl rfl)
theorem dX1_net_151 : decode cX1_net 151 = .ok (.iconst 0, 1) := dk_3 (dk_at dksX1_net_6 10 rfl rfl)
theorem dX1_net_152 : decode cX1_net 152 = .ok (.istore 7, 2) := dk_54 7 (dk_at dksX1_net_6 11 rfl rfl)
theorem dX1_net_154 : decode cX1_net 154 = .ok (.iload 7, 2) := dk_21 7 (dk_at dksX1_net_6 13 rfl rfl)
theorem dX1_net_156 : decode cX1_net 156 = .ok (.aload_n 0, 1) := dk_42 (dk_at dksX1_net_6 15 rfl rfl)
theorem dX1_net_157 : decode cX1_net 157 = .ok (.getfield 100, 3) := dk_180 0 100 (dk_at dksX1_net_6 16 rfl rfl)
theorem dX1_net_160 : decode cX1_net 160 = .ok (.if_icmp .ge 23, 3) := dk_162 0 23 (dk_at dksX1_net_6 19 rfl rfl)
theorem dX1_net_163 : decode cX1_net 163 = .ok (.aload_n 0, 1) := dk_42 (dk_at dksX1_net_6 22 rfl rfl)
theorem dX1_net_164 : decode cX1_net 164 = .ok (.getfield 19, 3) := dk_180 0 19 (dk_at dksX1_net_7 0 rfl rfl)
theorem dX1_net_167 : decode cX1_net 167 = .ok (.iload 7, 2) := dk_21 7 (dk_at dksX1_net_7 3 rfl rfl)
theorem dX1_net_169 : decode cX1_net 169 = .ok (.aload_n 0, 1) := dk_42 (dk_at dksX1_net_7 5 rfl rfl)
theorem dX1_net_170 : decode cX1_net 170 = .ok (.getfield 22, 3) := dk_180 0 22 (dk_at dksX1_net_7 6 rfl rfl)
theorem dX1_net_173 : decode cX1_net 173 = .ok (.iload 7, 2) := dk_21 7 (dk_at dksX1_net_7 9 rfl rfl)
theorem dX1_net_175 : decode cX1_net 175 = .ok (.iaload, 1) := dk_46 (dk_at dksX1_net_7 11 rfl rfl)
theorem dX1_net_176 : decode cX1_net 176 = .ok (.iastore, 1) := dk_79 (dk_at dksX1_net_7 12 rfl rfl)
theorem dX1_net_177 : decode cX1_net 177 = .ok (.iinc 7 1, 3) := dk_132 7 1 (dk_at dksX1_net_7 13 rfl rfl)
theorem dX1_net_180 : decode cX1_net 180 = .ok (.goto (-26), 3) := dk_167 255 230 (dk_at dksX1_net_7 16 rfl rfl)
theorem dX1_net_183 : decode cX1_net 183 = .ok (.aload_n 0, 1) := dk_42 (dk_at dksX1_net_7 19 rfl rfl)
theorem dX1_net_184 : decode cX1_net 184 = .ok (.iconst 0, 1) := dk_3 (dk_at dksX1_net_7 20 rfl rfl)
theorem dX1_net_185 : decode cX1_net 185 = .ok (.putfield 103, 3) := dk_181 0 103 (dk_at dksX1_net_7 21 rfl rfl)
theorem dX1_net_188 : decode cX1_net 188 = .ok (.aload_n 0, 1) := dk_42 (dk_at dksX1_net_8 0 rfl rfl)
theorem dX1_net_189 : decode cX1_net 189 = .ok (.getfield 82, 3) := dk_180 0 82 (dk_at dksX1_net_8 1 rfl rfl)
theorem dX1_net_192 : decode cX1_net 192 = .ok (.ireturn, 1) := dk_172 (dk_at dksX1_net_8 4 rfl rfl)
abbrev cX1_isSheet : ByteArray := prog_16_method_8_code
def yX1_isSheet : MethodName := ⟨RX1, "isSheet", "(I)Z"⟩
def dkwX1_isSheet_0 : List UInt8 := [26, 3, 6, 184, 0, 78, 172]
abbrev dktX1_isSheet_0 : List UInt8 := dkwX1_isSheet_0 ++ []
theorem dksX1_isSheet_0 : cX1_isSheet.data.toList.drop 0 = dktX1_isSheet_0 := by decide +kernel
theorem dX1_isSheet_0 : decode cX1_isSheet 0 = .ok (.iload_n 0, 1) := dk_26 (dk_at dksX1_isSheet_0 0 rfl rfl)
theorem dX1_isSheet_1 : decode cX1_isSheet 1 = .ok (.iconst 0, 1) := dk_3 (dk_at dksX1_isSheet_0 1 rfl rfl)
theorem dX1_isSheet_2 : decode cX1_isSheet 2 = .ok (.iconst 3, 1) := dk_6 (dk_at dksX1_isSheet_0 2 rfl rfl)
theorem dX1_isSheet_3 : decode cX1_isSheet 3 = .ok (.invokestatic 78, 3) := dk_184 0 78 (dk_at dksX1_isSheet_0 3 rfl rfl)
theorem dX1_isSheet_6 : decode cX1_isSheet 6 = .ok (.ireturn, 1) := dk_172 (dk_at dksX1_isSheet_0 6 rfl rfl)
abbrev cX1_isIn : ByteArray := prog_16_method_5_code
def yX1_isIn : MethodName := ⟨RX1, "isIn", "(III)Z"⟩
def dkwX1_isIn_0 : List UInt8 := [26, 27, 161, 0, 12, 26, 28, 163, 0, 7, 4, 167, 0, 4, 3, 172]
abbrev dktX1_isIn_0 : List UInt8 := dkwX1_isIn_0 ++ []
theorem dksX1_isIn_0 : cX1_isIn.data.toList.drop 0 = dktX1_isIn_0 := by decide +kernel
theorem dX1_isIn_0 : decode cX1_isIn 0 = .ok (.iload_n 0, 1) := dk_26 (dk_at dksX1_isIn_0 0 rfl rfl)
theorem dX1_isIn_1 : decode cX1_isIn 1 = .ok (.iload_n 1, 1) := dk_27 (dk_at dksX1_isIn_0 1 rfl rfl)
theorem dX1_isIn_2 : decode cX1_isIn 2 = .ok (.if_icmp .lt 12, 3) := dk_161 0 12 (dk_at dksX1_isIn_0 2 rfl rfl)
theorem dX1_isIn_5 : decode cX1_isIn 5 = .ok (.iload_n 0, 1) := dk_26 (dk_at dksX1_isIn_0 5 rfl rfl)
theorem dX1_isIn_6 : decode cX1_isIn 6 = .ok (.iload_n 2, 1) := dk_28 (dk_at dksX1_isIn_0 6 rfl rfl)
theorem dX1_isIn_7 : decode cX1_isIn 7 = .ok (.if_icmp .gt 7, 3) := dk_163 0 7 (dk_at dksX1_isIn_0 7 rfl rfl)
theorem dX1_isIn_10 : decode cX1_isIn 10 = .ok (.iconst 1, 1) := dk_4 (dk_at dksX1_isIn_0 10 rfl rfl)
theorem dX1_isIn_11 : decode cX1_isIn 11 = .ok (.goto 4, 3) := dk_167 0 4 (dk_at dksX1_isIn_0 11 rfl rfl)
theorem dX1_isIn_14 : decode cX1_isIn 14 = .ok (.iconst 0, 1) := dk_3 (dk_at dksX1_isIn_0 14 rfl rfl)
theorem dX1_isIn_15 : decode cX1_isIn 15 = .ok (.ireturn, 1) := dk_172 (dk_at dksX1_isIn_0 15 rfl rfl)
abbrev cX1_isLane : ByteArray := prog_16_method_9_code
def yX1_isLane : MethodName := ⟨RX1, "isLane", "(I)Z"⟩
def dkwX1_isLane_0 : List UInt8 := [26, 3, 5, 184, 0, 78, 172]
abbrev dktX1_isLane_0 : List UInt8 := dkwX1_isLane_0 ++ []
theorem dksX1_isLane_0 : cX1_isLane.data.toList.drop 0 = dktX1_isLane_0 := by decide +kernel
theorem dX1_isLane_0 : decode cX1_isLane 0 = .ok (.iload_n 0, 1) := dk_26 (dk_at dksX1_isLane_0 0 rfl rfl)
theorem dX1_isLane_1 : decode cX1_isLane 1 = .ok (.iconst 0, 1) := dk_3 (dk_at dksX1_isLane_0 1 rfl rfl)
theorem dX1_isLane_2 : decode cX1_isLane 2 = .ok (.iconst 2, 1) := dk_5 (dk_at dksX1_isLane_0 2 rfl rfl)
theorem dX1_isLane_3 : decode cX1_isLane 3 = .ok (.invokestatic 78, 3) := dk_184 0 78 (dk_at dksX1_isLane_0 3 rfl rfl)
theorem dX1_isLane_6 : decode cX1_isLane 6 = .ok (.ireturn, 1) := dk_172 (dk_at dksX1_isLane_0 6 rfl rfl)
abbrev cX1_fails : ByteArray := prog_16_method_3_code
def yX1_fails : MethodName := ⟨RX1, "fails", "(I)I"⟩
def dkwX1_fails_0 : List UInt8 := [42, 27, 181, 0, 72, 16, 246, 27, 100, 172]
abbrev dktX1_fails_0 : List UInt8 := dkwX1_fails_0 ++ []
theorem dksX1_fails_0 : cX1_fails.data.toList.drop 0 = dktX1_fails_0 := by decide +kernel
theorem dX1_fails_0 : decode cX1_fails 0 = .ok (.aload_n 0, 1) := dk_42 (dk_at dksX1_fails_0 0 rfl rfl)
theorem dX1_fails_1 : decode cX1_fails 1 = .ok (.iload_n 1, 1) := dk_27 (dk_at dksX1_fails_0 1 rfl rfl)
theorem dX1_fails_2 : decode cX1_fails 2 = .ok (.putfield 72, 3) := dk_181 0 72 (dk_at dksX1_fails_0 2 rfl rfl)
theorem dX1_fails_5 : decode cX1_fails 5 = .ok (.bipush (-10), 2) := dk_16 246 (dk_at dksX1_fails_0 5 rfl rfl)
theorem dX1_fails_7 : decode cX1_fails 7 = .ok (.iload_n 1, 1) := dk_27 (dk_at dksX1_fails_0 7 rfl rfl)
theorem dX1_fails_8 : decode cX1_fails 8 = .ok (.isub, 1) := dk_100 (dk_at dksX1_fails_0 8 rfl rfl)
theorem dX1_fails_9 : decode cX1_fails 9 = .ok (.ireturn, 1) := dk_172 (dk_at dksX1_fails_0 9 rfl rfl)
abbrev cX1_readAll : ByteArray := prog_16_method_13_code
def yX1_readAll : MethodName := ⟨RX1, "readAll", "(II)I"⟩
def dkwX1_readAll_9 : List UInt8 := [180, 0, 100, 6, 184, 0, 78, 153, 0, 6, 21, 5, 172, 132, 5, 1, 167, 255, 217, 16, 247, 172]
abbrev dktX1_readAll_9 : List UInt8 := dkwX1_readAll_9 ++ []
def dkwX1_readAll_8 : List UInt8 := [21, 5, 28, 162, 0, 39, 42, 180, 0, 16, 27, 21, 5, 96, 46, 16, 48, 100, 54, 6, 21, 6, 42]
abbrev dktX1_readAll_8 : List UInt8 := dkwX1_readAll_8 ++ dktX1_readAll_9
def dkwX1_readAll_7 : List UInt8 := [160, 0, 5, 29, 172, 29, 21, 4, 153, 0, 7, 4, 167, 0, 4, 3, 96, 62, 167, 255, 87, 3, 54, 5]
abbrev dktX1_readAll_7 : List UInt8 := dkwX1_readAll_7 ++ dktX1_readAll_8
def dkwX1_readAll_6 : List UInt8 := [29, 28, 162, 0, 7, 4, 167, 0, 4, 3, 54, 4, 21, 4, 153, 0, 13, 42, 180, 0, 100, 7]
abbrev dktX1_readAll_6 : List UInt8 := dkwX1_readAll_6 ++ dktX1_readAll_7
def dkwX1_readAll_5 : List UInt8 := [167, 255, 182, 42, 180, 0, 22, 42, 180, 0, 100, 21, 5, 79, 42, 89, 180, 0, 100, 4, 96, 181, 0, 100]
abbrev dktX1_readAll_5 : List UInt8 := dkwX1_readAll_5 ++ dktX1_readAll_6
def dkwX1_readAll_4 : List UInt8 := [21, 6, 184, 0, 106, 153, 0, 5, 29, 172, 21, 5, 4, 21, 6, 120, 128, 54, 5, 132, 3, 1]
abbrev dktX1_readAll_4 : List UInt8 := dkwX1_readAll_4 ++ dktX1_readAll_5
def dkwX1_readAll_3 : List UInt8 := [54, 6, 21, 6, 3, 6, 184, 0, 78, 153, 0, 22, 21, 6, 42, 180, 0, 100, 159, 0, 13, 21, 5]
abbrev dktX1_readAll_3 : List UInt8 := dkwX1_readAll_3 ++ dktX1_readAll_4
def dkwX1_readAll_2 : List UInt8 := [180, 0, 16, 27, 29, 96, 46, 16, 59, 159, 0, 62, 42, 180, 0, 16, 27, 29, 96, 46, 16, 48, 100]
abbrev dktX1_readAll_2 : List UInt8 := dkwX1_readAll_2 ++ dktX1_readAll_3
def dkwX1_readAll_1 : List UInt8 := [27, 29, 96, 46, 16, 112, 159, 0, 5, 29, 172, 132, 3, 1, 3, 54, 5, 29, 28, 162, 0, 75, 42]
abbrev dktX1_readAll_1 : List UInt8 := dkwX1_readAll_1 ++ dktX1_readAll_2
def dkwX1_readAll_0 : List UInt8 := [42, 3, 181, 0, 100, 3, 62, 4, 54, 4, 21, 4, 153, 0, 170, 29, 28, 159, 0, 16, 42, 180, 0, 16]
abbrev dktX1_readAll_0 : List UInt8 := dkwX1_readAll_0 ++ dktX1_readAll_1
theorem dksX1_readAll_0 : cX1_readAll.data.toList.drop 0 = dktX1_readAll_0 := by decide +kernel
theorem dksX1_readAll_1 : cX1_readAll.data.toList.drop 24 = dktX1_readAll_1 := dk_seg dksX1_readAll_0 24 rfl rfl
theorem dksX1_readAll_2 : cX1_readAll.data.toList.drop 47 = dktX1_readAll_2 := dk_seg dksX1_readAll_1 23 rfl rfl
theorem dksX1_readAll_3 : cX1_readAll.data.toList.drop 70 = dktX1_readAll_3 := dk_seg dksX1_readAll_2 23 rfl rfl
theorem dksX1_readAll_4 : cX1_readAll.data.toList.drop 93 = dktX1_readAll_4 := dk_seg dksX1_readAll_3 23 rfl rfl
theorem dksX1_readAll_5 : cX1_readAll.data.toList.drop 115 = dktX1_readAll_5 := dk_seg dksX1_readAll_4 22 rfl rfl
theorem dksX1_readAll_6 : cX1_readAll.data.toList.drop 139 = dktX1_readAll_6 := dk_seg dksX1_readAll_5 24 rfl rfl
theorem dksX1_readAll_7 : cX1_readAll.data.toList.drop 161 = dktX1_readAll_7 := dk_seg dksX1_readAll_6 22 rfl rfl
theorem dksX1_readAll_8 : cX1_readAll.data.toList.drop 185 = dktX1_readAll_8 := dk_seg dksX1_readAll_7 24 rfl rfl
theorem dksX1_readAll_9 : cX1_readAll.data.toList.drop 208 = dktX1_readAll_9 := dk_seg dksX1_readAll_8 23 rfl rfl
theorem dX1_readAll_0 : decode cX1_readAll 0 = .ok (.aload_n 0, 1) := dk_42 (dk_at dksX1_readAll_0 0 rfl rfl)
theorem dX1_readAll_1 : decode cX1_readAll 1 = .ok (.iconst 0, 1) := dk_3 (dk_at dksX1_readAll_0 1 rfl rfl)
theorem dX1_readAll_2 : decode cX1_readAll 2 = .ok (.putfield 100, 3) := dk_181 0 100 (dk_at dksX1_readAll_0 2 rfl rfl)
theorem dX1_readAll_5 : decode cX1_readAll 5 = .ok (.iconst 0, 1) := dk_3 (dk_at dksX1_readAll_0 5 rfl rfl)
theorem dX1_readAll_6 : decode cX1_readAll 6 = .ok (.istore_n 3, 1) := dk_62 (dk_at dksX1_readAll_0 6 rfl rfl)
theorem dX1_readAll_7 : decode cX1_readAll 7 = .ok (.iconst 1, 1) := dk_4 (dk_at dksX1_readAll_0 7 rfl rfl)
theorem dX1_readAll_8 : decode cX1_readAll 8 = .ok (.istore 4, 2) := dk_54 4 (dk_at dksX1_readAll_0 8 rfl rfl)
theorem dX1_readAll_10 : decode cX1_readAll 10 = .ok (.iload 4, 2) := dk_21 4 (dk_at dksX1_readAll_0 10 rfl rfl)
theorem dX1_readAll_12 : decode cX1_readAll 12 = .ok (.ifCond .eq 170, 3) := dk_153 0 170 (dk_at dksX1_readAll_0 12 rfl rfl)
theorem dX1_readAll_15 : decode cX1_readAll 15 = .ok (.iload_n 3, 1) := dk_29 (dk_at dksX1_readAll_0 15 rfl rfl)
theorem dX1_readAll_16 : decode cX1_readAll 16 = .ok (.iload_n 2, 1) := dk_28 (dk_at dksX1_readAll_0 16 rfl rfl)
theorem dX1_readAll_17 : decode cX1_readAll 17 = .ok (.if_icmp .eq 16, 3) := dk_159 0 16 (dk_at dksX1_readAll_0 17 rfl rfl)
theorem dX1_readAll_20 : decode cX1_readAll 20 = .ok (.aload_n 0, 1) := dk_42 (dk_at dksX1_readAll_0 20 rfl rfl)
theorem dX1_readAll_21 : decode cX1_readAll 21 = .ok (.getfield 16, 3) := dk_180 0 16 (dk_at dksX1_readAll_0 21 rfl rfl)
theorem dX1_readAll_24 : decode cX1_readAll 24 = .ok (.iload_n 1, 1) := dk_27 (dk_at dksX1_readAll_1 0 rfl rfl)
theorem dX1_readAll_25 : decode cX1_readAll 25 = .ok (.iload_n 3, 1) := dk_29 (dk_at dksX1_readAll_1 1 rfl rfl)
theorem dX1_readAll_26 : decode cX1_readAll 26 = .ok (.iadd, 1) := dk_96 (dk_at dksX1_readAll_1 2 rfl rfl)
theorem dX1_readAll_27 : decode cX1_readAll 27 = .ok (.iaload, 1) := dk_46 (dk_at dksX1_readAll_1 3 rfl rfl)
theorem dX1_readAll_28 : decode cX1_readAll 28 = .ok (.bipush 112, 2) := dk_16 112 (dk_at dksX1_readAll_1 4 rfl rfl)
theorem dX1_readAll_30 : decode cX1_readAll 30 = .ok (.if_icmp .eq 5, 3) := dk_159 0 5 (dk_at dksX1_readAll_1 6 rfl rfl)
theorem dX1_readAll_33 : decode cX1_readAll 33 = .ok (.iload_n 3, 1) := dk_29 (dk_at dksX1_readAll_1 9 rfl rfl)
theorem dX1_readAll_34 : decode cX1_readAll 34 = .ok (.ireturn, 1) := dk_172 (dk_at dksX1_readAll_1 10 rfl rfl)
theorem dX1_readAll_35 : decode cX1_readAll 35 = .ok (.iinc 3 1, 3) := dk_132 3 1 (dk_at dksX1_readAll_1 11 rfl rfl)
theorem dX1_readAll_38 : decode cX1_readAll 38 = .ok (.iconst 0, 1) := dk_3 (dk_at dksX1_readAll_1 14 rfl rfl)
theorem dX1_readAll_39 : decode cX1_readAll 39 = .ok (.istore 5, 2) := dk_54 5 (dk_at dksX1_readAll_1 15 rfl rfl)
theorem dX1_readAll_41 : decode cX1_readAll 41 = .ok (.iload_n 3, 1) := dk_29 (dk_at dksX1_readAll_1 17 rfl rfl)
theorem dX1_readAll_42 : decode cX1_readAll 42 = .ok (.iload_n 2, 1) := dk_28 (dk_at dksX1_readAll_1 18 rfl rfl)
theorem dX1_readAll_43 : decode cX1_readAll 43 = .ok (.if_icmp .ge 75, 3) := dk_162 0 75 (dk_at dksX1_readAll_1 19 rfl rfl)
theorem dX1_readAll_46 : decode cX1_readAll 46 = .ok (.aload_n 0, 1) := dk_42 (dk_at dksX1_readAll_1 22 rfl rfl)
theorem dX1_readAll_47 : decode cX1_readAll 47 = .ok (.getfield 16, 3) := dk_180 0 16 (dk_at dksX1_readAll_2 0 rfl rfl)
theorem dX1_readAll_50 : decode cX1_readAll 50 = .ok (.iload_n 1, 1) := dk_27 (dk_at dksX1_readAll_2 3 rfl rfl)
theorem dX1_readAll_51 : decode cX1_readAll 51 = .ok (.iload_n 3, 1) := dk_29 (dk_at dksX1_readAll_2 4 rfl rfl)
theorem dX1_readAll_52 : decode cX1_readAll 52 = .ok (.iadd, 1) := dk_96 (dk_at dksX1_readAll_2 5 rfl rfl)
theorem dX1_readAll_53 : decode cX1_readAll 53 = .ok (.iaload, 1) := dk_46 (dk_at dksX1_readAll_2 6 rfl rfl)
theorem dX1_readAll_54 : decode cX1_readAll 54 = .ok (.bipush 59, 2) := dk_16 59 (dk_at dksX1_readAll_2 7 rfl rfl)
theorem dX1_readAll_56 : decode cX1_readAll 56 = .ok (.if_icmp .eq 62, 3) := dk_159 0 62 (dk_at dksX1_readAll_2 9 rfl rfl)
theorem dX1_readAll_59 : decode cX1_readAll 59 = .ok (.aload_n 0, 1) := dk_42 (dk_at dksX1_readAll_2 12 rfl rfl)
theorem dX1_readAll_60 : decode cX1_readAll 60 = .ok (.getfield 16, 3) := dk_180 0 16 (dk_at dksX1_readAll_2 13 rfl rfl)
theorem dX1_readAll_63 : decode cX1_readAll 63 = .ok (.iload_n 1, 1) := dk_27 (dk_at dksX1_readAll_2 16 rfl rfl)
theorem dX1_readAll_64 : decode cX1_readAll 64 = .ok (.iload_n 3, 1) := dk_29 (dk_at dksX1_readAll_2 17 rfl rfl)
theorem dX1_readAll_65 : decode cX1_readAll 65 = .ok (.iadd, 1) := dk_96 (dk_at dksX1_readAll_2 18 rfl rfl)
theorem dX1_readAll_66 : decode cX1_readAll 66 = .ok (.iaload, 1) := dk_46 (dk_at dksX1_readAll_2 19 rfl rfl)
theorem dX1_readAll_67 : decode cX1_readAll 67 = .ok (.bipush 48, 2) := dk_16 48 (dk_at dksX1_readAll_2 20 rfl rfl)
theorem dX1_readAll_69 : decode cX1_readAll 69 = .ok (.isub, 1) := dk_100 (dk_at dksX1_readAll_2 22 rfl rfl)
theorem dX1_readAll_70 : decode cX1_readAll 70 = .ok (.istore 6, 2) := dk_54 6 (dk_at dksX1_readAll_3 0 rfl rfl)
theorem dX1_readAll_72 : decode cX1_readAll 72 = .ok (.iload 6, 2) := dk_21 6 (dk_at dksX1_readAll_3 2 rfl rfl)
theorem dX1_readAll_74 : decode cX1_readAll 74 = .ok (.iconst 0, 1) := dk_3 (dk_at dksX1_readAll_3 4 rfl rfl)
theorem dX1_readAll_75 : decode cX1_readAll 75 = .ok (.iconst 3, 1) := dk_6 (dk_at dksX1_readAll_3 5 rfl rfl)
theorem dX1_readAll_76 : decode cX1_readAll 76 = .ok (.invokestatic 78, 3) := dk_184 0 78 (dk_at dksX1_readAll_3 6 rfl rfl)
theorem dX1_readAll_79 : decode cX1_readAll 79 = .ok (.ifCond .eq 22, 3) := dk_153 0 22 (dk_at dksX1_readAll_3 9 rfl rfl)
theorem dX1_readAll_82 : decode cX1_readAll 82 = .ok (.iload 6, 2) := dk_21 6 (dk_at dksX1_readAll_3 12 rfl rfl)
theorem dX1_readAll_84 : decode cX1_readAll 84 = .ok (.aload_n 0, 1) := dk_42 (dk_at dksX1_readAll_3 14 rfl rfl)
theorem dX1_readAll_85 : decode cX1_readAll 85 = .ok (.getfield 100, 3) := dk_180 0 100 (dk_at dksX1_readAll_3 15 rfl rfl)
theorem dX1_readAll_88 : decode cX1_readAll 88 = .ok (.if_icmp .eq 13, 3) := dk_159 0 13 (dk_at dksX1_readAll_3 18 rfl rfl)
theorem dX1_readAll_91 : decode cX1_readAll 91 = .ok (.iload 5, 2) := dk_21 5 (dk_at dksX1_readAll_3 21 rfl rfl)
theorem dX1_readAll_93 : decode cX1_readAll 93 = .ok (.iload 6, 2) := dk_21 6 (dk_at dksX1_readAll_4 0 rfl rfl)
theorem dX1_readAll_95 : decode cX1_readAll 95 = .ok (.invokestatic 106, 3) := dk_184 0 106 (dk_at dksX1_readAll_4 2 rfl rfl)
theorem dX1_readAll_98 : decode cX1_readAll 98 = .ok (.ifCond .eq 5, 3) := dk_153 0 5 (dk_at dksX1_readAll_4 5 rfl rfl)
theorem dX1_readAll_101 : decode cX1_readAll 101 = .ok (.iload_n 3, 1) := dk_29 (dk_at dksX1_readAll_4 8 rfl rfl)
theorem dX1_readAll_102 : decode cX1_readAll 102 = .ok (.ireturn, 1) := dk_172 (dk_at dksX1_readAll_4 9 rfl rfl)
theorem dX1_readAll_103 : decode cX1_readAll 103 = .ok (.iload 5, 2) := dk_21 5 (dk_at dksX1_readAll_4 10 rfl rfl)
theorem dX1_readAll_105 : decode cX1_readAll 105 = .ok (.iconst 1, 1) := dk_4 (dk_at dksX1_readAll_4 12 rfl rfl)
theorem dX1_readAll_106 : decode cX1_readAll 106 = .ok (.iload 6, 2) := dk_21 6 (dk_at dksX1_readAll_4 13 rfl rfl)
theorem dX1_readAll_108 : decode cX1_readAll 108 = .ok (.ishl, 1) := dk_120 (dk_at dksX1_readAll_4 15 rfl rfl)
theorem dX1_readAll_109 : decode cX1_readAll 109 = .ok (.ior, 1) := dk_128 (dk_at dksX1_readAll_4 16 rfl rfl)
theorem dX1_readAll_110 : decode cX1_readAll 110 = .ok (.istore 5, 2) := dk_54 5 (dk_at dksX1_readAll_4 17 rfl rfl)
theorem dX1_readAll_112 : decode cX1_readAll 112 = .ok (.iinc 3 1, 3) := dk_132 3 1 (dk_at dksX1_readAll_4 19 rfl rfl)
theorem dX1_readAll_115 : decode cX1_readAll 115 = .ok (.goto (-74), 3) := dk_167 255 182 (dk_at dksX1_readAll_5 0 rfl rfl)
theorem dX1_readAll_118 : decode cX1_readAll 118 = .ok (.aload_n 0, 1) := dk_42 (dk_at dksX1_readAll_5 3 rfl rfl)
theorem dX1_readAll_119 : decode cX1_readAll 119 = .ok (.getfield 22, 3) := dk_180 0 22 (dk_at dksX1_readAll_5 4 rfl rfl)
theorem dX1_readAll_122 : decode cX1_readAll 122 = .ok (.aload_n 0, 1) := dk_42 (dk_at dksX1_readAll_5 7 rfl rfl)
theorem dX1_readAll_123 : decode cX1_readAll 123 = .ok (.getfield 100, 3) := dk_180 0 100 (dk_at dksX1_readAll_5 8 rfl rfl)
theorem dX1_readAll_126 : decode cX1_readAll 126 = .ok (.iload 5, 2) := dk_21 5 (dk_at dksX1_readAll_5 11 rfl rfl)
theorem dX1_readAll_128 : decode cX1_readAll 128 = .ok (.iastore, 1) := dk_79 (dk_at dksX1_readAll_5 13 rfl rfl)
theorem dX1_readAll_129 : decode cX1_readAll 129 = .ok (.aload_n 0, 1) := dk_42 (dk_at dksX1_readAll_5 14 rfl rfl)
theorem dX1_readAll_130 : decode cX1_readAll 130 = .ok (.dup, 1) := dk_89 (dk_at dksX1_readAll_5 15 rfl rfl)
theorem dX1_readAll_131 : decode cX1_readAll 131 = .ok (.getfield 100, 3) := dk_180 0 100 (dk_at dksX1_readAll_5 16 rfl rfl)
theorem dX1_readAll_134 : decode cX1_readAll 134 = .ok (.iconst 1, 1) := dk_4 (dk_at dksX1_readAll_5 19 rfl rfl)
theorem dX1_readAll_135 : decode cX1_readAll 135 = .ok (.iadd, 1) := dk_96 (dk_at dksX1_readAll_5 20 rfl rfl)
theorem dX1_readAll_136 : decode cX1_readAll 136 = .ok (.putfield 100, 3) := dk_181 0 100 (dk_at dksX1_readAll_5 21 rfl rfl)
theorem dX1_readAll_139 : decode cX1_readAll 139 = .ok (.iload_n 3, 1) := dk_29 (dk_at dksX1_readAll_6 0 rfl rfl)
theorem dX1_readAll_140 : decode cX1_readAll 140 = .ok (.iload_n 2, 1) := dk_28 (dk_at dksX1_readAll_6 1 rfl rfl)
theorem dX1_readAll_141 : decode cX1_readAll 141 = .ok (.if_icmp .ge 7, 3) := dk_162 0 7 (dk_at dksX1_readAll_6 2 rfl rfl)
theorem dX1_readAll_144 : decode cX1_readAll 144 = .ok (.iconst 1, 1) := dk_4 (dk_at dksX1_readAll_6 5 rfl rfl)
theorem dX1_readAll_145 : decode cX1_readAll 145 = .ok (.goto 4, 3) := dk_167 0 4 (dk_at dksX1_readAll_6 6 rfl rfl)
theorem dX1_readAll_148 : decode cX1_readAll 148 = .ok (.iconst 0, 1) := dk_3 (dk_at dksX1_readAll_6 9 rfl rfl)
theorem dX1_readAll_149 : decode cX1_readAll 149 = .ok (.istore 4, 2) := dk_54 4 (dk_at dksX1_readAll_6 10 rfl rfl)
theorem dX1_readAll_151 : decode cX1_readAll 151 = .ok (.iload 4, 2) := dk_21 4 (dk_at dksX1_readAll_6 12 rfl rfl)
theorem dX1_readAll_153 : decode cX1_readAll 153 = .ok (.ifCond .eq 13, 3) := dk_153 0 13 (dk_at dksX1_readAll_6 14 rfl rfl)
theorem dX1_readAll_156 : decode cX1_readAll 156 = .ok (.aload_n 0, 1) := dk_42 (dk_at dksX1_readAll_6 17 rfl rfl)
theorem dX1_readAll_157 : decode cX1_readAll 157 = .ok (.getfield 100, 3) := dk_180 0 100 (dk_at dksX1_readAll_6 18 rfl rfl)
theorem dX1_readAll_160 : decode cX1_readAll 160 = .ok (.iconst 4, 1) := dk_7 (dk_at dksX1_readAll_6 21 rfl rfl)
theorem dX1_readAll_161 : decode cX1_readAll 161 = .ok (.if_icmp .ne 5, 3) := dk_160 0 5 (dk_at dksX1_readAll_7 0 rfl rfl)
theorem dX1_readAll_164 : decode cX1_readAll 164 = .ok (.iload_n 3, 1) := dk_29 (dk_at dksX1_readAll_7 3 rfl rfl)
theorem dX1_readAll_165 : decode cX1_readAll 165 = .ok (.ireturn, 1) := dk_172 (dk_at dksX1_readAll_7 4 rfl rfl)
theorem dX1_readAll_166 : decode cX1_readAll 166 = .ok (.iload_n 3, 1) := dk_29 (dk_at dksX1_readAll_7 5 rfl rfl)
theorem dX1_readAll_167 : decode cX1_readAll 167 = .ok (.iload 4, 2) := dk_21 4 (dk_at dksX1_readAll_7 6 rfl rfl)
theorem dX1_readAll_169 : decode cX1_readAll 169 = .ok (.ifCond .eq 7, 3) := dk_153 0 7 (dk_at dksX1_readAll_7 8 rfl rfl)
theorem dX1_readAll_172 : decode cX1_readAll 172 = .ok (.iconst 1, 1) := dk_4 (dk_at dksX1_readAll_7 11 rfl rfl)
theorem dX1_readAll_173 : decode cX1_readAll 173 = .ok (.goto 4, 3) := dk_167 0 4 (dk_at dksX1_readAll_7 12 rfl rfl)
theorem dX1_readAll_176 : decode cX1_readAll 176 = .ok (.iconst 0, 1) := dk_3 (dk_at dksX1_readAll_7 15 rfl rfl)
theorem dX1_readAll_177 : decode cX1_readAll 177 = .ok (.iadd, 1) := dk_96 (dk_at dksX1_readAll_7 16 rfl rfl)
theorem dX1_readAll_178 : decode cX1_readAll 178 = .ok (.istore_n 3, 1) := dk_62 (dk_at dksX1_readAll_7 17 rfl rfl)
theorem dX1_readAll_179 : decode cX1_readAll 179 = .ok (.goto (-169), 3) := dk_167 255 87 (dk_at dksX1_readAll_7 18 rfl rfl)
theorem dX1_readAll_182 : decode cX1_readAll 182 = .ok (.iconst 0, 1) := dk_3 (dk_at dksX1_readAll_7 21 rfl rfl)
theorem dX1_readAll_183 : decode cX1_readAll 183 = .ok (.istore 5, 2) := dk_54 5 (dk_at dksX1_readAll_7 22 rfl rfl)
theorem dX1_readAll_185 : decode cX1_readAll 185 = .ok (.iload 5, 2) := dk_21 5 (dk_at dksX1_readAll_8 0 rfl rfl)
theorem dX1_readAll_187 : decode cX1_readAll 187 = .ok (.iload_n 2, 1) := dk_28 (dk_at dksX1_readAll_8 2 rfl rfl)
theorem dX1_readAll_188 : decode cX1_readAll 188 = .ok (.if_icmp .ge 39, 3) := dk_162 0 39 (dk_at dksX1_readAll_8 3 rfl rfl)
theorem dX1_readAll_191 : decode cX1_readAll 191 = .ok (.aload_n 0, 1) := dk_42 (dk_at dksX1_readAll_8 6 rfl rfl)
theorem dX1_readAll_192 : decode cX1_readAll 192 = .ok (.getfield 16, 3) := dk_180 0 16 (dk_at dksX1_readAll_8 7 rfl rfl)
theorem dX1_readAll_195 : decode cX1_readAll 195 = .ok (.iload_n 1, 1) := dk_27 (dk_at dksX1_readAll_8 10 rfl rfl)
theorem dX1_readAll_196 : decode cX1_readAll 196 = .ok (.iload 5, 2) := dk_21 5 (dk_at dksX1_readAll_8 11 rfl rfl)
theorem dX1_readAll_198 : decode cX1_readAll 198 = .ok (.iadd, 1) := dk_96 (dk_at dksX1_readAll_8 13 rfl rfl)
theorem dX1_readAll_199 : decode cX1_readAll 199 = .ok (.iaload, 1) := dk_46 (dk_at dksX1_readAll_8 14 rfl rfl)
theorem dX1_readAll_200 : decode cX1_readAll 200 = .ok (.bipush 48, 2) := dk_16 48 (dk_at dksX1_readAll_8 15 rfl rfl)
theorem dX1_readAll_202 : decode cX1_readAll 202 = .ok (.isub, 1) := dk_100 (dk_at dksX1_readAll_8 17 rfl rfl)
theorem dX1_readAll_203 : decode cX1_readAll 203 = .ok (.istore 6, 2) := dk_54 6 (dk_at dksX1_readAll_8 18 rfl rfl)
theorem dX1_readAll_205 : decode cX1_readAll 205 = .ok (.iload 6, 2) := dk_21 6 (dk_at dksX1_readAll_8 20 rfl rfl)
theorem dX1_readAll_207 : decode cX1_readAll 207 = .ok (.aload_n 0, 1) := dk_42 (dk_at dksX1_readAll_8 22 rfl rfl)
theorem dX1_readAll_208 : decode cX1_readAll 208 = .ok (.getfield 100, 3) := dk_180 0 100 (dk_at dksX1_readAll_9 0 rfl rfl)
theorem dX1_readAll_211 : decode cX1_readAll 211 = .ok (.iconst 3, 1) := dk_6 (dk_at dksX1_readAll_9 3 rfl rfl)
theorem dX1_readAll_212 : decode cX1_readAll 212 = .ok (.invokestatic 78, 3) := dk_184 0 78 (dk_at dksX1_readAll_9 4 rfl rfl)
theorem dX1_readAll_215 : decode cX1_readAll 215 = .ok (.ifCond .eq 6, 3) := dk_153 0 6 (dk_at dksX1_readAll_9 7 rfl rfl)
theorem dX1_readAll_218 : decode cX1_readAll 218 = .ok (.iload 5, 2) := dk_21 5 (dk_at dksX1_readAll_9 10 rfl rfl)
theorem dX1_readAll_220 : decode cX1_readAll 220 = .ok (.ireturn, 1) := dk_172 (dk_at dksX1_readAll_9 12 rfl rfl)
theorem dX1_readAll_221 : decode cX1_readAll 221 = .ok (.iinc 5 1, 3) := dk_132 5 1 (dk_at dksX1_readAll_9 13 rfl rfl)
theorem dX1_readAll_224 : decode cX1_readAll 224 = .ok (.goto (-39), 3) := dk_167 255 217 (dk_at dksX1_readAll_9 16 rfl rfl)
theorem dX1_readAll_227 : decode cX1_readAll 227 = .ok (.bipush (-9), 2) := dk_16 247 (dk_at dksX1_readAll_9 19 rfl rfl)
theorem dX1_readAll_229 : decode cX1_readAll 229 = .ok (.ireturn, 1) := dk_172 (dk_at dksX1_readAll_9 21 rfl rfl)
abbrev cX1_has : ByteArray := prog_16_method_6_code
def yX1_has : MethodName := ⟨RX1, "has", "(II)Z"⟩
def dkwX1_has_0 : List UInt8 := [26, 27, 122, 4, 126, 4, 160, 0, 7, 4, 167, 0, 4, 3, 172]
abbrev dktX1_has_0 : List UInt8 := dkwX1_has_0 ++ []
theorem dksX1_has_0 : cX1_has.data.toList.drop 0 = dktX1_has_0 := by decide +kernel
theorem dX1_has_0 : decode cX1_has 0 = .ok (.iload_n 0, 1) := dk_26 (dk_at dksX1_has_0 0 rfl rfl)
theorem dX1_has_1 : decode cX1_has 1 = .ok (.iload_n 1, 1) := dk_27 (dk_at dksX1_has_0 1 rfl rfl)
theorem dX1_has_2 : decode cX1_has 2 = .ok (.ishr, 1) := dk_122 (dk_at dksX1_has_0 2 rfl rfl)
theorem dX1_has_3 : decode cX1_has 3 = .ok (.iconst 1, 1) := dk_4 (dk_at dksX1_has_0 3 rfl rfl)
theorem dX1_has_4 : decode cX1_has 4 = .ok (.iand, 1) := dk_126 (dk_at dksX1_has_0 4 rfl rfl)
theorem dX1_has_5 : decode cX1_has 5 = .ok (.iconst 1, 1) := dk_4 (dk_at dksX1_has_0 5 rfl rfl)
theorem dX1_has_6 : decode cX1_has 6 = .ok (.if_icmp .ne 7, 3) := dk_160 0 7 (dk_at dksX1_has_0 6 rfl rfl)
theorem dX1_has_9 : decode cX1_has 9 = .ok (.iconst 1, 1) := dk_4 (dk_at dksX1_has_0 9 rfl rfl)
theorem dX1_has_10 : decode cX1_has 10 = .ok (.goto 4, 3) := dk_167 0 4 (dk_at dksX1_has_0 10 rfl rfl)
theorem dX1_has_13 : decode cX1_has 13 = .ok (.iconst 0, 1) := dk_3 (dk_at dksX1_has_0 13 rfl rfl)
theorem dX1_has_14 : decode cX1_has 14 = .ok (.ireturn, 1) := dk_172 (dk_at dksX1_has_0 14 rfl rfl)
abbrev cX1_ofPerson : ByteArray := prog_16_method_22_code
def yX1_ofPerson : MethodName := ⟨RX1, "ofPerson", "(II)I"⟩
def dkwX1_ofPerson_4 : List UInt8 := [172, 42, 5, 182, 0, 135, 27, 122, 4, 126, 172, 42, 6, 182, 0, 135, 27, 122, 4, 126, 172, 16, 254, 172]
abbrev dktX1_ofPerson_4 : List UInt8 := dkwX1_ofPerson_4 ++ []
def dkwX1_ofPerson_3 : List UInt8 := [120, 128, 172, 29, 27, 184, 0, 110, 4, 42, 180, 0, 82, 120, 4, 100, 160, 0, 7, 4, 167, 0, 4, 3]
abbrev dktX1_ofPerson_3 : List UInt8 := dkwX1_ofPerson_3 ++ dktX1_ofPerson_4
def dkwX1_ofPerson_2 : List UInt8 := [29, 27, 184, 0, 110, 172, 42, 180, 0, 19, 29, 27, 184, 0, 131, 172, 42, 180, 0, 19, 27, 46, 4, 27]
abbrev dktX1_ofPerson_2 : List UInt8 := dkwX1_ofPerson_2 ++ dktX1_ofPerson_3
def dkwX1_ofPerson_1 : List UInt8 := [170, 0, 0, 0, 0, 0, 0, 109, 0, 0, 0, 0, 0, 0, 0, 5, 0, 0, 0, 40, 0, 0, 0, 46, 0, 0, 0, 56, 0, 0, 0, 67, 0, 0, 0, 89, 0, 0, 0, 99]
abbrev dktX1_ofPerson_1 : List UInt8 := dkwX1_ofPerson_1 ++ dktX1_ofPerson_2
def dkwX1_ofPerson_0 : List UInt8 := [42, 27, 182, 0, 125, 154, 0, 5, 2, 172, 42, 42, 180, 0, 103, 182, 0, 128, 62, 28]
abbrev dktX1_ofPerson_0 : List UInt8 := dkwX1_ofPerson_0 ++ dktX1_ofPerson_1
theorem dksX1_ofPerson_0 : cX1_ofPerson.data.toList.drop 0 = dktX1_ofPerson_0 := by decide +kernel
theorem dksX1_ofPerson_1 : cX1_ofPerson.data.toList.drop 20 = dktX1_ofPerson_1 := dk_seg dksX1_ofPerson_0 20 rfl rfl
theorem dksX1_ofPerson_2 : cX1_ofPerson.data.toList.drop 60 = dktX1_ofPerson_2 := dk_seg dksX1_ofPerson_1 40 rfl rfl
theorem dksX1_ofPerson_3 : cX1_ofPerson.data.toList.drop 84 = dktX1_ofPerson_3 := dk_seg dksX1_ofPerson_2 24 rfl rfl
theorem dksX1_ofPerson_4 : cX1_ofPerson.data.toList.drop 108 = dktX1_ofPerson_4 := dk_seg dksX1_ofPerson_3 24 rfl rfl
theorem dX1_ofPerson_0 : decode cX1_ofPerson 0 = .ok (.aload_n 0, 1) := dk_42 (dk_at dksX1_ofPerson_0 0 rfl rfl)
theorem dX1_ofPerson_1 : decode cX1_ofPerson 1 = .ok (.iload_n 1, 1) := dk_27 (dk_at dksX1_ofPerson_0 1 rfl rfl)
theorem dX1_ofPerson_2 : decode cX1_ofPerson 2 = .ok (.invokevirtual 125, 3) := dk_182 0 125 (dk_at dksX1_ofPerson_0 2 rfl rfl)
theorem dX1_ofPerson_5 : decode cX1_ofPerson 5 = .ok (.ifCond .ne 5, 3) := dk_154 0 5 (dk_at dksX1_ofPerson_0 5 rfl rfl)
theorem dX1_ofPerson_8 : decode cX1_ofPerson 8 = .ok (.iconst (-1), 1) := dk_2 (dk_at dksX1_ofPerson_0 8 rfl rfl)
theorem dX1_ofPerson_9 : decode cX1_ofPerson 9 = .ok (.ireturn, 1) := dk_172 (dk_at dksX1_ofPerson_0 9 rfl rfl)
theorem dX1_ofPerson_10 : decode cX1_ofPerson 10 = .ok (.aload_n 0, 1) := dk_42 (dk_at dksX1_ofPerson_0 10 rfl rfl)
theorem dX1_ofPerson_11 : decode cX1_ofPerson 11 = .ok (.aload_n 0, 1) := dk_42 (dk_at dksX1_ofPerson_0 11 rfl rfl)
theorem dX1_ofPerson_12 : decode cX1_ofPerson 12 = .ok (.getfield 103, 3) := dk_180 0 103 (dk_at dksX1_ofPerson_0 12 rfl rfl)
theorem dX1_ofPerson_15 : decode cX1_ofPerson 15 = .ok (.invokevirtual 128, 3) := dk_182 0 128 (dk_at dksX1_ofPerson_0 15 rfl rfl)
theorem dX1_ofPerson_18 : decode cX1_ofPerson 18 = .ok (.istore_n 3, 1) := dk_62 (dk_at dksX1_ofPerson_0 18 rfl rfl)
theorem dX1_ofPerson_19 : decode cX1_ofPerson 19 = .ok (.iload_n 2, 1) := dk_28 (dk_at dksX1_ofPerson_0 19 rfl rfl)
theorem dX1_ofPerson_20 : decode cX1_ofPerson 20 = .ok (.tableswitch 109 0 5 #[40, 46, 56, 67, 89, 99], 40) := by decide +kernel
theorem dX1_ofPerson_60 : decode cX1_ofPerson 60 = .ok (.iload_n 3, 1) := dk_29 (dk_at dksX1_ofPerson_2 0 rfl rfl)
theorem dX1_ofPerson_61 : decode cX1_ofPerson 61 = .ok (.iload_n 1, 1) := dk_27 (dk_at dksX1_ofPerson_2 1 rfl rfl)
theorem dX1_ofPerson_62 : decode cX1_ofPerson 62 = .ok (.invokestatic 110, 3) := dk_184 0 110 (dk_at dksX1_ofPerson_2 2 rfl rfl)
theorem dX1_ofPerson_65 : decode cX1_ofPerson 65 = .ok (.ireturn, 1) := dk_172 (dk_at dksX1_ofPerson_2 5 rfl rfl)
theorem dX1_ofPerson_66 : decode cX1_ofPerson 66 = .ok (.aload_n 0, 1) := dk_42 (dk_at dksX1_ofPerson_2 6 rfl rfl)
theorem dX1_ofPerson_67 : decode cX1_ofPerson 67 = .ok (.getfield 19, 3) := dk_180 0 19 (dk_at dksX1_ofPerson_2 7 rfl rfl)
theorem dX1_ofPerson_70 : decode cX1_ofPerson 70 = .ok (.iload_n 3, 1) := dk_29 (dk_at dksX1_ofPerson_2 10 rfl rfl)
theorem dX1_ofPerson_71 : decode cX1_ofPerson 71 = .ok (.iload_n 1, 1) := dk_27 (dk_at dksX1_ofPerson_2 11 rfl rfl)
theorem dX1_ofPerson_72 : decode cX1_ofPerson 72 = .ok (.invokestatic 131, 3) := dk_184 0 131 (dk_at dksX1_ofPerson_2 12 rfl rfl)
theorem dX1_ofPerson_75 : decode cX1_ofPerson 75 = .ok (.ireturn, 1) := dk_172 (dk_at dksX1_ofPerson_2 15 rfl rfl)
theorem dX1_ofPerson_76 : decode cX1_ofPerson 76 = .ok (.aload_n 0, 1) := dk_42 (dk_at dksX1_ofPerson_2 16 rfl rfl)
theorem dX1_ofPerson_77 : decode cX1_ofPerson 77 = .ok (.getfield 19, 3) := dk_180 0 19 (dk_at dksX1_ofPerson_2 17 rfl rfl)
theorem dX1_ofPerson_80 : decode cX1_ofPerson 80 = .ok (.iload_n 1, 1) := dk_27 (dk_at dksX1_ofPerson_2 20 rfl rfl)
theorem dX1_ofPerson_81 : decode cX1_ofPerson 81 = .ok (.iaload, 1) := dk_46 (dk_at dksX1_ofPerson_2 21 rfl rfl)
theorem dX1_ofPerson_82 : decode cX1_ofPerson 82 = .ok (.iconst 1, 1) := dk_4 (dk_at dksX1_ofPerson_2 22 rfl rfl)
theorem dX1_ofPerson_83 : decode cX1_ofPerson 83 = .ok (.iload_n 1, 1) := dk_27 (dk_at dksX1_ofPerson_2 23 rfl rfl)
theorem dX1_ofPerson_84 : decode cX1_ofPerson 84 = .ok (.ishl, 1) := dk_120 (dk_at dksX1_ofPerson_3 0 rfl rfl)
theorem dX1_ofPerson_85 : decode cX1_ofPerson 85 = .ok (.ior, 1) := dk_128 (dk_at dksX1_ofPerson_3 1 rfl rfl)
theorem dX1_ofPerson_86 : decode cX1_ofPerson 86 = .ok (.ireturn, 1) := dk_172 (dk_at dksX1_ofPerson_3 2 rfl rfl)
theorem dX1_ofPerson_87 : decode cX1_ofPerson 87 = .ok (.iload_n 3, 1) := dk_29 (dk_at dksX1_ofPerson_3 3 rfl rfl)
theorem dX1_ofPerson_88 : decode cX1_ofPerson 88 = .ok (.iload_n 1, 1) := dk_27 (dk_at dksX1_ofPerson_3 4 rfl rfl)
theorem dX1_ofPerson_89 : decode cX1_ofPerson 89 = .ok (.invokestatic 110, 3) := dk_184 0 110 (dk_at dksX1_ofPerson_3 5 rfl rfl)
theorem dX1_ofPerson_92 : decode cX1_ofPerson 92 = .ok (.iconst 1, 1) := dk_4 (dk_at dksX1_ofPerson_3 8 rfl rfl)
theorem dX1_ofPerson_93 : decode cX1_ofPerson 93 = .ok (.aload_n 0, 1) := dk_42 (dk_at dksX1_ofPerson_3 9 rfl rfl)
theorem dX1_ofPerson_94 : decode cX1_ofPerson 94 = .ok (.getfield 82, 3) := dk_180 0 82 (dk_at dksX1_ofPerson_3 10 rfl rfl)
theorem dX1_ofPerson_97 : decode cX1_ofPerson 97 = .ok (.ishl, 1) := dk_120 (dk_at dksX1_ofPerson_3 13 rfl rfl)
theorem dX1_ofPerson_98 : decode cX1_ofPerson 98 = .ok (.iconst 1, 1) := dk_4 (dk_at dksX1_ofPerson_3 14 rfl rfl)
theorem dX1_ofPerson_99 : decode cX1_ofPerson 99 = .ok (.isub, 1) := dk_100 (dk_at dksX1_ofPerson_3 15 rfl rfl)
theorem dX1_ofPerson_100 : decode cX1_ofPerson 100 = .ok (.if_icmp .ne 7, 3) := dk_160 0 7 (dk_at dksX1_ofPerson_3 16 rfl rfl)
theorem dX1_ofPerson_103 : decode cX1_ofPerson 103 = .ok (.iconst 1, 1) := dk_4 (dk_at dksX1_ofPerson_3 19 rfl rfl)
theorem dX1_ofPerson_104 : decode cX1_ofPerson 104 = .ok (.goto 4, 3) := dk_167 0 4 (dk_at dksX1_ofPerson_3 20 rfl rfl)
theorem dX1_ofPerson_107 : decode cX1_ofPerson 107 = .ok (.iconst 0, 1) := dk_3 (dk_at dksX1_ofPerson_3 23 rfl rfl)
theorem dX1_ofPerson_108 : decode cX1_ofPerson 108 = .ok (.ireturn, 1) := dk_172 (dk_at dksX1_ofPerson_4 0 rfl rfl)
theorem dX1_ofPerson_109 : decode cX1_ofPerson 109 = .ok (.aload_n 0, 1) := dk_42 (dk_at dksX1_ofPerson_4 1 rfl rfl)
theorem dX1_ofPerson_110 : decode cX1_ofPerson 110 = .ok (.iconst 2, 1) := dk_5 (dk_at dksX1_ofPerson_4 2 rfl rfl)
theorem dX1_ofPerson_111 : decode cX1_ofPerson 111 = .ok (.invokevirtual 135, 3) := dk_182 0 135 (dk_at dksX1_ofPerson_4 3 rfl rfl)
theorem dX1_ofPerson_114 : decode cX1_ofPerson 114 = .ok (.iload_n 1, 1) := dk_27 (dk_at dksX1_ofPerson_4 6 rfl rfl)
theorem dX1_ofPerson_115 : decode cX1_ofPerson 115 = .ok (.ishr, 1) := dk_122 (dk_at dksX1_ofPerson_4 7 rfl rfl)
theorem dX1_ofPerson_116 : decode cX1_ofPerson 116 = .ok (.iconst 1, 1) := dk_4 (dk_at dksX1_ofPerson_4 8 rfl rfl)
theorem dX1_ofPerson_117 : decode cX1_ofPerson 117 = .ok (.iand, 1) := dk_126 (dk_at dksX1_ofPerson_4 9 rfl rfl)
theorem dX1_ofPerson_118 : decode cX1_ofPerson 118 = .ok (.ireturn, 1) := dk_172 (dk_at dksX1_ofPerson_4 10 rfl rfl)
theorem dX1_ofPerson_119 : decode cX1_ofPerson 119 = .ok (.aload_n 0, 1) := dk_42 (dk_at dksX1_ofPerson_4 11 rfl rfl)
theorem dX1_ofPerson_120 : decode cX1_ofPerson 120 = .ok (.iconst 3, 1) := dk_6 (dk_at dksX1_ofPerson_4 12 rfl rfl)
theorem dX1_ofPerson_121 : decode cX1_ofPerson 121 = .ok (.invokevirtual 135, 3) := dk_182 0 135 (dk_at dksX1_ofPerson_4 13 rfl rfl)
theorem dX1_ofPerson_124 : decode cX1_ofPerson 124 = .ok (.iload_n 1, 1) := dk_27 (dk_at dksX1_ofPerson_4 16 rfl rfl)
theorem dX1_ofPerson_125 : decode cX1_ofPerson 125 = .ok (.ishr, 1) := dk_122 (dk_at dksX1_ofPerson_4 17 rfl rfl)
theorem dX1_ofPerson_126 : decode cX1_ofPerson 126 = .ok (.iconst 1, 1) := dk_4 (dk_at dksX1_ofPerson_4 18 rfl rfl)
theorem dX1_ofPerson_127 : decode cX1_ofPerson 127 = .ok (.iand, 1) := dk_126 (dk_at dksX1_ofPerson_4 19 rfl rfl)
theorem dX1_ofPerson_128 : decode cX1_ofPerson 128 = .ok (.ireturn, 1) := dk_172 (dk_at dksX1_ofPerson_4 20 rfl rfl)
theorem dX1_ofPerson_129 : decode cX1_ofPerson 129 = .ok (.bipush (-2), 2) := dk_16 254 (dk_at dksX1_ofPerson_4 21 rfl rfl)
theorem dX1_ofPerson_131 : decode cX1_ofPerson 131 = .ok (.ireturn, 1) := dk_172 (dk_at dksX1_ofPerson_4 23 rfl rfl)
abbrev cX1_isPerson : ByteArray := prog_16_method_10_code
def yX1_isPerson : MethodName := ⟨RX1, "isPerson", "(I)Z"⟩
def dkwX1_isPerson_0 : List UInt8 := [27, 155, 0, 15, 27, 42, 180, 0, 82, 162, 0, 7, 4, 167, 0, 4, 3, 172]
abbrev dktX1_isPerson_0 : List UInt8 := dkwX1_isPerson_0 ++ []
theorem dksX1_isPerson_0 : cX1_isPerson.data.toList.drop 0 = dktX1_isPerson_0 := by decide +kernel
theorem dX1_isPerson_0 : decode cX1_isPerson 0 = .ok (.iload_n 1, 1) := dk_27 (dk_at dksX1_isPerson_0 0 rfl rfl)
theorem dX1_isPerson_1 : decode cX1_isPerson 1 = .ok (.ifCond .lt 15, 3) := dk_155 0 15 (dk_at dksX1_isPerson_0 1 rfl rfl)
theorem dX1_isPerson_4 : decode cX1_isPerson 4 = .ok (.iload_n 1, 1) := dk_27 (dk_at dksX1_isPerson_0 4 rfl rfl)
theorem dX1_isPerson_5 : decode cX1_isPerson 5 = .ok (.aload_n 0, 1) := dk_42 (dk_at dksX1_isPerson_0 5 rfl rfl)
theorem dX1_isPerson_6 : decode cX1_isPerson 6 = .ok (.getfield 82, 3) := dk_180 0 82 (dk_at dksX1_isPerson_0 6 rfl rfl)
theorem dX1_isPerson_9 : decode cX1_isPerson 9 = .ok (.if_icmp .ge 7, 3) := dk_162 0 7 (dk_at dksX1_isPerson_0 9 rfl rfl)
theorem dX1_isPerson_12 : decode cX1_isPerson 12 = .ok (.iconst 1, 1) := dk_4 (dk_at dksX1_isPerson_0 12 rfl rfl)
theorem dX1_isPerson_13 : decode cX1_isPerson 13 = .ok (.goto 4, 3) := dk_167 0 4 (dk_at dksX1_isPerson_0 13 rfl rfl)
theorem dX1_isPerson_16 : decode cX1_isPerson 16 = .ok (.iconst 0, 1) := dk_3 (dk_at dksX1_isPerson_0 16 rfl rfl)
theorem dX1_isPerson_17 : decode cX1_isPerson 17 = .ok (.ireturn, 1) := dk_172 (dk_at dksX1_isPerson_0 17 rfl rfl)
abbrev cX1_stateAt : ByteArray := prog_16_method_19_code
def yX1_stateAt : MethodName := ⟨RX1, "stateAt", "(I)I"⟩
def dkwX1_stateAt_1 : List UInt8 := [180, 0, 28, 29, 46, 184, 0, 117, 61, 132, 3, 1, 167, 255, 231, 28, 172]
abbrev dktX1_stateAt_1 : List UInt8 := dkwX1_stateAt_1 ++ []
def dkwX1_stateAt_0 : List UInt8 := [42, 42, 180, 0, 82, 182, 0, 114, 61, 3, 62, 29, 27, 162, 0, 26, 28, 42, 180, 0, 25, 29, 46, 42]
abbrev dktX1_stateAt_0 : List UInt8 := dkwX1_stateAt_0 ++ dktX1_stateAt_1
theorem dksX1_stateAt_0 : cX1_stateAt.data.toList.drop 0 = dktX1_stateAt_0 := by decide +kernel
theorem dksX1_stateAt_1 : cX1_stateAt.data.toList.drop 24 = dktX1_stateAt_1 := dk_seg dksX1_stateAt_0 24 rfl rfl
theorem dX1_stateAt_0 : decode cX1_stateAt 0 = .ok (.aload_n 0, 1) := dk_42 (dk_at dksX1_stateAt_0 0 rfl rfl)
theorem dX1_stateAt_1 : decode cX1_stateAt 1 = .ok (.aload_n 0, 1) := dk_42 (dk_at dksX1_stateAt_0 1 rfl rfl)
theorem dX1_stateAt_2 : decode cX1_stateAt 2 = .ok (.getfield 82, 3) := dk_180 0 82 (dk_at dksX1_stateAt_0 2 rfl rfl)
theorem dX1_stateAt_5 : decode cX1_stateAt 5 = .ok (.invokevirtual 114, 3) := dk_182 0 114 (dk_at dksX1_stateAt_0 5 rfl rfl)
theorem dX1_stateAt_8 : decode cX1_stateAt 8 = .ok (.istore_n 2, 1) := dk_61 (dk_at dksX1_stateAt_0 8 rfl rfl)
theorem dX1_stateAt_9 : decode cX1_stateAt 9 = .ok (.iconst 0, 1) := dk_3 (dk_at dksX1_stateAt_0 9 rfl rfl)
theorem dX1_stateAt_10 : decode cX1_stateAt 10 = .ok (.istore_n 3, 1) := dk_62 (dk_at dksX1_stateAt_0 10 rfl rfl)
theorem dX1_stateAt_11 : decode cX1_stateAt 11 = .ok (.iload_n 3, 1) := dk_29 (dk_at dksX1_stateAt_0 11 rfl rfl)
theorem dX1_stateAt_12 : decode cX1_stateAt 12 = .ok (.iload_n 1, 1) := dk_27 (dk_at dksX1_stateAt_0 12 rfl rfl)
theorem dX1_stateAt_13 : decode cX1_stateAt 13 = .ok (.if_icmp .ge 26, 3) := dk_162 0 26 (dk_at dksX1_stateAt_0 13 rfl rfl)
theorem dX1_stateAt_16 : decode cX1_stateAt 16 = .ok (.iload_n 2, 1) := dk_28 (dk_at dksX1_stateAt_0 16 rfl rfl)
theorem dX1_stateAt_17 : decode cX1_stateAt 17 = .ok (.aload_n 0, 1) := dk_42 (dk_at dksX1_stateAt_0 17 rfl rfl)
theorem dX1_stateAt_18 : decode cX1_stateAt 18 = .ok (.getfield 25, 3) := dk_180 0 25 (dk_at dksX1_stateAt_0 18 rfl rfl)
theorem dX1_stateAt_21 : decode cX1_stateAt 21 = .ok (.iload_n 3, 1) := dk_29 (dk_at dksX1_stateAt_0 21 rfl rfl)
theorem dX1_stateAt_22 : decode cX1_stateAt 22 = .ok (.iaload, 1) := dk_46 (dk_at dksX1_stateAt_0 22 rfl rfl)
theorem dX1_stateAt_23 : decode cX1_stateAt 23 = .ok (.aload_n 0, 1) := dk_42 (dk_at dksX1_stateAt_0 23 rfl rfl)
theorem dX1_stateAt_24 : decode cX1_stateAt 24 = .ok (.getfield 28, 3) := dk_180 0 28 (dk_at dksX1_stateAt_1 0 rfl rfl)
theorem dX1_stateAt_27 : decode cX1_stateAt 27 = .ok (.iload_n 3, 1) := dk_29 (dk_at dksX1_stateAt_1 3 rfl rfl)
theorem dX1_stateAt_28 : decode cX1_stateAt 28 = .ok (.iaload, 1) := dk_46 (dk_at dksX1_stateAt_1 4 rfl rfl)
theorem dX1_stateAt_29 : decode cX1_stateAt 29 = .ok (.invokestatic 117, 3) := dk_184 0 117 (dk_at dksX1_stateAt_1 5 rfl rfl)
theorem dX1_stateAt_32 : decode cX1_stateAt 32 = .ok (.istore_n 2, 1) := dk_61 (dk_at dksX1_stateAt_1 8 rfl rfl)
theorem dX1_stateAt_33 : decode cX1_stateAt 33 = .ok (.iinc 3 1, 3) := dk_132 3 1 (dk_at dksX1_stateAt_1 9 rfl rfl)
theorem dX1_stateAt_36 : decode cX1_stateAt 36 = .ok (.goto (-25), 3) := dk_167 255 231 (dk_at dksX1_stateAt_1 12 rfl rfl)
theorem dX1_stateAt_39 : decode cX1_stateAt 39 = .ok (.iload_n 2, 1) := dk_28 (dk_at dksX1_stateAt_1 15 rfl rfl)
theorem dX1_stateAt_40 : decode cX1_stateAt 40 = .ok (.ireturn, 1) := dk_172 (dk_at dksX1_stateAt_1 16 rfl rfl)
abbrev cX1_startOf : ByteArray := prog_16_method_17_code
def yX1_startOf : MethodName := ⟨RX1, "startOf", "(I)I"⟩
def dkwX1_startOf_0 : List UInt8 := [18, 113, 4, 7, 27, 104, 120, 4, 100, 126, 172]
abbrev dktX1_startOf_0 : List UInt8 := dkwX1_startOf_0 ++ []
theorem dksX1_startOf_0 : cX1_startOf.data.toList.drop 0 = dktX1_startOf_0 := by decide +kernel
theorem dX1_startOf_0 : decode cX1_startOf 0 = .ok (.ldc 113, 2) := dk_18 113 (dk_at dksX1_startOf_0 0 rfl rfl)
theorem dX1_startOf_2 : decode cX1_startOf 2 = .ok (.iconst 1, 1) := dk_4 (dk_at dksX1_startOf_0 2 rfl rfl)
theorem dX1_startOf_3 : decode cX1_startOf 3 = .ok (.iconst 4, 1) := dk_7 (dk_at dksX1_startOf_0 3 rfl rfl)
theorem dX1_startOf_4 : decode cX1_startOf 4 = .ok (.iload_n 1, 1) := dk_27 (dk_at dksX1_startOf_0 4 rfl rfl)
theorem dX1_startOf_5 : decode cX1_startOf 5 = .ok (.imul, 1) := dk_104 (dk_at dksX1_startOf_0 5 rfl rfl)
theorem dX1_startOf_6 : decode cX1_startOf 6 = .ok (.ishl, 1) := dk_120 (dk_at dksX1_startOf_0 6 rfl rfl)
theorem dX1_startOf_7 : decode cX1_startOf 7 = .ok (.iconst 1, 1) := dk_4 (dk_at dksX1_startOf_0 7 rfl rfl)
theorem dX1_startOf_8 : decode cX1_startOf 8 = .ok (.isub, 1) := dk_100 (dk_at dksX1_startOf_0 8 rfl rfl)
theorem dX1_startOf_9 : decode cX1_startOf 9 = .ok (.iand, 1) := dk_126 (dk_at dksX1_startOf_0 9 rfl rfl)
theorem dX1_startOf_10 : decode cX1_startOf 10 = .ok (.ireturn, 1) := dk_172 (dk_at dksX1_startOf_0 10 rfl rfl)
abbrev cX1_afterCall : ByteArray := prog_16_method_16_code
def yX1_afterCall : MethodName := ⟨RX1, "afterCall", "(III)I"⟩
def dkwX1_afterCall_1 : List UInt8 := [128, 172]
abbrev dktX1_afterCall_1 : List UInt8 := dkwX1_afterCall_1 ++ []
def dkwX1_afterCall_0 : List UInt8 := [26, 27, 184, 0, 110, 26, 28, 184, 0, 110, 128, 62, 26, 29, 7, 27, 104, 120, 128, 29, 7, 28, 104, 120]
abbrev dktX1_afterCall_0 : List UInt8 := dkwX1_afterCall_0 ++ dktX1_afterCall_1
theorem dksX1_afterCall_0 : cX1_afterCall.data.toList.drop 0 = dktX1_afterCall_0 := by decide +kernel
theorem dksX1_afterCall_1 : cX1_afterCall.data.toList.drop 24 = dktX1_afterCall_1 := dk_seg dksX1_afterCall_0 24 rfl rfl
theorem dX1_afterCall_0 : decode cX1_afterCall 0 = .ok (.iload_n 0, 1) := dk_26 (dk_at dksX1_afterCall_0 0 rfl rfl)
theorem dX1_afterCall_1 : decode cX1_afterCall 1 = .ok (.iload_n 1, 1) := dk_27 (dk_at dksX1_afterCall_0 1 rfl rfl)
theorem dX1_afterCall_2 : decode cX1_afterCall 2 = .ok (.invokestatic 110, 3) := dk_184 0 110 (dk_at dksX1_afterCall_0 2 rfl rfl)
theorem dX1_afterCall_5 : decode cX1_afterCall 5 = .ok (.iload_n 0, 1) := dk_26 (dk_at dksX1_afterCall_0 5 rfl rfl)
theorem dX1_afterCall_6 : decode cX1_afterCall 6 = .ok (.iload_n 2, 1) := dk_28 (dk_at dksX1_afterCall_0 6 rfl rfl)
theorem dX1_afterCall_7 : decode cX1_afterCall 7 = .ok (.invokestatic 110, 3) := dk_184 0 110 (dk_at dksX1_afterCall_0 7 rfl rfl)
theorem dX1_afterCall_10 : decode cX1_afterCall 10 = .ok (.ior, 1) := dk_128 (dk_at dksX1_afterCall_0 10 rfl rfl)
theorem dX1_afterCall_11 : decode cX1_afterCall 11 = .ok (.istore_n 3, 1) := dk_62 (dk_at dksX1_afterCall_0 11 rfl rfl)
theorem dX1_afterCall_12 : decode cX1_afterCall 12 = .ok (.iload_n 0, 1) := dk_26 (dk_at dksX1_afterCall_0 12 rfl rfl)
theorem dX1_afterCall_13 : decode cX1_afterCall 13 = .ok (.iload_n 3, 1) := dk_29 (dk_at dksX1_afterCall_0 13 rfl rfl)
theorem dX1_afterCall_14 : decode cX1_afterCall 14 = .ok (.iconst 4, 1) := dk_7 (dk_at dksX1_afterCall_0 14 rfl rfl)
theorem dX1_afterCall_15 : decode cX1_afterCall 15 = .ok (.iload_n 1, 1) := dk_27 (dk_at dksX1_afterCall_0 15 rfl rfl)
theorem dX1_afterCall_16 : decode cX1_afterCall 16 = .ok (.imul, 1) := dk_104 (dk_at dksX1_afterCall_0 16 rfl rfl)
theorem dX1_afterCall_17 : decode cX1_afterCall 17 = .ok (.ishl, 1) := dk_120 (dk_at dksX1_afterCall_0 17 rfl rfl)
theorem dX1_afterCall_18 : decode cX1_afterCall 18 = .ok (.ior, 1) := dk_128 (dk_at dksX1_afterCall_0 18 rfl rfl)
theorem dX1_afterCall_19 : decode cX1_afterCall 19 = .ok (.iload_n 3, 1) := dk_29 (dk_at dksX1_afterCall_0 19 rfl rfl)
theorem dX1_afterCall_20 : decode cX1_afterCall 20 = .ok (.iconst 4, 1) := dk_7 (dk_at dksX1_afterCall_0 20 rfl rfl)
theorem dX1_afterCall_21 : decode cX1_afterCall 21 = .ok (.iload_n 2, 1) := dk_28 (dk_at dksX1_afterCall_0 21 rfl rfl)
theorem dX1_afterCall_22 : decode cX1_afterCall 22 = .ok (.imul, 1) := dk_104 (dk_at dksX1_afterCall_0 22 rfl rfl)
theorem dX1_afterCall_23 : decode cX1_afterCall 23 = .ok (.ishl, 1) := dk_120 (dk_at dksX1_afterCall_0 23 rfl rfl)
theorem dX1_afterCall_24 : decode cX1_afterCall 24 = .ok (.ior, 1) := dk_128 (dk_at dksX1_afterCall_1 0 rfl rfl)
theorem dX1_afterCall_25 : decode cX1_afterCall 25 = .ok (.ireturn, 1) := dk_172 (dk_at dksX1_afterCall_1 1 rfl rfl)
abbrev cX1_of : ByteArray := prog_16_method_14_code
def yX1_of : MethodName := ⟨RX1, "of", "(II)I"⟩
def dkwX1_of_0 : List UInt8 := [26, 7, 27, 104, 122, 16, 15, 126, 172]
abbrev dktX1_of_0 : List UInt8 := dkwX1_of_0 ++ []
theorem dksX1_of_0 : cX1_of.data.toList.drop 0 = dktX1_of_0 := by decide +kernel
theorem dX1_of_0 : decode cX1_of 0 = .ok (.iload_n 0, 1) := dk_26 (dk_at dksX1_of_0 0 rfl rfl)
theorem dX1_of_1 : decode cX1_of 1 = .ok (.iconst 4, 1) := dk_7 (dk_at dksX1_of_0 1 rfl rfl)
theorem dX1_of_2 : decode cX1_of 2 = .ok (.iload_n 1, 1) := dk_27 (dk_at dksX1_of_0 2 rfl rfl)
theorem dX1_of_3 : decode cX1_of 3 = .ok (.imul, 1) := dk_104 (dk_at dksX1_of_0 3 rfl rfl)
theorem dX1_of_4 : decode cX1_of 4 = .ok (.ishr, 1) := dk_122 (dk_at dksX1_of_0 4 rfl rfl)
theorem dX1_of_5 : decode cX1_of 5 = .ok (.bipush 15, 2) := dk_16 15 (dk_at dksX1_of_0 5 rfl rfl)
theorem dX1_of_7 : decode cX1_of 7 = .ok (.iand, 1) := dk_126 (dk_at dksX1_of_0 7 rfl rfl)
theorem dX1_of_8 : decode cX1_of 8 = .ok (.ireturn, 1) := dk_172 (dk_at dksX1_of_0 8 rfl rfl)
abbrev cX1_numbersOf : ByteArray := prog_16_method_15_code
def yX1_numbersOf : MethodName := ⟨RX1, "numbersOf", "([III)I"⟩
def dkwX1_numbersOf_2 : List UInt8 := [29, 172]
abbrev dktX1_numbersOf_2 : List UInt8 := dkwX1_numbersOf_2 ++ []
def dkwX1_numbersOf_1 : List UInt8 := [153, 0, 15, 42, 21, 4, 46, 4, 21, 4, 120, 128, 167, 0, 4, 3, 128, 62, 132, 4, 1, 167, 255, 218]
abbrev dktX1_numbersOf_1 : List UInt8 := dkwX1_numbersOf_1 ++ dktX1_numbersOf_2
def dkwX1_numbersOf_0 : List UInt8 := [3, 62, 3, 54, 4, 21, 4, 7, 162, 0, 38, 29, 27, 28, 184, 0, 110, 21, 4, 184, 0, 106]
abbrev dktX1_numbersOf_0 : List UInt8 := dkwX1_numbersOf_0 ++ dktX1_numbersOf_1
theorem dksX1_numbersOf_0 : cX1_numbersOf.data.toList.drop 0 = dktX1_numbersOf_0 := by decide +kernel
theorem dksX1_numbersOf_1 : cX1_numbersOf.data.toList.drop 22 = dktX1_numbersOf_1 := dk_seg dksX1_numbersOf_0 22 rfl rfl
theorem dksX1_numbersOf_2 : cX1_numbersOf.data.toList.drop 46 = dktX1_numbersOf_2 := dk_seg dksX1_numbersOf_1 24 rfl rfl
theorem dX1_numbersOf_0 : decode cX1_numbersOf 0 = .ok (.iconst 0, 1) := dk_3 (dk_at dksX1_numbersOf_0 0 rfl rfl)
theorem dX1_numbersOf_1 : decode cX1_numbersOf 1 = .ok (.istore_n 3, 1) := dk_62 (dk_at dksX1_numbersOf_0 1 rfl rfl)
theorem dX1_numbersOf_2 : decode cX1_numbersOf 2 = .ok (.iconst 0, 1) := dk_3 (dk_at dksX1_numbersOf_0 2 rfl rfl)
theorem dX1_numbersOf_3 : decode cX1_numbersOf 3 = .ok (.istore 4, 2) := dk_54 4 (dk_at dksX1_numbersOf_0 3 rfl rfl)
theorem dX1_numbersOf_5 : decode cX1_numbersOf 5 = .ok (.iload 4, 2) := dk_21 4 (dk_at dksX1_numbersOf_0 5 rfl rfl)
theorem dX1_numbersOf_7 : decode cX1_numbersOf 7 = .ok (.iconst 4, 1) := dk_7 (dk_at dksX1_numbersOf_0 7 rfl rfl)
theorem dX1_numbersOf_8 : decode cX1_numbersOf 8 = .ok (.if_icmp .ge 38, 3) := dk_162 0 38 (dk_at dksX1_numbersOf_0 8 rfl rfl)
theorem dX1_numbersOf_11 : decode cX1_numbersOf 11 = .ok (.iload_n 3, 1) := dk_29 (dk_at dksX1_numbersOf_0 11 rfl rfl)
theorem dX1_numbersOf_12 : decode cX1_numbersOf 12 = .ok (.iload_n 1, 1) := dk_27 (dk_at dksX1_numbersOf_0 12 rfl rfl)
theorem dX1_numbersOf_13 : decode cX1_numbersOf 13 = .ok (.iload_n 2, 1) := dk_28 (dk_at dksX1_numbersOf_0 13 rfl rfl)
theorem dX1_numbersOf_14 : decode cX1_numbersOf 14 = .ok (.invokestatic 110, 3) := dk_184 0 110 (dk_at dksX1_numbersOf_0 14 rfl rfl)
theorem dX1_numbersOf_17 : decode cX1_numbersOf 17 = .ok (.iload 4, 2) := dk_21 4 (dk_at dksX1_numbersOf_0 17 rfl rfl)
theorem dX1_numbersOf_19 : decode cX1_numbersOf 19 = .ok (.invokestatic 106, 3) := dk_184 0 106 (dk_at dksX1_numbersOf_0 19 rfl rfl)
theorem dX1_numbersOf_22 : decode cX1_numbersOf 22 = .ok (.ifCond .eq 15, 3) := dk_153 0 15 (dk_at dksX1_numbersOf_1 0 rfl rfl)
theorem dX1_numbersOf_25 : decode cX1_numbersOf 25 = .ok (.aload_n 0, 1) := dk_42 (dk_at dksX1_numbersOf_1 3 rfl rfl)
theorem dX1_numbersOf_26 : decode cX1_numbersOf 26 = .ok (.iload 4, 2) := dk_21 4 (dk_at dksX1_numbersOf_1 4 rfl rfl)
theorem dX1_numbersOf_28 : decode cX1_numbersOf 28 = .ok (.iaload, 1) := dk_46 (dk_at dksX1_numbersOf_1 6 rfl rfl)
theorem dX1_numbersOf_29 : decode cX1_numbersOf 29 = .ok (.iconst 1, 1) := dk_4 (dk_at dksX1_numbersOf_1 7 rfl rfl)
theorem dX1_numbersOf_30 : decode cX1_numbersOf 30 = .ok (.iload 4, 2) := dk_21 4 (dk_at dksX1_numbersOf_1 8 rfl rfl)
theorem dX1_numbersOf_32 : decode cX1_numbersOf 32 = .ok (.ishl, 1) := dk_120 (dk_at dksX1_numbersOf_1 10 rfl rfl)
theorem dX1_numbersOf_33 : decode cX1_numbersOf 33 = .ok (.ior, 1) := dk_128 (dk_at dksX1_numbersOf_1 11 rfl rfl)
theorem dX1_numbersOf_34 : decode cX1_numbersOf 34 = .ok (.goto 4, 3) := dk_167 0 4 (dk_at dksX1_numbersOf_1 12 rfl rfl)
theorem dX1_numbersOf_37 : decode cX1_numbersOf 37 = .ok (.iconst 0, 1) := dk_3 (dk_at dksX1_numbersOf_1 15 rfl rfl)
theorem dX1_numbersOf_38 : decode cX1_numbersOf 38 = .ok (.ior, 1) := dk_128 (dk_at dksX1_numbersOf_1 16 rfl rfl)
theorem dX1_numbersOf_39 : decode cX1_numbersOf 39 = .ok (.istore_n 3, 1) := dk_62 (dk_at dksX1_numbersOf_1 17 rfl rfl)
theorem dX1_numbersOf_40 : decode cX1_numbersOf 40 = .ok (.iinc 4 1, 3) := dk_132 4 1 (dk_at dksX1_numbersOf_1 18 rfl rfl)
theorem dX1_numbersOf_43 : decode cX1_numbersOf 43 = .ok (.goto (-38), 3) := dk_167 255 218 (dk_at dksX1_numbersOf_1 21 rfl rfl)
theorem dX1_numbersOf_46 : decode cX1_numbersOf 46 = .ok (.iload_n 3, 1) := dk_29 (dk_at dksX1_numbersOf_2 0 rfl rfl)
theorem dX1_numbersOf_47 : decode cX1_numbersOf 47 = .ok (.ireturn, 1) := dk_172 (dk_at dksX1_numbersOf_2 1 rfl rfl)
abbrev cX1_tokensNow : ByteArray := prog_16_method_21_code
def yX1_tokensNow : MethodName := ⟨RX1, "tokensNow", "(I)I"⟩
def dkwX1_tokensNow_1 : List UInt8 := [180, 0, 25, 29, 46, 42, 180, 0, 28, 29, 46, 184, 0, 121, 61, 132, 3, 1, 167, 255, 227, 28, 172]
abbrev dktX1_tokensNow_1 : List UInt8 := dkwX1_tokensNow_1 ++ []
def dkwX1_tokensNow_0 : List UInt8 := [4, 42, 180, 0, 82, 120, 4, 100, 61, 3, 62, 29, 42, 180, 0, 103, 162, 0, 27, 28, 27, 42]
abbrev dktX1_tokensNow_0 : List UInt8 := dkwX1_tokensNow_0 ++ dktX1_tokensNow_1
theorem dksX1_tokensNow_0 : cX1_tokensNow.data.toList.drop 0 = dktX1_tokensNow_0 := by decide +kernel
theorem dksX1_tokensNow_1 : cX1_tokensNow.data.toList.drop 22 = dktX1_tokensNow_1 := dk_seg dksX1_tokensNow_0 22 rfl rfl
theorem dX1_tokensNow_0 : decode cX1_tokensNow 0 = .ok (.iconst 1, 1) := dk_4 (dk_at dksX1_tokensNow_0 0 rfl rfl)
theorem dX1_tokensNow_1 : decode cX1_tokensNow 1 = .ok (.aload_n 0, 1) := dk_42 (dk_at dksX1_tokensNow_0 1 rfl rfl)
theorem dX1_tokensNow_2 : decode cX1_tokensNow 2 = .ok (.getfield 82, 3) := dk_180 0 82 (dk_at dksX1_tokensNow_0 2 rfl rfl)
theorem dX1_tokensNow_5 : decode cX1_tokensNow 5 = .ok (.ishl, 1) := dk_120 (dk_at dksX1_tokensNow_0 5 rfl rfl)
theorem dX1_tokensNow_6 : decode cX1_tokensNow 6 = .ok (.iconst 1, 1) := dk_4 (dk_at dksX1_tokensNow_0 6 rfl rfl)
theorem dX1_tokensNow_7 : decode cX1_tokensNow 7 = .ok (.isub, 1) := dk_100 (dk_at dksX1_tokensNow_0 7 rfl rfl)
theorem dX1_tokensNow_8 : decode cX1_tokensNow 8 = .ok (.istore_n 2, 1) := dk_61 (dk_at dksX1_tokensNow_0 8 rfl rfl)
theorem dX1_tokensNow_9 : decode cX1_tokensNow 9 = .ok (.iconst 0, 1) := dk_3 (dk_at dksX1_tokensNow_0 9 rfl rfl)
theorem dX1_tokensNow_10 : decode cX1_tokensNow 10 = .ok (.istore_n 3, 1) := dk_62 (dk_at dksX1_tokensNow_0 10 rfl rfl)
theorem dX1_tokensNow_11 : decode cX1_tokensNow 11 = .ok (.iload_n 3, 1) := dk_29 (dk_at dksX1_tokensNow_0 11 rfl rfl)
theorem dX1_tokensNow_12 : decode cX1_tokensNow 12 = .ok (.aload_n 0, 1) := dk_42 (dk_at dksX1_tokensNow_0 12 rfl rfl)
theorem dX1_tokensNow_13 : decode cX1_tokensNow 13 = .ok (.getfield 103, 3) := dk_180 0 103 (dk_at dksX1_tokensNow_0 13 rfl rfl)
theorem dX1_tokensNow_16 : decode cX1_tokensNow 16 = .ok (.if_icmp .ge 27, 3) := dk_162 0 27 (dk_at dksX1_tokensNow_0 16 rfl rfl)
theorem dX1_tokensNow_19 : decode cX1_tokensNow 19 = .ok (.iload_n 2, 1) := dk_28 (dk_at dksX1_tokensNow_0 19 rfl rfl)
theorem dX1_tokensNow_20 : decode cX1_tokensNow 20 = .ok (.iload_n 1, 1) := dk_27 (dk_at dksX1_tokensNow_0 20 rfl rfl)
theorem dX1_tokensNow_21 : decode cX1_tokensNow 21 = .ok (.aload_n 0, 1) := dk_42 (dk_at dksX1_tokensNow_0 21 rfl rfl)
theorem dX1_tokensNow_22 : decode cX1_tokensNow 22 = .ok (.getfield 25, 3) := dk_180 0 25 (dk_at dksX1_tokensNow_1 0 rfl rfl)
theorem dX1_tokensNow_25 : decode cX1_tokensNow 25 = .ok (.iload_n 3, 1) := dk_29 (dk_at dksX1_tokensNow_1 3 rfl rfl)
theorem dX1_tokensNow_26 : decode cX1_tokensNow 26 = .ok (.iaload, 1) := dk_46 (dk_at dksX1_tokensNow_1 4 rfl rfl)
theorem dX1_tokensNow_27 : decode cX1_tokensNow 27 = .ok (.aload_n 0, 1) := dk_42 (dk_at dksX1_tokensNow_1 5 rfl rfl)
theorem dX1_tokensNow_28 : decode cX1_tokensNow 28 = .ok (.getfield 28, 3) := dk_180 0 28 (dk_at dksX1_tokensNow_1 6 rfl rfl)
theorem dX1_tokensNow_31 : decode cX1_tokensNow 31 = .ok (.iload_n 3, 1) := dk_29 (dk_at dksX1_tokensNow_1 9 rfl rfl)
theorem dX1_tokensNow_32 : decode cX1_tokensNow 32 = .ok (.iaload, 1) := dk_46 (dk_at dksX1_tokensNow_1 10 rfl rfl)
theorem dX1_tokensNow_33 : decode cX1_tokensNow 33 = .ok (.invokestatic 121, 3) := dk_184 0 121 (dk_at dksX1_tokensNow_1 11 rfl rfl)
theorem dX1_tokensNow_36 : decode cX1_tokensNow 36 = .ok (.istore_n 2, 1) := dk_61 (dk_at dksX1_tokensNow_1 14 rfl rfl)
theorem dX1_tokensNow_37 : decode cX1_tokensNow 37 = .ok (.iinc 3 1, 3) := dk_132 3 1 (dk_at dksX1_tokensNow_1 15 rfl rfl)
theorem dX1_tokensNow_40 : decode cX1_tokensNow 40 = .ok (.goto (-29), 3) := dk_167 255 227 (dk_at dksX1_tokensNow_1 18 rfl rfl)
theorem dX1_tokensNow_43 : decode cX1_tokensNow 43 = .ok (.iload_n 2, 1) := dk_28 (dk_at dksX1_tokensNow_1 21 rfl rfl)
theorem dX1_tokensNow_44 : decode cX1_tokensNow 44 = .ok (.ireturn, 1) := dk_172 (dk_at dksX1_tokensNow_1 22 rfl rfl)
abbrev cX1_tokensAfter : ByteArray := prog_16_method_20_code
def yX1_tokensAfter : MethodName := ⟨RX1, "tokensAfter", "(IIII)I"⟩
def dkwX1_tokensAfter_1 : List UInt8 := [26, 4, 29, 120, 2, 130, 126, 167, 0, 4, 26, 172]
abbrev dktX1_tokensAfter_1 : List UInt8 := dkwX1_tokensAfter_1 ++ []
def dkwX1_tokensAfter_0 : List UInt8 := [27, 5, 160, 0, 17, 26, 4, 28, 120, 2, 130, 126, 4, 29, 120, 128, 167, 0, 19, 27, 6, 160, 0, 13]
abbrev dktX1_tokensAfter_0 : List UInt8 := dkwX1_tokensAfter_0 ++ dktX1_tokensAfter_1
theorem dksX1_tokensAfter_0 : cX1_tokensAfter.data.toList.drop 0 = dktX1_tokensAfter_0 := by decide +kernel
theorem dksX1_tokensAfter_1 : cX1_tokensAfter.data.toList.drop 24 = dktX1_tokensAfter_1 := dk_seg dksX1_tokensAfter_0 24 rfl rfl
theorem dX1_tokensAfter_0 : decode cX1_tokensAfter 0 = .ok (.iload_n 1, 1) := dk_27 (dk_at dksX1_tokensAfter_0 0 rfl rfl)
theorem dX1_tokensAfter_1 : decode cX1_tokensAfter 1 = .ok (.iconst 2, 1) := dk_5 (dk_at dksX1_tokensAfter_0 1 rfl rfl)
theorem dX1_tokensAfter_2 : decode cX1_tokensAfter 2 = .ok (.if_icmp .ne 17, 3) := dk_160 0 17 (dk_at dksX1_tokensAfter_0 2 rfl rfl)
theorem dX1_tokensAfter_5 : decode cX1_tokensAfter 5 = .ok (.iload_n 0, 1) := dk_26 (dk_at dksX1_tokensAfter_0 5 rfl rfl)
theorem dX1_tokensAfter_6 : decode cX1_tokensAfter 6 = .ok (.iconst 1, 1) := dk_4 (dk_at dksX1_tokensAfter_0 6 rfl rfl)
theorem dX1_tokensAfter_7 : decode cX1_tokensAfter 7 = .ok (.iload_n 2, 1) := dk_28 (dk_at dksX1_tokensAfter_0 7 rfl rfl)
theorem dX1_tokensAfter_8 : decode cX1_tokensAfter 8 = .ok (.ishl, 1) := dk_120 (dk_at dksX1_tokensAfter_0 8 rfl rfl)
theorem dX1_tokensAfter_9 : decode cX1_tokensAfter 9 = .ok (.iconst (-1), 1) := dk_2 (dk_at dksX1_tokensAfter_0 9 rfl rfl)
theorem dX1_tokensAfter_10 : decode cX1_tokensAfter 10 = .ok (.ixor, 1) := dk_130 (dk_at dksX1_tokensAfter_0 10 rfl rfl)
theorem dX1_tokensAfter_11 : decode cX1_tokensAfter 11 = .ok (.iand, 1) := dk_126 (dk_at dksX1_tokensAfter_0 11 rfl rfl)
theorem dX1_tokensAfter_12 : decode cX1_tokensAfter 12 = .ok (.iconst 1, 1) := dk_4 (dk_at dksX1_tokensAfter_0 12 rfl rfl)
theorem dX1_tokensAfter_13 : decode cX1_tokensAfter 13 = .ok (.iload_n 3, 1) := dk_29 (dk_at dksX1_tokensAfter_0 13 rfl rfl)
theorem dX1_tokensAfter_14 : decode cX1_tokensAfter 14 = .ok (.ishl, 1) := dk_120 (dk_at dksX1_tokensAfter_0 14 rfl rfl)
theorem dX1_tokensAfter_15 : decode cX1_tokensAfter 15 = .ok (.ior, 1) := dk_128 (dk_at dksX1_tokensAfter_0 15 rfl rfl)
theorem dX1_tokensAfter_16 : decode cX1_tokensAfter 16 = .ok (.goto 19, 3) := dk_167 0 19 (dk_at dksX1_tokensAfter_0 16 rfl rfl)
theorem dX1_tokensAfter_19 : decode cX1_tokensAfter 19 = .ok (.iload_n 1, 1) := dk_27 (dk_at dksX1_tokensAfter_0 19 rfl rfl)
theorem dX1_tokensAfter_20 : decode cX1_tokensAfter 20 = .ok (.iconst 3, 1) := dk_6 (dk_at dksX1_tokensAfter_0 20 rfl rfl)
theorem dX1_tokensAfter_21 : decode cX1_tokensAfter 21 = .ok (.if_icmp .ne 13, 3) := dk_160 0 13 (dk_at dksX1_tokensAfter_0 21 rfl rfl)
theorem dX1_tokensAfter_24 : decode cX1_tokensAfter 24 = .ok (.iload_n 0, 1) := dk_26 (dk_at dksX1_tokensAfter_1 0 rfl rfl)
theorem dX1_tokensAfter_25 : decode cX1_tokensAfter 25 = .ok (.iconst 1, 1) := dk_4 (dk_at dksX1_tokensAfter_1 1 rfl rfl)
theorem dX1_tokensAfter_26 : decode cX1_tokensAfter 26 = .ok (.iload_n 3, 1) := dk_29 (dk_at dksX1_tokensAfter_1 2 rfl rfl)
theorem dX1_tokensAfter_27 : decode cX1_tokensAfter 27 = .ok (.ishl, 1) := dk_120 (dk_at dksX1_tokensAfter_1 3 rfl rfl)
theorem dX1_tokensAfter_28 : decode cX1_tokensAfter 28 = .ok (.iconst (-1), 1) := dk_2 (dk_at dksX1_tokensAfter_1 4 rfl rfl)
theorem dX1_tokensAfter_29 : decode cX1_tokensAfter 29 = .ok (.ixor, 1) := dk_130 (dk_at dksX1_tokensAfter_1 5 rfl rfl)
theorem dX1_tokensAfter_30 : decode cX1_tokensAfter 30 = .ok (.iand, 1) := dk_126 (dk_at dksX1_tokensAfter_1 6 rfl rfl)
theorem dX1_tokensAfter_31 : decode cX1_tokensAfter 31 = .ok (.goto 4, 3) := dk_167 0 4 (dk_at dksX1_tokensAfter_1 7 rfl rfl)
theorem dX1_tokensAfter_34 : decode cX1_tokensAfter 34 = .ok (.iload_n 0, 1) := dk_26 (dk_at dksX1_tokensAfter_1 10 rfl rfl)
theorem dX1_tokensAfter_35 : decode cX1_tokensAfter 35 = .ok (.ireturn, 1) := dk_172 (dk_at dksX1_tokensAfter_1 11 rfl rfl)
abbrev cX1_call : ByteArray := prog_16_method_23_code
def yX1_call : MethodName := ⟨RX1, "call", "(II)I"⟩
def dkwX1_call_4 : List UInt8 := [181, 0, 103, 42, 180, 0, 103, 4, 100, 172]
abbrev dktX1_call_4 : List UInt8 := dkwX1_call_4 ++ []
def dkwX1_call_3 : List UInt8 := [180, 0, 103, 27, 79, 42, 180, 0, 28, 42, 180, 0, 103, 28, 79, 42, 89, 180, 0, 103, 4, 96]
abbrev dktX1_call_3 : List UInt8 := dkwX1_call_3 ++ dktX1_call_4
def dkwX1_call_2 : List UInt8 := [154, 0, 6, 16, 253, 172, 42, 180, 0, 103, 16, 12, 160, 0, 6, 16, 252, 172, 42, 180, 0, 25, 42]
abbrev dktX1_call_2 : List UInt8 := dkwX1_call_2 ++ dktX1_call_3
def dkwX1_call_1 : List UInt8 := [16, 254, 172, 42, 180, 0, 19, 42, 42, 180, 0, 103, 182, 0, 128, 27, 184, 0, 131, 28, 184, 0, 106]
abbrev dktX1_call_1 : List UInt8 := dkwX1_call_1 ++ dktX1_call_2
def dkwX1_call_0 : List UInt8 := [42, 27, 182, 0, 125, 153, 0, 11, 42, 28, 182, 0, 125, 154, 0, 5, 2, 172, 27, 28, 160, 0, 6]
abbrev dktX1_call_0 : List UInt8 := dkwX1_call_0 ++ dktX1_call_1
theorem dksX1_call_0 : cX1_call.data.toList.drop 0 = dktX1_call_0 := by decide +kernel
theorem dksX1_call_1 : cX1_call.data.toList.drop 23 = dktX1_call_1 := dk_seg dksX1_call_0 23 rfl rfl
theorem dksX1_call_2 : cX1_call.data.toList.drop 46 = dktX1_call_2 := dk_seg dksX1_call_1 23 rfl rfl
theorem dksX1_call_3 : cX1_call.data.toList.drop 69 = dktX1_call_3 := dk_seg dksX1_call_2 23 rfl rfl
theorem dksX1_call_4 : cX1_call.data.toList.drop 91 = dktX1_call_4 := dk_seg dksX1_call_3 22 rfl rfl
theorem dX1_call_0 : decode cX1_call 0 = .ok (.aload_n 0, 1) := dk_42 (dk_at dksX1_call_0 0 rfl rfl)
theorem dX1_call_1 : decode cX1_call 1 = .ok (.iload_n 1, 1) := dk_27 (dk_at dksX1_call_0 1 rfl rfl)
theorem dX1_call_2 : decode cX1_call 2 = .ok (.invokevirtual 125, 3) := dk_182 0 125 (dk_at dksX1_call_0 2 rfl rfl)
theorem dX1_call_5 : decode cX1_call 5 = .ok (.ifCond .eq 11, 3) := dk_153 0 11 (dk_at dksX1_call_0 5 rfl rfl)
theorem dX1_call_8 : decode cX1_call 8 = .ok (.aload_n 0, 1) := dk_42 (dk_at dksX1_call_0 8 rfl rfl)
theorem dX1_call_9 : decode cX1_call 9 = .ok (.iload_n 2, 1) := dk_28 (dk_at dksX1_call_0 9 rfl rfl)
theorem dX1_call_10 : decode cX1_call 10 = .ok (.invokevirtual 125, 3) := dk_182 0 125 (dk_at dksX1_call_0 10 rfl rfl)
theorem dX1_call_13 : decode cX1_call 13 = .ok (.ifCond .ne 5, 3) := dk_154 0 5 (dk_at dksX1_call_0 13 rfl rfl)
theorem dX1_call_16 : decode cX1_call 16 = .ok (.iconst (-1), 1) := dk_2 (dk_at dksX1_call_0 16 rfl rfl)
theorem dX1_call_17 : decode cX1_call 17 = .ok (.ireturn, 1) := dk_172 (dk_at dksX1_call_0 17 rfl rfl)
theorem dX1_call_18 : decode cX1_call 18 = .ok (.iload_n 1, 1) := dk_27 (dk_at dksX1_call_0 18 rfl rfl)
theorem dX1_call_19 : decode cX1_call 19 = .ok (.iload_n 2, 1) := dk_28 (dk_at dksX1_call_0 19 rfl rfl)
theorem dX1_call_20 : decode cX1_call 20 = .ok (.if_icmp .ne 6, 3) := dk_160 0 6 (dk_at dksX1_call_0 20 rfl rfl)
theorem dX1_call_23 : decode cX1_call 23 = .ok (.bipush (-2), 2) := dk_16 254 (dk_at dksX1_call_1 0 rfl rfl)
theorem dX1_call_25 : decode cX1_call 25 = .ok (.ireturn, 1) := dk_172 (dk_at dksX1_call_1 2 rfl rfl)
theorem dX1_call_26 : decode cX1_call 26 = .ok (.aload_n 0, 1) := dk_42 (dk_at dksX1_call_1 3 rfl rfl)
theorem dX1_call_27 : decode cX1_call 27 = .ok (.getfield 19, 3) := dk_180 0 19 (dk_at dksX1_call_1 4 rfl rfl)
theorem dX1_call_30 : decode cX1_call 30 = .ok (.aload_n 0, 1) := dk_42 (dk_at dksX1_call_1 7 rfl rfl)
theorem dX1_call_31 : decode cX1_call 31 = .ok (.aload_n 0, 1) := dk_42 (dk_at dksX1_call_1 8 rfl rfl)
theorem dX1_call_32 : decode cX1_call 32 = .ok (.getfield 103, 3) := dk_180 0 103 (dk_at dksX1_call_1 9 rfl rfl)
theorem dX1_call_35 : decode cX1_call 35 = .ok (.invokevirtual 128, 3) := dk_182 0 128 (dk_at dksX1_call_1 12 rfl rfl)
theorem dX1_call_38 : decode cX1_call 38 = .ok (.iload_n 1, 1) := dk_27 (dk_at dksX1_call_1 15 rfl rfl)
theorem dX1_call_39 : decode cX1_call 39 = .ok (.invokestatic 131, 3) := dk_184 0 131 (dk_at dksX1_call_1 16 rfl rfl)
theorem dX1_call_42 : decode cX1_call 42 = .ok (.iload_n 2, 1) := dk_28 (dk_at dksX1_call_1 19 rfl rfl)
theorem dX1_call_43 : decode cX1_call 43 = .ok (.invokestatic 106, 3) := dk_184 0 106 (dk_at dksX1_call_1 20 rfl rfl)
theorem dX1_call_46 : decode cX1_call 46 = .ok (.ifCond .ne 6, 3) := dk_154 0 6 (dk_at dksX1_call_2 0 rfl rfl)
theorem dX1_call_49 : decode cX1_call 49 = .ok (.bipush (-3), 2) := dk_16 253 (dk_at dksX1_call_2 3 rfl rfl)
theorem dX1_call_51 : decode cX1_call 51 = .ok (.ireturn, 1) := dk_172 (dk_at dksX1_call_2 5 rfl rfl)
theorem dX1_call_52 : decode cX1_call 52 = .ok (.aload_n 0, 1) := dk_42 (dk_at dksX1_call_2 6 rfl rfl)
theorem dX1_call_53 : decode cX1_call 53 = .ok (.getfield 103, 3) := dk_180 0 103 (dk_at dksX1_call_2 7 rfl rfl)
theorem dX1_call_56 : decode cX1_call 56 = .ok (.bipush 12, 2) := dk_16 12 (dk_at dksX1_call_2 10 rfl rfl)
theorem dX1_call_58 : decode cX1_call 58 = .ok (.if_icmp .ne 6, 3) := dk_160 0 6 (dk_at dksX1_call_2 12 rfl rfl)
theorem dX1_call_61 : decode cX1_call 61 = .ok (.bipush (-4), 2) := dk_16 252 (dk_at dksX1_call_2 15 rfl rfl)
theorem dX1_call_63 : decode cX1_call 63 = .ok (.ireturn, 1) := dk_172 (dk_at dksX1_call_2 17 rfl rfl)
theorem dX1_call_64 : decode cX1_call 64 = .ok (.aload_n 0, 1) := dk_42 (dk_at dksX1_call_2 18 rfl rfl)
theorem dX1_call_65 : decode cX1_call 65 = .ok (.getfield 25, 3) := dk_180 0 25 (dk_at dksX1_call_2 19 rfl rfl)
theorem dX1_call_68 : decode cX1_call 68 = .ok (.aload_n 0, 1) := dk_42 (dk_at dksX1_call_2 22 rfl rfl)
theorem dX1_call_69 : decode cX1_call 69 = .ok (.getfield 103, 3) := dk_180 0 103 (dk_at dksX1_call_3 0 rfl rfl)
theorem dX1_call_72 : decode cX1_call 72 = .ok (.iload_n 1, 1) := dk_27 (dk_at dksX1_call_3 3 rfl rfl)
theorem dX1_call_73 : decode cX1_call 73 = .ok (.iastore, 1) := dk_79 (dk_at dksX1_call_3 4 rfl rfl)
theorem dX1_call_74 : decode cX1_call 74 = .ok (.aload_n 0, 1) := dk_42 (dk_at dksX1_call_3 5 rfl rfl)
theorem dX1_call_75 : decode cX1_call 75 = .ok (.getfield 28, 3) := dk_180 0 28 (dk_at dksX1_call_3 6 rfl rfl)
theorem dX1_call_78 : decode cX1_call 78 = .ok (.aload_n 0, 1) := dk_42 (dk_at dksX1_call_3 9 rfl rfl)
theorem dX1_call_79 : decode cX1_call 79 = .ok (.getfield 103, 3) := dk_180 0 103 (dk_at dksX1_call_3 10 rfl rfl)
theorem dX1_call_82 : decode cX1_call 82 = .ok (.iload_n 2, 1) := dk_28 (dk_at dksX1_call_3 13 rfl rfl)
theorem dX1_call_83 : decode cX1_call 83 = .ok (.iastore, 1) := dk_79 (dk_at dksX1_call_3 14 rfl rfl)
theorem dX1_call_84 : decode cX1_call 84 = .ok (.aload_n 0, 1) := dk_42 (dk_at dksX1_call_3 15 rfl rfl)
theorem dX1_call_85 : decode cX1_call 85 = .ok (.dup, 1) := dk_89 (dk_at dksX1_call_3 16 rfl rfl)
theorem dX1_call_86 : decode cX1_call 86 = .ok (.getfield 103, 3) := dk_180 0 103 (dk_at dksX1_call_3 17 rfl rfl)
theorem dX1_call_89 : decode cX1_call 89 = .ok (.iconst 1, 1) := dk_4 (dk_at dksX1_call_3 20 rfl rfl)
theorem dX1_call_90 : decode cX1_call 90 = .ok (.iadd, 1) := dk_96 (dk_at dksX1_call_3 21 rfl rfl)
theorem dX1_call_91 : decode cX1_call 91 = .ok (.putfield 103, 3) := dk_181 0 103 (dk_at dksX1_call_4 0 rfl rfl)
theorem dX1_call_94 : decode cX1_call 94 = .ok (.aload_n 0, 1) := dk_42 (dk_at dksX1_call_4 3 rfl rfl)
theorem dX1_call_95 : decode cX1_call 95 = .ok (.getfield 103, 3) := dk_180 0 103 (dk_at dksX1_call_4 4 rfl rfl)
theorem dX1_call_98 : decode cX1_call 98 = .ok (.iconst 1, 1) := dk_4 (dk_at dksX1_call_4 7 rfl rfl)
theorem dX1_call_99 : decode cX1_call 99 = .ok (.isub, 1) := dk_100 (dk_at dksX1_call_4 8 rfl rfl)
theorem dX1_call_100 : decode cX1_call 100 = .ok (.ireturn, 1) := dk_172 (dk_at dksX1_call_4 9 rfl rfl)
abbrev cX1_ofCall : ByteArray := prog_16_method_27_code
def yX1_ofCall : MethodName := ⟨RX1, "ofCall", "(II)I"⟩
def dkwX1_ofCall_3 : List UInt8 := [180, 0, 25, 27, 46, 182, 0, 138, 172, 42, 27, 42, 180, 0, 28, 27, 46, 182, 0, 138, 172, 16, 254, 172]
abbrev dktX1_ofCall_3 : List UInt8 := dkwX1_ofCall_3 ++ []
def dkwX1_ofCall_2 : List UInt8 := [42, 27, 182, 0, 147, 172, 42, 180, 0, 25, 27, 46, 172, 42, 180, 0, 28, 27, 46, 172, 42, 27, 42]
abbrev dktX1_ofCall_2 : List UInt8 := dkwX1_ofCall_2 ++ dktX1_ofCall_3
def dkwX1_ofCall_1 : List UInt8 := [170, 0, 0, 0, 77, 0, 0, 0, 0, 0, 0, 0, 4, 0, 0, 0, 33, 0, 0, 0, 39, 0, 0, 0, 46, 0, 0, 0, 53, 0, 0, 0, 65]
abbrev dktX1_ofCall_1 : List UInt8 := dkwX1_ofCall_1 ++ dktX1_ofCall_2
def dkwX1_ofCall_0 : List UInt8 := [42, 27, 182, 0, 144, 154, 0, 5, 2, 172, 28]
abbrev dktX1_ofCall_0 : List UInt8 := dkwX1_ofCall_0 ++ dktX1_ofCall_1
theorem dksX1_ofCall_0 : cX1_ofCall.data.toList.drop 0 = dktX1_ofCall_0 := by decide +kernel
theorem dksX1_ofCall_1 : cX1_ofCall.data.toList.drop 11 = dktX1_ofCall_1 := dk_seg dksX1_ofCall_0 11 rfl rfl
theorem dksX1_ofCall_2 : cX1_ofCall.data.toList.drop 44 = dktX1_ofCall_2 := dk_seg dksX1_ofCall_1 33 rfl rfl
theorem dksX1_ofCall_3 : cX1_ofCall.data.toList.drop 67 = dktX1_ofCall_3 := dk_seg dksX1_ofCall_2 23 rfl rfl
theorem dX1_ofCall_0 : decode cX1_ofCall 0 = .ok (.aload_n 0, 1) := dk_42 (dk_at dksX1_ofCall_0 0 rfl rfl)
theorem dX1_ofCall_1 : decode cX1_ofCall 1 = .ok (.iload_n 1, 1) := dk_27 (dk_at dksX1_ofCall_0 1 rfl rfl)
theorem dX1_ofCall_2 : decode cX1_ofCall 2 = .ok (.invokevirtual 144, 3) := dk_182 0 144 (dk_at dksX1_ofCall_0 2 rfl rfl)
theorem dX1_ofCall_5 : decode cX1_ofCall 5 = .ok (.ifCond .ne 5, 3) := dk_154 0 5 (dk_at dksX1_ofCall_0 5 rfl rfl)
theorem dX1_ofCall_8 : decode cX1_ofCall 8 = .ok (.iconst (-1), 1) := dk_2 (dk_at dksX1_ofCall_0 8 rfl rfl)
theorem dX1_ofCall_9 : decode cX1_ofCall 9 = .ok (.ireturn, 1) := dk_172 (dk_at dksX1_ofCall_0 9 rfl rfl)
theorem dX1_ofCall_10 : decode cX1_ofCall 10 = .ok (.iload_n 2, 1) := dk_28 (dk_at dksX1_ofCall_0 10 rfl rfl)
theorem dX1_ofCall_11 : decode cX1_ofCall 11 = .ok (.tableswitch 77 0 4 #[33, 39, 46, 53, 65], 33) := by decide +kernel
theorem dX1_ofCall_44 : decode cX1_ofCall 44 = .ok (.aload_n 0, 1) := dk_42 (dk_at dksX1_ofCall_2 0 rfl rfl)
theorem dX1_ofCall_45 : decode cX1_ofCall 45 = .ok (.iload_n 1, 1) := dk_27 (dk_at dksX1_ofCall_2 1 rfl rfl)
theorem dX1_ofCall_46 : decode cX1_ofCall 46 = .ok (.invokevirtual 147, 3) := dk_182 0 147 (dk_at dksX1_ofCall_2 2 rfl rfl)
theorem dX1_ofCall_49 : decode cX1_ofCall 49 = .ok (.ireturn, 1) := dk_172 (dk_at dksX1_ofCall_2 5 rfl rfl)
theorem dX1_ofCall_50 : decode cX1_ofCall 50 = .ok (.aload_n 0, 1) := dk_42 (dk_at dksX1_ofCall_2 6 rfl rfl)
theorem dX1_ofCall_51 : decode cX1_ofCall 51 = .ok (.getfield 25, 3) := dk_180 0 25 (dk_at dksX1_ofCall_2 7 rfl rfl)
theorem dX1_ofCall_54 : decode cX1_ofCall 54 = .ok (.iload_n 1, 1) := dk_27 (dk_at dksX1_ofCall_2 10 rfl rfl)
theorem dX1_ofCall_55 : decode cX1_ofCall 55 = .ok (.iaload, 1) := dk_46 (dk_at dksX1_ofCall_2 11 rfl rfl)
theorem dX1_ofCall_56 : decode cX1_ofCall 56 = .ok (.ireturn, 1) := dk_172 (dk_at dksX1_ofCall_2 12 rfl rfl)
theorem dX1_ofCall_57 : decode cX1_ofCall 57 = .ok (.aload_n 0, 1) := dk_42 (dk_at dksX1_ofCall_2 13 rfl rfl)
theorem dX1_ofCall_58 : decode cX1_ofCall 58 = .ok (.getfield 28, 3) := dk_180 0 28 (dk_at dksX1_ofCall_2 14 rfl rfl)
theorem dX1_ofCall_61 : decode cX1_ofCall 61 = .ok (.iload_n 1, 1) := dk_27 (dk_at dksX1_ofCall_2 17 rfl rfl)
theorem dX1_ofCall_62 : decode cX1_ofCall 62 = .ok (.iaload, 1) := dk_46 (dk_at dksX1_ofCall_2 18 rfl rfl)
theorem dX1_ofCall_63 : decode cX1_ofCall 63 = .ok (.ireturn, 1) := dk_172 (dk_at dksX1_ofCall_2 19 rfl rfl)
theorem dX1_ofCall_64 : decode cX1_ofCall 64 = .ok (.aload_n 0, 1) := dk_42 (dk_at dksX1_ofCall_2 20 rfl rfl)
theorem dX1_ofCall_65 : decode cX1_ofCall 65 = .ok (.iload_n 1, 1) := dk_27 (dk_at dksX1_ofCall_2 21 rfl rfl)
theorem dX1_ofCall_66 : decode cX1_ofCall 66 = .ok (.aload_n 0, 1) := dk_42 (dk_at dksX1_ofCall_2 22 rfl rfl)
theorem dX1_ofCall_67 : decode cX1_ofCall 67 = .ok (.getfield 25, 3) := dk_180 0 25 (dk_at dksX1_ofCall_3 0 rfl rfl)
theorem dX1_ofCall_70 : decode cX1_ofCall 70 = .ok (.iload_n 1, 1) := dk_27 (dk_at dksX1_ofCall_3 3 rfl rfl)
theorem dX1_ofCall_71 : decode cX1_ofCall 71 = .ok (.iaload, 1) := dk_46 (dk_at dksX1_ofCall_3 4 rfl rfl)
theorem dX1_ofCall_72 : decode cX1_ofCall 72 = .ok (.invokevirtual 138, 3) := dk_182 0 138 (dk_at dksX1_ofCall_3 5 rfl rfl)
theorem dX1_ofCall_75 : decode cX1_ofCall 75 = .ok (.ireturn, 1) := dk_172 (dk_at dksX1_ofCall_3 8 rfl rfl)
theorem dX1_ofCall_76 : decode cX1_ofCall 76 = .ok (.aload_n 0, 1) := dk_42 (dk_at dksX1_ofCall_3 9 rfl rfl)
theorem dX1_ofCall_77 : decode cX1_ofCall 77 = .ok (.iload_n 1, 1) := dk_27 (dk_at dksX1_ofCall_3 10 rfl rfl)
theorem dX1_ofCall_78 : decode cX1_ofCall 78 = .ok (.aload_n 0, 1) := dk_42 (dk_at dksX1_ofCall_3 11 rfl rfl)
theorem dX1_ofCall_79 : decode cX1_ofCall 79 = .ok (.getfield 28, 3) := dk_180 0 28 (dk_at dksX1_ofCall_3 12 rfl rfl)
theorem dX1_ofCall_82 : decode cX1_ofCall 82 = .ok (.iload_n 1, 1) := dk_27 (dk_at dksX1_ofCall_3 15 rfl rfl)
theorem dX1_ofCall_83 : decode cX1_ofCall 83 = .ok (.iaload, 1) := dk_46 (dk_at dksX1_ofCall_3 16 rfl rfl)
theorem dX1_ofCall_84 : decode cX1_ofCall 84 = .ok (.invokevirtual 138, 3) := dk_182 0 138 (dk_at dksX1_ofCall_3 17 rfl rfl)
theorem dX1_ofCall_87 : decode cX1_ofCall 87 = .ok (.ireturn, 1) := dk_172 (dk_at dksX1_ofCall_3 20 rfl rfl)
theorem dX1_ofCall_88 : decode cX1_ofCall 88 = .ok (.bipush (-2), 2) := dk_16 254 (dk_at dksX1_ofCall_3 21 rfl rfl)
theorem dX1_ofCall_90 : decode cX1_ofCall 90 = .ok (.ireturn, 1) := dk_172 (dk_at dksX1_ofCall_3 23 rfl rfl)
abbrev cX1_isCall : ByteArray := prog_16_method_24_code
def yX1_isCall : MethodName := ⟨RX1, "isCall", "(I)Z"⟩
def dkwX1_isCall_0 : List UInt8 := [27, 155, 0, 15, 27, 42, 180, 0, 103, 162, 0, 7, 4, 167, 0, 4, 3, 172]
abbrev dktX1_isCall_0 : List UInt8 := dkwX1_isCall_0 ++ []
theorem dksX1_isCall_0 : cX1_isCall.data.toList.drop 0 = dktX1_isCall_0 := by decide +kernel
theorem dX1_isCall_0 : decode cX1_isCall 0 = .ok (.iload_n 1, 1) := dk_27 (dk_at dksX1_isCall_0 0 rfl rfl)
theorem dX1_isCall_1 : decode cX1_isCall 1 = .ok (.ifCond .lt 15, 3) := dk_155 0 15 (dk_at dksX1_isCall_0 1 rfl rfl)
theorem dX1_isCall_4 : decode cX1_isCall 4 = .ok (.iload_n 1, 1) := dk_27 (dk_at dksX1_isCall_0 4 rfl rfl)
theorem dX1_isCall_5 : decode cX1_isCall 5 = .ok (.aload_n 0, 1) := dk_42 (dk_at dksX1_isCall_0 5 rfl rfl)
theorem dX1_isCall_6 : decode cX1_isCall 6 = .ok (.getfield 103, 3) := dk_180 0 103 (dk_at dksX1_isCall_0 6 rfl rfl)
theorem dX1_isCall_9 : decode cX1_isCall 9 = .ok (.if_icmp .ge 7, 3) := dk_162 0 7 (dk_at dksX1_isCall_0 9 rfl rfl)
theorem dX1_isCall_12 : decode cX1_isCall 12 = .ok (.iconst 1, 1) := dk_4 (dk_at dksX1_isCall_0 12 rfl rfl)
theorem dX1_isCall_13 : decode cX1_isCall 13 = .ok (.goto 4, 3) := dk_167 0 4 (dk_at dksX1_isCall_0 13 rfl rfl)
theorem dX1_isCall_16 : decode cX1_isCall 16 = .ok (.iconst 0, 1) := dk_3 (dk_at dksX1_isCall_0 16 rfl rfl)
theorem dX1_isCall_17 : decode cX1_isCall 17 = .ok (.ireturn, 1) := dk_172 (dk_at dksX1_isCall_0 17 rfl rfl)
abbrev cX1_kindOf : ByteArray := prog_16_method_26_code
def yX1_kindOf : MethodName := ⟨RX1, "kindOf", "(I)I"⟩
def dkwX1_kindOf_3 : List UInt8 := [167, 0, 12, 29, 153, 0, 7, 5, 167, 0, 4, 4, 172]
abbrev dktX1_kindOf_3 : List UInt8 := dkwX1_kindOf_3 ++ []
def dkwX1_kindOf_2 : List UInt8 := [4, 42, 180, 0, 82, 120, 4, 100, 160, 0, 7, 4, 167, 0, 4, 3, 62, 28, 154, 0, 7, 3]
abbrev dktX1_kindOf_2 : List UInt8 := dkwX1_kindOf_2 ++ dktX1_kindOf_3
def dkwX1_kindOf_1 : List UInt8 := [182, 0, 138, 184, 0, 141, 96, 61, 42, 27, 4, 96, 182, 0, 128, 42, 180, 0, 25, 27, 46, 184, 0, 110]
abbrev dktX1_kindOf_1 : List UInt8 := dkwX1_kindOf_1 ++ dktX1_kindOf_2
def dkwX1_kindOf_0 : List UInt8 := [42, 27, 42, 180, 0, 25, 27, 46, 182, 0, 138, 184, 0, 141, 42, 27, 42, 180, 0, 28, 27, 46]
abbrev dktX1_kindOf_0 : List UInt8 := dkwX1_kindOf_0 ++ dktX1_kindOf_1
theorem dksX1_kindOf_0 : cX1_kindOf.data.toList.drop 0 = dktX1_kindOf_0 := by decide +kernel
theorem dksX1_kindOf_1 : cX1_kindOf.data.toList.drop 22 = dktX1_kindOf_1 := dk_seg dksX1_kindOf_0 22 rfl rfl
theorem dksX1_kindOf_2 : cX1_kindOf.data.toList.drop 46 = dktX1_kindOf_2 := dk_seg dksX1_kindOf_1 24 rfl rfl
theorem dksX1_kindOf_3 : cX1_kindOf.data.toList.drop 68 = dktX1_kindOf_3 := dk_seg dksX1_kindOf_2 22 rfl rfl
theorem dX1_kindOf_0 : decode cX1_kindOf 0 = .ok (.aload_n 0, 1) := dk_42 (dk_at dksX1_kindOf_0 0 rfl rfl)
theorem dX1_kindOf_1 : decode cX1_kindOf 1 = .ok (.iload_n 1, 1) := dk_27 (dk_at dksX1_kindOf_0 1 rfl rfl)
theorem dX1_kindOf_2 : decode cX1_kindOf 2 = .ok (.aload_n 0, 1) := dk_42 (dk_at dksX1_kindOf_0 2 rfl rfl)
theorem dX1_kindOf_3 : decode cX1_kindOf 3 = .ok (.getfield 25, 3) := dk_180 0 25 (dk_at dksX1_kindOf_0 3 rfl rfl)
theorem dX1_kindOf_6 : decode cX1_kindOf 6 = .ok (.iload_n 1, 1) := dk_27 (dk_at dksX1_kindOf_0 6 rfl rfl)
theorem dX1_kindOf_7 : decode cX1_kindOf 7 = .ok (.iaload, 1) := dk_46 (dk_at dksX1_kindOf_0 7 rfl rfl)
theorem dX1_kindOf_8 : decode cX1_kindOf 8 = .ok (.invokevirtual 138, 3) := dk_182 0 138 (dk_at dksX1_kindOf_0 8 rfl rfl)
theorem dX1_kindOf_11 : decode cX1_kindOf 11 = .ok (.invokestatic 141, 3) := dk_184 0 141 (dk_at dksX1_kindOf_0 11 rfl rfl)
theorem dX1_kindOf_14 : decode cX1_kindOf 14 = .ok (.aload_n 0, 1) := dk_42 (dk_at dksX1_kindOf_0 14 rfl rfl)
theorem dX1_kindOf_15 : decode cX1_kindOf 15 = .ok (.iload_n 1, 1) := dk_27 (dk_at dksX1_kindOf_0 15 rfl rfl)
theorem dX1_kindOf_16 : decode cX1_kindOf 16 = .ok (.aload_n 0, 1) := dk_42 (dk_at dksX1_kindOf_0 16 rfl rfl)
theorem dX1_kindOf_17 : decode cX1_kindOf 17 = .ok (.getfield 28, 3) := dk_180 0 28 (dk_at dksX1_kindOf_0 17 rfl rfl)
theorem dX1_kindOf_20 : decode cX1_kindOf 20 = .ok (.iload_n 1, 1) := dk_27 (dk_at dksX1_kindOf_0 20 rfl rfl)
theorem dX1_kindOf_21 : decode cX1_kindOf 21 = .ok (.iaload, 1) := dk_46 (dk_at dksX1_kindOf_0 21 rfl rfl)
theorem dX1_kindOf_22 : decode cX1_kindOf 22 = .ok (.invokevirtual 138, 3) := dk_182 0 138 (dk_at dksX1_kindOf_1 0 rfl rfl)
theorem dX1_kindOf_25 : decode cX1_kindOf 25 = .ok (.invokestatic 141, 3) := dk_184 0 141 (dk_at dksX1_kindOf_1 3 rfl rfl)
theorem dX1_kindOf_28 : decode cX1_kindOf 28 = .ok (.iadd, 1) := dk_96 (dk_at dksX1_kindOf_1 6 rfl rfl)
theorem dX1_kindOf_29 : decode cX1_kindOf 29 = .ok (.istore_n 2, 1) := dk_61 (dk_at dksX1_kindOf_1 7 rfl rfl)
theorem dX1_kindOf_30 : decode cX1_kindOf 30 = .ok (.aload_n 0, 1) := dk_42 (dk_at dksX1_kindOf_1 8 rfl rfl)
theorem dX1_kindOf_31 : decode cX1_kindOf 31 = .ok (.iload_n 1, 1) := dk_27 (dk_at dksX1_kindOf_1 9 rfl rfl)
theorem dX1_kindOf_32 : decode cX1_kindOf 32 = .ok (.iconst 1, 1) := dk_4 (dk_at dksX1_kindOf_1 10 rfl rfl)
theorem dX1_kindOf_33 : decode cX1_kindOf 33 = .ok (.iadd, 1) := dk_96 (dk_at dksX1_kindOf_1 11 rfl rfl)
theorem dX1_kindOf_34 : decode cX1_kindOf 34 = .ok (.invokevirtual 128, 3) := dk_182 0 128 (dk_at dksX1_kindOf_1 12 rfl rfl)
theorem dX1_kindOf_37 : decode cX1_kindOf 37 = .ok (.aload_n 0, 1) := dk_42 (dk_at dksX1_kindOf_1 15 rfl rfl)
theorem dX1_kindOf_38 : decode cX1_kindOf 38 = .ok (.getfield 25, 3) := dk_180 0 25 (dk_at dksX1_kindOf_1 16 rfl rfl)
theorem dX1_kindOf_41 : decode cX1_kindOf 41 = .ok (.iload_n 1, 1) := dk_27 (dk_at dksX1_kindOf_1 19 rfl rfl)
theorem dX1_kindOf_42 : decode cX1_kindOf 42 = .ok (.iaload, 1) := dk_46 (dk_at dksX1_kindOf_1 20 rfl rfl)
theorem dX1_kindOf_43 : decode cX1_kindOf 43 = .ok (.invokestatic 110, 3) := dk_184 0 110 (dk_at dksX1_kindOf_1 21 rfl rfl)
theorem dX1_kindOf_46 : decode cX1_kindOf 46 = .ok (.iconst 1, 1) := dk_4 (dk_at dksX1_kindOf_2 0 rfl rfl)
theorem dX1_kindOf_47 : decode cX1_kindOf 47 = .ok (.aload_n 0, 1) := dk_42 (dk_at dksX1_kindOf_2 1 rfl rfl)
theorem dX1_kindOf_48 : decode cX1_kindOf 48 = .ok (.getfield 82, 3) := dk_180 0 82 (dk_at dksX1_kindOf_2 2 rfl rfl)
theorem dX1_kindOf_51 : decode cX1_kindOf 51 = .ok (.ishl, 1) := dk_120 (dk_at dksX1_kindOf_2 5 rfl rfl)
theorem dX1_kindOf_52 : decode cX1_kindOf 52 = .ok (.iconst 1, 1) := dk_4 (dk_at dksX1_kindOf_2 6 rfl rfl)
theorem dX1_kindOf_53 : decode cX1_kindOf 53 = .ok (.isub, 1) := dk_100 (dk_at dksX1_kindOf_2 7 rfl rfl)
theorem dX1_kindOf_54 : decode cX1_kindOf 54 = .ok (.if_icmp .ne 7, 3) := dk_160 0 7 (dk_at dksX1_kindOf_2 8 rfl rfl)
theorem dX1_kindOf_57 : decode cX1_kindOf 57 = .ok (.iconst 1, 1) := dk_4 (dk_at dksX1_kindOf_2 11 rfl rfl)
theorem dX1_kindOf_58 : decode cX1_kindOf 58 = .ok (.goto 4, 3) := dk_167 0 4 (dk_at dksX1_kindOf_2 12 rfl rfl)
theorem dX1_kindOf_61 : decode cX1_kindOf 61 = .ok (.iconst 0, 1) := dk_3 (dk_at dksX1_kindOf_2 15 rfl rfl)
theorem dX1_kindOf_62 : decode cX1_kindOf 62 = .ok (.istore_n 3, 1) := dk_62 (dk_at dksX1_kindOf_2 16 rfl rfl)
theorem dX1_kindOf_63 : decode cX1_kindOf 63 = .ok (.iload_n 2, 1) := dk_28 (dk_at dksX1_kindOf_2 17 rfl rfl)
theorem dX1_kindOf_64 : decode cX1_kindOf 64 = .ok (.ifCond .ne 7, 3) := dk_154 0 7 (dk_at dksX1_kindOf_2 18 rfl rfl)
theorem dX1_kindOf_67 : decode cX1_kindOf 67 = .ok (.iconst 0, 1) := dk_3 (dk_at dksX1_kindOf_2 21 rfl rfl)
theorem dX1_kindOf_68 : decode cX1_kindOf 68 = .ok (.goto 12, 3) := dk_167 0 12 (dk_at dksX1_kindOf_3 0 rfl rfl)
theorem dX1_kindOf_71 : decode cX1_kindOf 71 = .ok (.iload_n 3, 1) := dk_29 (dk_at dksX1_kindOf_3 3 rfl rfl)
theorem dX1_kindOf_72 : decode cX1_kindOf 72 = .ok (.ifCond .eq 7, 3) := dk_153 0 7 (dk_at dksX1_kindOf_3 4 rfl rfl)
theorem dX1_kindOf_75 : decode cX1_kindOf 75 = .ok (.iconst 2, 1) := dk_5 (dk_at dksX1_kindOf_3 7 rfl rfl)
theorem dX1_kindOf_76 : decode cX1_kindOf 76 = .ok (.goto 4, 3) := dk_167 0 4 (dk_at dksX1_kindOf_3 8 rfl rfl)
theorem dX1_kindOf_79 : decode cX1_kindOf 79 = .ok (.iconst 1, 1) := dk_4 (dk_at dksX1_kindOf_3 11 rfl rfl)
theorem dX1_kindOf_80 : decode cX1_kindOf 80 = .ok (.ireturn, 1) := dk_172 (dk_at dksX1_kindOf_3 12 rfl rfl)
abbrev cX1_learnt : ByteArray := prog_16_method_25_code
def yX1_learnt : MethodName := ⟨RX1, "learnt", "(II)I"⟩
def dkwX1_learnt_0 : List UInt8 := [42, 27, 4, 96, 182, 0, 128, 28, 184, 0, 110, 42, 27, 182, 0, 128, 28, 184, 0, 110, 2, 130, 126, 172]
abbrev dktX1_learnt_0 : List UInt8 := dkwX1_learnt_0 ++ []
theorem dksX1_learnt_0 : cX1_learnt.data.toList.drop 0 = dktX1_learnt_0 := by decide +kernel
theorem dX1_learnt_0 : decode cX1_learnt 0 = .ok (.aload_n 0, 1) := dk_42 (dk_at dksX1_learnt_0 0 rfl rfl)
theorem dX1_learnt_1 : decode cX1_learnt 1 = .ok (.iload_n 1, 1) := dk_27 (dk_at dksX1_learnt_0 1 rfl rfl)
theorem dX1_learnt_2 : decode cX1_learnt 2 = .ok (.iconst 1, 1) := dk_4 (dk_at dksX1_learnt_0 2 rfl rfl)
theorem dX1_learnt_3 : decode cX1_learnt 3 = .ok (.iadd, 1) := dk_96 (dk_at dksX1_learnt_0 3 rfl rfl)
theorem dX1_learnt_4 : decode cX1_learnt 4 = .ok (.invokevirtual 128, 3) := dk_182 0 128 (dk_at dksX1_learnt_0 4 rfl rfl)
theorem dX1_learnt_7 : decode cX1_learnt 7 = .ok (.iload_n 2, 1) := dk_28 (dk_at dksX1_learnt_0 7 rfl rfl)
theorem dX1_learnt_8 : decode cX1_learnt 8 = .ok (.invokestatic 110, 3) := dk_184 0 110 (dk_at dksX1_learnt_0 8 rfl rfl)
theorem dX1_learnt_11 : decode cX1_learnt 11 = .ok (.aload_n 0, 1) := dk_42 (dk_at dksX1_learnt_0 11 rfl rfl)
theorem dX1_learnt_12 : decode cX1_learnt 12 = .ok (.iload_n 1, 1) := dk_27 (dk_at dksX1_learnt_0 12 rfl rfl)
theorem dX1_learnt_13 : decode cX1_learnt 13 = .ok (.invokevirtual 128, 3) := dk_182 0 128 (dk_at dksX1_learnt_0 13 rfl rfl)
theorem dX1_learnt_16 : decode cX1_learnt 16 = .ok (.iload_n 2, 1) := dk_28 (dk_at dksX1_learnt_0 16 rfl rfl)
theorem dX1_learnt_17 : decode cX1_learnt 17 = .ok (.invokestatic 110, 3) := dk_184 0 110 (dk_at dksX1_learnt_0 17 rfl rfl)
theorem dX1_learnt_20 : decode cX1_learnt 20 = .ok (.iconst (-1), 1) := dk_2 (dk_at dksX1_learnt_0 20 rfl rfl)
theorem dX1_learnt_21 : decode cX1_learnt 21 = .ok (.ixor, 1) := dk_130 (dk_at dksX1_learnt_0 21 rfl rfl)
theorem dX1_learnt_22 : decode cX1_learnt 22 = .ok (.iand, 1) := dk_126 (dk_at dksX1_learnt_0 22 rfl rfl)
theorem dX1_learnt_23 : decode cX1_learnt 23 = .ok (.ireturn, 1) := dk_172 (dk_at dksX1_learnt_0 23 rfl rfl)
abbrev cX1_bitsOf : ByteArray := prog_16_method_7_code
def yX1_bitsOf : MethodName := ⟨RX1, "bitsOf", "(I)I"⟩
def dkwX1_bitsOf_1 : List UInt8 := [27, 172]
abbrev dktX1_bitsOf_1 : List UInt8 := dkwX1_bitsOf_1 ++ []
def dkwX1_bitsOf_0 : List UInt8 := [3, 60, 3, 61, 28, 16, 16, 162, 0, 17, 27, 26, 28, 122, 4, 126, 96, 60, 132, 2, 1, 167, 255, 239]
abbrev dktX1_bitsOf_0 : List UInt8 := dkwX1_bitsOf_0 ++ dktX1_bitsOf_1
theorem dksX1_bitsOf_0 : cX1_bitsOf.data.toList.drop 0 = dktX1_bitsOf_0 := by decide +kernel
theorem dksX1_bitsOf_1 : cX1_bitsOf.data.toList.drop 24 = dktX1_bitsOf_1 := dk_seg dksX1_bitsOf_0 24 rfl rfl
theorem dX1_bitsOf_0 : decode cX1_bitsOf 0 = .ok (.iconst 0, 1) := dk_3 (dk_at dksX1_bitsOf_0 0 rfl rfl)
theorem dX1_bitsOf_1 : decode cX1_bitsOf 1 = .ok (.istore_n 1, 1) := dk_60 (dk_at dksX1_bitsOf_0 1 rfl rfl)
theorem dX1_bitsOf_2 : decode cX1_bitsOf 2 = .ok (.iconst 0, 1) := dk_3 (dk_at dksX1_bitsOf_0 2 rfl rfl)
theorem dX1_bitsOf_3 : decode cX1_bitsOf 3 = .ok (.istore_n 2, 1) := dk_61 (dk_at dksX1_bitsOf_0 3 rfl rfl)
theorem dX1_bitsOf_4 : decode cX1_bitsOf 4 = .ok (.iload_n 2, 1) := dk_28 (dk_at dksX1_bitsOf_0 4 rfl rfl)
theorem dX1_bitsOf_5 : decode cX1_bitsOf 5 = .ok (.bipush 16, 2) := dk_16 16 (dk_at dksX1_bitsOf_0 5 rfl rfl)
theorem dX1_bitsOf_7 : decode cX1_bitsOf 7 = .ok (.if_icmp .ge 17, 3) := dk_162 0 17 (dk_at dksX1_bitsOf_0 7 rfl rfl)
theorem dX1_bitsOf_10 : decode cX1_bitsOf 10 = .ok (.iload_n 1, 1) := dk_27 (dk_at dksX1_bitsOf_0 10 rfl rfl)
theorem dX1_bitsOf_11 : decode cX1_bitsOf 11 = .ok (.iload_n 0, 1) := dk_26 (dk_at dksX1_bitsOf_0 11 rfl rfl)
theorem dX1_bitsOf_12 : decode cX1_bitsOf 12 = .ok (.iload_n 2, 1) := dk_28 (dk_at dksX1_bitsOf_0 12 rfl rfl)
theorem dX1_bitsOf_13 : decode cX1_bitsOf 13 = .ok (.ishr, 1) := dk_122 (dk_at dksX1_bitsOf_0 13 rfl rfl)
theorem dX1_bitsOf_14 : decode cX1_bitsOf 14 = .ok (.iconst 1, 1) := dk_4 (dk_at dksX1_bitsOf_0 14 rfl rfl)
theorem dX1_bitsOf_15 : decode cX1_bitsOf 15 = .ok (.iand, 1) := dk_126 (dk_at dksX1_bitsOf_0 15 rfl rfl)
theorem dX1_bitsOf_16 : decode cX1_bitsOf 16 = .ok (.iadd, 1) := dk_96 (dk_at dksX1_bitsOf_0 16 rfl rfl)
theorem dX1_bitsOf_17 : decode cX1_bitsOf 17 = .ok (.istore_n 1, 1) := dk_60 (dk_at dksX1_bitsOf_0 17 rfl rfl)
theorem dX1_bitsOf_18 : decode cX1_bitsOf 18 = .ok (.iinc 2 1, 3) := dk_132 2 1 (dk_at dksX1_bitsOf_0 18 rfl rfl)
theorem dX1_bitsOf_21 : decode cX1_bitsOf 21 = .ok (.goto (-17), 3) := dk_167 255 239 (dk_at dksX1_bitsOf_0 21 rfl rfl)
theorem dX1_bitsOf_24 : decode cX1_bitsOf 24 = .ok (.iload_n 1, 1) := dk_27 (dk_at dksX1_bitsOf_1 0 rfl rfl)
theorem dX1_bitsOf_25 : decode cX1_bitsOf 25 = .ok (.ireturn, 1) := dk_172 (dk_at dksX1_bitsOf_1 1 rfl rfl)
abbrev cX1_back : ByteArray := prog_16_method_28_code
def yX1_back : MethodName := ⟨RX1, "back", "()I"⟩
def dkwX1_back_1 : List UInt8 := [172]
abbrev dktX1_back_1 : List UInt8 := dkwX1_back_1 ++ []
def dkwX1_back_0 : List UInt8 := [42, 180, 0, 103, 154, 0, 6, 16, 253, 172, 42, 89, 180, 0, 103, 4, 100, 181, 0, 103, 42, 180, 0, 103]
abbrev dktX1_back_0 : List UInt8 := dkwX1_back_0 ++ dktX1_back_1
theorem dksX1_back_0 : cX1_back.data.toList.drop 0 = dktX1_back_0 := by decide +kernel
theorem dksX1_back_1 : cX1_back.data.toList.drop 24 = dktX1_back_1 := dk_seg dksX1_back_0 24 rfl rfl
theorem dX1_back_0 : decode cX1_back 0 = .ok (.aload_n 0, 1) := dk_42 (dk_at dksX1_back_0 0 rfl rfl)
theorem dX1_back_1 : decode cX1_back 1 = .ok (.getfield 103, 3) := dk_180 0 103 (dk_at dksX1_back_0 1 rfl rfl)
theorem dX1_back_4 : decode cX1_back 4 = .ok (.ifCond .ne 6, 3) := dk_154 0 6 (dk_at dksX1_back_0 4 rfl rfl)
theorem dX1_back_7 : decode cX1_back 7 = .ok (.bipush (-3), 2) := dk_16 253 (dk_at dksX1_back_0 7 rfl rfl)
theorem dX1_back_9 : decode cX1_back 9 = .ok (.ireturn, 1) := dk_172 (dk_at dksX1_back_0 9 rfl rfl)
theorem dX1_back_10 : decode cX1_back 10 = .ok (.aload_n 0, 1) := dk_42 (dk_at dksX1_back_0 10 rfl rfl)
theorem dX1_back_11 : decode cX1_back 11 = .ok (.dup, 1) := dk_89 (dk_at dksX1_back_0 11 rfl rfl)
theorem dX1_back_12 : decode cX1_back 12 = .ok (.getfield 103, 3) := dk_180 0 103 (dk_at dksX1_back_0 12 rfl rfl)
theorem dX1_back_15 : decode cX1_back 15 = .ok (.iconst 1, 1) := dk_4 (dk_at dksX1_back_0 15 rfl rfl)
theorem dX1_back_16 : decode cX1_back 16 = .ok (.isub, 1) := dk_100 (dk_at dksX1_back_0 16 rfl rfl)
theorem dX1_back_17 : decode cX1_back 17 = .ok (.putfield 103, 3) := dk_181 0 103 (dk_at dksX1_back_0 17 rfl rfl)
theorem dX1_back_20 : decode cX1_back 20 = .ok (.aload_n 0, 1) := dk_42 (dk_at dksX1_back_0 20 rfl rfl)
theorem dX1_back_21 : decode cX1_back 21 = .ok (.getfield 103, 3) := dk_180 0 103 (dk_at dksX1_back_0 21 rfl rfl)
theorem dX1_back_24 : decode cX1_back 24 = .ok (.ireturn, 1) := dk_172 (dk_at dksX1_back_1 0 rfl rfl)
abbrev cX1_may : ByteArray := prog_16_method_30_code
def yX1_may : MethodName := ⟨RX1, "may", "(II)I"⟩
def dkwX1_may_3 : List UInt8 := [132, 4, 1, 167, 255, 206, 29, 172]
abbrev dktX1_may_3 : List UInt8 := dkwX1_may_3 ++ []
def dkwX1_may_2 : List UInt8 := [182, 0, 135, 28, 21, 4, 184, 0, 153, 153, 0, 10, 4, 21, 4, 120, 167, 0, 4, 3, 128, 62]
abbrev dktX1_may_2 : List UInt8 := dkwX1_may_2 ++ dktX1_may_3
def dkwX1_may_1 : List UInt8 := [42, 180, 0, 82, 162, 0, 47, 29, 42, 180, 0, 19, 27, 42, 42, 180, 0, 103, 182, 0, 128, 42, 27]
abbrev dktX1_may_1 : List UInt8 := dkwX1_may_1 ++ dktX1_may_2
def dkwX1_may_0 : List UInt8 := [27, 184, 0, 150, 153, 0, 11, 42, 28, 182, 0, 125, 154, 0, 5, 2, 172, 3, 62, 3, 54, 4, 21, 4]
abbrev dktX1_may_0 : List UInt8 := dkwX1_may_0 ++ dktX1_may_1
theorem dksX1_may_0 : cX1_may.data.toList.drop 0 = dktX1_may_0 := by decide +kernel
theorem dksX1_may_1 : cX1_may.data.toList.drop 24 = dktX1_may_1 := dk_seg dksX1_may_0 24 rfl rfl
theorem dksX1_may_2 : cX1_may.data.toList.drop 47 = dktX1_may_2 := dk_seg dksX1_may_1 23 rfl rfl
theorem dksX1_may_3 : cX1_may.data.toList.drop 69 = dktX1_may_3 := dk_seg dksX1_may_2 22 rfl rfl
theorem dX1_may_0 : decode cX1_may 0 = .ok (.iload_n 1, 1) := dk_27 (dk_at dksX1_may_0 0 rfl rfl)
theorem dX1_may_1 : decode cX1_may 1 = .ok (.invokestatic 150, 3) := dk_184 0 150 (dk_at dksX1_may_0 1 rfl rfl)
theorem dX1_may_4 : decode cX1_may 4 = .ok (.ifCond .eq 11, 3) := dk_153 0 11 (dk_at dksX1_may_0 4 rfl rfl)
theorem dX1_may_7 : decode cX1_may 7 = .ok (.aload_n 0, 1) := dk_42 (dk_at dksX1_may_0 7 rfl rfl)
theorem dX1_may_8 : decode cX1_may 8 = .ok (.iload_n 2, 1) := dk_28 (dk_at dksX1_may_0 8 rfl rfl)
theorem dX1_may_9 : decode cX1_may 9 = .ok (.invokevirtual 125, 3) := dk_182 0 125 (dk_at dksX1_may_0 9 rfl rfl)
theorem dX1_may_12 : decode cX1_may 12 = .ok (.ifCond .ne 5, 3) := dk_154 0 5 (dk_at dksX1_may_0 12 rfl rfl)
theorem dX1_may_15 : decode cX1_may 15 = .ok (.iconst (-1), 1) := dk_2 (dk_at dksX1_may_0 15 rfl rfl)
theorem dX1_may_16 : decode cX1_may 16 = .ok (.ireturn, 1) := dk_172 (dk_at dksX1_may_0 16 rfl rfl)
theorem dX1_may_17 : decode cX1_may 17 = .ok (.iconst 0, 1) := dk_3 (dk_at dksX1_may_0 17 rfl rfl)
theorem dX1_may_18 : decode cX1_may 18 = .ok (.istore_n 3, 1) := dk_62 (dk_at dksX1_may_0 18 rfl rfl)
theorem dX1_may_19 : decode cX1_may 19 = .ok (.iconst 0, 1) := dk_3 (dk_at dksX1_may_0 19 rfl rfl)
theorem dX1_may_20 : decode cX1_may 20 = .ok (.istore 4, 2) := dk_54 4 (dk_at dksX1_may_0 20 rfl rfl)
theorem dX1_may_22 : decode cX1_may 22 = .ok (.iload 4, 2) := dk_21 4 (dk_at dksX1_may_0 22 rfl rfl)
theorem dX1_may_24 : decode cX1_may 24 = .ok (.aload_n 0, 1) := dk_42 (dk_at dksX1_may_1 0 rfl rfl)
theorem dX1_may_25 : decode cX1_may 25 = .ok (.getfield 82, 3) := dk_180 0 82 (dk_at dksX1_may_1 1 rfl rfl)
theorem dX1_may_28 : decode cX1_may 28 = .ok (.if_icmp .ge 47, 3) := dk_162 0 47 (dk_at dksX1_may_1 4 rfl rfl)
theorem dX1_may_31 : decode cX1_may 31 = .ok (.iload_n 3, 1) := dk_29 (dk_at dksX1_may_1 7 rfl rfl)
theorem dX1_may_32 : decode cX1_may 32 = .ok (.aload_n 0, 1) := dk_42 (dk_at dksX1_may_1 8 rfl rfl)
theorem dX1_may_33 : decode cX1_may 33 = .ok (.getfield 19, 3) := dk_180 0 19 (dk_at dksX1_may_1 9 rfl rfl)
theorem dX1_may_36 : decode cX1_may 36 = .ok (.iload_n 1, 1) := dk_27 (dk_at dksX1_may_1 12 rfl rfl)
theorem dX1_may_37 : decode cX1_may 37 = .ok (.aload_n 0, 1) := dk_42 (dk_at dksX1_may_1 13 rfl rfl)
theorem dX1_may_38 : decode cX1_may 38 = .ok (.aload_n 0, 1) := dk_42 (dk_at dksX1_may_1 14 rfl rfl)
theorem dX1_may_39 : decode cX1_may 39 = .ok (.getfield 103, 3) := dk_180 0 103 (dk_at dksX1_may_1 15 rfl rfl)
theorem dX1_may_42 : decode cX1_may 42 = .ok (.invokevirtual 128, 3) := dk_182 0 128 (dk_at dksX1_may_1 18 rfl rfl)
theorem dX1_may_45 : decode cX1_may 45 = .ok (.aload_n 0, 1) := dk_42 (dk_at dksX1_may_1 21 rfl rfl)
theorem dX1_may_46 : decode cX1_may 46 = .ok (.iload_n 1, 1) := dk_27 (dk_at dksX1_may_1 22 rfl rfl)
theorem dX1_may_47 : decode cX1_may 47 = .ok (.invokevirtual 135, 3) := dk_182 0 135 (dk_at dksX1_may_2 0 rfl rfl)
theorem dX1_may_50 : decode cX1_may 50 = .ok (.iload_n 2, 1) := dk_28 (dk_at dksX1_may_2 3 rfl rfl)
theorem dX1_may_51 : decode cX1_may 51 = .ok (.iload 4, 2) := dk_21 4 (dk_at dksX1_may_2 4 rfl rfl)
theorem dX1_may_53 : decode cX1_may 53 = .ok (.invokestatic 153, 3) := dk_184 0 153 (dk_at dksX1_may_2 6 rfl rfl)
theorem dX1_may_56 : decode cX1_may 56 = .ok (.ifCond .eq 10, 3) := dk_153 0 10 (dk_at dksX1_may_2 9 rfl rfl)
theorem dX1_may_59 : decode cX1_may 59 = .ok (.iconst 1, 1) := dk_4 (dk_at dksX1_may_2 12 rfl rfl)
theorem dX1_may_60 : decode cX1_may 60 = .ok (.iload 4, 2) := dk_21 4 (dk_at dksX1_may_2 13 rfl rfl)
theorem dX1_may_62 : decode cX1_may 62 = .ok (.ishl, 1) := dk_120 (dk_at dksX1_may_2 15 rfl rfl)
theorem dX1_may_63 : decode cX1_may 63 = .ok (.goto 4, 3) := dk_167 0 4 (dk_at dksX1_may_2 16 rfl rfl)
theorem dX1_may_66 : decode cX1_may 66 = .ok (.iconst 0, 1) := dk_3 (dk_at dksX1_may_2 19 rfl rfl)
theorem dX1_may_67 : decode cX1_may 67 = .ok (.ior, 1) := dk_128 (dk_at dksX1_may_2 20 rfl rfl)
theorem dX1_may_68 : decode cX1_may 68 = .ok (.istore_n 3, 1) := dk_62 (dk_at dksX1_may_2 21 rfl rfl)
theorem dX1_may_69 : decode cX1_may 69 = .ok (.iinc 4 1, 3) := dk_132 4 1 (dk_at dksX1_may_3 0 rfl rfl)
theorem dX1_may_72 : decode cX1_may 72 = .ok (.goto (-50), 3) := dk_167 255 206 (dk_at dksX1_may_3 3 rfl rfl)
theorem dX1_may_75 : decode cX1_may 75 = .ok (.iload_n 3, 1) := dk_29 (dk_at dksX1_may_3 6 rfl rfl)
theorem dX1_may_76 : decode cX1_may 76 = .ok (.ireturn, 1) := dk_172 (dk_at dksX1_may_3 7 rfl rfl)
abbrev cX1_isRule : ByteArray := prog_16_method_11_code
def yX1_isRule : MethodName := ⟨RX1, "isRule", "(I)Z"⟩
def dkwX1_isRule_0 : List UInt8 := [26, 3, 6, 184, 0, 78, 172]
abbrev dktX1_isRule_0 : List UInt8 := dkwX1_isRule_0 ++ []
theorem dksX1_isRule_0 : cX1_isRule.data.toList.drop 0 = dktX1_isRule_0 := by decide +kernel
theorem dX1_isRule_0 : decode cX1_isRule 0 = .ok (.iload_n 0, 1) := dk_26 (dk_at dksX1_isRule_0 0 rfl rfl)
theorem dX1_isRule_1 : decode cX1_isRule 1 = .ok (.iconst 0, 1) := dk_3 (dk_at dksX1_isRule_0 1 rfl rfl)
theorem dX1_isRule_2 : decode cX1_isRule 2 = .ok (.iconst 3, 1) := dk_6 (dk_at dksX1_isRule_0 2 rfl rfl)
theorem dX1_isRule_3 : decode cX1_isRule 3 = .ok (.invokestatic 78, 3) := dk_184 0 78 (dk_at dksX1_isRule_0 3 rfl rfl)
theorem dX1_isRule_6 : decode cX1_isRule 6 = .ok (.ireturn, 1) := dk_172 (dk_at dksX1_isRule_0 6 rfl rfl)
abbrev cX1_mayRing : ByteArray := prog_16_method_29_code
def yX1_mayRing : MethodName := ⟨RX1, "mayRing", "([IIIIII)Z"⟩
def dkwX1_mayRing_3 : List UInt8 := [184, 0, 106, 153, 0, 7, 4, 167, 0, 4, 3, 172]
abbrev dktX1_mayRing_3 : List UInt8 := dkwX1_mayRing_3 ++ []
def dkwX1_mayRing_2 : List UInt8 := [172, 28, 21, 4, 184, 0, 110, 28, 21, 5, 184, 0, 110, 159, 0, 20, 27, 153, 0, 12, 29, 21, 4]
abbrev dktX1_mayRing_2 : List UInt8 := dkwX1_mayRing_2 ++ dktX1_mayRing_3
def dkwX1_mayRing_1 : List UInt8 := [27, 4, 160, 0, 23, 28, 21, 4, 184, 0, 110, 21, 5, 184, 0, 106, 154, 0, 7, 4, 167, 0, 4, 3]
abbrev dktX1_mayRing_1 : List UInt8 := dkwX1_mayRing_1 ++ dktX1_mayRing_2
def dkwX1_mayRing_0 : List UInt8 := [21, 4, 21, 5, 159, 0, 18, 42, 28, 21, 4, 184, 0, 131, 21, 5, 184, 0, 106, 154, 0, 5, 3, 172]
abbrev dktX1_mayRing_0 : List UInt8 := dkwX1_mayRing_0 ++ dktX1_mayRing_1
theorem dksX1_mayRing_0 : cX1_mayRing.data.toList.drop 0 = dktX1_mayRing_0 := by decide +kernel
theorem dksX1_mayRing_1 : cX1_mayRing.data.toList.drop 24 = dktX1_mayRing_1 := dk_seg dksX1_mayRing_0 24 rfl rfl
theorem dksX1_mayRing_2 : cX1_mayRing.data.toList.drop 48 = dktX1_mayRing_2 := dk_seg dksX1_mayRing_1 24 rfl rfl
theorem dksX1_mayRing_3 : cX1_mayRing.data.toList.drop 71 = dktX1_mayRing_3 := dk_seg dksX1_mayRing_2 23 rfl rfl
theorem dX1_mayRing_0 : decode cX1_mayRing 0 = .ok (.iload 4, 2) := dk_21 4 (dk_at dksX1_mayRing_0 0 rfl rfl)
theorem dX1_mayRing_2 : decode cX1_mayRing 2 = .ok (.iload 5, 2) := dk_21 5 (dk_at dksX1_mayRing_0 2 rfl rfl)
theorem dX1_mayRing_4 : decode cX1_mayRing 4 = .ok (.if_icmp .eq 18, 3) := dk_159 0 18 (dk_at dksX1_mayRing_0 4 rfl rfl)
theorem dX1_mayRing_7 : decode cX1_mayRing 7 = .ok (.aload_n 0, 1) := dk_42 (dk_at dksX1_mayRing_0 7 rfl rfl)
theorem dX1_mayRing_8 : decode cX1_mayRing 8 = .ok (.iload_n 2, 1) := dk_28 (dk_at dksX1_mayRing_0 8 rfl rfl)
theorem dX1_mayRing_9 : decode cX1_mayRing 9 = .ok (.iload 4, 2) := dk_21 4 (dk_at dksX1_mayRing_0 9 rfl rfl)
theorem dX1_mayRing_11 : decode cX1_mayRing 11 = .ok (.invokestatic 131, 3) := dk_184 0 131 (dk_at dksX1_mayRing_0 11 rfl rfl)
theorem dX1_mayRing_14 : decode cX1_mayRing 14 = .ok (.iload 5, 2) := dk_21 5 (dk_at dksX1_mayRing_0 14 rfl rfl)
theorem dX1_mayRing_16 : decode cX1_mayRing 16 = .ok (.invokestatic 106, 3) := dk_184 0 106 (dk_at dksX1_mayRing_0 16 rfl rfl)
theorem dX1_mayRing_19 : decode cX1_mayRing 19 = .ok (.ifCond .ne 5, 3) := dk_154 0 5 (dk_at dksX1_mayRing_0 19 rfl rfl)
theorem dX1_mayRing_22 : decode cX1_mayRing 22 = .ok (.iconst 0, 1) := dk_3 (dk_at dksX1_mayRing_0 22 rfl rfl)
theorem dX1_mayRing_23 : decode cX1_mayRing 23 = .ok (.ireturn, 1) := dk_172 (dk_at dksX1_mayRing_0 23 rfl rfl)
theorem dX1_mayRing_24 : decode cX1_mayRing 24 = .ok (.iload_n 1, 1) := dk_27 (dk_at dksX1_mayRing_1 0 rfl rfl)
theorem dX1_mayRing_25 : decode cX1_mayRing 25 = .ok (.iconst 1, 1) := dk_4 (dk_at dksX1_mayRing_1 1 rfl rfl)
theorem dX1_mayRing_26 : decode cX1_mayRing 26 = .ok (.if_icmp .ne 23, 3) := dk_160 0 23 (dk_at dksX1_mayRing_1 2 rfl rfl)
theorem dX1_mayRing_29 : decode cX1_mayRing 29 = .ok (.iload_n 2, 1) := dk_28 (dk_at dksX1_mayRing_1 5 rfl rfl)
theorem dX1_mayRing_30 : decode cX1_mayRing 30 = .ok (.iload 4, 2) := dk_21 4 (dk_at dksX1_mayRing_1 6 rfl rfl)
theorem dX1_mayRing_32 : decode cX1_mayRing 32 = .ok (.invokestatic 110, 3) := dk_184 0 110 (dk_at dksX1_mayRing_1 8 rfl rfl)
theorem dX1_mayRing_35 : decode cX1_mayRing 35 = .ok (.iload 5, 2) := dk_21 5 (dk_at dksX1_mayRing_1 11 rfl rfl)
theorem dX1_mayRing_37 : decode cX1_mayRing 37 = .ok (.invokestatic 106, 3) := dk_184 0 106 (dk_at dksX1_mayRing_1 13 rfl rfl)
theorem dX1_mayRing_40 : decode cX1_mayRing 40 = .ok (.ifCond .ne 7, 3) := dk_154 0 7 (dk_at dksX1_mayRing_1 16 rfl rfl)
theorem dX1_mayRing_43 : decode cX1_mayRing 43 = .ok (.iconst 1, 1) := dk_4 (dk_at dksX1_mayRing_1 19 rfl rfl)
theorem dX1_mayRing_44 : decode cX1_mayRing 44 = .ok (.goto 4, 3) := dk_167 0 4 (dk_at dksX1_mayRing_1 20 rfl rfl)
theorem dX1_mayRing_47 : decode cX1_mayRing 47 = .ok (.iconst 0, 1) := dk_3 (dk_at dksX1_mayRing_1 23 rfl rfl)
theorem dX1_mayRing_48 : decode cX1_mayRing 48 = .ok (.ireturn, 1) := dk_172 (dk_at dksX1_mayRing_2 0 rfl rfl)
theorem dX1_mayRing_49 : decode cX1_mayRing 49 = .ok (.iload_n 2, 1) := dk_28 (dk_at dksX1_mayRing_2 1 rfl rfl)
theorem dX1_mayRing_50 : decode cX1_mayRing 50 = .ok (.iload 4, 2) := dk_21 4 (dk_at dksX1_mayRing_2 2 rfl rfl)
theorem dX1_mayRing_52 : decode cX1_mayRing 52 = .ok (.invokestatic 110, 3) := dk_184 0 110 (dk_at dksX1_mayRing_2 4 rfl rfl)
theorem dX1_mayRing_55 : decode cX1_mayRing 55 = .ok (.iload_n 2, 1) := dk_28 (dk_at dksX1_mayRing_2 7 rfl rfl)
theorem dX1_mayRing_56 : decode cX1_mayRing 56 = .ok (.iload 5, 2) := dk_21 5 (dk_at dksX1_mayRing_2 8 rfl rfl)
theorem dX1_mayRing_58 : decode cX1_mayRing 58 = .ok (.invokestatic 110, 3) := dk_184 0 110 (dk_at dksX1_mayRing_2 10 rfl rfl)
theorem dX1_mayRing_61 : decode cX1_mayRing 61 = .ok (.if_icmp .eq 20, 3) := dk_159 0 20 (dk_at dksX1_mayRing_2 13 rfl rfl)
theorem dX1_mayRing_64 : decode cX1_mayRing 64 = .ok (.iload_n 1, 1) := dk_27 (dk_at dksX1_mayRing_2 16 rfl rfl)
theorem dX1_mayRing_65 : decode cX1_mayRing 65 = .ok (.ifCond .eq 12, 3) := dk_153 0 12 (dk_at dksX1_mayRing_2 17 rfl rfl)
theorem dX1_mayRing_68 : decode cX1_mayRing 68 = .ok (.iload_n 3, 1) := dk_29 (dk_at dksX1_mayRing_2 20 rfl rfl)
theorem dX1_mayRing_69 : decode cX1_mayRing 69 = .ok (.iload 4, 2) := dk_21 4 (dk_at dksX1_mayRing_2 21 rfl rfl)
theorem dX1_mayRing_71 : decode cX1_mayRing 71 = .ok (.invokestatic 106, 3) := dk_184 0 106 (dk_at dksX1_mayRing_3 0 rfl rfl)
theorem dX1_mayRing_74 : decode cX1_mayRing 74 = .ok (.ifCond .eq 7, 3) := dk_153 0 7 (dk_at dksX1_mayRing_3 3 rfl rfl)
theorem dX1_mayRing_77 : decode cX1_mayRing 77 = .ok (.iconst 1, 1) := dk_4 (dk_at dksX1_mayRing_3 6 rfl rfl)
theorem dX1_mayRing_78 : decode cX1_mayRing 78 = .ok (.goto 4, 3) := dk_167 0 4 (dk_at dksX1_mayRing_3 7 rfl rfl)
theorem dX1_mayRing_81 : decode cX1_mayRing 81 = .ok (.iconst 0, 1) := dk_3 (dk_at dksX1_mayRing_3 10 rfl rfl)
theorem dX1_mayRing_82 : decode cX1_mayRing 82 = .ok (.ireturn, 1) := dk_172 (dk_at dksX1_mayRing_3 11 rfl rfl)
abbrev cX1_runs : ByteArray := prog_16_method_38_code
def yX1_runs : MethodName := ⟨RX1, "runs", "(II)J"⟩
def dkwX1_runs_2 : List UInt8 := [180, 0, 39, 29, 47, 173]
abbrev dktX1_runs_2 : List UInt8 := dkwX1_runs_2 ++ []
def dkwX1_runs_1 : List UInt8 := [20, 0, 76, 173, 42, 27, 182, 0, 191, 62, 28, 154, 0, 12, 42, 180, 0, 35, 29, 47, 167, 0, 9, 42]
abbrev dktX1_runs_1 : List UInt8 := dkwX1_runs_1 ++ dktX1_runs_2
def dkwX1_runs_0 : List UInt8 := [27, 184, 0, 150, 153, 0, 19, 28, 3, 4, 184, 0, 78, 153, 0, 10, 42, 180, 0, 82, 154, 0, 7]
abbrev dktX1_runs_0 : List UInt8 := dkwX1_runs_0 ++ dktX1_runs_1
theorem dksX1_runs_0 : cX1_runs.data.toList.drop 0 = dktX1_runs_0 := by decide +kernel
theorem dksX1_runs_1 : cX1_runs.data.toList.drop 23 = dktX1_runs_1 := dk_seg dksX1_runs_0 23 rfl rfl
theorem dksX1_runs_2 : cX1_runs.data.toList.drop 47 = dktX1_runs_2 := dk_seg dksX1_runs_1 24 rfl rfl
theorem dX1_runs_0 : decode cX1_runs 0 = .ok (.iload_n 1, 1) := dk_27 (dk_at dksX1_runs_0 0 rfl rfl)
theorem dX1_runs_1 : decode cX1_runs 1 = .ok (.invokestatic 150, 3) := dk_184 0 150 (dk_at dksX1_runs_0 1 rfl rfl)
theorem dX1_runs_4 : decode cX1_runs 4 = .ok (.ifCond .eq 19, 3) := dk_153 0 19 (dk_at dksX1_runs_0 4 rfl rfl)
theorem dX1_runs_7 : decode cX1_runs 7 = .ok (.iload_n 2, 1) := dk_28 (dk_at dksX1_runs_0 7 rfl rfl)
theorem dX1_runs_8 : decode cX1_runs 8 = .ok (.iconst 0, 1) := dk_3 (dk_at dksX1_runs_0 8 rfl rfl)
theorem dX1_runs_9 : decode cX1_runs 9 = .ok (.iconst 1, 1) := dk_4 (dk_at dksX1_runs_0 9 rfl rfl)
theorem dX1_runs_10 : decode cX1_runs 10 = .ok (.invokestatic 78, 3) := dk_184 0 78 (dk_at dksX1_runs_0 10 rfl rfl)
theorem dX1_runs_13 : decode cX1_runs 13 = .ok (.ifCond .eq 10, 3) := dk_153 0 10 (dk_at dksX1_runs_0 13 rfl rfl)
theorem dX1_runs_16 : decode cX1_runs 16 = .ok (.aload_n 0, 1) := dk_42 (dk_at dksX1_runs_0 16 rfl rfl)
theorem dX1_runs_17 : decode cX1_runs 17 = .ok (.getfield 82, 3) := dk_180 0 82 (dk_at dksX1_runs_0 17 rfl rfl)
theorem dX1_runs_20 : decode cX1_runs 20 = .ok (.ifCond .ne 7, 3) := dk_154 0 7 (dk_at dksX1_runs_0 20 rfl rfl)
theorem dX1_runs_23 : decode cX1_runs 23 = .ok (.ldc2_w 76, 3) := dk_20 0 76 (dk_at dksX1_runs_1 0 rfl rfl)
theorem dX1_runs_26 : decode cX1_runs 26 = .ok (.lreturn, 1) := dk_173 (dk_at dksX1_runs_1 3 rfl rfl)
theorem dX1_runs_27 : decode cX1_runs 27 = .ok (.aload_n 0, 1) := dk_42 (dk_at dksX1_runs_1 4 rfl rfl)
theorem dX1_runs_28 : decode cX1_runs 28 = .ok (.iload_n 1, 1) := dk_27 (dk_at dksX1_runs_1 5 rfl rfl)
theorem dX1_runs_29 : decode cX1_runs 29 = .ok (.invokevirtual 191, 3) := dk_182 0 191 (dk_at dksX1_runs_1 6 rfl rfl)
theorem dX1_runs_32 : decode cX1_runs 32 = .ok (.istore_n 3, 1) := dk_62 (dk_at dksX1_runs_1 9 rfl rfl)
theorem dX1_runs_33 : decode cX1_runs 33 = .ok (.iload_n 2, 1) := dk_28 (dk_at dksX1_runs_1 10 rfl rfl)
theorem dX1_runs_34 : decode cX1_runs 34 = .ok (.ifCond .ne 12, 3) := dk_154 0 12 (dk_at dksX1_runs_1 11 rfl rfl)
theorem dX1_runs_37 : decode cX1_runs 37 = .ok (.aload_n 0, 1) := dk_42 (dk_at dksX1_runs_1 14 rfl rfl)
theorem dX1_runs_38 : decode cX1_runs 38 = .ok (.getfield 35, 3) := dk_180 0 35 (dk_at dksX1_runs_1 15 rfl rfl)
theorem dX1_runs_41 : decode cX1_runs 41 = .ok (.iload_n 3, 1) := dk_29 (dk_at dksX1_runs_1 18 rfl rfl)
theorem dX1_runs_42 : decode cX1_runs 42 = .ok (.laload, 1) := dk_47 (dk_at dksX1_runs_1 19 rfl rfl)
theorem dX1_runs_43 : decode cX1_runs 43 = .ok (.goto 9, 3) := dk_167 0 9 (dk_at dksX1_runs_1 20 rfl rfl)
theorem dX1_runs_46 : decode cX1_runs 46 = .ok (.aload_n 0, 1) := dk_42 (dk_at dksX1_runs_1 23 rfl rfl)
theorem dX1_runs_47 : decode cX1_runs 47 = .ok (.getfield 39, 3) := dk_180 0 39 (dk_at dksX1_runs_2 0 rfl rfl)
theorem dX1_runs_50 : decode cX1_runs 50 = .ok (.iload_n 3, 1) := dk_29 (dk_at dksX1_runs_2 3 rfl rfl)
theorem dX1_runs_51 : decode cX1_runs 51 = .ok (.laload, 1) := dk_47 (dk_at dksX1_runs_2 4 rfl rfl)
theorem dX1_runs_52 : decode cX1_runs 52 = .ok (.lreturn, 1) := dk_173 (dk_at dksX1_runs_2 5 rfl rfl)
abbrev cX1_layNow : ByteArray := prog_16_method_37_code
def yX1_layNow : MethodName := ⟨RX1, "layNow", "(I)I"⟩
def dkwX1_layNow_1 : List UInt8 := [182, 0, 135, 182, 0, 188, 172]
abbrev dktX1_layNow_1 : List UInt8 := dkwX1_layNow_1 ++ []
def dkwX1_layNow_0 : List UInt8 := [42, 42, 180, 0, 19, 42, 180, 0, 82, 27, 182, 0, 184, 42, 42, 42, 180, 0, 103, 182, 0, 128, 42, 27]
abbrev dktX1_layNow_0 : List UInt8 := dkwX1_layNow_0 ++ dktX1_layNow_1
theorem dksX1_layNow_0 : cX1_layNow.data.toList.drop 0 = dktX1_layNow_0 := by decide +kernel
theorem dksX1_layNow_1 : cX1_layNow.data.toList.drop 24 = dktX1_layNow_1 := dk_seg dksX1_layNow_0 24 rfl rfl
theorem dX1_layNow_0 : decode cX1_layNow 0 = .ok (.aload_n 0, 1) := dk_42 (dk_at dksX1_layNow_0 0 rfl rfl)
theorem dX1_layNow_1 : decode cX1_layNow 1 = .ok (.aload_n 0, 1) := dk_42 (dk_at dksX1_layNow_0 1 rfl rfl)
theorem dX1_layNow_2 : decode cX1_layNow 2 = .ok (.getfield 19, 3) := dk_180 0 19 (dk_at dksX1_layNow_0 2 rfl rfl)
theorem dX1_layNow_5 : decode cX1_layNow 5 = .ok (.aload_n 0, 1) := dk_42 (dk_at dksX1_layNow_0 5 rfl rfl)
theorem dX1_layNow_6 : decode cX1_layNow 6 = .ok (.getfield 82, 3) := dk_180 0 82 (dk_at dksX1_layNow_0 6 rfl rfl)
theorem dX1_layNow_9 : decode cX1_layNow 9 = .ok (.iload_n 1, 1) := dk_27 (dk_at dksX1_layNow_0 9 rfl rfl)
theorem dX1_layNow_10 : decode cX1_layNow 10 = .ok (.invokevirtual 184, 3) := dk_182 0 184 (dk_at dksX1_layNow_0 10 rfl rfl)
theorem dX1_layNow_13 : decode cX1_layNow 13 = .ok (.aload_n 0, 1) := dk_42 (dk_at dksX1_layNow_0 13 rfl rfl)
theorem dX1_layNow_14 : decode cX1_layNow 14 = .ok (.aload_n 0, 1) := dk_42 (dk_at dksX1_layNow_0 14 rfl rfl)
theorem dX1_layNow_15 : decode cX1_layNow 15 = .ok (.aload_n 0, 1) := dk_42 (dk_at dksX1_layNow_0 15 rfl rfl)
theorem dX1_layNow_16 : decode cX1_layNow 16 = .ok (.getfield 103, 3) := dk_180 0 103 (dk_at dksX1_layNow_0 16 rfl rfl)
theorem dX1_layNow_19 : decode cX1_layNow 19 = .ok (.invokevirtual 128, 3) := dk_182 0 128 (dk_at dksX1_layNow_0 19 rfl rfl)
theorem dX1_layNow_22 : decode cX1_layNow 22 = .ok (.aload_n 0, 1) := dk_42 (dk_at dksX1_layNow_0 22 rfl rfl)
theorem dX1_layNow_23 : decode cX1_layNow 23 = .ok (.iload_n 1, 1) := dk_27 (dk_at dksX1_layNow_0 23 rfl rfl)
theorem dX1_layNow_24 : decode cX1_layNow 24 = .ok (.invokevirtual 135, 3) := dk_182 0 135 (dk_at dksX1_layNow_1 0 rfl rfl)
theorem dX1_layNow_27 : decode cX1_layNow 27 = .ok (.invokevirtual 188, 3) := dk_182 0 188 (dk_at dksX1_layNow_1 3 rfl rfl)
theorem dX1_layNow_30 : decode cX1_layNow 30 = .ok (.ireturn, 1) := dk_172 (dk_at dksX1_layNow_1 6 rfl rfl)
abbrev cX1_lookAt : ByteArray := prog_16_method_36_code
def yX1_lookAt : MethodName := ⟨RX1, "lookAt", "([III)V"⟩
def dkwX1_lookAt_1 : List UInt8 := [181, 0, 178, 177]
abbrev dktX1_lookAt_1 : List UInt8 := dkwX1_lookAt_1 ++ []
def dkwX1_lookAt_0 : List UInt8 := [42, 89, 180, 0, 161, 4, 96, 181, 0, 161, 42, 43, 181, 0, 57, 42, 28, 181, 0, 164, 42, 29]
abbrev dktX1_lookAt_0 : List UInt8 := dkwX1_lookAt_0 ++ dktX1_lookAt_1
theorem dksX1_lookAt_0 : cX1_lookAt.data.toList.drop 0 = dktX1_lookAt_0 := by decide +kernel
theorem dksX1_lookAt_1 : cX1_lookAt.data.toList.drop 22 = dktX1_lookAt_1 := dk_seg dksX1_lookAt_0 22 rfl rfl
theorem dX1_lookAt_0 : decode cX1_lookAt 0 = .ok (.aload_n 0, 1) := dk_42 (dk_at dksX1_lookAt_0 0 rfl rfl)
theorem dX1_lookAt_1 : decode cX1_lookAt 1 = .ok (.dup, 1) := dk_89 (dk_at dksX1_lookAt_0 1 rfl rfl)
theorem dX1_lookAt_2 : decode cX1_lookAt 2 = .ok (.getfield 161, 3) := dk_180 0 161 (dk_at dksX1_lookAt_0 2 rfl rfl)
theorem dX1_lookAt_5 : decode cX1_lookAt 5 = .ok (.iconst 1, 1) := dk_4 (dk_at dksX1_lookAt_0 5 rfl rfl)
theorem dX1_lookAt_6 : decode cX1_lookAt 6 = .ok (.iadd, 1) := dk_96 (dk_at dksX1_lookAt_0 6 rfl rfl)
theorem dX1_lookAt_7 : decode cX1_lookAt 7 = .ok (.putfield 161, 3) := dk_181 0 161 (dk_at dksX1_lookAt_0 7 rfl rfl)
theorem dX1_lookAt_10 : decode cX1_lookAt 10 = .ok (.aload_n 0, 1) := dk_42 (dk_at dksX1_lookAt_0 10 rfl rfl)
theorem dX1_lookAt_11 : decode cX1_lookAt 11 = .ok (.aload_n 1, 1) := dk_43 (dk_at dksX1_lookAt_0 11 rfl rfl)
theorem dX1_lookAt_12 : decode cX1_lookAt 12 = .ok (.putfield 57, 3) := dk_181 0 57 (dk_at dksX1_lookAt_0 12 rfl rfl)
theorem dX1_lookAt_15 : decode cX1_lookAt 15 = .ok (.aload_n 0, 1) := dk_42 (dk_at dksX1_lookAt_0 15 rfl rfl)
theorem dX1_lookAt_16 : decode cX1_lookAt 16 = .ok (.iload_n 2, 1) := dk_28 (dk_at dksX1_lookAt_0 16 rfl rfl)
theorem dX1_lookAt_17 : decode cX1_lookAt 17 = .ok (.putfield 164, 3) := dk_181 0 164 (dk_at dksX1_lookAt_0 17 rfl rfl)
theorem dX1_lookAt_20 : decode cX1_lookAt 20 = .ok (.aload_n 0, 1) := dk_42 (dk_at dksX1_lookAt_0 20 rfl rfl)
theorem dX1_lookAt_21 : decode cX1_lookAt 21 = .ok (.iload_n 3, 1) := dk_29 (dk_at dksX1_lookAt_0 21 rfl rfl)
theorem dX1_lookAt_22 : decode cX1_lookAt 22 = .ok (.putfield 178, 3) := dk_181 0 178 (dk_at dksX1_lookAt_1 0 rfl rfl)
theorem dX1_lookAt_25 : decode cX1_lookAt 25 = .ok (.return_, 1) := dk_177 (dk_at dksX1_lookAt_1 3 rfl rfl)
abbrev cX1_lay : ByteArray := prog_16_method_35_code
def yX1_lay : MethodName := ⟨RX1, "lay", "(II)I"⟩
def dkwX1_lay_10 : List UInt8 := [132, 4, 1, 42, 21, 4, 21, 10, 21, 11, 182, 0, 170, 167, 255, 43, 29, 172]
abbrev dktX1_lay_10 : List UInt8 := dkwX1_lay_10 ++ []
def dkwX1_lay_9 : List UInt8 := [184, 0, 158, 21, 12, 182, 0, 181, 42, 180, 0, 54, 21, 4, 92, 46, 4, 96, 79, 167, 0, 16]
abbrev dktX1_lay_9 : List UInt8 := dkwX1_lay_9 ++ dktX1_lay_10
def dkwX1_lay_8 : List UInt8 := [184, 0, 158, 54, 12, 42, 180, 0, 32, 21, 12, 46, 42, 180, 0, 161, 160, 0, 30, 42, 21, 5, 21, 6]
abbrev dktX1_lay_8 : List UInt8 := dkwX1_lay_8 ++ dktX1_lay_9
def dkwX1_lay_7 : List UInt8 := [184, 0, 117, 54, 10, 21, 6, 42, 180, 0, 178, 21, 8, 21, 9, 184, 0, 121, 54, 11, 21, 10, 21, 11]
abbrev dktX1_lay_7 : List UInt8 := dkwX1_lay_7 ++ dktX1_lay_8
def dkwX1_lay_6 : List UInt8 := [154, 0, 17, 42, 180, 0, 54, 21, 4, 92, 46, 4, 96, 79, 167, 255, 135, 21, 5, 21, 8, 21, 9]
abbrev dktX1_lay_6 : List UInt8 := dkwX1_lay_6 ++ dktX1_lay_7
def dkwX1_lay_5 : List UInt8 := [162, 0, 25, 42, 180, 0, 57, 42, 180, 0, 178, 21, 5, 21, 6, 21, 8, 21, 9, 184, 0, 153]
abbrev dktX1_lay_5 : List UInt8 := dkwX1_lay_5 ++ dktX1_lay_6
def dkwX1_lay_4 : List UInt8 := [54, 8, 21, 7, 7, 112, 54, 9, 21, 8, 42, 180, 0, 164, 162, 0, 34, 21, 9, 42, 180, 0, 164]
abbrev dktX1_lay_4 : List UInt8 := dkwX1_lay_4 ++ dktX1_lay_5
def dkwX1_lay_3 : List UInt8 := [42, 21, 5, 21, 6, 184, 0, 158, 21, 5, 182, 0, 174, 132, 4, 255, 167, 255, 201, 21, 7, 7, 108]
abbrev dktX1_lay_3 : List UInt8 := dkwX1_lay_3 ++ dktX1_lay_4
def dkwX1_lay_2 : List UInt8 := [180, 0, 51, 21, 4, 46, 54, 6, 42, 180, 0, 54, 21, 4, 46, 54, 7, 21, 7, 16, 16, 160, 0, 22]
abbrev dktX1_lay_2 : List UInt8 := dkwX1_lay_2 ++ dktX1_lay_3
def dkwX1_lay_1 : List UInt8 := [42, 3, 27, 28, 182, 0, 170, 21, 4, 155, 0, 214, 42, 180, 0, 48, 21, 4, 46, 54, 5, 42]
abbrev dktX1_lay_1 : List UInt8 := dkwX1_lay_1 ++ dktX1_lay_2
def dkwX1_lay_0 : List UInt8 := [27, 28, 184, 0, 158, 62, 42, 180, 0, 32, 29, 46, 42, 180, 0, 161, 160, 0, 5, 29, 172, 3, 54, 4]
abbrev dktX1_lay_0 : List UInt8 := dkwX1_lay_0 ++ dktX1_lay_1
theorem dksX1_lay_0 : cX1_lay.data.toList.drop 0 = dktX1_lay_0 := by decide +kernel
theorem dksX1_lay_1 : cX1_lay.data.toList.drop 24 = dktX1_lay_1 := dk_seg dksX1_lay_0 24 rfl rfl
theorem dksX1_lay_2 : cX1_lay.data.toList.drop 46 = dktX1_lay_2 := dk_seg dksX1_lay_1 22 rfl rfl
theorem dksX1_lay_3 : cX1_lay.data.toList.drop 70 = dktX1_lay_3 := dk_seg dksX1_lay_2 24 rfl rfl
theorem dksX1_lay_4 : cX1_lay.data.toList.drop 93 = dktX1_lay_4 := dk_seg dksX1_lay_3 23 rfl rfl
theorem dksX1_lay_5 : cX1_lay.data.toList.drop 116 = dktX1_lay_5 := dk_seg dksX1_lay_4 23 rfl rfl
theorem dksX1_lay_6 : cX1_lay.data.toList.drop 138 = dktX1_lay_6 := dk_seg dksX1_lay_5 22 rfl rfl
theorem dksX1_lay_7 : cX1_lay.data.toList.drop 161 = dktX1_lay_7 := dk_seg dksX1_lay_6 23 rfl rfl
theorem dksX1_lay_8 : cX1_lay.data.toList.drop 185 = dktX1_lay_8 := dk_seg dksX1_lay_7 24 rfl rfl
theorem dksX1_lay_9 : cX1_lay.data.toList.drop 209 = dktX1_lay_9 := dk_seg dksX1_lay_8 24 rfl rfl
theorem dksX1_lay_10 : cX1_lay.data.toList.drop 231 = dktX1_lay_10 := dk_seg dksX1_lay_9 22 rfl rfl
theorem dX1_lay_0 : decode cX1_lay 0 = .ok (.iload_n 1, 1) := dk_27 (dk_at dksX1_lay_0 0 rfl rfl)
theorem dX1_lay_1 : decode cX1_lay 1 = .ok (.iload_n 2, 1) := dk_28 (dk_at dksX1_lay_0 1 rfl rfl)
theorem dX1_lay_2 : decode cX1_lay 2 = .ok (.invokestatic 158, 3) := dk_184 0 158 (dk_at dksX1_lay_0 2 rfl rfl)
theorem dX1_lay_5 : decode cX1_lay 5 = .ok (.istore_n 3, 1) := dk_62 (dk_at dksX1_lay_0 5 rfl rfl)
theorem dX1_lay_6 : decode cX1_lay 6 = .ok (.aload_n 0, 1) := dk_42 (dk_at dksX1_lay_0 6 rfl rfl)
theorem dX1_lay_7 : decode cX1_lay 7 = .ok (.getfield 32, 3) := dk_180 0 32 (dk_at dksX1_lay_0 7 rfl rfl)
theorem dX1_lay_10 : decode cX1_lay 10 = .ok (.iload_n 3, 1) := dk_29 (dk_at dksX1_lay_0 10 rfl rfl)
theorem dX1_lay_11 : decode cX1_lay 11 = .ok (.iaload, 1) := dk_46 (dk_at dksX1_lay_0 11 rfl rfl)
theorem dX1_lay_12 : decode cX1_lay 12 = .ok (.aload_n 0, 1) := dk_42 (dk_at dksX1_lay_0 12 rfl rfl)
theorem dX1_lay_13 : decode cX1_lay 13 = .ok (.getfield 161, 3) := dk_180 0 161 (dk_at dksX1_lay_0 13 rfl rfl)
theorem dX1_lay_16 : decode cX1_lay 16 = .ok (.if_icmp .ne 5, 3) := dk_160 0 5 (dk_at dksX1_lay_0 16 rfl rfl)
theorem dX1_lay_19 : decode cX1_lay 19 = .ok (.iload_n 3, 1) := dk_29 (dk_at dksX1_lay_0 19 rfl rfl)
theorem dX1_lay_20 : decode cX1_lay 20 = .ok (.ireturn, 1) := dk_172 (dk_at dksX1_lay_0 20 rfl rfl)
theorem dX1_lay_21 : decode cX1_lay 21 = .ok (.iconst 0, 1) := dk_3 (dk_at dksX1_lay_0 21 rfl rfl)
theorem dX1_lay_22 : decode cX1_lay 22 = .ok (.istore 4, 2) := dk_54 4 (dk_at dksX1_lay_0 22 rfl rfl)
theorem dX1_lay_24 : decode cX1_lay 24 = .ok (.aload_n 0, 1) := dk_42 (dk_at dksX1_lay_1 0 rfl rfl)
theorem dX1_lay_25 : decode cX1_lay 25 = .ok (.iconst 0, 1) := dk_3 (dk_at dksX1_lay_1 1 rfl rfl)
theorem dX1_lay_26 : decode cX1_lay 26 = .ok (.iload_n 1, 1) := dk_27 (dk_at dksX1_lay_1 2 rfl rfl)
theorem dX1_lay_27 : decode cX1_lay 27 = .ok (.iload_n 2, 1) := dk_28 (dk_at dksX1_lay_1 3 rfl rfl)
theorem dX1_lay_28 : decode cX1_lay 28 = .ok (.invokevirtual 170, 3) := dk_182 0 170 (dk_at dksX1_lay_1 4 rfl rfl)
theorem dX1_lay_31 : decode cX1_lay 31 = .ok (.iload 4, 2) := dk_21 4 (dk_at dksX1_lay_1 7 rfl rfl)
theorem dX1_lay_33 : decode cX1_lay 33 = .ok (.ifCond .lt 214, 3) := dk_155 0 214 (dk_at dksX1_lay_1 9 rfl rfl)
theorem dX1_lay_36 : decode cX1_lay 36 = .ok (.aload_n 0, 1) := dk_42 (dk_at dksX1_lay_1 12 rfl rfl)
theorem dX1_lay_37 : decode cX1_lay 37 = .ok (.getfield 48, 3) := dk_180 0 48 (dk_at dksX1_lay_1 13 rfl rfl)
theorem dX1_lay_40 : decode cX1_lay 40 = .ok (.iload 4, 2) := dk_21 4 (dk_at dksX1_lay_1 16 rfl rfl)
theorem dX1_lay_42 : decode cX1_lay 42 = .ok (.iaload, 1) := dk_46 (dk_at dksX1_lay_1 18 rfl rfl)
theorem dX1_lay_43 : decode cX1_lay 43 = .ok (.istore 5, 2) := dk_54 5 (dk_at dksX1_lay_1 19 rfl rfl)
theorem dX1_lay_45 : decode cX1_lay 45 = .ok (.aload_n 0, 1) := dk_42 (dk_at dksX1_lay_1 21 rfl rfl)
theorem dX1_lay_46 : decode cX1_lay 46 = .ok (.getfield 51, 3) := dk_180 0 51 (dk_at dksX1_lay_2 0 rfl rfl)
theorem dX1_lay_49 : decode cX1_lay 49 = .ok (.iload 4, 2) := dk_21 4 (dk_at dksX1_lay_2 3 rfl rfl)
theorem dX1_lay_51 : decode cX1_lay 51 = .ok (.iaload, 1) := dk_46 (dk_at dksX1_lay_2 5 rfl rfl)
theorem dX1_lay_52 : decode cX1_lay 52 = .ok (.istore 6, 2) := dk_54 6 (dk_at dksX1_lay_2 6 rfl rfl)
theorem dX1_lay_54 : decode cX1_lay 54 = .ok (.aload_n 0, 1) := dk_42 (dk_at dksX1_lay_2 8 rfl rfl)
theorem dX1_lay_55 : decode cX1_lay 55 = .ok (.getfield 54, 3) := dk_180 0 54 (dk_at dksX1_lay_2 9 rfl rfl)
theorem dX1_lay_58 : decode cX1_lay 58 = .ok (.iload 4, 2) := dk_21 4 (dk_at dksX1_lay_2 12 rfl rfl)
theorem dX1_lay_60 : decode cX1_lay 60 = .ok (.iaload, 1) := dk_46 (dk_at dksX1_lay_2 14 rfl rfl)
theorem dX1_lay_61 : decode cX1_lay 61 = .ok (.istore 7, 2) := dk_54 7 (dk_at dksX1_lay_2 15 rfl rfl)
theorem dX1_lay_63 : decode cX1_lay 63 = .ok (.iload 7, 2) := dk_21 7 (dk_at dksX1_lay_2 17 rfl rfl)
theorem dX1_lay_65 : decode cX1_lay 65 = .ok (.bipush 16, 2) := dk_16 16 (dk_at dksX1_lay_2 19 rfl rfl)
theorem dX1_lay_67 : decode cX1_lay 67 = .ok (.if_icmp .ne 22, 3) := dk_160 0 22 (dk_at dksX1_lay_2 21 rfl rfl)
theorem dX1_lay_70 : decode cX1_lay 70 = .ok (.aload_n 0, 1) := dk_42 (dk_at dksX1_lay_3 0 rfl rfl)
theorem dX1_lay_71 : decode cX1_lay 71 = .ok (.iload 5, 2) := dk_21 5 (dk_at dksX1_lay_3 1 rfl rfl)
theorem dX1_lay_73 : decode cX1_lay 73 = .ok (.iload 6, 2) := dk_21 6 (dk_at dksX1_lay_3 3 rfl rfl)
theorem dX1_lay_75 : decode cX1_lay 75 = .ok (.invokestatic 158, 3) := dk_184 0 158 (dk_at dksX1_lay_3 5 rfl rfl)
theorem dX1_lay_78 : decode cX1_lay 78 = .ok (.iload 5, 2) := dk_21 5 (dk_at dksX1_lay_3 8 rfl rfl)
theorem dX1_lay_80 : decode cX1_lay 80 = .ok (.invokevirtual 174, 3) := dk_182 0 174 (dk_at dksX1_lay_3 10 rfl rfl)
theorem dX1_lay_83 : decode cX1_lay 83 = .ok (.iinc 4 (-1), 3) := dk_132 4 255 (dk_at dksX1_lay_3 13 rfl rfl)
theorem dX1_lay_86 : decode cX1_lay 86 = .ok (.goto (-55), 3) := dk_167 255 201 (dk_at dksX1_lay_3 16 rfl rfl)
theorem dX1_lay_89 : decode cX1_lay 89 = .ok (.iload 7, 2) := dk_21 7 (dk_at dksX1_lay_3 19 rfl rfl)
theorem dX1_lay_91 : decode cX1_lay 91 = .ok (.iconst 4, 1) := dk_7 (dk_at dksX1_lay_3 21 rfl rfl)
theorem dX1_lay_92 : decode cX1_lay 92 = .ok (.idiv, 1) := dk_108 (dk_at dksX1_lay_3 22 rfl rfl)
theorem dX1_lay_93 : decode cX1_lay 93 = .ok (.istore 8, 2) := dk_54 8 (dk_at dksX1_lay_4 0 rfl rfl)
theorem dX1_lay_95 : decode cX1_lay 95 = .ok (.iload 7, 2) := dk_21 7 (dk_at dksX1_lay_4 2 rfl rfl)
theorem dX1_lay_97 : decode cX1_lay 97 = .ok (.iconst 4, 1) := dk_7 (dk_at dksX1_lay_4 4 rfl rfl)
theorem dX1_lay_98 : decode cX1_lay 98 = .ok (.irem, 1) := dk_112 (dk_at dksX1_lay_4 5 rfl rfl)
theorem dX1_lay_99 : decode cX1_lay 99 = .ok (.istore 9, 2) := dk_54 9 (dk_at dksX1_lay_4 6 rfl rfl)
theorem dX1_lay_101 : decode cX1_lay 101 = .ok (.iload 8, 2) := dk_21 8 (dk_at dksX1_lay_4 8 rfl rfl)
theorem dX1_lay_103 : decode cX1_lay 103 = .ok (.aload_n 0, 1) := dk_42 (dk_at dksX1_lay_4 10 rfl rfl)
theorem dX1_lay_104 : decode cX1_lay 104 = .ok (.getfield 164, 3) := dk_180 0 164 (dk_at dksX1_lay_4 11 rfl rfl)
theorem dX1_lay_107 : decode cX1_lay 107 = .ok (.if_icmp .ge 34, 3) := dk_162 0 34 (dk_at dksX1_lay_4 14 rfl rfl)
theorem dX1_lay_110 : decode cX1_lay 110 = .ok (.iload 9, 2) := dk_21 9 (dk_at dksX1_lay_4 17 rfl rfl)
theorem dX1_lay_112 : decode cX1_lay 112 = .ok (.aload_n 0, 1) := dk_42 (dk_at dksX1_lay_4 19 rfl rfl)
theorem dX1_lay_113 : decode cX1_lay 113 = .ok (.getfield 164, 3) := dk_180 0 164 (dk_at dksX1_lay_4 20 rfl rfl)
theorem dX1_lay_116 : decode cX1_lay 116 = .ok (.if_icmp .ge 25, 3) := dk_162 0 25 (dk_at dksX1_lay_5 0 rfl rfl)
theorem dX1_lay_119 : decode cX1_lay 119 = .ok (.aload_n 0, 1) := dk_42 (dk_at dksX1_lay_5 3 rfl rfl)
theorem dX1_lay_120 : decode cX1_lay 120 = .ok (.getfield 57, 3) := dk_180 0 57 (dk_at dksX1_lay_5 4 rfl rfl)
theorem dX1_lay_123 : decode cX1_lay 123 = .ok (.aload_n 0, 1) := dk_42 (dk_at dksX1_lay_5 7 rfl rfl)
theorem dX1_lay_124 : decode cX1_lay 124 = .ok (.getfield 178, 3) := dk_180 0 178 (dk_at dksX1_lay_5 8 rfl rfl)
theorem dX1_lay_127 : decode cX1_lay 127 = .ok (.iload 5, 2) := dk_21 5 (dk_at dksX1_lay_5 11 rfl rfl)
theorem dX1_lay_129 : decode cX1_lay 129 = .ok (.iload 6, 2) := dk_21 6 (dk_at dksX1_lay_5 13 rfl rfl)
theorem dX1_lay_131 : decode cX1_lay 131 = .ok (.iload 8, 2) := dk_21 8 (dk_at dksX1_lay_5 15 rfl rfl)
theorem dX1_lay_133 : decode cX1_lay 133 = .ok (.iload 9, 2) := dk_21 9 (dk_at dksX1_lay_5 17 rfl rfl)
theorem dX1_lay_135 : decode cX1_lay 135 = .ok (.invokestatic 153, 3) := dk_184 0 153 (dk_at dksX1_lay_5 19 rfl rfl)
theorem dX1_lay_138 : decode cX1_lay 138 = .ok (.ifCond .ne 17, 3) := dk_154 0 17 (dk_at dksX1_lay_6 0 rfl rfl)
theorem dX1_lay_141 : decode cX1_lay 141 = .ok (.aload_n 0, 1) := dk_42 (dk_at dksX1_lay_6 3 rfl rfl)
theorem dX1_lay_142 : decode cX1_lay 142 = .ok (.getfield 54, 3) := dk_180 0 54 (dk_at dksX1_lay_6 4 rfl rfl)
theorem dX1_lay_145 : decode cX1_lay 145 = .ok (.iload 4, 2) := dk_21 4 (dk_at dksX1_lay_6 7 rfl rfl)
theorem dX1_lay_147 : decode cX1_lay 147 = .ok (.dup2, 1) := dk_92 (dk_at dksX1_lay_6 9 rfl rfl)
theorem dX1_lay_148 : decode cX1_lay 148 = .ok (.iaload, 1) := dk_46 (dk_at dksX1_lay_6 10 rfl rfl)
theorem dX1_lay_149 : decode cX1_lay 149 = .ok (.iconst 1, 1) := dk_4 (dk_at dksX1_lay_6 11 rfl rfl)
theorem dX1_lay_150 : decode cX1_lay 150 = .ok (.iadd, 1) := dk_96 (dk_at dksX1_lay_6 12 rfl rfl)
theorem dX1_lay_151 : decode cX1_lay 151 = .ok (.iastore, 1) := dk_79 (dk_at dksX1_lay_6 13 rfl rfl)
theorem dX1_lay_152 : decode cX1_lay 152 = .ok (.goto (-121), 3) := dk_167 255 135 (dk_at dksX1_lay_6 14 rfl rfl)
theorem dX1_lay_155 : decode cX1_lay 155 = .ok (.iload 5, 2) := dk_21 5 (dk_at dksX1_lay_6 17 rfl rfl)
theorem dX1_lay_157 : decode cX1_lay 157 = .ok (.iload 8, 2) := dk_21 8 (dk_at dksX1_lay_6 19 rfl rfl)
theorem dX1_lay_159 : decode cX1_lay 159 = .ok (.iload 9, 2) := dk_21 9 (dk_at dksX1_lay_6 21 rfl rfl)
theorem dX1_lay_161 : decode cX1_lay 161 = .ok (.invokestatic 117, 3) := dk_184 0 117 (dk_at dksX1_lay_7 0 rfl rfl)
theorem dX1_lay_164 : decode cX1_lay 164 = .ok (.istore 10, 2) := dk_54 10 (dk_at dksX1_lay_7 3 rfl rfl)
theorem dX1_lay_166 : decode cX1_lay 166 = .ok (.iload 6, 2) := dk_21 6 (dk_at dksX1_lay_7 5 rfl rfl)
theorem dX1_lay_168 : decode cX1_lay 168 = .ok (.aload_n 0, 1) := dk_42 (dk_at dksX1_lay_7 7 rfl rfl)
theorem dX1_lay_169 : decode cX1_lay 169 = .ok (.getfield 178, 3) := dk_180 0 178 (dk_at dksX1_lay_7 8 rfl rfl)
theorem dX1_lay_172 : decode cX1_lay 172 = .ok (.iload 8, 2) := dk_21 8 (dk_at dksX1_lay_7 11 rfl rfl)
theorem dX1_lay_174 : decode cX1_lay 174 = .ok (.iload 9, 2) := dk_21 9 (dk_at dksX1_lay_7 13 rfl rfl)
theorem dX1_lay_176 : decode cX1_lay 176 = .ok (.invokestatic 121, 3) := dk_184 0 121 (dk_at dksX1_lay_7 15 rfl rfl)
theorem dX1_lay_179 : decode cX1_lay 179 = .ok (.istore 11, 2) := dk_54 11 (dk_at dksX1_lay_7 18 rfl rfl)
theorem dX1_lay_181 : decode cX1_lay 181 = .ok (.iload 10, 2) := dk_21 10 (dk_at dksX1_lay_7 20 rfl rfl)
theorem dX1_lay_183 : decode cX1_lay 183 = .ok (.iload 11, 2) := dk_21 11 (dk_at dksX1_lay_7 22 rfl rfl)
theorem dX1_lay_185 : decode cX1_lay 185 = .ok (.invokestatic 158, 3) := dk_184 0 158 (dk_at dksX1_lay_8 0 rfl rfl)
theorem dX1_lay_188 : decode cX1_lay 188 = .ok (.istore 12, 2) := dk_54 12 (dk_at dksX1_lay_8 3 rfl rfl)
theorem dX1_lay_190 : decode cX1_lay 190 = .ok (.aload_n 0, 1) := dk_42 (dk_at dksX1_lay_8 5 rfl rfl)
theorem dX1_lay_191 : decode cX1_lay 191 = .ok (.getfield 32, 3) := dk_180 0 32 (dk_at dksX1_lay_8 6 rfl rfl)
theorem dX1_lay_194 : decode cX1_lay 194 = .ok (.iload 12, 2) := dk_21 12 (dk_at dksX1_lay_8 9 rfl rfl)
theorem dX1_lay_196 : decode cX1_lay 196 = .ok (.iaload, 1) := dk_46 (dk_at dksX1_lay_8 11 rfl rfl)
theorem dX1_lay_197 : decode cX1_lay 197 = .ok (.aload_n 0, 1) := dk_42 (dk_at dksX1_lay_8 12 rfl rfl)
theorem dX1_lay_198 : decode cX1_lay 198 = .ok (.getfield 161, 3) := dk_180 0 161 (dk_at dksX1_lay_8 13 rfl rfl)
theorem dX1_lay_201 : decode cX1_lay 201 = .ok (.if_icmp .ne 30, 3) := dk_160 0 30 (dk_at dksX1_lay_8 16 rfl rfl)
theorem dX1_lay_204 : decode cX1_lay 204 = .ok (.aload_n 0, 1) := dk_42 (dk_at dksX1_lay_8 19 rfl rfl)
theorem dX1_lay_205 : decode cX1_lay 205 = .ok (.iload 5, 2) := dk_21 5 (dk_at dksX1_lay_8 20 rfl rfl)
theorem dX1_lay_207 : decode cX1_lay 207 = .ok (.iload 6, 2) := dk_21 6 (dk_at dksX1_lay_8 22 rfl rfl)
theorem dX1_lay_209 : decode cX1_lay 209 = .ok (.invokestatic 158, 3) := dk_184 0 158 (dk_at dksX1_lay_9 0 rfl rfl)
theorem dX1_lay_212 : decode cX1_lay 212 = .ok (.iload 12, 2) := dk_21 12 (dk_at dksX1_lay_9 3 rfl rfl)
theorem dX1_lay_214 : decode cX1_lay 214 = .ok (.invokevirtual 181, 3) := dk_182 0 181 (dk_at dksX1_lay_9 5 rfl rfl)
theorem dX1_lay_217 : decode cX1_lay 217 = .ok (.aload_n 0, 1) := dk_42 (dk_at dksX1_lay_9 8 rfl rfl)
theorem dX1_lay_218 : decode cX1_lay 218 = .ok (.getfield 54, 3) := dk_180 0 54 (dk_at dksX1_lay_9 9 rfl rfl)
theorem dX1_lay_221 : decode cX1_lay 221 = .ok (.iload 4, 2) := dk_21 4 (dk_at dksX1_lay_9 12 rfl rfl)
theorem dX1_lay_223 : decode cX1_lay 223 = .ok (.dup2, 1) := dk_92 (dk_at dksX1_lay_9 14 rfl rfl)
theorem dX1_lay_224 : decode cX1_lay 224 = .ok (.iaload, 1) := dk_46 (dk_at dksX1_lay_9 15 rfl rfl)
theorem dX1_lay_225 : decode cX1_lay 225 = .ok (.iconst 1, 1) := dk_4 (dk_at dksX1_lay_9 16 rfl rfl)
theorem dX1_lay_226 : decode cX1_lay 226 = .ok (.iadd, 1) := dk_96 (dk_at dksX1_lay_9 17 rfl rfl)
theorem dX1_lay_227 : decode cX1_lay 227 = .ok (.iastore, 1) := dk_79 (dk_at dksX1_lay_9 18 rfl rfl)
theorem dX1_lay_228 : decode cX1_lay 228 = .ok (.goto 16, 3) := dk_167 0 16 (dk_at dksX1_lay_9 19 rfl rfl)
theorem dX1_lay_231 : decode cX1_lay 231 = .ok (.iinc 4 1, 3) := dk_132 4 1 (dk_at dksX1_lay_10 0 rfl rfl)
theorem dX1_lay_234 : decode cX1_lay 234 = .ok (.aload_n 0, 1) := dk_42 (dk_at dksX1_lay_10 3 rfl rfl)
theorem dX1_lay_235 : decode cX1_lay 235 = .ok (.iload 4, 2) := dk_21 4 (dk_at dksX1_lay_10 4 rfl rfl)
theorem dX1_lay_237 : decode cX1_lay 237 = .ok (.iload 10, 2) := dk_21 10 (dk_at dksX1_lay_10 6 rfl rfl)
theorem dX1_lay_239 : decode cX1_lay 239 = .ok (.iload 11, 2) := dk_21 11 (dk_at dksX1_lay_10 8 rfl rfl)
theorem dX1_lay_241 : decode cX1_lay 241 = .ok (.invokevirtual 170, 3) := dk_182 0 170 (dk_at dksX1_lay_10 10 rfl rfl)
theorem dX1_lay_244 : decode cX1_lay 244 = .ok (.goto (-213), 3) := dk_167 255 43 (dk_at dksX1_lay_10 13 rfl rfl)
theorem dX1_lay_247 : decode cX1_lay 247 = .ok (.iload_n 3, 1) := dk_29 (dk_at dksX1_lay_10 16 rfl rfl)
theorem dX1_lay_248 : decode cX1_lay 248 = .ok (.ireturn, 1) := dk_172 (dk_at dksX1_lay_10 17 rfl rfl)
abbrev cX1_placeOf : ByteArray := prog_16_method_31_code
def yX1_placeOf : MethodName := ⟨RX1, "placeOf", "(II)I"⟩
def dkwX1_placeOf_2 : List UInt8 := [132, 3, 1, 167, 255, 211, 28, 18, 157, 126, 172]
abbrev dktX1_placeOf_2 : List UInt8 := dkwX1_placeOf_2 ++ []
def dkwX1_placeOf_1 : List UInt8 := [54, 5, 21, 4, 29, 4, 96, 122, 29, 120, 54, 6, 28, 6, 120, 21, 5, 128, 21, 6, 128, 61]
abbrev dktX1_placeOf_1 : List UInt8 := dkwX1_placeOf_1 ++ dktX1_placeOf_2
def dkwX1_placeOf_0 : List UInt8 := [27, 61, 3, 62, 29, 7, 162, 0, 46, 26, 29, 184, 0, 110, 54, 4, 21, 4, 4, 29, 120, 4, 100, 126]
abbrev dktX1_placeOf_0 : List UInt8 := dkwX1_placeOf_0 ++ dktX1_placeOf_1
theorem dksX1_placeOf_0 : cX1_placeOf.data.toList.drop 0 = dktX1_placeOf_0 := by decide +kernel
theorem dksX1_placeOf_1 : cX1_placeOf.data.toList.drop 24 = dktX1_placeOf_1 := dk_seg dksX1_placeOf_0 24 rfl rfl
theorem dksX1_placeOf_2 : cX1_placeOf.data.toList.drop 46 = dktX1_placeOf_2 := dk_seg dksX1_placeOf_1 22 rfl rfl
theorem dX1_placeOf_0 : decode cX1_placeOf 0 = .ok (.iload_n 1, 1) := dk_27 (dk_at dksX1_placeOf_0 0 rfl rfl)
theorem dX1_placeOf_1 : decode cX1_placeOf 1 = .ok (.istore_n 2, 1) := dk_61 (dk_at dksX1_placeOf_0 1 rfl rfl)
theorem dX1_placeOf_2 : decode cX1_placeOf 2 = .ok (.iconst 0, 1) := dk_3 (dk_at dksX1_placeOf_0 2 rfl rfl)
theorem dX1_placeOf_3 : decode cX1_placeOf 3 = .ok (.istore_n 3, 1) := dk_62 (dk_at dksX1_placeOf_0 3 rfl rfl)
theorem dX1_placeOf_4 : decode cX1_placeOf 4 = .ok (.iload_n 3, 1) := dk_29 (dk_at dksX1_placeOf_0 4 rfl rfl)
theorem dX1_placeOf_5 : decode cX1_placeOf 5 = .ok (.iconst 4, 1) := dk_7 (dk_at dksX1_placeOf_0 5 rfl rfl)
theorem dX1_placeOf_6 : decode cX1_placeOf 6 = .ok (.if_icmp .ge 46, 3) := dk_162 0 46 (dk_at dksX1_placeOf_0 6 rfl rfl)
theorem dX1_placeOf_9 : decode cX1_placeOf 9 = .ok (.iload_n 0, 1) := dk_26 (dk_at dksX1_placeOf_0 9 rfl rfl)
theorem dX1_placeOf_10 : decode cX1_placeOf 10 = .ok (.iload_n 3, 1) := dk_29 (dk_at dksX1_placeOf_0 10 rfl rfl)
theorem dX1_placeOf_11 : decode cX1_placeOf 11 = .ok (.invokestatic 110, 3) := dk_184 0 110 (dk_at dksX1_placeOf_0 11 rfl rfl)
theorem dX1_placeOf_14 : decode cX1_placeOf 14 = .ok (.istore 4, 2) := dk_54 4 (dk_at dksX1_placeOf_0 14 rfl rfl)
theorem dX1_placeOf_16 : decode cX1_placeOf 16 = .ok (.iload 4, 2) := dk_21 4 (dk_at dksX1_placeOf_0 16 rfl rfl)
theorem dX1_placeOf_18 : decode cX1_placeOf 18 = .ok (.iconst 1, 1) := dk_4 (dk_at dksX1_placeOf_0 18 rfl rfl)
theorem dX1_placeOf_19 : decode cX1_placeOf 19 = .ok (.iload_n 3, 1) := dk_29 (dk_at dksX1_placeOf_0 19 rfl rfl)
theorem dX1_placeOf_20 : decode cX1_placeOf 20 = .ok (.ishl, 1) := dk_120 (dk_at dksX1_placeOf_0 20 rfl rfl)
theorem dX1_placeOf_21 : decode cX1_placeOf 21 = .ok (.iconst 1, 1) := dk_4 (dk_at dksX1_placeOf_0 21 rfl rfl)
theorem dX1_placeOf_22 : decode cX1_placeOf 22 = .ok (.isub, 1) := dk_100 (dk_at dksX1_placeOf_0 22 rfl rfl)
theorem dX1_placeOf_23 : decode cX1_placeOf 23 = .ok (.iand, 1) := dk_126 (dk_at dksX1_placeOf_0 23 rfl rfl)
theorem dX1_placeOf_24 : decode cX1_placeOf 24 = .ok (.istore 5, 2) := dk_54 5 (dk_at dksX1_placeOf_1 0 rfl rfl)
theorem dX1_placeOf_26 : decode cX1_placeOf 26 = .ok (.iload 4, 2) := dk_21 4 (dk_at dksX1_placeOf_1 2 rfl rfl)
theorem dX1_placeOf_28 : decode cX1_placeOf 28 = .ok (.iload_n 3, 1) := dk_29 (dk_at dksX1_placeOf_1 4 rfl rfl)
theorem dX1_placeOf_29 : decode cX1_placeOf 29 = .ok (.iconst 1, 1) := dk_4 (dk_at dksX1_placeOf_1 5 rfl rfl)
theorem dX1_placeOf_30 : decode cX1_placeOf 30 = .ok (.iadd, 1) := dk_96 (dk_at dksX1_placeOf_1 6 rfl rfl)
theorem dX1_placeOf_31 : decode cX1_placeOf 31 = .ok (.ishr, 1) := dk_122 (dk_at dksX1_placeOf_1 7 rfl rfl)
theorem dX1_placeOf_32 : decode cX1_placeOf 32 = .ok (.iload_n 3, 1) := dk_29 (dk_at dksX1_placeOf_1 8 rfl rfl)
theorem dX1_placeOf_33 : decode cX1_placeOf 33 = .ok (.ishl, 1) := dk_120 (dk_at dksX1_placeOf_1 9 rfl rfl)
theorem dX1_placeOf_34 : decode cX1_placeOf 34 = .ok (.istore 6, 2) := dk_54 6 (dk_at dksX1_placeOf_1 10 rfl rfl)
theorem dX1_placeOf_36 : decode cX1_placeOf 36 = .ok (.iload_n 2, 1) := dk_28 (dk_at dksX1_placeOf_1 12 rfl rfl)
theorem dX1_placeOf_37 : decode cX1_placeOf 37 = .ok (.iconst 3, 1) := dk_6 (dk_at dksX1_placeOf_1 13 rfl rfl)
theorem dX1_placeOf_38 : decode cX1_placeOf 38 = .ok (.ishl, 1) := dk_120 (dk_at dksX1_placeOf_1 14 rfl rfl)
theorem dX1_placeOf_39 : decode cX1_placeOf 39 = .ok (.iload 5, 2) := dk_21 5 (dk_at dksX1_placeOf_1 15 rfl rfl)
theorem dX1_placeOf_41 : decode cX1_placeOf 41 = .ok (.ior, 1) := dk_128 (dk_at dksX1_placeOf_1 17 rfl rfl)
theorem dX1_placeOf_42 : decode cX1_placeOf 42 = .ok (.iload 6, 2) := dk_21 6 (dk_at dksX1_placeOf_1 18 rfl rfl)
theorem dX1_placeOf_44 : decode cX1_placeOf 44 = .ok (.ior, 1) := dk_128 (dk_at dksX1_placeOf_1 20 rfl rfl)
theorem dX1_placeOf_45 : decode cX1_placeOf 45 = .ok (.istore_n 2, 1) := dk_61 (dk_at dksX1_placeOf_1 21 rfl rfl)
theorem dX1_placeOf_46 : decode cX1_placeOf 46 = .ok (.iinc 3 1, 3) := dk_132 3 1 (dk_at dksX1_placeOf_2 0 rfl rfl)
theorem dX1_placeOf_49 : decode cX1_placeOf 49 = .ok (.goto (-45), 3) := dk_167 255 211 (dk_at dksX1_placeOf_2 3 rfl rfl)
theorem dX1_placeOf_52 : decode cX1_placeOf 52 = .ok (.iload_n 2, 1) := dk_28 (dk_at dksX1_placeOf_2 6 rfl rfl)
theorem dX1_placeOf_53 : decode cX1_placeOf 53 = .ok (.ldc 157, 2) := dk_18 157 (dk_at dksX1_placeOf_2 7 rfl rfl)
theorem dX1_placeOf_55 : decode cX1_placeOf 55 = .ok (.iand, 1) := dk_126 (dk_at dksX1_placeOf_2 9 rfl rfl)
theorem dX1_placeOf_56 : decode cX1_placeOf 56 = .ok (.ireturn, 1) := dk_172 (dk_at dksX1_placeOf_2 10 rfl rfl)
abbrev cX1_open : ByteArray := prog_16_method_32_code
def yX1_open : MethodName := ⟨RX1, "open", "(III)V"⟩
def dkwX1_open_2 : List UInt8 := [180, 0, 42, 21, 4, 17, 3, 232, 79, 42, 180, 0, 45, 21, 4, 2, 79, 177]
abbrev dktX1_open_2 : List UInt8 := dkwX1_open_2 ++ []
def dkwX1_open_1 : List UInt8 := [184, 0, 158, 54, 4, 42, 180, 0, 35, 21, 4, 9, 80, 42, 180, 0, 39, 21, 4, 9, 80, 42]
abbrev dktX1_open_1 : List UInt8 := dkwX1_open_1 ++ dktX1_open_2
def dkwX1_open_0 : List UInt8 := [42, 180, 0, 48, 27, 28, 79, 42, 180, 0, 51, 27, 29, 79, 42, 180, 0, 54, 27, 3, 79, 28, 29]
abbrev dktX1_open_0 : List UInt8 := dkwX1_open_0 ++ dktX1_open_1
theorem dksX1_open_0 : cX1_open.data.toList.drop 0 = dktX1_open_0 := by decide +kernel
theorem dksX1_open_1 : cX1_open.data.toList.drop 23 = dktX1_open_1 := dk_seg dksX1_open_0 23 rfl rfl
theorem dksX1_open_2 : cX1_open.data.toList.drop 45 = dktX1_open_2 := dk_seg dksX1_open_1 22 rfl rfl
theorem dX1_open_0 : decode cX1_open 0 = .ok (.aload_n 0, 1) := dk_42 (dk_at dksX1_open_0 0 rfl rfl)
theorem dX1_open_1 : decode cX1_open 1 = .ok (.getfield 48, 3) := dk_180 0 48 (dk_at dksX1_open_0 1 rfl rfl)
theorem dX1_open_4 : decode cX1_open 4 = .ok (.iload_n 1, 1) := dk_27 (dk_at dksX1_open_0 4 rfl rfl)
theorem dX1_open_5 : decode cX1_open 5 = .ok (.iload_n 2, 1) := dk_28 (dk_at dksX1_open_0 5 rfl rfl)
theorem dX1_open_6 : decode cX1_open 6 = .ok (.iastore, 1) := dk_79 (dk_at dksX1_open_0 6 rfl rfl)
theorem dX1_open_7 : decode cX1_open 7 = .ok (.aload_n 0, 1) := dk_42 (dk_at dksX1_open_0 7 rfl rfl)
theorem dX1_open_8 : decode cX1_open 8 = .ok (.getfield 51, 3) := dk_180 0 51 (dk_at dksX1_open_0 8 rfl rfl)
theorem dX1_open_11 : decode cX1_open 11 = .ok (.iload_n 1, 1) := dk_27 (dk_at dksX1_open_0 11 rfl rfl)
theorem dX1_open_12 : decode cX1_open 12 = .ok (.iload_n 3, 1) := dk_29 (dk_at dksX1_open_0 12 rfl rfl)
theorem dX1_open_13 : decode cX1_open 13 = .ok (.iastore, 1) := dk_79 (dk_at dksX1_open_0 13 rfl rfl)
theorem dX1_open_14 : decode cX1_open 14 = .ok (.aload_n 0, 1) := dk_42 (dk_at dksX1_open_0 14 rfl rfl)
theorem dX1_open_15 : decode cX1_open 15 = .ok (.getfield 54, 3) := dk_180 0 54 (dk_at dksX1_open_0 15 rfl rfl)
theorem dX1_open_18 : decode cX1_open 18 = .ok (.iload_n 1, 1) := dk_27 (dk_at dksX1_open_0 18 rfl rfl)
theorem dX1_open_19 : decode cX1_open 19 = .ok (.iconst 0, 1) := dk_3 (dk_at dksX1_open_0 19 rfl rfl)
theorem dX1_open_20 : decode cX1_open 20 = .ok (.iastore, 1) := dk_79 (dk_at dksX1_open_0 20 rfl rfl)
theorem dX1_open_21 : decode cX1_open 21 = .ok (.iload_n 2, 1) := dk_28 (dk_at dksX1_open_0 21 rfl rfl)
theorem dX1_open_22 : decode cX1_open 22 = .ok (.iload_n 3, 1) := dk_29 (dk_at dksX1_open_0 22 rfl rfl)
theorem dX1_open_23 : decode cX1_open 23 = .ok (.invokestatic 158, 3) := dk_184 0 158 (dk_at dksX1_open_1 0 rfl rfl)
theorem dX1_open_26 : decode cX1_open 26 = .ok (.istore 4, 2) := dk_54 4 (dk_at dksX1_open_1 3 rfl rfl)
theorem dX1_open_28 : decode cX1_open 28 = .ok (.aload_n 0, 1) := dk_42 (dk_at dksX1_open_1 5 rfl rfl)
theorem dX1_open_29 : decode cX1_open 29 = .ok (.getfield 35, 3) := dk_180 0 35 (dk_at dksX1_open_1 6 rfl rfl)
theorem dX1_open_32 : decode cX1_open 32 = .ok (.iload 4, 2) := dk_21 4 (dk_at dksX1_open_1 9 rfl rfl)
theorem dX1_open_34 : decode cX1_open 34 = .ok (.lconst 0, 1) := dk_9 (dk_at dksX1_open_1 11 rfl rfl)
theorem dX1_open_35 : decode cX1_open 35 = .ok (.lastore, 1) := dk_80 (dk_at dksX1_open_1 12 rfl rfl)
theorem dX1_open_36 : decode cX1_open 36 = .ok (.aload_n 0, 1) := dk_42 (dk_at dksX1_open_1 13 rfl rfl)
theorem dX1_open_37 : decode cX1_open 37 = .ok (.getfield 39, 3) := dk_180 0 39 (dk_at dksX1_open_1 14 rfl rfl)
theorem dX1_open_40 : decode cX1_open 40 = .ok (.iload 4, 2) := dk_21 4 (dk_at dksX1_open_1 17 rfl rfl)
theorem dX1_open_42 : decode cX1_open 42 = .ok (.lconst 0, 1) := dk_9 (dk_at dksX1_open_1 19 rfl rfl)
theorem dX1_open_43 : decode cX1_open 43 = .ok (.lastore, 1) := dk_80 (dk_at dksX1_open_1 20 rfl rfl)
theorem dX1_open_44 : decode cX1_open 44 = .ok (.aload_n 0, 1) := dk_42 (dk_at dksX1_open_1 21 rfl rfl)
theorem dX1_open_45 : decode cX1_open 45 = .ok (.getfield 42, 3) := dk_180 0 42 (dk_at dksX1_open_2 0 rfl rfl)
theorem dX1_open_48 : decode cX1_open 48 = .ok (.iload 4, 2) := dk_21 4 (dk_at dksX1_open_2 3 rfl rfl)
theorem dX1_open_50 : decode cX1_open 50 = .ok (.sipush 1000, 3) := dk_17 3 232 (dk_at dksX1_open_2 5 rfl rfl)
theorem dX1_open_53 : decode cX1_open 53 = .ok (.iastore, 1) := dk_79 (dk_at dksX1_open_2 8 rfl rfl)
theorem dX1_open_54 : decode cX1_open 54 = .ok (.aload_n 0, 1) := dk_42 (dk_at dksX1_open_2 9 rfl rfl)
theorem dX1_open_55 : decode cX1_open 55 = .ok (.getfield 45, 3) := dk_180 0 45 (dk_at dksX1_open_2 10 rfl rfl)
theorem dX1_open_58 : decode cX1_open 58 = .ok (.iload 4, 2) := dk_21 4 (dk_at dksX1_open_2 13 rfl rfl)
theorem dX1_open_60 : decode cX1_open 60 = .ok (.iconst (-1), 1) := dk_2 (dk_at dksX1_open_2 15 rfl rfl)
theorem dX1_open_61 : decode cX1_open 61 = .ok (.iastore, 1) := dk_79 (dk_at dksX1_open_2 16 rfl rfl)
theorem dX1_open_62 : decode cX1_open 62 = .ok (.return_, 1) := dk_177 (dk_at dksX1_open_2 17 rfl rfl)
abbrev cX1_close : ByteArray := prog_16_method_34_code
def yX1_close : MethodName := ⟨RX1, "close", "(II)V"⟩
def dkwX1_close_3 : List UInt8 := [180, 0, 45, 27, 29, 153, 0, 7, 3, 167, 0, 4, 2, 79, 177]
abbrev dktX1_close_3 : List UInt8 := dkwX1_close_3 ++ []
def dkwX1_close_2 : List UInt8 := [167, 0, 4, 9, 80, 42, 180, 0, 42, 27, 29, 153, 0, 7, 3, 167, 0, 6, 17, 3, 232, 79, 42]
abbrev dktX1_close_2 : List UInt8 := dkwX1_close_2 ++ dktX1_close_3
def dkwX1_close_1 : List UInt8 := [180, 0, 164, 182, 0, 167, 62, 42, 180, 0, 35, 27, 10, 80, 42, 180, 0, 39, 27, 29, 153, 0, 7, 10]
abbrev dktX1_close_1 : List UInt8 := dkwX1_close_1 ++ dktX1_close_2
def dkwX1_close_0 : List UInt8 := [42, 180, 0, 32, 27, 42, 180, 0, 161, 79, 42, 180, 0, 35, 27, 47, 9, 148, 154, 0, 67, 42, 28, 42]
abbrev dktX1_close_0 : List UInt8 := dkwX1_close_0 ++ dktX1_close_1
theorem dksX1_close_0 : cX1_close.data.toList.drop 0 = dktX1_close_0 := by decide +kernel
theorem dksX1_close_1 : cX1_close.data.toList.drop 24 = dktX1_close_1 := dk_seg dksX1_close_0 24 rfl rfl
theorem dksX1_close_2 : cX1_close.data.toList.drop 48 = dktX1_close_2 := dk_seg dksX1_close_1 24 rfl rfl
theorem dksX1_close_3 : cX1_close.data.toList.drop 71 = dktX1_close_3 := dk_seg dksX1_close_2 23 rfl rfl
theorem dX1_close_0 : decode cX1_close 0 = .ok (.aload_n 0, 1) := dk_42 (dk_at dksX1_close_0 0 rfl rfl)
theorem dX1_close_1 : decode cX1_close 1 = .ok (.getfield 32, 3) := dk_180 0 32 (dk_at dksX1_close_0 1 rfl rfl)
theorem dX1_close_4 : decode cX1_close 4 = .ok (.iload_n 1, 1) := dk_27 (dk_at dksX1_close_0 4 rfl rfl)
theorem dX1_close_5 : decode cX1_close 5 = .ok (.aload_n 0, 1) := dk_42 (dk_at dksX1_close_0 5 rfl rfl)
theorem dX1_close_6 : decode cX1_close 6 = .ok (.getfield 161, 3) := dk_180 0 161 (dk_at dksX1_close_0 6 rfl rfl)
theorem dX1_close_9 : decode cX1_close 9 = .ok (.iastore, 1) := dk_79 (dk_at dksX1_close_0 9 rfl rfl)
theorem dX1_close_10 : decode cX1_close 10 = .ok (.aload_n 0, 1) := dk_42 (dk_at dksX1_close_0 10 rfl rfl)
theorem dX1_close_11 : decode cX1_close 11 = .ok (.getfield 35, 3) := dk_180 0 35 (dk_at dksX1_close_0 11 rfl rfl)
theorem dX1_close_14 : decode cX1_close 14 = .ok (.iload_n 1, 1) := dk_27 (dk_at dksX1_close_0 14 rfl rfl)
theorem dX1_close_15 : decode cX1_close 15 = .ok (.laload, 1) := dk_47 (dk_at dksX1_close_0 15 rfl rfl)
theorem dX1_close_16 : decode cX1_close 16 = .ok (.lconst 0, 1) := dk_9 (dk_at dksX1_close_0 16 rfl rfl)
theorem dX1_close_17 : decode cX1_close 17 = .ok (.lcmp, 1) := dk_148 (dk_at dksX1_close_0 17 rfl rfl)
theorem dX1_close_18 : decode cX1_close 18 = .ok (.ifCond .ne 67, 3) := dk_154 0 67 (dk_at dksX1_close_0 18 rfl rfl)
theorem dX1_close_21 : decode cX1_close 21 = .ok (.aload_n 0, 1) := dk_42 (dk_at dksX1_close_0 21 rfl rfl)
theorem dX1_close_22 : decode cX1_close 22 = .ok (.iload_n 2, 1) := dk_28 (dk_at dksX1_close_0 22 rfl rfl)
theorem dX1_close_23 : decode cX1_close 23 = .ok (.aload_n 0, 1) := dk_42 (dk_at dksX1_close_0 23 rfl rfl)
theorem dX1_close_24 : decode cX1_close 24 = .ok (.getfield 164, 3) := dk_180 0 164 (dk_at dksX1_close_1 0 rfl rfl)
theorem dX1_close_27 : decode cX1_close 27 = .ok (.invokevirtual 167, 3) := dk_182 0 167 (dk_at dksX1_close_1 3 rfl rfl)
theorem dX1_close_30 : decode cX1_close 30 = .ok (.istore_n 3, 1) := dk_62 (dk_at dksX1_close_1 6 rfl rfl)
theorem dX1_close_31 : decode cX1_close 31 = .ok (.aload_n 0, 1) := dk_42 (dk_at dksX1_close_1 7 rfl rfl)
theorem dX1_close_32 : decode cX1_close 32 = .ok (.getfield 35, 3) := dk_180 0 35 (dk_at dksX1_close_1 8 rfl rfl)
theorem dX1_close_35 : decode cX1_close 35 = .ok (.iload_n 1, 1) := dk_27 (dk_at dksX1_close_1 11 rfl rfl)
theorem dX1_close_36 : decode cX1_close 36 = .ok (.lconst 1, 1) := dk_10 (dk_at dksX1_close_1 12 rfl rfl)
theorem dX1_close_37 : decode cX1_close 37 = .ok (.lastore, 1) := dk_80 (dk_at dksX1_close_1 13 rfl rfl)
theorem dX1_close_38 : decode cX1_close 38 = .ok (.aload_n 0, 1) := dk_42 (dk_at dksX1_close_1 14 rfl rfl)
theorem dX1_close_39 : decode cX1_close 39 = .ok (.getfield 39, 3) := dk_180 0 39 (dk_at dksX1_close_1 15 rfl rfl)
theorem dX1_close_42 : decode cX1_close 42 = .ok (.iload_n 1, 1) := dk_27 (dk_at dksX1_close_1 18 rfl rfl)
theorem dX1_close_43 : decode cX1_close 43 = .ok (.iload_n 3, 1) := dk_29 (dk_at dksX1_close_1 19 rfl rfl)
theorem dX1_close_44 : decode cX1_close 44 = .ok (.ifCond .eq 7, 3) := dk_153 0 7 (dk_at dksX1_close_1 20 rfl rfl)
theorem dX1_close_47 : decode cX1_close 47 = .ok (.lconst 1, 1) := dk_10 (dk_at dksX1_close_1 23 rfl rfl)
theorem dX1_close_48 : decode cX1_close 48 = .ok (.goto 4, 3) := dk_167 0 4 (dk_at dksX1_close_2 0 rfl rfl)
theorem dX1_close_51 : decode cX1_close 51 = .ok (.lconst 0, 1) := dk_9 (dk_at dksX1_close_2 3 rfl rfl)
theorem dX1_close_52 : decode cX1_close 52 = .ok (.lastore, 1) := dk_80 (dk_at dksX1_close_2 4 rfl rfl)
theorem dX1_close_53 : decode cX1_close 53 = .ok (.aload_n 0, 1) := dk_42 (dk_at dksX1_close_2 5 rfl rfl)
theorem dX1_close_54 : decode cX1_close 54 = .ok (.getfield 42, 3) := dk_180 0 42 (dk_at dksX1_close_2 6 rfl rfl)
theorem dX1_close_57 : decode cX1_close 57 = .ok (.iload_n 1, 1) := dk_27 (dk_at dksX1_close_2 9 rfl rfl)
theorem dX1_close_58 : decode cX1_close 58 = .ok (.iload_n 3, 1) := dk_29 (dk_at dksX1_close_2 10 rfl rfl)
theorem dX1_close_59 : decode cX1_close 59 = .ok (.ifCond .eq 7, 3) := dk_153 0 7 (dk_at dksX1_close_2 11 rfl rfl)
theorem dX1_close_62 : decode cX1_close 62 = .ok (.iconst 0, 1) := dk_3 (dk_at dksX1_close_2 14 rfl rfl)
theorem dX1_close_63 : decode cX1_close 63 = .ok (.goto 6, 3) := dk_167 0 6 (dk_at dksX1_close_2 15 rfl rfl)
theorem dX1_close_66 : decode cX1_close 66 = .ok (.sipush 1000, 3) := dk_17 3 232 (dk_at dksX1_close_2 18 rfl rfl)
theorem dX1_close_69 : decode cX1_close 69 = .ok (.iastore, 1) := dk_79 (dk_at dksX1_close_2 21 rfl rfl)
theorem dX1_close_70 : decode cX1_close 70 = .ok (.aload_n 0, 1) := dk_42 (dk_at dksX1_close_2 22 rfl rfl)
theorem dX1_close_71 : decode cX1_close 71 = .ok (.getfield 45, 3) := dk_180 0 45 (dk_at dksX1_close_3 0 rfl rfl)
theorem dX1_close_74 : decode cX1_close 74 = .ok (.iload_n 1, 1) := dk_27 (dk_at dksX1_close_3 3 rfl rfl)
theorem dX1_close_75 : decode cX1_close 75 = .ok (.iload_n 3, 1) := dk_29 (dk_at dksX1_close_3 4 rfl rfl)
theorem dX1_close_76 : decode cX1_close 76 = .ok (.ifCond .eq 7, 3) := dk_153 0 7 (dk_at dksX1_close_3 5 rfl rfl)
theorem dX1_close_79 : decode cX1_close 79 = .ok (.iconst 0, 1) := dk_3 (dk_at dksX1_close_3 8 rfl rfl)
theorem dX1_close_80 : decode cX1_close 80 = .ok (.goto 4, 3) := dk_167 0 4 (dk_at dksX1_close_3 9 rfl rfl)
theorem dX1_close_83 : decode cX1_close 83 = .ok (.iconst (-1), 1) := dk_2 (dk_at dksX1_close_3 12 rfl rfl)
theorem dX1_close_84 : decode cX1_close 84 = .ok (.iastore, 1) := dk_79 (dk_at dksX1_close_3 13 rfl rfl)
theorem dX1_close_85 : decode cX1_close 85 = .ok (.return_, 1) := dk_177 (dk_at dksX1_close_3 14 rfl rfl)
abbrev cX1_areExperts : ByteArray := prog_16_method_18_code
def yX1_areExperts : MethodName := ⟨RX1, "areExperts", "(II)Z"⟩
def dkwX1_areExperts_1 : List UInt8 := [132, 3, 1, 167, 255, 233, 4, 172]
abbrev dktX1_areExperts_1 : List UInt8 := dkwX1_areExperts_1 ++ []
def dkwX1_areExperts_0 : List UInt8 := [3, 62, 29, 28, 162, 0, 24, 27, 29, 184, 0, 110, 4, 28, 120, 4, 100, 159, 0, 5, 3, 172]
abbrev dktX1_areExperts_0 : List UInt8 := dkwX1_areExperts_0 ++ dktX1_areExperts_1
theorem dksX1_areExperts_0 : cX1_areExperts.data.toList.drop 0 = dktX1_areExperts_0 := by decide +kernel
theorem dksX1_areExperts_1 : cX1_areExperts.data.toList.drop 22 = dktX1_areExperts_1 := dk_seg dksX1_areExperts_0 22 rfl rfl
theorem dX1_areExperts_0 : decode cX1_areExperts 0 = .ok (.iconst 0, 1) := dk_3 (dk_at dksX1_areExperts_0 0 rfl rfl)
theorem dX1_areExperts_1 : decode cX1_areExperts 1 = .ok (.istore_n 3, 1) := dk_62 (dk_at dksX1_areExperts_0 1 rfl rfl)
theorem dX1_areExperts_2 : decode cX1_areExperts 2 = .ok (.iload_n 3, 1) := dk_29 (dk_at dksX1_areExperts_0 2 rfl rfl)
theorem dX1_areExperts_3 : decode cX1_areExperts 3 = .ok (.iload_n 2, 1) := dk_28 (dk_at dksX1_areExperts_0 3 rfl rfl)
theorem dX1_areExperts_4 : decode cX1_areExperts 4 = .ok (.if_icmp .ge 24, 3) := dk_162 0 24 (dk_at dksX1_areExperts_0 4 rfl rfl)
theorem dX1_areExperts_7 : decode cX1_areExperts 7 = .ok (.iload_n 1, 1) := dk_27 (dk_at dksX1_areExperts_0 7 rfl rfl)
theorem dX1_areExperts_8 : decode cX1_areExperts 8 = .ok (.iload_n 3, 1) := dk_29 (dk_at dksX1_areExperts_0 8 rfl rfl)
theorem dX1_areExperts_9 : decode cX1_areExperts 9 = .ok (.invokestatic 110, 3) := dk_184 0 110 (dk_at dksX1_areExperts_0 9 rfl rfl)
theorem dX1_areExperts_12 : decode cX1_areExperts 12 = .ok (.iconst 1, 1) := dk_4 (dk_at dksX1_areExperts_0 12 rfl rfl)
theorem dX1_areExperts_13 : decode cX1_areExperts 13 = .ok (.iload_n 2, 1) := dk_28 (dk_at dksX1_areExperts_0 13 rfl rfl)
theorem dX1_areExperts_14 : decode cX1_areExperts 14 = .ok (.ishl, 1) := dk_120 (dk_at dksX1_areExperts_0 14 rfl rfl)
theorem dX1_areExperts_15 : decode cX1_areExperts 15 = .ok (.iconst 1, 1) := dk_4 (dk_at dksX1_areExperts_0 15 rfl rfl)
theorem dX1_areExperts_16 : decode cX1_areExperts 16 = .ok (.isub, 1) := dk_100 (dk_at dksX1_areExperts_0 16 rfl rfl)
theorem dX1_areExperts_17 : decode cX1_areExperts 17 = .ok (.if_icmp .eq 5, 3) := dk_159 0 5 (dk_at dksX1_areExperts_0 17 rfl rfl)
theorem dX1_areExperts_20 : decode cX1_areExperts 20 = .ok (.iconst 0, 1) := dk_3 (dk_at dksX1_areExperts_0 20 rfl rfl)
theorem dX1_areExperts_21 : decode cX1_areExperts 21 = .ok (.ireturn, 1) := dk_172 (dk_at dksX1_areExperts_0 21 rfl rfl)
theorem dX1_areExperts_22 : decode cX1_areExperts 22 = .ok (.iinc 3 1, 3) := dk_132 3 1 (dk_at dksX1_areExperts_1 0 rfl rfl)
theorem dX1_areExperts_25 : decode cX1_areExperts 25 = .ok (.goto (-23), 3) := dk_167 255 233 (dk_at dksX1_areExperts_1 3 rfl rfl)
theorem dX1_areExperts_28 : decode cX1_areExperts 28 = .ok (.iconst 1, 1) := dk_4 (dk_at dksX1_areExperts_1 6 rfl rfl)
theorem dX1_areExperts_29 : decode cX1_areExperts 29 = .ok (.ireturn, 1) := dk_172 (dk_at dksX1_areExperts_1 7 rfl rfl)
abbrev cX1_add : ByteArray := prog_16_method_33_code
def yX1_add : MethodName := ⟨RX1, "add", "(II)V"⟩
def dkwX1_add_5 : List UInt8 := [46, 79, 177]
abbrev dktX1_add_5 : List UInt8 := dkwX1_add_5 ++ []
def dkwX1_add_4 : List UInt8 := [180, 0, 45, 27, 46, 164, 0, 14, 42, 180, 0, 45, 28, 46, 4, 96, 167, 0, 9, 42, 180, 0, 45, 27]
abbrev dktX1_add_4 : List UInt8 := dkwX1_add_4 ++ dktX1_add_5
def dkwX1_add_3 : List UInt8 := [167, 0, 9, 42, 180, 0, 42, 27, 46, 79, 42, 180, 0, 45, 27, 42, 180, 0, 45, 28, 46, 4, 96, 42]
abbrev dktX1_add_3 : List UInt8 := dkwX1_add_3 ++ dktX1_add_4
def dkwX1_add_2 : List UInt8 := [180, 0, 42, 28, 46, 4, 96, 42, 180, 0, 42, 27, 46, 162, 0, 14, 42, 180, 0, 42, 28, 46, 4, 96]
abbrev dktX1_add_2 : List UInt8 := dkwX1_add_2 ++ dktX1_add_3
def dkwX1_add_1 : List UInt8 := [180, 0, 39, 28, 47, 97, 80, 42, 180, 0, 39, 28, 47, 9, 148, 158, 0, 83, 42, 180, 0, 42, 27, 42]
abbrev dktX1_add_1 : List UInt8 := dkwX1_add_1 ++ dktX1_add_2
def dkwX1_add_0 : List UInt8 := [42, 180, 0, 35, 27, 92, 47, 42, 180, 0, 35, 28, 47, 97, 80, 42, 180, 0, 39, 27, 92, 47, 42]
abbrev dktX1_add_0 : List UInt8 := dkwX1_add_0 ++ dktX1_add_1
theorem dksX1_add_0 : cX1_add.data.toList.drop 0 = dktX1_add_0 := by decide +kernel
theorem dksX1_add_1 : cX1_add.data.toList.drop 23 = dktX1_add_1 := dk_seg dksX1_add_0 23 rfl rfl
theorem dksX1_add_2 : cX1_add.data.toList.drop 47 = dktX1_add_2 := dk_seg dksX1_add_1 24 rfl rfl
theorem dksX1_add_3 : cX1_add.data.toList.drop 71 = dktX1_add_3 := dk_seg dksX1_add_2 24 rfl rfl
theorem dksX1_add_4 : cX1_add.data.toList.drop 95 = dktX1_add_4 := dk_seg dksX1_add_3 24 rfl rfl
theorem dksX1_add_5 : cX1_add.data.toList.drop 119 = dktX1_add_5 := dk_seg dksX1_add_4 24 rfl rfl
theorem dX1_add_0 : decode cX1_add 0 = .ok (.aload_n 0, 1) := dk_42 (dk_at dksX1_add_0 0 rfl rfl)
theorem dX1_add_1 : decode cX1_add 1 = .ok (.getfield 35, 3) := dk_180 0 35 (dk_at dksX1_add_0 1 rfl rfl)
theorem dX1_add_4 : decode cX1_add 4 = .ok (.iload_n 1, 1) := dk_27 (dk_at dksX1_add_0 4 rfl rfl)
theorem dX1_add_5 : decode cX1_add 5 = .ok (.dup2, 1) := dk_92 (dk_at dksX1_add_0 5 rfl rfl)
theorem dX1_add_6 : decode cX1_add 6 = .ok (.laload, 1) := dk_47 (dk_at dksX1_add_0 6 rfl rfl)
theorem dX1_add_7 : decode cX1_add 7 = .ok (.aload_n 0, 1) := dk_42 (dk_at dksX1_add_0 7 rfl rfl)
theorem dX1_add_8 : decode cX1_add 8 = .ok (.getfield 35, 3) := dk_180 0 35 (dk_at dksX1_add_0 8 rfl rfl)
theorem dX1_add_11 : decode cX1_add 11 = .ok (.iload_n 2, 1) := dk_28 (dk_at dksX1_add_0 11 rfl rfl)
theorem dX1_add_12 : decode cX1_add 12 = .ok (.laload, 1) := dk_47 (dk_at dksX1_add_0 12 rfl rfl)
theorem dX1_add_13 : decode cX1_add 13 = .ok (.ladd, 1) := dk_97 (dk_at dksX1_add_0 13 rfl rfl)
theorem dX1_add_14 : decode cX1_add 14 = .ok (.lastore, 1) := dk_80 (dk_at dksX1_add_0 14 rfl rfl)
theorem dX1_add_15 : decode cX1_add 15 = .ok (.aload_n 0, 1) := dk_42 (dk_at dksX1_add_0 15 rfl rfl)
theorem dX1_add_16 : decode cX1_add 16 = .ok (.getfield 39, 3) := dk_180 0 39 (dk_at dksX1_add_0 16 rfl rfl)
theorem dX1_add_19 : decode cX1_add 19 = .ok (.iload_n 1, 1) := dk_27 (dk_at dksX1_add_0 19 rfl rfl)
theorem dX1_add_20 : decode cX1_add 20 = .ok (.dup2, 1) := dk_92 (dk_at dksX1_add_0 20 rfl rfl)
theorem dX1_add_21 : decode cX1_add 21 = .ok (.laload, 1) := dk_47 (dk_at dksX1_add_0 21 rfl rfl)
theorem dX1_add_22 : decode cX1_add 22 = .ok (.aload_n 0, 1) := dk_42 (dk_at dksX1_add_0 22 rfl rfl)
theorem dX1_add_23 : decode cX1_add 23 = .ok (.getfield 39, 3) := dk_180 0 39 (dk_at dksX1_add_1 0 rfl rfl)
theorem dX1_add_26 : decode cX1_add 26 = .ok (.iload_n 2, 1) := dk_28 (dk_at dksX1_add_1 3 rfl rfl)
theorem dX1_add_27 : decode cX1_add 27 = .ok (.laload, 1) := dk_47 (dk_at dksX1_add_1 4 rfl rfl)
theorem dX1_add_28 : decode cX1_add 28 = .ok (.ladd, 1) := dk_97 (dk_at dksX1_add_1 5 rfl rfl)
theorem dX1_add_29 : decode cX1_add 29 = .ok (.lastore, 1) := dk_80 (dk_at dksX1_add_1 6 rfl rfl)
theorem dX1_add_30 : decode cX1_add 30 = .ok (.aload_n 0, 1) := dk_42 (dk_at dksX1_add_1 7 rfl rfl)
theorem dX1_add_31 : decode cX1_add 31 = .ok (.getfield 39, 3) := dk_180 0 39 (dk_at dksX1_add_1 8 rfl rfl)
theorem dX1_add_34 : decode cX1_add 34 = .ok (.iload_n 2, 1) := dk_28 (dk_at dksX1_add_1 11 rfl rfl)
theorem dX1_add_35 : decode cX1_add 35 = .ok (.laload, 1) := dk_47 (dk_at dksX1_add_1 12 rfl rfl)
theorem dX1_add_36 : decode cX1_add 36 = .ok (.lconst 0, 1) := dk_9 (dk_at dksX1_add_1 13 rfl rfl)
theorem dX1_add_37 : decode cX1_add 37 = .ok (.lcmp, 1) := dk_148 (dk_at dksX1_add_1 14 rfl rfl)
theorem dX1_add_38 : decode cX1_add 38 = .ok (.ifCond .le 83, 3) := dk_158 0 83 (dk_at dksX1_add_1 15 rfl rfl)
theorem dX1_add_41 : decode cX1_add 41 = .ok (.aload_n 0, 1) := dk_42 (dk_at dksX1_add_1 18 rfl rfl)
theorem dX1_add_42 : decode cX1_add 42 = .ok (.getfield 42, 3) := dk_180 0 42 (dk_at dksX1_add_1 19 rfl rfl)
theorem dX1_add_45 : decode cX1_add 45 = .ok (.iload_n 1, 1) := dk_27 (dk_at dksX1_add_1 22 rfl rfl)
theorem dX1_add_46 : decode cX1_add 46 = .ok (.aload_n 0, 1) := dk_42 (dk_at dksX1_add_1 23 rfl rfl)
theorem dX1_add_47 : decode cX1_add 47 = .ok (.getfield 42, 3) := dk_180 0 42 (dk_at dksX1_add_2 0 rfl rfl)
theorem dX1_add_50 : decode cX1_add 50 = .ok (.iload_n 2, 1) := dk_28 (dk_at dksX1_add_2 3 rfl rfl)
theorem dX1_add_51 : decode cX1_add 51 = .ok (.iaload, 1) := dk_46 (dk_at dksX1_add_2 4 rfl rfl)
theorem dX1_add_52 : decode cX1_add 52 = .ok (.iconst 1, 1) := dk_4 (dk_at dksX1_add_2 5 rfl rfl)
theorem dX1_add_53 : decode cX1_add 53 = .ok (.iadd, 1) := dk_96 (dk_at dksX1_add_2 6 rfl rfl)
theorem dX1_add_54 : decode cX1_add 54 = .ok (.aload_n 0, 1) := dk_42 (dk_at dksX1_add_2 7 rfl rfl)
theorem dX1_add_55 : decode cX1_add 55 = .ok (.getfield 42, 3) := dk_180 0 42 (dk_at dksX1_add_2 8 rfl rfl)
theorem dX1_add_58 : decode cX1_add 58 = .ok (.iload_n 1, 1) := dk_27 (dk_at dksX1_add_2 11 rfl rfl)
theorem dX1_add_59 : decode cX1_add 59 = .ok (.iaload, 1) := dk_46 (dk_at dksX1_add_2 12 rfl rfl)
theorem dX1_add_60 : decode cX1_add 60 = .ok (.if_icmp .ge 14, 3) := dk_162 0 14 (dk_at dksX1_add_2 13 rfl rfl)
theorem dX1_add_63 : decode cX1_add 63 = .ok (.aload_n 0, 1) := dk_42 (dk_at dksX1_add_2 16 rfl rfl)
theorem dX1_add_64 : decode cX1_add 64 = .ok (.getfield 42, 3) := dk_180 0 42 (dk_at dksX1_add_2 17 rfl rfl)
theorem dX1_add_67 : decode cX1_add 67 = .ok (.iload_n 2, 1) := dk_28 (dk_at dksX1_add_2 20 rfl rfl)
theorem dX1_add_68 : decode cX1_add 68 = .ok (.iaload, 1) := dk_46 (dk_at dksX1_add_2 21 rfl rfl)
theorem dX1_add_69 : decode cX1_add 69 = .ok (.iconst 1, 1) := dk_4 (dk_at dksX1_add_2 22 rfl rfl)
theorem dX1_add_70 : decode cX1_add 70 = .ok (.iadd, 1) := dk_96 (dk_at dksX1_add_2 23 rfl rfl)
theorem dX1_add_71 : decode cX1_add 71 = .ok (.goto 9, 3) := dk_167 0 9 (dk_at dksX1_add_3 0 rfl rfl)
theorem dX1_add_74 : decode cX1_add 74 = .ok (.aload_n 0, 1) := dk_42 (dk_at dksX1_add_3 3 rfl rfl)
theorem dX1_add_75 : decode cX1_add 75 = .ok (.getfield 42, 3) := dk_180 0 42 (dk_at dksX1_add_3 4 rfl rfl)
theorem dX1_add_78 : decode cX1_add 78 = .ok (.iload_n 1, 1) := dk_27 (dk_at dksX1_add_3 7 rfl rfl)
theorem dX1_add_79 : decode cX1_add 79 = .ok (.iaload, 1) := dk_46 (dk_at dksX1_add_3 8 rfl rfl)
theorem dX1_add_80 : decode cX1_add 80 = .ok (.iastore, 1) := dk_79 (dk_at dksX1_add_3 9 rfl rfl)
theorem dX1_add_81 : decode cX1_add 81 = .ok (.aload_n 0, 1) := dk_42 (dk_at dksX1_add_3 10 rfl rfl)
theorem dX1_add_82 : decode cX1_add 82 = .ok (.getfield 45, 3) := dk_180 0 45 (dk_at dksX1_add_3 11 rfl rfl)
theorem dX1_add_85 : decode cX1_add 85 = .ok (.iload_n 1, 1) := dk_27 (dk_at dksX1_add_3 14 rfl rfl)
theorem dX1_add_86 : decode cX1_add 86 = .ok (.aload_n 0, 1) := dk_42 (dk_at dksX1_add_3 15 rfl rfl)
theorem dX1_add_87 : decode cX1_add 87 = .ok (.getfield 45, 3) := dk_180 0 45 (dk_at dksX1_add_3 16 rfl rfl)
theorem dX1_add_90 : decode cX1_add 90 = .ok (.iload_n 2, 1) := dk_28 (dk_at dksX1_add_3 19 rfl rfl)
theorem dX1_add_91 : decode cX1_add 91 = .ok (.iaload, 1) := dk_46 (dk_at dksX1_add_3 20 rfl rfl)
theorem dX1_add_92 : decode cX1_add 92 = .ok (.iconst 1, 1) := dk_4 (dk_at dksX1_add_3 21 rfl rfl)
theorem dX1_add_93 : decode cX1_add 93 = .ok (.iadd, 1) := dk_96 (dk_at dksX1_add_3 22 rfl rfl)
theorem dX1_add_94 : decode cX1_add 94 = .ok (.aload_n 0, 1) := dk_42 (dk_at dksX1_add_3 23 rfl rfl)
theorem dX1_add_95 : decode cX1_add 95 = .ok (.getfield 45, 3) := dk_180 0 45 (dk_at dksX1_add_4 0 rfl rfl)
theorem dX1_add_98 : decode cX1_add 98 = .ok (.iload_n 1, 1) := dk_27 (dk_at dksX1_add_4 3 rfl rfl)
theorem dX1_add_99 : decode cX1_add 99 = .ok (.iaload, 1) := dk_46 (dk_at dksX1_add_4 4 rfl rfl)
theorem dX1_add_100 : decode cX1_add 100 = .ok (.if_icmp .le 14, 3) := dk_164 0 14 (dk_at dksX1_add_4 5 rfl rfl)
theorem dX1_add_103 : decode cX1_add 103 = .ok (.aload_n 0, 1) := dk_42 (dk_at dksX1_add_4 8 rfl rfl)
theorem dX1_add_104 : decode cX1_add 104 = .ok (.getfield 45, 3) := dk_180 0 45 (dk_at dksX1_add_4 9 rfl rfl)
theorem dX1_add_107 : decode cX1_add 107 = .ok (.iload_n 2, 1) := dk_28 (dk_at dksX1_add_4 12 rfl rfl)
theorem dX1_add_108 : decode cX1_add 108 = .ok (.iaload, 1) := dk_46 (dk_at dksX1_add_4 13 rfl rfl)
theorem dX1_add_109 : decode cX1_add 109 = .ok (.iconst 1, 1) := dk_4 (dk_at dksX1_add_4 14 rfl rfl)
theorem dX1_add_110 : decode cX1_add 110 = .ok (.iadd, 1) := dk_96 (dk_at dksX1_add_4 15 rfl rfl)
theorem dX1_add_111 : decode cX1_add 111 = .ok (.goto 9, 3) := dk_167 0 9 (dk_at dksX1_add_4 16 rfl rfl)
theorem dX1_add_114 : decode cX1_add 114 = .ok (.aload_n 0, 1) := dk_42 (dk_at dksX1_add_4 19 rfl rfl)
theorem dX1_add_115 : decode cX1_add 115 = .ok (.getfield 45, 3) := dk_180 0 45 (dk_at dksX1_add_4 20 rfl rfl)
theorem dX1_add_118 : decode cX1_add 118 = .ok (.iload_n 1, 1) := dk_27 (dk_at dksX1_add_4 23 rfl rfl)
theorem dX1_add_119 : decode cX1_add 119 = .ok (.iaload, 1) := dk_46 (dk_at dksX1_add_5 0 rfl rfl)
theorem dX1_add_120 : decode cX1_add 120 = .ok (.iastore, 1) := dk_79 (dk_at dksX1_add_5 1 rfl rfl)
theorem dX1_add_121 : decode cX1_add 121 = .ok (.return_, 1) := dk_177 (dk_at dksX1_add_5 2 rfl rfl)
abbrev cX1_verdict : ByteArray := prog_16_method_40_code
def yX1_verdict : MethodName := ⟨RX1, "verdict", "(I)I"⟩
def dkwX1_verdict_1 : List UInt8 := [182, 0, 191, 182, 0, 194, 172]
abbrev dktX1_verdict_1 : List UInt8 := dkwX1_verdict_1 ++ []
def dkwX1_verdict_0 : List UInt8 := [27, 184, 0, 150, 154, 0, 5, 2, 172, 42, 180, 0, 82, 154, 0, 8, 16, 253, 167, 0, 12, 42, 42, 27]
abbrev dktX1_verdict_0 : List UInt8 := dkwX1_verdict_0 ++ dktX1_verdict_1
theorem dksX1_verdict_0 : cX1_verdict.data.toList.drop 0 = dktX1_verdict_0 := by decide +kernel
theorem dksX1_verdict_1 : cX1_verdict.data.toList.drop 24 = dktX1_verdict_1 := dk_seg dksX1_verdict_0 24 rfl rfl
theorem dX1_verdict_0 : decode cX1_verdict 0 = .ok (.iload_n 1, 1) := dk_27 (dk_at dksX1_verdict_0 0 rfl rfl)
theorem dX1_verdict_1 : decode cX1_verdict 1 = .ok (.invokestatic 150, 3) := dk_184 0 150 (dk_at dksX1_verdict_0 1 rfl rfl)
theorem dX1_verdict_4 : decode cX1_verdict 4 = .ok (.ifCond .ne 5, 3) := dk_154 0 5 (dk_at dksX1_verdict_0 4 rfl rfl)
theorem dX1_verdict_7 : decode cX1_verdict 7 = .ok (.iconst (-1), 1) := dk_2 (dk_at dksX1_verdict_0 7 rfl rfl)
theorem dX1_verdict_8 : decode cX1_verdict 8 = .ok (.ireturn, 1) := dk_172 (dk_at dksX1_verdict_0 8 rfl rfl)
theorem dX1_verdict_9 : decode cX1_verdict 9 = .ok (.aload_n 0, 1) := dk_42 (dk_at dksX1_verdict_0 9 rfl rfl)
theorem dX1_verdict_10 : decode cX1_verdict 10 = .ok (.getfield 82, 3) := dk_180 0 82 (dk_at dksX1_verdict_0 10 rfl rfl)
theorem dX1_verdict_13 : decode cX1_verdict 13 = .ok (.ifCond .ne 8, 3) := dk_154 0 8 (dk_at dksX1_verdict_0 13 rfl rfl)
theorem dX1_verdict_16 : decode cX1_verdict 16 = .ok (.bipush (-3), 2) := dk_16 253 (dk_at dksX1_verdict_0 16 rfl rfl)
theorem dX1_verdict_18 : decode cX1_verdict 18 = .ok (.goto 12, 3) := dk_167 0 12 (dk_at dksX1_verdict_0 18 rfl rfl)
theorem dX1_verdict_21 : decode cX1_verdict 21 = .ok (.aload_n 0, 1) := dk_42 (dk_at dksX1_verdict_0 21 rfl rfl)
theorem dX1_verdict_22 : decode cX1_verdict 22 = .ok (.aload_n 0, 1) := dk_42 (dk_at dksX1_verdict_0 22 rfl rfl)
theorem dX1_verdict_23 : decode cX1_verdict 23 = .ok (.iload_n 1, 1) := dk_27 (dk_at dksX1_verdict_0 23 rfl rfl)
theorem dX1_verdict_24 : decode cX1_verdict 24 = .ok (.invokevirtual 191, 3) := dk_182 0 191 (dk_at dksX1_verdict_1 0 rfl rfl)
theorem dX1_verdict_27 : decode cX1_verdict 27 = .ok (.invokevirtual 194, 3) := dk_182 0 194 (dk_at dksX1_verdict_1 3 rfl rfl)
theorem dX1_verdict_30 : decode cX1_verdict 30 = .ok (.ireturn, 1) := dk_172 (dk_at dksX1_verdict_1 6 rfl rfl)
abbrev cX1_verdictAt : ByteArray := prog_16_method_39_code
def yX1_verdictAt : MethodName := ⟨RX1, "verdictAt", "(I)I"⟩
def dkwX1_verdictAt_1 : List UInt8 := [180, 0, 35, 27, 47, 148, 154, 0, 7, 5, 167, 0, 4, 4, 172]
abbrev dktX1_verdictAt_1 : List UInt8 := dkwX1_verdictAt_1 ++ []
def dkwX1_verdictAt_0 : List UInt8 := [42, 180, 0, 39, 27, 47, 9, 148, 154, 0, 7, 3, 167, 0, 24, 42, 180, 0, 39, 27, 47, 42]
abbrev dktX1_verdictAt_0 : List UInt8 := dkwX1_verdictAt_0 ++ dktX1_verdictAt_1
theorem dksX1_verdictAt_0 : cX1_verdictAt.data.toList.drop 0 = dktX1_verdictAt_0 := by decide +kernel
theorem dksX1_verdictAt_1 : cX1_verdictAt.data.toList.drop 22 = dktX1_verdictAt_1 := dk_seg dksX1_verdictAt_0 22 rfl rfl
theorem dX1_verdictAt_0 : decode cX1_verdictAt 0 = .ok (.aload_n 0, 1) := dk_42 (dk_at dksX1_verdictAt_0 0 rfl rfl)
theorem dX1_verdictAt_1 : decode cX1_verdictAt 1 = .ok (.getfield 39, 3) := dk_180 0 39 (dk_at dksX1_verdictAt_0 1 rfl rfl)
theorem dX1_verdictAt_4 : decode cX1_verdictAt 4 = .ok (.iload_n 1, 1) := dk_27 (dk_at dksX1_verdictAt_0 4 rfl rfl)
theorem dX1_verdictAt_5 : decode cX1_verdictAt 5 = .ok (.laload, 1) := dk_47 (dk_at dksX1_verdictAt_0 5 rfl rfl)
theorem dX1_verdictAt_6 : decode cX1_verdictAt 6 = .ok (.lconst 0, 1) := dk_9 (dk_at dksX1_verdictAt_0 6 rfl rfl)
theorem dX1_verdictAt_7 : decode cX1_verdictAt 7 = .ok (.lcmp, 1) := dk_148 (dk_at dksX1_verdictAt_0 7 rfl rfl)
theorem dX1_verdictAt_8 : decode cX1_verdictAt 8 = .ok (.ifCond .ne 7, 3) := dk_154 0 7 (dk_at dksX1_verdictAt_0 8 rfl rfl)
theorem dX1_verdictAt_11 : decode cX1_verdictAt 11 = .ok (.iconst 0, 1) := dk_3 (dk_at dksX1_verdictAt_0 11 rfl rfl)
theorem dX1_verdictAt_12 : decode cX1_verdictAt 12 = .ok (.goto 24, 3) := dk_167 0 24 (dk_at dksX1_verdictAt_0 12 rfl rfl)
theorem dX1_verdictAt_15 : decode cX1_verdictAt 15 = .ok (.aload_n 0, 1) := dk_42 (dk_at dksX1_verdictAt_0 15 rfl rfl)
theorem dX1_verdictAt_16 : decode cX1_verdictAt 16 = .ok (.getfield 39, 3) := dk_180 0 39 (dk_at dksX1_verdictAt_0 16 rfl rfl)
theorem dX1_verdictAt_19 : decode cX1_verdictAt 19 = .ok (.iload_n 1, 1) := dk_27 (dk_at dksX1_verdictAt_0 19 rfl rfl)
theorem dX1_verdictAt_20 : decode cX1_verdictAt 20 = .ok (.laload, 1) := dk_47 (dk_at dksX1_verdictAt_0 20 rfl rfl)
theorem dX1_verdictAt_21 : decode cX1_verdictAt 21 = .ok (.aload_n 0, 1) := dk_42 (dk_at dksX1_verdictAt_0 21 rfl rfl)
theorem dX1_verdictAt_22 : decode cX1_verdictAt 22 = .ok (.getfield 35, 3) := dk_180 0 35 (dk_at dksX1_verdictAt_1 0 rfl rfl)
theorem dX1_verdictAt_25 : decode cX1_verdictAt 25 = .ok (.iload_n 1, 1) := dk_27 (dk_at dksX1_verdictAt_1 3 rfl rfl)
theorem dX1_verdictAt_26 : decode cX1_verdictAt 26 = .ok (.laload, 1) := dk_47 (dk_at dksX1_verdictAt_1 4 rfl rfl)
theorem dX1_verdictAt_27 : decode cX1_verdictAt 27 = .ok (.lcmp, 1) := dk_148 (dk_at dksX1_verdictAt_1 5 rfl rfl)
theorem dX1_verdictAt_28 : decode cX1_verdictAt 28 = .ok (.ifCond .ne 7, 3) := dk_154 0 7 (dk_at dksX1_verdictAt_1 6 rfl rfl)
theorem dX1_verdictAt_31 : decode cX1_verdictAt 31 = .ok (.iconst 2, 1) := dk_5 (dk_at dksX1_verdictAt_1 9 rfl rfl)
theorem dX1_verdictAt_32 : decode cX1_verdictAt 32 = .ok (.goto 4, 3) := dk_167 0 4 (dk_at dksX1_verdictAt_1 10 rfl rfl)
theorem dX1_verdictAt_35 : decode cX1_verdictAt 35 = .ok (.iconst 1, 1) := dk_4 (dk_at dksX1_verdictAt_1 13 rfl rfl)
theorem dX1_verdictAt_36 : decode cX1_verdictAt 36 = .ok (.ireturn, 1) := dk_172 (dk_at dksX1_verdictAt_1 14 rfl rfl)
abbrev cX1_calls : ByteArray := prog_16_method_41_code
def yX1_calls : MethodName := ⟨RX1, "calls", "(II)I"⟩
def dkwX1_calls_3 : List UInt8 := [180, 0, 45, 29, 46, 172]
abbrev dktX1_calls_3 : List UInt8 := dkwX1_calls_3 ++ []
def dkwX1_calls_2 : List UInt8 := [154, 0, 8, 16, 247, 167, 0, 22, 28, 154, 0, 12, 42, 180, 0, 42, 29, 46, 167, 0, 9, 42]
abbrev dktX1_calls_2 : List UInt8 := dkwX1_calls_2 ++ dktX1_calls_3
def dkwX1_calls_1 : List UInt8 := [180, 0, 82, 154, 0, 6, 16, 253, 172, 42, 27, 182, 0, 191, 62, 42, 180, 0, 39, 29, 47, 9, 148]
abbrev dktX1_calls_1 : List UInt8 := dkwX1_calls_1 ++ dktX1_calls_2
def dkwX1_calls_0 : List UInt8 := [27, 184, 0, 150, 154, 0, 5, 2, 172, 28, 3, 4, 184, 0, 78, 154, 0, 6, 16, 254, 172, 42]
abbrev dktX1_calls_0 : List UInt8 := dkwX1_calls_0 ++ dktX1_calls_1
theorem dksX1_calls_0 : cX1_calls.data.toList.drop 0 = dktX1_calls_0 := by decide +kernel
theorem dksX1_calls_1 : cX1_calls.data.toList.drop 22 = dktX1_calls_1 := dk_seg dksX1_calls_0 22 rfl rfl
theorem dksX1_calls_2 : cX1_calls.data.toList.drop 45 = dktX1_calls_2 := dk_seg dksX1_calls_1 23 rfl rfl
theorem dksX1_calls_3 : cX1_calls.data.toList.drop 67 = dktX1_calls_3 := dk_seg dksX1_calls_2 22 rfl rfl
theorem dX1_calls_0 : decode cX1_calls 0 = .ok (.iload_n 1, 1) := dk_27 (dk_at dksX1_calls_0 0 rfl rfl)
theorem dX1_calls_1 : decode cX1_calls 1 = .ok (.invokestatic 150, 3) := dk_184 0 150 (dk_at dksX1_calls_0 1 rfl rfl)
theorem dX1_calls_4 : decode cX1_calls 4 = .ok (.ifCond .ne 5, 3) := dk_154 0 5 (dk_at dksX1_calls_0 4 rfl rfl)
theorem dX1_calls_7 : decode cX1_calls 7 = .ok (.iconst (-1), 1) := dk_2 (dk_at dksX1_calls_0 7 rfl rfl)
theorem dX1_calls_8 : decode cX1_calls 8 = .ok (.ireturn, 1) := dk_172 (dk_at dksX1_calls_0 8 rfl rfl)
theorem dX1_calls_9 : decode cX1_calls 9 = .ok (.iload_n 2, 1) := dk_28 (dk_at dksX1_calls_0 9 rfl rfl)
theorem dX1_calls_10 : decode cX1_calls 10 = .ok (.iconst 0, 1) := dk_3 (dk_at dksX1_calls_0 10 rfl rfl)
theorem dX1_calls_11 : decode cX1_calls 11 = .ok (.iconst 1, 1) := dk_4 (dk_at dksX1_calls_0 11 rfl rfl)
theorem dX1_calls_12 : decode cX1_calls 12 = .ok (.invokestatic 78, 3) := dk_184 0 78 (dk_at dksX1_calls_0 12 rfl rfl)
theorem dX1_calls_15 : decode cX1_calls 15 = .ok (.ifCond .ne 6, 3) := dk_154 0 6 (dk_at dksX1_calls_0 15 rfl rfl)
theorem dX1_calls_18 : decode cX1_calls 18 = .ok (.bipush (-2), 2) := dk_16 254 (dk_at dksX1_calls_0 18 rfl rfl)
theorem dX1_calls_20 : decode cX1_calls 20 = .ok (.ireturn, 1) := dk_172 (dk_at dksX1_calls_0 20 rfl rfl)
theorem dX1_calls_21 : decode cX1_calls 21 = .ok (.aload_n 0, 1) := dk_42 (dk_at dksX1_calls_0 21 rfl rfl)
theorem dX1_calls_22 : decode cX1_calls 22 = .ok (.getfield 82, 3) := dk_180 0 82 (dk_at dksX1_calls_1 0 rfl rfl)
theorem dX1_calls_25 : decode cX1_calls 25 = .ok (.ifCond .ne 6, 3) := dk_154 0 6 (dk_at dksX1_calls_1 3 rfl rfl)
theorem dX1_calls_28 : decode cX1_calls 28 = .ok (.bipush (-3), 2) := dk_16 253 (dk_at dksX1_calls_1 6 rfl rfl)
theorem dX1_calls_30 : decode cX1_calls 30 = .ok (.ireturn, 1) := dk_172 (dk_at dksX1_calls_1 8 rfl rfl)
theorem dX1_calls_31 : decode cX1_calls 31 = .ok (.aload_n 0, 1) := dk_42 (dk_at dksX1_calls_1 9 rfl rfl)
theorem dX1_calls_32 : decode cX1_calls 32 = .ok (.iload_n 1, 1) := dk_27 (dk_at dksX1_calls_1 10 rfl rfl)
theorem dX1_calls_33 : decode cX1_calls 33 = .ok (.invokevirtual 191, 3) := dk_182 0 191 (dk_at dksX1_calls_1 11 rfl rfl)
theorem dX1_calls_36 : decode cX1_calls 36 = .ok (.istore_n 3, 1) := dk_62 (dk_at dksX1_calls_1 14 rfl rfl)
theorem dX1_calls_37 : decode cX1_calls 37 = .ok (.aload_n 0, 1) := dk_42 (dk_at dksX1_calls_1 15 rfl rfl)
theorem dX1_calls_38 : decode cX1_calls 38 = .ok (.getfield 39, 3) := dk_180 0 39 (dk_at dksX1_calls_1 16 rfl rfl)
theorem dX1_calls_41 : decode cX1_calls 41 = .ok (.iload_n 3, 1) := dk_29 (dk_at dksX1_calls_1 19 rfl rfl)
theorem dX1_calls_42 : decode cX1_calls 42 = .ok (.laload, 1) := dk_47 (dk_at dksX1_calls_1 20 rfl rfl)
theorem dX1_calls_43 : decode cX1_calls 43 = .ok (.lconst 0, 1) := dk_9 (dk_at dksX1_calls_1 21 rfl rfl)
theorem dX1_calls_44 : decode cX1_calls 44 = .ok (.lcmp, 1) := dk_148 (dk_at dksX1_calls_1 22 rfl rfl)
theorem dX1_calls_45 : decode cX1_calls 45 = .ok (.ifCond .ne 8, 3) := dk_154 0 8 (dk_at dksX1_calls_2 0 rfl rfl)
theorem dX1_calls_48 : decode cX1_calls 48 = .ok (.bipush (-9), 2) := dk_16 247 (dk_at dksX1_calls_2 3 rfl rfl)
theorem dX1_calls_50 : decode cX1_calls 50 = .ok (.goto 22, 3) := dk_167 0 22 (dk_at dksX1_calls_2 5 rfl rfl)
theorem dX1_calls_53 : decode cX1_calls 53 = .ok (.iload_n 2, 1) := dk_28 (dk_at dksX1_calls_2 8 rfl rfl)
theorem dX1_calls_54 : decode cX1_calls 54 = .ok (.ifCond .ne 12, 3) := dk_154 0 12 (dk_at dksX1_calls_2 9 rfl rfl)
theorem dX1_calls_57 : decode cX1_calls 57 = .ok (.aload_n 0, 1) := dk_42 (dk_at dksX1_calls_2 12 rfl rfl)
theorem dX1_calls_58 : decode cX1_calls 58 = .ok (.getfield 42, 3) := dk_180 0 42 (dk_at dksX1_calls_2 13 rfl rfl)
theorem dX1_calls_61 : decode cX1_calls 61 = .ok (.iload_n 3, 1) := dk_29 (dk_at dksX1_calls_2 16 rfl rfl)
theorem dX1_calls_62 : decode cX1_calls 62 = .ok (.iaload, 1) := dk_46 (dk_at dksX1_calls_2 17 rfl rfl)
theorem dX1_calls_63 : decode cX1_calls 63 = .ok (.goto 9, 3) := dk_167 0 9 (dk_at dksX1_calls_2 18 rfl rfl)
theorem dX1_calls_66 : decode cX1_calls 66 = .ok (.aload_n 0, 1) := dk_42 (dk_at dksX1_calls_2 21 rfl rfl)
theorem dX1_calls_67 : decode cX1_calls 67 = .ok (.getfield 45, 3) := dk_180 0 45 (dk_at dksX1_calls_3 0 rfl rfl)
theorem dX1_calls_70 : decode cX1_calls 70 = .ok (.iload_n 3, 1) := dk_29 (dk_at dksX1_calls_3 3 rfl rfl)
theorem dX1_calls_71 : decode cX1_calls 71 = .ok (.iaload, 1) := dk_46 (dk_at dksX1_calls_3 4 rfl rfl)
theorem dX1_calls_72 : decode cX1_calls 72 = .ok (.ireturn, 1) := dk_172 (dk_at dksX1_calls_3 5 rfl rfl)
abbrev cX1_keeps : ByteArray := prog_16_method_42_code
def yX1_keeps : MethodName := ⟨RX1, "keeps", "(III)I"⟩
def dkwX1_keeps_4 : List UInt8 := [29, 184, 0, 121, 182, 0, 188, 182, 0, 194, 172]
abbrev dktX1_keeps_4 : List UInt8 := dkwX1_keeps_4 ++ []
def dkwX1_keeps_3 : List UInt8 := [180, 0, 19, 42, 180, 0, 82, 27, 182, 0, 184, 42, 42, 21, 4, 28, 29, 184, 0, 117, 21, 5, 27, 28]
abbrev dktX1_keeps_3 : List UInt8 := dkwX1_keeps_3 ++ dktX1_keeps_4
def dkwX1_keeps_2 : List UInt8 := [54, 5, 42, 180, 0, 19, 27, 21, 4, 21, 5, 28, 29, 184, 0, 153, 154, 0, 6, 16, 253, 172, 42, 42]
abbrev dktX1_keeps_2 : List UInt8 := dkwX1_keeps_2 ++ dktX1_keeps_3
def dkwX1_keeps_1 : List UInt8 := [172, 28, 29, 160, 0, 6, 16, 254, 172, 42, 42, 180, 0, 103, 182, 0, 128, 54, 4, 42, 27, 182, 0, 135]
abbrev dktX1_keeps_1 : List UInt8 := dkwX1_keeps_1 ++ dktX1_keeps_2
def dkwX1_keeps_0 : List UInt8 := [27, 184, 0, 150, 153, 0, 19, 42, 28, 182, 0, 125, 153, 0, 11, 42, 29, 182, 0, 125, 154, 0, 5, 2]
abbrev dktX1_keeps_0 : List UInt8 := dkwX1_keeps_0 ++ dktX1_keeps_1
theorem dksX1_keeps_0 : cX1_keeps.data.toList.drop 0 = dktX1_keeps_0 := by decide +kernel
theorem dksX1_keeps_1 : cX1_keeps.data.toList.drop 24 = dktX1_keeps_1 := dk_seg dksX1_keeps_0 24 rfl rfl
theorem dksX1_keeps_2 : cX1_keeps.data.toList.drop 48 = dktX1_keeps_2 := dk_seg dksX1_keeps_1 24 rfl rfl
theorem dksX1_keeps_3 : cX1_keeps.data.toList.drop 72 = dktX1_keeps_3 := dk_seg dksX1_keeps_2 24 rfl rfl
theorem dksX1_keeps_4 : cX1_keeps.data.toList.drop 96 = dktX1_keeps_4 := dk_seg dksX1_keeps_3 24 rfl rfl
theorem dX1_keeps_0 : decode cX1_keeps 0 = .ok (.iload_n 1, 1) := dk_27 (dk_at dksX1_keeps_0 0 rfl rfl)
theorem dX1_keeps_1 : decode cX1_keeps 1 = .ok (.invokestatic 150, 3) := dk_184 0 150 (dk_at dksX1_keeps_0 1 rfl rfl)
theorem dX1_keeps_4 : decode cX1_keeps 4 = .ok (.ifCond .eq 19, 3) := dk_153 0 19 (dk_at dksX1_keeps_0 4 rfl rfl)
theorem dX1_keeps_7 : decode cX1_keeps 7 = .ok (.aload_n 0, 1) := dk_42 (dk_at dksX1_keeps_0 7 rfl rfl)
theorem dX1_keeps_8 : decode cX1_keeps 8 = .ok (.iload_n 2, 1) := dk_28 (dk_at dksX1_keeps_0 8 rfl rfl)
theorem dX1_keeps_9 : decode cX1_keeps 9 = .ok (.invokevirtual 125, 3) := dk_182 0 125 (dk_at dksX1_keeps_0 9 rfl rfl)
theorem dX1_keeps_12 : decode cX1_keeps 12 = .ok (.ifCond .eq 11, 3) := dk_153 0 11 (dk_at dksX1_keeps_0 12 rfl rfl)
theorem dX1_keeps_15 : decode cX1_keeps 15 = .ok (.aload_n 0, 1) := dk_42 (dk_at dksX1_keeps_0 15 rfl rfl)
theorem dX1_keeps_16 : decode cX1_keeps 16 = .ok (.iload_n 3, 1) := dk_29 (dk_at dksX1_keeps_0 16 rfl rfl)
theorem dX1_keeps_17 : decode cX1_keeps 17 = .ok (.invokevirtual 125, 3) := dk_182 0 125 (dk_at dksX1_keeps_0 17 rfl rfl)
theorem dX1_keeps_20 : decode cX1_keeps 20 = .ok (.ifCond .ne 5, 3) := dk_154 0 5 (dk_at dksX1_keeps_0 20 rfl rfl)
theorem dX1_keeps_23 : decode cX1_keeps 23 = .ok (.iconst (-1), 1) := dk_2 (dk_at dksX1_keeps_0 23 rfl rfl)
theorem dX1_keeps_24 : decode cX1_keeps 24 = .ok (.ireturn, 1) := dk_172 (dk_at dksX1_keeps_1 0 rfl rfl)
theorem dX1_keeps_25 : decode cX1_keeps 25 = .ok (.iload_n 2, 1) := dk_28 (dk_at dksX1_keeps_1 1 rfl rfl)
theorem dX1_keeps_26 : decode cX1_keeps 26 = .ok (.iload_n 3, 1) := dk_29 (dk_at dksX1_keeps_1 2 rfl rfl)
theorem dX1_keeps_27 : decode cX1_keeps 27 = .ok (.if_icmp .ne 6, 3) := dk_160 0 6 (dk_at dksX1_keeps_1 3 rfl rfl)
theorem dX1_keeps_30 : decode cX1_keeps 30 = .ok (.bipush (-2), 2) := dk_16 254 (dk_at dksX1_keeps_1 6 rfl rfl)
theorem dX1_keeps_32 : decode cX1_keeps 32 = .ok (.ireturn, 1) := dk_172 (dk_at dksX1_keeps_1 8 rfl rfl)
theorem dX1_keeps_33 : decode cX1_keeps 33 = .ok (.aload_n 0, 1) := dk_42 (dk_at dksX1_keeps_1 9 rfl rfl)
theorem dX1_keeps_34 : decode cX1_keeps 34 = .ok (.aload_n 0, 1) := dk_42 (dk_at dksX1_keeps_1 10 rfl rfl)
theorem dX1_keeps_35 : decode cX1_keeps 35 = .ok (.getfield 103, 3) := dk_180 0 103 (dk_at dksX1_keeps_1 11 rfl rfl)
theorem dX1_keeps_38 : decode cX1_keeps 38 = .ok (.invokevirtual 128, 3) := dk_182 0 128 (dk_at dksX1_keeps_1 14 rfl rfl)
theorem dX1_keeps_41 : decode cX1_keeps 41 = .ok (.istore 4, 2) := dk_54 4 (dk_at dksX1_keeps_1 17 rfl rfl)
theorem dX1_keeps_43 : decode cX1_keeps 43 = .ok (.aload_n 0, 1) := dk_42 (dk_at dksX1_keeps_1 19 rfl rfl)
theorem dX1_keeps_44 : decode cX1_keeps 44 = .ok (.iload_n 1, 1) := dk_27 (dk_at dksX1_keeps_1 20 rfl rfl)
theorem dX1_keeps_45 : decode cX1_keeps 45 = .ok (.invokevirtual 135, 3) := dk_182 0 135 (dk_at dksX1_keeps_1 21 rfl rfl)
theorem dX1_keeps_48 : decode cX1_keeps 48 = .ok (.istore 5, 2) := dk_54 5 (dk_at dksX1_keeps_2 0 rfl rfl)
theorem dX1_keeps_50 : decode cX1_keeps 50 = .ok (.aload_n 0, 1) := dk_42 (dk_at dksX1_keeps_2 2 rfl rfl)
theorem dX1_keeps_51 : decode cX1_keeps 51 = .ok (.getfield 19, 3) := dk_180 0 19 (dk_at dksX1_keeps_2 3 rfl rfl)
theorem dX1_keeps_54 : decode cX1_keeps 54 = .ok (.iload_n 1, 1) := dk_27 (dk_at dksX1_keeps_2 6 rfl rfl)
theorem dX1_keeps_55 : decode cX1_keeps 55 = .ok (.iload 4, 2) := dk_21 4 (dk_at dksX1_keeps_2 7 rfl rfl)
theorem dX1_keeps_57 : decode cX1_keeps 57 = .ok (.iload 5, 2) := dk_21 5 (dk_at dksX1_keeps_2 9 rfl rfl)
theorem dX1_keeps_59 : decode cX1_keeps 59 = .ok (.iload_n 2, 1) := dk_28 (dk_at dksX1_keeps_2 11 rfl rfl)
theorem dX1_keeps_60 : decode cX1_keeps 60 = .ok (.iload_n 3, 1) := dk_29 (dk_at dksX1_keeps_2 12 rfl rfl)
theorem dX1_keeps_61 : decode cX1_keeps 61 = .ok (.invokestatic 153, 3) := dk_184 0 153 (dk_at dksX1_keeps_2 13 rfl rfl)
theorem dX1_keeps_64 : decode cX1_keeps 64 = .ok (.ifCond .ne 6, 3) := dk_154 0 6 (dk_at dksX1_keeps_2 16 rfl rfl)
theorem dX1_keeps_67 : decode cX1_keeps 67 = .ok (.bipush (-3), 2) := dk_16 253 (dk_at dksX1_keeps_2 19 rfl rfl)
theorem dX1_keeps_69 : decode cX1_keeps 69 = .ok (.ireturn, 1) := dk_172 (dk_at dksX1_keeps_2 21 rfl rfl)
theorem dX1_keeps_70 : decode cX1_keeps 70 = .ok (.aload_n 0, 1) := dk_42 (dk_at dksX1_keeps_2 22 rfl rfl)
theorem dX1_keeps_71 : decode cX1_keeps 71 = .ok (.aload_n 0, 1) := dk_42 (dk_at dksX1_keeps_2 23 rfl rfl)
theorem dX1_keeps_72 : decode cX1_keeps 72 = .ok (.getfield 19, 3) := dk_180 0 19 (dk_at dksX1_keeps_3 0 rfl rfl)
theorem dX1_keeps_75 : decode cX1_keeps 75 = .ok (.aload_n 0, 1) := dk_42 (dk_at dksX1_keeps_3 3 rfl rfl)
theorem dX1_keeps_76 : decode cX1_keeps 76 = .ok (.getfield 82, 3) := dk_180 0 82 (dk_at dksX1_keeps_3 4 rfl rfl)
theorem dX1_keeps_79 : decode cX1_keeps 79 = .ok (.iload_n 1, 1) := dk_27 (dk_at dksX1_keeps_3 7 rfl rfl)
theorem dX1_keeps_80 : decode cX1_keeps 80 = .ok (.invokevirtual 184, 3) := dk_182 0 184 (dk_at dksX1_keeps_3 8 rfl rfl)
theorem dX1_keeps_83 : decode cX1_keeps 83 = .ok (.aload_n 0, 1) := dk_42 (dk_at dksX1_keeps_3 11 rfl rfl)
theorem dX1_keeps_84 : decode cX1_keeps 84 = .ok (.aload_n 0, 1) := dk_42 (dk_at dksX1_keeps_3 12 rfl rfl)
theorem dX1_keeps_85 : decode cX1_keeps 85 = .ok (.iload 4, 2) := dk_21 4 (dk_at dksX1_keeps_3 13 rfl rfl)
theorem dX1_keeps_87 : decode cX1_keeps 87 = .ok (.iload_n 2, 1) := dk_28 (dk_at dksX1_keeps_3 15 rfl rfl)
theorem dX1_keeps_88 : decode cX1_keeps 88 = .ok (.iload_n 3, 1) := dk_29 (dk_at dksX1_keeps_3 16 rfl rfl)
theorem dX1_keeps_89 : decode cX1_keeps 89 = .ok (.invokestatic 117, 3) := dk_184 0 117 (dk_at dksX1_keeps_3 17 rfl rfl)
theorem dX1_keeps_92 : decode cX1_keeps 92 = .ok (.iload 5, 2) := dk_21 5 (dk_at dksX1_keeps_3 20 rfl rfl)
theorem dX1_keeps_94 : decode cX1_keeps 94 = .ok (.iload_n 1, 1) := dk_27 (dk_at dksX1_keeps_3 22 rfl rfl)
theorem dX1_keeps_95 : decode cX1_keeps 95 = .ok (.iload_n 2, 1) := dk_28 (dk_at dksX1_keeps_3 23 rfl rfl)
theorem dX1_keeps_96 : decode cX1_keeps 96 = .ok (.iload_n 3, 1) := dk_29 (dk_at dksX1_keeps_4 0 rfl rfl)
theorem dX1_keeps_97 : decode cX1_keeps 97 = .ok (.invokestatic 121, 3) := dk_184 0 121 (dk_at dksX1_keeps_4 1 rfl rfl)
theorem dX1_keeps_100 : decode cX1_keeps 100 = .ok (.invokevirtual 188, 3) := dk_182 0 188 (dk_at dksX1_keeps_4 4 rfl rfl)
theorem dX1_keeps_103 : decode cX1_keeps 103 = .ok (.invokevirtual 194, 3) := dk_182 0 194 (dk_at dksX1_keeps_4 7 rfl rfl)
theorem dX1_keeps_106 : decode cX1_keeps 106 = .ok (.ireturn, 1) := dk_172 (dk_at dksX1_keeps_4 10 rfl rfl)
abbrev cX1_best : ByteArray := prog_16_method_43_code
def yX1_best : MethodName := ⟨RX1, "best", "(II)I"⟩
def dkwX1_best_8 : List UInt8 := [154, 0, 8, 21, 7, 167, 0, 5, 21, 8, 172, 132, 6, 1, 167, 255, 128, 16, 247, 172]
abbrev dktX1_best_8 : List UInt8 := dkwX1_best_8 ++ []
def dkwX1_best_7 : List UInt8 := [158, 0, 33, 42, 180, 0, 42, 21, 9, 46, 4, 96, 42, 180, 0, 42, 29, 46, 160, 0, 15, 28]
abbrev dktX1_best_7 : List UInt8 := dkwX1_best_7 ++ dktX1_best_8
def dkwX1_best_6 : List UInt8 := [27, 21, 7, 21, 8, 184, 0, 121, 184, 0, 158, 54, 9, 42, 180, 0, 39, 21, 9, 47, 9, 148]
abbrev dktX1_best_6 : List UInt8 := dkwX1_best_6 ++ dktX1_best_7
def dkwX1_best_5 : List UInt8 := [21, 7, 21, 8, 184, 0, 153, 154, 0, 6, 167, 0, 69, 21, 4, 21, 7, 21, 8, 184, 0, 117, 21, 5]
abbrev dktX1_best_5 : List UInt8 := dkwX1_best_5 ++ dktX1_best_6
def dkwX1_best_4 : List UInt8 := [180, 0, 82, 162, 0, 100, 21, 8, 42, 180, 0, 82, 162, 0, 91, 42, 180, 0, 19, 27, 21, 4, 21, 5]
abbrev dktX1_best_4 : List UInt8 := dkwX1_best_4 ++ dktX1_best_5
def dkwX1_best_3 : List UInt8 := [54, 6, 21, 6, 16, 16, 162, 0, 127, 21, 6, 7, 108, 54, 7, 21, 6, 7, 112, 54, 8, 21, 7, 42]
abbrev dktX1_best_3 : List UInt8 := dkwX1_best_3 ++ dktX1_best_4
def dkwX1_best_2 : List UInt8 := [54, 4, 42, 27, 182, 0, 135, 54, 5, 42, 180, 0, 39, 29, 47, 9, 148, 154, 0, 6, 16, 247, 172, 3]
abbrev dktX1_best_2 : List UInt8 := dkwX1_best_2 ++ dktX1_best_3
def dkwX1_best_1 : List UInt8 := [180, 0, 82, 154, 0, 6, 16, 253, 172, 42, 27, 182, 0, 191, 62, 42, 42, 180, 0, 103, 182, 0, 128]
abbrev dktX1_best_1 : List UInt8 := dkwX1_best_1 ++ dktX1_best_2
def dkwX1_best_0 : List UInt8 := [27, 184, 0, 150, 154, 0, 5, 2, 172, 28, 3, 4, 184, 0, 78, 154, 0, 6, 16, 254, 172, 42]
abbrev dktX1_best_0 : List UInt8 := dkwX1_best_0 ++ dktX1_best_1
theorem dksX1_best_0 : cX1_best.data.toList.drop 0 = dktX1_best_0 := by decide +kernel
theorem dksX1_best_1 : cX1_best.data.toList.drop 22 = dktX1_best_1 := dk_seg dksX1_best_0 22 rfl rfl
theorem dksX1_best_2 : cX1_best.data.toList.drop 45 = dktX1_best_2 := dk_seg dksX1_best_1 23 rfl rfl
theorem dksX1_best_3 : cX1_best.data.toList.drop 69 = dktX1_best_3 := dk_seg dksX1_best_2 24 rfl rfl
theorem dksX1_best_4 : cX1_best.data.toList.drop 93 = dktX1_best_4 := dk_seg dksX1_best_3 24 rfl rfl
theorem dksX1_best_5 : cX1_best.data.toList.drop 117 = dktX1_best_5 := dk_seg dksX1_best_4 24 rfl rfl
theorem dksX1_best_6 : cX1_best.data.toList.drop 141 = dktX1_best_6 := dk_seg dksX1_best_5 24 rfl rfl
theorem dksX1_best_7 : cX1_best.data.toList.drop 163 = dktX1_best_7 := dk_seg dksX1_best_6 22 rfl rfl
theorem dksX1_best_8 : cX1_best.data.toList.drop 185 = dktX1_best_8 := dk_seg dksX1_best_7 22 rfl rfl
theorem dX1_best_0 : decode cX1_best 0 = .ok (.iload_n 1, 1) := dk_27 (dk_at dksX1_best_0 0 rfl rfl)
theorem dX1_best_1 : decode cX1_best 1 = .ok (.invokestatic 150, 3) := dk_184 0 150 (dk_at dksX1_best_0 1 rfl rfl)
theorem dX1_best_4 : decode cX1_best 4 = .ok (.ifCond .ne 5, 3) := dk_154 0 5 (dk_at dksX1_best_0 4 rfl rfl)
theorem dX1_best_7 : decode cX1_best 7 = .ok (.iconst (-1), 1) := dk_2 (dk_at dksX1_best_0 7 rfl rfl)
theorem dX1_best_8 : decode cX1_best 8 = .ok (.ireturn, 1) := dk_172 (dk_at dksX1_best_0 8 rfl rfl)
theorem dX1_best_9 : decode cX1_best 9 = .ok (.iload_n 2, 1) := dk_28 (dk_at dksX1_best_0 9 rfl rfl)
theorem dX1_best_10 : decode cX1_best 10 = .ok (.iconst 0, 1) := dk_3 (dk_at dksX1_best_0 10 rfl rfl)
theorem dX1_best_11 : decode cX1_best 11 = .ok (.iconst 1, 1) := dk_4 (dk_at dksX1_best_0 11 rfl rfl)
theorem dX1_best_12 : decode cX1_best 12 = .ok (.invokestatic 78, 3) := dk_184 0 78 (dk_at dksX1_best_0 12 rfl rfl)
theorem dX1_best_15 : decode cX1_best 15 = .ok (.ifCond .ne 6, 3) := dk_154 0 6 (dk_at dksX1_best_0 15 rfl rfl)
theorem dX1_best_18 : decode cX1_best 18 = .ok (.bipush (-2), 2) := dk_16 254 (dk_at dksX1_best_0 18 rfl rfl)
theorem dX1_best_20 : decode cX1_best 20 = .ok (.ireturn, 1) := dk_172 (dk_at dksX1_best_0 20 rfl rfl)
theorem dX1_best_21 : decode cX1_best 21 = .ok (.aload_n 0, 1) := dk_42 (dk_at dksX1_best_0 21 rfl rfl)
theorem dX1_best_22 : decode cX1_best 22 = .ok (.getfield 82, 3) := dk_180 0 82 (dk_at dksX1_best_1 0 rfl rfl)
theorem dX1_best_25 : decode cX1_best 25 = .ok (.ifCond .ne 6, 3) := dk_154 0 6 (dk_at dksX1_best_1 3 rfl rfl)
theorem dX1_best_28 : decode cX1_best 28 = .ok (.bipush (-3), 2) := dk_16 253 (dk_at dksX1_best_1 6 rfl rfl)
theorem dX1_best_30 : decode cX1_best 30 = .ok (.ireturn, 1) := dk_172 (dk_at dksX1_best_1 8 rfl rfl)
theorem dX1_best_31 : decode cX1_best 31 = .ok (.aload_n 0, 1) := dk_42 (dk_at dksX1_best_1 9 rfl rfl)
theorem dX1_best_32 : decode cX1_best 32 = .ok (.iload_n 1, 1) := dk_27 (dk_at dksX1_best_1 10 rfl rfl)
theorem dX1_best_33 : decode cX1_best 33 = .ok (.invokevirtual 191, 3) := dk_182 0 191 (dk_at dksX1_best_1 11 rfl rfl)
theorem dX1_best_36 : decode cX1_best 36 = .ok (.istore_n 3, 1) := dk_62 (dk_at dksX1_best_1 14 rfl rfl)
theorem dX1_best_37 : decode cX1_best 37 = .ok (.aload_n 0, 1) := dk_42 (dk_at dksX1_best_1 15 rfl rfl)
theorem dX1_best_38 : decode cX1_best 38 = .ok (.aload_n 0, 1) := dk_42 (dk_at dksX1_best_1 16 rfl rfl)
theorem dX1_best_39 : decode cX1_best 39 = .ok (.getfield 103, 3) := dk_180 0 103 (dk_at dksX1_best_1 17 rfl rfl)
theorem dX1_best_42 : decode cX1_best 42 = .ok (.invokevirtual 128, 3) := dk_182 0 128 (dk_at dksX1_best_1 20 rfl rfl)
theorem dX1_best_45 : decode cX1_best 45 = .ok (.istore 4, 2) := dk_54 4 (dk_at dksX1_best_2 0 rfl rfl)
theorem dX1_best_47 : decode cX1_best 47 = .ok (.aload_n 0, 1) := dk_42 (dk_at dksX1_best_2 2 rfl rfl)
theorem dX1_best_48 : decode cX1_best 48 = .ok (.iload_n 1, 1) := dk_27 (dk_at dksX1_best_2 3 rfl rfl)
theorem dX1_best_49 : decode cX1_best 49 = .ok (.invokevirtual 135, 3) := dk_182 0 135 (dk_at dksX1_best_2 4 rfl rfl)
theorem dX1_best_52 : decode cX1_best 52 = .ok (.istore 5, 2) := dk_54 5 (dk_at dksX1_best_2 7 rfl rfl)
theorem dX1_best_54 : decode cX1_best 54 = .ok (.aload_n 0, 1) := dk_42 (dk_at dksX1_best_2 9 rfl rfl)
theorem dX1_best_55 : decode cX1_best 55 = .ok (.getfield 39, 3) := dk_180 0 39 (dk_at dksX1_best_2 10 rfl rfl)
theorem dX1_best_58 : decode cX1_best 58 = .ok (.iload_n 3, 1) := dk_29 (dk_at dksX1_best_2 13 rfl rfl)
theorem dX1_best_59 : decode cX1_best 59 = .ok (.laload, 1) := dk_47 (dk_at dksX1_best_2 14 rfl rfl)
theorem dX1_best_60 : decode cX1_best 60 = .ok (.lconst 0, 1) := dk_9 (dk_at dksX1_best_2 15 rfl rfl)
theorem dX1_best_61 : decode cX1_best 61 = .ok (.lcmp, 1) := dk_148 (dk_at dksX1_best_2 16 rfl rfl)
theorem dX1_best_62 : decode cX1_best 62 = .ok (.ifCond .ne 6, 3) := dk_154 0 6 (dk_at dksX1_best_2 17 rfl rfl)
theorem dX1_best_65 : decode cX1_best 65 = .ok (.bipush (-9), 2) := dk_16 247 (dk_at dksX1_best_2 20 rfl rfl)
theorem dX1_best_67 : decode cX1_best 67 = .ok (.ireturn, 1) := dk_172 (dk_at dksX1_best_2 22 rfl rfl)
theorem dX1_best_68 : decode cX1_best 68 = .ok (.iconst 0, 1) := dk_3 (dk_at dksX1_best_2 23 rfl rfl)
theorem dX1_best_69 : decode cX1_best 69 = .ok (.istore 6, 2) := dk_54 6 (dk_at dksX1_best_3 0 rfl rfl)
theorem dX1_best_71 : decode cX1_best 71 = .ok (.iload 6, 2) := dk_21 6 (dk_at dksX1_best_3 2 rfl rfl)
theorem dX1_best_73 : decode cX1_best 73 = .ok (.bipush 16, 2) := dk_16 16 (dk_at dksX1_best_3 4 rfl rfl)
theorem dX1_best_75 : decode cX1_best 75 = .ok (.if_icmp .ge 127, 3) := dk_162 0 127 (dk_at dksX1_best_3 6 rfl rfl)
theorem dX1_best_78 : decode cX1_best 78 = .ok (.iload 6, 2) := dk_21 6 (dk_at dksX1_best_3 9 rfl rfl)
theorem dX1_best_80 : decode cX1_best 80 = .ok (.iconst 4, 1) := dk_7 (dk_at dksX1_best_3 11 rfl rfl)
theorem dX1_best_81 : decode cX1_best 81 = .ok (.idiv, 1) := dk_108 (dk_at dksX1_best_3 12 rfl rfl)
theorem dX1_best_82 : decode cX1_best 82 = .ok (.istore 7, 2) := dk_54 7 (dk_at dksX1_best_3 13 rfl rfl)
theorem dX1_best_84 : decode cX1_best 84 = .ok (.iload 6, 2) := dk_21 6 (dk_at dksX1_best_3 15 rfl rfl)
theorem dX1_best_86 : decode cX1_best 86 = .ok (.iconst 4, 1) := dk_7 (dk_at dksX1_best_3 17 rfl rfl)
theorem dX1_best_87 : decode cX1_best 87 = .ok (.irem, 1) := dk_112 (dk_at dksX1_best_3 18 rfl rfl)
theorem dX1_best_88 : decode cX1_best 88 = .ok (.istore 8, 2) := dk_54 8 (dk_at dksX1_best_3 19 rfl rfl)
theorem dX1_best_90 : decode cX1_best 90 = .ok (.iload 7, 2) := dk_21 7 (dk_at dksX1_best_3 21 rfl rfl)
theorem dX1_best_92 : decode cX1_best 92 = .ok (.aload_n 0, 1) := dk_42 (dk_at dksX1_best_3 23 rfl rfl)
theorem dX1_best_93 : decode cX1_best 93 = .ok (.getfield 82, 3) := dk_180 0 82 (dk_at dksX1_best_4 0 rfl rfl)
theorem dX1_best_96 : decode cX1_best 96 = .ok (.if_icmp .ge 100, 3) := dk_162 0 100 (dk_at dksX1_best_4 3 rfl rfl)
theorem dX1_best_99 : decode cX1_best 99 = .ok (.iload 8, 2) := dk_21 8 (dk_at dksX1_best_4 6 rfl rfl)
theorem dX1_best_101 : decode cX1_best 101 = .ok (.aload_n 0, 1) := dk_42 (dk_at dksX1_best_4 8 rfl rfl)
theorem dX1_best_102 : decode cX1_best 102 = .ok (.getfield 82, 3) := dk_180 0 82 (dk_at dksX1_best_4 9 rfl rfl)
theorem dX1_best_105 : decode cX1_best 105 = .ok (.if_icmp .ge 91, 3) := dk_162 0 91 (dk_at dksX1_best_4 12 rfl rfl)
theorem dX1_best_108 : decode cX1_best 108 = .ok (.aload_n 0, 1) := dk_42 (dk_at dksX1_best_4 15 rfl rfl)
theorem dX1_best_109 : decode cX1_best 109 = .ok (.getfield 19, 3) := dk_180 0 19 (dk_at dksX1_best_4 16 rfl rfl)
theorem dX1_best_112 : decode cX1_best 112 = .ok (.iload_n 1, 1) := dk_27 (dk_at dksX1_best_4 19 rfl rfl)
theorem dX1_best_113 : decode cX1_best 113 = .ok (.iload 4, 2) := dk_21 4 (dk_at dksX1_best_4 20 rfl rfl)
theorem dX1_best_115 : decode cX1_best 115 = .ok (.iload 5, 2) := dk_21 5 (dk_at dksX1_best_4 22 rfl rfl)
theorem dX1_best_117 : decode cX1_best 117 = .ok (.iload 7, 2) := dk_21 7 (dk_at dksX1_best_5 0 rfl rfl)
theorem dX1_best_119 : decode cX1_best 119 = .ok (.iload 8, 2) := dk_21 8 (dk_at dksX1_best_5 2 rfl rfl)
theorem dX1_best_121 : decode cX1_best 121 = .ok (.invokestatic 153, 3) := dk_184 0 153 (dk_at dksX1_best_5 4 rfl rfl)
theorem dX1_best_124 : decode cX1_best 124 = .ok (.ifCond .ne 6, 3) := dk_154 0 6 (dk_at dksX1_best_5 7 rfl rfl)
theorem dX1_best_127 : decode cX1_best 127 = .ok (.goto 69, 3) := dk_167 0 69 (dk_at dksX1_best_5 10 rfl rfl)
theorem dX1_best_130 : decode cX1_best 130 = .ok (.iload 4, 2) := dk_21 4 (dk_at dksX1_best_5 13 rfl rfl)
theorem dX1_best_132 : decode cX1_best 132 = .ok (.iload 7, 2) := dk_21 7 (dk_at dksX1_best_5 15 rfl rfl)
theorem dX1_best_134 : decode cX1_best 134 = .ok (.iload 8, 2) := dk_21 8 (dk_at dksX1_best_5 17 rfl rfl)
theorem dX1_best_136 : decode cX1_best 136 = .ok (.invokestatic 117, 3) := dk_184 0 117 (dk_at dksX1_best_5 19 rfl rfl)
theorem dX1_best_139 : decode cX1_best 139 = .ok (.iload 5, 2) := dk_21 5 (dk_at dksX1_best_5 22 rfl rfl)
theorem dX1_best_141 : decode cX1_best 141 = .ok (.iload_n 1, 1) := dk_27 (dk_at dksX1_best_6 0 rfl rfl)
theorem dX1_best_142 : decode cX1_best 142 = .ok (.iload 7, 2) := dk_21 7 (dk_at dksX1_best_6 1 rfl rfl)
theorem dX1_best_144 : decode cX1_best 144 = .ok (.iload 8, 2) := dk_21 8 (dk_at dksX1_best_6 3 rfl rfl)
theorem dX1_best_146 : decode cX1_best 146 = .ok (.invokestatic 121, 3) := dk_184 0 121 (dk_at dksX1_best_6 5 rfl rfl)
theorem dX1_best_149 : decode cX1_best 149 = .ok (.invokestatic 158, 3) := dk_184 0 158 (dk_at dksX1_best_6 8 rfl rfl)
theorem dX1_best_152 : decode cX1_best 152 = .ok (.istore 9, 2) := dk_54 9 (dk_at dksX1_best_6 11 rfl rfl)
theorem dX1_best_154 : decode cX1_best 154 = .ok (.aload_n 0, 1) := dk_42 (dk_at dksX1_best_6 13 rfl rfl)
theorem dX1_best_155 : decode cX1_best 155 = .ok (.getfield 39, 3) := dk_180 0 39 (dk_at dksX1_best_6 14 rfl rfl)
theorem dX1_best_158 : decode cX1_best 158 = .ok (.iload 9, 2) := dk_21 9 (dk_at dksX1_best_6 17 rfl rfl)
theorem dX1_best_160 : decode cX1_best 160 = .ok (.laload, 1) := dk_47 (dk_at dksX1_best_6 19 rfl rfl)
theorem dX1_best_161 : decode cX1_best 161 = .ok (.lconst 0, 1) := dk_9 (dk_at dksX1_best_6 20 rfl rfl)
theorem dX1_best_162 : decode cX1_best 162 = .ok (.lcmp, 1) := dk_148 (dk_at dksX1_best_6 21 rfl rfl)
theorem dX1_best_163 : decode cX1_best 163 = .ok (.ifCond .le 33, 3) := dk_158 0 33 (dk_at dksX1_best_7 0 rfl rfl)
theorem dX1_best_166 : decode cX1_best 166 = .ok (.aload_n 0, 1) := dk_42 (dk_at dksX1_best_7 3 rfl rfl)
theorem dX1_best_167 : decode cX1_best 167 = .ok (.getfield 42, 3) := dk_180 0 42 (dk_at dksX1_best_7 4 rfl rfl)
theorem dX1_best_170 : decode cX1_best 170 = .ok (.iload 9, 2) := dk_21 9 (dk_at dksX1_best_7 7 rfl rfl)
theorem dX1_best_172 : decode cX1_best 172 = .ok (.iaload, 1) := dk_46 (dk_at dksX1_best_7 9 rfl rfl)
theorem dX1_best_173 : decode cX1_best 173 = .ok (.iconst 1, 1) := dk_4 (dk_at dksX1_best_7 10 rfl rfl)
theorem dX1_best_174 : decode cX1_best 174 = .ok (.iadd, 1) := dk_96 (dk_at dksX1_best_7 11 rfl rfl)
theorem dX1_best_175 : decode cX1_best 175 = .ok (.aload_n 0, 1) := dk_42 (dk_at dksX1_best_7 12 rfl rfl)
theorem dX1_best_176 : decode cX1_best 176 = .ok (.getfield 42, 3) := dk_180 0 42 (dk_at dksX1_best_7 13 rfl rfl)
theorem dX1_best_179 : decode cX1_best 179 = .ok (.iload_n 3, 1) := dk_29 (dk_at dksX1_best_7 16 rfl rfl)
theorem dX1_best_180 : decode cX1_best 180 = .ok (.iaload, 1) := dk_46 (dk_at dksX1_best_7 17 rfl rfl)
theorem dX1_best_181 : decode cX1_best 181 = .ok (.if_icmp .ne 15, 3) := dk_160 0 15 (dk_at dksX1_best_7 18 rfl rfl)
theorem dX1_best_184 : decode cX1_best 184 = .ok (.iload_n 2, 1) := dk_28 (dk_at dksX1_best_7 21 rfl rfl)
theorem dX1_best_185 : decode cX1_best 185 = .ok (.ifCond .ne 8, 3) := dk_154 0 8 (dk_at dksX1_best_8 0 rfl rfl)
theorem dX1_best_188 : decode cX1_best 188 = .ok (.iload 7, 2) := dk_21 7 (dk_at dksX1_best_8 3 rfl rfl)
theorem dX1_best_190 : decode cX1_best 190 = .ok (.goto 5, 3) := dk_167 0 5 (dk_at dksX1_best_8 5 rfl rfl)
theorem dX1_best_193 : decode cX1_best 193 = .ok (.iload 8, 2) := dk_21 8 (dk_at dksX1_best_8 8 rfl rfl)
theorem dX1_best_195 : decode cX1_best 195 = .ok (.ireturn, 1) := dk_172 (dk_at dksX1_best_8 10 rfl rfl)
theorem dX1_best_196 : decode cX1_best 196 = .ok (.iinc 6 1, 3) := dk_132 6 1 (dk_at dksX1_best_8 11 rfl rfl)
theorem dX1_best_199 : decode cX1_best 199 = .ok (.goto (-128), 3) := dk_167 255 128 (dk_at dksX1_best_8 14 rfl rfl)
theorem dX1_best_202 : decode cX1_best 202 = .ok (.bipush (-9), 2) := dk_16 247 (dk_at dksX1_best_8 17 rfl rfl)
theorem dX1_best_204 : decode cX1_best 204 = .ok (.ireturn, 1) := dk_172 (dk_at dksX1_best_8 19 rfl rfl)
abbrev cX1_alike : ByteArray := prog_16_method_47_code
def yX1_alike : MethodName := ⟨RX1, "alike", "(I)I"⟩
def dkwX1_alike_1 : List UInt8 := [182, 0, 209, 42, 180, 0, 197, 172]
abbrev dktX1_alike_1 : List UInt8 := dkwX1_alike_1 ++ []
def dkwX1_alike_0 : List UInt8 := [42, 27, 182, 0, 125, 154, 0, 5, 2, 172, 42, 180, 0, 103, 7, 164, 0, 6, 16, 253, 172, 42, 27]
abbrev dktX1_alike_0 : List UInt8 := dkwX1_alike_0 ++ dktX1_alike_1
theorem dksX1_alike_0 : cX1_alike.data.toList.drop 0 = dktX1_alike_0 := by decide +kernel
theorem dksX1_alike_1 : cX1_alike.data.toList.drop 23 = dktX1_alike_1 := dk_seg dksX1_alike_0 23 rfl rfl
theorem dX1_alike_0 : decode cX1_alike 0 = .ok (.aload_n 0, 1) := dk_42 (dk_at dksX1_alike_0 0 rfl rfl)
theorem dX1_alike_1 : decode cX1_alike 1 = .ok (.iload_n 1, 1) := dk_27 (dk_at dksX1_alike_0 1 rfl rfl)
theorem dX1_alike_2 : decode cX1_alike 2 = .ok (.invokevirtual 125, 3) := dk_182 0 125 (dk_at dksX1_alike_0 2 rfl rfl)
theorem dX1_alike_5 : decode cX1_alike 5 = .ok (.ifCond .ne 5, 3) := dk_154 0 5 (dk_at dksX1_alike_0 5 rfl rfl)
theorem dX1_alike_8 : decode cX1_alike 8 = .ok (.iconst (-1), 1) := dk_2 (dk_at dksX1_alike_0 8 rfl rfl)
theorem dX1_alike_9 : decode cX1_alike 9 = .ok (.ireturn, 1) := dk_172 (dk_at dksX1_alike_0 9 rfl rfl)
theorem dX1_alike_10 : decode cX1_alike 10 = .ok (.aload_n 0, 1) := dk_42 (dk_at dksX1_alike_0 10 rfl rfl)
theorem dX1_alike_11 : decode cX1_alike 11 = .ok (.getfield 103, 3) := dk_180 0 103 (dk_at dksX1_alike_0 11 rfl rfl)
theorem dX1_alike_14 : decode cX1_alike 14 = .ok (.iconst 4, 1) := dk_7 (dk_at dksX1_alike_0 14 rfl rfl)
theorem dX1_alike_15 : decode cX1_alike 15 = .ok (.if_icmp .le 6, 3) := dk_164 0 6 (dk_at dksX1_alike_0 15 rfl rfl)
theorem dX1_alike_18 : decode cX1_alike 18 = .ok (.bipush (-3), 2) := dk_16 253 (dk_at dksX1_alike_0 18 rfl rfl)
theorem dX1_alike_20 : decode cX1_alike 20 = .ok (.ireturn, 1) := dk_172 (dk_at dksX1_alike_0 20 rfl rfl)
theorem dX1_alike_21 : decode cX1_alike 21 = .ok (.aload_n 0, 1) := dk_42 (dk_at dksX1_alike_0 21 rfl rfl)
theorem dX1_alike_22 : decode cX1_alike 22 = .ok (.iload_n 1, 1) := dk_27 (dk_at dksX1_alike_0 22 rfl rfl)
theorem dX1_alike_23 : decode cX1_alike 23 = .ok (.invokevirtual 209, 3) := dk_182 0 209 (dk_at dksX1_alike_1 0 rfl rfl)
theorem dX1_alike_26 : decode cX1_alike 26 = .ok (.aload_n 0, 1) := dk_42 (dk_at dksX1_alike_1 3 rfl rfl)
theorem dX1_alike_27 : decode cX1_alike 27 = .ok (.getfield 197, 3) := dk_180 0 197 (dk_at dksX1_alike_1 4 rfl rfl)
theorem dX1_alike_30 : decode cX1_alike 30 = .ok (.ireturn, 1) := dk_172 (dk_at dksX1_alike_1 7 rfl rfl)
abbrev cX1_layAlike : ByteArray := prog_16_method_46_code
def yX1_layAlike : MethodName := ⟨RX1, "layAlike", "(I)V"⟩
def dkwX1_layAlike_3 : List UInt8 := [167, 255, 207, 177]
abbrev dktX1_layAlike_3 : List UInt8 := dkwX1_layAlike_3 ++ []
def dkwX1_layAlike_2 : List UInt8 := [89, 180, 0, 197, 4, 96, 181, 0, 197, 42, 89, 180, 0, 200, 21, 4, 126, 181, 0, 200, 132, 3, 1]
abbrev dktX1_layAlike_2 : List UInt8 := dkwX1_layAlike_2 ++ dktX1_layAlike_3
def dkwX1_layAlike_1 : List UInt8 := [162, 0, 50, 42, 29, 182, 0, 203, 54, 4, 21, 4, 155, 0, 32, 42, 27, 182, 0, 206, 153, 0, 24, 42]
abbrev dktX1_layAlike_1 : List UInt8 := dkwX1_layAlike_1 ++ dktX1_layAlike_2
def dkwX1_layAlike_0 : List UInt8 := [42, 3, 181, 0, 197, 42, 18, 157, 181, 0, 200, 4, 7, 42, 180, 0, 103, 104, 120, 61, 3, 62, 29, 28]
abbrev dktX1_layAlike_0 : List UInt8 := dkwX1_layAlike_0 ++ dktX1_layAlike_1
theorem dksX1_layAlike_0 : cX1_layAlike.data.toList.drop 0 = dktX1_layAlike_0 := by decide +kernel
theorem dksX1_layAlike_1 : cX1_layAlike.data.toList.drop 24 = dktX1_layAlike_1 := dk_seg dksX1_layAlike_0 24 rfl rfl
theorem dksX1_layAlike_2 : cX1_layAlike.data.toList.drop 48 = dktX1_layAlike_2 := dk_seg dksX1_layAlike_1 24 rfl rfl
theorem dksX1_layAlike_3 : cX1_layAlike.data.toList.drop 71 = dktX1_layAlike_3 := dk_seg dksX1_layAlike_2 23 rfl rfl
theorem dX1_layAlike_0 : decode cX1_layAlike 0 = .ok (.aload_n 0, 1) := dk_42 (dk_at dksX1_layAlike_0 0 rfl rfl)
theorem dX1_layAlike_1 : decode cX1_layAlike 1 = .ok (.iconst 0, 1) := dk_3 (dk_at dksX1_layAlike_0 1 rfl rfl)
theorem dX1_layAlike_2 : decode cX1_layAlike 2 = .ok (.putfield 197, 3) := dk_181 0 197 (dk_at dksX1_layAlike_0 2 rfl rfl)
theorem dX1_layAlike_5 : decode cX1_layAlike 5 = .ok (.aload_n 0, 1) := dk_42 (dk_at dksX1_layAlike_0 5 rfl rfl)
theorem dX1_layAlike_6 : decode cX1_layAlike 6 = .ok (.ldc 157, 2) := dk_18 157 (dk_at dksX1_layAlike_0 6 rfl rfl)
theorem dX1_layAlike_8 : decode cX1_layAlike 8 = .ok (.putfield 200, 3) := dk_181 0 200 (dk_at dksX1_layAlike_0 8 rfl rfl)
theorem dX1_layAlike_11 : decode cX1_layAlike 11 = .ok (.iconst 1, 1) := dk_4 (dk_at dksX1_layAlike_0 11 rfl rfl)
theorem dX1_layAlike_12 : decode cX1_layAlike 12 = .ok (.iconst 4, 1) := dk_7 (dk_at dksX1_layAlike_0 12 rfl rfl)
theorem dX1_layAlike_13 : decode cX1_layAlike 13 = .ok (.aload_n 0, 1) := dk_42 (dk_at dksX1_layAlike_0 13 rfl rfl)
theorem dX1_layAlike_14 : decode cX1_layAlike 14 = .ok (.getfield 103, 3) := dk_180 0 103 (dk_at dksX1_layAlike_0 14 rfl rfl)
theorem dX1_layAlike_17 : decode cX1_layAlike 17 = .ok (.imul, 1) := dk_104 (dk_at dksX1_layAlike_0 17 rfl rfl)
theorem dX1_layAlike_18 : decode cX1_layAlike 18 = .ok (.ishl, 1) := dk_120 (dk_at dksX1_layAlike_0 18 rfl rfl)
theorem dX1_layAlike_19 : decode cX1_layAlike 19 = .ok (.istore_n 2, 1) := dk_61 (dk_at dksX1_layAlike_0 19 rfl rfl)
theorem dX1_layAlike_20 : decode cX1_layAlike 20 = .ok (.iconst 0, 1) := dk_3 (dk_at dksX1_layAlike_0 20 rfl rfl)
theorem dX1_layAlike_21 : decode cX1_layAlike 21 = .ok (.istore_n 3, 1) := dk_62 (dk_at dksX1_layAlike_0 21 rfl rfl)
theorem dX1_layAlike_22 : decode cX1_layAlike 22 = .ok (.iload_n 3, 1) := dk_29 (dk_at dksX1_layAlike_0 22 rfl rfl)
theorem dX1_layAlike_23 : decode cX1_layAlike 23 = .ok (.iload_n 2, 1) := dk_28 (dk_at dksX1_layAlike_0 23 rfl rfl)
theorem dX1_layAlike_24 : decode cX1_layAlike 24 = .ok (.if_icmp .ge 50, 3) := dk_162 0 50 (dk_at dksX1_layAlike_1 0 rfl rfl)
theorem dX1_layAlike_27 : decode cX1_layAlike 27 = .ok (.aload_n 0, 1) := dk_42 (dk_at dksX1_layAlike_1 3 rfl rfl)
theorem dX1_layAlike_28 : decode cX1_layAlike 28 = .ok (.iload_n 3, 1) := dk_29 (dk_at dksX1_layAlike_1 4 rfl rfl)
theorem dX1_layAlike_29 : decode cX1_layAlike 29 = .ok (.invokevirtual 203, 3) := dk_182 0 203 (dk_at dksX1_layAlike_1 5 rfl rfl)
theorem dX1_layAlike_32 : decode cX1_layAlike 32 = .ok (.istore 4, 2) := dk_54 4 (dk_at dksX1_layAlike_1 8 rfl rfl)
theorem dX1_layAlike_34 : decode cX1_layAlike 34 = .ok (.iload 4, 2) := dk_21 4 (dk_at dksX1_layAlike_1 10 rfl rfl)
theorem dX1_layAlike_36 : decode cX1_layAlike 36 = .ok (.ifCond .lt 32, 3) := dk_155 0 32 (dk_at dksX1_layAlike_1 12 rfl rfl)
theorem dX1_layAlike_39 : decode cX1_layAlike 39 = .ok (.aload_n 0, 1) := dk_42 (dk_at dksX1_layAlike_1 15 rfl rfl)
theorem dX1_layAlike_40 : decode cX1_layAlike 40 = .ok (.iload_n 1, 1) := dk_27 (dk_at dksX1_layAlike_1 16 rfl rfl)
theorem dX1_layAlike_41 : decode cX1_layAlike 41 = .ok (.invokevirtual 206, 3) := dk_182 0 206 (dk_at dksX1_layAlike_1 17 rfl rfl)
theorem dX1_layAlike_44 : decode cX1_layAlike 44 = .ok (.ifCond .eq 24, 3) := dk_153 0 24 (dk_at dksX1_layAlike_1 20 rfl rfl)
theorem dX1_layAlike_47 : decode cX1_layAlike 47 = .ok (.aload_n 0, 1) := dk_42 (dk_at dksX1_layAlike_1 23 rfl rfl)
theorem dX1_layAlike_48 : decode cX1_layAlike 48 = .ok (.dup, 1) := dk_89 (dk_at dksX1_layAlike_2 0 rfl rfl)
theorem dX1_layAlike_49 : decode cX1_layAlike 49 = .ok (.getfield 197, 3) := dk_180 0 197 (dk_at dksX1_layAlike_2 1 rfl rfl)
theorem dX1_layAlike_52 : decode cX1_layAlike 52 = .ok (.iconst 1, 1) := dk_4 (dk_at dksX1_layAlike_2 4 rfl rfl)
theorem dX1_layAlike_53 : decode cX1_layAlike 53 = .ok (.iadd, 1) := dk_96 (dk_at dksX1_layAlike_2 5 rfl rfl)
theorem dX1_layAlike_54 : decode cX1_layAlike 54 = .ok (.putfield 197, 3) := dk_181 0 197 (dk_at dksX1_layAlike_2 6 rfl rfl)
theorem dX1_layAlike_57 : decode cX1_layAlike 57 = .ok (.aload_n 0, 1) := dk_42 (dk_at dksX1_layAlike_2 9 rfl rfl)
theorem dX1_layAlike_58 : decode cX1_layAlike 58 = .ok (.dup, 1) := dk_89 (dk_at dksX1_layAlike_2 10 rfl rfl)
theorem dX1_layAlike_59 : decode cX1_layAlike 59 = .ok (.getfield 200, 3) := dk_180 0 200 (dk_at dksX1_layAlike_2 11 rfl rfl)
theorem dX1_layAlike_62 : decode cX1_layAlike 62 = .ok (.iload 4, 2) := dk_21 4 (dk_at dksX1_layAlike_2 14 rfl rfl)
theorem dX1_layAlike_64 : decode cX1_layAlike 64 = .ok (.iand, 1) := dk_126 (dk_at dksX1_layAlike_2 16 rfl rfl)
theorem dX1_layAlike_65 : decode cX1_layAlike 65 = .ok (.putfield 200, 3) := dk_181 0 200 (dk_at dksX1_layAlike_2 17 rfl rfl)
theorem dX1_layAlike_68 : decode cX1_layAlike 68 = .ok (.iinc 3 1, 3) := dk_132 3 1 (dk_at dksX1_layAlike_2 20 rfl rfl)
theorem dX1_layAlike_71 : decode cX1_layAlike 71 = .ok (.goto (-49), 3) := dk_167 255 207 (dk_at dksX1_layAlike_3 0 rfl rfl)
theorem dX1_layAlike_74 : decode cX1_layAlike 74 = .ok (.return_, 1) := dk_177 (dk_at dksX1_layAlike_3 3 rfl rfl)
abbrev cX1_layRow : ByteArray := prog_16_method_44_code
def yX1_layRow : MethodName := ⟨RX1, "layRow", "(I)I"⟩
def dkwX1_layRow_6 : List UInt8 := [184, 0, 117, 62, 132, 4, 1, 167, 255, 122, 29, 172]
abbrev dktX1_layRow_6 : List UInt8 := dkwX1_layRow_6 ++ []
def dkwX1_layRow_5 : List UInt8 := [46, 184, 0, 106, 154, 0, 5, 2, 172, 29, 42, 180, 0, 60, 21, 4, 46, 42, 180, 0, 63, 21, 4, 46]
abbrev dktX1_layRow_5 : List UInt8 := dkwX1_layRow_5 ++ dktX1_layRow_6
def dkwX1_layRow_4 : List UInt8 := [159, 0, 31, 42, 180, 0, 19, 29, 42, 180, 0, 60, 21, 4, 46, 184, 0, 131, 42, 180, 0, 63, 21, 4]
abbrev dktX1_layRow_4 : List UInt8 := dkwX1_layRow_4 ++ dktX1_layRow_5
def dkwX1_layRow_3 : List UInt8 := [21, 4, 46, 182, 0, 125, 153, 0, 48, 42, 180, 0, 60, 21, 4, 46, 42, 180, 0, 63, 21, 4, 46]
abbrev dktX1_layRow_3 : List UInt8 := dkwX1_layRow_3 ++ dktX1_layRow_4
def dkwX1_layRow_2 : List UInt8 := [16, 16, 108, 61, 42, 42, 180, 0, 60, 21, 4, 46, 182, 0, 125, 153, 0, 62, 42, 42, 180, 0, 63]
abbrev dktX1_layRow_2 : List UInt8 := dkwX1_layRow_2 ++ dktX1_layRow_3
def dkwX1_layRow_1 : List UInt8 := [180, 0, 60, 21, 4, 28, 16, 16, 112, 7, 108, 79, 42, 180, 0, 63, 21, 4, 28, 7, 112, 79, 28]
abbrev dktX1_layRow_1 : List UInt8 := dkwX1_layRow_1 ++ dktX1_layRow_2
def dkwX1_layRow_0 : List UInt8 := [27, 61, 42, 42, 180, 0, 82, 182, 0, 114, 62, 3, 54, 4, 21, 4, 42, 180, 0, 103, 162, 0, 131, 42]
abbrev dktX1_layRow_0 : List UInt8 := dkwX1_layRow_0 ++ dktX1_layRow_1
theorem dksX1_layRow_0 : cX1_layRow.data.toList.drop 0 = dktX1_layRow_0 := by decide +kernel
theorem dksX1_layRow_1 : cX1_layRow.data.toList.drop 24 = dktX1_layRow_1 := dk_seg dksX1_layRow_0 24 rfl rfl
theorem dksX1_layRow_2 : cX1_layRow.data.toList.drop 47 = dktX1_layRow_2 := dk_seg dksX1_layRow_1 23 rfl rfl
theorem dksX1_layRow_3 : cX1_layRow.data.toList.drop 70 = dktX1_layRow_3 := dk_seg dksX1_layRow_2 23 rfl rfl
theorem dksX1_layRow_4 : cX1_layRow.data.toList.drop 93 = dktX1_layRow_4 := dk_seg dksX1_layRow_3 23 rfl rfl
theorem dksX1_layRow_5 : cX1_layRow.data.toList.drop 117 = dktX1_layRow_5 := dk_seg dksX1_layRow_4 24 rfl rfl
theorem dksX1_layRow_6 : cX1_layRow.data.toList.drop 141 = dktX1_layRow_6 := dk_seg dksX1_layRow_5 24 rfl rfl
theorem dX1_layRow_0 : decode cX1_layRow 0 = .ok (.iload_n 1, 1) := dk_27 (dk_at dksX1_layRow_0 0 rfl rfl)
theorem dX1_layRow_1 : decode cX1_layRow 1 = .ok (.istore_n 2, 1) := dk_61 (dk_at dksX1_layRow_0 1 rfl rfl)
theorem dX1_layRow_2 : decode cX1_layRow 2 = .ok (.aload_n 0, 1) := dk_42 (dk_at dksX1_layRow_0 2 rfl rfl)
theorem dX1_layRow_3 : decode cX1_layRow 3 = .ok (.aload_n 0, 1) := dk_42 (dk_at dksX1_layRow_0 3 rfl rfl)
theorem dX1_layRow_4 : decode cX1_layRow 4 = .ok (.getfield 82, 3) := dk_180 0 82 (dk_at dksX1_layRow_0 4 rfl rfl)
theorem dX1_layRow_7 : decode cX1_layRow 7 = .ok (.invokevirtual 114, 3) := dk_182 0 114 (dk_at dksX1_layRow_0 7 rfl rfl)
theorem dX1_layRow_10 : decode cX1_layRow 10 = .ok (.istore_n 3, 1) := dk_62 (dk_at dksX1_layRow_0 10 rfl rfl)
theorem dX1_layRow_11 : decode cX1_layRow 11 = .ok (.iconst 0, 1) := dk_3 (dk_at dksX1_layRow_0 11 rfl rfl)
theorem dX1_layRow_12 : decode cX1_layRow 12 = .ok (.istore 4, 2) := dk_54 4 (dk_at dksX1_layRow_0 12 rfl rfl)
theorem dX1_layRow_14 : decode cX1_layRow 14 = .ok (.iload 4, 2) := dk_21 4 (dk_at dksX1_layRow_0 14 rfl rfl)
theorem dX1_layRow_16 : decode cX1_layRow 16 = .ok (.aload_n 0, 1) := dk_42 (dk_at dksX1_layRow_0 16 rfl rfl)
theorem dX1_layRow_17 : decode cX1_layRow 17 = .ok (.getfield 103, 3) := dk_180 0 103 (dk_at dksX1_layRow_0 17 rfl rfl)
theorem dX1_layRow_20 : decode cX1_layRow 20 = .ok (.if_icmp .ge 131, 3) := dk_162 0 131 (dk_at dksX1_layRow_0 20 rfl rfl)
theorem dX1_layRow_23 : decode cX1_layRow 23 = .ok (.aload_n 0, 1) := dk_42 (dk_at dksX1_layRow_0 23 rfl rfl)
theorem dX1_layRow_24 : decode cX1_layRow 24 = .ok (.getfield 60, 3) := dk_180 0 60 (dk_at dksX1_layRow_1 0 rfl rfl)
theorem dX1_layRow_27 : decode cX1_layRow 27 = .ok (.iload 4, 2) := dk_21 4 (dk_at dksX1_layRow_1 3 rfl rfl)
theorem dX1_layRow_29 : decode cX1_layRow 29 = .ok (.iload_n 2, 1) := dk_28 (dk_at dksX1_layRow_1 5 rfl rfl)
theorem dX1_layRow_30 : decode cX1_layRow 30 = .ok (.bipush 16, 2) := dk_16 16 (dk_at dksX1_layRow_1 6 rfl rfl)
theorem dX1_layRow_32 : decode cX1_layRow 32 = .ok (.irem, 1) := dk_112 (dk_at dksX1_layRow_1 8 rfl rfl)
theorem dX1_layRow_33 : decode cX1_layRow 33 = .ok (.iconst 4, 1) := dk_7 (dk_at dksX1_layRow_1 9 rfl rfl)
theorem dX1_layRow_34 : decode cX1_layRow 34 = .ok (.idiv, 1) := dk_108 (dk_at dksX1_layRow_1 10 rfl rfl)
theorem dX1_layRow_35 : decode cX1_layRow 35 = .ok (.iastore, 1) := dk_79 (dk_at dksX1_layRow_1 11 rfl rfl)
theorem dX1_layRow_36 : decode cX1_layRow 36 = .ok (.aload_n 0, 1) := dk_42 (dk_at dksX1_layRow_1 12 rfl rfl)
theorem dX1_layRow_37 : decode cX1_layRow 37 = .ok (.getfield 63, 3) := dk_180 0 63 (dk_at dksX1_layRow_1 13 rfl rfl)
theorem dX1_layRow_40 : decode cX1_layRow 40 = .ok (.iload 4, 2) := dk_21 4 (dk_at dksX1_layRow_1 16 rfl rfl)
theorem dX1_layRow_42 : decode cX1_layRow 42 = .ok (.iload_n 2, 1) := dk_28 (dk_at dksX1_layRow_1 18 rfl rfl)
theorem dX1_layRow_43 : decode cX1_layRow 43 = .ok (.iconst 4, 1) := dk_7 (dk_at dksX1_layRow_1 19 rfl rfl)
theorem dX1_layRow_44 : decode cX1_layRow 44 = .ok (.irem, 1) := dk_112 (dk_at dksX1_layRow_1 20 rfl rfl)
theorem dX1_layRow_45 : decode cX1_layRow 45 = .ok (.iastore, 1) := dk_79 (dk_at dksX1_layRow_1 21 rfl rfl)
theorem dX1_layRow_46 : decode cX1_layRow 46 = .ok (.iload_n 2, 1) := dk_28 (dk_at dksX1_layRow_1 22 rfl rfl)
theorem dX1_layRow_47 : decode cX1_layRow 47 = .ok (.bipush 16, 2) := dk_16 16 (dk_at dksX1_layRow_2 0 rfl rfl)
theorem dX1_layRow_49 : decode cX1_layRow 49 = .ok (.idiv, 1) := dk_108 (dk_at dksX1_layRow_2 2 rfl rfl)
theorem dX1_layRow_50 : decode cX1_layRow 50 = .ok (.istore_n 2, 1) := dk_61 (dk_at dksX1_layRow_2 3 rfl rfl)
theorem dX1_layRow_51 : decode cX1_layRow 51 = .ok (.aload_n 0, 1) := dk_42 (dk_at dksX1_layRow_2 4 rfl rfl)
theorem dX1_layRow_52 : decode cX1_layRow 52 = .ok (.aload_n 0, 1) := dk_42 (dk_at dksX1_layRow_2 5 rfl rfl)
theorem dX1_layRow_53 : decode cX1_layRow 53 = .ok (.getfield 60, 3) := dk_180 0 60 (dk_at dksX1_layRow_2 6 rfl rfl)
theorem dX1_layRow_56 : decode cX1_layRow 56 = .ok (.iload 4, 2) := dk_21 4 (dk_at dksX1_layRow_2 9 rfl rfl)
theorem dX1_layRow_58 : decode cX1_layRow 58 = .ok (.iaload, 1) := dk_46 (dk_at dksX1_layRow_2 11 rfl rfl)
theorem dX1_layRow_59 : decode cX1_layRow 59 = .ok (.invokevirtual 125, 3) := dk_182 0 125 (dk_at dksX1_layRow_2 12 rfl rfl)
theorem dX1_layRow_62 : decode cX1_layRow 62 = .ok (.ifCond .eq 62, 3) := dk_153 0 62 (dk_at dksX1_layRow_2 15 rfl rfl)
theorem dX1_layRow_65 : decode cX1_layRow 65 = .ok (.aload_n 0, 1) := dk_42 (dk_at dksX1_layRow_2 18 rfl rfl)
theorem dX1_layRow_66 : decode cX1_layRow 66 = .ok (.aload_n 0, 1) := dk_42 (dk_at dksX1_layRow_2 19 rfl rfl)
theorem dX1_layRow_67 : decode cX1_layRow 67 = .ok (.getfield 63, 3) := dk_180 0 63 (dk_at dksX1_layRow_2 20 rfl rfl)
theorem dX1_layRow_70 : decode cX1_layRow 70 = .ok (.iload 4, 2) := dk_21 4 (dk_at dksX1_layRow_3 0 rfl rfl)
theorem dX1_layRow_72 : decode cX1_layRow 72 = .ok (.iaload, 1) := dk_46 (dk_at dksX1_layRow_3 2 rfl rfl)
theorem dX1_layRow_73 : decode cX1_layRow 73 = .ok (.invokevirtual 125, 3) := dk_182 0 125 (dk_at dksX1_layRow_3 3 rfl rfl)
theorem dX1_layRow_76 : decode cX1_layRow 76 = .ok (.ifCond .eq 48, 3) := dk_153 0 48 (dk_at dksX1_layRow_3 6 rfl rfl)
theorem dX1_layRow_79 : decode cX1_layRow 79 = .ok (.aload_n 0, 1) := dk_42 (dk_at dksX1_layRow_3 9 rfl rfl)
theorem dX1_layRow_80 : decode cX1_layRow 80 = .ok (.getfield 60, 3) := dk_180 0 60 (dk_at dksX1_layRow_3 10 rfl rfl)
theorem dX1_layRow_83 : decode cX1_layRow 83 = .ok (.iload 4, 2) := dk_21 4 (dk_at dksX1_layRow_3 13 rfl rfl)
theorem dX1_layRow_85 : decode cX1_layRow 85 = .ok (.iaload, 1) := dk_46 (dk_at dksX1_layRow_3 15 rfl rfl)
theorem dX1_layRow_86 : decode cX1_layRow 86 = .ok (.aload_n 0, 1) := dk_42 (dk_at dksX1_layRow_3 16 rfl rfl)
theorem dX1_layRow_87 : decode cX1_layRow 87 = .ok (.getfield 63, 3) := dk_180 0 63 (dk_at dksX1_layRow_3 17 rfl rfl)
theorem dX1_layRow_90 : decode cX1_layRow 90 = .ok (.iload 4, 2) := dk_21 4 (dk_at dksX1_layRow_3 20 rfl rfl)
theorem dX1_layRow_92 : decode cX1_layRow 92 = .ok (.iaload, 1) := dk_46 (dk_at dksX1_layRow_3 22 rfl rfl)
theorem dX1_layRow_93 : decode cX1_layRow 93 = .ok (.if_icmp .eq 31, 3) := dk_159 0 31 (dk_at dksX1_layRow_4 0 rfl rfl)
theorem dX1_layRow_96 : decode cX1_layRow 96 = .ok (.aload_n 0, 1) := dk_42 (dk_at dksX1_layRow_4 3 rfl rfl)
theorem dX1_layRow_97 : decode cX1_layRow 97 = .ok (.getfield 19, 3) := dk_180 0 19 (dk_at dksX1_layRow_4 4 rfl rfl)
theorem dX1_layRow_100 : decode cX1_layRow 100 = .ok (.iload_n 3, 1) := dk_29 (dk_at dksX1_layRow_4 7 rfl rfl)
theorem dX1_layRow_101 : decode cX1_layRow 101 = .ok (.aload_n 0, 1) := dk_42 (dk_at dksX1_layRow_4 8 rfl rfl)
theorem dX1_layRow_102 : decode cX1_layRow 102 = .ok (.getfield 60, 3) := dk_180 0 60 (dk_at dksX1_layRow_4 9 rfl rfl)
theorem dX1_layRow_105 : decode cX1_layRow 105 = .ok (.iload 4, 2) := dk_21 4 (dk_at dksX1_layRow_4 12 rfl rfl)
theorem dX1_layRow_107 : decode cX1_layRow 107 = .ok (.iaload, 1) := dk_46 (dk_at dksX1_layRow_4 14 rfl rfl)
theorem dX1_layRow_108 : decode cX1_layRow 108 = .ok (.invokestatic 131, 3) := dk_184 0 131 (dk_at dksX1_layRow_4 15 rfl rfl)
theorem dX1_layRow_111 : decode cX1_layRow 111 = .ok (.aload_n 0, 1) := dk_42 (dk_at dksX1_layRow_4 18 rfl rfl)
theorem dX1_layRow_112 : decode cX1_layRow 112 = .ok (.getfield 63, 3) := dk_180 0 63 (dk_at dksX1_layRow_4 19 rfl rfl)
theorem dX1_layRow_115 : decode cX1_layRow 115 = .ok (.iload 4, 2) := dk_21 4 (dk_at dksX1_layRow_4 22 rfl rfl)
theorem dX1_layRow_117 : decode cX1_layRow 117 = .ok (.iaload, 1) := dk_46 (dk_at dksX1_layRow_5 0 rfl rfl)
theorem dX1_layRow_118 : decode cX1_layRow 118 = .ok (.invokestatic 106, 3) := dk_184 0 106 (dk_at dksX1_layRow_5 1 rfl rfl)
theorem dX1_layRow_121 : decode cX1_layRow 121 = .ok (.ifCond .ne 5, 3) := dk_154 0 5 (dk_at dksX1_layRow_5 4 rfl rfl)
theorem dX1_layRow_124 : decode cX1_layRow 124 = .ok (.iconst (-1), 1) := dk_2 (dk_at dksX1_layRow_5 7 rfl rfl)
theorem dX1_layRow_125 : decode cX1_layRow 125 = .ok (.ireturn, 1) := dk_172 (dk_at dksX1_layRow_5 8 rfl rfl)
theorem dX1_layRow_126 : decode cX1_layRow 126 = .ok (.iload_n 3, 1) := dk_29 (dk_at dksX1_layRow_5 9 rfl rfl)
theorem dX1_layRow_127 : decode cX1_layRow 127 = .ok (.aload_n 0, 1) := dk_42 (dk_at dksX1_layRow_5 10 rfl rfl)
theorem dX1_layRow_128 : decode cX1_layRow 128 = .ok (.getfield 60, 3) := dk_180 0 60 (dk_at dksX1_layRow_5 11 rfl rfl)
theorem dX1_layRow_131 : decode cX1_layRow 131 = .ok (.iload 4, 2) := dk_21 4 (dk_at dksX1_layRow_5 14 rfl rfl)
theorem dX1_layRow_133 : decode cX1_layRow 133 = .ok (.iaload, 1) := dk_46 (dk_at dksX1_layRow_5 16 rfl rfl)
theorem dX1_layRow_134 : decode cX1_layRow 134 = .ok (.aload_n 0, 1) := dk_42 (dk_at dksX1_layRow_5 17 rfl rfl)
theorem dX1_layRow_135 : decode cX1_layRow 135 = .ok (.getfield 63, 3) := dk_180 0 63 (dk_at dksX1_layRow_5 18 rfl rfl)
theorem dX1_layRow_138 : decode cX1_layRow 138 = .ok (.iload 4, 2) := dk_21 4 (dk_at dksX1_layRow_5 21 rfl rfl)
theorem dX1_layRow_140 : decode cX1_layRow 140 = .ok (.iaload, 1) := dk_46 (dk_at dksX1_layRow_5 23 rfl rfl)
theorem dX1_layRow_141 : decode cX1_layRow 141 = .ok (.invokestatic 117, 3) := dk_184 0 117 (dk_at dksX1_layRow_6 0 rfl rfl)
theorem dX1_layRow_144 : decode cX1_layRow 144 = .ok (.istore_n 3, 1) := dk_62 (dk_at dksX1_layRow_6 3 rfl rfl)
theorem dX1_layRow_145 : decode cX1_layRow 145 = .ok (.iinc 4 1, 3) := dk_132 4 1 (dk_at dksX1_layRow_6 4 rfl rfl)
theorem dX1_layRow_148 : decode cX1_layRow 148 = .ok (.goto (-134), 3) := dk_167 255 122 (dk_at dksX1_layRow_6 7 rfl rfl)
theorem dX1_layRow_151 : decode cX1_layRow 151 = .ok (.iload_n 3, 1) := dk_29 (dk_at dksX1_layRow_6 10 rfl rfl)
theorem dX1_layRow_152 : decode cX1_layRow 152 = .ok (.ireturn, 1) := dk_172 (dk_at dksX1_layRow_6 11 rfl rfl)
abbrev cX1_seesAlike : ByteArray := prog_16_method_45_code
def yX1_seesAlike : MethodName := ⟨RX1, "seesAlike", "(I)Z"⟩
def dkwX1_seesAlike_8 : List UInt8 := [4, 172]
abbrev dktX1_seesAlike_8 : List UInt8 := dkwX1_seesAlike_8 ++ []
def dkwX1_seesAlike_7 : List UInt8 := [160, 0, 16, 28, 27, 184, 0, 110, 29, 27, 184, 0, 110, 159, 0, 5, 3, 172, 132, 4, 1, 167, 255, 87]
abbrev dktX1_seesAlike_7 : List UInt8 := dkwX1_seesAlike_7 ++ dktX1_seesAlike_8
def dkwX1_seesAlike_6 : List UInt8 := [180, 0, 60, 21, 4, 46, 160, 0, 33, 42, 180, 0, 28, 21, 4, 46, 42, 180, 0, 63, 21, 4, 46]
abbrev dktX1_seesAlike_6 : List UInt8 := dkwX1_seesAlike_6 ++ dktX1_seesAlike_7
def dkwX1_seesAlike_5 : List UInt8 := [184, 0, 117, 62, 21, 5, 21, 6, 160, 0, 55, 21, 5, 153, 0, 52, 42, 180, 0, 25, 21, 4, 46, 42]
abbrev dktX1_seesAlike_5 : List UInt8 := dkwX1_seesAlike_5 ++ dktX1_seesAlike_6
def dkwX1_seesAlike_4 : List UInt8 := [21, 4, 46, 184, 0, 117, 61, 29, 42, 180, 0, 60, 21, 4, 46, 42, 180, 0, 63, 21, 4, 46]
abbrev dktX1_seesAlike_4 : List UInt8 := dkwX1_seesAlike_4 ++ dktX1_seesAlike_5
def dkwX1_seesAlike_3 : List UInt8 := [27, 160, 0, 7, 4, 167, 0, 4, 3, 54, 6, 28, 42, 180, 0, 25, 21, 4, 46, 42, 180, 0, 28]
abbrev dktX1_seesAlike_3 : List UInt8 := dkwX1_seesAlike_3 ++ dktX1_seesAlike_4
def dkwX1_seesAlike_2 : List UInt8 := [167, 0, 4, 3, 54, 5, 42, 180, 0, 60, 21, 4, 46, 27, 159, 0, 14, 42, 180, 0, 63, 21, 4, 46]
abbrev dktX1_seesAlike_2 : List UInt8 := dkwX1_seesAlike_2 ++ dktX1_seesAlike_3
def dkwX1_seesAlike_1 : List UInt8 := [180, 0, 25, 21, 4, 46, 27, 159, 0, 14, 42, 180, 0, 28, 21, 4, 46, 27, 160, 0, 7, 4]
abbrev dktX1_seesAlike_1 : List UInt8 := dkwX1_seesAlike_1 ++ dktX1_seesAlike_2
def dkwX1_seesAlike_0 : List UInt8 := [42, 42, 180, 0, 82, 182, 0, 114, 61, 28, 62, 3, 54, 4, 21, 4, 42, 180, 0, 103, 162, 0, 166, 42]
abbrev dktX1_seesAlike_0 : List UInt8 := dkwX1_seesAlike_0 ++ dktX1_seesAlike_1
theorem dksX1_seesAlike_0 : cX1_seesAlike.data.toList.drop 0 = dktX1_seesAlike_0 := by decide +kernel
theorem dksX1_seesAlike_1 : cX1_seesAlike.data.toList.drop 24 = dktX1_seesAlike_1 := dk_seg dksX1_seesAlike_0 24 rfl rfl
theorem dksX1_seesAlike_2 : cX1_seesAlike.data.toList.drop 46 = dktX1_seesAlike_2 := dk_seg dksX1_seesAlike_1 22 rfl rfl
theorem dksX1_seesAlike_3 : cX1_seesAlike.data.toList.drop 70 = dktX1_seesAlike_3 := dk_seg dksX1_seesAlike_2 24 rfl rfl
theorem dksX1_seesAlike_4 : cX1_seesAlike.data.toList.drop 93 = dktX1_seesAlike_4 := dk_seg dksX1_seesAlike_3 23 rfl rfl
theorem dksX1_seesAlike_5 : cX1_seesAlike.data.toList.drop 115 = dktX1_seesAlike_5 := dk_seg dksX1_seesAlike_4 22 rfl rfl
theorem dksX1_seesAlike_6 : cX1_seesAlike.data.toList.drop 139 = dktX1_seesAlike_6 := dk_seg dksX1_seesAlike_5 24 rfl rfl
theorem dksX1_seesAlike_7 : cX1_seesAlike.data.toList.drop 162 = dktX1_seesAlike_7 := dk_seg dksX1_seesAlike_6 23 rfl rfl
theorem dksX1_seesAlike_8 : cX1_seesAlike.data.toList.drop 186 = dktX1_seesAlike_8 := dk_seg dksX1_seesAlike_7 24 rfl rfl
theorem dX1_seesAlike_0 : decode cX1_seesAlike 0 = .ok (.aload_n 0, 1) := dk_42 (dk_at dksX1_seesAlike_0 0 rfl rfl)
theorem dX1_seesAlike_1 : decode cX1_seesAlike 1 = .ok (.aload_n 0, 1) := dk_42 (dk_at dksX1_seesAlike_0 1 rfl rfl)
theorem dX1_seesAlike_2 : decode cX1_seesAlike 2 = .ok (.getfield 82, 3) := dk_180 0 82 (dk_at dksX1_seesAlike_0 2 rfl rfl)
theorem dX1_seesAlike_5 : decode cX1_seesAlike 5 = .ok (.invokevirtual 114, 3) := dk_182 0 114 (dk_at dksX1_seesAlike_0 5 rfl rfl)
theorem dX1_seesAlike_8 : decode cX1_seesAlike 8 = .ok (.istore_n 2, 1) := dk_61 (dk_at dksX1_seesAlike_0 8 rfl rfl)
theorem dX1_seesAlike_9 : decode cX1_seesAlike 9 = .ok (.iload_n 2, 1) := dk_28 (dk_at dksX1_seesAlike_0 9 rfl rfl)
theorem dX1_seesAlike_10 : decode cX1_seesAlike 10 = .ok (.istore_n 3, 1) := dk_62 (dk_at dksX1_seesAlike_0 10 rfl rfl)
theorem dX1_seesAlike_11 : decode cX1_seesAlike 11 = .ok (.iconst 0, 1) := dk_3 (dk_at dksX1_seesAlike_0 11 rfl rfl)
theorem dX1_seesAlike_12 : decode cX1_seesAlike 12 = .ok (.istore 4, 2) := dk_54 4 (dk_at dksX1_seesAlike_0 12 rfl rfl)
theorem dX1_seesAlike_14 : decode cX1_seesAlike 14 = .ok (.iload 4, 2) := dk_21 4 (dk_at dksX1_seesAlike_0 14 rfl rfl)
theorem dX1_seesAlike_16 : decode cX1_seesAlike 16 = .ok (.aload_n 0, 1) := dk_42 (dk_at dksX1_seesAlike_0 16 rfl rfl)
theorem dX1_seesAlike_17 : decode cX1_seesAlike 17 = .ok (.getfield 103, 3) := dk_180 0 103 (dk_at dksX1_seesAlike_0 17 rfl rfl)
theorem dX1_seesAlike_20 : decode cX1_seesAlike 20 = .ok (.if_icmp .ge 166, 3) := dk_162 0 166 (dk_at dksX1_seesAlike_0 20 rfl rfl)
theorem dX1_seesAlike_23 : decode cX1_seesAlike 23 = .ok (.aload_n 0, 1) := dk_42 (dk_at dksX1_seesAlike_0 23 rfl rfl)
theorem dX1_seesAlike_24 : decode cX1_seesAlike 24 = .ok (.getfield 25, 3) := dk_180 0 25 (dk_at dksX1_seesAlike_1 0 rfl rfl)
theorem dX1_seesAlike_27 : decode cX1_seesAlike 27 = .ok (.iload 4, 2) := dk_21 4 (dk_at dksX1_seesAlike_1 3 rfl rfl)
theorem dX1_seesAlike_29 : decode cX1_seesAlike 29 = .ok (.iaload, 1) := dk_46 (dk_at dksX1_seesAlike_1 5 rfl rfl)
theorem dX1_seesAlike_30 : decode cX1_seesAlike 30 = .ok (.iload_n 1, 1) := dk_27 (dk_at dksX1_seesAlike_1 6 rfl rfl)
theorem dX1_seesAlike_31 : decode cX1_seesAlike 31 = .ok (.if_icmp .eq 14, 3) := dk_159 0 14 (dk_at dksX1_seesAlike_1 7 rfl rfl)
theorem dX1_seesAlike_34 : decode cX1_seesAlike 34 = .ok (.aload_n 0, 1) := dk_42 (dk_at dksX1_seesAlike_1 10 rfl rfl)
theorem dX1_seesAlike_35 : decode cX1_seesAlike 35 = .ok (.getfield 28, 3) := dk_180 0 28 (dk_at dksX1_seesAlike_1 11 rfl rfl)
theorem dX1_seesAlike_38 : decode cX1_seesAlike 38 = .ok (.iload 4, 2) := dk_21 4 (dk_at dksX1_seesAlike_1 14 rfl rfl)
theorem dX1_seesAlike_40 : decode cX1_seesAlike 40 = .ok (.iaload, 1) := dk_46 (dk_at dksX1_seesAlike_1 16 rfl rfl)
theorem dX1_seesAlike_41 : decode cX1_seesAlike 41 = .ok (.iload_n 1, 1) := dk_27 (dk_at dksX1_seesAlike_1 17 rfl rfl)
theorem dX1_seesAlike_42 : decode cX1_seesAlike 42 = .ok (.if_icmp .ne 7, 3) := dk_160 0 7 (dk_at dksX1_seesAlike_1 18 rfl rfl)
theorem dX1_seesAlike_45 : decode cX1_seesAlike 45 = .ok (.iconst 1, 1) := dk_4 (dk_at dksX1_seesAlike_1 21 rfl rfl)
theorem dX1_seesAlike_46 : decode cX1_seesAlike 46 = .ok (.goto 4, 3) := dk_167 0 4 (dk_at dksX1_seesAlike_2 0 rfl rfl)
theorem dX1_seesAlike_49 : decode cX1_seesAlike 49 = .ok (.iconst 0, 1) := dk_3 (dk_at dksX1_seesAlike_2 3 rfl rfl)
theorem dX1_seesAlike_50 : decode cX1_seesAlike 50 = .ok (.istore 5, 2) := dk_54 5 (dk_at dksX1_seesAlike_2 4 rfl rfl)
theorem dX1_seesAlike_52 : decode cX1_seesAlike 52 = .ok (.aload_n 0, 1) := dk_42 (dk_at dksX1_seesAlike_2 6 rfl rfl)
theorem dX1_seesAlike_53 : decode cX1_seesAlike 53 = .ok (.getfield 60, 3) := dk_180 0 60 (dk_at dksX1_seesAlike_2 7 rfl rfl)
theorem dX1_seesAlike_56 : decode cX1_seesAlike 56 = .ok (.iload 4, 2) := dk_21 4 (dk_at dksX1_seesAlike_2 10 rfl rfl)
theorem dX1_seesAlike_58 : decode cX1_seesAlike 58 = .ok (.iaload, 1) := dk_46 (dk_at dksX1_seesAlike_2 12 rfl rfl)
theorem dX1_seesAlike_59 : decode cX1_seesAlike 59 = .ok (.iload_n 1, 1) := dk_27 (dk_at dksX1_seesAlike_2 13 rfl rfl)
theorem dX1_seesAlike_60 : decode cX1_seesAlike 60 = .ok (.if_icmp .eq 14, 3) := dk_159 0 14 (dk_at dksX1_seesAlike_2 14 rfl rfl)
theorem dX1_seesAlike_63 : decode cX1_seesAlike 63 = .ok (.aload_n 0, 1) := dk_42 (dk_at dksX1_seesAlike_2 17 rfl rfl)
theorem dX1_seesAlike_64 : decode cX1_seesAlike 64 = .ok (.getfield 63, 3) := dk_180 0 63 (dk_at dksX1_seesAlike_2 18 rfl rfl)
theorem dX1_seesAlike_67 : decode cX1_seesAlike 67 = .ok (.iload 4, 2) := dk_21 4 (dk_at dksX1_seesAlike_2 21 rfl rfl)
theorem dX1_seesAlike_69 : decode cX1_seesAlike 69 = .ok (.iaload, 1) := dk_46 (dk_at dksX1_seesAlike_2 23 rfl rfl)
theorem dX1_seesAlike_70 : decode cX1_seesAlike 70 = .ok (.iload_n 1, 1) := dk_27 (dk_at dksX1_seesAlike_3 0 rfl rfl)
theorem dX1_seesAlike_71 : decode cX1_seesAlike 71 = .ok (.if_icmp .ne 7, 3) := dk_160 0 7 (dk_at dksX1_seesAlike_3 1 rfl rfl)
theorem dX1_seesAlike_74 : decode cX1_seesAlike 74 = .ok (.iconst 1, 1) := dk_4 (dk_at dksX1_seesAlike_3 4 rfl rfl)
theorem dX1_seesAlike_75 : decode cX1_seesAlike 75 = .ok (.goto 4, 3) := dk_167 0 4 (dk_at dksX1_seesAlike_3 5 rfl rfl)
theorem dX1_seesAlike_78 : decode cX1_seesAlike 78 = .ok (.iconst 0, 1) := dk_3 (dk_at dksX1_seesAlike_3 8 rfl rfl)
theorem dX1_seesAlike_79 : decode cX1_seesAlike 79 = .ok (.istore 6, 2) := dk_54 6 (dk_at dksX1_seesAlike_3 9 rfl rfl)
theorem dX1_seesAlike_81 : decode cX1_seesAlike 81 = .ok (.iload_n 2, 1) := dk_28 (dk_at dksX1_seesAlike_3 11 rfl rfl)
theorem dX1_seesAlike_82 : decode cX1_seesAlike 82 = .ok (.aload_n 0, 1) := dk_42 (dk_at dksX1_seesAlike_3 12 rfl rfl)
theorem dX1_seesAlike_83 : decode cX1_seesAlike 83 = .ok (.getfield 25, 3) := dk_180 0 25 (dk_at dksX1_seesAlike_3 13 rfl rfl)
theorem dX1_seesAlike_86 : decode cX1_seesAlike 86 = .ok (.iload 4, 2) := dk_21 4 (dk_at dksX1_seesAlike_3 16 rfl rfl)
theorem dX1_seesAlike_88 : decode cX1_seesAlike 88 = .ok (.iaload, 1) := dk_46 (dk_at dksX1_seesAlike_3 18 rfl rfl)
theorem dX1_seesAlike_89 : decode cX1_seesAlike 89 = .ok (.aload_n 0, 1) := dk_42 (dk_at dksX1_seesAlike_3 19 rfl rfl)
theorem dX1_seesAlike_90 : decode cX1_seesAlike 90 = .ok (.getfield 28, 3) := dk_180 0 28 (dk_at dksX1_seesAlike_3 20 rfl rfl)
theorem dX1_seesAlike_93 : decode cX1_seesAlike 93 = .ok (.iload 4, 2) := dk_21 4 (dk_at dksX1_seesAlike_4 0 rfl rfl)
theorem dX1_seesAlike_95 : decode cX1_seesAlike 95 = .ok (.iaload, 1) := dk_46 (dk_at dksX1_seesAlike_4 2 rfl rfl)
theorem dX1_seesAlike_96 : decode cX1_seesAlike 96 = .ok (.invokestatic 117, 3) := dk_184 0 117 (dk_at dksX1_seesAlike_4 3 rfl rfl)
theorem dX1_seesAlike_99 : decode cX1_seesAlike 99 = .ok (.istore_n 2, 1) := dk_61 (dk_at dksX1_seesAlike_4 6 rfl rfl)
theorem dX1_seesAlike_100 : decode cX1_seesAlike 100 = .ok (.iload_n 3, 1) := dk_29 (dk_at dksX1_seesAlike_4 7 rfl rfl)
theorem dX1_seesAlike_101 : decode cX1_seesAlike 101 = .ok (.aload_n 0, 1) := dk_42 (dk_at dksX1_seesAlike_4 8 rfl rfl)
theorem dX1_seesAlike_102 : decode cX1_seesAlike 102 = .ok (.getfield 60, 3) := dk_180 0 60 (dk_at dksX1_seesAlike_4 9 rfl rfl)
theorem dX1_seesAlike_105 : decode cX1_seesAlike 105 = .ok (.iload 4, 2) := dk_21 4 (dk_at dksX1_seesAlike_4 12 rfl rfl)
theorem dX1_seesAlike_107 : decode cX1_seesAlike 107 = .ok (.iaload, 1) := dk_46 (dk_at dksX1_seesAlike_4 14 rfl rfl)
theorem dX1_seesAlike_108 : decode cX1_seesAlike 108 = .ok (.aload_n 0, 1) := dk_42 (dk_at dksX1_seesAlike_4 15 rfl rfl)
theorem dX1_seesAlike_109 : decode cX1_seesAlike 109 = .ok (.getfield 63, 3) := dk_180 0 63 (dk_at dksX1_seesAlike_4 16 rfl rfl)
theorem dX1_seesAlike_112 : decode cX1_seesAlike 112 = .ok (.iload 4, 2) := dk_21 4 (dk_at dksX1_seesAlike_4 19 rfl rfl)
theorem dX1_seesAlike_114 : decode cX1_seesAlike 114 = .ok (.iaload, 1) := dk_46 (dk_at dksX1_seesAlike_4 21 rfl rfl)
theorem dX1_seesAlike_115 : decode cX1_seesAlike 115 = .ok (.invokestatic 117, 3) := dk_184 0 117 (dk_at dksX1_seesAlike_5 0 rfl rfl)
theorem dX1_seesAlike_118 : decode cX1_seesAlike 118 = .ok (.istore_n 3, 1) := dk_62 (dk_at dksX1_seesAlike_5 3 rfl rfl)
theorem dX1_seesAlike_119 : decode cX1_seesAlike 119 = .ok (.iload 5, 2) := dk_21 5 (dk_at dksX1_seesAlike_5 4 rfl rfl)
theorem dX1_seesAlike_121 : decode cX1_seesAlike 121 = .ok (.iload 6, 2) := dk_21 6 (dk_at dksX1_seesAlike_5 6 rfl rfl)
theorem dX1_seesAlike_123 : decode cX1_seesAlike 123 = .ok (.if_icmp .ne 55, 3) := dk_160 0 55 (dk_at dksX1_seesAlike_5 8 rfl rfl)
theorem dX1_seesAlike_126 : decode cX1_seesAlike 126 = .ok (.iload 5, 2) := dk_21 5 (dk_at dksX1_seesAlike_5 11 rfl rfl)
theorem dX1_seesAlike_128 : decode cX1_seesAlike 128 = .ok (.ifCond .eq 52, 3) := dk_153 0 52 (dk_at dksX1_seesAlike_5 13 rfl rfl)
theorem dX1_seesAlike_131 : decode cX1_seesAlike 131 = .ok (.aload_n 0, 1) := dk_42 (dk_at dksX1_seesAlike_5 16 rfl rfl)
theorem dX1_seesAlike_132 : decode cX1_seesAlike 132 = .ok (.getfield 25, 3) := dk_180 0 25 (dk_at dksX1_seesAlike_5 17 rfl rfl)
theorem dX1_seesAlike_135 : decode cX1_seesAlike 135 = .ok (.iload 4, 2) := dk_21 4 (dk_at dksX1_seesAlike_5 20 rfl rfl)
theorem dX1_seesAlike_137 : decode cX1_seesAlike 137 = .ok (.iaload, 1) := dk_46 (dk_at dksX1_seesAlike_5 22 rfl rfl)
theorem dX1_seesAlike_138 : decode cX1_seesAlike 138 = .ok (.aload_n 0, 1) := dk_42 (dk_at dksX1_seesAlike_5 23 rfl rfl)
theorem dX1_seesAlike_139 : decode cX1_seesAlike 139 = .ok (.getfield 60, 3) := dk_180 0 60 (dk_at dksX1_seesAlike_6 0 rfl rfl)
theorem dX1_seesAlike_142 : decode cX1_seesAlike 142 = .ok (.iload 4, 2) := dk_21 4 (dk_at dksX1_seesAlike_6 3 rfl rfl)
theorem dX1_seesAlike_144 : decode cX1_seesAlike 144 = .ok (.iaload, 1) := dk_46 (dk_at dksX1_seesAlike_6 5 rfl rfl)
theorem dX1_seesAlike_145 : decode cX1_seesAlike 145 = .ok (.if_icmp .ne 33, 3) := dk_160 0 33 (dk_at dksX1_seesAlike_6 6 rfl rfl)
theorem dX1_seesAlike_148 : decode cX1_seesAlike 148 = .ok (.aload_n 0, 1) := dk_42 (dk_at dksX1_seesAlike_6 9 rfl rfl)
theorem dX1_seesAlike_149 : decode cX1_seesAlike 149 = .ok (.getfield 28, 3) := dk_180 0 28 (dk_at dksX1_seesAlike_6 10 rfl rfl)
theorem dX1_seesAlike_152 : decode cX1_seesAlike 152 = .ok (.iload 4, 2) := dk_21 4 (dk_at dksX1_seesAlike_6 13 rfl rfl)
theorem dX1_seesAlike_154 : decode cX1_seesAlike 154 = .ok (.iaload, 1) := dk_46 (dk_at dksX1_seesAlike_6 15 rfl rfl)
theorem dX1_seesAlike_155 : decode cX1_seesAlike 155 = .ok (.aload_n 0, 1) := dk_42 (dk_at dksX1_seesAlike_6 16 rfl rfl)
theorem dX1_seesAlike_156 : decode cX1_seesAlike 156 = .ok (.getfield 63, 3) := dk_180 0 63 (dk_at dksX1_seesAlike_6 17 rfl rfl)
theorem dX1_seesAlike_159 : decode cX1_seesAlike 159 = .ok (.iload 4, 2) := dk_21 4 (dk_at dksX1_seesAlike_6 20 rfl rfl)
theorem dX1_seesAlike_161 : decode cX1_seesAlike 161 = .ok (.iaload, 1) := dk_46 (dk_at dksX1_seesAlike_6 22 rfl rfl)
theorem dX1_seesAlike_162 : decode cX1_seesAlike 162 = .ok (.if_icmp .ne 16, 3) := dk_160 0 16 (dk_at dksX1_seesAlike_7 0 rfl rfl)
theorem dX1_seesAlike_165 : decode cX1_seesAlike 165 = .ok (.iload_n 2, 1) := dk_28 (dk_at dksX1_seesAlike_7 3 rfl rfl)
theorem dX1_seesAlike_166 : decode cX1_seesAlike 166 = .ok (.iload_n 1, 1) := dk_27 (dk_at dksX1_seesAlike_7 4 rfl rfl)
theorem dX1_seesAlike_167 : decode cX1_seesAlike 167 = .ok (.invokestatic 110, 3) := dk_184 0 110 (dk_at dksX1_seesAlike_7 5 rfl rfl)
theorem dX1_seesAlike_170 : decode cX1_seesAlike 170 = .ok (.iload_n 3, 1) := dk_29 (dk_at dksX1_seesAlike_7 8 rfl rfl)
theorem dX1_seesAlike_171 : decode cX1_seesAlike 171 = .ok (.iload_n 1, 1) := dk_27 (dk_at dksX1_seesAlike_7 9 rfl rfl)
theorem dX1_seesAlike_172 : decode cX1_seesAlike 172 = .ok (.invokestatic 110, 3) := dk_184 0 110 (dk_at dksX1_seesAlike_7 10 rfl rfl)
theorem dX1_seesAlike_175 : decode cX1_seesAlike 175 = .ok (.if_icmp .eq 5, 3) := dk_159 0 5 (dk_at dksX1_seesAlike_7 13 rfl rfl)
theorem dX1_seesAlike_178 : decode cX1_seesAlike 178 = .ok (.iconst 0, 1) := dk_3 (dk_at dksX1_seesAlike_7 16 rfl rfl)
theorem dX1_seesAlike_179 : decode cX1_seesAlike 179 = .ok (.ireturn, 1) := dk_172 (dk_at dksX1_seesAlike_7 17 rfl rfl)
theorem dX1_seesAlike_180 : decode cX1_seesAlike 180 = .ok (.iinc 4 1, 3) := dk_132 4 1 (dk_at dksX1_seesAlike_7 18 rfl rfl)
theorem dX1_seesAlike_183 : decode cX1_seesAlike 183 = .ok (.goto (-169), 3) := dk_167 255 87 (dk_at dksX1_seesAlike_7 21 rfl rfl)
theorem dX1_seesAlike_186 : decode cX1_seesAlike 186 = .ok (.iconst 1, 1) := dk_4 (dk_at dksX1_seesAlike_8 0 rfl rfl)
theorem dX1_seesAlike_187 : decode cX1_seesAlike 187 = .ok (.ireturn, 1) := dk_172 (dk_at dksX1_seesAlike_8 1 rfl rfl)
abbrev cX1_sure : ByteArray := prog_16_method_48_code
def yX1_sure : MethodName := ⟨RX1, "sure", "(III)I"⟩
def dkwX1_sure_2 : List UInt8 := [184, 0, 110, 29, 122, 4, 126, 172]
abbrev dktX1_sure_2 : List UInt8 := dkwX1_sure_2 ++ []
def dkwX1_sure_1 : List UInt8 := [2, 172, 42, 180, 0, 103, 7, 164, 0, 6, 16, 253, 172, 42, 27, 182, 0, 209, 42, 180, 0, 200, 28]
abbrev dktX1_sure_1 : List UInt8 := dkwX1_sure_1 ++ dktX1_sure_2
def dkwX1_sure_0 : List UInt8 := [42, 27, 182, 0, 125, 153, 0, 19, 42, 28, 182, 0, 125, 153, 0, 11, 42, 29, 182, 0, 125, 154, 0, 5]
abbrev dktX1_sure_0 : List UInt8 := dkwX1_sure_0 ++ dktX1_sure_1
theorem dksX1_sure_0 : cX1_sure.data.toList.drop 0 = dktX1_sure_0 := by decide +kernel
theorem dksX1_sure_1 : cX1_sure.data.toList.drop 24 = dktX1_sure_1 := dk_seg dksX1_sure_0 24 rfl rfl
theorem dksX1_sure_2 : cX1_sure.data.toList.drop 47 = dktX1_sure_2 := dk_seg dksX1_sure_1 23 rfl rfl
theorem dX1_sure_0 : decode cX1_sure 0 = .ok (.aload_n 0, 1) := dk_42 (dk_at dksX1_sure_0 0 rfl rfl)
theorem dX1_sure_1 : decode cX1_sure 1 = .ok (.iload_n 1, 1) := dk_27 (dk_at dksX1_sure_0 1 rfl rfl)
theorem dX1_sure_2 : decode cX1_sure 2 = .ok (.invokevirtual 125, 3) := dk_182 0 125 (dk_at dksX1_sure_0 2 rfl rfl)
theorem dX1_sure_5 : decode cX1_sure 5 = .ok (.ifCond .eq 19, 3) := dk_153 0 19 (dk_at dksX1_sure_0 5 rfl rfl)
theorem dX1_sure_8 : decode cX1_sure 8 = .ok (.aload_n 0, 1) := dk_42 (dk_at dksX1_sure_0 8 rfl rfl)
theorem dX1_sure_9 : decode cX1_sure 9 = .ok (.iload_n 2, 1) := dk_28 (dk_at dksX1_sure_0 9 rfl rfl)
theorem dX1_sure_10 : decode cX1_sure 10 = .ok (.invokevirtual 125, 3) := dk_182 0 125 (dk_at dksX1_sure_0 10 rfl rfl)
theorem dX1_sure_13 : decode cX1_sure 13 = .ok (.ifCond .eq 11, 3) := dk_153 0 11 (dk_at dksX1_sure_0 13 rfl rfl)
theorem dX1_sure_16 : decode cX1_sure 16 = .ok (.aload_n 0, 1) := dk_42 (dk_at dksX1_sure_0 16 rfl rfl)
theorem dX1_sure_17 : decode cX1_sure 17 = .ok (.iload_n 3, 1) := dk_29 (dk_at dksX1_sure_0 17 rfl rfl)
theorem dX1_sure_18 : decode cX1_sure 18 = .ok (.invokevirtual 125, 3) := dk_182 0 125 (dk_at dksX1_sure_0 18 rfl rfl)
theorem dX1_sure_21 : decode cX1_sure 21 = .ok (.ifCond .ne 5, 3) := dk_154 0 5 (dk_at dksX1_sure_0 21 rfl rfl)
theorem dX1_sure_24 : decode cX1_sure 24 = .ok (.iconst (-1), 1) := dk_2 (dk_at dksX1_sure_1 0 rfl rfl)
theorem dX1_sure_25 : decode cX1_sure 25 = .ok (.ireturn, 1) := dk_172 (dk_at dksX1_sure_1 1 rfl rfl)
theorem dX1_sure_26 : decode cX1_sure 26 = .ok (.aload_n 0, 1) := dk_42 (dk_at dksX1_sure_1 2 rfl rfl)
theorem dX1_sure_27 : decode cX1_sure 27 = .ok (.getfield 103, 3) := dk_180 0 103 (dk_at dksX1_sure_1 3 rfl rfl)
theorem dX1_sure_30 : decode cX1_sure 30 = .ok (.iconst 4, 1) := dk_7 (dk_at dksX1_sure_1 6 rfl rfl)
theorem dX1_sure_31 : decode cX1_sure 31 = .ok (.if_icmp .le 6, 3) := dk_164 0 6 (dk_at dksX1_sure_1 7 rfl rfl)
theorem dX1_sure_34 : decode cX1_sure 34 = .ok (.bipush (-3), 2) := dk_16 253 (dk_at dksX1_sure_1 10 rfl rfl)
theorem dX1_sure_36 : decode cX1_sure 36 = .ok (.ireturn, 1) := dk_172 (dk_at dksX1_sure_1 12 rfl rfl)
theorem dX1_sure_37 : decode cX1_sure 37 = .ok (.aload_n 0, 1) := dk_42 (dk_at dksX1_sure_1 13 rfl rfl)
theorem dX1_sure_38 : decode cX1_sure 38 = .ok (.iload_n 1, 1) := dk_27 (dk_at dksX1_sure_1 14 rfl rfl)
theorem dX1_sure_39 : decode cX1_sure 39 = .ok (.invokevirtual 209, 3) := dk_182 0 209 (dk_at dksX1_sure_1 15 rfl rfl)
theorem dX1_sure_42 : decode cX1_sure 42 = .ok (.aload_n 0, 1) := dk_42 (dk_at dksX1_sure_1 18 rfl rfl)
theorem dX1_sure_43 : decode cX1_sure 43 = .ok (.getfield 200, 3) := dk_180 0 200 (dk_at dksX1_sure_1 19 rfl rfl)
theorem dX1_sure_46 : decode cX1_sure 46 = .ok (.iload_n 2, 1) := dk_28 (dk_at dksX1_sure_1 22 rfl rfl)
theorem dX1_sure_47 : decode cX1_sure 47 = .ok (.invokestatic 110, 3) := dk_184 0 110 (dk_at dksX1_sure_2 0 rfl rfl)
theorem dX1_sure_50 : decode cX1_sure 50 = .ok (.iload_n 3, 1) := dk_29 (dk_at dksX1_sure_2 3 rfl rfl)
theorem dX1_sure_51 : decode cX1_sure 51 = .ok (.ishr, 1) := dk_122 (dk_at dksX1_sure_2 4 rfl rfl)
theorem dX1_sure_52 : decode cX1_sure 52 = .ok (.iconst 1, 1) := dk_4 (dk_at dksX1_sure_2 5 rfl rfl)
theorem dX1_sure_53 : decode cX1_sure 53 = .ok (.iand, 1) := dk_126 (dk_at dksX1_sure_2 6 rfl rfl)
theorem dX1_sure_54 : decode cX1_sure 54 = .ok (.ireturn, 1) := dk_172 (dk_at dksX1_sure_2 7 rfl rfl)
abbrev cX1_known : ByteArray := prog_16_method_49_code
def yX1_known : MethodName := ⟨RX1, "known", "(II)I"⟩
def dkwX1_known_1 : List UInt8 := [164, 0, 6, 16, 253, 172, 42, 27, 182, 0, 209, 42, 180, 0, 200, 28, 184, 0, 110, 172]
abbrev dktX1_known_1 : List UInt8 := dkwX1_known_1 ++ []
def dkwX1_known_0 : List UInt8 := [42, 27, 182, 0, 125, 153, 0, 11, 42, 28, 182, 0, 125, 154, 0, 5, 2, 172, 42, 180, 0, 103, 7]
abbrev dktX1_known_0 : List UInt8 := dkwX1_known_0 ++ dktX1_known_1
theorem dksX1_known_0 : cX1_known.data.toList.drop 0 = dktX1_known_0 := by decide +kernel
theorem dksX1_known_1 : cX1_known.data.toList.drop 23 = dktX1_known_1 := dk_seg dksX1_known_0 23 rfl rfl
theorem dX1_known_0 : decode cX1_known 0 = .ok (.aload_n 0, 1) := dk_42 (dk_at dksX1_known_0 0 rfl rfl)
theorem dX1_known_1 : decode cX1_known 1 = .ok (.iload_n 1, 1) := dk_27 (dk_at dksX1_known_0 1 rfl rfl)
theorem dX1_known_2 : decode cX1_known 2 = .ok (.invokevirtual 125, 3) := dk_182 0 125 (dk_at dksX1_known_0 2 rfl rfl)
theorem dX1_known_5 : decode cX1_known 5 = .ok (.ifCond .eq 11, 3) := dk_153 0 11 (dk_at dksX1_known_0 5 rfl rfl)
theorem dX1_known_8 : decode cX1_known 8 = .ok (.aload_n 0, 1) := dk_42 (dk_at dksX1_known_0 8 rfl rfl)
theorem dX1_known_9 : decode cX1_known 9 = .ok (.iload_n 2, 1) := dk_28 (dk_at dksX1_known_0 9 rfl rfl)
theorem dX1_known_10 : decode cX1_known 10 = .ok (.invokevirtual 125, 3) := dk_182 0 125 (dk_at dksX1_known_0 10 rfl rfl)
theorem dX1_known_13 : decode cX1_known 13 = .ok (.ifCond .ne 5, 3) := dk_154 0 5 (dk_at dksX1_known_0 13 rfl rfl)
theorem dX1_known_16 : decode cX1_known 16 = .ok (.iconst (-1), 1) := dk_2 (dk_at dksX1_known_0 16 rfl rfl)
theorem dX1_known_17 : decode cX1_known 17 = .ok (.ireturn, 1) := dk_172 (dk_at dksX1_known_0 17 rfl rfl)
theorem dX1_known_18 : decode cX1_known 18 = .ok (.aload_n 0, 1) := dk_42 (dk_at dksX1_known_0 18 rfl rfl)
theorem dX1_known_19 : decode cX1_known 19 = .ok (.getfield 103, 3) := dk_180 0 103 (dk_at dksX1_known_0 19 rfl rfl)
theorem dX1_known_22 : decode cX1_known 22 = .ok (.iconst 4, 1) := dk_7 (dk_at dksX1_known_0 22 rfl rfl)
theorem dX1_known_23 : decode cX1_known 23 = .ok (.if_icmp .le 6, 3) := dk_164 0 6 (dk_at dksX1_known_1 0 rfl rfl)
theorem dX1_known_26 : decode cX1_known 26 = .ok (.bipush (-3), 2) := dk_16 253 (dk_at dksX1_known_1 3 rfl rfl)
theorem dX1_known_28 : decode cX1_known 28 = .ok (.ireturn, 1) := dk_172 (dk_at dksX1_known_1 5 rfl rfl)
theorem dX1_known_29 : decode cX1_known 29 = .ok (.aload_n 0, 1) := dk_42 (dk_at dksX1_known_1 6 rfl rfl)
theorem dX1_known_30 : decode cX1_known 30 = .ok (.iload_n 1, 1) := dk_27 (dk_at dksX1_known_1 7 rfl rfl)
theorem dX1_known_31 : decode cX1_known 31 = .ok (.invokevirtual 209, 3) := dk_182 0 209 (dk_at dksX1_known_1 8 rfl rfl)
theorem dX1_known_34 : decode cX1_known 34 = .ok (.aload_n 0, 1) := dk_42 (dk_at dksX1_known_1 11 rfl rfl)
theorem dX1_known_35 : decode cX1_known 35 = .ok (.getfield 200, 3) := dk_180 0 200 (dk_at dksX1_known_1 12 rfl rfl)
theorem dX1_known_38 : decode cX1_known 38 = .ok (.iload_n 2, 1) := dk_28 (dk_at dksX1_known_1 15 rfl rfl)
theorem dX1_known_39 : decode cX1_known 39 = .ok (.invokestatic 110, 3) := dk_184 0 110 (dk_at dksX1_known_1 16 rfl rfl)
theorem dX1_known_42 : decode cX1_known 42 = .ok (.ireturn, 1) := dk_172 (dk_at dksX1_known_1 19 rfl rfl)
abbrev cX1_end : ByteArray := prog_16_method_50_code
def yX1_end : MethodName := ⟨RX1, "end", "(I)I"⟩
def dkwX1_end_1 : List UInt8 := [182, 0, 209, 42, 42, 180, 0, 200, 42, 180, 0, 82, 182, 0, 167, 153, 0, 7, 4, 167, 0, 4, 3, 172]
abbrev dktX1_end_1 : List UInt8 := dkwX1_end_1 ++ []
def dkwX1_end_0 : List UInt8 := [42, 27, 182, 0, 125, 154, 0, 5, 2, 172, 42, 180, 0, 103, 7, 164, 0, 6, 16, 253, 172, 42, 27]
abbrev dktX1_end_0 : List UInt8 := dkwX1_end_0 ++ dktX1_end_1
theorem dksX1_end_0 : cX1_end.data.toList.drop 0 = dktX1_end_0 := by decide +kernel
theorem dksX1_end_1 : cX1_end.data.toList.drop 23 = dktX1_end_1 := dk_seg dksX1_end_0 23 rfl rfl
theorem dX1_end_0 : decode cX1_end 0 = .ok (.aload_n 0, 1) := dk_42 (dk_at dksX1_end_0 0 rfl rfl)
theorem dX1_end_1 : decode cX1_end 1 = .ok (.iload_n 1, 1) := dk_27 (dk_at dksX1_end_0 1 rfl rfl)
theorem dX1_end_2 : decode cX1_end 2 = .ok (.invokevirtual 125, 3) := dk_182 0 125 (dk_at dksX1_end_0 2 rfl rfl)
theorem dX1_end_5 : decode cX1_end 5 = .ok (.ifCond .ne 5, 3) := dk_154 0 5 (dk_at dksX1_end_0 5 rfl rfl)
theorem dX1_end_8 : decode cX1_end 8 = .ok (.iconst (-1), 1) := dk_2 (dk_at dksX1_end_0 8 rfl rfl)
theorem dX1_end_9 : decode cX1_end 9 = .ok (.ireturn, 1) := dk_172 (dk_at dksX1_end_0 9 rfl rfl)
theorem dX1_end_10 : decode cX1_end 10 = .ok (.aload_n 0, 1) := dk_42 (dk_at dksX1_end_0 10 rfl rfl)
theorem dX1_end_11 : decode cX1_end 11 = .ok (.getfield 103, 3) := dk_180 0 103 (dk_at dksX1_end_0 11 rfl rfl)
theorem dX1_end_14 : decode cX1_end 14 = .ok (.iconst 4, 1) := dk_7 (dk_at dksX1_end_0 14 rfl rfl)
theorem dX1_end_15 : decode cX1_end 15 = .ok (.if_icmp .le 6, 3) := dk_164 0 6 (dk_at dksX1_end_0 15 rfl rfl)
theorem dX1_end_18 : decode cX1_end 18 = .ok (.bipush (-3), 2) := dk_16 253 (dk_at dksX1_end_0 18 rfl rfl)
theorem dX1_end_20 : decode cX1_end 20 = .ok (.ireturn, 1) := dk_172 (dk_at dksX1_end_0 20 rfl rfl)
theorem dX1_end_21 : decode cX1_end 21 = .ok (.aload_n 0, 1) := dk_42 (dk_at dksX1_end_0 21 rfl rfl)
theorem dX1_end_22 : decode cX1_end 22 = .ok (.iload_n 1, 1) := dk_27 (dk_at dksX1_end_0 22 rfl rfl)
theorem dX1_end_23 : decode cX1_end 23 = .ok (.invokevirtual 209, 3) := dk_182 0 209 (dk_at dksX1_end_1 0 rfl rfl)
theorem dX1_end_26 : decode cX1_end 26 = .ok (.aload_n 0, 1) := dk_42 (dk_at dksX1_end_1 3 rfl rfl)
theorem dX1_end_27 : decode cX1_end 27 = .ok (.aload_n 0, 1) := dk_42 (dk_at dksX1_end_1 4 rfl rfl)
theorem dX1_end_28 : decode cX1_end 28 = .ok (.getfield 200, 3) := dk_180 0 200 (dk_at dksX1_end_1 5 rfl rfl)
theorem dX1_end_31 : decode cX1_end 31 = .ok (.aload_n 0, 1) := dk_42 (dk_at dksX1_end_1 8 rfl rfl)
theorem dX1_end_32 : decode cX1_end 32 = .ok (.getfield 82, 3) := dk_180 0 82 (dk_at dksX1_end_1 9 rfl rfl)
theorem dX1_end_35 : decode cX1_end 35 = .ok (.invokevirtual 167, 3) := dk_182 0 167 (dk_at dksX1_end_1 12 rfl rfl)
theorem dX1_end_38 : decode cX1_end 38 = .ok (.ifCond .eq 7, 3) := dk_153 0 7 (dk_at dksX1_end_1 15 rfl rfl)
theorem dX1_end_41 : decode cX1_end 41 = .ok (.iconst 1, 1) := dk_4 (dk_at dksX1_end_1 18 rfl rfl)
theorem dX1_end_42 : decode cX1_end 42 = .ok (.goto 4, 3) := dk_167 0 4 (dk_at dksX1_end_1 19 rfl rfl)
theorem dX1_end_45 : decode cX1_end 45 = .ok (.iconst 0, 1) := dk_3 (dk_at dksX1_end_1 22 rfl rfl)
theorem dX1_end_46 : decode cX1_end 46 = .ok (.ireturn, 1) := dk_172 (dk_at dksX1_end_1 23 rfl rfl)
abbrev cX1_joined : ByteArray := prog_16_method_52_code
def yX1_joined : MethodName := ⟨RX1, "joined", "()I"⟩
def dkwX1_joined_1 : List UInt8 := [153, 0, 7, 4, 167, 0, 4, 3, 172]
abbrev dktX1_joined_1 : List UInt8 := dkwX1_joined_1 ++ []
def dkwX1_joined_0 : List UInt8 := [42, 180, 0, 82, 154, 0, 8, 16, 253, 167, 0, 22, 42, 180, 0, 19, 42, 180, 0, 82, 184, 0, 213]
abbrev dktX1_joined_0 : List UInt8 := dkwX1_joined_0 ++ dktX1_joined_1
theorem dksX1_joined_0 : cX1_joined.data.toList.drop 0 = dktX1_joined_0 := by decide +kernel
theorem dksX1_joined_1 : cX1_joined.data.toList.drop 23 = dktX1_joined_1 := dk_seg dksX1_joined_0 23 rfl rfl
theorem dX1_joined_0 : decode cX1_joined 0 = .ok (.aload_n 0, 1) := dk_42 (dk_at dksX1_joined_0 0 rfl rfl)
theorem dX1_joined_1 : decode cX1_joined 1 = .ok (.getfield 82, 3) := dk_180 0 82 (dk_at dksX1_joined_0 1 rfl rfl)
theorem dX1_joined_4 : decode cX1_joined 4 = .ok (.ifCond .ne 8, 3) := dk_154 0 8 (dk_at dksX1_joined_0 4 rfl rfl)
theorem dX1_joined_7 : decode cX1_joined 7 = .ok (.bipush (-3), 2) := dk_16 253 (dk_at dksX1_joined_0 7 rfl rfl)
theorem dX1_joined_9 : decode cX1_joined 9 = .ok (.goto 22, 3) := dk_167 0 22 (dk_at dksX1_joined_0 9 rfl rfl)
theorem dX1_joined_12 : decode cX1_joined 12 = .ok (.aload_n 0, 1) := dk_42 (dk_at dksX1_joined_0 12 rfl rfl)
theorem dX1_joined_13 : decode cX1_joined 13 = .ok (.getfield 19, 3) := dk_180 0 19 (dk_at dksX1_joined_0 13 rfl rfl)
theorem dX1_joined_16 : decode cX1_joined 16 = .ok (.aload_n 0, 1) := dk_42 (dk_at dksX1_joined_0 16 rfl rfl)
theorem dX1_joined_17 : decode cX1_joined 17 = .ok (.getfield 82, 3) := dk_180 0 82 (dk_at dksX1_joined_0 17 rfl rfl)
theorem dX1_joined_20 : decode cX1_joined 20 = .ok (.invokestatic 213, 3) := dk_184 0 213 (dk_at dksX1_joined_0 20 rfl rfl)
theorem dX1_joined_23 : decode cX1_joined 23 = .ok (.ifCond .eq 7, 3) := dk_153 0 7 (dk_at dksX1_joined_1 0 rfl rfl)
theorem dX1_joined_26 : decode cX1_joined 26 = .ok (.iconst 1, 1) := dk_4 (dk_at dksX1_joined_1 3 rfl rfl)
theorem dX1_joined_27 : decode cX1_joined 27 = .ok (.goto 4, 3) := dk_167 0 4 (dk_at dksX1_joined_1 4 rfl rfl)
theorem dX1_joined_30 : decode cX1_joined 30 = .ok (.iconst 0, 1) := dk_3 (dk_at dksX1_joined_1 7 rfl rfl)
theorem dX1_joined_31 : decode cX1_joined 31 = .ok (.ireturn, 1) := dk_172 (dk_at dksX1_joined_1 8 rfl rfl)
abbrev cX1_isJoined : ByteArray := prog_16_method_51_code
def yX1_isJoined : MethodName := ⟨RX1, "isJoined", "([II)Z"⟩
def dkwX1_isJoined_4 : List UInt8 := [27, 158, 0, 16, 28, 4, 27, 120, 4, 100, 160, 0, 7, 4, 167, 0, 4, 3, 172]
abbrev dktX1_isJoined_4 : List UInt8 := dkwX1_isJoined_4 ++ []
def dkwX1_isJoined_3 : List UInt8 := [21, 5, 120, 128, 128, 61, 132, 5, 1, 167, 255, 198, 132, 4, 1, 167, 255, 183, 132, 3, 1, 167, 255, 169]
abbrev dktX1_isJoined_3 : List UInt8 := dkwX1_isJoined_3 ++ dktX1_isJoined_4
def dkwX1_isJoined_2 : List UInt8 := [21, 4, 184, 0, 106, 154, 0, 12, 28, 21, 5, 184, 0, 106, 153, 0, 15, 28, 4, 21, 4, 120, 4]
abbrev dktX1_isJoined_2 : List UInt8 := dkwX1_isJoined_2 ++ dktX1_isJoined_3
def dkwX1_isJoined_1 : List UInt8 := [162, 0, 58, 21, 4, 21, 5, 159, 0, 45, 42, 21, 4, 46, 21, 5, 184, 0, 106, 153, 0, 33, 28]
abbrev dktX1_isJoined_1 : List UInt8 := dkwX1_isJoined_1 ++ dktX1_isJoined_2
def dkwX1_isJoined_0 : List UInt8 := [4, 61, 3, 62, 29, 27, 162, 0, 88, 3, 54, 4, 21, 4, 27, 162, 0, 73, 3, 54, 5, 21, 5, 27]
abbrev dktX1_isJoined_0 : List UInt8 := dkwX1_isJoined_0 ++ dktX1_isJoined_1
theorem dksX1_isJoined_0 : cX1_isJoined.data.toList.drop 0 = dktX1_isJoined_0 := by decide +kernel
theorem dksX1_isJoined_1 : cX1_isJoined.data.toList.drop 24 = dktX1_isJoined_1 := dk_seg dksX1_isJoined_0 24 rfl rfl
theorem dksX1_isJoined_2 : cX1_isJoined.data.toList.drop 47 = dktX1_isJoined_2 := dk_seg dksX1_isJoined_1 23 rfl rfl
theorem dksX1_isJoined_3 : cX1_isJoined.data.toList.drop 70 = dktX1_isJoined_3 := dk_seg dksX1_isJoined_2 23 rfl rfl
theorem dksX1_isJoined_4 : cX1_isJoined.data.toList.drop 94 = dktX1_isJoined_4 := dk_seg dksX1_isJoined_3 24 rfl rfl
theorem dX1_isJoined_0 : decode cX1_isJoined 0 = .ok (.iconst 1, 1) := dk_4 (dk_at dksX1_isJoined_0 0 rfl rfl)
theorem dX1_isJoined_1 : decode cX1_isJoined 1 = .ok (.istore_n 2, 1) := dk_61 (dk_at dksX1_isJoined_0 1 rfl rfl)
theorem dX1_isJoined_2 : decode cX1_isJoined 2 = .ok (.iconst 0, 1) := dk_3 (dk_at dksX1_isJoined_0 2 rfl rfl)
theorem dX1_isJoined_3 : decode cX1_isJoined 3 = .ok (.istore_n 3, 1) := dk_62 (dk_at dksX1_isJoined_0 3 rfl rfl)
theorem dX1_isJoined_4 : decode cX1_isJoined 4 = .ok (.iload_n 3, 1) := dk_29 (dk_at dksX1_isJoined_0 4 rfl rfl)
theorem dX1_isJoined_5 : decode cX1_isJoined 5 = .ok (.iload_n 1, 1) := dk_27 (dk_at dksX1_isJoined_0 5 rfl rfl)
theorem dX1_isJoined_6 : decode cX1_isJoined 6 = .ok (.if_icmp .ge 88, 3) := dk_162 0 88 (dk_at dksX1_isJoined_0 6 rfl rfl)
theorem dX1_isJoined_9 : decode cX1_isJoined 9 = .ok (.iconst 0, 1) := dk_3 (dk_at dksX1_isJoined_0 9 rfl rfl)
theorem dX1_isJoined_10 : decode cX1_isJoined 10 = .ok (.istore 4, 2) := dk_54 4 (dk_at dksX1_isJoined_0 10 rfl rfl)
theorem dX1_isJoined_12 : decode cX1_isJoined 12 = .ok (.iload 4, 2) := dk_21 4 (dk_at dksX1_isJoined_0 12 rfl rfl)
theorem dX1_isJoined_14 : decode cX1_isJoined 14 = .ok (.iload_n 1, 1) := dk_27 (dk_at dksX1_isJoined_0 14 rfl rfl)
theorem dX1_isJoined_15 : decode cX1_isJoined 15 = .ok (.if_icmp .ge 73, 3) := dk_162 0 73 (dk_at dksX1_isJoined_0 15 rfl rfl)
theorem dX1_isJoined_18 : decode cX1_isJoined 18 = .ok (.iconst 0, 1) := dk_3 (dk_at dksX1_isJoined_0 18 rfl rfl)
theorem dX1_isJoined_19 : decode cX1_isJoined 19 = .ok (.istore 5, 2) := dk_54 5 (dk_at dksX1_isJoined_0 19 rfl rfl)
theorem dX1_isJoined_21 : decode cX1_isJoined 21 = .ok (.iload 5, 2) := dk_21 5 (dk_at dksX1_isJoined_0 21 rfl rfl)
theorem dX1_isJoined_23 : decode cX1_isJoined 23 = .ok (.iload_n 1, 1) := dk_27 (dk_at dksX1_isJoined_0 23 rfl rfl)
theorem dX1_isJoined_24 : decode cX1_isJoined 24 = .ok (.if_icmp .ge 58, 3) := dk_162 0 58 (dk_at dksX1_isJoined_1 0 rfl rfl)
theorem dX1_isJoined_27 : decode cX1_isJoined 27 = .ok (.iload 4, 2) := dk_21 4 (dk_at dksX1_isJoined_1 3 rfl rfl)
theorem dX1_isJoined_29 : decode cX1_isJoined 29 = .ok (.iload 5, 2) := dk_21 5 (dk_at dksX1_isJoined_1 5 rfl rfl)
theorem dX1_isJoined_31 : decode cX1_isJoined 31 = .ok (.if_icmp .eq 45, 3) := dk_159 0 45 (dk_at dksX1_isJoined_1 7 rfl rfl)
theorem dX1_isJoined_34 : decode cX1_isJoined 34 = .ok (.aload_n 0, 1) := dk_42 (dk_at dksX1_isJoined_1 10 rfl rfl)
theorem dX1_isJoined_35 : decode cX1_isJoined 35 = .ok (.iload 4, 2) := dk_21 4 (dk_at dksX1_isJoined_1 11 rfl rfl)
theorem dX1_isJoined_37 : decode cX1_isJoined 37 = .ok (.iaload, 1) := dk_46 (dk_at dksX1_isJoined_1 13 rfl rfl)
theorem dX1_isJoined_38 : decode cX1_isJoined 38 = .ok (.iload 5, 2) := dk_21 5 (dk_at dksX1_isJoined_1 14 rfl rfl)
theorem dX1_isJoined_40 : decode cX1_isJoined 40 = .ok (.invokestatic 106, 3) := dk_184 0 106 (dk_at dksX1_isJoined_1 16 rfl rfl)
theorem dX1_isJoined_43 : decode cX1_isJoined 43 = .ok (.ifCond .eq 33, 3) := dk_153 0 33 (dk_at dksX1_isJoined_1 19 rfl rfl)
theorem dX1_isJoined_46 : decode cX1_isJoined 46 = .ok (.iload_n 2, 1) := dk_28 (dk_at dksX1_isJoined_1 22 rfl rfl)
theorem dX1_isJoined_47 : decode cX1_isJoined 47 = .ok (.iload 4, 2) := dk_21 4 (dk_at dksX1_isJoined_2 0 rfl rfl)
theorem dX1_isJoined_49 : decode cX1_isJoined 49 = .ok (.invokestatic 106, 3) := dk_184 0 106 (dk_at dksX1_isJoined_2 2 rfl rfl)
theorem dX1_isJoined_52 : decode cX1_isJoined 52 = .ok (.ifCond .ne 12, 3) := dk_154 0 12 (dk_at dksX1_isJoined_2 5 rfl rfl)
theorem dX1_isJoined_55 : decode cX1_isJoined 55 = .ok (.iload_n 2, 1) := dk_28 (dk_at dksX1_isJoined_2 8 rfl rfl)
theorem dX1_isJoined_56 : decode cX1_isJoined 56 = .ok (.iload 5, 2) := dk_21 5 (dk_at dksX1_isJoined_2 9 rfl rfl)
theorem dX1_isJoined_58 : decode cX1_isJoined 58 = .ok (.invokestatic 106, 3) := dk_184 0 106 (dk_at dksX1_isJoined_2 11 rfl rfl)
theorem dX1_isJoined_61 : decode cX1_isJoined 61 = .ok (.ifCond .eq 15, 3) := dk_153 0 15 (dk_at dksX1_isJoined_2 14 rfl rfl)
theorem dX1_isJoined_64 : decode cX1_isJoined 64 = .ok (.iload_n 2, 1) := dk_28 (dk_at dksX1_isJoined_2 17 rfl rfl)
theorem dX1_isJoined_65 : decode cX1_isJoined 65 = .ok (.iconst 1, 1) := dk_4 (dk_at dksX1_isJoined_2 18 rfl rfl)
theorem dX1_isJoined_66 : decode cX1_isJoined 66 = .ok (.iload 4, 2) := dk_21 4 (dk_at dksX1_isJoined_2 19 rfl rfl)
theorem dX1_isJoined_68 : decode cX1_isJoined 68 = .ok (.ishl, 1) := dk_120 (dk_at dksX1_isJoined_2 21 rfl rfl)
theorem dX1_isJoined_69 : decode cX1_isJoined 69 = .ok (.iconst 1, 1) := dk_4 (dk_at dksX1_isJoined_2 22 rfl rfl)
theorem dX1_isJoined_70 : decode cX1_isJoined 70 = .ok (.iload 5, 2) := dk_21 5 (dk_at dksX1_isJoined_3 0 rfl rfl)
theorem dX1_isJoined_72 : decode cX1_isJoined 72 = .ok (.ishl, 1) := dk_120 (dk_at dksX1_isJoined_3 2 rfl rfl)
theorem dX1_isJoined_73 : decode cX1_isJoined 73 = .ok (.ior, 1) := dk_128 (dk_at dksX1_isJoined_3 3 rfl rfl)
theorem dX1_isJoined_74 : decode cX1_isJoined 74 = .ok (.ior, 1) := dk_128 (dk_at dksX1_isJoined_3 4 rfl rfl)
theorem dX1_isJoined_75 : decode cX1_isJoined 75 = .ok (.istore_n 2, 1) := dk_61 (dk_at dksX1_isJoined_3 5 rfl rfl)
theorem dX1_isJoined_76 : decode cX1_isJoined 76 = .ok (.iinc 5 1, 3) := dk_132 5 1 (dk_at dksX1_isJoined_3 6 rfl rfl)
theorem dX1_isJoined_79 : decode cX1_isJoined 79 = .ok (.goto (-58), 3) := dk_167 255 198 (dk_at dksX1_isJoined_3 9 rfl rfl)
theorem dX1_isJoined_82 : decode cX1_isJoined 82 = .ok (.iinc 4 1, 3) := dk_132 4 1 (dk_at dksX1_isJoined_3 12 rfl rfl)
theorem dX1_isJoined_85 : decode cX1_isJoined 85 = .ok (.goto (-73), 3) := dk_167 255 183 (dk_at dksX1_isJoined_3 15 rfl rfl)
theorem dX1_isJoined_88 : decode cX1_isJoined 88 = .ok (.iinc 3 1, 3) := dk_132 3 1 (dk_at dksX1_isJoined_3 18 rfl rfl)
theorem dX1_isJoined_91 : decode cX1_isJoined 91 = .ok (.goto (-87), 3) := dk_167 255 169 (dk_at dksX1_isJoined_3 21 rfl rfl)
theorem dX1_isJoined_94 : decode cX1_isJoined 94 = .ok (.iload_n 1, 1) := dk_27 (dk_at dksX1_isJoined_4 0 rfl rfl)
theorem dX1_isJoined_95 : decode cX1_isJoined 95 = .ok (.ifCond .le 16, 3) := dk_158 0 16 (dk_at dksX1_isJoined_4 1 rfl rfl)
theorem dX1_isJoined_98 : decode cX1_isJoined 98 = .ok (.iload_n 2, 1) := dk_28 (dk_at dksX1_isJoined_4 4 rfl rfl)
theorem dX1_isJoined_99 : decode cX1_isJoined 99 = .ok (.iconst 1, 1) := dk_4 (dk_at dksX1_isJoined_4 5 rfl rfl)
theorem dX1_isJoined_100 : decode cX1_isJoined 100 = .ok (.iload_n 1, 1) := dk_27 (dk_at dksX1_isJoined_4 6 rfl rfl)
theorem dX1_isJoined_101 : decode cX1_isJoined 101 = .ok (.ishl, 1) := dk_120 (dk_at dksX1_isJoined_4 7 rfl rfl)
theorem dX1_isJoined_102 : decode cX1_isJoined 102 = .ok (.iconst 1, 1) := dk_4 (dk_at dksX1_isJoined_4 8 rfl rfl)
theorem dX1_isJoined_103 : decode cX1_isJoined 103 = .ok (.isub, 1) := dk_100 (dk_at dksX1_isJoined_4 9 rfl rfl)
theorem dX1_isJoined_104 : decode cX1_isJoined 104 = .ok (.if_icmp .ne 7, 3) := dk_160 0 7 (dk_at dksX1_isJoined_4 10 rfl rfl)
theorem dX1_isJoined_107 : decode cX1_isJoined 107 = .ok (.iconst 1, 1) := dk_4 (dk_at dksX1_isJoined_4 13 rfl rfl)
theorem dX1_isJoined_108 : decode cX1_isJoined 108 = .ok (.goto 4, 3) := dk_167 0 4 (dk_at dksX1_isJoined_4 14 rfl rfl)
theorem dX1_isJoined_111 : decode cX1_isJoined 111 = .ok (.iconst 0, 1) := dk_3 (dk_at dksX1_isJoined_4 17 rfl rfl)
theorem dX1_isJoined_112 : decode cX1_isJoined 112 = .ok (.ireturn, 1) := dk_172 (dk_at dksX1_isJoined_4 18 rfl rfl)
abbrev cX1_bridge : ByteArray := prog_16_method_54_code
def yX1_bridge : MethodName := ⟨RX1, "bridge", "(I)I"⟩
def dkwX1_bridge_5 : List UInt8 := [167, 255, 184, 132, 3, 1, 167, 255, 167, 27, 2, 160, 0, 7, 28, 167, 0, 5, 16, 247, 172]
abbrev dktX1_bridge_5 : List UInt8 := dkwX1_bridge_5 ++ []
def dkwX1_bridge_4 : List UInt8 := [154, 0, 19, 28, 27, 160, 0, 11, 16, 10, 29, 104, 21, 4, 96, 172, 132, 2, 1, 132, 4, 1]
abbrev dktX1_bridge_4 : List UInt8 := dkwX1_bridge_4 ++ dktX1_bridge_5
def dkwX1_bridge_3 : List UInt8 := [154, 0, 6, 167, 0, 40, 42, 29, 21, 4, 182, 0, 217, 42, 180, 0, 66, 42, 180, 0, 82, 184, 0, 213]
abbrev dktX1_bridge_3 : List UInt8 := dkwX1_bridge_3 ++ dktX1_bridge_4
def dkwX1_bridge_2 : List UInt8 := [180, 0, 82, 162, 0, 69, 29, 21, 4, 159, 0, 57, 42, 180, 0, 19, 29, 46, 21, 4, 184, 0, 106]
abbrev dktX1_bridge_2 : List UInt8 := dkwX1_bridge_2 ++ dktX1_bridge_3
def dkwX1_bridge_1 : List UInt8 := [154, 0, 6, 16, 253, 172, 3, 61, 3, 62, 29, 42, 180, 0, 82, 162, 0, 87, 3, 54, 4, 21, 4, 42]
abbrev dktX1_bridge_1 : List UInt8 := dkwX1_bridge_1 ++ dktX1_bridge_2
def dkwX1_bridge_0 : List UInt8 := [27, 2, 16, 11, 184, 0, 78, 154, 0, 5, 2, 172, 42, 180, 0, 19, 42, 180, 0, 82, 184, 0, 213]
abbrev dktX1_bridge_0 : List UInt8 := dkwX1_bridge_0 ++ dktX1_bridge_1
theorem dksX1_bridge_0 : cX1_bridge.data.toList.drop 0 = dktX1_bridge_0 := by decide +kernel
theorem dksX1_bridge_1 : cX1_bridge.data.toList.drop 23 = dktX1_bridge_1 := dk_seg dksX1_bridge_0 23 rfl rfl
theorem dksX1_bridge_2 : cX1_bridge.data.toList.drop 47 = dktX1_bridge_2 := dk_seg dksX1_bridge_1 24 rfl rfl
theorem dksX1_bridge_3 : cX1_bridge.data.toList.drop 70 = dktX1_bridge_3 := dk_seg dksX1_bridge_2 23 rfl rfl
theorem dksX1_bridge_4 : cX1_bridge.data.toList.drop 94 = dktX1_bridge_4 := dk_seg dksX1_bridge_3 24 rfl rfl
theorem dksX1_bridge_5 : cX1_bridge.data.toList.drop 116 = dktX1_bridge_5 := dk_seg dksX1_bridge_4 22 rfl rfl
theorem dX1_bridge_0 : decode cX1_bridge 0 = .ok (.iload_n 1, 1) := dk_27 (dk_at dksX1_bridge_0 0 rfl rfl)
theorem dX1_bridge_1 : decode cX1_bridge 1 = .ok (.iconst (-1), 1) := dk_2 (dk_at dksX1_bridge_0 1 rfl rfl)
theorem dX1_bridge_2 : decode cX1_bridge 2 = .ok (.bipush 11, 2) := dk_16 11 (dk_at dksX1_bridge_0 2 rfl rfl)
theorem dX1_bridge_4 : decode cX1_bridge 4 = .ok (.invokestatic 78, 3) := dk_184 0 78 (dk_at dksX1_bridge_0 4 rfl rfl)
theorem dX1_bridge_7 : decode cX1_bridge 7 = .ok (.ifCond .ne 5, 3) := dk_154 0 5 (dk_at dksX1_bridge_0 7 rfl rfl)
theorem dX1_bridge_10 : decode cX1_bridge 10 = .ok (.iconst (-1), 1) := dk_2 (dk_at dksX1_bridge_0 10 rfl rfl)
theorem dX1_bridge_11 : decode cX1_bridge 11 = .ok (.ireturn, 1) := dk_172 (dk_at dksX1_bridge_0 11 rfl rfl)
theorem dX1_bridge_12 : decode cX1_bridge 12 = .ok (.aload_n 0, 1) := dk_42 (dk_at dksX1_bridge_0 12 rfl rfl)
theorem dX1_bridge_13 : decode cX1_bridge 13 = .ok (.getfield 19, 3) := dk_180 0 19 (dk_at dksX1_bridge_0 13 rfl rfl)
theorem dX1_bridge_16 : decode cX1_bridge 16 = .ok (.aload_n 0, 1) := dk_42 (dk_at dksX1_bridge_0 16 rfl rfl)
theorem dX1_bridge_17 : decode cX1_bridge 17 = .ok (.getfield 82, 3) := dk_180 0 82 (dk_at dksX1_bridge_0 17 rfl rfl)
theorem dX1_bridge_20 : decode cX1_bridge 20 = .ok (.invokestatic 213, 3) := dk_184 0 213 (dk_at dksX1_bridge_0 20 rfl rfl)
theorem dX1_bridge_23 : decode cX1_bridge 23 = .ok (.ifCond .ne 6, 3) := dk_154 0 6 (dk_at dksX1_bridge_1 0 rfl rfl)
theorem dX1_bridge_26 : decode cX1_bridge 26 = .ok (.bipush (-3), 2) := dk_16 253 (dk_at dksX1_bridge_1 3 rfl rfl)
theorem dX1_bridge_28 : decode cX1_bridge 28 = .ok (.ireturn, 1) := dk_172 (dk_at dksX1_bridge_1 5 rfl rfl)
theorem dX1_bridge_29 : decode cX1_bridge 29 = .ok (.iconst 0, 1) := dk_3 (dk_at dksX1_bridge_1 6 rfl rfl)
theorem dX1_bridge_30 : decode cX1_bridge 30 = .ok (.istore_n 2, 1) := dk_61 (dk_at dksX1_bridge_1 7 rfl rfl)
theorem dX1_bridge_31 : decode cX1_bridge 31 = .ok (.iconst 0, 1) := dk_3 (dk_at dksX1_bridge_1 8 rfl rfl)
theorem dX1_bridge_32 : decode cX1_bridge 32 = .ok (.istore_n 3, 1) := dk_62 (dk_at dksX1_bridge_1 9 rfl rfl)
theorem dX1_bridge_33 : decode cX1_bridge 33 = .ok (.iload_n 3, 1) := dk_29 (dk_at dksX1_bridge_1 10 rfl rfl)
theorem dX1_bridge_34 : decode cX1_bridge 34 = .ok (.aload_n 0, 1) := dk_42 (dk_at dksX1_bridge_1 11 rfl rfl)
theorem dX1_bridge_35 : decode cX1_bridge 35 = .ok (.getfield 82, 3) := dk_180 0 82 (dk_at dksX1_bridge_1 12 rfl rfl)
theorem dX1_bridge_38 : decode cX1_bridge 38 = .ok (.if_icmp .ge 87, 3) := dk_162 0 87 (dk_at dksX1_bridge_1 15 rfl rfl)
theorem dX1_bridge_41 : decode cX1_bridge 41 = .ok (.iconst 0, 1) := dk_3 (dk_at dksX1_bridge_1 18 rfl rfl)
theorem dX1_bridge_42 : decode cX1_bridge 42 = .ok (.istore 4, 2) := dk_54 4 (dk_at dksX1_bridge_1 19 rfl rfl)
theorem dX1_bridge_44 : decode cX1_bridge 44 = .ok (.iload 4, 2) := dk_21 4 (dk_at dksX1_bridge_1 21 rfl rfl)
theorem dX1_bridge_46 : decode cX1_bridge 46 = .ok (.aload_n 0, 1) := dk_42 (dk_at dksX1_bridge_1 23 rfl rfl)
theorem dX1_bridge_47 : decode cX1_bridge 47 = .ok (.getfield 82, 3) := dk_180 0 82 (dk_at dksX1_bridge_2 0 rfl rfl)
theorem dX1_bridge_50 : decode cX1_bridge 50 = .ok (.if_icmp .ge 69, 3) := dk_162 0 69 (dk_at dksX1_bridge_2 3 rfl rfl)
theorem dX1_bridge_53 : decode cX1_bridge 53 = .ok (.iload_n 3, 1) := dk_29 (dk_at dksX1_bridge_2 6 rfl rfl)
theorem dX1_bridge_54 : decode cX1_bridge 54 = .ok (.iload 4, 2) := dk_21 4 (dk_at dksX1_bridge_2 7 rfl rfl)
theorem dX1_bridge_56 : decode cX1_bridge 56 = .ok (.if_icmp .eq 57, 3) := dk_159 0 57 (dk_at dksX1_bridge_2 9 rfl rfl)
theorem dX1_bridge_59 : decode cX1_bridge 59 = .ok (.aload_n 0, 1) := dk_42 (dk_at dksX1_bridge_2 12 rfl rfl)
theorem dX1_bridge_60 : decode cX1_bridge 60 = .ok (.getfield 19, 3) := dk_180 0 19 (dk_at dksX1_bridge_2 13 rfl rfl)
theorem dX1_bridge_63 : decode cX1_bridge 63 = .ok (.iload_n 3, 1) := dk_29 (dk_at dksX1_bridge_2 16 rfl rfl)
theorem dX1_bridge_64 : decode cX1_bridge 64 = .ok (.iaload, 1) := dk_46 (dk_at dksX1_bridge_2 17 rfl rfl)
theorem dX1_bridge_65 : decode cX1_bridge 65 = .ok (.iload 4, 2) := dk_21 4 (dk_at dksX1_bridge_2 18 rfl rfl)
theorem dX1_bridge_67 : decode cX1_bridge 67 = .ok (.invokestatic 106, 3) := dk_184 0 106 (dk_at dksX1_bridge_2 20 rfl rfl)
theorem dX1_bridge_70 : decode cX1_bridge 70 = .ok (.ifCond .ne 6, 3) := dk_154 0 6 (dk_at dksX1_bridge_3 0 rfl rfl)
theorem dX1_bridge_73 : decode cX1_bridge 73 = .ok (.goto 40, 3) := dk_167 0 40 (dk_at dksX1_bridge_3 3 rfl rfl)
theorem dX1_bridge_76 : decode cX1_bridge 76 = .ok (.aload_n 0, 1) := dk_42 (dk_at dksX1_bridge_3 6 rfl rfl)
theorem dX1_bridge_77 : decode cX1_bridge 77 = .ok (.iload_n 3, 1) := dk_29 (dk_at dksX1_bridge_3 7 rfl rfl)
theorem dX1_bridge_78 : decode cX1_bridge 78 = .ok (.iload 4, 2) := dk_21 4 (dk_at dksX1_bridge_3 8 rfl rfl)
theorem dX1_bridge_80 : decode cX1_bridge 80 = .ok (.invokevirtual 217, 3) := dk_182 0 217 (dk_at dksX1_bridge_3 10 rfl rfl)
theorem dX1_bridge_83 : decode cX1_bridge 83 = .ok (.aload_n 0, 1) := dk_42 (dk_at dksX1_bridge_3 13 rfl rfl)
theorem dX1_bridge_84 : decode cX1_bridge 84 = .ok (.getfield 66, 3) := dk_180 0 66 (dk_at dksX1_bridge_3 14 rfl rfl)
theorem dX1_bridge_87 : decode cX1_bridge 87 = .ok (.aload_n 0, 1) := dk_42 (dk_at dksX1_bridge_3 17 rfl rfl)
theorem dX1_bridge_88 : decode cX1_bridge 88 = .ok (.getfield 82, 3) := dk_180 0 82 (dk_at dksX1_bridge_3 18 rfl rfl)
theorem dX1_bridge_91 : decode cX1_bridge 91 = .ok (.invokestatic 213, 3) := dk_184 0 213 (dk_at dksX1_bridge_3 21 rfl rfl)
theorem dX1_bridge_94 : decode cX1_bridge 94 = .ok (.ifCond .ne 19, 3) := dk_154 0 19 (dk_at dksX1_bridge_4 0 rfl rfl)
theorem dX1_bridge_97 : decode cX1_bridge 97 = .ok (.iload_n 2, 1) := dk_28 (dk_at dksX1_bridge_4 3 rfl rfl)
theorem dX1_bridge_98 : decode cX1_bridge 98 = .ok (.iload_n 1, 1) := dk_27 (dk_at dksX1_bridge_4 4 rfl rfl)
theorem dX1_bridge_99 : decode cX1_bridge 99 = .ok (.if_icmp .ne 11, 3) := dk_160 0 11 (dk_at dksX1_bridge_4 5 rfl rfl)
theorem dX1_bridge_102 : decode cX1_bridge 102 = .ok (.bipush 10, 2) := dk_16 10 (dk_at dksX1_bridge_4 8 rfl rfl)
theorem dX1_bridge_104 : decode cX1_bridge 104 = .ok (.iload_n 3, 1) := dk_29 (dk_at dksX1_bridge_4 10 rfl rfl)
theorem dX1_bridge_105 : decode cX1_bridge 105 = .ok (.imul, 1) := dk_104 (dk_at dksX1_bridge_4 11 rfl rfl)
theorem dX1_bridge_106 : decode cX1_bridge 106 = .ok (.iload 4, 2) := dk_21 4 (dk_at dksX1_bridge_4 12 rfl rfl)
theorem dX1_bridge_108 : decode cX1_bridge 108 = .ok (.iadd, 1) := dk_96 (dk_at dksX1_bridge_4 14 rfl rfl)
theorem dX1_bridge_109 : decode cX1_bridge 109 = .ok (.ireturn, 1) := dk_172 (dk_at dksX1_bridge_4 15 rfl rfl)
theorem dX1_bridge_110 : decode cX1_bridge 110 = .ok (.iinc 2 1, 3) := dk_132 2 1 (dk_at dksX1_bridge_4 16 rfl rfl)
theorem dX1_bridge_113 : decode cX1_bridge 113 = .ok (.iinc 4 1, 3) := dk_132 4 1 (dk_at dksX1_bridge_4 19 rfl rfl)
theorem dX1_bridge_116 : decode cX1_bridge 116 = .ok (.goto (-72), 3) := dk_167 255 184 (dk_at dksX1_bridge_5 0 rfl rfl)
theorem dX1_bridge_119 : decode cX1_bridge 119 = .ok (.iinc 3 1, 3) := dk_132 3 1 (dk_at dksX1_bridge_5 3 rfl rfl)
theorem dX1_bridge_122 : decode cX1_bridge 122 = .ok (.goto (-89), 3) := dk_167 255 167 (dk_at dksX1_bridge_5 6 rfl rfl)
theorem dX1_bridge_125 : decode cX1_bridge 125 = .ok (.iload_n 1, 1) := dk_27 (dk_at dksX1_bridge_5 9 rfl rfl)
theorem dX1_bridge_126 : decode cX1_bridge 126 = .ok (.iconst (-1), 1) := dk_2 (dk_at dksX1_bridge_5 10 rfl rfl)
theorem dX1_bridge_127 : decode cX1_bridge 127 = .ok (.if_icmp .ne 7, 3) := dk_160 0 7 (dk_at dksX1_bridge_5 11 rfl rfl)
theorem dX1_bridge_130 : decode cX1_bridge 130 = .ok (.iload_n 2, 1) := dk_28 (dk_at dksX1_bridge_5 14 rfl rfl)
theorem dX1_bridge_131 : decode cX1_bridge 131 = .ok (.goto 5, 3) := dk_167 0 5 (dk_at dksX1_bridge_5 15 rfl rfl)
theorem dX1_bridge_134 : decode cX1_bridge 134 = .ok (.bipush (-9), 2) := dk_16 247 (dk_at dksX1_bridge_5 18 rfl rfl)
theorem dX1_bridge_136 : decode cX1_bridge 136 = .ok (.ireturn, 1) := dk_172 (dk_at dksX1_bridge_5 20 rfl rfl)
abbrev cX1_layOther : ByteArray := prog_16_method_53_code
def yX1_layOther : MethodName := ⟨RX1, "layOther", "(II)V"⟩
def dkwX1_layOther_1 : List UInt8 := [167, 255, 236, 42, 180, 0, 66, 27, 92, 46, 4, 28, 120, 130, 79, 177]
abbrev dktX1_layOther_1 : List UInt8 := dkwX1_layOther_1 ++ []
def dkwX1_layOther_0 : List UInt8 := [3, 62, 29, 7, 162, 0, 21, 42, 180, 0, 66, 29, 42, 180, 0, 19, 29, 46, 79, 132, 3, 1]
abbrev dktX1_layOther_0 : List UInt8 := dkwX1_layOther_0 ++ dktX1_layOther_1
theorem dksX1_layOther_0 : cX1_layOther.data.toList.drop 0 = dktX1_layOther_0 := by decide +kernel
theorem dksX1_layOther_1 : cX1_layOther.data.toList.drop 22 = dktX1_layOther_1 := dk_seg dksX1_layOther_0 22 rfl rfl
theorem dX1_layOther_0 : decode cX1_layOther 0 = .ok (.iconst 0, 1) := dk_3 (dk_at dksX1_layOther_0 0 rfl rfl)
theorem dX1_layOther_1 : decode cX1_layOther 1 = .ok (.istore_n 3, 1) := dk_62 (dk_at dksX1_layOther_0 1 rfl rfl)
theorem dX1_layOther_2 : decode cX1_layOther 2 = .ok (.iload_n 3, 1) := dk_29 (dk_at dksX1_layOther_0 2 rfl rfl)
theorem dX1_layOther_3 : decode cX1_layOther 3 = .ok (.iconst 4, 1) := dk_7 (dk_at dksX1_layOther_0 3 rfl rfl)
theorem dX1_layOther_4 : decode cX1_layOther 4 = .ok (.if_icmp .ge 21, 3) := dk_162 0 21 (dk_at dksX1_layOther_0 4 rfl rfl)
theorem dX1_layOther_7 : decode cX1_layOther 7 = .ok (.aload_n 0, 1) := dk_42 (dk_at dksX1_layOther_0 7 rfl rfl)
theorem dX1_layOther_8 : decode cX1_layOther 8 = .ok (.getfield 66, 3) := dk_180 0 66 (dk_at dksX1_layOther_0 8 rfl rfl)
theorem dX1_layOther_11 : decode cX1_layOther 11 = .ok (.iload_n 3, 1) := dk_29 (dk_at dksX1_layOther_0 11 rfl rfl)
theorem dX1_layOther_12 : decode cX1_layOther 12 = .ok (.aload_n 0, 1) := dk_42 (dk_at dksX1_layOther_0 12 rfl rfl)
theorem dX1_layOther_13 : decode cX1_layOther 13 = .ok (.getfield 19, 3) := dk_180 0 19 (dk_at dksX1_layOther_0 13 rfl rfl)
theorem dX1_layOther_16 : decode cX1_layOther 16 = .ok (.iload_n 3, 1) := dk_29 (dk_at dksX1_layOther_0 16 rfl rfl)
theorem dX1_layOther_17 : decode cX1_layOther 17 = .ok (.iaload, 1) := dk_46 (dk_at dksX1_layOther_0 17 rfl rfl)
theorem dX1_layOther_18 : decode cX1_layOther 18 = .ok (.iastore, 1) := dk_79 (dk_at dksX1_layOther_0 18 rfl rfl)
theorem dX1_layOther_19 : decode cX1_layOther 19 = .ok (.iinc 3 1, 3) := dk_132 3 1 (dk_at dksX1_layOther_0 19 rfl rfl)
theorem dX1_layOther_22 : decode cX1_layOther 22 = .ok (.goto (-20), 3) := dk_167 255 236 (dk_at dksX1_layOther_1 0 rfl rfl)
theorem dX1_layOther_25 : decode cX1_layOther 25 = .ok (.aload_n 0, 1) := dk_42 (dk_at dksX1_layOther_1 3 rfl rfl)
theorem dX1_layOther_26 : decode cX1_layOther 26 = .ok (.getfield 66, 3) := dk_180 0 66 (dk_at dksX1_layOther_1 4 rfl rfl)
theorem dX1_layOther_29 : decode cX1_layOther 29 = .ok (.iload_n 1, 1) := dk_27 (dk_at dksX1_layOther_1 7 rfl rfl)
theorem dX1_layOther_30 : decode cX1_layOther 30 = .ok (.dup2, 1) := dk_92 (dk_at dksX1_layOther_1 8 rfl rfl)
theorem dX1_layOther_31 : decode cX1_layOther 31 = .ok (.iaload, 1) := dk_46 (dk_at dksX1_layOther_1 9 rfl rfl)
theorem dX1_layOther_32 : decode cX1_layOther 32 = .ok (.iconst 1, 1) := dk_4 (dk_at dksX1_layOther_1 10 rfl rfl)
theorem dX1_layOther_33 : decode cX1_layOther 33 = .ok (.iload_n 2, 1) := dk_28 (dk_at dksX1_layOther_1 11 rfl rfl)
theorem dX1_layOther_34 : decode cX1_layOther 34 = .ok (.ishl, 1) := dk_120 (dk_at dksX1_layOther_1 12 rfl rfl)
theorem dX1_layOther_35 : decode cX1_layOther 35 = .ok (.ixor, 1) := dk_130 (dk_at dksX1_layOther_1 13 rfl rfl)
theorem dX1_layOther_36 : decode cX1_layOther 36 = .ok (.iastore, 1) := dk_79 (dk_at dksX1_layOther_1 14 rfl rfl)
theorem dX1_layOther_37 : decode cX1_layOther 37 = .ok (.return_, 1) := dk_177 (dk_at dksX1_layOther_1 15 rfl rfl)
abbrev cX1_sun : ByteArray := prog_16_method_55_code
def yX1_sun : MethodName := ⟨RX1, "sun", "()I"⟩
def dkwX1_sun_5 : List UInt8 := [132, 4, 1, 167, 255, 203, 27, 29, 2, 130, 126, 153, 0, 5, 3, 172, 132, 2, 1, 167, 255, 172, 4, 172]
abbrev dktX1_sun_5 : List UInt8 := dkwX1_sun_5 ++ []
def dkwX1_sun_4 : List UInt8 := [153, 0, 13, 42, 180, 0, 19, 21, 5, 46, 167, 0, 4, 3, 128, 62, 132, 5, 1, 167, 255, 221]
abbrev dktX1_sun_4 : List UInt8 := dkwX1_sun_4 ++ dktX1_sun_5
def dkwX1_sun_3 : List UInt8 := [162, 0, 50, 3, 54, 5, 21, 5, 42, 180, 0, 82, 162, 0, 32, 29, 29, 21, 5, 184, 0, 106]
abbrev dktX1_sun_3 : List UInt8 := dkwX1_sun_3 ++ dktX1_sun_4
def dkwX1_sun_2 : List UInt8 := [61, 28, 42, 180, 0, 82, 162, 0, 82, 4, 28, 120, 62, 3, 54, 4, 21, 4, 42, 180, 0, 82]
abbrev dktX1_sun_2 : List UInt8 := dkwX1_sun_2 ++ dktX1_sun_3
def dkwX1_sun_1 : List UInt8 := [180, 0, 19, 28, 46, 153, 0, 9, 4, 28, 120, 167, 0, 4, 3, 128, 60, 132, 2, 1, 167, 255, 226, 3]
abbrev dktX1_sun_1 : List UInt8 := dkwX1_sun_1 ++ dktX1_sun_2
def dkwX1_sun_0 : List UInt8 := [42, 180, 0, 82, 154, 0, 6, 16, 253, 172, 3, 60, 3, 61, 28, 42, 180, 0, 82, 162, 0, 28, 27, 42]
abbrev dktX1_sun_0 : List UInt8 := dkwX1_sun_0 ++ dktX1_sun_1
theorem dksX1_sun_0 : cX1_sun.data.toList.drop 0 = dktX1_sun_0 := by decide +kernel
theorem dksX1_sun_1 : cX1_sun.data.toList.drop 24 = dktX1_sun_1 := dk_seg dksX1_sun_0 24 rfl rfl
theorem dksX1_sun_2 : cX1_sun.data.toList.drop 48 = dktX1_sun_2 := dk_seg dksX1_sun_1 24 rfl rfl
theorem dksX1_sun_3 : cX1_sun.data.toList.drop 70 = dktX1_sun_3 := dk_seg dksX1_sun_2 22 rfl rfl
theorem dksX1_sun_4 : cX1_sun.data.toList.drop 92 = dktX1_sun_4 := dk_seg dksX1_sun_3 22 rfl rfl
theorem dksX1_sun_5 : cX1_sun.data.toList.drop 114 = dktX1_sun_5 := dk_seg dksX1_sun_4 22 rfl rfl
theorem dX1_sun_0 : decode cX1_sun 0 = .ok (.aload_n 0, 1) := dk_42 (dk_at dksX1_sun_0 0 rfl rfl)
theorem dX1_sun_1 : decode cX1_sun 1 = .ok (.getfield 82, 3) := dk_180 0 82 (dk_at dksX1_sun_0 1 rfl rfl)
theorem dX1_sun_4 : decode cX1_sun 4 = .ok (.ifCond .ne 6, 3) := dk_154 0 6 (dk_at dksX1_sun_0 4 rfl rfl)
theorem dX1_sun_7 : decode cX1_sun 7 = .ok (.bipush (-3), 2) := dk_16 253 (dk_at dksX1_sun_0 7 rfl rfl)
theorem dX1_sun_9 : decode cX1_sun 9 = .ok (.ireturn, 1) := dk_172 (dk_at dksX1_sun_0 9 rfl rfl)
theorem dX1_sun_10 : decode cX1_sun 10 = .ok (.iconst 0, 1) := dk_3 (dk_at dksX1_sun_0 10 rfl rfl)
theorem dX1_sun_11 : decode cX1_sun 11 = .ok (.istore_n 1, 1) := dk_60 (dk_at dksX1_sun_0 11 rfl rfl)
theorem dX1_sun_12 : decode cX1_sun 12 = .ok (.iconst 0, 1) := dk_3 (dk_at dksX1_sun_0 12 rfl rfl)
theorem dX1_sun_13 : decode cX1_sun 13 = .ok (.istore_n 2, 1) := dk_61 (dk_at dksX1_sun_0 13 rfl rfl)
theorem dX1_sun_14 : decode cX1_sun 14 = .ok (.iload_n 2, 1) := dk_28 (dk_at dksX1_sun_0 14 rfl rfl)
theorem dX1_sun_15 : decode cX1_sun 15 = .ok (.aload_n 0, 1) := dk_42 (dk_at dksX1_sun_0 15 rfl rfl)
theorem dX1_sun_16 : decode cX1_sun 16 = .ok (.getfield 82, 3) := dk_180 0 82 (dk_at dksX1_sun_0 16 rfl rfl)
theorem dX1_sun_19 : decode cX1_sun 19 = .ok (.if_icmp .ge 28, 3) := dk_162 0 28 (dk_at dksX1_sun_0 19 rfl rfl)
theorem dX1_sun_22 : decode cX1_sun 22 = .ok (.iload_n 1, 1) := dk_27 (dk_at dksX1_sun_0 22 rfl rfl)
theorem dX1_sun_23 : decode cX1_sun 23 = .ok (.aload_n 0, 1) := dk_42 (dk_at dksX1_sun_0 23 rfl rfl)
theorem dX1_sun_24 : decode cX1_sun 24 = .ok (.getfield 19, 3) := dk_180 0 19 (dk_at dksX1_sun_1 0 rfl rfl)
theorem dX1_sun_27 : decode cX1_sun 27 = .ok (.iload_n 2, 1) := dk_28 (dk_at dksX1_sun_1 3 rfl rfl)
theorem dX1_sun_28 : decode cX1_sun 28 = .ok (.iaload, 1) := dk_46 (dk_at dksX1_sun_1 4 rfl rfl)
theorem dX1_sun_29 : decode cX1_sun 29 = .ok (.ifCond .eq 9, 3) := dk_153 0 9 (dk_at dksX1_sun_1 5 rfl rfl)
theorem dX1_sun_32 : decode cX1_sun 32 = .ok (.iconst 1, 1) := dk_4 (dk_at dksX1_sun_1 8 rfl rfl)
theorem dX1_sun_33 : decode cX1_sun 33 = .ok (.iload_n 2, 1) := dk_28 (dk_at dksX1_sun_1 9 rfl rfl)
theorem dX1_sun_34 : decode cX1_sun 34 = .ok (.ishl, 1) := dk_120 (dk_at dksX1_sun_1 10 rfl rfl)
theorem dX1_sun_35 : decode cX1_sun 35 = .ok (.goto 4, 3) := dk_167 0 4 (dk_at dksX1_sun_1 11 rfl rfl)
theorem dX1_sun_38 : decode cX1_sun 38 = .ok (.iconst 0, 1) := dk_3 (dk_at dksX1_sun_1 14 rfl rfl)
theorem dX1_sun_39 : decode cX1_sun 39 = .ok (.ior, 1) := dk_128 (dk_at dksX1_sun_1 15 rfl rfl)
theorem dX1_sun_40 : decode cX1_sun 40 = .ok (.istore_n 1, 1) := dk_60 (dk_at dksX1_sun_1 16 rfl rfl)
theorem dX1_sun_41 : decode cX1_sun 41 = .ok (.iinc 2 1, 3) := dk_132 2 1 (dk_at dksX1_sun_1 17 rfl rfl)
theorem dX1_sun_44 : decode cX1_sun 44 = .ok (.goto (-30), 3) := dk_167 255 226 (dk_at dksX1_sun_1 20 rfl rfl)
theorem dX1_sun_47 : decode cX1_sun 47 = .ok (.iconst 0, 1) := dk_3 (dk_at dksX1_sun_1 23 rfl rfl)
theorem dX1_sun_48 : decode cX1_sun 48 = .ok (.istore_n 2, 1) := dk_61 (dk_at dksX1_sun_2 0 rfl rfl)
theorem dX1_sun_49 : decode cX1_sun 49 = .ok (.iload_n 2, 1) := dk_28 (dk_at dksX1_sun_2 1 rfl rfl)
theorem dX1_sun_50 : decode cX1_sun 50 = .ok (.aload_n 0, 1) := dk_42 (dk_at dksX1_sun_2 2 rfl rfl)
theorem dX1_sun_51 : decode cX1_sun 51 = .ok (.getfield 82, 3) := dk_180 0 82 (dk_at dksX1_sun_2 3 rfl rfl)
theorem dX1_sun_54 : decode cX1_sun 54 = .ok (.if_icmp .ge 82, 3) := dk_162 0 82 (dk_at dksX1_sun_2 6 rfl rfl)
theorem dX1_sun_57 : decode cX1_sun 57 = .ok (.iconst 1, 1) := dk_4 (dk_at dksX1_sun_2 9 rfl rfl)
theorem dX1_sun_58 : decode cX1_sun 58 = .ok (.iload_n 2, 1) := dk_28 (dk_at dksX1_sun_2 10 rfl rfl)
theorem dX1_sun_59 : decode cX1_sun 59 = .ok (.ishl, 1) := dk_120 (dk_at dksX1_sun_2 11 rfl rfl)
theorem dX1_sun_60 : decode cX1_sun 60 = .ok (.istore_n 3, 1) := dk_62 (dk_at dksX1_sun_2 12 rfl rfl)
theorem dX1_sun_61 : decode cX1_sun 61 = .ok (.iconst 0, 1) := dk_3 (dk_at dksX1_sun_2 13 rfl rfl)
theorem dX1_sun_62 : decode cX1_sun 62 = .ok (.istore 4, 2) := dk_54 4 (dk_at dksX1_sun_2 14 rfl rfl)
theorem dX1_sun_64 : decode cX1_sun 64 = .ok (.iload 4, 2) := dk_21 4 (dk_at dksX1_sun_2 16 rfl rfl)
theorem dX1_sun_66 : decode cX1_sun 66 = .ok (.aload_n 0, 1) := dk_42 (dk_at dksX1_sun_2 18 rfl rfl)
theorem dX1_sun_67 : decode cX1_sun 67 = .ok (.getfield 82, 3) := dk_180 0 82 (dk_at dksX1_sun_2 19 rfl rfl)
theorem dX1_sun_70 : decode cX1_sun 70 = .ok (.if_icmp .ge 50, 3) := dk_162 0 50 (dk_at dksX1_sun_3 0 rfl rfl)
theorem dX1_sun_73 : decode cX1_sun 73 = .ok (.iconst 0, 1) := dk_3 (dk_at dksX1_sun_3 3 rfl rfl)
theorem dX1_sun_74 : decode cX1_sun 74 = .ok (.istore 5, 2) := dk_54 5 (dk_at dksX1_sun_3 4 rfl rfl)
theorem dX1_sun_76 : decode cX1_sun 76 = .ok (.iload 5, 2) := dk_21 5 (dk_at dksX1_sun_3 6 rfl rfl)
theorem dX1_sun_78 : decode cX1_sun 78 = .ok (.aload_n 0, 1) := dk_42 (dk_at dksX1_sun_3 8 rfl rfl)
theorem dX1_sun_79 : decode cX1_sun 79 = .ok (.getfield 82, 3) := dk_180 0 82 (dk_at dksX1_sun_3 9 rfl rfl)
theorem dX1_sun_82 : decode cX1_sun 82 = .ok (.if_icmp .ge 32, 3) := dk_162 0 32 (dk_at dksX1_sun_3 12 rfl rfl)
theorem dX1_sun_85 : decode cX1_sun 85 = .ok (.iload_n 3, 1) := dk_29 (dk_at dksX1_sun_3 15 rfl rfl)
theorem dX1_sun_86 : decode cX1_sun 86 = .ok (.iload_n 3, 1) := dk_29 (dk_at dksX1_sun_3 16 rfl rfl)
theorem dX1_sun_87 : decode cX1_sun 87 = .ok (.iload 5, 2) := dk_21 5 (dk_at dksX1_sun_3 17 rfl rfl)
theorem dX1_sun_89 : decode cX1_sun 89 = .ok (.invokestatic 106, 3) := dk_184 0 106 (dk_at dksX1_sun_3 19 rfl rfl)
theorem dX1_sun_92 : decode cX1_sun 92 = .ok (.ifCond .eq 13, 3) := dk_153 0 13 (dk_at dksX1_sun_4 0 rfl rfl)
theorem dX1_sun_95 : decode cX1_sun 95 = .ok (.aload_n 0, 1) := dk_42 (dk_at dksX1_sun_4 3 rfl rfl)
theorem dX1_sun_96 : decode cX1_sun 96 = .ok (.getfield 19, 3) := dk_180 0 19 (dk_at dksX1_sun_4 4 rfl rfl)
theorem dX1_sun_99 : decode cX1_sun 99 = .ok (.iload 5, 2) := dk_21 5 (dk_at dksX1_sun_4 7 rfl rfl)
theorem dX1_sun_101 : decode cX1_sun 101 = .ok (.iaload, 1) := dk_46 (dk_at dksX1_sun_4 9 rfl rfl)
theorem dX1_sun_102 : decode cX1_sun 102 = .ok (.goto 4, 3) := dk_167 0 4 (dk_at dksX1_sun_4 10 rfl rfl)
theorem dX1_sun_105 : decode cX1_sun 105 = .ok (.iconst 0, 1) := dk_3 (dk_at dksX1_sun_4 13 rfl rfl)
theorem dX1_sun_106 : decode cX1_sun 106 = .ok (.ior, 1) := dk_128 (dk_at dksX1_sun_4 14 rfl rfl)
theorem dX1_sun_107 : decode cX1_sun 107 = .ok (.istore_n 3, 1) := dk_62 (dk_at dksX1_sun_4 15 rfl rfl)
theorem dX1_sun_108 : decode cX1_sun 108 = .ok (.iinc 5 1, 3) := dk_132 5 1 (dk_at dksX1_sun_4 16 rfl rfl)
theorem dX1_sun_111 : decode cX1_sun 111 = .ok (.goto (-35), 3) := dk_167 255 221 (dk_at dksX1_sun_4 19 rfl rfl)
theorem dX1_sun_114 : decode cX1_sun 114 = .ok (.iinc 4 1, 3) := dk_132 4 1 (dk_at dksX1_sun_5 0 rfl rfl)
theorem dX1_sun_117 : decode cX1_sun 117 = .ok (.goto (-53), 3) := dk_167 255 203 (dk_at dksX1_sun_5 3 rfl rfl)
theorem dX1_sun_120 : decode cX1_sun 120 = .ok (.iload_n 1, 1) := dk_27 (dk_at dksX1_sun_5 6 rfl rfl)
theorem dX1_sun_121 : decode cX1_sun 121 = .ok (.iload_n 3, 1) := dk_29 (dk_at dksX1_sun_5 7 rfl rfl)
theorem dX1_sun_122 : decode cX1_sun 122 = .ok (.iconst (-1), 1) := dk_2 (dk_at dksX1_sun_5 8 rfl rfl)
theorem dX1_sun_123 : decode cX1_sun 123 = .ok (.ixor, 1) := dk_130 (dk_at dksX1_sun_5 9 rfl rfl)
theorem dX1_sun_124 : decode cX1_sun 124 = .ok (.iand, 1) := dk_126 (dk_at dksX1_sun_5 10 rfl rfl)
theorem dX1_sun_125 : decode cX1_sun 125 = .ok (.ifCond .eq 5, 3) := dk_153 0 5 (dk_at dksX1_sun_5 11 rfl rfl)
theorem dX1_sun_128 : decode cX1_sun 128 = .ok (.iconst 0, 1) := dk_3 (dk_at dksX1_sun_5 14 rfl rfl)
theorem dX1_sun_129 : decode cX1_sun 129 = .ok (.ireturn, 1) := dk_172 (dk_at dksX1_sun_5 15 rfl rfl)
theorem dX1_sun_130 : decode cX1_sun 130 = .ok (.iinc 2 1, 3) := dk_132 2 1 (dk_at dksX1_sun_5 16 rfl rfl)
theorem dX1_sun_133 : decode cX1_sun 133 = .ok (.goto (-84), 3) := dk_167 255 172 (dk_at dksX1_sun_5 19 rfl rfl)
theorem dX1_sun_136 : decode cX1_sun 136 = .ok (.iconst 1, 1) := dk_4 (dk_at dksX1_sun_5 22 rfl rfl)
theorem dX1_sun_137 : decode cX1_sun 137 = .ok (.ireturn, 1) := dk_172 (dk_at dksX1_sun_5 23 rfl rfl)
abbrev cX1_mend : ByteArray := prog_16_method_57_code
def yX1_mend : MethodName := ⟨RX1, "mend", "(II)I"⟩
def dkwX1_mend_6 : List UInt8 := [167, 0, 5, 16, 247, 172]
abbrev dktX1_mend_6 : List UInt8 := dkwX1_mend_6 ++ []
def dkwX1_mend_5 : List UInt8 := [96, 172, 132, 3, 1, 132, 5, 1, 167, 255, 177, 132, 4, 1, 167, 255, 159, 28, 2, 160, 0, 7, 29]
abbrev dktX1_mend_5 : List UInt8 := dkwX1_mend_5 ++ dktX1_mend_6
def dkwX1_mend_4 : List UInt8 := [42, 180, 0, 82, 27, 182, 0, 220, 5, 160, 0, 20, 29, 28, 160, 0, 12, 16, 10, 21, 4, 104, 21, 5]
abbrev dktX1_mend_4 : List UInt8 := dkwX1_mend_4 ++ dktX1_mend_5
def dkwX1_mend_3 : List UInt8 := [21, 5, 184, 0, 106, 153, 0, 6, 167, 0, 45, 42, 21, 4, 21, 5, 182, 0, 217, 42, 42, 180, 0, 66]
abbrev dktX1_mend_3 : List UInt8 := dkwX1_mend_3 ++ dktX1_mend_4
def dkwX1_mend_2 : List UInt8 := [21, 5, 42, 180, 0, 82, 162, 0, 76, 21, 4, 21, 5, 159, 0, 63, 42, 180, 0, 19, 21, 4, 46]
abbrev dktX1_mend_2 : List UInt8 := dkwX1_mend_2 ++ dktX1_mend_3
def dkwX1_mend_1 : List UInt8 := [154, 0, 6, 16, 253, 172, 3, 62, 3, 54, 4, 21, 4, 42, 180, 0, 82, 162, 0, 94, 3, 54, 5]
abbrev dktX1_mend_1 : List UInt8 := dkwX1_mend_1 ++ dktX1_mend_2
def dkwX1_mend_0 : List UInt8 := [27, 184, 0, 150, 153, 0, 13, 28, 2, 16, 11, 184, 0, 78, 154, 0, 5, 2, 172, 42, 180, 0, 82]
abbrev dktX1_mend_0 : List UInt8 := dkwX1_mend_0 ++ dktX1_mend_1
theorem dksX1_mend_0 : cX1_mend.data.toList.drop 0 = dktX1_mend_0 := by decide +kernel
theorem dksX1_mend_1 : cX1_mend.data.toList.drop 23 = dktX1_mend_1 := dk_seg dksX1_mend_0 23 rfl rfl
theorem dksX1_mend_2 : cX1_mend.data.toList.drop 46 = dktX1_mend_2 := dk_seg dksX1_mend_1 23 rfl rfl
theorem dksX1_mend_3 : cX1_mend.data.toList.drop 69 = dktX1_mend_3 := dk_seg dksX1_mend_2 23 rfl rfl
theorem dksX1_mend_4 : cX1_mend.data.toList.drop 93 = dktX1_mend_4 := dk_seg dksX1_mend_3 24 rfl rfl
theorem dksX1_mend_5 : cX1_mend.data.toList.drop 117 = dktX1_mend_5 := dk_seg dksX1_mend_4 24 rfl rfl
theorem dksX1_mend_6 : cX1_mend.data.toList.drop 140 = dktX1_mend_6 := dk_seg dksX1_mend_5 23 rfl rfl
theorem dX1_mend_0 : decode cX1_mend 0 = .ok (.iload_n 1, 1) := dk_27 (dk_at dksX1_mend_0 0 rfl rfl)
theorem dX1_mend_1 : decode cX1_mend 1 = .ok (.invokestatic 150, 3) := dk_184 0 150 (dk_at dksX1_mend_0 1 rfl rfl)
theorem dX1_mend_4 : decode cX1_mend 4 = .ok (.ifCond .eq 13, 3) := dk_153 0 13 (dk_at dksX1_mend_0 4 rfl rfl)
theorem dX1_mend_7 : decode cX1_mend 7 = .ok (.iload_n 2, 1) := dk_28 (dk_at dksX1_mend_0 7 rfl rfl)
theorem dX1_mend_8 : decode cX1_mend 8 = .ok (.iconst (-1), 1) := dk_2 (dk_at dksX1_mend_0 8 rfl rfl)
theorem dX1_mend_9 : decode cX1_mend 9 = .ok (.bipush 11, 2) := dk_16 11 (dk_at dksX1_mend_0 9 rfl rfl)
theorem dX1_mend_11 : decode cX1_mend 11 = .ok (.invokestatic 78, 3) := dk_184 0 78 (dk_at dksX1_mend_0 11 rfl rfl)
theorem dX1_mend_14 : decode cX1_mend 14 = .ok (.ifCond .ne 5, 3) := dk_154 0 5 (dk_at dksX1_mend_0 14 rfl rfl)
theorem dX1_mend_17 : decode cX1_mend 17 = .ok (.iconst (-1), 1) := dk_2 (dk_at dksX1_mend_0 17 rfl rfl)
theorem dX1_mend_18 : decode cX1_mend 18 = .ok (.ireturn, 1) := dk_172 (dk_at dksX1_mend_0 18 rfl rfl)
theorem dX1_mend_19 : decode cX1_mend 19 = .ok (.aload_n 0, 1) := dk_42 (dk_at dksX1_mend_0 19 rfl rfl)
theorem dX1_mend_20 : decode cX1_mend 20 = .ok (.getfield 82, 3) := dk_180 0 82 (dk_at dksX1_mend_0 20 rfl rfl)
theorem dX1_mend_23 : decode cX1_mend 23 = .ok (.ifCond .ne 6, 3) := dk_154 0 6 (dk_at dksX1_mend_1 0 rfl rfl)
theorem dX1_mend_26 : decode cX1_mend 26 = .ok (.bipush (-3), 2) := dk_16 253 (dk_at dksX1_mend_1 3 rfl rfl)
theorem dX1_mend_28 : decode cX1_mend 28 = .ok (.ireturn, 1) := dk_172 (dk_at dksX1_mend_1 5 rfl rfl)
theorem dX1_mend_29 : decode cX1_mend 29 = .ok (.iconst 0, 1) := dk_3 (dk_at dksX1_mend_1 6 rfl rfl)
theorem dX1_mend_30 : decode cX1_mend 30 = .ok (.istore_n 3, 1) := dk_62 (dk_at dksX1_mend_1 7 rfl rfl)
theorem dX1_mend_31 : decode cX1_mend 31 = .ok (.iconst 0, 1) := dk_3 (dk_at dksX1_mend_1 8 rfl rfl)
theorem dX1_mend_32 : decode cX1_mend 32 = .ok (.istore 4, 2) := dk_54 4 (dk_at dksX1_mend_1 9 rfl rfl)
theorem dX1_mend_34 : decode cX1_mend 34 = .ok (.iload 4, 2) := dk_21 4 (dk_at dksX1_mend_1 11 rfl rfl)
theorem dX1_mend_36 : decode cX1_mend 36 = .ok (.aload_n 0, 1) := dk_42 (dk_at dksX1_mend_1 13 rfl rfl)
theorem dX1_mend_37 : decode cX1_mend 37 = .ok (.getfield 82, 3) := dk_180 0 82 (dk_at dksX1_mend_1 14 rfl rfl)
theorem dX1_mend_40 : decode cX1_mend 40 = .ok (.if_icmp .ge 94, 3) := dk_162 0 94 (dk_at dksX1_mend_1 17 rfl rfl)
theorem dX1_mend_43 : decode cX1_mend 43 = .ok (.iconst 0, 1) := dk_3 (dk_at dksX1_mend_1 20 rfl rfl)
theorem dX1_mend_44 : decode cX1_mend 44 = .ok (.istore 5, 2) := dk_54 5 (dk_at dksX1_mend_1 21 rfl rfl)
theorem dX1_mend_46 : decode cX1_mend 46 = .ok (.iload 5, 2) := dk_21 5 (dk_at dksX1_mend_2 0 rfl rfl)
theorem dX1_mend_48 : decode cX1_mend 48 = .ok (.aload_n 0, 1) := dk_42 (dk_at dksX1_mend_2 2 rfl rfl)
theorem dX1_mend_49 : decode cX1_mend 49 = .ok (.getfield 82, 3) := dk_180 0 82 (dk_at dksX1_mend_2 3 rfl rfl)
theorem dX1_mend_52 : decode cX1_mend 52 = .ok (.if_icmp .ge 76, 3) := dk_162 0 76 (dk_at dksX1_mend_2 6 rfl rfl)
theorem dX1_mend_55 : decode cX1_mend 55 = .ok (.iload 4, 2) := dk_21 4 (dk_at dksX1_mend_2 9 rfl rfl)
theorem dX1_mend_57 : decode cX1_mend 57 = .ok (.iload 5, 2) := dk_21 5 (dk_at dksX1_mend_2 11 rfl rfl)
theorem dX1_mend_59 : decode cX1_mend 59 = .ok (.if_icmp .eq 63, 3) := dk_159 0 63 (dk_at dksX1_mend_2 13 rfl rfl)
theorem dX1_mend_62 : decode cX1_mend 62 = .ok (.aload_n 0, 1) := dk_42 (dk_at dksX1_mend_2 16 rfl rfl)
theorem dX1_mend_63 : decode cX1_mend 63 = .ok (.getfield 19, 3) := dk_180 0 19 (dk_at dksX1_mend_2 17 rfl rfl)
theorem dX1_mend_66 : decode cX1_mend 66 = .ok (.iload 4, 2) := dk_21 4 (dk_at dksX1_mend_2 20 rfl rfl)
theorem dX1_mend_68 : decode cX1_mend 68 = .ok (.iaload, 1) := dk_46 (dk_at dksX1_mend_2 22 rfl rfl)
theorem dX1_mend_69 : decode cX1_mend 69 = .ok (.iload 5, 2) := dk_21 5 (dk_at dksX1_mend_3 0 rfl rfl)
theorem dX1_mend_71 : decode cX1_mend 71 = .ok (.invokestatic 106, 3) := dk_184 0 106 (dk_at dksX1_mend_3 2 rfl rfl)
theorem dX1_mend_74 : decode cX1_mend 74 = .ok (.ifCond .eq 6, 3) := dk_153 0 6 (dk_at dksX1_mend_3 5 rfl rfl)
theorem dX1_mend_77 : decode cX1_mend 77 = .ok (.goto 45, 3) := dk_167 0 45 (dk_at dksX1_mend_3 8 rfl rfl)
theorem dX1_mend_80 : decode cX1_mend 80 = .ok (.aload_n 0, 1) := dk_42 (dk_at dksX1_mend_3 11 rfl rfl)
theorem dX1_mend_81 : decode cX1_mend 81 = .ok (.iload 4, 2) := dk_21 4 (dk_at dksX1_mend_3 12 rfl rfl)
theorem dX1_mend_83 : decode cX1_mend 83 = .ok (.iload 5, 2) := dk_21 5 (dk_at dksX1_mend_3 14 rfl rfl)
theorem dX1_mend_85 : decode cX1_mend 85 = .ok (.invokevirtual 217, 3) := dk_182 0 217 (dk_at dksX1_mend_3 16 rfl rfl)
theorem dX1_mend_88 : decode cX1_mend 88 = .ok (.aload_n 0, 1) := dk_42 (dk_at dksX1_mend_3 19 rfl rfl)
theorem dX1_mend_89 : decode cX1_mend 89 = .ok (.aload_n 0, 1) := dk_42 (dk_at dksX1_mend_3 20 rfl rfl)
theorem dX1_mend_90 : decode cX1_mend 90 = .ok (.getfield 66, 3) := dk_180 0 66 (dk_at dksX1_mend_3 21 rfl rfl)
theorem dX1_mend_93 : decode cX1_mend 93 = .ok (.aload_n 0, 1) := dk_42 (dk_at dksX1_mend_4 0 rfl rfl)
theorem dX1_mend_94 : decode cX1_mend 94 = .ok (.getfield 82, 3) := dk_180 0 82 (dk_at dksX1_mend_4 1 rfl rfl)
theorem dX1_mend_97 : decode cX1_mend 97 = .ok (.iload_n 1, 1) := dk_27 (dk_at dksX1_mend_4 4 rfl rfl)
theorem dX1_mend_98 : decode cX1_mend 98 = .ok (.invokevirtual 220, 3) := dk_182 0 220 (dk_at dksX1_mend_4 5 rfl rfl)
theorem dX1_mend_101 : decode cX1_mend 101 = .ok (.iconst 2, 1) := dk_5 (dk_at dksX1_mend_4 8 rfl rfl)
theorem dX1_mend_102 : decode cX1_mend 102 = .ok (.if_icmp .ne 20, 3) := dk_160 0 20 (dk_at dksX1_mend_4 9 rfl rfl)
theorem dX1_mend_105 : decode cX1_mend 105 = .ok (.iload_n 3, 1) := dk_29 (dk_at dksX1_mend_4 12 rfl rfl)
theorem dX1_mend_106 : decode cX1_mend 106 = .ok (.iload_n 2, 1) := dk_28 (dk_at dksX1_mend_4 13 rfl rfl)
theorem dX1_mend_107 : decode cX1_mend 107 = .ok (.if_icmp .ne 12, 3) := dk_160 0 12 (dk_at dksX1_mend_4 14 rfl rfl)
theorem dX1_mend_110 : decode cX1_mend 110 = .ok (.bipush 10, 2) := dk_16 10 (dk_at dksX1_mend_4 17 rfl rfl)
theorem dX1_mend_112 : decode cX1_mend 112 = .ok (.iload 4, 2) := dk_21 4 (dk_at dksX1_mend_4 19 rfl rfl)
theorem dX1_mend_114 : decode cX1_mend 114 = .ok (.imul, 1) := dk_104 (dk_at dksX1_mend_4 21 rfl rfl)
theorem dX1_mend_115 : decode cX1_mend 115 = .ok (.iload 5, 2) := dk_21 5 (dk_at dksX1_mend_4 22 rfl rfl)
theorem dX1_mend_117 : decode cX1_mend 117 = .ok (.iadd, 1) := dk_96 (dk_at dksX1_mend_5 0 rfl rfl)
theorem dX1_mend_118 : decode cX1_mend 118 = .ok (.ireturn, 1) := dk_172 (dk_at dksX1_mend_5 1 rfl rfl)
theorem dX1_mend_119 : decode cX1_mend 119 = .ok (.iinc 3 1, 3) := dk_132 3 1 (dk_at dksX1_mend_5 2 rfl rfl)
theorem dX1_mend_122 : decode cX1_mend 122 = .ok (.iinc 5 1, 3) := dk_132 5 1 (dk_at dksX1_mend_5 5 rfl rfl)
theorem dX1_mend_125 : decode cX1_mend 125 = .ok (.goto (-79), 3) := dk_167 255 177 (dk_at dksX1_mend_5 8 rfl rfl)
theorem dX1_mend_128 : decode cX1_mend 128 = .ok (.iinc 4 1, 3) := dk_132 4 1 (dk_at dksX1_mend_5 11 rfl rfl)
theorem dX1_mend_131 : decode cX1_mend 131 = .ok (.goto (-97), 3) := dk_167 255 159 (dk_at dksX1_mend_5 14 rfl rfl)
theorem dX1_mend_134 : decode cX1_mend 134 = .ok (.iload_n 2, 1) := dk_28 (dk_at dksX1_mend_5 17 rfl rfl)
theorem dX1_mend_135 : decode cX1_mend 135 = .ok (.iconst (-1), 1) := dk_2 (dk_at dksX1_mend_5 18 rfl rfl)
theorem dX1_mend_136 : decode cX1_mend 136 = .ok (.if_icmp .ne 7, 3) := dk_160 0 7 (dk_at dksX1_mend_5 19 rfl rfl)
theorem dX1_mend_139 : decode cX1_mend 139 = .ok (.iload_n 3, 1) := dk_29 (dk_at dksX1_mend_5 22 rfl rfl)
theorem dX1_mend_140 : decode cX1_mend 140 = .ok (.goto 5, 3) := dk_167 0 5 (dk_at dksX1_mend_6 0 rfl rfl)
theorem dX1_mend_143 : decode cX1_mend 143 = .ok (.bipush (-9), 2) := dk_16 247 (dk_at dksX1_mend_6 3 rfl rfl)
theorem dX1_mend_145 : decode cX1_mend 145 = .ok (.ireturn, 1) := dk_172 (dk_at dksX1_mend_6 5 rfl rfl)
abbrev cX1_verdictFrom : ByteArray := prog_16_method_56_code
def yX1_verdictFrom : MethodName := ⟨RX1, "verdictFrom", "([III)I"⟩
def dkwX1_verdictFrom_1 : List UInt8 := [182, 0, 194, 172]
abbrev dktX1_verdictFrom_1 : List UInt8 := dkwX1_verdictFrom_1 ++ []
def dkwX1_verdictFrom_0 : List UInt8 := [42, 43, 28, 29, 182, 0, 184, 42, 42, 42, 28, 182, 0, 114, 4, 28, 120, 4, 100, 182, 0, 188]
abbrev dktX1_verdictFrom_0 : List UInt8 := dkwX1_verdictFrom_0 ++ dktX1_verdictFrom_1
theorem dksX1_verdictFrom_0 : cX1_verdictFrom.data.toList.drop 0 = dktX1_verdictFrom_0 := by decide +kernel
theorem dksX1_verdictFrom_1 : cX1_verdictFrom.data.toList.drop 22 = dktX1_verdictFrom_1 := dk_seg dksX1_verdictFrom_0 22 rfl rfl
theorem dX1_verdictFrom_0 : decode cX1_verdictFrom 0 = .ok (.aload_n 0, 1) := dk_42 (dk_at dksX1_verdictFrom_0 0 rfl rfl)
theorem dX1_verdictFrom_1 : decode cX1_verdictFrom 1 = .ok (.aload_n 1, 1) := dk_43 (dk_at dksX1_verdictFrom_0 1 rfl rfl)
theorem dX1_verdictFrom_2 : decode cX1_verdictFrom 2 = .ok (.iload_n 2, 1) := dk_28 (dk_at dksX1_verdictFrom_0 2 rfl rfl)
theorem dX1_verdictFrom_3 : decode cX1_verdictFrom 3 = .ok (.iload_n 3, 1) := dk_29 (dk_at dksX1_verdictFrom_0 3 rfl rfl)
theorem dX1_verdictFrom_4 : decode cX1_verdictFrom 4 = .ok (.invokevirtual 184, 3) := dk_182 0 184 (dk_at dksX1_verdictFrom_0 4 rfl rfl)
theorem dX1_verdictFrom_7 : decode cX1_verdictFrom 7 = .ok (.aload_n 0, 1) := dk_42 (dk_at dksX1_verdictFrom_0 7 rfl rfl)
theorem dX1_verdictFrom_8 : decode cX1_verdictFrom 8 = .ok (.aload_n 0, 1) := dk_42 (dk_at dksX1_verdictFrom_0 8 rfl rfl)
theorem dX1_verdictFrom_9 : decode cX1_verdictFrom 9 = .ok (.aload_n 0, 1) := dk_42 (dk_at dksX1_verdictFrom_0 9 rfl rfl)
theorem dX1_verdictFrom_10 : decode cX1_verdictFrom 10 = .ok (.iload_n 2, 1) := dk_28 (dk_at dksX1_verdictFrom_0 10 rfl rfl)
theorem dX1_verdictFrom_11 : decode cX1_verdictFrom 11 = .ok (.invokevirtual 114, 3) := dk_182 0 114 (dk_at dksX1_verdictFrom_0 11 rfl rfl)
theorem dX1_verdictFrom_14 : decode cX1_verdictFrom 14 = .ok (.iconst 1, 1) := dk_4 (dk_at dksX1_verdictFrom_0 14 rfl rfl)
theorem dX1_verdictFrom_15 : decode cX1_verdictFrom 15 = .ok (.iload_n 2, 1) := dk_28 (dk_at dksX1_verdictFrom_0 15 rfl rfl)
theorem dX1_verdictFrom_16 : decode cX1_verdictFrom 16 = .ok (.ishl, 1) := dk_120 (dk_at dksX1_verdictFrom_0 16 rfl rfl)
theorem dX1_verdictFrom_17 : decode cX1_verdictFrom 17 = .ok (.iconst 1, 1) := dk_4 (dk_at dksX1_verdictFrom_0 17 rfl rfl)
theorem dX1_verdictFrom_18 : decode cX1_verdictFrom 18 = .ok (.isub, 1) := dk_100 (dk_at dksX1_verdictFrom_0 18 rfl rfl)
theorem dX1_verdictFrom_19 : decode cX1_verdictFrom 19 = .ok (.invokevirtual 188, 3) := dk_182 0 188 (dk_at dksX1_verdictFrom_0 19 rfl rfl)
theorem dX1_verdictFrom_22 : decode cX1_verdictFrom 22 = .ok (.invokevirtual 194, 3) := dk_182 0 194 (dk_at dksX1_verdictFrom_1 0 rfl rfl)
theorem dX1_verdictFrom_25 : decode cX1_verdictFrom 25 = .ok (.ireturn, 1) := dk_172 (dk_at dksX1_verdictFrom_1 3 rfl rfl)
abbrev cX1_nets : ByteArray := prog_16_method_59_code
def yX1_nets : MethodName := ⟨RX1, "nets", "(III)I"⟩
def dkwX1_nets_4 : List UInt8 := [54, 4, 132, 5, 1, 167, 255, 194, 21, 4, 172]
abbrev dktX1_nets_4 : List UInt8 := dkwX1_nets_4 ++ []
def dkwX1_nets_3 : List UInt8 := [159, 0, 17, 42, 42, 180, 0, 66, 27, 28, 182, 0, 220, 29, 160, 0, 7, 4, 167, 0, 4, 3, 96]
abbrev dktX1_nets_3 : List UInt8 := dkwX1_nets_3 ++ dktX1_nets_4
def dkwX1_nets_2 : List UInt8 := [42, 21, 5, 27, 182, 0, 223, 42, 180, 0, 66, 27, 184, 0, 213, 153, 0, 32, 21, 4, 29, 6]
abbrev dktX1_nets_2 : List UInt8 := dkwX1_nets_2 ++ dktX1_nets_3
def dkwX1_nets_1 : List UInt8 := [154, 0, 6, 16, 254, 172, 3, 54, 4, 3, 54, 5, 21, 5, 4, 27, 27, 4, 100, 104, 120, 162, 0, 56]
abbrev dktX1_nets_1 : List UInt8 := dkwX1_nets_1 ++ dktX1_nets_2
def dkwX1_nets_0 : List UInt8 := [28, 184, 0, 150, 154, 0, 5, 2, 172, 27, 4, 6, 184, 0, 78, 153, 0, 12, 29, 3, 6, 184, 0, 78]
abbrev dktX1_nets_0 : List UInt8 := dkwX1_nets_0 ++ dktX1_nets_1
theorem dksX1_nets_0 : cX1_nets.data.toList.drop 0 = dktX1_nets_0 := by decide +kernel
theorem dksX1_nets_1 : cX1_nets.data.toList.drop 24 = dktX1_nets_1 := dk_seg dksX1_nets_0 24 rfl rfl
theorem dksX1_nets_2 : cX1_nets.data.toList.drop 48 = dktX1_nets_2 := dk_seg dksX1_nets_1 24 rfl rfl
theorem dksX1_nets_3 : cX1_nets.data.toList.drop 70 = dktX1_nets_3 := dk_seg dksX1_nets_2 22 rfl rfl
theorem dksX1_nets_4 : cX1_nets.data.toList.drop 93 = dktX1_nets_4 := dk_seg dksX1_nets_3 23 rfl rfl
theorem dX1_nets_0 : decode cX1_nets 0 = .ok (.iload_n 2, 1) := dk_28 (dk_at dksX1_nets_0 0 rfl rfl)
theorem dX1_nets_1 : decode cX1_nets 1 = .ok (.invokestatic 150, 3) := dk_184 0 150 (dk_at dksX1_nets_0 1 rfl rfl)
theorem dX1_nets_4 : decode cX1_nets 4 = .ok (.ifCond .ne 5, 3) := dk_154 0 5 (dk_at dksX1_nets_0 4 rfl rfl)
theorem dX1_nets_7 : decode cX1_nets 7 = .ok (.iconst (-1), 1) := dk_2 (dk_at dksX1_nets_0 7 rfl rfl)
theorem dX1_nets_8 : decode cX1_nets 8 = .ok (.ireturn, 1) := dk_172 (dk_at dksX1_nets_0 8 rfl rfl)
theorem dX1_nets_9 : decode cX1_nets 9 = .ok (.iload_n 1, 1) := dk_27 (dk_at dksX1_nets_0 9 rfl rfl)
theorem dX1_nets_10 : decode cX1_nets 10 = .ok (.iconst 1, 1) := dk_4 (dk_at dksX1_nets_0 10 rfl rfl)
theorem dX1_nets_11 : decode cX1_nets 11 = .ok (.iconst 3, 1) := dk_6 (dk_at dksX1_nets_0 11 rfl rfl)
theorem dX1_nets_12 : decode cX1_nets 12 = .ok (.invokestatic 78, 3) := dk_184 0 78 (dk_at dksX1_nets_0 12 rfl rfl)
theorem dX1_nets_15 : decode cX1_nets 15 = .ok (.ifCond .eq 12, 3) := dk_153 0 12 (dk_at dksX1_nets_0 15 rfl rfl)
theorem dX1_nets_18 : decode cX1_nets 18 = .ok (.iload_n 3, 1) := dk_29 (dk_at dksX1_nets_0 18 rfl rfl)
theorem dX1_nets_19 : decode cX1_nets 19 = .ok (.iconst 0, 1) := dk_3 (dk_at dksX1_nets_0 19 rfl rfl)
theorem dX1_nets_20 : decode cX1_nets 20 = .ok (.iconst 3, 1) := dk_6 (dk_at dksX1_nets_0 20 rfl rfl)
theorem dX1_nets_21 : decode cX1_nets 21 = .ok (.invokestatic 78, 3) := dk_184 0 78 (dk_at dksX1_nets_0 21 rfl rfl)
theorem dX1_nets_24 : decode cX1_nets 24 = .ok (.ifCond .ne 6, 3) := dk_154 0 6 (dk_at dksX1_nets_1 0 rfl rfl)
theorem dX1_nets_27 : decode cX1_nets 27 = .ok (.bipush (-2), 2) := dk_16 254 (dk_at dksX1_nets_1 3 rfl rfl)
theorem dX1_nets_29 : decode cX1_nets 29 = .ok (.ireturn, 1) := dk_172 (dk_at dksX1_nets_1 5 rfl rfl)
theorem dX1_nets_30 : decode cX1_nets 30 = .ok (.iconst 0, 1) := dk_3 (dk_at dksX1_nets_1 6 rfl rfl)
theorem dX1_nets_31 : decode cX1_nets 31 = .ok (.istore 4, 2) := dk_54 4 (dk_at dksX1_nets_1 7 rfl rfl)
theorem dX1_nets_33 : decode cX1_nets 33 = .ok (.iconst 0, 1) := dk_3 (dk_at dksX1_nets_1 9 rfl rfl)
theorem dX1_nets_34 : decode cX1_nets 34 = .ok (.istore 5, 2) := dk_54 5 (dk_at dksX1_nets_1 10 rfl rfl)
theorem dX1_nets_36 : decode cX1_nets 36 = .ok (.iload 5, 2) := dk_21 5 (dk_at dksX1_nets_1 12 rfl rfl)
theorem dX1_nets_38 : decode cX1_nets 38 = .ok (.iconst 1, 1) := dk_4 (dk_at dksX1_nets_1 14 rfl rfl)
theorem dX1_nets_39 : decode cX1_nets 39 = .ok (.iload_n 1, 1) := dk_27 (dk_at dksX1_nets_1 15 rfl rfl)
theorem dX1_nets_40 : decode cX1_nets 40 = .ok (.iload_n 1, 1) := dk_27 (dk_at dksX1_nets_1 16 rfl rfl)
theorem dX1_nets_41 : decode cX1_nets 41 = .ok (.iconst 1, 1) := dk_4 (dk_at dksX1_nets_1 17 rfl rfl)
theorem dX1_nets_42 : decode cX1_nets 42 = .ok (.isub, 1) := dk_100 (dk_at dksX1_nets_1 18 rfl rfl)
theorem dX1_nets_43 : decode cX1_nets 43 = .ok (.imul, 1) := dk_104 (dk_at dksX1_nets_1 19 rfl rfl)
theorem dX1_nets_44 : decode cX1_nets 44 = .ok (.ishl, 1) := dk_120 (dk_at dksX1_nets_1 20 rfl rfl)
theorem dX1_nets_45 : decode cX1_nets 45 = .ok (.if_icmp .ge 56, 3) := dk_162 0 56 (dk_at dksX1_nets_1 21 rfl rfl)
theorem dX1_nets_48 : decode cX1_nets 48 = .ok (.aload_n 0, 1) := dk_42 (dk_at dksX1_nets_2 0 rfl rfl)
theorem dX1_nets_49 : decode cX1_nets 49 = .ok (.iload 5, 2) := dk_21 5 (dk_at dksX1_nets_2 1 rfl rfl)
theorem dX1_nets_51 : decode cX1_nets 51 = .ok (.iload_n 1, 1) := dk_27 (dk_at dksX1_nets_2 3 rfl rfl)
theorem dX1_nets_52 : decode cX1_nets 52 = .ok (.invokevirtual 223, 3) := dk_182 0 223 (dk_at dksX1_nets_2 4 rfl rfl)
theorem dX1_nets_55 : decode cX1_nets 55 = .ok (.aload_n 0, 1) := dk_42 (dk_at dksX1_nets_2 7 rfl rfl)
theorem dX1_nets_56 : decode cX1_nets 56 = .ok (.getfield 66, 3) := dk_180 0 66 (dk_at dksX1_nets_2 8 rfl rfl)
theorem dX1_nets_59 : decode cX1_nets 59 = .ok (.iload_n 1, 1) := dk_27 (dk_at dksX1_nets_2 11 rfl rfl)
theorem dX1_nets_60 : decode cX1_nets 60 = .ok (.invokestatic 213, 3) := dk_184 0 213 (dk_at dksX1_nets_2 12 rfl rfl)
theorem dX1_nets_63 : decode cX1_nets 63 = .ok (.ifCond .eq 32, 3) := dk_153 0 32 (dk_at dksX1_nets_2 15 rfl rfl)
theorem dX1_nets_66 : decode cX1_nets 66 = .ok (.iload 4, 2) := dk_21 4 (dk_at dksX1_nets_2 18 rfl rfl)
theorem dX1_nets_68 : decode cX1_nets 68 = .ok (.iload_n 3, 1) := dk_29 (dk_at dksX1_nets_2 20 rfl rfl)
theorem dX1_nets_69 : decode cX1_nets 69 = .ok (.iconst 3, 1) := dk_6 (dk_at dksX1_nets_2 21 rfl rfl)
theorem dX1_nets_70 : decode cX1_nets 70 = .ok (.if_icmp .eq 17, 3) := dk_159 0 17 (dk_at dksX1_nets_3 0 rfl rfl)
theorem dX1_nets_73 : decode cX1_nets 73 = .ok (.aload_n 0, 1) := dk_42 (dk_at dksX1_nets_3 3 rfl rfl)
theorem dX1_nets_74 : decode cX1_nets 74 = .ok (.aload_n 0, 1) := dk_42 (dk_at dksX1_nets_3 4 rfl rfl)
theorem dX1_nets_75 : decode cX1_nets 75 = .ok (.getfield 66, 3) := dk_180 0 66 (dk_at dksX1_nets_3 5 rfl rfl)
theorem dX1_nets_78 : decode cX1_nets 78 = .ok (.iload_n 1, 1) := dk_27 (dk_at dksX1_nets_3 8 rfl rfl)
theorem dX1_nets_79 : decode cX1_nets 79 = .ok (.iload_n 2, 1) := dk_28 (dk_at dksX1_nets_3 9 rfl rfl)
theorem dX1_nets_80 : decode cX1_nets 80 = .ok (.invokevirtual 220, 3) := dk_182 0 220 (dk_at dksX1_nets_3 10 rfl rfl)
theorem dX1_nets_83 : decode cX1_nets 83 = .ok (.iload_n 3, 1) := dk_29 (dk_at dksX1_nets_3 13 rfl rfl)
theorem dX1_nets_84 : decode cX1_nets 84 = .ok (.if_icmp .ne 7, 3) := dk_160 0 7 (dk_at dksX1_nets_3 14 rfl rfl)
theorem dX1_nets_87 : decode cX1_nets 87 = .ok (.iconst 1, 1) := dk_4 (dk_at dksX1_nets_3 17 rfl rfl)
theorem dX1_nets_88 : decode cX1_nets 88 = .ok (.goto 4, 3) := dk_167 0 4 (dk_at dksX1_nets_3 18 rfl rfl)
theorem dX1_nets_91 : decode cX1_nets 91 = .ok (.iconst 0, 1) := dk_3 (dk_at dksX1_nets_3 21 rfl rfl)
theorem dX1_nets_92 : decode cX1_nets 92 = .ok (.iadd, 1) := dk_96 (dk_at dksX1_nets_3 22 rfl rfl)
theorem dX1_nets_93 : decode cX1_nets 93 = .ok (.istore 4, 2) := dk_54 4 (dk_at dksX1_nets_4 0 rfl rfl)
theorem dX1_nets_95 : decode cX1_nets 95 = .ok (.iinc 5 1, 3) := dk_132 5 1 (dk_at dksX1_nets_4 2 rfl rfl)
theorem dX1_nets_98 : decode cX1_nets 98 = .ok (.goto (-62), 3) := dk_167 255 194 (dk_at dksX1_nets_4 5 rfl rfl)
theorem dX1_nets_101 : decode cX1_nets 101 = .ok (.iload 4, 2) := dk_21 4 (dk_at dksX1_nets_4 8 rfl rfl)
theorem dX1_nets_103 : decode cX1_nets 103 = .ok (.ireturn, 1) := dk_172 (dk_at dksX1_nets_4 10 rfl rfl)
abbrev cX1_layNet : ByteArray := prog_16_method_58_code
def yX1_layNet : MethodName := ⟨RX1, "layNet", "(II)V"⟩
def dkwX1_layNet_2 : List UInt8 := [120, 128, 79, 29, 4, 122, 62, 132, 5, 1, 167, 255, 220, 132, 4, 1, 167, 255, 197, 177]
abbrev dktX1_layNet_2 : List UInt8 := dkwX1_layNet_2 ++ []
def dkwX1_layNet_1 : List UInt8 := [28, 162, 0, 36, 21, 4, 21, 5, 159, 0, 23, 42, 180, 0, 66, 21, 4, 92, 46, 29, 4, 126, 21, 5]
abbrev dktX1_layNet_1 : List UInt8 := dkwX1_layNet_1 ++ dktX1_layNet_2
def dkwX1_layNet_0 : List UInt8 := [27, 62, 3, 54, 4, 21, 4, 28, 162, 0, 59, 42, 180, 0, 66, 21, 4, 3, 79, 3, 54, 5, 21, 5]
abbrev dktX1_layNet_0 : List UInt8 := dkwX1_layNet_0 ++ dktX1_layNet_1
theorem dksX1_layNet_0 : cX1_layNet.data.toList.drop 0 = dktX1_layNet_0 := by decide +kernel
theorem dksX1_layNet_1 : cX1_layNet.data.toList.drop 24 = dktX1_layNet_1 := dk_seg dksX1_layNet_0 24 rfl rfl
theorem dksX1_layNet_2 : cX1_layNet.data.toList.drop 48 = dktX1_layNet_2 := dk_seg dksX1_layNet_1 24 rfl rfl
theorem dX1_layNet_0 : decode cX1_layNet 0 = .ok (.iload_n 1, 1) := dk_27 (dk_at dksX1_layNet_0 0 rfl rfl)
theorem dX1_layNet_1 : decode cX1_layNet 1 = .ok (.istore_n 3, 1) := dk_62 (dk_at dksX1_layNet_0 1 rfl rfl)
theorem dX1_layNet_2 : decode cX1_layNet 2 = .ok (.iconst 0, 1) := dk_3 (dk_at dksX1_layNet_0 2 rfl rfl)
theorem dX1_layNet_3 : decode cX1_layNet 3 = .ok (.istore 4, 2) := dk_54 4 (dk_at dksX1_layNet_0 3 rfl rfl)
theorem dX1_layNet_5 : decode cX1_layNet 5 = .ok (.iload 4, 2) := dk_21 4 (dk_at dksX1_layNet_0 5 rfl rfl)
theorem dX1_layNet_7 : decode cX1_layNet 7 = .ok (.iload_n 2, 1) := dk_28 (dk_at dksX1_layNet_0 7 rfl rfl)
theorem dX1_layNet_8 : decode cX1_layNet 8 = .ok (.if_icmp .ge 59, 3) := dk_162 0 59 (dk_at dksX1_layNet_0 8 rfl rfl)
theorem dX1_layNet_11 : decode cX1_layNet 11 = .ok (.aload_n 0, 1) := dk_42 (dk_at dksX1_layNet_0 11 rfl rfl)
theorem dX1_layNet_12 : decode cX1_layNet 12 = .ok (.getfield 66, 3) := dk_180 0 66 (dk_at dksX1_layNet_0 12 rfl rfl)
theorem dX1_layNet_15 : decode cX1_layNet 15 = .ok (.iload 4, 2) := dk_21 4 (dk_at dksX1_layNet_0 15 rfl rfl)
theorem dX1_layNet_17 : decode cX1_layNet 17 = .ok (.iconst 0, 1) := dk_3 (dk_at dksX1_layNet_0 17 rfl rfl)
theorem dX1_layNet_18 : decode cX1_layNet 18 = .ok (.iastore, 1) := dk_79 (dk_at dksX1_layNet_0 18 rfl rfl)
theorem dX1_layNet_19 : decode cX1_layNet 19 = .ok (.iconst 0, 1) := dk_3 (dk_at dksX1_layNet_0 19 rfl rfl)
theorem dX1_layNet_20 : decode cX1_layNet 20 = .ok (.istore 5, 2) := dk_54 5 (dk_at dksX1_layNet_0 20 rfl rfl)
theorem dX1_layNet_22 : decode cX1_layNet 22 = .ok (.iload 5, 2) := dk_21 5 (dk_at dksX1_layNet_0 22 rfl rfl)
theorem dX1_layNet_24 : decode cX1_layNet 24 = .ok (.iload_n 2, 1) := dk_28 (dk_at dksX1_layNet_1 0 rfl rfl)
theorem dX1_layNet_25 : decode cX1_layNet 25 = .ok (.if_icmp .ge 36, 3) := dk_162 0 36 (dk_at dksX1_layNet_1 1 rfl rfl)
theorem dX1_layNet_28 : decode cX1_layNet 28 = .ok (.iload 4, 2) := dk_21 4 (dk_at dksX1_layNet_1 4 rfl rfl)
theorem dX1_layNet_30 : decode cX1_layNet 30 = .ok (.iload 5, 2) := dk_21 5 (dk_at dksX1_layNet_1 6 rfl rfl)
theorem dX1_layNet_32 : decode cX1_layNet 32 = .ok (.if_icmp .eq 23, 3) := dk_159 0 23 (dk_at dksX1_layNet_1 8 rfl rfl)
theorem dX1_layNet_35 : decode cX1_layNet 35 = .ok (.aload_n 0, 1) := dk_42 (dk_at dksX1_layNet_1 11 rfl rfl)
theorem dX1_layNet_36 : decode cX1_layNet 36 = .ok (.getfield 66, 3) := dk_180 0 66 (dk_at dksX1_layNet_1 12 rfl rfl)
theorem dX1_layNet_39 : decode cX1_layNet 39 = .ok (.iload 4, 2) := dk_21 4 (dk_at dksX1_layNet_1 15 rfl rfl)
theorem dX1_layNet_41 : decode cX1_layNet 41 = .ok (.dup2, 1) := dk_92 (dk_at dksX1_layNet_1 17 rfl rfl)
theorem dX1_layNet_42 : decode cX1_layNet 42 = .ok (.iaload, 1) := dk_46 (dk_at dksX1_layNet_1 18 rfl rfl)
theorem dX1_layNet_43 : decode cX1_layNet 43 = .ok (.iload_n 3, 1) := dk_29 (dk_at dksX1_layNet_1 19 rfl rfl)
theorem dX1_layNet_44 : decode cX1_layNet 44 = .ok (.iconst 1, 1) := dk_4 (dk_at dksX1_layNet_1 20 rfl rfl)
theorem dX1_layNet_45 : decode cX1_layNet 45 = .ok (.iand, 1) := dk_126 (dk_at dksX1_layNet_1 21 rfl rfl)
theorem dX1_layNet_46 : decode cX1_layNet 46 = .ok (.iload 5, 2) := dk_21 5 (dk_at dksX1_layNet_1 22 rfl rfl)
theorem dX1_layNet_48 : decode cX1_layNet 48 = .ok (.ishl, 1) := dk_120 (dk_at dksX1_layNet_2 0 rfl rfl)
theorem dX1_layNet_49 : decode cX1_layNet 49 = .ok (.ior, 1) := dk_128 (dk_at dksX1_layNet_2 1 rfl rfl)
theorem dX1_layNet_50 : decode cX1_layNet 50 = .ok (.iastore, 1) := dk_79 (dk_at dksX1_layNet_2 2 rfl rfl)
theorem dX1_layNet_51 : decode cX1_layNet 51 = .ok (.iload_n 3, 1) := dk_29 (dk_at dksX1_layNet_2 3 rfl rfl)
theorem dX1_layNet_52 : decode cX1_layNet 52 = .ok (.iconst 1, 1) := dk_4 (dk_at dksX1_layNet_2 4 rfl rfl)
theorem dX1_layNet_53 : decode cX1_layNet 53 = .ok (.ishr, 1) := dk_122 (dk_at dksX1_layNet_2 5 rfl rfl)
theorem dX1_layNet_54 : decode cX1_layNet 54 = .ok (.istore_n 3, 1) := dk_62 (dk_at dksX1_layNet_2 6 rfl rfl)
theorem dX1_layNet_55 : decode cX1_layNet 55 = .ok (.iinc 5 1, 3) := dk_132 5 1 (dk_at dksX1_layNet_2 7 rfl rfl)
theorem dX1_layNet_58 : decode cX1_layNet 58 = .ok (.goto (-36), 3) := dk_167 255 220 (dk_at dksX1_layNet_2 10 rfl rfl)
theorem dX1_layNet_61 : decode cX1_layNet 61 = .ok (.iinc 4 1, 3) := dk_132 4 1 (dk_at dksX1_layNet_2 13 rfl rfl)
theorem dX1_layNet_64 : decode cX1_layNet 64 = .ok (.goto (-59), 3) := dk_167 255 197 (dk_at dksX1_layNet_2 16 rfl rfl)
theorem dX1_layNet_67 : decode cX1_layNet 67 = .ok (.return_, 1) := dk_177 (dk_at dksX1_layNet_2 19 rfl rfl)
abbrev cX1_within : ByteArray := prog_16_method_60_code
def yX1_within : MethodName := ⟨RX1, "within", "(II)I"⟩
def dkwX1_within_13 : List UInt8 := [21, 11, 21, 12, 16, 16, 120, 128, 79, 132, 5, 1, 132, 8, 1, 167, 255, 98, 167, 255, 58, 4, 172]
abbrev dktX1_within_13 : List UInt8 := dkwX1_within_13 ++ []
def dkwX1_within_12 : List UInt8 := [180, 0, 161, 159, 0, 32, 42, 180, 0, 32, 21, 13, 42, 180, 0, 161, 79, 42, 180, 0, 69, 21, 5]
abbrev dktX1_within_12 : List UInt8 := dkwX1_within_12 ++ dktX1_within_13
def dkwX1_within_11 : List UInt8 := [21, 10, 184, 0, 121, 54, 12, 21, 11, 21, 12, 184, 0, 158, 54, 13, 42, 180, 0, 32, 21, 13, 46, 42]
abbrev dktX1_within_11 : List UInt8 := dkwX1_within_11 ++ dktX1_within_12
def dkwX1_within_10 : List UInt8 := [184, 0, 153, 154, 0, 5, 3, 172, 21, 6, 21, 9, 21, 10, 184, 0, 117, 54, 11, 21, 7, 29, 21, 9]
abbrev dktX1_within_10 : List UInt8 := dkwX1_within_10 ++ dktX1_within_11
def dkwX1_within_9 : List UInt8 := [21, 10, 184, 0, 153, 154, 0, 6, 167, 0, 99, 42, 180, 0, 19, 28, 21, 6, 21, 7, 21, 9, 21, 10]
abbrev dktX1_within_9 : List UInt8 := dkwX1_within_9 ++ dktX1_within_10
def dkwX1_within_8 : List UInt8 := [162, 0, 130, 21, 10, 42, 180, 0, 82, 162, 0, 121, 42, 180, 0, 19, 27, 21, 6, 21, 7, 21, 9]
abbrev dktX1_within_8 : List UInt8 := dkwX1_within_8 ++ dktX1_within_9
def dkwX1_within_7 : List UInt8 := [16, 16, 162, 0, 157, 21, 8, 7, 108, 54, 9, 21, 8, 7, 112, 54, 10, 21, 9, 42, 180, 0, 82]
abbrev dktX1_within_7 : List UInt8 := dkwX1_within_7 ++ dktX1_within_8
def dkwX1_within_6 : List UInt8 := [126, 54, 6, 42, 180, 0, 69, 21, 4, 46, 16, 16, 122, 54, 7, 132, 4, 1, 3, 54, 8, 21, 8]
abbrev dktX1_within_6 : List UInt8 := dkwX1_within_6 ++ dktX1_within_7
def dkwX1_within_5 : List UInt8 := [184, 0, 158, 42, 180, 0, 161, 79, 21, 4, 21, 5, 162, 0, 197, 42, 180, 0, 69, 21, 4, 46, 18, 157]
abbrev dktX1_within_5 : List UInt8 := dkwX1_within_5 ++ dktX1_within_6
def dkwX1_within_4 : List UInt8 := [16, 16, 120, 128, 79, 42, 180, 0, 32, 42, 42, 180, 0, 103, 182, 0, 128, 42, 29, 182, 0, 135]
abbrev dktX1_within_4 : List UInt8 := dkwX1_within_4 ++ dktX1_within_5
def dkwX1_within_3 : List UInt8 := [54, 4, 4, 54, 5, 42, 180, 0, 69, 3, 42, 42, 180, 0, 103, 182, 0, 128, 42, 29, 182, 0, 135]
abbrev dktX1_within_3 : List UInt8 := dkwX1_within_3 ++ dktX1_within_4
def dkwX1_within_2 : List UInt8 := [164, 0, 7, 27, 167, 0, 4, 28, 62, 42, 42, 180, 0, 19, 42, 180, 0, 82, 27, 182, 0, 184, 3]
abbrev dktX1_within_2 : List UInt8 := dkwX1_within_2 ++ dktX1_within_3
def dkwX1_within_1 : List UInt8 := [4, 164, 0, 11, 28, 4, 164, 0, 6, 16, 254, 172, 42, 180, 0, 82, 154, 0, 6, 16, 253, 172, 27, 4]
abbrev dktX1_within_1 : List UInt8 := dkwX1_within_1 ++ dktX1_within_2
def dkwX1_within_0 : List UInt8 := [27, 184, 0, 150, 153, 0, 10, 28, 184, 0, 150, 154, 0, 5, 2, 172, 27, 28, 96, 8, 160, 0, 16, 27]
abbrev dktX1_within_0 : List UInt8 := dkwX1_within_0 ++ dktX1_within_1
theorem dksX1_within_0 : cX1_within.data.toList.drop 0 = dktX1_within_0 := by decide +kernel
theorem dksX1_within_1 : cX1_within.data.toList.drop 24 = dktX1_within_1 := dk_seg dksX1_within_0 24 rfl rfl
theorem dksX1_within_2 : cX1_within.data.toList.drop 48 = dktX1_within_2 := dk_seg dksX1_within_1 24 rfl rfl
theorem dksX1_within_3 : cX1_within.data.toList.drop 71 = dktX1_within_3 := dk_seg dksX1_within_2 23 rfl rfl
theorem dksX1_within_4 : cX1_within.data.toList.drop 94 = dktX1_within_4 := dk_seg dksX1_within_3 23 rfl rfl
theorem dksX1_within_5 : cX1_within.data.toList.drop 116 = dktX1_within_5 := dk_seg dksX1_within_4 22 rfl rfl
theorem dksX1_within_6 : cX1_within.data.toList.drop 140 = dktX1_within_6 := dk_seg dksX1_within_5 24 rfl rfl
theorem dksX1_within_7 : cX1_within.data.toList.drop 163 = dktX1_within_7 := dk_seg dksX1_within_6 23 rfl rfl
theorem dksX1_within_8 : cX1_within.data.toList.drop 186 = dktX1_within_8 := dk_seg dksX1_within_7 23 rfl rfl
theorem dksX1_within_9 : cX1_within.data.toList.drop 209 = dktX1_within_9 := dk_seg dksX1_within_8 23 rfl rfl
theorem dksX1_within_10 : cX1_within.data.toList.drop 233 = dktX1_within_10 := dk_seg dksX1_within_9 24 rfl rfl
theorem dksX1_within_11 : cX1_within.data.toList.drop 257 = dktX1_within_11 := dk_seg dksX1_within_10 24 rfl rfl
theorem dksX1_within_12 : cX1_within.data.toList.drop 281 = dktX1_within_12 := dk_seg dksX1_within_11 24 rfl rfl
theorem dksX1_within_13 : cX1_within.data.toList.drop 304 = dktX1_within_13 := dk_seg dksX1_within_12 23 rfl rfl
theorem dX1_within_0 : decode cX1_within 0 = .ok (.iload_n 1, 1) := dk_27 (dk_at dksX1_within_0 0 rfl rfl)
theorem dX1_within_1 : decode cX1_within 1 = .ok (.invokestatic 150, 3) := dk_184 0 150 (dk_at dksX1_within_0 1 rfl rfl)
theorem dX1_within_4 : decode cX1_within 4 = .ok (.ifCond .eq 10, 3) := dk_153 0 10 (dk_at dksX1_within_0 4 rfl rfl)
theorem dX1_within_7 : decode cX1_within 7 = .ok (.iload_n 2, 1) := dk_28 (dk_at dksX1_within_0 7 rfl rfl)
theorem dX1_within_8 : decode cX1_within 8 = .ok (.invokestatic 150, 3) := dk_184 0 150 (dk_at dksX1_within_0 8 rfl rfl)
theorem dX1_within_11 : decode cX1_within 11 = .ok (.ifCond .ne 5, 3) := dk_154 0 5 (dk_at dksX1_within_0 11 rfl rfl)
theorem dX1_within_14 : decode cX1_within 14 = .ok (.iconst (-1), 1) := dk_2 (dk_at dksX1_within_0 14 rfl rfl)
theorem dX1_within_15 : decode cX1_within 15 = .ok (.ireturn, 1) := dk_172 (dk_at dksX1_within_0 15 rfl rfl)
theorem dX1_within_16 : decode cX1_within 16 = .ok (.iload_n 1, 1) := dk_27 (dk_at dksX1_within_0 16 rfl rfl)
theorem dX1_within_17 : decode cX1_within 17 = .ok (.iload_n 2, 1) := dk_28 (dk_at dksX1_within_0 17 rfl rfl)
theorem dX1_within_18 : decode cX1_within 18 = .ok (.iadd, 1) := dk_96 (dk_at dksX1_within_0 18 rfl rfl)
theorem dX1_within_19 : decode cX1_within 19 = .ok (.iconst 5, 1) := dk_8 (dk_at dksX1_within_0 19 rfl rfl)
theorem dX1_within_20 : decode cX1_within 20 = .ok (.if_icmp .ne 16, 3) := dk_160 0 16 (dk_at dksX1_within_0 20 rfl rfl)
theorem dX1_within_23 : decode cX1_within 23 = .ok (.iload_n 1, 1) := dk_27 (dk_at dksX1_within_0 23 rfl rfl)
theorem dX1_within_24 : decode cX1_within 24 = .ok (.iconst 1, 1) := dk_4 (dk_at dksX1_within_1 0 rfl rfl)
theorem dX1_within_25 : decode cX1_within 25 = .ok (.if_icmp .le 11, 3) := dk_164 0 11 (dk_at dksX1_within_1 1 rfl rfl)
theorem dX1_within_28 : decode cX1_within 28 = .ok (.iload_n 2, 1) := dk_28 (dk_at dksX1_within_1 4 rfl rfl)
theorem dX1_within_29 : decode cX1_within 29 = .ok (.iconst 1, 1) := dk_4 (dk_at dksX1_within_1 5 rfl rfl)
theorem dX1_within_30 : decode cX1_within 30 = .ok (.if_icmp .le 6, 3) := dk_164 0 6 (dk_at dksX1_within_1 6 rfl rfl)
theorem dX1_within_33 : decode cX1_within 33 = .ok (.bipush (-2), 2) := dk_16 254 (dk_at dksX1_within_1 9 rfl rfl)
theorem dX1_within_35 : decode cX1_within 35 = .ok (.ireturn, 1) := dk_172 (dk_at dksX1_within_1 11 rfl rfl)
theorem dX1_within_36 : decode cX1_within 36 = .ok (.aload_n 0, 1) := dk_42 (dk_at dksX1_within_1 12 rfl rfl)
theorem dX1_within_37 : decode cX1_within 37 = .ok (.getfield 82, 3) := dk_180 0 82 (dk_at dksX1_within_1 13 rfl rfl)
theorem dX1_within_40 : decode cX1_within 40 = .ok (.ifCond .ne 6, 3) := dk_154 0 6 (dk_at dksX1_within_1 16 rfl rfl)
theorem dX1_within_43 : decode cX1_within 43 = .ok (.bipush (-3), 2) := dk_16 253 (dk_at dksX1_within_1 19 rfl rfl)
theorem dX1_within_45 : decode cX1_within 45 = .ok (.ireturn, 1) := dk_172 (dk_at dksX1_within_1 21 rfl rfl)
theorem dX1_within_46 : decode cX1_within 46 = .ok (.iload_n 1, 1) := dk_27 (dk_at dksX1_within_1 22 rfl rfl)
theorem dX1_within_47 : decode cX1_within 47 = .ok (.iconst 1, 1) := dk_4 (dk_at dksX1_within_1 23 rfl rfl)
theorem dX1_within_48 : decode cX1_within 48 = .ok (.if_icmp .le 7, 3) := dk_164 0 7 (dk_at dksX1_within_2 0 rfl rfl)
theorem dX1_within_51 : decode cX1_within 51 = .ok (.iload_n 1, 1) := dk_27 (dk_at dksX1_within_2 3 rfl rfl)
theorem dX1_within_52 : decode cX1_within 52 = .ok (.goto 4, 3) := dk_167 0 4 (dk_at dksX1_within_2 4 rfl rfl)
theorem dX1_within_55 : decode cX1_within 55 = .ok (.iload_n 2, 1) := dk_28 (dk_at dksX1_within_2 7 rfl rfl)
theorem dX1_within_56 : decode cX1_within 56 = .ok (.istore_n 3, 1) := dk_62 (dk_at dksX1_within_2 8 rfl rfl)
theorem dX1_within_57 : decode cX1_within 57 = .ok (.aload_n 0, 1) := dk_42 (dk_at dksX1_within_2 9 rfl rfl)
theorem dX1_within_58 : decode cX1_within 58 = .ok (.aload_n 0, 1) := dk_42 (dk_at dksX1_within_2 10 rfl rfl)
theorem dX1_within_59 : decode cX1_within 59 = .ok (.getfield 19, 3) := dk_180 0 19 (dk_at dksX1_within_2 11 rfl rfl)
theorem dX1_within_62 : decode cX1_within 62 = .ok (.aload_n 0, 1) := dk_42 (dk_at dksX1_within_2 14 rfl rfl)
theorem dX1_within_63 : decode cX1_within 63 = .ok (.getfield 82, 3) := dk_180 0 82 (dk_at dksX1_within_2 15 rfl rfl)
theorem dX1_within_66 : decode cX1_within 66 = .ok (.iload_n 1, 1) := dk_27 (dk_at dksX1_within_2 18 rfl rfl)
theorem dX1_within_67 : decode cX1_within 67 = .ok (.invokevirtual 184, 3) := dk_182 0 184 (dk_at dksX1_within_2 19 rfl rfl)
theorem dX1_within_70 : decode cX1_within 70 = .ok (.iconst 0, 1) := dk_3 (dk_at dksX1_within_2 22 rfl rfl)
theorem dX1_within_71 : decode cX1_within 71 = .ok (.istore 4, 2) := dk_54 4 (dk_at dksX1_within_3 0 rfl rfl)
theorem dX1_within_73 : decode cX1_within 73 = .ok (.iconst 1, 1) := dk_4 (dk_at dksX1_within_3 2 rfl rfl)
theorem dX1_within_74 : decode cX1_within 74 = .ok (.istore 5, 2) := dk_54 5 (dk_at dksX1_within_3 3 rfl rfl)
theorem dX1_within_76 : decode cX1_within 76 = .ok (.aload_n 0, 1) := dk_42 (dk_at dksX1_within_3 5 rfl rfl)
theorem dX1_within_77 : decode cX1_within 77 = .ok (.getfield 69, 3) := dk_180 0 69 (dk_at dksX1_within_3 6 rfl rfl)
theorem dX1_within_80 : decode cX1_within 80 = .ok (.iconst 0, 1) := dk_3 (dk_at dksX1_within_3 9 rfl rfl)
theorem dX1_within_81 : decode cX1_within 81 = .ok (.aload_n 0, 1) := dk_42 (dk_at dksX1_within_3 10 rfl rfl)
theorem dX1_within_82 : decode cX1_within 82 = .ok (.aload_n 0, 1) := dk_42 (dk_at dksX1_within_3 11 rfl rfl)
theorem dX1_within_83 : decode cX1_within 83 = .ok (.getfield 103, 3) := dk_180 0 103 (dk_at dksX1_within_3 12 rfl rfl)
theorem dX1_within_86 : decode cX1_within 86 = .ok (.invokevirtual 128, 3) := dk_182 0 128 (dk_at dksX1_within_3 15 rfl rfl)
theorem dX1_within_89 : decode cX1_within 89 = .ok (.aload_n 0, 1) := dk_42 (dk_at dksX1_within_3 18 rfl rfl)
theorem dX1_within_90 : decode cX1_within 90 = .ok (.iload_n 3, 1) := dk_29 (dk_at dksX1_within_3 19 rfl rfl)
theorem dX1_within_91 : decode cX1_within 91 = .ok (.invokevirtual 135, 3) := dk_182 0 135 (dk_at dksX1_within_3 20 rfl rfl)
theorem dX1_within_94 : decode cX1_within 94 = .ok (.bipush 16, 2) := dk_16 16 (dk_at dksX1_within_4 0 rfl rfl)
theorem dX1_within_96 : decode cX1_within 96 = .ok (.ishl, 1) := dk_120 (dk_at dksX1_within_4 2 rfl rfl)
theorem dX1_within_97 : decode cX1_within 97 = .ok (.ior, 1) := dk_128 (dk_at dksX1_within_4 3 rfl rfl)
theorem dX1_within_98 : decode cX1_within 98 = .ok (.iastore, 1) := dk_79 (dk_at dksX1_within_4 4 rfl rfl)
theorem dX1_within_99 : decode cX1_within 99 = .ok (.aload_n 0, 1) := dk_42 (dk_at dksX1_within_4 5 rfl rfl)
theorem dX1_within_100 : decode cX1_within 100 = .ok (.getfield 32, 3) := dk_180 0 32 (dk_at dksX1_within_4 6 rfl rfl)
theorem dX1_within_103 : decode cX1_within 103 = .ok (.aload_n 0, 1) := dk_42 (dk_at dksX1_within_4 9 rfl rfl)
theorem dX1_within_104 : decode cX1_within 104 = .ok (.aload_n 0, 1) := dk_42 (dk_at dksX1_within_4 10 rfl rfl)
theorem dX1_within_105 : decode cX1_within 105 = .ok (.getfield 103, 3) := dk_180 0 103 (dk_at dksX1_within_4 11 rfl rfl)
theorem dX1_within_108 : decode cX1_within 108 = .ok (.invokevirtual 128, 3) := dk_182 0 128 (dk_at dksX1_within_4 14 rfl rfl)
theorem dX1_within_111 : decode cX1_within 111 = .ok (.aload_n 0, 1) := dk_42 (dk_at dksX1_within_4 17 rfl rfl)
theorem dX1_within_112 : decode cX1_within 112 = .ok (.iload_n 3, 1) := dk_29 (dk_at dksX1_within_4 18 rfl rfl)
theorem dX1_within_113 : decode cX1_within 113 = .ok (.invokevirtual 135, 3) := dk_182 0 135 (dk_at dksX1_within_4 19 rfl rfl)
theorem dX1_within_116 : decode cX1_within 116 = .ok (.invokestatic 158, 3) := dk_184 0 158 (dk_at dksX1_within_5 0 rfl rfl)
theorem dX1_within_119 : decode cX1_within 119 = .ok (.aload_n 0, 1) := dk_42 (dk_at dksX1_within_5 3 rfl rfl)
theorem dX1_within_120 : decode cX1_within 120 = .ok (.getfield 161, 3) := dk_180 0 161 (dk_at dksX1_within_5 4 rfl rfl)
theorem dX1_within_123 : decode cX1_within 123 = .ok (.iastore, 1) := dk_79 (dk_at dksX1_within_5 7 rfl rfl)
theorem dX1_within_124 : decode cX1_within 124 = .ok (.iload 4, 2) := dk_21 4 (dk_at dksX1_within_5 8 rfl rfl)
theorem dX1_within_126 : decode cX1_within 126 = .ok (.iload 5, 2) := dk_21 5 (dk_at dksX1_within_5 10 rfl rfl)
theorem dX1_within_128 : decode cX1_within 128 = .ok (.if_icmp .ge 197, 3) := dk_162 0 197 (dk_at dksX1_within_5 12 rfl rfl)
theorem dX1_within_131 : decode cX1_within 131 = .ok (.aload_n 0, 1) := dk_42 (dk_at dksX1_within_5 15 rfl rfl)
theorem dX1_within_132 : decode cX1_within 132 = .ok (.getfield 69, 3) := dk_180 0 69 (dk_at dksX1_within_5 16 rfl rfl)
theorem dX1_within_135 : decode cX1_within 135 = .ok (.iload 4, 2) := dk_21 4 (dk_at dksX1_within_5 19 rfl rfl)
theorem dX1_within_137 : decode cX1_within 137 = .ok (.iaload, 1) := dk_46 (dk_at dksX1_within_5 21 rfl rfl)
theorem dX1_within_138 : decode cX1_within 138 = .ok (.ldc 157, 2) := dk_18 157 (dk_at dksX1_within_5 22 rfl rfl)
theorem dX1_within_140 : decode cX1_within 140 = .ok (.iand, 1) := dk_126 (dk_at dksX1_within_6 0 rfl rfl)
theorem dX1_within_141 : decode cX1_within 141 = .ok (.istore 6, 2) := dk_54 6 (dk_at dksX1_within_6 1 rfl rfl)
theorem dX1_within_143 : decode cX1_within 143 = .ok (.aload_n 0, 1) := dk_42 (dk_at dksX1_within_6 3 rfl rfl)
theorem dX1_within_144 : decode cX1_within 144 = .ok (.getfield 69, 3) := dk_180 0 69 (dk_at dksX1_within_6 4 rfl rfl)
theorem dX1_within_147 : decode cX1_within 147 = .ok (.iload 4, 2) := dk_21 4 (dk_at dksX1_within_6 7 rfl rfl)
theorem dX1_within_149 : decode cX1_within 149 = .ok (.iaload, 1) := dk_46 (dk_at dksX1_within_6 9 rfl rfl)
theorem dX1_within_150 : decode cX1_within 150 = .ok (.bipush 16, 2) := dk_16 16 (dk_at dksX1_within_6 10 rfl rfl)
theorem dX1_within_152 : decode cX1_within 152 = .ok (.ishr, 1) := dk_122 (dk_at dksX1_within_6 12 rfl rfl)
theorem dX1_within_153 : decode cX1_within 153 = .ok (.istore 7, 2) := dk_54 7 (dk_at dksX1_within_6 13 rfl rfl)
theorem dX1_within_155 : decode cX1_within 155 = .ok (.iinc 4 1, 3) := dk_132 4 1 (dk_at dksX1_within_6 15 rfl rfl)
theorem dX1_within_158 : decode cX1_within 158 = .ok (.iconst 0, 1) := dk_3 (dk_at dksX1_within_6 18 rfl rfl)
theorem dX1_within_159 : decode cX1_within 159 = .ok (.istore 8, 2) := dk_54 8 (dk_at dksX1_within_6 19 rfl rfl)
theorem dX1_within_161 : decode cX1_within 161 = .ok (.iload 8, 2) := dk_21 8 (dk_at dksX1_within_6 21 rfl rfl)
theorem dX1_within_163 : decode cX1_within 163 = .ok (.bipush 16, 2) := dk_16 16 (dk_at dksX1_within_7 0 rfl rfl)
theorem dX1_within_165 : decode cX1_within 165 = .ok (.if_icmp .ge 157, 3) := dk_162 0 157 (dk_at dksX1_within_7 2 rfl rfl)
theorem dX1_within_168 : decode cX1_within 168 = .ok (.iload 8, 2) := dk_21 8 (dk_at dksX1_within_7 5 rfl rfl)
theorem dX1_within_170 : decode cX1_within 170 = .ok (.iconst 4, 1) := dk_7 (dk_at dksX1_within_7 7 rfl rfl)
theorem dX1_within_171 : decode cX1_within 171 = .ok (.idiv, 1) := dk_108 (dk_at dksX1_within_7 8 rfl rfl)
theorem dX1_within_172 : decode cX1_within 172 = .ok (.istore 9, 2) := dk_54 9 (dk_at dksX1_within_7 9 rfl rfl)
theorem dX1_within_174 : decode cX1_within 174 = .ok (.iload 8, 2) := dk_21 8 (dk_at dksX1_within_7 11 rfl rfl)
theorem dX1_within_176 : decode cX1_within 176 = .ok (.iconst 4, 1) := dk_7 (dk_at dksX1_within_7 13 rfl rfl)
theorem dX1_within_177 : decode cX1_within 177 = .ok (.irem, 1) := dk_112 (dk_at dksX1_within_7 14 rfl rfl)
theorem dX1_within_178 : decode cX1_within 178 = .ok (.istore 10, 2) := dk_54 10 (dk_at dksX1_within_7 15 rfl rfl)
theorem dX1_within_180 : decode cX1_within 180 = .ok (.iload 9, 2) := dk_21 9 (dk_at dksX1_within_7 17 rfl rfl)
theorem dX1_within_182 : decode cX1_within 182 = .ok (.aload_n 0, 1) := dk_42 (dk_at dksX1_within_7 19 rfl rfl)
theorem dX1_within_183 : decode cX1_within 183 = .ok (.getfield 82, 3) := dk_180 0 82 (dk_at dksX1_within_7 20 rfl rfl)
theorem dX1_within_186 : decode cX1_within 186 = .ok (.if_icmp .ge 130, 3) := dk_162 0 130 (dk_at dksX1_within_8 0 rfl rfl)
theorem dX1_within_189 : decode cX1_within 189 = .ok (.iload 10, 2) := dk_21 10 (dk_at dksX1_within_8 3 rfl rfl)
theorem dX1_within_191 : decode cX1_within 191 = .ok (.aload_n 0, 1) := dk_42 (dk_at dksX1_within_8 5 rfl rfl)
theorem dX1_within_192 : decode cX1_within 192 = .ok (.getfield 82, 3) := dk_180 0 82 (dk_at dksX1_within_8 6 rfl rfl)
theorem dX1_within_195 : decode cX1_within 195 = .ok (.if_icmp .ge 121, 3) := dk_162 0 121 (dk_at dksX1_within_8 9 rfl rfl)
theorem dX1_within_198 : decode cX1_within 198 = .ok (.aload_n 0, 1) := dk_42 (dk_at dksX1_within_8 12 rfl rfl)
theorem dX1_within_199 : decode cX1_within 199 = .ok (.getfield 19, 3) := dk_180 0 19 (dk_at dksX1_within_8 13 rfl rfl)
theorem dX1_within_202 : decode cX1_within 202 = .ok (.iload_n 1, 1) := dk_27 (dk_at dksX1_within_8 16 rfl rfl)
theorem dX1_within_203 : decode cX1_within 203 = .ok (.iload 6, 2) := dk_21 6 (dk_at dksX1_within_8 17 rfl rfl)
theorem dX1_within_205 : decode cX1_within 205 = .ok (.iload 7, 2) := dk_21 7 (dk_at dksX1_within_8 19 rfl rfl)
theorem dX1_within_207 : decode cX1_within 207 = .ok (.iload 9, 2) := dk_21 9 (dk_at dksX1_within_8 21 rfl rfl)
theorem dX1_within_209 : decode cX1_within 209 = .ok (.iload 10, 2) := dk_21 10 (dk_at dksX1_within_9 0 rfl rfl)
theorem dX1_within_211 : decode cX1_within 211 = .ok (.invokestatic 153, 3) := dk_184 0 153 (dk_at dksX1_within_9 2 rfl rfl)
theorem dX1_within_214 : decode cX1_within 214 = .ok (.ifCond .ne 6, 3) := dk_154 0 6 (dk_at dksX1_within_9 5 rfl rfl)
theorem dX1_within_217 : decode cX1_within 217 = .ok (.goto 99, 3) := dk_167 0 99 (dk_at dksX1_within_9 8 rfl rfl)
theorem dX1_within_220 : decode cX1_within 220 = .ok (.aload_n 0, 1) := dk_42 (dk_at dksX1_within_9 11 rfl rfl)
theorem dX1_within_221 : decode cX1_within 221 = .ok (.getfield 19, 3) := dk_180 0 19 (dk_at dksX1_within_9 12 rfl rfl)
theorem dX1_within_224 : decode cX1_within 224 = .ok (.iload_n 2, 1) := dk_28 (dk_at dksX1_within_9 15 rfl rfl)
theorem dX1_within_225 : decode cX1_within 225 = .ok (.iload 6, 2) := dk_21 6 (dk_at dksX1_within_9 16 rfl rfl)
theorem dX1_within_227 : decode cX1_within 227 = .ok (.iload 7, 2) := dk_21 7 (dk_at dksX1_within_9 18 rfl rfl)
theorem dX1_within_229 : decode cX1_within 229 = .ok (.iload 9, 2) := dk_21 9 (dk_at dksX1_within_9 20 rfl rfl)
theorem dX1_within_231 : decode cX1_within 231 = .ok (.iload 10, 2) := dk_21 10 (dk_at dksX1_within_9 22 rfl rfl)
theorem dX1_within_233 : decode cX1_within 233 = .ok (.invokestatic 153, 3) := dk_184 0 153 (dk_at dksX1_within_10 0 rfl rfl)
theorem dX1_within_236 : decode cX1_within 236 = .ok (.ifCond .ne 5, 3) := dk_154 0 5 (dk_at dksX1_within_10 3 rfl rfl)
theorem dX1_within_239 : decode cX1_within 239 = .ok (.iconst 0, 1) := dk_3 (dk_at dksX1_within_10 6 rfl rfl)
theorem dX1_within_240 : decode cX1_within 240 = .ok (.ireturn, 1) := dk_172 (dk_at dksX1_within_10 7 rfl rfl)
theorem dX1_within_241 : decode cX1_within 241 = .ok (.iload 6, 2) := dk_21 6 (dk_at dksX1_within_10 8 rfl rfl)
theorem dX1_within_243 : decode cX1_within 243 = .ok (.iload 9, 2) := dk_21 9 (dk_at dksX1_within_10 10 rfl rfl)
theorem dX1_within_245 : decode cX1_within 245 = .ok (.iload 10, 2) := dk_21 10 (dk_at dksX1_within_10 12 rfl rfl)
theorem dX1_within_247 : decode cX1_within 247 = .ok (.invokestatic 117, 3) := dk_184 0 117 (dk_at dksX1_within_10 14 rfl rfl)
theorem dX1_within_250 : decode cX1_within 250 = .ok (.istore 11, 2) := dk_54 11 (dk_at dksX1_within_10 17 rfl rfl)
theorem dX1_within_252 : decode cX1_within 252 = .ok (.iload 7, 2) := dk_21 7 (dk_at dksX1_within_10 19 rfl rfl)
theorem dX1_within_254 : decode cX1_within 254 = .ok (.iload_n 3, 1) := dk_29 (dk_at dksX1_within_10 21 rfl rfl)
theorem dX1_within_255 : decode cX1_within 255 = .ok (.iload 9, 2) := dk_21 9 (dk_at dksX1_within_10 22 rfl rfl)
theorem dX1_within_257 : decode cX1_within 257 = .ok (.iload 10, 2) := dk_21 10 (dk_at dksX1_within_11 0 rfl rfl)
theorem dX1_within_259 : decode cX1_within 259 = .ok (.invokestatic 121, 3) := dk_184 0 121 (dk_at dksX1_within_11 2 rfl rfl)
theorem dX1_within_262 : decode cX1_within 262 = .ok (.istore 12, 2) := dk_54 12 (dk_at dksX1_within_11 5 rfl rfl)
theorem dX1_within_264 : decode cX1_within 264 = .ok (.iload 11, 2) := dk_21 11 (dk_at dksX1_within_11 7 rfl rfl)
theorem dX1_within_266 : decode cX1_within 266 = .ok (.iload 12, 2) := dk_21 12 (dk_at dksX1_within_11 9 rfl rfl)
theorem dX1_within_268 : decode cX1_within 268 = .ok (.invokestatic 158, 3) := dk_184 0 158 (dk_at dksX1_within_11 11 rfl rfl)
theorem dX1_within_271 : decode cX1_within 271 = .ok (.istore 13, 2) := dk_54 13 (dk_at dksX1_within_11 14 rfl rfl)
theorem dX1_within_273 : decode cX1_within 273 = .ok (.aload_n 0, 1) := dk_42 (dk_at dksX1_within_11 16 rfl rfl)
theorem dX1_within_274 : decode cX1_within 274 = .ok (.getfield 32, 3) := dk_180 0 32 (dk_at dksX1_within_11 17 rfl rfl)
theorem dX1_within_277 : decode cX1_within 277 = .ok (.iload 13, 2) := dk_21 13 (dk_at dksX1_within_11 20 rfl rfl)
theorem dX1_within_279 : decode cX1_within 279 = .ok (.iaload, 1) := dk_46 (dk_at dksX1_within_11 22 rfl rfl)
theorem dX1_within_280 : decode cX1_within 280 = .ok (.aload_n 0, 1) := dk_42 (dk_at dksX1_within_11 23 rfl rfl)
theorem dX1_within_281 : decode cX1_within 281 = .ok (.getfield 161, 3) := dk_180 0 161 (dk_at dksX1_within_12 0 rfl rfl)
theorem dX1_within_284 : decode cX1_within 284 = .ok (.if_icmp .eq 32, 3) := dk_159 0 32 (dk_at dksX1_within_12 3 rfl rfl)
theorem dX1_within_287 : decode cX1_within 287 = .ok (.aload_n 0, 1) := dk_42 (dk_at dksX1_within_12 6 rfl rfl)
theorem dX1_within_288 : decode cX1_within 288 = .ok (.getfield 32, 3) := dk_180 0 32 (dk_at dksX1_within_12 7 rfl rfl)
theorem dX1_within_291 : decode cX1_within 291 = .ok (.iload 13, 2) := dk_21 13 (dk_at dksX1_within_12 10 rfl rfl)
theorem dX1_within_293 : decode cX1_within 293 = .ok (.aload_n 0, 1) := dk_42 (dk_at dksX1_within_12 12 rfl rfl)
theorem dX1_within_294 : decode cX1_within 294 = .ok (.getfield 161, 3) := dk_180 0 161 (dk_at dksX1_within_12 13 rfl rfl)
theorem dX1_within_297 : decode cX1_within 297 = .ok (.iastore, 1) := dk_79 (dk_at dksX1_within_12 16 rfl rfl)
theorem dX1_within_298 : decode cX1_within 298 = .ok (.aload_n 0, 1) := dk_42 (dk_at dksX1_within_12 17 rfl rfl)
theorem dX1_within_299 : decode cX1_within 299 = .ok (.getfield 69, 3) := dk_180 0 69 (dk_at dksX1_within_12 18 rfl rfl)
theorem dX1_within_302 : decode cX1_within 302 = .ok (.iload 5, 2) := dk_21 5 (dk_at dksX1_within_12 21 rfl rfl)
theorem dX1_within_304 : decode cX1_within 304 = .ok (.iload 11, 2) := dk_21 11 (dk_at dksX1_within_13 0 rfl rfl)
theorem dX1_within_306 : decode cX1_within 306 = .ok (.iload 12, 2) := dk_21 12 (dk_at dksX1_within_13 2 rfl rfl)
theorem dX1_within_308 : decode cX1_within 308 = .ok (.bipush 16, 2) := dk_16 16 (dk_at dksX1_within_13 4 rfl rfl)
theorem dX1_within_310 : decode cX1_within 310 = .ok (.ishl, 1) := dk_120 (dk_at dksX1_within_13 6 rfl rfl)
theorem dX1_within_311 : decode cX1_within 311 = .ok (.ior, 1) := dk_128 (dk_at dksX1_within_13 7 rfl rfl)
theorem dX1_within_312 : decode cX1_within 312 = .ok (.iastore, 1) := dk_79 (dk_at dksX1_within_13 8 rfl rfl)
theorem dX1_within_313 : decode cX1_within 313 = .ok (.iinc 5 1, 3) := dk_132 5 1 (dk_at dksX1_within_13 9 rfl rfl)
theorem dX1_within_316 : decode cX1_within 316 = .ok (.iinc 8 1, 3) := dk_132 8 1 (dk_at dksX1_within_13 12 rfl rfl)
theorem dX1_within_319 : decode cX1_within 319 = .ok (.goto (-158), 3) := dk_167 255 98 (dk_at dksX1_within_13 15 rfl rfl)
theorem dX1_within_322 : decode cX1_within 322 = .ok (.goto (-198), 3) := dk_167 255 58 (dk_at dksX1_within_13 18 rfl rfl)
theorem dX1_within_325 : decode cX1_within 325 = .ok (.iconst 1, 1) := dk_4 (dk_at dksX1_within_13 21 rfl rfl)
theorem dX1_within_326 : decode cX1_within 326 = .ok (.ireturn, 1) := dk_172 (dk_at dksX1_within_13 22 rfl rfl)
abbrev cX1_sheet : ByteArray := prog_16_method_61_code
def yX1_sheet : MethodName := ⟨RX1, "sheet", "(III)I"⟩
def dkwX1_sheet_3 : List UInt8 := [21, 4, 96, 3, 79, 132, 4, 1, 167, 255, 233, 4, 172]
abbrev dktX1_sheet_3 : List UInt8 := dkwX1_sheet_3 ++ []
def dkwX1_sheet_2 : List UInt8 := [180, 0, 13, 27, 29, 79, 3, 54, 4, 21, 4, 16, 60, 162, 0, 22, 42, 180, 0, 16, 16, 60, 27, 104]
abbrev dktX1_sheet_2 : List UInt8 := dkwX1_sheet_2 ++ dktX1_sheet_3
def dkwX1_sheet_1 : List UInt8 := [164, 0, 6, 16, 254, 172, 29, 156, 0, 9, 42, 7, 182, 0, 92, 172, 42, 180, 0, 9, 27, 28, 79, 42]
abbrev dktX1_sheet_1 : List UInt8 := dkwX1_sheet_1 ++ dktX1_sheet_2
def dkwX1_sheet_0 : List UInt8 := [42, 3, 181, 0, 72, 27, 184, 0, 85, 154, 0, 5, 2, 172, 28, 184, 0, 89, 153, 0, 9, 29, 16, 60]
abbrev dktX1_sheet_0 : List UInt8 := dkwX1_sheet_0 ++ dktX1_sheet_1
theorem dksX1_sheet_0 : cX1_sheet.data.toList.drop 0 = dktX1_sheet_0 := by decide +kernel
theorem dksX1_sheet_1 : cX1_sheet.data.toList.drop 24 = dktX1_sheet_1 := dk_seg dksX1_sheet_0 24 rfl rfl
theorem dksX1_sheet_2 : cX1_sheet.data.toList.drop 48 = dktX1_sheet_2 := dk_seg dksX1_sheet_1 24 rfl rfl
theorem dksX1_sheet_3 : cX1_sheet.data.toList.drop 72 = dktX1_sheet_3 := dk_seg dksX1_sheet_2 24 rfl rfl
theorem dX1_sheet_0 : decode cX1_sheet 0 = .ok (.aload_n 0, 1) := dk_42 (dk_at dksX1_sheet_0 0 rfl rfl)
theorem dX1_sheet_1 : decode cX1_sheet 1 = .ok (.iconst 0, 1) := dk_3 (dk_at dksX1_sheet_0 1 rfl rfl)
theorem dX1_sheet_2 : decode cX1_sheet 2 = .ok (.putfield 72, 3) := dk_181 0 72 (dk_at dksX1_sheet_0 2 rfl rfl)
theorem dX1_sheet_5 : decode cX1_sheet 5 = .ok (.iload_n 1, 1) := dk_27 (dk_at dksX1_sheet_0 5 rfl rfl)
theorem dX1_sheet_6 : decode cX1_sheet 6 = .ok (.invokestatic 85, 3) := dk_184 0 85 (dk_at dksX1_sheet_0 6 rfl rfl)
theorem dX1_sheet_9 : decode cX1_sheet 9 = .ok (.ifCond .ne 5, 3) := dk_154 0 5 (dk_at dksX1_sheet_0 9 rfl rfl)
theorem dX1_sheet_12 : decode cX1_sheet 12 = .ok (.iconst (-1), 1) := dk_2 (dk_at dksX1_sheet_0 12 rfl rfl)
theorem dX1_sheet_13 : decode cX1_sheet 13 = .ok (.ireturn, 1) := dk_172 (dk_at dksX1_sheet_0 13 rfl rfl)
theorem dX1_sheet_14 : decode cX1_sheet 14 = .ok (.iload_n 2, 1) := dk_28 (dk_at dksX1_sheet_0 14 rfl rfl)
theorem dX1_sheet_15 : decode cX1_sheet 15 = .ok (.invokestatic 89, 3) := dk_184 0 89 (dk_at dksX1_sheet_0 15 rfl rfl)
theorem dX1_sheet_18 : decode cX1_sheet 18 = .ok (.ifCond .eq 9, 3) := dk_153 0 9 (dk_at dksX1_sheet_0 18 rfl rfl)
theorem dX1_sheet_21 : decode cX1_sheet 21 = .ok (.iload_n 3, 1) := dk_29 (dk_at dksX1_sheet_0 21 rfl rfl)
theorem dX1_sheet_22 : decode cX1_sheet 22 = .ok (.bipush 60, 2) := dk_16 60 (dk_at dksX1_sheet_0 22 rfl rfl)
theorem dX1_sheet_24 : decode cX1_sheet 24 = .ok (.if_icmp .le 6, 3) := dk_164 0 6 (dk_at dksX1_sheet_1 0 rfl rfl)
theorem dX1_sheet_27 : decode cX1_sheet 27 = .ok (.bipush (-2), 2) := dk_16 254 (dk_at dksX1_sheet_1 3 rfl rfl)
theorem dX1_sheet_29 : decode cX1_sheet 29 = .ok (.ireturn, 1) := dk_172 (dk_at dksX1_sheet_1 5 rfl rfl)
theorem dX1_sheet_30 : decode cX1_sheet 30 = .ok (.iload_n 3, 1) := dk_29 (dk_at dksX1_sheet_1 6 rfl rfl)
theorem dX1_sheet_31 : decode cX1_sheet 31 = .ok (.ifCond .ge 9, 3) := dk_156 0 9 (dk_at dksX1_sheet_1 7 rfl rfl)
theorem dX1_sheet_34 : decode cX1_sheet 34 = .ok (.aload_n 0, 1) := dk_42 (dk_at dksX1_sheet_1 10 rfl rfl)
theorem dX1_sheet_35 : decode cX1_sheet 35 = .ok (.iconst 4, 1) := dk_7 (dk_at dksX1_sheet_1 11 rfl rfl)
theorem dX1_sheet_36 : decode cX1_sheet 36 = .ok (.invokevirtual 92, 3) := dk_182 0 92 (dk_at dksX1_sheet_1 12 rfl rfl)
theorem dX1_sheet_39 : decode cX1_sheet 39 = .ok (.ireturn, 1) := dk_172 (dk_at dksX1_sheet_1 15 rfl rfl)
theorem dX1_sheet_40 : decode cX1_sheet 40 = .ok (.aload_n 0, 1) := dk_42 (dk_at dksX1_sheet_1 16 rfl rfl)
theorem dX1_sheet_41 : decode cX1_sheet 41 = .ok (.getfield 9, 3) := dk_180 0 9 (dk_at dksX1_sheet_1 17 rfl rfl)
theorem dX1_sheet_44 : decode cX1_sheet 44 = .ok (.iload_n 1, 1) := dk_27 (dk_at dksX1_sheet_1 20 rfl rfl)
theorem dX1_sheet_45 : decode cX1_sheet 45 = .ok (.iload_n 2, 1) := dk_28 (dk_at dksX1_sheet_1 21 rfl rfl)
theorem dX1_sheet_46 : decode cX1_sheet 46 = .ok (.iastore, 1) := dk_79 (dk_at dksX1_sheet_1 22 rfl rfl)
theorem dX1_sheet_47 : decode cX1_sheet 47 = .ok (.aload_n 0, 1) := dk_42 (dk_at dksX1_sheet_1 23 rfl rfl)
theorem dX1_sheet_48 : decode cX1_sheet 48 = .ok (.getfield 13, 3) := dk_180 0 13 (dk_at dksX1_sheet_2 0 rfl rfl)
theorem dX1_sheet_51 : decode cX1_sheet 51 = .ok (.iload_n 1, 1) := dk_27 (dk_at dksX1_sheet_2 3 rfl rfl)
theorem dX1_sheet_52 : decode cX1_sheet 52 = .ok (.iload_n 3, 1) := dk_29 (dk_at dksX1_sheet_2 4 rfl rfl)
theorem dX1_sheet_53 : decode cX1_sheet 53 = .ok (.iastore, 1) := dk_79 (dk_at dksX1_sheet_2 5 rfl rfl)
theorem dX1_sheet_54 : decode cX1_sheet 54 = .ok (.iconst 0, 1) := dk_3 (dk_at dksX1_sheet_2 6 rfl rfl)
theorem dX1_sheet_55 : decode cX1_sheet 55 = .ok (.istore 4, 2) := dk_54 4 (dk_at dksX1_sheet_2 7 rfl rfl)
theorem dX1_sheet_57 : decode cX1_sheet 57 = .ok (.iload 4, 2) := dk_21 4 (dk_at dksX1_sheet_2 9 rfl rfl)
theorem dX1_sheet_59 : decode cX1_sheet 59 = .ok (.bipush 60, 2) := dk_16 60 (dk_at dksX1_sheet_2 11 rfl rfl)
theorem dX1_sheet_61 : decode cX1_sheet 61 = .ok (.if_icmp .ge 22, 3) := dk_162 0 22 (dk_at dksX1_sheet_2 13 rfl rfl)
theorem dX1_sheet_64 : decode cX1_sheet 64 = .ok (.aload_n 0, 1) := dk_42 (dk_at dksX1_sheet_2 16 rfl rfl)
theorem dX1_sheet_65 : decode cX1_sheet 65 = .ok (.getfield 16, 3) := dk_180 0 16 (dk_at dksX1_sheet_2 17 rfl rfl)
theorem dX1_sheet_68 : decode cX1_sheet 68 = .ok (.bipush 60, 2) := dk_16 60 (dk_at dksX1_sheet_2 20 rfl rfl)
theorem dX1_sheet_70 : decode cX1_sheet 70 = .ok (.iload_n 1, 1) := dk_27 (dk_at dksX1_sheet_2 22 rfl rfl)
theorem dX1_sheet_71 : decode cX1_sheet 71 = .ok (.imul, 1) := dk_104 (dk_at dksX1_sheet_2 23 rfl rfl)
theorem dX1_sheet_72 : decode cX1_sheet 72 = .ok (.iload 4, 2) := dk_21 4 (dk_at dksX1_sheet_3 0 rfl rfl)
theorem dX1_sheet_74 : decode cX1_sheet 74 = .ok (.iadd, 1) := dk_96 (dk_at dksX1_sheet_3 2 rfl rfl)
theorem dX1_sheet_75 : decode cX1_sheet 75 = .ok (.iconst 0, 1) := dk_3 (dk_at dksX1_sheet_3 3 rfl rfl)
theorem dX1_sheet_76 : decode cX1_sheet 76 = .ok (.iastore, 1) := dk_79 (dk_at dksX1_sheet_3 4 rfl rfl)
theorem dX1_sheet_77 : decode cX1_sheet 77 = .ok (.iinc 4 1, 3) := dk_132 4 1 (dk_at dksX1_sheet_3 5 rfl rfl)
theorem dX1_sheet_80 : decode cX1_sheet 80 = .ok (.goto (-23), 3) := dk_167 255 233 (dk_at dksX1_sheet_3 8 rfl rfl)
theorem dX1_sheet_83 : decode cX1_sheet 83 = .ok (.iconst 1, 1) := dk_4 (dk_at dksX1_sheet_3 11 rfl rfl)
theorem dX1_sheet_84 : decode cX1_sheet 84 = .ok (.ireturn, 1) := dk_172 (dk_at dksX1_sheet_3 12 rfl rfl)
abbrev cX1_lose : ByteArray := prog_16_method_62_code
def yX1_lose : MethodName := ⟨RX1, "lose", "(I)I"⟩
def dkwX1_lose_1 : List UInt8 := [4, 61, 42, 180, 0, 9, 27, 16, 247, 79, 28, 172]
abbrev dktX1_lose_1 : List UInt8 := dkwX1_lose_1 ++ []
def dkwX1_lose_0 : List UInt8 := [27, 184, 0, 85, 154, 0, 5, 2, 172, 42, 180, 0, 9, 27, 46, 16, 247, 160, 0, 7, 3, 167, 0, 4]
abbrev dktX1_lose_0 : List UInt8 := dkwX1_lose_0 ++ dktX1_lose_1
theorem dksX1_lose_0 : cX1_lose.data.toList.drop 0 = dktX1_lose_0 := by decide +kernel
theorem dksX1_lose_1 : cX1_lose.data.toList.drop 24 = dktX1_lose_1 := dk_seg dksX1_lose_0 24 rfl rfl
theorem dX1_lose_0 : decode cX1_lose 0 = .ok (.iload_n 1, 1) := dk_27 (dk_at dksX1_lose_0 0 rfl rfl)
theorem dX1_lose_1 : decode cX1_lose 1 = .ok (.invokestatic 85, 3) := dk_184 0 85 (dk_at dksX1_lose_0 1 rfl rfl)
theorem dX1_lose_4 : decode cX1_lose 4 = .ok (.ifCond .ne 5, 3) := dk_154 0 5 (dk_at dksX1_lose_0 4 rfl rfl)
theorem dX1_lose_7 : decode cX1_lose 7 = .ok (.iconst (-1), 1) := dk_2 (dk_at dksX1_lose_0 7 rfl rfl)
theorem dX1_lose_8 : decode cX1_lose 8 = .ok (.ireturn, 1) := dk_172 (dk_at dksX1_lose_0 8 rfl rfl)
theorem dX1_lose_9 : decode cX1_lose 9 = .ok (.aload_n 0, 1) := dk_42 (dk_at dksX1_lose_0 9 rfl rfl)
theorem dX1_lose_10 : decode cX1_lose 10 = .ok (.getfield 9, 3) := dk_180 0 9 (dk_at dksX1_lose_0 10 rfl rfl)
theorem dX1_lose_13 : decode cX1_lose 13 = .ok (.iload_n 1, 1) := dk_27 (dk_at dksX1_lose_0 13 rfl rfl)
theorem dX1_lose_14 : decode cX1_lose 14 = .ok (.iaload, 1) := dk_46 (dk_at dksX1_lose_0 14 rfl rfl)
theorem dX1_lose_15 : decode cX1_lose 15 = .ok (.bipush (-9), 2) := dk_16 247 (dk_at dksX1_lose_0 15 rfl rfl)
theorem dX1_lose_17 : decode cX1_lose 17 = .ok (.if_icmp .ne 7, 3) := dk_160 0 7 (dk_at dksX1_lose_0 17 rfl rfl)
theorem dX1_lose_20 : decode cX1_lose 20 = .ok (.iconst 0, 1) := dk_3 (dk_at dksX1_lose_0 20 rfl rfl)
theorem dX1_lose_21 : decode cX1_lose 21 = .ok (.goto 4, 3) := dk_167 0 4 (dk_at dksX1_lose_0 21 rfl rfl)
theorem dX1_lose_24 : decode cX1_lose 24 = .ok (.iconst 1, 1) := dk_4 (dk_at dksX1_lose_1 0 rfl rfl)
theorem dX1_lose_25 : decode cX1_lose 25 = .ok (.istore_n 2, 1) := dk_61 (dk_at dksX1_lose_1 1 rfl rfl)
theorem dX1_lose_26 : decode cX1_lose 26 = .ok (.aload_n 0, 1) := dk_42 (dk_at dksX1_lose_1 2 rfl rfl)
theorem dX1_lose_27 : decode cX1_lose 27 = .ok (.getfield 9, 3) := dk_180 0 9 (dk_at dksX1_lose_1 3 rfl rfl)
theorem dX1_lose_30 : decode cX1_lose 30 = .ok (.iload_n 1, 1) := dk_27 (dk_at dksX1_lose_1 6 rfl rfl)
theorem dX1_lose_31 : decode cX1_lose 31 = .ok (.bipush (-9), 2) := dk_16 247 (dk_at dksX1_lose_1 7 rfl rfl)
theorem dX1_lose_33 : decode cX1_lose 33 = .ok (.iastore, 1) := dk_79 (dk_at dksX1_lose_1 9 rfl rfl)
theorem dX1_lose_34 : decode cX1_lose 34 = .ok (.iload_n 2, 1) := dk_28 (dk_at dksX1_lose_1 10 rfl rfl)
theorem dX1_lose_35 : decode cX1_lose 35 = .ok (.ireturn, 1) := dk_172 (dk_at dksX1_lose_1 11 rfl rfl)
abbrev cX1_put : ByteArray := prog_16_method_63_code
def yX1_put : MethodName := ⟨RX1, "put", "(III)I"⟩
def dkwX1_put_4 : List UInt8 := [29, 79, 4, 172]
abbrev dktX1_put_4 : List UInt8 := dkwX1_put_4 ++ []
def dkwX1_put_3 : List UInt8 := [46, 154, 0, 8, 29, 145, 167, 0, 19, 42, 180, 0, 9, 27, 46, 4, 160, 0, 8, 29, 147, 167, 0, 4]
abbrev dktX1_put_3 : List UInt8 := dkwX1_put_3 ++ dktX1_put_4
def dkwX1_put_2 : List UInt8 := [154, 0, 9, 42, 6, 182, 0, 92, 172, 42, 180, 0, 16, 16, 60, 27, 104, 28, 96, 42, 180, 0, 9, 27]
abbrev dktX1_put_2 : List UInt8 := dkwX1_put_2 ++ dktX1_put_3
def dkwX1_put_1 : List UInt8 := [160, 0, 9, 42, 4, 182, 0, 92, 172, 28, 3, 42, 180, 0, 13, 27, 46, 4, 100, 184, 0, 78]
abbrev dktX1_put_1 : List UInt8 := dkwX1_put_1 ++ dktX1_put_2
def dkwX1_put_0 : List UInt8 := [42, 3, 181, 0, 72, 27, 184, 0, 85, 154, 0, 5, 2, 172, 42, 180, 0, 9, 27, 46, 16, 247]
abbrev dktX1_put_0 : List UInt8 := dkwX1_put_0 ++ dktX1_put_1
theorem dksX1_put_0 : cX1_put.data.toList.drop 0 = dktX1_put_0 := by decide +kernel
theorem dksX1_put_1 : cX1_put.data.toList.drop 22 = dktX1_put_1 := dk_seg dksX1_put_0 22 rfl rfl
theorem dksX1_put_2 : cX1_put.data.toList.drop 44 = dktX1_put_2 := dk_seg dksX1_put_1 22 rfl rfl
theorem dksX1_put_3 : cX1_put.data.toList.drop 68 = dktX1_put_3 := dk_seg dksX1_put_2 24 rfl rfl
theorem dksX1_put_4 : cX1_put.data.toList.drop 92 = dktX1_put_4 := dk_seg dksX1_put_3 24 rfl rfl
theorem dX1_put_0 : decode cX1_put 0 = .ok (.aload_n 0, 1) := dk_42 (dk_at dksX1_put_0 0 rfl rfl)
theorem dX1_put_1 : decode cX1_put 1 = .ok (.iconst 0, 1) := dk_3 (dk_at dksX1_put_0 1 rfl rfl)
theorem dX1_put_2 : decode cX1_put 2 = .ok (.putfield 72, 3) := dk_181 0 72 (dk_at dksX1_put_0 2 rfl rfl)
theorem dX1_put_5 : decode cX1_put 5 = .ok (.iload_n 1, 1) := dk_27 (dk_at dksX1_put_0 5 rfl rfl)
theorem dX1_put_6 : decode cX1_put 6 = .ok (.invokestatic 85, 3) := dk_184 0 85 (dk_at dksX1_put_0 6 rfl rfl)
theorem dX1_put_9 : decode cX1_put 9 = .ok (.ifCond .ne 5, 3) := dk_154 0 5 (dk_at dksX1_put_0 9 rfl rfl)
theorem dX1_put_12 : decode cX1_put 12 = .ok (.iconst (-1), 1) := dk_2 (dk_at dksX1_put_0 12 rfl rfl)
theorem dX1_put_13 : decode cX1_put 13 = .ok (.ireturn, 1) := dk_172 (dk_at dksX1_put_0 13 rfl rfl)
theorem dX1_put_14 : decode cX1_put 14 = .ok (.aload_n 0, 1) := dk_42 (dk_at dksX1_put_0 14 rfl rfl)
theorem dX1_put_15 : decode cX1_put 15 = .ok (.getfield 9, 3) := dk_180 0 9 (dk_at dksX1_put_0 15 rfl rfl)
theorem dX1_put_18 : decode cX1_put 18 = .ok (.iload_n 1, 1) := dk_27 (dk_at dksX1_put_0 18 rfl rfl)
theorem dX1_put_19 : decode cX1_put 19 = .ok (.iaload, 1) := dk_46 (dk_at dksX1_put_0 19 rfl rfl)
theorem dX1_put_20 : decode cX1_put 20 = .ok (.bipush (-9), 2) := dk_16 247 (dk_at dksX1_put_0 20 rfl rfl)
theorem dX1_put_22 : decode cX1_put 22 = .ok (.if_icmp .ne 9, 3) := dk_160 0 9 (dk_at dksX1_put_1 0 rfl rfl)
theorem dX1_put_25 : decode cX1_put 25 = .ok (.aload_n 0, 1) := dk_42 (dk_at dksX1_put_1 3 rfl rfl)
theorem dX1_put_26 : decode cX1_put 26 = .ok (.iconst 1, 1) := dk_4 (dk_at dksX1_put_1 4 rfl rfl)
theorem dX1_put_27 : decode cX1_put 27 = .ok (.invokevirtual 92, 3) := dk_182 0 92 (dk_at dksX1_put_1 5 rfl rfl)
theorem dX1_put_30 : decode cX1_put 30 = .ok (.ireturn, 1) := dk_172 (dk_at dksX1_put_1 8 rfl rfl)
theorem dX1_put_31 : decode cX1_put 31 = .ok (.iload_n 2, 1) := dk_28 (dk_at dksX1_put_1 9 rfl rfl)
theorem dX1_put_32 : decode cX1_put 32 = .ok (.iconst 0, 1) := dk_3 (dk_at dksX1_put_1 10 rfl rfl)
theorem dX1_put_33 : decode cX1_put 33 = .ok (.aload_n 0, 1) := dk_42 (dk_at dksX1_put_1 11 rfl rfl)
theorem dX1_put_34 : decode cX1_put 34 = .ok (.getfield 13, 3) := dk_180 0 13 (dk_at dksX1_put_1 12 rfl rfl)
theorem dX1_put_37 : decode cX1_put 37 = .ok (.iload_n 1, 1) := dk_27 (dk_at dksX1_put_1 15 rfl rfl)
theorem dX1_put_38 : decode cX1_put 38 = .ok (.iaload, 1) := dk_46 (dk_at dksX1_put_1 16 rfl rfl)
theorem dX1_put_39 : decode cX1_put 39 = .ok (.iconst 1, 1) := dk_4 (dk_at dksX1_put_1 17 rfl rfl)
theorem dX1_put_40 : decode cX1_put 40 = .ok (.isub, 1) := dk_100 (dk_at dksX1_put_1 18 rfl rfl)
theorem dX1_put_41 : decode cX1_put 41 = .ok (.invokestatic 78, 3) := dk_184 0 78 (dk_at dksX1_put_1 19 rfl rfl)
theorem dX1_put_44 : decode cX1_put 44 = .ok (.ifCond .ne 9, 3) := dk_154 0 9 (dk_at dksX1_put_2 0 rfl rfl)
theorem dX1_put_47 : decode cX1_put 47 = .ok (.aload_n 0, 1) := dk_42 (dk_at dksX1_put_2 3 rfl rfl)
theorem dX1_put_48 : decode cX1_put 48 = .ok (.iconst 3, 1) := dk_6 (dk_at dksX1_put_2 4 rfl rfl)
theorem dX1_put_49 : decode cX1_put 49 = .ok (.invokevirtual 92, 3) := dk_182 0 92 (dk_at dksX1_put_2 5 rfl rfl)
theorem dX1_put_52 : decode cX1_put 52 = .ok (.ireturn, 1) := dk_172 (dk_at dksX1_put_2 8 rfl rfl)
theorem dX1_put_53 : decode cX1_put 53 = .ok (.aload_n 0, 1) := dk_42 (dk_at dksX1_put_2 9 rfl rfl)
theorem dX1_put_54 : decode cX1_put 54 = .ok (.getfield 16, 3) := dk_180 0 16 (dk_at dksX1_put_2 10 rfl rfl)
theorem dX1_put_57 : decode cX1_put 57 = .ok (.bipush 60, 2) := dk_16 60 (dk_at dksX1_put_2 13 rfl rfl)
theorem dX1_put_59 : decode cX1_put 59 = .ok (.iload_n 1, 1) := dk_27 (dk_at dksX1_put_2 15 rfl rfl)
theorem dX1_put_60 : decode cX1_put 60 = .ok (.imul, 1) := dk_104 (dk_at dksX1_put_2 16 rfl rfl)
theorem dX1_put_61 : decode cX1_put 61 = .ok (.iload_n 2, 1) := dk_28 (dk_at dksX1_put_2 17 rfl rfl)
theorem dX1_put_62 : decode cX1_put 62 = .ok (.iadd, 1) := dk_96 (dk_at dksX1_put_2 18 rfl rfl)
theorem dX1_put_63 : decode cX1_put 63 = .ok (.aload_n 0, 1) := dk_42 (dk_at dksX1_put_2 19 rfl rfl)
theorem dX1_put_64 : decode cX1_put 64 = .ok (.getfield 9, 3) := dk_180 0 9 (dk_at dksX1_put_2 20 rfl rfl)
theorem dX1_put_67 : decode cX1_put 67 = .ok (.iload_n 1, 1) := dk_27 (dk_at dksX1_put_2 23 rfl rfl)
theorem dX1_put_68 : decode cX1_put 68 = .ok (.iaload, 1) := dk_46 (dk_at dksX1_put_3 0 rfl rfl)
theorem dX1_put_69 : decode cX1_put 69 = .ok (.ifCond .ne 8, 3) := dk_154 0 8 (dk_at dksX1_put_3 1 rfl rfl)
theorem dX1_put_72 : decode cX1_put 72 = .ok (.iload_n 3, 1) := dk_29 (dk_at dksX1_put_3 4 rfl rfl)
theorem dX1_put_73 : decode cX1_put 73 = .ok (.i2b, 1) := dk_145 (dk_at dksX1_put_3 5 rfl rfl)
theorem dX1_put_74 : decode cX1_put 74 = .ok (.goto 19, 3) := dk_167 0 19 (dk_at dksX1_put_3 6 rfl rfl)
theorem dX1_put_77 : decode cX1_put 77 = .ok (.aload_n 0, 1) := dk_42 (dk_at dksX1_put_3 9 rfl rfl)
theorem dX1_put_78 : decode cX1_put 78 = .ok (.getfield 9, 3) := dk_180 0 9 (dk_at dksX1_put_3 10 rfl rfl)
theorem dX1_put_81 : decode cX1_put 81 = .ok (.iload_n 1, 1) := dk_27 (dk_at dksX1_put_3 13 rfl rfl)
theorem dX1_put_82 : decode cX1_put 82 = .ok (.iaload, 1) := dk_46 (dk_at dksX1_put_3 14 rfl rfl)
theorem dX1_put_83 : decode cX1_put 83 = .ok (.iconst 1, 1) := dk_4 (dk_at dksX1_put_3 15 rfl rfl)
theorem dX1_put_84 : decode cX1_put 84 = .ok (.if_icmp .ne 8, 3) := dk_160 0 8 (dk_at dksX1_put_3 16 rfl rfl)
theorem dX1_put_87 : decode cX1_put 87 = .ok (.iload_n 3, 1) := dk_29 (dk_at dksX1_put_3 19 rfl rfl)
theorem dX1_put_88 : decode cX1_put 88 = .ok (.i2s, 1) := dk_147 (dk_at dksX1_put_3 20 rfl rfl)
theorem dX1_put_89 : decode cX1_put 89 = .ok (.goto 4, 3) := dk_167 0 4 (dk_at dksX1_put_3 21 rfl rfl)
theorem dX1_put_92 : decode cX1_put 92 = .ok (.iload_n 3, 1) := dk_29 (dk_at dksX1_put_4 0 rfl rfl)
theorem dX1_put_93 : decode cX1_put 93 = .ok (.iastore, 1) := dk_79 (dk_at dksX1_put_4 1 rfl rfl)
theorem dX1_put_94 : decode cX1_put 94 = .ok (.iconst 1, 1) := dk_4 (dk_at dksX1_put_4 2 rfl rfl)
theorem dX1_put_95 : decode cX1_put 95 = .ok (.ireturn, 1) := dk_172 (dk_at dksX1_put_4 3 rfl rfl)
abbrev cX1_cell : ByteArray := prog_16_method_64_code
def yX1_cell : MethodName := ⟨RX1, "cell", "(III)J"⟩
def dkwX1_cell_4 : List UInt8 := [16, 60, 27, 104, 28, 96, 46, 133, 173]
abbrev dktX1_cell_4 : List UInt8 := dkwX1_cell_4 ++ []
def dkwX1_cell_3 : List UInt8 := [180, 0, 13, 27, 46, 4, 100, 184, 0, 78, 154, 0, 9, 42, 6, 182, 0, 226, 173, 42, 180, 0, 16]
abbrev dktX1_cell_3 : List UInt8 := dkwX1_cell_3 ++ dktX1_cell_4
def dkwX1_cell_2 : List UInt8 := [182, 0, 226, 173, 42, 180, 0, 9, 27, 46, 16, 247, 160, 0, 9, 42, 4, 182, 0, 226, 173, 28, 3, 42]
abbrev dktX1_cell_2 : List UInt8 := dkwX1_cell_2 ++ dktX1_cell_3
def dkwX1_cell_1 : List UInt8 := [180, 0, 9, 27, 46, 16, 247, 159, 0, 19, 42, 180, 0, 9, 27, 46, 29, 159, 0, 9, 42, 5]
abbrev dktX1_cell_1 : List UInt8 := dkwX1_cell_1 ++ dktX1_cell_2
def dkwX1_cell_0 : List UInt8 := [42, 3, 181, 0, 72, 27, 184, 0, 85, 153, 0, 10, 29, 184, 0, 89, 154, 0, 7, 20, 0, 76, 173, 42]
abbrev dktX1_cell_0 : List UInt8 := dkwX1_cell_0 ++ dktX1_cell_1
theorem dksX1_cell_0 : cX1_cell.data.toList.drop 0 = dktX1_cell_0 := by decide +kernel
theorem dksX1_cell_1 : cX1_cell.data.toList.drop 24 = dktX1_cell_1 := dk_seg dksX1_cell_0 24 rfl rfl
theorem dksX1_cell_2 : cX1_cell.data.toList.drop 46 = dktX1_cell_2 := dk_seg dksX1_cell_1 22 rfl rfl
theorem dksX1_cell_3 : cX1_cell.data.toList.drop 70 = dktX1_cell_3 := dk_seg dksX1_cell_2 24 rfl rfl
theorem dksX1_cell_4 : cX1_cell.data.toList.drop 93 = dktX1_cell_4 := dk_seg dksX1_cell_3 23 rfl rfl
theorem dX1_cell_0 : decode cX1_cell 0 = .ok (.aload_n 0, 1) := dk_42 (dk_at dksX1_cell_0 0 rfl rfl)
theorem dX1_cell_1 : decode cX1_cell 1 = .ok (.iconst 0, 1) := dk_3 (dk_at dksX1_cell_0 1 rfl rfl)
theorem dX1_cell_2 : decode cX1_cell 2 = .ok (.putfield 72, 3) := dk_181 0 72 (dk_at dksX1_cell_0 2 rfl rfl)
theorem dX1_cell_5 : decode cX1_cell 5 = .ok (.iload_n 1, 1) := dk_27 (dk_at dksX1_cell_0 5 rfl rfl)
theorem dX1_cell_6 : decode cX1_cell 6 = .ok (.invokestatic 85, 3) := dk_184 0 85 (dk_at dksX1_cell_0 6 rfl rfl)
theorem dX1_cell_9 : decode cX1_cell 9 = .ok (.ifCond .eq 10, 3) := dk_153 0 10 (dk_at dksX1_cell_0 9 rfl rfl)
theorem dX1_cell_12 : decode cX1_cell 12 = .ok (.iload_n 3, 1) := dk_29 (dk_at dksX1_cell_0 12 rfl rfl)
theorem dX1_cell_13 : decode cX1_cell 13 = .ok (.invokestatic 89, 3) := dk_184 0 89 (dk_at dksX1_cell_0 13 rfl rfl)
theorem dX1_cell_16 : decode cX1_cell 16 = .ok (.ifCond .ne 7, 3) := dk_154 0 7 (dk_at dksX1_cell_0 16 rfl rfl)
theorem dX1_cell_19 : decode cX1_cell 19 = .ok (.ldc2_w 76, 3) := dk_20 0 76 (dk_at dksX1_cell_0 19 rfl rfl)
theorem dX1_cell_22 : decode cX1_cell 22 = .ok (.lreturn, 1) := dk_173 (dk_at dksX1_cell_0 22 rfl rfl)
theorem dX1_cell_23 : decode cX1_cell 23 = .ok (.aload_n 0, 1) := dk_42 (dk_at dksX1_cell_0 23 rfl rfl)
theorem dX1_cell_24 : decode cX1_cell 24 = .ok (.getfield 9, 3) := dk_180 0 9 (dk_at dksX1_cell_1 0 rfl rfl)
theorem dX1_cell_27 : decode cX1_cell 27 = .ok (.iload_n 1, 1) := dk_27 (dk_at dksX1_cell_1 3 rfl rfl)
theorem dX1_cell_28 : decode cX1_cell 28 = .ok (.iaload, 1) := dk_46 (dk_at dksX1_cell_1 4 rfl rfl)
theorem dX1_cell_29 : decode cX1_cell 29 = .ok (.bipush (-9), 2) := dk_16 247 (dk_at dksX1_cell_1 5 rfl rfl)
theorem dX1_cell_31 : decode cX1_cell 31 = .ok (.if_icmp .eq 19, 3) := dk_159 0 19 (dk_at dksX1_cell_1 7 rfl rfl)
theorem dX1_cell_34 : decode cX1_cell 34 = .ok (.aload_n 0, 1) := dk_42 (dk_at dksX1_cell_1 10 rfl rfl)
theorem dX1_cell_35 : decode cX1_cell 35 = .ok (.getfield 9, 3) := dk_180 0 9 (dk_at dksX1_cell_1 11 rfl rfl)
theorem dX1_cell_38 : decode cX1_cell 38 = .ok (.iload_n 1, 1) := dk_27 (dk_at dksX1_cell_1 14 rfl rfl)
theorem dX1_cell_39 : decode cX1_cell 39 = .ok (.iaload, 1) := dk_46 (dk_at dksX1_cell_1 15 rfl rfl)
theorem dX1_cell_40 : decode cX1_cell 40 = .ok (.iload_n 3, 1) := dk_29 (dk_at dksX1_cell_1 16 rfl rfl)
theorem dX1_cell_41 : decode cX1_cell 41 = .ok (.if_icmp .eq 9, 3) := dk_159 0 9 (dk_at dksX1_cell_1 17 rfl rfl)
theorem dX1_cell_44 : decode cX1_cell 44 = .ok (.aload_n 0, 1) := dk_42 (dk_at dksX1_cell_1 20 rfl rfl)
theorem dX1_cell_45 : decode cX1_cell 45 = .ok (.iconst 2, 1) := dk_5 (dk_at dksX1_cell_1 21 rfl rfl)
theorem dX1_cell_46 : decode cX1_cell 46 = .ok (.invokevirtual 226, 3) := dk_182 0 226 (dk_at dksX1_cell_2 0 rfl rfl)
theorem dX1_cell_49 : decode cX1_cell 49 = .ok (.lreturn, 1) := dk_173 (dk_at dksX1_cell_2 3 rfl rfl)
theorem dX1_cell_50 : decode cX1_cell 50 = .ok (.aload_n 0, 1) := dk_42 (dk_at dksX1_cell_2 4 rfl rfl)
theorem dX1_cell_51 : decode cX1_cell 51 = .ok (.getfield 9, 3) := dk_180 0 9 (dk_at dksX1_cell_2 5 rfl rfl)
theorem dX1_cell_54 : decode cX1_cell 54 = .ok (.iload_n 1, 1) := dk_27 (dk_at dksX1_cell_2 8 rfl rfl)
theorem dX1_cell_55 : decode cX1_cell 55 = .ok (.iaload, 1) := dk_46 (dk_at dksX1_cell_2 9 rfl rfl)
theorem dX1_cell_56 : decode cX1_cell 56 = .ok (.bipush (-9), 2) := dk_16 247 (dk_at dksX1_cell_2 10 rfl rfl)
theorem dX1_cell_58 : decode cX1_cell 58 = .ok (.if_icmp .ne 9, 3) := dk_160 0 9 (dk_at dksX1_cell_2 12 rfl rfl)
theorem dX1_cell_61 : decode cX1_cell 61 = .ok (.aload_n 0, 1) := dk_42 (dk_at dksX1_cell_2 15 rfl rfl)
theorem dX1_cell_62 : decode cX1_cell 62 = .ok (.iconst 1, 1) := dk_4 (dk_at dksX1_cell_2 16 rfl rfl)
theorem dX1_cell_63 : decode cX1_cell 63 = .ok (.invokevirtual 226, 3) := dk_182 0 226 (dk_at dksX1_cell_2 17 rfl rfl)
theorem dX1_cell_66 : decode cX1_cell 66 = .ok (.lreturn, 1) := dk_173 (dk_at dksX1_cell_2 20 rfl rfl)
theorem dX1_cell_67 : decode cX1_cell 67 = .ok (.iload_n 2, 1) := dk_28 (dk_at dksX1_cell_2 21 rfl rfl)
theorem dX1_cell_68 : decode cX1_cell 68 = .ok (.iconst 0, 1) := dk_3 (dk_at dksX1_cell_2 22 rfl rfl)
theorem dX1_cell_69 : decode cX1_cell 69 = .ok (.aload_n 0, 1) := dk_42 (dk_at dksX1_cell_2 23 rfl rfl)
theorem dX1_cell_70 : decode cX1_cell 70 = .ok (.getfield 13, 3) := dk_180 0 13 (dk_at dksX1_cell_3 0 rfl rfl)
theorem dX1_cell_73 : decode cX1_cell 73 = .ok (.iload_n 1, 1) := dk_27 (dk_at dksX1_cell_3 3 rfl rfl)
theorem dX1_cell_74 : decode cX1_cell 74 = .ok (.iaload, 1) := dk_46 (dk_at dksX1_cell_3 4 rfl rfl)
theorem dX1_cell_75 : decode cX1_cell 75 = .ok (.iconst 1, 1) := dk_4 (dk_at dksX1_cell_3 5 rfl rfl)
theorem dX1_cell_76 : decode cX1_cell 76 = .ok (.isub, 1) := dk_100 (dk_at dksX1_cell_3 6 rfl rfl)
theorem dX1_cell_77 : decode cX1_cell 77 = .ok (.invokestatic 78, 3) := dk_184 0 78 (dk_at dksX1_cell_3 7 rfl rfl)
theorem dX1_cell_80 : decode cX1_cell 80 = .ok (.ifCond .ne 9, 3) := dk_154 0 9 (dk_at dksX1_cell_3 10 rfl rfl)
theorem dX1_cell_83 : decode cX1_cell 83 = .ok (.aload_n 0, 1) := dk_42 (dk_at dksX1_cell_3 13 rfl rfl)
theorem dX1_cell_84 : decode cX1_cell 84 = .ok (.iconst 3, 1) := dk_6 (dk_at dksX1_cell_3 14 rfl rfl)
theorem dX1_cell_85 : decode cX1_cell 85 = .ok (.invokevirtual 226, 3) := dk_182 0 226 (dk_at dksX1_cell_3 15 rfl rfl)
theorem dX1_cell_88 : decode cX1_cell 88 = .ok (.lreturn, 1) := dk_173 (dk_at dksX1_cell_3 18 rfl rfl)
theorem dX1_cell_89 : decode cX1_cell 89 = .ok (.aload_n 0, 1) := dk_42 (dk_at dksX1_cell_3 19 rfl rfl)
theorem dX1_cell_90 : decode cX1_cell 90 = .ok (.getfield 16, 3) := dk_180 0 16 (dk_at dksX1_cell_3 20 rfl rfl)
theorem dX1_cell_93 : decode cX1_cell 93 = .ok (.bipush 60, 2) := dk_16 60 (dk_at dksX1_cell_4 0 rfl rfl)
theorem dX1_cell_95 : decode cX1_cell 95 = .ok (.iload_n 1, 1) := dk_27 (dk_at dksX1_cell_4 2 rfl rfl)
theorem dX1_cell_96 : decode cX1_cell 96 = .ok (.imul, 1) := dk_104 (dk_at dksX1_cell_4 3 rfl rfl)
theorem dX1_cell_97 : decode cX1_cell 97 = .ok (.iload_n 2, 1) := dk_28 (dk_at dksX1_cell_4 4 rfl rfl)
theorem dX1_cell_98 : decode cX1_cell 98 = .ok (.iadd, 1) := dk_96 (dk_at dksX1_cell_4 5 rfl rfl)
theorem dX1_cell_99 : decode cX1_cell 99 = .ok (.iaload, 1) := dk_46 (dk_at dksX1_cell_4 6 rfl rfl)
theorem dX1_cell_100 : decode cX1_cell 100 = .ok (.i2l, 1) := dk_133 (dk_at dksX1_cell_4 7 rfl rfl)
theorem dX1_cell_101 : decode cX1_cell 101 = .ok (.lreturn, 1) := dk_173 (dk_at dksX1_cell_4 8 rfl rfl)
abbrev cX1_lost : ByteArray := prog_16_method_4_code
def yX1_lost : MethodName := ⟨RX1, "lost", "(I)J"⟩
def dkwX1_lost_0 : List UInt8 := [42, 27, 181, 0, 72, 20, 0, 76, 173]
abbrev dktX1_lost_0 : List UInt8 := dkwX1_lost_0 ++ []
theorem dksX1_lost_0 : cX1_lost.data.toList.drop 0 = dktX1_lost_0 := by decide +kernel
theorem dX1_lost_0 : decode cX1_lost 0 = .ok (.aload_n 0, 1) := dk_42 (dk_at dksX1_lost_0 0 rfl rfl)
theorem dX1_lost_1 : decode cX1_lost 1 = .ok (.iload_n 1, 1) := dk_27 (dk_at dksX1_lost_0 1 rfl rfl)
theorem dX1_lost_2 : decode cX1_lost 2 = .ok (.putfield 72, 3) := dk_181 0 72 (dk_at dksX1_lost_0 2 rfl rfl)
theorem dX1_lost_5 : decode cX1_lost 5 = .ok (.ldc2_w 76, 3) := dk_20 0 76 (dk_at dksX1_lost_0 5 rfl rfl)
theorem dX1_lost_8 : decode cX1_lost 8 = .ok (.lreturn, 1) := dk_173 (dk_at dksX1_lost_0 8 rfl rfl)
abbrev cX1_copy : ByteArray := prog_16_method_65_code
def yX1_copy : MethodName := ⟨RX1, "copy", "(IIIII)I"⟩
def dkwX1_copy_9 : List UInt8 := [180, 0, 16, 16, 60, 27, 104, 28, 96, 21, 9, 96, 46, 79, 132, 8, 1, 167, 255, 198, 21, 5, 172]
abbrev dktX1_copy_9 : List UInt8 := dkwX1_copy_9 ++ []
def dkwX1_copy_8 : List UInt8 := [167, 0, 5, 21, 8, 54, 9, 42, 180, 0, 16, 16, 60, 29, 104, 21, 4, 96, 21, 9, 96, 42]
abbrev dktX1_copy_8 : List UInt8 := dkwX1_copy_8 ++ dktX1_copy_9
def dkwX1_copy_7 : List UInt8 := [54, 7, 3, 54, 8, 21, 8, 21, 5, 162, 0, 57, 21, 7, 153, 0, 13, 21, 5, 4, 100, 21, 8, 100]
abbrev dktX1_copy_7 : List UInt8 := dkwX1_copy_7 ++ dktX1_copy_8
def dkwX1_copy_6 : List UInt8 := [21, 4, 100, 164, 0, 9, 42, 6, 182, 0, 92, 172, 28, 21, 4, 162, 0, 7, 4, 167, 0, 4, 3]
abbrev dktX1_copy_6 : List UInt8 := dkwX1_copy_6 ++ dktX1_copy_7
def dkwX1_copy_5 : List UInt8 := [153, 0, 30, 21, 5, 42, 180, 0, 13, 27, 46, 28, 100, 163, 0, 17, 21, 5, 42, 180, 0, 13, 29, 46]
abbrev dktX1_copy_5 : List UInt8 := dkwX1_copy_5 ++ dktX1_copy_6
def dkwX1_copy_4 : List UInt8 := [163, 0, 18, 21, 4, 42, 180, 0, 13, 29, 46, 163, 0, 7, 4, 167, 0, 4, 3, 54, 6, 21, 6]
abbrev dktX1_copy_4 : List UInt8 := dkwX1_copy_4 ++ dktX1_copy_5
def dkwX1_copy_3 : List UInt8 := [172, 28, 155, 0, 38, 21, 4, 155, 0, 33, 21, 5, 155, 0, 28, 28, 42, 180, 0, 13, 27, 46]
abbrev dktX1_copy_3 : List UInt8 := dkwX1_copy_3 ++ dktX1_copy_4
def dkwX1_copy_2 : List UInt8 := [182, 0, 92, 172, 42, 180, 0, 9, 27, 46, 42, 180, 0, 9, 29, 46, 159, 0, 9, 42, 5, 182, 0, 92]
abbrev dktX1_copy_2 : List UInt8 := dkwX1_copy_2 ++ dktX1_copy_3
def dkwX1_copy_1 : List UInt8 := [180, 0, 9, 27, 46, 16, 247, 159, 0, 14, 42, 180, 0, 9, 29, 46, 16, 247, 160, 0, 9, 42, 4]
abbrev dktX1_copy_1 : List UInt8 := dkwX1_copy_1 ++ dktX1_copy_2
def dkwX1_copy_0 : List UInt8 := [42, 3, 181, 0, 72, 27, 184, 0, 85, 153, 0, 10, 29, 184, 0, 85, 154, 0, 5, 2, 172, 42]
abbrev dktX1_copy_0 : List UInt8 := dkwX1_copy_0 ++ dktX1_copy_1
theorem dksX1_copy_0 : cX1_copy.data.toList.drop 0 = dktX1_copy_0 := by decide +kernel
theorem dksX1_copy_1 : cX1_copy.data.toList.drop 22 = dktX1_copy_1 := dk_seg dksX1_copy_0 22 rfl rfl
theorem dksX1_copy_2 : cX1_copy.data.toList.drop 45 = dktX1_copy_2 := dk_seg dksX1_copy_1 23 rfl rfl
theorem dksX1_copy_3 : cX1_copy.data.toList.drop 69 = dktX1_copy_3 := dk_seg dksX1_copy_2 24 rfl rfl
theorem dksX1_copy_4 : cX1_copy.data.toList.drop 91 = dktX1_copy_4 := dk_seg dksX1_copy_3 22 rfl rfl
theorem dksX1_copy_5 : cX1_copy.data.toList.drop 114 = dktX1_copy_5 := dk_seg dksX1_copy_4 23 rfl rfl
theorem dksX1_copy_6 : cX1_copy.data.toList.drop 138 = dktX1_copy_6 := dk_seg dksX1_copy_5 24 rfl rfl
theorem dksX1_copy_7 : cX1_copy.data.toList.drop 161 = dktX1_copy_7 := dk_seg dksX1_copy_6 23 rfl rfl
theorem dksX1_copy_8 : cX1_copy.data.toList.drop 185 = dktX1_copy_8 := dk_seg dksX1_copy_7 24 rfl rfl
theorem dksX1_copy_9 : cX1_copy.data.toList.drop 207 = dktX1_copy_9 := dk_seg dksX1_copy_8 22 rfl rfl
theorem dX1_copy_0 : decode cX1_copy 0 = .ok (.aload_n 0, 1) := dk_42 (dk_at dksX1_copy_0 0 rfl rfl)
theorem dX1_copy_1 : decode cX1_copy 1 = .ok (.iconst 0, 1) := dk_3 (dk_at dksX1_copy_0 1 rfl rfl)
theorem dX1_copy_2 : decode cX1_copy 2 = .ok (.putfield 72, 3) := dk_181 0 72 (dk_at dksX1_copy_0 2 rfl rfl)
theorem dX1_copy_5 : decode cX1_copy 5 = .ok (.iload_n 1, 1) := dk_27 (dk_at dksX1_copy_0 5 rfl rfl)
theorem dX1_copy_6 : decode cX1_copy 6 = .ok (.invokestatic 85, 3) := dk_184 0 85 (dk_at dksX1_copy_0 6 rfl rfl)
theorem dX1_copy_9 : decode cX1_copy 9 = .ok (.ifCond .eq 10, 3) := dk_153 0 10 (dk_at dksX1_copy_0 9 rfl rfl)
theorem dX1_copy_12 : decode cX1_copy 12 = .ok (.iload_n 3, 1) := dk_29 (dk_at dksX1_copy_0 12 rfl rfl)
theorem dX1_copy_13 : decode cX1_copy 13 = .ok (.invokestatic 85, 3) := dk_184 0 85 (dk_at dksX1_copy_0 13 rfl rfl)
theorem dX1_copy_16 : decode cX1_copy 16 = .ok (.ifCond .ne 5, 3) := dk_154 0 5 (dk_at dksX1_copy_0 16 rfl rfl)
theorem dX1_copy_19 : decode cX1_copy 19 = .ok (.iconst (-1), 1) := dk_2 (dk_at dksX1_copy_0 19 rfl rfl)
theorem dX1_copy_20 : decode cX1_copy 20 = .ok (.ireturn, 1) := dk_172 (dk_at dksX1_copy_0 20 rfl rfl)
theorem dX1_copy_21 : decode cX1_copy 21 = .ok (.aload_n 0, 1) := dk_42 (dk_at dksX1_copy_0 21 rfl rfl)
theorem dX1_copy_22 : decode cX1_copy 22 = .ok (.getfield 9, 3) := dk_180 0 9 (dk_at dksX1_copy_1 0 rfl rfl)
theorem dX1_copy_25 : decode cX1_copy 25 = .ok (.iload_n 1, 1) := dk_27 (dk_at dksX1_copy_1 3 rfl rfl)
theorem dX1_copy_26 : decode cX1_copy 26 = .ok (.iaload, 1) := dk_46 (dk_at dksX1_copy_1 4 rfl rfl)
theorem dX1_copy_27 : decode cX1_copy 27 = .ok (.bipush (-9), 2) := dk_16 247 (dk_at dksX1_copy_1 5 rfl rfl)
theorem dX1_copy_29 : decode cX1_copy 29 = .ok (.if_icmp .eq 14, 3) := dk_159 0 14 (dk_at dksX1_copy_1 7 rfl rfl)
theorem dX1_copy_32 : decode cX1_copy 32 = .ok (.aload_n 0, 1) := dk_42 (dk_at dksX1_copy_1 10 rfl rfl)
theorem dX1_copy_33 : decode cX1_copy 33 = .ok (.getfield 9, 3) := dk_180 0 9 (dk_at dksX1_copy_1 11 rfl rfl)
theorem dX1_copy_36 : decode cX1_copy 36 = .ok (.iload_n 3, 1) := dk_29 (dk_at dksX1_copy_1 14 rfl rfl)
theorem dX1_copy_37 : decode cX1_copy 37 = .ok (.iaload, 1) := dk_46 (dk_at dksX1_copy_1 15 rfl rfl)
theorem dX1_copy_38 : decode cX1_copy 38 = .ok (.bipush (-9), 2) := dk_16 247 (dk_at dksX1_copy_1 16 rfl rfl)
theorem dX1_copy_40 : decode cX1_copy 40 = .ok (.if_icmp .ne 9, 3) := dk_160 0 9 (dk_at dksX1_copy_1 18 rfl rfl)
theorem dX1_copy_43 : decode cX1_copy 43 = .ok (.aload_n 0, 1) := dk_42 (dk_at dksX1_copy_1 21 rfl rfl)
theorem dX1_copy_44 : decode cX1_copy 44 = .ok (.iconst 1, 1) := dk_4 (dk_at dksX1_copy_1 22 rfl rfl)
theorem dX1_copy_45 : decode cX1_copy 45 = .ok (.invokevirtual 92, 3) := dk_182 0 92 (dk_at dksX1_copy_2 0 rfl rfl)
theorem dX1_copy_48 : decode cX1_copy 48 = .ok (.ireturn, 1) := dk_172 (dk_at dksX1_copy_2 3 rfl rfl)
theorem dX1_copy_49 : decode cX1_copy 49 = .ok (.aload_n 0, 1) := dk_42 (dk_at dksX1_copy_2 4 rfl rfl)
theorem dX1_copy_50 : decode cX1_copy 50 = .ok (.getfield 9, 3) := dk_180 0 9 (dk_at dksX1_copy_2 5 rfl rfl)
theorem dX1_copy_53 : decode cX1_copy 53 = .ok (.iload_n 1, 1) := dk_27 (dk_at dksX1_copy_2 8 rfl rfl)
theorem dX1_copy_54 : decode cX1_copy 54 = .ok (.iaload, 1) := dk_46 (dk_at dksX1_copy_2 9 rfl rfl)
theorem dX1_copy_55 : decode cX1_copy 55 = .ok (.aload_n 0, 1) := dk_42 (dk_at dksX1_copy_2 10 rfl rfl)
theorem dX1_copy_56 : decode cX1_copy 56 = .ok (.getfield 9, 3) := dk_180 0 9 (dk_at dksX1_copy_2 11 rfl rfl)
theorem dX1_copy_59 : decode cX1_copy 59 = .ok (.iload_n 3, 1) := dk_29 (dk_at dksX1_copy_2 14 rfl rfl)
theorem dX1_copy_60 : decode cX1_copy 60 = .ok (.iaload, 1) := dk_46 (dk_at dksX1_copy_2 15 rfl rfl)
theorem dX1_copy_61 : decode cX1_copy 61 = .ok (.if_icmp .eq 9, 3) := dk_159 0 9 (dk_at dksX1_copy_2 16 rfl rfl)
theorem dX1_copy_64 : decode cX1_copy 64 = .ok (.aload_n 0, 1) := dk_42 (dk_at dksX1_copy_2 19 rfl rfl)
theorem dX1_copy_65 : decode cX1_copy 65 = .ok (.iconst 2, 1) := dk_5 (dk_at dksX1_copy_2 20 rfl rfl)
theorem dX1_copy_66 : decode cX1_copy 66 = .ok (.invokevirtual 92, 3) := dk_182 0 92 (dk_at dksX1_copy_2 21 rfl rfl)
theorem dX1_copy_69 : decode cX1_copy 69 = .ok (.ireturn, 1) := dk_172 (dk_at dksX1_copy_3 0 rfl rfl)
theorem dX1_copy_70 : decode cX1_copy 70 = .ok (.iload_n 2, 1) := dk_28 (dk_at dksX1_copy_3 1 rfl rfl)
theorem dX1_copy_71 : decode cX1_copy 71 = .ok (.ifCond .lt 38, 3) := dk_155 0 38 (dk_at dksX1_copy_3 2 rfl rfl)
theorem dX1_copy_74 : decode cX1_copy 74 = .ok (.iload 4, 2) := dk_21 4 (dk_at dksX1_copy_3 5 rfl rfl)
theorem dX1_copy_76 : decode cX1_copy 76 = .ok (.ifCond .lt 33, 3) := dk_155 0 33 (dk_at dksX1_copy_3 7 rfl rfl)
theorem dX1_copy_79 : decode cX1_copy 79 = .ok (.iload 5, 2) := dk_21 5 (dk_at dksX1_copy_3 10 rfl rfl)
theorem dX1_copy_81 : decode cX1_copy 81 = .ok (.ifCond .lt 28, 3) := dk_155 0 28 (dk_at dksX1_copy_3 12 rfl rfl)
theorem dX1_copy_84 : decode cX1_copy 84 = .ok (.iload_n 2, 1) := dk_28 (dk_at dksX1_copy_3 15 rfl rfl)
theorem dX1_copy_85 : decode cX1_copy 85 = .ok (.aload_n 0, 1) := dk_42 (dk_at dksX1_copy_3 16 rfl rfl)
theorem dX1_copy_86 : decode cX1_copy 86 = .ok (.getfield 13, 3) := dk_180 0 13 (dk_at dksX1_copy_3 17 rfl rfl)
theorem dX1_copy_89 : decode cX1_copy 89 = .ok (.iload_n 1, 1) := dk_27 (dk_at dksX1_copy_3 20 rfl rfl)
theorem dX1_copy_90 : decode cX1_copy 90 = .ok (.iaload, 1) := dk_46 (dk_at dksX1_copy_3 21 rfl rfl)
theorem dX1_copy_91 : decode cX1_copy 91 = .ok (.if_icmp .gt 18, 3) := dk_163 0 18 (dk_at dksX1_copy_4 0 rfl rfl)
theorem dX1_copy_94 : decode cX1_copy 94 = .ok (.iload 4, 2) := dk_21 4 (dk_at dksX1_copy_4 3 rfl rfl)
theorem dX1_copy_96 : decode cX1_copy 96 = .ok (.aload_n 0, 1) := dk_42 (dk_at dksX1_copy_4 5 rfl rfl)
theorem dX1_copy_97 : decode cX1_copy 97 = .ok (.getfield 13, 3) := dk_180 0 13 (dk_at dksX1_copy_4 6 rfl rfl)
theorem dX1_copy_100 : decode cX1_copy 100 = .ok (.iload_n 3, 1) := dk_29 (dk_at dksX1_copy_4 9 rfl rfl)
theorem dX1_copy_101 : decode cX1_copy 101 = .ok (.iaload, 1) := dk_46 (dk_at dksX1_copy_4 10 rfl rfl)
theorem dX1_copy_102 : decode cX1_copy 102 = .ok (.if_icmp .gt 7, 3) := dk_163 0 7 (dk_at dksX1_copy_4 11 rfl rfl)
theorem dX1_copy_105 : decode cX1_copy 105 = .ok (.iconst 1, 1) := dk_4 (dk_at dksX1_copy_4 14 rfl rfl)
theorem dX1_copy_106 : decode cX1_copy 106 = .ok (.goto 4, 3) := dk_167 0 4 (dk_at dksX1_copy_4 15 rfl rfl)
theorem dX1_copy_109 : decode cX1_copy 109 = .ok (.iconst 0, 1) := dk_3 (dk_at dksX1_copy_4 18 rfl rfl)
theorem dX1_copy_110 : decode cX1_copy 110 = .ok (.istore 6, 2) := dk_54 6 (dk_at dksX1_copy_4 19 rfl rfl)
theorem dX1_copy_112 : decode cX1_copy 112 = .ok (.iload 6, 2) := dk_21 6 (dk_at dksX1_copy_4 21 rfl rfl)
theorem dX1_copy_114 : decode cX1_copy 114 = .ok (.ifCond .eq 30, 3) := dk_153 0 30 (dk_at dksX1_copy_5 0 rfl rfl)
theorem dX1_copy_117 : decode cX1_copy 117 = .ok (.iload 5, 2) := dk_21 5 (dk_at dksX1_copy_5 3 rfl rfl)
theorem dX1_copy_119 : decode cX1_copy 119 = .ok (.aload_n 0, 1) := dk_42 (dk_at dksX1_copy_5 5 rfl rfl)
theorem dX1_copy_120 : decode cX1_copy 120 = .ok (.getfield 13, 3) := dk_180 0 13 (dk_at dksX1_copy_5 6 rfl rfl)
theorem dX1_copy_123 : decode cX1_copy 123 = .ok (.iload_n 1, 1) := dk_27 (dk_at dksX1_copy_5 9 rfl rfl)
theorem dX1_copy_124 : decode cX1_copy 124 = .ok (.iaload, 1) := dk_46 (dk_at dksX1_copy_5 10 rfl rfl)
theorem dX1_copy_125 : decode cX1_copy 125 = .ok (.iload_n 2, 1) := dk_28 (dk_at dksX1_copy_5 11 rfl rfl)
theorem dX1_copy_126 : decode cX1_copy 126 = .ok (.isub, 1) := dk_100 (dk_at dksX1_copy_5 12 rfl rfl)
theorem dX1_copy_127 : decode cX1_copy 127 = .ok (.if_icmp .gt 17, 3) := dk_163 0 17 (dk_at dksX1_copy_5 13 rfl rfl)
theorem dX1_copy_130 : decode cX1_copy 130 = .ok (.iload 5, 2) := dk_21 5 (dk_at dksX1_copy_5 16 rfl rfl)
theorem dX1_copy_132 : decode cX1_copy 132 = .ok (.aload_n 0, 1) := dk_42 (dk_at dksX1_copy_5 18 rfl rfl)
theorem dX1_copy_133 : decode cX1_copy 133 = .ok (.getfield 13, 3) := dk_180 0 13 (dk_at dksX1_copy_5 19 rfl rfl)
theorem dX1_copy_136 : decode cX1_copy 136 = .ok (.iload_n 3, 1) := dk_29 (dk_at dksX1_copy_5 22 rfl rfl)
theorem dX1_copy_137 : decode cX1_copy 137 = .ok (.iaload, 1) := dk_46 (dk_at dksX1_copy_5 23 rfl rfl)
theorem dX1_copy_138 : decode cX1_copy 138 = .ok (.iload 4, 2) := dk_21 4 (dk_at dksX1_copy_6 0 rfl rfl)
theorem dX1_copy_140 : decode cX1_copy 140 = .ok (.isub, 1) := dk_100 (dk_at dksX1_copy_6 2 rfl rfl)
theorem dX1_copy_141 : decode cX1_copy 141 = .ok (.if_icmp .le 9, 3) := dk_164 0 9 (dk_at dksX1_copy_6 3 rfl rfl)
theorem dX1_copy_144 : decode cX1_copy 144 = .ok (.aload_n 0, 1) := dk_42 (dk_at dksX1_copy_6 6 rfl rfl)
theorem dX1_copy_145 : decode cX1_copy 145 = .ok (.iconst 3, 1) := dk_6 (dk_at dksX1_copy_6 7 rfl rfl)
theorem dX1_copy_146 : decode cX1_copy 146 = .ok (.invokevirtual 92, 3) := dk_182 0 92 (dk_at dksX1_copy_6 8 rfl rfl)
theorem dX1_copy_149 : decode cX1_copy 149 = .ok (.ireturn, 1) := dk_172 (dk_at dksX1_copy_6 11 rfl rfl)
theorem dX1_copy_150 : decode cX1_copy 150 = .ok (.iload_n 2, 1) := dk_28 (dk_at dksX1_copy_6 12 rfl rfl)
theorem dX1_copy_151 : decode cX1_copy 151 = .ok (.iload 4, 2) := dk_21 4 (dk_at dksX1_copy_6 13 rfl rfl)
theorem dX1_copy_153 : decode cX1_copy 153 = .ok (.if_icmp .ge 7, 3) := dk_162 0 7 (dk_at dksX1_copy_6 15 rfl rfl)
theorem dX1_copy_156 : decode cX1_copy 156 = .ok (.iconst 1, 1) := dk_4 (dk_at dksX1_copy_6 18 rfl rfl)
theorem dX1_copy_157 : decode cX1_copy 157 = .ok (.goto 4, 3) := dk_167 0 4 (dk_at dksX1_copy_6 19 rfl rfl)
theorem dX1_copy_160 : decode cX1_copy 160 = .ok (.iconst 0, 1) := dk_3 (dk_at dksX1_copy_6 22 rfl rfl)
theorem dX1_copy_161 : decode cX1_copy 161 = .ok (.istore 7, 2) := dk_54 7 (dk_at dksX1_copy_7 0 rfl rfl)
theorem dX1_copy_163 : decode cX1_copy 163 = .ok (.iconst 0, 1) := dk_3 (dk_at dksX1_copy_7 2 rfl rfl)
theorem dX1_copy_164 : decode cX1_copy 164 = .ok (.istore 8, 2) := dk_54 8 (dk_at dksX1_copy_7 3 rfl rfl)
theorem dX1_copy_166 : decode cX1_copy 166 = .ok (.iload 8, 2) := dk_21 8 (dk_at dksX1_copy_7 5 rfl rfl)
theorem dX1_copy_168 : decode cX1_copy 168 = .ok (.iload 5, 2) := dk_21 5 (dk_at dksX1_copy_7 7 rfl rfl)
theorem dX1_copy_170 : decode cX1_copy 170 = .ok (.if_icmp .ge 57, 3) := dk_162 0 57 (dk_at dksX1_copy_7 9 rfl rfl)
theorem dX1_copy_173 : decode cX1_copy 173 = .ok (.iload 7, 2) := dk_21 7 (dk_at dksX1_copy_7 12 rfl rfl)
theorem dX1_copy_175 : decode cX1_copy 175 = .ok (.ifCond .eq 13, 3) := dk_153 0 13 (dk_at dksX1_copy_7 14 rfl rfl)
theorem dX1_copy_178 : decode cX1_copy 178 = .ok (.iload 5, 2) := dk_21 5 (dk_at dksX1_copy_7 17 rfl rfl)
theorem dX1_copy_180 : decode cX1_copy 180 = .ok (.iconst 1, 1) := dk_4 (dk_at dksX1_copy_7 19 rfl rfl)
theorem dX1_copy_181 : decode cX1_copy 181 = .ok (.isub, 1) := dk_100 (dk_at dksX1_copy_7 20 rfl rfl)
theorem dX1_copy_182 : decode cX1_copy 182 = .ok (.iload 8, 2) := dk_21 8 (dk_at dksX1_copy_7 21 rfl rfl)
theorem dX1_copy_184 : decode cX1_copy 184 = .ok (.isub, 1) := dk_100 (dk_at dksX1_copy_7 23 rfl rfl)
theorem dX1_copy_185 : decode cX1_copy 185 = .ok (.goto 5, 3) := dk_167 0 5 (dk_at dksX1_copy_8 0 rfl rfl)
theorem dX1_copy_188 : decode cX1_copy 188 = .ok (.iload 8, 2) := dk_21 8 (dk_at dksX1_copy_8 3 rfl rfl)
theorem dX1_copy_190 : decode cX1_copy 190 = .ok (.istore 9, 2) := dk_54 9 (dk_at dksX1_copy_8 5 rfl rfl)
theorem dX1_copy_192 : decode cX1_copy 192 = .ok (.aload_n 0, 1) := dk_42 (dk_at dksX1_copy_8 7 rfl rfl)
theorem dX1_copy_193 : decode cX1_copy 193 = .ok (.getfield 16, 3) := dk_180 0 16 (dk_at dksX1_copy_8 8 rfl rfl)
theorem dX1_copy_196 : decode cX1_copy 196 = .ok (.bipush 60, 2) := dk_16 60 (dk_at dksX1_copy_8 11 rfl rfl)
theorem dX1_copy_198 : decode cX1_copy 198 = .ok (.iload_n 3, 1) := dk_29 (dk_at dksX1_copy_8 13 rfl rfl)
theorem dX1_copy_199 : decode cX1_copy 199 = .ok (.imul, 1) := dk_104 (dk_at dksX1_copy_8 14 rfl rfl)
theorem dX1_copy_200 : decode cX1_copy 200 = .ok (.iload 4, 2) := dk_21 4 (dk_at dksX1_copy_8 15 rfl rfl)
theorem dX1_copy_202 : decode cX1_copy 202 = .ok (.iadd, 1) := dk_96 (dk_at dksX1_copy_8 17 rfl rfl)
theorem dX1_copy_203 : decode cX1_copy 203 = .ok (.iload 9, 2) := dk_21 9 (dk_at dksX1_copy_8 18 rfl rfl)
theorem dX1_copy_205 : decode cX1_copy 205 = .ok (.iadd, 1) := dk_96 (dk_at dksX1_copy_8 20 rfl rfl)
theorem dX1_copy_206 : decode cX1_copy 206 = .ok (.aload_n 0, 1) := dk_42 (dk_at dksX1_copy_8 21 rfl rfl)
theorem dX1_copy_207 : decode cX1_copy 207 = .ok (.getfield 16, 3) := dk_180 0 16 (dk_at dksX1_copy_9 0 rfl rfl)
theorem dX1_copy_210 : decode cX1_copy 210 = .ok (.bipush 60, 2) := dk_16 60 (dk_at dksX1_copy_9 3 rfl rfl)
theorem dX1_copy_212 : decode cX1_copy 212 = .ok (.iload_n 1, 1) := dk_27 (dk_at dksX1_copy_9 5 rfl rfl)
theorem dX1_copy_213 : decode cX1_copy 213 = .ok (.imul, 1) := dk_104 (dk_at dksX1_copy_9 6 rfl rfl)
theorem dX1_copy_214 : decode cX1_copy 214 = .ok (.iload_n 2, 1) := dk_28 (dk_at dksX1_copy_9 7 rfl rfl)
theorem dX1_copy_215 : decode cX1_copy 215 = .ok (.iadd, 1) := dk_96 (dk_at dksX1_copy_9 8 rfl rfl)
theorem dX1_copy_216 : decode cX1_copy 216 = .ok (.iload 9, 2) := dk_21 9 (dk_at dksX1_copy_9 9 rfl rfl)
theorem dX1_copy_218 : decode cX1_copy 218 = .ok (.iadd, 1) := dk_96 (dk_at dksX1_copy_9 11 rfl rfl)
theorem dX1_copy_219 : decode cX1_copy 219 = .ok (.iaload, 1) := dk_46 (dk_at dksX1_copy_9 12 rfl rfl)
theorem dX1_copy_220 : decode cX1_copy 220 = .ok (.iastore, 1) := dk_79 (dk_at dksX1_copy_9 13 rfl rfl)
theorem dX1_copy_221 : decode cX1_copy 221 = .ok (.iinc 8 1, 3) := dk_132 8 1 (dk_at dksX1_copy_9 14 rfl rfl)
theorem dX1_copy_224 : decode cX1_copy 224 = .ok (.goto (-58), 3) := dk_167 255 198 (dk_at dksX1_copy_9 17 rfl rfl)
theorem dX1_copy_227 : decode cX1_copy 227 = .ok (.iload 5, 2) := dk_21 5 (dk_at dksX1_copy_9 20 rfl rfl)
theorem dX1_copy_229 : decode cX1_copy 229 = .ok (.ireturn, 1) := dk_172 (dk_at dksX1_copy_9 22 rfl rfl)
abbrev cX1_tell : ByteArray := prog_16_method_67_code
def yX1_tell : MethodName := ⟨RX1, "tell", "(I)I"⟩
def dkwX1_tell_5 : List UInt8 := [42, 4, 182, 0, 233, 42, 4, 182, 0, 233, 5, 28, 104, 29, 96, 172, 42, 4, 182, 0, 233, 28, 172]
abbrev dktX1_tell_5 : List UInt8 := dkwX1_tell_5 ++ []
def dkwX1_tell_4 : List UInt8 := [42, 5, 182, 0, 233, 42, 4, 182, 0, 233, 28, 29, 96, 172, 42, 6, 182, 0, 233, 42, 5, 182, 0, 233]
abbrev dktX1_tell_4 : List UInt8 := dkwX1_tell_4 ++ dktX1_tell_5
def dkwX1_tell_3 : List UInt8 := [171, 0, 0, 0, 0, 0, 67, 0, 0, 0, 2, 0, 0, 0, 1, 0, 0, 0, 27, 0, 0, 0, 2, 0, 0, 0, 41]
abbrev dktX1_tell_3 : List UInt8 := dkwX1_tell_3 ++ dktX1_tell_4
def dkwX1_tell_2 : List UInt8 := [180, 0, 28, 27, 46, 182, 0, 138, 184, 0, 141, 96, 104, 62, 42, 27, 182, 0, 147]
abbrev dktX1_tell_2 : List UInt8 := dkwX1_tell_2 ++ dktX1_tell_3
def dkwX1_tell_1 : List UInt8 := [46, 96, 61, 16, 100, 42, 27, 42, 180, 0, 25, 27, 46, 182, 0, 138, 184, 0, 141, 42, 27, 42]
abbrev dktX1_tell_1 : List UInt8 := dkwX1_tell_1 ++ dktX1_tell_2
def dkwX1_tell_0 : List UInt8 := [42, 27, 182, 0, 144, 154, 0, 5, 2, 172, 16, 10, 42, 180, 0, 25, 27, 46, 104, 42, 180, 0, 28, 27]
abbrev dktX1_tell_0 : List UInt8 := dkwX1_tell_0 ++ dktX1_tell_1
theorem dksX1_tell_0 : cX1_tell.data.toList.drop 0 = dktX1_tell_0 := by decide +kernel
theorem dksX1_tell_1 : cX1_tell.data.toList.drop 24 = dktX1_tell_1 := dk_seg dksX1_tell_0 24 rfl rfl
theorem dksX1_tell_2 : cX1_tell.data.toList.drop 46 = dktX1_tell_2 := dk_seg dksX1_tell_1 22 rfl rfl
theorem dksX1_tell_3 : cX1_tell.data.toList.drop 65 = dktX1_tell_3 := dk_seg dksX1_tell_2 19 rfl rfl
theorem dksX1_tell_4 : cX1_tell.data.toList.drop 92 = dktX1_tell_4 := dk_seg dksX1_tell_3 27 rfl rfl
theorem dksX1_tell_5 : cX1_tell.data.toList.drop 116 = dktX1_tell_5 := dk_seg dksX1_tell_4 24 rfl rfl
theorem dX1_tell_0 : decode cX1_tell 0 = .ok (.aload_n 0, 1) := dk_42 (dk_at dksX1_tell_0 0 rfl rfl)
theorem dX1_tell_1 : decode cX1_tell 1 = .ok (.iload_n 1, 1) := dk_27 (dk_at dksX1_tell_0 1 rfl rfl)
theorem dX1_tell_2 : decode cX1_tell 2 = .ok (.invokevirtual 144, 3) := dk_182 0 144 (dk_at dksX1_tell_0 2 rfl rfl)
theorem dX1_tell_5 : decode cX1_tell 5 = .ok (.ifCond .ne 5, 3) := dk_154 0 5 (dk_at dksX1_tell_0 5 rfl rfl)
theorem dX1_tell_8 : decode cX1_tell 8 = .ok (.iconst (-1), 1) := dk_2 (dk_at dksX1_tell_0 8 rfl rfl)
theorem dX1_tell_9 : decode cX1_tell 9 = .ok (.ireturn, 1) := dk_172 (dk_at dksX1_tell_0 9 rfl rfl)
theorem dX1_tell_10 : decode cX1_tell 10 = .ok (.bipush 10, 2) := dk_16 10 (dk_at dksX1_tell_0 10 rfl rfl)
theorem dX1_tell_12 : decode cX1_tell 12 = .ok (.aload_n 0, 1) := dk_42 (dk_at dksX1_tell_0 12 rfl rfl)
theorem dX1_tell_13 : decode cX1_tell 13 = .ok (.getfield 25, 3) := dk_180 0 25 (dk_at dksX1_tell_0 13 rfl rfl)
theorem dX1_tell_16 : decode cX1_tell 16 = .ok (.iload_n 1, 1) := dk_27 (dk_at dksX1_tell_0 16 rfl rfl)
theorem dX1_tell_17 : decode cX1_tell 17 = .ok (.iaload, 1) := dk_46 (dk_at dksX1_tell_0 17 rfl rfl)
theorem dX1_tell_18 : decode cX1_tell 18 = .ok (.imul, 1) := dk_104 (dk_at dksX1_tell_0 18 rfl rfl)
theorem dX1_tell_19 : decode cX1_tell 19 = .ok (.aload_n 0, 1) := dk_42 (dk_at dksX1_tell_0 19 rfl rfl)
theorem dX1_tell_20 : decode cX1_tell 20 = .ok (.getfield 28, 3) := dk_180 0 28 (dk_at dksX1_tell_0 20 rfl rfl)
theorem dX1_tell_23 : decode cX1_tell 23 = .ok (.iload_n 1, 1) := dk_27 (dk_at dksX1_tell_0 23 rfl rfl)
theorem dX1_tell_24 : decode cX1_tell 24 = .ok (.iaload, 1) := dk_46 (dk_at dksX1_tell_1 0 rfl rfl)
theorem dX1_tell_25 : decode cX1_tell 25 = .ok (.iadd, 1) := dk_96 (dk_at dksX1_tell_1 1 rfl rfl)
theorem dX1_tell_26 : decode cX1_tell 26 = .ok (.istore_n 2, 1) := dk_61 (dk_at dksX1_tell_1 2 rfl rfl)
theorem dX1_tell_27 : decode cX1_tell 27 = .ok (.bipush 100, 2) := dk_16 100 (dk_at dksX1_tell_1 3 rfl rfl)
theorem dX1_tell_29 : decode cX1_tell 29 = .ok (.aload_n 0, 1) := dk_42 (dk_at dksX1_tell_1 5 rfl rfl)
theorem dX1_tell_30 : decode cX1_tell 30 = .ok (.iload_n 1, 1) := dk_27 (dk_at dksX1_tell_1 6 rfl rfl)
theorem dX1_tell_31 : decode cX1_tell 31 = .ok (.aload_n 0, 1) := dk_42 (dk_at dksX1_tell_1 7 rfl rfl)
theorem dX1_tell_32 : decode cX1_tell 32 = .ok (.getfield 25, 3) := dk_180 0 25 (dk_at dksX1_tell_1 8 rfl rfl)
theorem dX1_tell_35 : decode cX1_tell 35 = .ok (.iload_n 1, 1) := dk_27 (dk_at dksX1_tell_1 11 rfl rfl)
theorem dX1_tell_36 : decode cX1_tell 36 = .ok (.iaload, 1) := dk_46 (dk_at dksX1_tell_1 12 rfl rfl)
theorem dX1_tell_37 : decode cX1_tell 37 = .ok (.invokevirtual 138, 3) := dk_182 0 138 (dk_at dksX1_tell_1 13 rfl rfl)
theorem dX1_tell_40 : decode cX1_tell 40 = .ok (.invokestatic 141, 3) := dk_184 0 141 (dk_at dksX1_tell_1 16 rfl rfl)
theorem dX1_tell_43 : decode cX1_tell 43 = .ok (.aload_n 0, 1) := dk_42 (dk_at dksX1_tell_1 19 rfl rfl)
theorem dX1_tell_44 : decode cX1_tell 44 = .ok (.iload_n 1, 1) := dk_27 (dk_at dksX1_tell_1 20 rfl rfl)
theorem dX1_tell_45 : decode cX1_tell 45 = .ok (.aload_n 0, 1) := dk_42 (dk_at dksX1_tell_1 21 rfl rfl)
theorem dX1_tell_46 : decode cX1_tell 46 = .ok (.getfield 28, 3) := dk_180 0 28 (dk_at dksX1_tell_2 0 rfl rfl)
theorem dX1_tell_49 : decode cX1_tell 49 = .ok (.iload_n 1, 1) := dk_27 (dk_at dksX1_tell_2 3 rfl rfl)
theorem dX1_tell_50 : decode cX1_tell 50 = .ok (.iaload, 1) := dk_46 (dk_at dksX1_tell_2 4 rfl rfl)
theorem dX1_tell_51 : decode cX1_tell 51 = .ok (.invokevirtual 138, 3) := dk_182 0 138 (dk_at dksX1_tell_2 5 rfl rfl)
theorem dX1_tell_54 : decode cX1_tell 54 = .ok (.invokestatic 141, 3) := dk_184 0 141 (dk_at dksX1_tell_2 8 rfl rfl)
theorem dX1_tell_57 : decode cX1_tell 57 = .ok (.iadd, 1) := dk_96 (dk_at dksX1_tell_2 11 rfl rfl)
theorem dX1_tell_58 : decode cX1_tell 58 = .ok (.imul, 1) := dk_104 (dk_at dksX1_tell_2 12 rfl rfl)
theorem dX1_tell_59 : decode cX1_tell 59 = .ok (.istore_n 3, 1) := dk_62 (dk_at dksX1_tell_2 13 rfl rfl)
theorem dX1_tell_60 : decode cX1_tell 60 = .ok (.aload_n 0, 1) := dk_42 (dk_at dksX1_tell_2 14 rfl rfl)
theorem dX1_tell_61 : decode cX1_tell 61 = .ok (.iload_n 1, 1) := dk_27 (dk_at dksX1_tell_2 15 rfl rfl)
theorem dX1_tell_62 : decode cX1_tell 62 = .ok (.invokevirtual 147, 3) := dk_182 0 147 (dk_at dksX1_tell_2 16 rfl rfl)
theorem dX1_tell_65 : decode cX1_tell 65 = .ok (.lookupswitch 67 #[(1, 27), (2, 41)], 27) := by decide +kernel
theorem dX1_tell_92 : decode cX1_tell 92 = .ok (.aload_n 0, 1) := dk_42 (dk_at dksX1_tell_4 0 rfl rfl)
theorem dX1_tell_93 : decode cX1_tell 93 = .ok (.iconst 2, 1) := dk_5 (dk_at dksX1_tell_4 1 rfl rfl)
theorem dX1_tell_94 : decode cX1_tell 94 = .ok (.invokevirtual 233, 3) := dk_182 0 233 (dk_at dksX1_tell_4 2 rfl rfl)
theorem dX1_tell_97 : decode cX1_tell 97 = .ok (.aload_n 0, 1) := dk_42 (dk_at dksX1_tell_4 5 rfl rfl)
theorem dX1_tell_98 : decode cX1_tell 98 = .ok (.iconst 1, 1) := dk_4 (dk_at dksX1_tell_4 6 rfl rfl)
theorem dX1_tell_99 : decode cX1_tell 99 = .ok (.invokevirtual 233, 3) := dk_182 0 233 (dk_at dksX1_tell_4 7 rfl rfl)
theorem dX1_tell_102 : decode cX1_tell 102 = .ok (.iload_n 2, 1) := dk_28 (dk_at dksX1_tell_4 10 rfl rfl)
theorem dX1_tell_103 : decode cX1_tell 103 = .ok (.iload_n 3, 1) := dk_29 (dk_at dksX1_tell_4 11 rfl rfl)
theorem dX1_tell_104 : decode cX1_tell 104 = .ok (.iadd, 1) := dk_96 (dk_at dksX1_tell_4 12 rfl rfl)
theorem dX1_tell_105 : decode cX1_tell 105 = .ok (.ireturn, 1) := dk_172 (dk_at dksX1_tell_4 13 rfl rfl)
theorem dX1_tell_106 : decode cX1_tell 106 = .ok (.aload_n 0, 1) := dk_42 (dk_at dksX1_tell_4 14 rfl rfl)
theorem dX1_tell_107 : decode cX1_tell 107 = .ok (.iconst 3, 1) := dk_6 (dk_at dksX1_tell_4 15 rfl rfl)
theorem dX1_tell_108 : decode cX1_tell 108 = .ok (.invokevirtual 233, 3) := dk_182 0 233 (dk_at dksX1_tell_4 16 rfl rfl)
theorem dX1_tell_111 : decode cX1_tell 111 = .ok (.aload_n 0, 1) := dk_42 (dk_at dksX1_tell_4 19 rfl rfl)
theorem dX1_tell_112 : decode cX1_tell 112 = .ok (.iconst 2, 1) := dk_5 (dk_at dksX1_tell_4 20 rfl rfl)
theorem dX1_tell_113 : decode cX1_tell 113 = .ok (.invokevirtual 233, 3) := dk_182 0 233 (dk_at dksX1_tell_4 21 rfl rfl)
theorem dX1_tell_116 : decode cX1_tell 116 = .ok (.aload_n 0, 1) := dk_42 (dk_at dksX1_tell_5 0 rfl rfl)
theorem dX1_tell_117 : decode cX1_tell 117 = .ok (.iconst 1, 1) := dk_4 (dk_at dksX1_tell_5 1 rfl rfl)
theorem dX1_tell_118 : decode cX1_tell 118 = .ok (.invokevirtual 233, 3) := dk_182 0 233 (dk_at dksX1_tell_5 2 rfl rfl)
theorem dX1_tell_121 : decode cX1_tell 121 = .ok (.aload_n 0, 1) := dk_42 (dk_at dksX1_tell_5 5 rfl rfl)
theorem dX1_tell_122 : decode cX1_tell 122 = .ok (.iconst 1, 1) := dk_4 (dk_at dksX1_tell_5 6 rfl rfl)
theorem dX1_tell_123 : decode cX1_tell 123 = .ok (.invokevirtual 233, 3) := dk_182 0 233 (dk_at dksX1_tell_5 7 rfl rfl)
theorem dX1_tell_126 : decode cX1_tell 126 = .ok (.iconst 2, 1) := dk_5 (dk_at dksX1_tell_5 10 rfl rfl)
theorem dX1_tell_127 : decode cX1_tell 127 = .ok (.iload_n 2, 1) := dk_28 (dk_at dksX1_tell_5 11 rfl rfl)
theorem dX1_tell_128 : decode cX1_tell 128 = .ok (.imul, 1) := dk_104 (dk_at dksX1_tell_5 12 rfl rfl)
theorem dX1_tell_129 : decode cX1_tell 129 = .ok (.iload_n 3, 1) := dk_29 (dk_at dksX1_tell_5 13 rfl rfl)
theorem dX1_tell_130 : decode cX1_tell 130 = .ok (.iadd, 1) := dk_96 (dk_at dksX1_tell_5 14 rfl rfl)
theorem dX1_tell_131 : decode cX1_tell 131 = .ok (.ireturn, 1) := dk_172 (dk_at dksX1_tell_5 15 rfl rfl)
theorem dX1_tell_132 : decode cX1_tell 132 = .ok (.aload_n 0, 1) := dk_42 (dk_at dksX1_tell_5 16 rfl rfl)
theorem dX1_tell_133 : decode cX1_tell 133 = .ok (.iconst 1, 1) := dk_4 (dk_at dksX1_tell_5 17 rfl rfl)
theorem dX1_tell_134 : decode cX1_tell 134 = .ok (.invokevirtual 233, 3) := dk_182 0 233 (dk_at dksX1_tell_5 18 rfl rfl)
theorem dX1_tell_137 : decode cX1_tell 137 = .ok (.iload_n 2, 1) := dk_28 (dk_at dksX1_tell_5 21 rfl rfl)
theorem dX1_tell_138 : decode cX1_tell 138 = .ok (.ireturn, 1) := dk_172 (dk_at dksX1_tell_5 22 rfl rfl)
abbrev cX1_begins : ByteArray := prog_16_method_66_code
def yX1_begins : MethodName := ⟨RX1, "begins", "(I)V"⟩
def dkwX1_begins_0 : List UInt8 := [42, 16, 31, 42, 180, 0, 230, 104, 27, 96, 181, 0, 230, 177]
abbrev dktX1_begins_0 : List UInt8 := dkwX1_begins_0 ++ []
theorem dksX1_begins_0 : cX1_begins.data.toList.drop 0 = dktX1_begins_0 := by decide +kernel
theorem dX1_begins_0 : decode cX1_begins 0 = .ok (.aload_n 0, 1) := dk_42 (dk_at dksX1_begins_0 0 rfl rfl)
theorem dX1_begins_1 : decode cX1_begins 1 = .ok (.bipush 31, 2) := dk_16 31 (dk_at dksX1_begins_0 1 rfl rfl)
theorem dX1_begins_3 : decode cX1_begins 3 = .ok (.aload_n 0, 1) := dk_42 (dk_at dksX1_begins_0 3 rfl rfl)
theorem dX1_begins_4 : decode cX1_begins 4 = .ok (.getfield 230, 3) := dk_180 0 230 (dk_at dksX1_begins_0 4 rfl rfl)
theorem dX1_begins_7 : decode cX1_begins 7 = .ok (.imul, 1) := dk_104 (dk_at dksX1_begins_0 7 rfl rfl)
theorem dX1_begins_8 : decode cX1_begins 8 = .ok (.iload_n 1, 1) := dk_27 (dk_at dksX1_begins_0 8 rfl rfl)
theorem dX1_begins_9 : decode cX1_begins 9 = .ok (.iadd, 1) := dk_96 (dk_at dksX1_begins_0 9 rfl rfl)
theorem dX1_begins_10 : decode cX1_begins 10 = .ok (.putfield 230, 3) := dk_181 0 230 (dk_at dksX1_begins_0 10 rfl rfl)
theorem dX1_begins_13 : decode cX1_begins 13 = .ok (.return_, 1) := dk_177 (dk_at dksX1_begins_0 13 rfl rfl)
abbrev cX1_log : ByteArray := prog_16_method_68_code
def yX1_log : MethodName := ⟨RX1, "log", "(I)I"⟩
def dkwX1_log_2 : List UInt8 := [172]
abbrev dktX1_log_2 : List UInt8 := dkwX1_log_2 ++ []
def dkwX1_log_1 : List UInt8 := [61, 42, 28, 153, 0, 7, 8, 167, 0, 4, 7, 182, 0, 233, 28, 153, 0, 8, 16, 70, 167, 0, 4, 27]
abbrev dktX1_log_1 : List UInt8 := dkwX1_log_1 ++ dktX1_log_2
def dkwX1_log_0 : List UInt8 := [42, 27, 182, 0, 144, 154, 0, 5, 2, 172, 42, 27, 182, 0, 147, 5, 160, 0, 7, 4, 167, 0, 4, 3]
abbrev dktX1_log_0 : List UInt8 := dkwX1_log_0 ++ dktX1_log_1
theorem dksX1_log_0 : cX1_log.data.toList.drop 0 = dktX1_log_0 := by decide +kernel
theorem dksX1_log_1 : cX1_log.data.toList.drop 24 = dktX1_log_1 := dk_seg dksX1_log_0 24 rfl rfl
theorem dksX1_log_2 : cX1_log.data.toList.drop 48 = dktX1_log_2 := dk_seg dksX1_log_1 24 rfl rfl
theorem dX1_log_0 : decode cX1_log 0 = .ok (.aload_n 0, 1) := dk_42 (dk_at dksX1_log_0 0 rfl rfl)
theorem dX1_log_1 : decode cX1_log 1 = .ok (.iload_n 1, 1) := dk_27 (dk_at dksX1_log_0 1 rfl rfl)
theorem dX1_log_2 : decode cX1_log 2 = .ok (.invokevirtual 144, 3) := dk_182 0 144 (dk_at dksX1_log_0 2 rfl rfl)
theorem dX1_log_5 : decode cX1_log 5 = .ok (.ifCond .ne 5, 3) := dk_154 0 5 (dk_at dksX1_log_0 5 rfl rfl)
theorem dX1_log_8 : decode cX1_log 8 = .ok (.iconst (-1), 1) := dk_2 (dk_at dksX1_log_0 8 rfl rfl)
theorem dX1_log_9 : decode cX1_log 9 = .ok (.ireturn, 1) := dk_172 (dk_at dksX1_log_0 9 rfl rfl)
theorem dX1_log_10 : decode cX1_log 10 = .ok (.aload_n 0, 1) := dk_42 (dk_at dksX1_log_0 10 rfl rfl)
theorem dX1_log_11 : decode cX1_log 11 = .ok (.iload_n 1, 1) := dk_27 (dk_at dksX1_log_0 11 rfl rfl)
theorem dX1_log_12 : decode cX1_log 12 = .ok (.invokevirtual 147, 3) := dk_182 0 147 (dk_at dksX1_log_0 12 rfl rfl)
theorem dX1_log_15 : decode cX1_log 15 = .ok (.iconst 2, 1) := dk_5 (dk_at dksX1_log_0 15 rfl rfl)
theorem dX1_log_16 : decode cX1_log 16 = .ok (.if_icmp .ne 7, 3) := dk_160 0 7 (dk_at dksX1_log_0 16 rfl rfl)
theorem dX1_log_19 : decode cX1_log 19 = .ok (.iconst 1, 1) := dk_4 (dk_at dksX1_log_0 19 rfl rfl)
theorem dX1_log_20 : decode cX1_log 20 = .ok (.goto 4, 3) := dk_167 0 4 (dk_at dksX1_log_0 20 rfl rfl)
theorem dX1_log_23 : decode cX1_log 23 = .ok (.iconst 0, 1) := dk_3 (dk_at dksX1_log_0 23 rfl rfl)
theorem dX1_log_24 : decode cX1_log 24 = .ok (.istore_n 2, 1) := dk_61 (dk_at dksX1_log_1 0 rfl rfl)
theorem dX1_log_25 : decode cX1_log 25 = .ok (.aload_n 0, 1) := dk_42 (dk_at dksX1_log_1 1 rfl rfl)
theorem dX1_log_26 : decode cX1_log 26 = .ok (.iload_n 2, 1) := dk_28 (dk_at dksX1_log_1 2 rfl rfl)
theorem dX1_log_27 : decode cX1_log 27 = .ok (.ifCond .eq 7, 3) := dk_153 0 7 (dk_at dksX1_log_1 3 rfl rfl)
theorem dX1_log_30 : decode cX1_log 30 = .ok (.iconst 5, 1) := dk_8 (dk_at dksX1_log_1 6 rfl rfl)
theorem dX1_log_31 : decode cX1_log 31 = .ok (.goto 4, 3) := dk_167 0 4 (dk_at dksX1_log_1 7 rfl rfl)
theorem dX1_log_34 : decode cX1_log 34 = .ok (.iconst 4, 1) := dk_7 (dk_at dksX1_log_1 10 rfl rfl)
theorem dX1_log_35 : decode cX1_log 35 = .ok (.invokevirtual 233, 3) := dk_182 0 233 (dk_at dksX1_log_1 11 rfl rfl)
theorem dX1_log_38 : decode cX1_log 38 = .ok (.iload_n 2, 1) := dk_28 (dk_at dksX1_log_1 14 rfl rfl)
theorem dX1_log_39 : decode cX1_log 39 = .ok (.ifCond .eq 8, 3) := dk_153 0 8 (dk_at dksX1_log_1 15 rfl rfl)
theorem dX1_log_42 : decode cX1_log 42 = .ok (.bipush 70, 2) := dk_16 70 (dk_at dksX1_log_1 18 rfl rfl)
theorem dX1_log_44 : decode cX1_log 44 = .ok (.goto 4, 3) := dk_167 0 4 (dk_at dksX1_log_1 20 rfl rfl)
theorem dX1_log_47 : decode cX1_log 47 = .ok (.iload_n 1, 1) := dk_27 (dk_at dksX1_log_1 23 rfl rfl)
theorem dX1_log_48 : decode cX1_log 48 = .ok (.ireturn, 1) := dk_172 (dk_at dksX1_log_2 0 rfl rfl)
abbrev cX1_as : ByteArray := prog_16_method_69_code
def yX1_as : MethodName := ⟨RX1, "as", "(II)I"⟩
def dkwX1_as_1 : List UInt8 := [16, 254, 172, 42, 27, 182, 0, 147, 28, 161, 0, 7, 4, 167, 0, 8, 42, 5, 182, 0, 92, 172]
abbrev dktX1_as_1 : List UInt8 := dkwX1_as_1 ++ []
def dkwX1_as_0 : List UInt8 := [42, 3, 181, 0, 72, 42, 27, 182, 0, 144, 154, 0, 5, 2, 172, 28, 3, 5, 184, 0, 78, 154, 0, 6]
abbrev dktX1_as_0 : List UInt8 := dkwX1_as_0 ++ dktX1_as_1
theorem dksX1_as_0 : cX1_as.data.toList.drop 0 = dktX1_as_0 := by decide +kernel
theorem dksX1_as_1 : cX1_as.data.toList.drop 24 = dktX1_as_1 := dk_seg dksX1_as_0 24 rfl rfl
theorem dX1_as_0 : decode cX1_as 0 = .ok (.aload_n 0, 1) := dk_42 (dk_at dksX1_as_0 0 rfl rfl)
theorem dX1_as_1 : decode cX1_as 1 = .ok (.iconst 0, 1) := dk_3 (dk_at dksX1_as_0 1 rfl rfl)
theorem dX1_as_2 : decode cX1_as 2 = .ok (.putfield 72, 3) := dk_181 0 72 (dk_at dksX1_as_0 2 rfl rfl)
theorem dX1_as_5 : decode cX1_as 5 = .ok (.aload_n 0, 1) := dk_42 (dk_at dksX1_as_0 5 rfl rfl)
theorem dX1_as_6 : decode cX1_as 6 = .ok (.iload_n 1, 1) := dk_27 (dk_at dksX1_as_0 6 rfl rfl)
theorem dX1_as_7 : decode cX1_as 7 = .ok (.invokevirtual 144, 3) := dk_182 0 144 (dk_at dksX1_as_0 7 rfl rfl)
theorem dX1_as_10 : decode cX1_as 10 = .ok (.ifCond .ne 5, 3) := dk_154 0 5 (dk_at dksX1_as_0 10 rfl rfl)
theorem dX1_as_13 : decode cX1_as 13 = .ok (.iconst (-1), 1) := dk_2 (dk_at dksX1_as_0 13 rfl rfl)
theorem dX1_as_14 : decode cX1_as 14 = .ok (.ireturn, 1) := dk_172 (dk_at dksX1_as_0 14 rfl rfl)
theorem dX1_as_15 : decode cX1_as 15 = .ok (.iload_n 2, 1) := dk_28 (dk_at dksX1_as_0 15 rfl rfl)
theorem dX1_as_16 : decode cX1_as 16 = .ok (.iconst 0, 1) := dk_3 (dk_at dksX1_as_0 16 rfl rfl)
theorem dX1_as_17 : decode cX1_as 17 = .ok (.iconst 2, 1) := dk_5 (dk_at dksX1_as_0 17 rfl rfl)
theorem dX1_as_18 : decode cX1_as 18 = .ok (.invokestatic 78, 3) := dk_184 0 78 (dk_at dksX1_as_0 18 rfl rfl)
theorem dX1_as_21 : decode cX1_as 21 = .ok (.ifCond .ne 6, 3) := dk_154 0 6 (dk_at dksX1_as_0 21 rfl rfl)
theorem dX1_as_24 : decode cX1_as 24 = .ok (.bipush (-2), 2) := dk_16 254 (dk_at dksX1_as_1 0 rfl rfl)
theorem dX1_as_26 : decode cX1_as 26 = .ok (.ireturn, 1) := dk_172 (dk_at dksX1_as_1 2 rfl rfl)
theorem dX1_as_27 : decode cX1_as 27 = .ok (.aload_n 0, 1) := dk_42 (dk_at dksX1_as_1 3 rfl rfl)
theorem dX1_as_28 : decode cX1_as 28 = .ok (.iload_n 1, 1) := dk_27 (dk_at dksX1_as_1 4 rfl rfl)
theorem dX1_as_29 : decode cX1_as 29 = .ok (.invokevirtual 147, 3) := dk_182 0 147 (dk_at dksX1_as_1 5 rfl rfl)
theorem dX1_as_32 : decode cX1_as 32 = .ok (.iload_n 2, 1) := dk_28 (dk_at dksX1_as_1 8 rfl rfl)
theorem dX1_as_33 : decode cX1_as 33 = .ok (.if_icmp .lt 7, 3) := dk_161 0 7 (dk_at dksX1_as_1 9 rfl rfl)
theorem dX1_as_36 : decode cX1_as 36 = .ok (.iconst 1, 1) := dk_4 (dk_at dksX1_as_1 12 rfl rfl)
theorem dX1_as_37 : decode cX1_as 37 = .ok (.goto 8, 3) := dk_167 0 8 (dk_at dksX1_as_1 13 rfl rfl)
theorem dX1_as_40 : decode cX1_as 40 = .ok (.aload_n 0, 1) := dk_42 (dk_at dksX1_as_1 16 rfl rfl)
theorem dX1_as_41 : decode cX1_as 41 = .ok (.iconst 2, 1) := dk_5 (dk_at dksX1_as_1 17 rfl rfl)
theorem dX1_as_42 : decode cX1_as 42 = .ok (.invokevirtual 92, 3) := dk_182 0 92 (dk_at dksX1_as_1 18 rfl rfl)
theorem dX1_as_45 : decode cX1_as 45 = .ok (.ireturn, 1) := dk_172 (dk_at dksX1_as_1 21 rfl rfl)
abbrev cX1_trace : ByteArray := prog_16_method_70_code
def yX1_trace : MethodName := ⟨RX1, "trace", "()I"⟩
theorem dX1_trace_0 : decode cX1_trace 0 = .ok (.aload_n 0, 1) := by decide +kernel
theorem dX1_trace_1 : decode cX1_trace 1 = .ok (.getfield 230, 3) := by decide +kernel
theorem dX1_trace_4 : decode cX1_trace 4 = .ok (.ireturn, 1) := by decide +kernel
abbrev cX1_fault : ByteArray := prog_16_method_71_code
def yX1_fault : MethodName := ⟨RX1, "fault", "()I"⟩
theorem dX1_fault_0 : decode cX1_fault 0 = .ok (.aload_n 0, 1) := by decide +kernel
theorem dX1_fault_1 : decode cX1_fault 1 = .ok (.getfield 72, 3) := by decide +kernel
theorem dX1_fault_4 : decode cX1_fault 4 = .ok (.ireturn, 1) := by decide +kernel
abbrev cX1_many : ByteArray := prog_16_method_72_code
def yX1_many : MethodName := ⟨RX1, "many", "(I)I"⟩
def dkwX1_many_4 : List UInt8 := [42, 180, 0, 82, 172, 42, 180, 0, 103, 172, 28, 172, 29, 172, 16, 254, 172]
abbrev dktX1_many_4 : List UInt8 := dkwX1_many_4 ++ []
def dkwX1_many_3 : List UInt8 := [170, 0, 0, 0, 0, 0, 0, 46, 0, 0, 0, 0, 0, 0, 0, 3, 0, 0, 0, 32, 0, 0, 0, 37, 0, 0, 0, 42, 0, 0, 0, 44]
abbrev dktX1_many_3 : List UInt8 := dkwX1_many_3 ++ dktX1_many_4
def dkwX1_many_2 : List UInt8 := [96, 61, 29, 42, 180, 0, 19, 21, 4, 46, 184, 0, 141, 96, 62, 132, 4, 1, 167, 255, 199, 27]
abbrev dktX1_many_2 : List UInt8 := dkwX1_many_2 ++ dktX1_many_3
def dkwX1_many_1 : List UInt8 := [182, 0, 128, 21, 4, 184, 0, 110, 4, 42, 180, 0, 82, 120, 4, 100, 160, 0, 7, 4, 167, 0, 4, 3]
abbrev dktX1_many_1 : List UInt8 := dkwX1_many_1 ++ dktX1_many_2
def dkwX1_many_0 : List UInt8 := [3, 61, 3, 62, 3, 54, 4, 21, 4, 42, 180, 0, 82, 162, 0, 54, 28, 42, 42, 180, 0, 103]
abbrev dktX1_many_0 : List UInt8 := dkwX1_many_0 ++ dktX1_many_1
theorem dksX1_many_0 : cX1_many.data.toList.drop 0 = dktX1_many_0 := by decide +kernel
theorem dksX1_many_1 : cX1_many.data.toList.drop 22 = dktX1_many_1 := dk_seg dksX1_many_0 22 rfl rfl
theorem dksX1_many_2 : cX1_many.data.toList.drop 46 = dktX1_many_2 := dk_seg dksX1_many_1 24 rfl rfl
theorem dksX1_many_3 : cX1_many.data.toList.drop 68 = dktX1_many_3 := dk_seg dksX1_many_2 22 rfl rfl
theorem dksX1_many_4 : cX1_many.data.toList.drop 100 = dktX1_many_4 := dk_seg dksX1_many_3 32 rfl rfl
theorem dX1_many_0 : decode cX1_many 0 = .ok (.iconst 0, 1) := dk_3 (dk_at dksX1_many_0 0 rfl rfl)
theorem dX1_many_1 : decode cX1_many 1 = .ok (.istore_n 2, 1) := dk_61 (dk_at dksX1_many_0 1 rfl rfl)
theorem dX1_many_2 : decode cX1_many 2 = .ok (.iconst 0, 1) := dk_3 (dk_at dksX1_many_0 2 rfl rfl)
theorem dX1_many_3 : decode cX1_many 3 = .ok (.istore_n 3, 1) := dk_62 (dk_at dksX1_many_0 3 rfl rfl)
theorem dX1_many_4 : decode cX1_many 4 = .ok (.iconst 0, 1) := dk_3 (dk_at dksX1_many_0 4 rfl rfl)
theorem dX1_many_5 : decode cX1_many 5 = .ok (.istore 4, 2) := dk_54 4 (dk_at dksX1_many_0 5 rfl rfl)
theorem dX1_many_7 : decode cX1_many 7 = .ok (.iload 4, 2) := dk_21 4 (dk_at dksX1_many_0 7 rfl rfl)
theorem dX1_many_9 : decode cX1_many 9 = .ok (.aload_n 0, 1) := dk_42 (dk_at dksX1_many_0 9 rfl rfl)
theorem dX1_many_10 : decode cX1_many 10 = .ok (.getfield 82, 3) := dk_180 0 82 (dk_at dksX1_many_0 10 rfl rfl)
theorem dX1_many_13 : decode cX1_many 13 = .ok (.if_icmp .ge 54, 3) := dk_162 0 54 (dk_at dksX1_many_0 13 rfl rfl)
theorem dX1_many_16 : decode cX1_many 16 = .ok (.iload_n 2, 1) := dk_28 (dk_at dksX1_many_0 16 rfl rfl)
theorem dX1_many_17 : decode cX1_many 17 = .ok (.aload_n 0, 1) := dk_42 (dk_at dksX1_many_0 17 rfl rfl)
theorem dX1_many_18 : decode cX1_many 18 = .ok (.aload_n 0, 1) := dk_42 (dk_at dksX1_many_0 18 rfl rfl)
theorem dX1_many_19 : decode cX1_many 19 = .ok (.getfield 103, 3) := dk_180 0 103 (dk_at dksX1_many_0 19 rfl rfl)
theorem dX1_many_22 : decode cX1_many 22 = .ok (.invokevirtual 128, 3) := dk_182 0 128 (dk_at dksX1_many_1 0 rfl rfl)
theorem dX1_many_25 : decode cX1_many 25 = .ok (.iload 4, 2) := dk_21 4 (dk_at dksX1_many_1 3 rfl rfl)
theorem dX1_many_27 : decode cX1_many 27 = .ok (.invokestatic 110, 3) := dk_184 0 110 (dk_at dksX1_many_1 5 rfl rfl)
theorem dX1_many_30 : decode cX1_many 30 = .ok (.iconst 1, 1) := dk_4 (dk_at dksX1_many_1 8 rfl rfl)
theorem dX1_many_31 : decode cX1_many 31 = .ok (.aload_n 0, 1) := dk_42 (dk_at dksX1_many_1 9 rfl rfl)
theorem dX1_many_32 : decode cX1_many 32 = .ok (.getfield 82, 3) := dk_180 0 82 (dk_at dksX1_many_1 10 rfl rfl)
theorem dX1_many_35 : decode cX1_many 35 = .ok (.ishl, 1) := dk_120 (dk_at dksX1_many_1 13 rfl rfl)
theorem dX1_many_36 : decode cX1_many 36 = .ok (.iconst 1, 1) := dk_4 (dk_at dksX1_many_1 14 rfl rfl)
theorem dX1_many_37 : decode cX1_many 37 = .ok (.isub, 1) := dk_100 (dk_at dksX1_many_1 15 rfl rfl)
theorem dX1_many_38 : decode cX1_many 38 = .ok (.if_icmp .ne 7, 3) := dk_160 0 7 (dk_at dksX1_many_1 16 rfl rfl)
theorem dX1_many_41 : decode cX1_many 41 = .ok (.iconst 1, 1) := dk_4 (dk_at dksX1_many_1 19 rfl rfl)
theorem dX1_many_42 : decode cX1_many 42 = .ok (.goto 4, 3) := dk_167 0 4 (dk_at dksX1_many_1 20 rfl rfl)
theorem dX1_many_45 : decode cX1_many 45 = .ok (.iconst 0, 1) := dk_3 (dk_at dksX1_many_1 23 rfl rfl)
theorem dX1_many_46 : decode cX1_many 46 = .ok (.iadd, 1) := dk_96 (dk_at dksX1_many_2 0 rfl rfl)
theorem dX1_many_47 : decode cX1_many 47 = .ok (.istore_n 2, 1) := dk_61 (dk_at dksX1_many_2 1 rfl rfl)
theorem dX1_many_48 : decode cX1_many 48 = .ok (.iload_n 3, 1) := dk_29 (dk_at dksX1_many_2 2 rfl rfl)
theorem dX1_many_49 : decode cX1_many 49 = .ok (.aload_n 0, 1) := dk_42 (dk_at dksX1_many_2 3 rfl rfl)
theorem dX1_many_50 : decode cX1_many 50 = .ok (.getfield 19, 3) := dk_180 0 19 (dk_at dksX1_many_2 4 rfl rfl)
theorem dX1_many_53 : decode cX1_many 53 = .ok (.iload 4, 2) := dk_21 4 (dk_at dksX1_many_2 7 rfl rfl)
theorem dX1_many_55 : decode cX1_many 55 = .ok (.iaload, 1) := dk_46 (dk_at dksX1_many_2 9 rfl rfl)
theorem dX1_many_56 : decode cX1_many 56 = .ok (.invokestatic 141, 3) := dk_184 0 141 (dk_at dksX1_many_2 10 rfl rfl)
theorem dX1_many_59 : decode cX1_many 59 = .ok (.iadd, 1) := dk_96 (dk_at dksX1_many_2 13 rfl rfl)
theorem dX1_many_60 : decode cX1_many 60 = .ok (.istore_n 3, 1) := dk_62 (dk_at dksX1_many_2 14 rfl rfl)
theorem dX1_many_61 : decode cX1_many 61 = .ok (.iinc 4 1, 3) := dk_132 4 1 (dk_at dksX1_many_2 15 rfl rfl)
theorem dX1_many_64 : decode cX1_many 64 = .ok (.goto (-57), 3) := dk_167 255 199 (dk_at dksX1_many_2 18 rfl rfl)
theorem dX1_many_67 : decode cX1_many 67 = .ok (.iload_n 1, 1) := dk_27 (dk_at dksX1_many_2 21 rfl rfl)
theorem dX1_many_68 : decode cX1_many 68 = .ok (.tableswitch 46 0 3 #[32, 37, 42, 44], 32) := by decide +kernel
theorem dX1_many_100 : decode cX1_many 100 = .ok (.aload_n 0, 1) := dk_42 (dk_at dksX1_many_4 0 rfl rfl)
theorem dX1_many_101 : decode cX1_many 101 = .ok (.getfield 82, 3) := dk_180 0 82 (dk_at dksX1_many_4 1 rfl rfl)
theorem dX1_many_104 : decode cX1_many 104 = .ok (.ireturn, 1) := dk_172 (dk_at dksX1_many_4 4 rfl rfl)
theorem dX1_many_105 : decode cX1_many 105 = .ok (.aload_n 0, 1) := dk_42 (dk_at dksX1_many_4 5 rfl rfl)
theorem dX1_many_106 : decode cX1_many 106 = .ok (.getfield 103, 3) := dk_180 0 103 (dk_at dksX1_many_4 6 rfl rfl)
theorem dX1_many_109 : decode cX1_many 109 = .ok (.ireturn, 1) := dk_172 (dk_at dksX1_many_4 9 rfl rfl)
theorem dX1_many_110 : decode cX1_many 110 = .ok (.iload_n 2, 1) := dk_28 (dk_at dksX1_many_4 10 rfl rfl)
theorem dX1_many_111 : decode cX1_many 111 = .ok (.ireturn, 1) := dk_172 (dk_at dksX1_many_4 11 rfl rfl)
theorem dX1_many_112 : decode cX1_many 112 = .ok (.iload_n 3, 1) := dk_29 (dk_at dksX1_many_4 12 rfl rfl)
theorem dX1_many_113 : decode cX1_many 113 = .ok (.ireturn, 1) := dk_172 (dk_at dksX1_many_4 13 rfl rfl)
theorem dX1_many_114 : decode cX1_many 114 = .ok (.bipush (-2), 2) := dk_16 254 (dk_at dksX1_many_4 14 rfl rfl)
theorem dX1_many_116 : decode cX1_many 116 = .ok (.ireturn, 1) := dk_172 (dk_at dksX1_many_4 16 rfl rfl)
theorem q64 : (Jvm.Cond.initialized "CallRoundsModel") ∈ lw_all := lw_g (lw_at lw_m1 5 rfl) rfl
theorem q391 : (Jvm.Cond.selects "CallRoundsModel" ({ cls := "java/lang/Object", name := "getClass", desc := "()Ljava/lang/Class;" } : Jvm.MethodName) ({ cls := "java/lang/Object", name := "getClass", desc := "()Ljava/lang/Class;" } : Jvm.MethodName)) ∈ lw_all := lw_g (lw_at lw_m2 92 rfl) rfl
theorem q1172 : (Jvm.Cond.instantiable "CallRoundsModel" (30 : Nat)) ∈ lw_all := lw_g (lw_at lw_m5 153 rfl) rfl
theorem q1174 : (Jvm.Cond.instanceMethod ({ cls := "CallRoundsModel", name := "<init>", desc := "()V" } : Jvm.MethodName)) ∈ lw_all := lw_g (lw_at lw_m5 155 rfl) rfl
theorem q1175 : (Jvm.Cond.code ({ cls := "CallRoundsModel", name := "<init>", desc := "()V" } : Jvm.MethodName) prog_16_method_1_code (1 : Nat) (Option.none : Option Jvm.ClassFile.FieldType)) ∈ lw_all := lw_g (lw_at lw_m5 156 rfl) rfl
theorem q1176 : (Jvm.Cond.methodLink "CallRoundsModel" (1 : Nat) ({ cls := "java/lang/Object", name := "<init>", desc := "()V" } : Jvm.MethodName)) ∈ lw_all := lw_g (lw_at lw_m5 157 rfl) rfl
theorem q1177 : (Jvm.Cond.constant "CallRoundsModel" (31 : Nat) (65536 : Int32)) ∈ lw_all := lw_g (lw_at lw_m5 158 rfl) rfl
theorem q1178 : (Jvm.Cond.fieldLink "CallRoundsModel" (72 : Nat) "CallRoundsModel" "fault" "I") ∈ lw_all := lw_g (lw_at lw_m5 159 rfl) rfl
theorem q1179 : (Jvm.Cond.fieldLink "CallRoundsModel" (230 : Nat) "CallRoundsModel" "trace" "I") ∈ lw_all := lw_g (lw_at lw_m5 160 rfl) rfl
theorem q1180 : (Jvm.Cond.fieldLink "CallRoundsModel" (9 : Nat) "CallRoundsModel" "lanes" "[I") ∈ lw_all := lw_g (lw_at lw_m5 161 rfl) rfl
theorem q1181 : (Jvm.Cond.fieldLink "CallRoundsModel" (13 : Nat) "CallRoundsModel" "sheetLong" "[I") ∈ lw_all := lw_g (lw_at lw_m5 162 rfl) rfl
theorem q1182 : (Jvm.Cond.fieldLink "CallRoundsModel" (16 : Nat) "CallRoundsModel" "cells" "[I") ∈ lw_all := lw_g (lw_at lw_m5 163 rfl) rfl
theorem q1183 : (Jvm.Cond.fieldLink "CallRoundsModel" (82 : Nat) "CallRoundsModel" "persons" "I") ∈ lw_all := lw_g (lw_at lw_m5 164 rfl) rfl
theorem q1184 : (Jvm.Cond.fieldLink "CallRoundsModel" (19 : Nat) "CallRoundsModel" "net" "[I") ∈ lw_all := lw_g (lw_at lw_m5 165 rfl) rfl
theorem q1185 : (Jvm.Cond.fieldLink "CallRoundsModel" (22 : Nat) "CallRoundsModel" "readNet" "[I") ∈ lw_all := lw_g (lw_at lw_m5 166 rfl) rfl
theorem q1186 : (Jvm.Cond.fieldLink "CallRoundsModel" (100 : Nat) "CallRoundsModel" "read" "I") ∈ lw_all := lw_g (lw_at lw_m5 167 rfl) rfl
theorem q1187 : (Jvm.Cond.fieldLink "CallRoundsModel" (103 : Nat) "CallRoundsModel" "calls" "I") ∈ lw_all := lw_g (lw_at lw_m5 168 rfl) rfl
theorem q1188 : (Jvm.Cond.fieldLink "CallRoundsModel" (25 : Nat) "CallRoundsModel" "callP" "[I") ∈ lw_all := lw_g (lw_at lw_m5 169 rfl) rfl
theorem q1189 : (Jvm.Cond.fieldLink "CallRoundsModel" (28 : Nat) "CallRoundsModel" "callQ" "[I") ∈ lw_all := lw_g (lw_at lw_m5 170 rfl) rfl
theorem q1190 : (Jvm.Cond.fieldLink "CallRoundsModel" (32 : Nat) "CallRoundsModel" "seen" "[I") ∈ lw_all := lw_g (lw_at lw_m5 171 rfl) rfl
theorem q1191 : (Jvm.Cond.fieldLink "CallRoundsModel" (35 : Nat) "CallRoundsModel" "runs" "[J") ∈ lw_all := lw_g (lw_at lw_m5 172 rfl) rfl
theorem q1192 : (Jvm.Cond.fieldLink "CallRoundsModel" (39 : Nat) "CallRoundsModel" "good" "[J") ∈ lw_all := lw_g (lw_at lw_m5 173 rfl) rfl
theorem q1193 : (Jvm.Cond.fieldLink "CallRoundsModel" (42 : Nat) "CallRoundsModel" "fewest" "[I") ∈ lw_all := lw_g (lw_at lw_m5 174 rfl) rfl
theorem q1194 : (Jvm.Cond.fieldLink "CallRoundsModel" (45 : Nat) "CallRoundsModel" "most" "[I") ∈ lw_all := lw_g (lw_at lw_m5 175 rfl) rfl
theorem q1195 : (Jvm.Cond.fieldLink "CallRoundsModel" (161 : Nat) "CallRoundsModel" "turn" "I") ∈ lw_all := lw_g (lw_at lw_m5 176 rfl) rfl
theorem q1196 : (Jvm.Cond.fieldLink "CallRoundsModel" (48 : Nat) "CallRoundsModel" "downState" "[I") ∈ lw_all := lw_g (lw_at lw_m5 177 rfl) rfl
theorem q1197 : (Jvm.Cond.fieldLink "CallRoundsModel" (51 : Nat) "CallRoundsModel" "downTokens" "[I") ∈ lw_all := lw_g (lw_at lw_m5 178 rfl) rfl
theorem q1198 : (Jvm.Cond.fieldLink "CallRoundsModel" (54 : Nat) "CallRoundsModel" "downNext" "[I") ∈ lw_all := lw_g (lw_at lw_m5 179 rfl) rfl
theorem q1199 : (Jvm.Cond.fieldLink "CallRoundsModel" (57 : Nat) "CallRoundsModel" "lookNet" "[I") ∈ lw_all := lw_g (lw_at lw_m5 180 rfl) rfl
theorem q1200 : (Jvm.Cond.fieldLink "CallRoundsModel" (164 : Nat) "CallRoundsModel" "lookMany" "I") ∈ lw_all := lw_g (lw_at lw_m5 181 rfl) rfl
theorem q1201 : (Jvm.Cond.fieldLink "CallRoundsModel" (178 : Nat) "CallRoundsModel" "lookRule" "I") ∈ lw_all := lw_g (lw_at lw_m5 182 rfl) rfl
theorem q1202 : (Jvm.Cond.fieldLink "CallRoundsModel" (60 : Nat) "CallRoundsModel" "rowP" "[I") ∈ lw_all := lw_g (lw_at lw_m5 183 rfl) rfl
theorem q1203 : (Jvm.Cond.fieldLink "CallRoundsModel" (63 : Nat) "CallRoundsModel" "rowQ" "[I") ∈ lw_all := lw_g (lw_at lw_m5 184 rfl) rfl
theorem q1204 : (Jvm.Cond.fieldLink "CallRoundsModel" (197 : Nat) "CallRoundsModel" "alikeMany" "I") ∈ lw_all := lw_g (lw_at lw_m5 185 rfl) rfl
theorem q1205 : (Jvm.Cond.fieldLink "CallRoundsModel" (200 : Nat) "CallRoundsModel" "alikeState" "I") ∈ lw_all := lw_g (lw_at lw_m5 186 rfl) rfl
theorem q1206 : (Jvm.Cond.fieldLink "CallRoundsModel" (66 : Nat) "CallRoundsModel" "other" "[I") ∈ lw_all := lw_g (lw_at lw_m5 187 rfl) rfl
theorem q1207 : (Jvm.Cond.fieldLink "CallRoundsModel" (69 : Nat) "CallRoundsModel" "queue" "[I") ∈ lw_all := lw_g (lw_at lw_m5 188 rfl) rfl
theorem q1208 : (Jvm.Cond.lays "CallRoundsModel" "CallRoundsModel" "fault" "I") ∈ lw_all := lw_g (lw_at lw_m5 189 rfl) rfl
theorem q1209 : (Jvm.Cond.soleField "CallRoundsModel" "fault") ∈ lw_all := lw_g (lw_at lw_m5 190 rfl) rfl
theorem q1210 : (Jvm.Cond.lays "CallRoundsModel" "CallRoundsModel" "trace" "I") ∈ lw_all := lw_g (lw_at lw_m5 191 rfl) rfl
theorem q1211 : (Jvm.Cond.soleField "CallRoundsModel" "trace") ∈ lw_all := lw_g (lw_at lw_m5 192 rfl) rfl
theorem q1212 : (Jvm.Cond.laysFinal "CallRoundsModel" "CallRoundsModel" "lanes" "[I") ∈ lw_all := lw_g (lw_at lw_m5 193 rfl) rfl
theorem q1213 : (Jvm.Cond.soleField "CallRoundsModel" "lanes") ∈ lw_all := lw_g (lw_at lw_m5 194 rfl) rfl
theorem q1214 : (Jvm.Cond.laysFinal "CallRoundsModel" "CallRoundsModel" "sheetLong" "[I") ∈ lw_all := lw_g (lw_at lw_m5 195 rfl) rfl
theorem q1215 : (Jvm.Cond.soleField "CallRoundsModel" "sheetLong") ∈ lw_all := lw_g (lw_at lw_m5 196 rfl) rfl
theorem q1216 : (Jvm.Cond.laysFinal "CallRoundsModel" "CallRoundsModel" "cells" "[I") ∈ lw_all := lw_g (lw_at lw_m5 197 rfl) rfl
theorem q1217 : (Jvm.Cond.soleField "CallRoundsModel" "cells") ∈ lw_all := lw_g (lw_at lw_m5 198 rfl) rfl
theorem q1218 : (Jvm.Cond.lays "CallRoundsModel" "CallRoundsModel" "persons" "I") ∈ lw_all := lw_g (lw_at lw_m5 199 rfl) rfl
theorem q1219 : (Jvm.Cond.soleField "CallRoundsModel" "persons") ∈ lw_all := lw_g (lw_at lw_m5 200 rfl) rfl
theorem q1220 : (Jvm.Cond.laysFinal "CallRoundsModel" "CallRoundsModel" "net" "[I") ∈ lw_all := lw_g (lw_at lw_m5 201 rfl) rfl
theorem q1221 : (Jvm.Cond.soleField "CallRoundsModel" "net") ∈ lw_all := lw_g (lw_at lw_m5 202 rfl) rfl
theorem q1222 : (Jvm.Cond.laysFinal "CallRoundsModel" "CallRoundsModel" "readNet" "[I") ∈ lw_all := lw_g (lw_at lw_m5 203 rfl) rfl
theorem q1223 : (Jvm.Cond.soleField "CallRoundsModel" "readNet") ∈ lw_all := lw_g (lw_at lw_m5 204 rfl) rfl
theorem q1224 : (Jvm.Cond.lays "CallRoundsModel" "CallRoundsModel" "read" "I") ∈ lw_all := lw_g (lw_at lw_m5 205 rfl) rfl
theorem q1225 : (Jvm.Cond.soleField "CallRoundsModel" "read") ∈ lw_all := lw_g (lw_at lw_m5 206 rfl) rfl
theorem q1226 : (Jvm.Cond.lays "CallRoundsModel" "CallRoundsModel" "calls" "I") ∈ lw_all := lw_g (lw_at lw_m5 207 rfl) rfl
theorem q1227 : (Jvm.Cond.soleField "CallRoundsModel" "calls") ∈ lw_all := lw_g (lw_at lw_m5 208 rfl) rfl
theorem q1228 : (Jvm.Cond.laysFinal "CallRoundsModel" "CallRoundsModel" "callP" "[I") ∈ lw_all := lw_g (lw_at lw_m5 209 rfl) rfl
theorem q1229 : (Jvm.Cond.soleField "CallRoundsModel" "callP") ∈ lw_all := lw_g (lw_at lw_m5 210 rfl) rfl
theorem q1230 : (Jvm.Cond.laysFinal "CallRoundsModel" "CallRoundsModel" "callQ" "[I") ∈ lw_all := lw_g (lw_at lw_m5 211 rfl) rfl
theorem q1231 : (Jvm.Cond.soleField "CallRoundsModel" "callQ") ∈ lw_all := lw_g (lw_at lw_m5 212 rfl) rfl
theorem q1232 : (Jvm.Cond.laysFinal "CallRoundsModel" "CallRoundsModel" "seen" "[I") ∈ lw_all := lw_g (lw_at lw_m5 213 rfl) rfl
theorem q1233 : (Jvm.Cond.soleField "CallRoundsModel" "seen") ∈ lw_all := lw_g (lw_at lw_m5 214 rfl) rfl
theorem q1234 : (Jvm.Cond.laysFinal "CallRoundsModel" "CallRoundsModel" "runs" "[J") ∈ lw_all := lw_g (lw_at lw_m5 215 rfl) rfl
theorem q1235 : (Jvm.Cond.soleField "CallRoundsModel" "runs") ∈ lw_all := lw_g (lw_at lw_m5 216 rfl) rfl
theorem q1236 : (Jvm.Cond.laysFinal "CallRoundsModel" "CallRoundsModel" "good" "[J") ∈ lw_all := lw_g (lw_at lw_m5 217 rfl) rfl
theorem q1237 : (Jvm.Cond.soleField "CallRoundsModel" "good") ∈ lw_all := lw_g (lw_at lw_m5 218 rfl) rfl
theorem q1238 : (Jvm.Cond.laysFinal "CallRoundsModel" "CallRoundsModel" "fewest" "[I") ∈ lw_all := lw_g (lw_at lw_m5 219 rfl) rfl
theorem q1239 : (Jvm.Cond.soleField "CallRoundsModel" "fewest") ∈ lw_all := lw_g (lw_at lw_m5 220 rfl) rfl
theorem q1240 : (Jvm.Cond.laysFinal "CallRoundsModel" "CallRoundsModel" "most" "[I") ∈ lw_all := lw_g (lw_at lw_m5 221 rfl) rfl
theorem q1241 : (Jvm.Cond.soleField "CallRoundsModel" "most") ∈ lw_all := lw_g (lw_at lw_m5 222 rfl) rfl
theorem q1242 : (Jvm.Cond.lays "CallRoundsModel" "CallRoundsModel" "turn" "I") ∈ lw_all := lw_g (lw_at lw_m5 223 rfl) rfl
theorem q1243 : (Jvm.Cond.soleField "CallRoundsModel" "turn") ∈ lw_all := lw_g (lw_at lw_m5 224 rfl) rfl
theorem q1244 : (Jvm.Cond.laysFinal "CallRoundsModel" "CallRoundsModel" "downState" "[I") ∈ lw_all := lw_g (lw_at lw_m5 225 rfl) rfl
theorem q1245 : (Jvm.Cond.soleField "CallRoundsModel" "downState") ∈ lw_all := lw_g (lw_at lw_m5 226 rfl) rfl
theorem q1246 : (Jvm.Cond.laysFinal "CallRoundsModel" "CallRoundsModel" "downTokens" "[I") ∈ lw_all := lw_g (lw_at lw_m5 227 rfl) rfl
theorem q1247 : (Jvm.Cond.soleField "CallRoundsModel" "downTokens") ∈ lw_all := lw_g (lw_at lw_m5 228 rfl) rfl
theorem q1248 : (Jvm.Cond.laysFinal "CallRoundsModel" "CallRoundsModel" "downNext" "[I") ∈ lw_all := lw_g (lw_at lw_m5 229 rfl) rfl
theorem q1249 : (Jvm.Cond.soleField "CallRoundsModel" "downNext") ∈ lw_all := lw_g (lw_at lw_m5 230 rfl) rfl
theorem q1250 : (Jvm.Cond.lays "CallRoundsModel" "CallRoundsModel" "lookNet" "[I") ∈ lw_all := lw_g (lw_at lw_m5 231 rfl) rfl
theorem q1251 : (Jvm.Cond.soleField "CallRoundsModel" "lookNet") ∈ lw_all := lw_g (lw_at lw_m5 232 rfl) rfl
theorem q1252 : (Jvm.Cond.lays "CallRoundsModel" "CallRoundsModel" "lookMany" "I") ∈ lw_all := lw_g (lw_at lw_m5 233 rfl) rfl
theorem q1253 : (Jvm.Cond.soleField "CallRoundsModel" "lookMany") ∈ lw_all := lw_g (lw_at lw_m5 234 rfl) rfl
theorem q1254 : (Jvm.Cond.lays "CallRoundsModel" "CallRoundsModel" "lookRule" "I") ∈ lw_all := lw_g (lw_at lw_m5 235 rfl) rfl
theorem q1255 : (Jvm.Cond.soleField "CallRoundsModel" "lookRule") ∈ lw_all := lw_g (lw_at lw_m5 236 rfl) rfl
theorem q1256 : (Jvm.Cond.laysFinal "CallRoundsModel" "CallRoundsModel" "rowP" "[I") ∈ lw_all := lw_g (lw_at lw_m5 237 rfl) rfl
theorem q1257 : (Jvm.Cond.soleField "CallRoundsModel" "rowP") ∈ lw_all := lw_g (lw_at lw_m5 238 rfl) rfl
theorem q1258 : (Jvm.Cond.laysFinal "CallRoundsModel" "CallRoundsModel" "rowQ" "[I") ∈ lw_all := lw_g (lw_at lw_m5 239 rfl) rfl
theorem q1259 : (Jvm.Cond.soleField "CallRoundsModel" "rowQ") ∈ lw_all := lw_g (lw_at lw_m6 0 rfl) rfl
theorem q1260 : (Jvm.Cond.lays "CallRoundsModel" "CallRoundsModel" "alikeMany" "I") ∈ lw_all := lw_g (lw_at lw_m6 1 rfl) rfl
theorem q1261 : (Jvm.Cond.soleField "CallRoundsModel" "alikeMany") ∈ lw_all := lw_g (lw_at lw_m6 2 rfl) rfl
theorem q1262 : (Jvm.Cond.lays "CallRoundsModel" "CallRoundsModel" "alikeState" "I") ∈ lw_all := lw_g (lw_at lw_m6 3 rfl) rfl
theorem q1263 : (Jvm.Cond.soleField "CallRoundsModel" "alikeState") ∈ lw_all := lw_g (lw_at lw_m6 4 rfl) rfl
theorem q1264 : (Jvm.Cond.laysFinal "CallRoundsModel" "CallRoundsModel" "other" "[I") ∈ lw_all := lw_g (lw_at lw_m6 5 rfl) rfl
theorem q1265 : (Jvm.Cond.soleField "CallRoundsModel" "other") ∈ lw_all := lw_g (lw_at lw_m6 6 rfl) rfl
theorem q1266 : (Jvm.Cond.laysFinal "CallRoundsModel" "CallRoundsModel" "queue" "[I") ∈ lw_all := lw_g (lw_at lw_m6 7 rfl) rfl
theorem q1267 : (Jvm.Cond.soleField "CallRoundsModel" "queue") ∈ lw_all := lw_g (lw_at lw_m6 8 rfl) rfl
theorem q1268 : (Jvm.Cond.superclass "CallRoundsModel" "java/lang/Object") ∈ lw_all := lw_g (lw_at lw_m6 9 rfl) rfl
theorem q1270 : (Jvm.Cond.instanceMethod ({ cls := "CallRoundsModel", name := "net", desc := "(IIII)I" } : Jvm.MethodName)) ∈ lw_all := lw_g (lw_at lw_m6 11 rfl) rfl
theorem q1271 : (Jvm.Cond.selects "CallRoundsModel" ({ cls := "CallRoundsModel", name := "net", desc := "(IIII)I" } : Jvm.MethodName) ({ cls := "CallRoundsModel", name := "net", desc := "(IIII)I" } : Jvm.MethodName)) ∈ lw_all := lw_g (lw_at lw_m6 12 rfl) rfl
theorem q1272 : (Jvm.Cond.code ({ cls := "CallRoundsModel", name := "net", desc := "(IIII)I" } : Jvm.MethodName) prog_16_method_12_code (8 : Nat) (Option.some Jvm.ClassFile.FieldType.int)) ∈ lw_all := lw_g (lw_at lw_m6 13 rfl) rfl
theorem q1273 : (Jvm.Cond.methodLink "CallRoundsModel" (85 : Nat) ({ cls := "CallRoundsModel", name := "isSheet", desc := "(I)Z" } : Jvm.MethodName)) ∈ lw_all := lw_g (lw_at lw_m6 14 rfl) rfl
theorem q1274 : (Jvm.Cond.static ({ cls := "CallRoundsModel", name := "isSheet", desc := "(I)Z" } : Jvm.MethodName)) ∈ lw_all := lw_g (lw_at lw_m6 15 rfl) rfl
theorem q1275 : (Jvm.Cond.code ({ cls := "CallRoundsModel", name := "isSheet", desc := "(I)Z" } : Jvm.MethodName) prog_16_method_8_code (1 : Nat) (Option.some Jvm.ClassFile.FieldType.boolean)) ∈ lw_all := lw_g (lw_at lw_m6 16 rfl) rfl
theorem q1276 : (Jvm.Cond.methodLink "CallRoundsModel" (78 : Nat) ({ cls := "CallRoundsModel", name := "isIn", desc := "(III)Z" } : Jvm.MethodName)) ∈ lw_all := lw_g (lw_at lw_m6 17 rfl) rfl
theorem q1277 : (Jvm.Cond.static ({ cls := "CallRoundsModel", name := "isIn", desc := "(III)Z" } : Jvm.MethodName)) ∈ lw_all := lw_g (lw_at lw_m6 18 rfl) rfl
theorem q1278 : (Jvm.Cond.code ({ cls := "CallRoundsModel", name := "isIn", desc := "(III)Z" } : Jvm.MethodName) prog_16_method_5_code (3 : Nat) (Option.some Jvm.ClassFile.FieldType.boolean)) ∈ lw_all := lw_g (lw_at lw_m6 19 rfl) rfl
theorem q1279 : (Jvm.Cond.methodLink "CallRoundsModel" (89 : Nat) ({ cls := "CallRoundsModel", name := "isLane", desc := "(I)Z" } : Jvm.MethodName)) ∈ lw_all := lw_g (lw_at lw_m6 20 rfl) rfl
theorem q1280 : (Jvm.Cond.static ({ cls := "CallRoundsModel", name := "isLane", desc := "(I)Z" } : Jvm.MethodName)) ∈ lw_all := lw_g (lw_at lw_m6 21 rfl) rfl
theorem q1281 : (Jvm.Cond.code ({ cls := "CallRoundsModel", name := "isLane", desc := "(I)Z" } : Jvm.MethodName) prog_16_method_9_code (1 : Nat) (Option.some Jvm.ClassFile.FieldType.boolean)) ∈ lw_all := lw_g (lw_at lw_m6 22 rfl) rfl
theorem q1282 : (Jvm.Cond.methodLink "CallRoundsModel" (92 : Nat) ({ cls := "CallRoundsModel", name := "fails", desc := "(I)I" } : Jvm.MethodName)) ∈ lw_all := lw_g (lw_at lw_m6 23 rfl) rfl
theorem q1283 : (Jvm.Cond.privateMethod ({ cls := "CallRoundsModel", name := "fails", desc := "(I)I" } : Jvm.MethodName)) ∈ lw_tbl := lw_at lw_m6 24 rfl
theorem q1284 : (Jvm.Cond.instanceMethod ({ cls := "CallRoundsModel", name := "fails", desc := "(I)I" } : Jvm.MethodName)) ∈ lw_all := lw_g (lw_at lw_m6 25 rfl) rfl
theorem q1285 : (Jvm.Cond.code ({ cls := "CallRoundsModel", name := "fails", desc := "(I)I" } : Jvm.MethodName) prog_16_method_3_code (2 : Nat) (Option.some Jvm.ClassFile.FieldType.int)) ∈ lw_all := lw_g (lw_at lw_m6 26 rfl) rfl
theorem q1286 : (Jvm.Cond.methodLink "CallRoundsModel" (96 : Nat) ({ cls := "CallRoundsModel", name := "readAll", desc := "(II)I" } : Jvm.MethodName)) ∈ lw_all := lw_g (lw_at lw_m6 27 rfl) rfl
theorem q1287 : (Jvm.Cond.privateMethod ({ cls := "CallRoundsModel", name := "readAll", desc := "(II)I" } : Jvm.MethodName)) ∈ lw_tbl := lw_at lw_m6 28 rfl
theorem q1288 : (Jvm.Cond.instanceMethod ({ cls := "CallRoundsModel", name := "readAll", desc := "(II)I" } : Jvm.MethodName)) ∈ lw_all := lw_g (lw_at lw_m6 29 rfl) rfl
theorem q1289 : (Jvm.Cond.code ({ cls := "CallRoundsModel", name := "readAll", desc := "(II)I" } : Jvm.MethodName) prog_16_method_13_code (7 : Nat) (Option.some Jvm.ClassFile.FieldType.int)) ∈ lw_all := lw_g (lw_at lw_m6 30 rfl) rfl
theorem q1290 : (Jvm.Cond.methodLink "CallRoundsModel" (106 : Nat) ({ cls := "CallRoundsModel", name := "has", desc := "(II)Z" } : Jvm.MethodName)) ∈ lw_all := lw_g (lw_at lw_m6 31 rfl) rfl
theorem q1291 : (Jvm.Cond.static ({ cls := "CallRoundsModel", name := "has", desc := "(II)Z" } : Jvm.MethodName)) ∈ lw_all := lw_g (lw_at lw_m6 32 rfl) rfl
theorem q1292 : (Jvm.Cond.code ({ cls := "CallRoundsModel", name := "has", desc := "(II)Z" } : Jvm.MethodName) prog_16_method_6_code (2 : Nat) (Option.some Jvm.ClassFile.FieldType.boolean)) ∈ lw_all := lw_g (lw_at lw_m6 33 rfl) rfl
theorem q1294 : (Jvm.Cond.instanceMethod ({ cls := "CallRoundsModel", name := "ofPerson", desc := "(II)I" } : Jvm.MethodName)) ∈ lw_all := lw_g (lw_at lw_m6 35 rfl) rfl
theorem q1295 : (Jvm.Cond.selects "CallRoundsModel" ({ cls := "CallRoundsModel", name := "ofPerson", desc := "(II)I" } : Jvm.MethodName) ({ cls := "CallRoundsModel", name := "ofPerson", desc := "(II)I" } : Jvm.MethodName)) ∈ lw_all := lw_g (lw_at lw_m6 36 rfl) rfl
theorem q1296 : (Jvm.Cond.code ({ cls := "CallRoundsModel", name := "ofPerson", desc := "(II)I" } : Jvm.MethodName) prog_16_method_22_code (4 : Nat) (Option.some Jvm.ClassFile.FieldType.int)) ∈ lw_all := lw_g (lw_at lw_m6 37 rfl) rfl
theorem q1297 : (Jvm.Cond.methodLink "CallRoundsModel" (125 : Nat) ({ cls := "CallRoundsModel", name := "isPerson", desc := "(I)Z" } : Jvm.MethodName)) ∈ lw_all := lw_g (lw_at lw_m6 38 rfl) rfl
theorem q1298 : (Jvm.Cond.privateMethod ({ cls := "CallRoundsModel", name := "isPerson", desc := "(I)Z" } : Jvm.MethodName)) ∈ lw_tbl := lw_at lw_m6 39 rfl
theorem q1299 : (Jvm.Cond.instanceMethod ({ cls := "CallRoundsModel", name := "isPerson", desc := "(I)Z" } : Jvm.MethodName)) ∈ lw_all := lw_g (lw_at lw_m6 40 rfl) rfl
theorem q1300 : (Jvm.Cond.code ({ cls := "CallRoundsModel", name := "isPerson", desc := "(I)Z" } : Jvm.MethodName) prog_16_method_10_code (2 : Nat) (Option.some Jvm.ClassFile.FieldType.boolean)) ∈ lw_all := lw_g (lw_at lw_m6 41 rfl) rfl
theorem q1301 : (Jvm.Cond.methodLink "CallRoundsModel" (128 : Nat) ({ cls := "CallRoundsModel", name := "stateAt", desc := "(I)I" } : Jvm.MethodName)) ∈ lw_all := lw_g (lw_at lw_m6 42 rfl) rfl
theorem q1302 : (Jvm.Cond.privateMethod ({ cls := "CallRoundsModel", name := "stateAt", desc := "(I)I" } : Jvm.MethodName)) ∈ lw_tbl := lw_at lw_m6 43 rfl
theorem q1303 : (Jvm.Cond.instanceMethod ({ cls := "CallRoundsModel", name := "stateAt", desc := "(I)I" } : Jvm.MethodName)) ∈ lw_all := lw_g (lw_at lw_m6 44 rfl) rfl
theorem q1304 : (Jvm.Cond.code ({ cls := "CallRoundsModel", name := "stateAt", desc := "(I)I" } : Jvm.MethodName) prog_16_method_19_code (4 : Nat) (Option.some Jvm.ClassFile.FieldType.int)) ∈ lw_all := lw_g (lw_at lw_m6 45 rfl) rfl
theorem q1305 : (Jvm.Cond.methodLink "CallRoundsModel" (114 : Nat) ({ cls := "CallRoundsModel", name := "startOf", desc := "(I)I" } : Jvm.MethodName)) ∈ lw_all := lw_g (lw_at lw_m6 46 rfl) rfl
theorem q1306 : (Jvm.Cond.privateMethod ({ cls := "CallRoundsModel", name := "startOf", desc := "(I)I" } : Jvm.MethodName)) ∈ lw_tbl := lw_at lw_m6 47 rfl
theorem q1307 : (Jvm.Cond.instanceMethod ({ cls := "CallRoundsModel", name := "startOf", desc := "(I)I" } : Jvm.MethodName)) ∈ lw_all := lw_g (lw_at lw_m6 48 rfl) rfl
theorem q1308 : (Jvm.Cond.code ({ cls := "CallRoundsModel", name := "startOf", desc := "(I)I" } : Jvm.MethodName) prog_16_method_17_code (2 : Nat) (Option.some Jvm.ClassFile.FieldType.int)) ∈ lw_all := lw_g (lw_at lw_m6 49 rfl) rfl
theorem q1309 : (Jvm.Cond.constant "CallRoundsModel" (113 : Nat) (33825 : Int32)) ∈ lw_all := lw_g (lw_at lw_m6 50 rfl) rfl
theorem q1310 : (Jvm.Cond.methodLink "CallRoundsModel" (117 : Nat) ({ cls := "CallRoundsModel", name := "afterCall", desc := "(III)I" } : Jvm.MethodName)) ∈ lw_all := lw_g (lw_at lw_m6 51 rfl) rfl
theorem q1311 : (Jvm.Cond.static ({ cls := "CallRoundsModel", name := "afterCall", desc := "(III)I" } : Jvm.MethodName)) ∈ lw_all := lw_g (lw_at lw_m6 52 rfl) rfl
theorem q1312 : (Jvm.Cond.code ({ cls := "CallRoundsModel", name := "afterCall", desc := "(III)I" } : Jvm.MethodName) prog_16_method_16_code (4 : Nat) (Option.some Jvm.ClassFile.FieldType.int)) ∈ lw_all := lw_g (lw_at lw_m6 53 rfl) rfl
theorem q1313 : (Jvm.Cond.methodLink "CallRoundsModel" (110 : Nat) ({ cls := "CallRoundsModel", name := "of", desc := "(II)I" } : Jvm.MethodName)) ∈ lw_all := lw_g (lw_at lw_m6 54 rfl) rfl
theorem q1314 : (Jvm.Cond.static ({ cls := "CallRoundsModel", name := "of", desc := "(II)I" } : Jvm.MethodName)) ∈ lw_all := lw_g (lw_at lw_m6 55 rfl) rfl
theorem q1315 : (Jvm.Cond.code ({ cls := "CallRoundsModel", name := "of", desc := "(II)I" } : Jvm.MethodName) prog_16_method_14_code (2 : Nat) (Option.some Jvm.ClassFile.FieldType.int)) ∈ lw_all := lw_g (lw_at lw_m6 56 rfl) rfl
theorem q1316 : (Jvm.Cond.methodLink "CallRoundsModel" (131 : Nat) ({ cls := "CallRoundsModel", name := "numbersOf", desc := "([III)I" } : Jvm.MethodName)) ∈ lw_all := lw_g (lw_at lw_m6 57 rfl) rfl
theorem q1317 : (Jvm.Cond.static ({ cls := "CallRoundsModel", name := "numbersOf", desc := "([III)I" } : Jvm.MethodName)) ∈ lw_all := lw_g (lw_at lw_m6 58 rfl) rfl
theorem q1318 : (Jvm.Cond.code ({ cls := "CallRoundsModel", name := "numbersOf", desc := "([III)I" } : Jvm.MethodName) prog_16_method_15_code (5 : Nat) (Option.some Jvm.ClassFile.FieldType.int)) ∈ lw_all := lw_g (lw_at lw_m6 59 rfl) rfl
theorem q1319 : (Jvm.Cond.methodLink "CallRoundsModel" (135 : Nat) ({ cls := "CallRoundsModel", name := "tokensNow", desc := "(I)I" } : Jvm.MethodName)) ∈ lw_all := lw_g (lw_at lw_m6 60 rfl) rfl
theorem q1320 : (Jvm.Cond.privateMethod ({ cls := "CallRoundsModel", name := "tokensNow", desc := "(I)I" } : Jvm.MethodName)) ∈ lw_tbl := lw_at lw_m6 61 rfl
theorem q1321 : (Jvm.Cond.instanceMethod ({ cls := "CallRoundsModel", name := "tokensNow", desc := "(I)I" } : Jvm.MethodName)) ∈ lw_all := lw_g (lw_at lw_m6 62 rfl) rfl
theorem q1322 : (Jvm.Cond.code ({ cls := "CallRoundsModel", name := "tokensNow", desc := "(I)I" } : Jvm.MethodName) prog_16_method_21_code (4 : Nat) (Option.some Jvm.ClassFile.FieldType.int)) ∈ lw_all := lw_g (lw_at lw_m6 63 rfl) rfl
theorem q1323 : (Jvm.Cond.methodLink "CallRoundsModel" (121 : Nat) ({ cls := "CallRoundsModel", name := "tokensAfter", desc := "(IIII)I" } : Jvm.MethodName)) ∈ lw_all := lw_g (lw_at lw_m6 64 rfl) rfl
theorem q1324 : (Jvm.Cond.static ({ cls := "CallRoundsModel", name := "tokensAfter", desc := "(IIII)I" } : Jvm.MethodName)) ∈ lw_all := lw_g (lw_at lw_m6 65 rfl) rfl
theorem q1325 : (Jvm.Cond.code ({ cls := "CallRoundsModel", name := "tokensAfter", desc := "(IIII)I" } : Jvm.MethodName) prog_16_method_20_code (4 : Nat) (Option.some Jvm.ClassFile.FieldType.int)) ∈ lw_all := lw_g (lw_at lw_m6 66 rfl) rfl
theorem q1327 : (Jvm.Cond.instanceMethod ({ cls := "CallRoundsModel", name := "call", desc := "(II)I" } : Jvm.MethodName)) ∈ lw_all := lw_g (lw_at lw_m6 68 rfl) rfl
theorem q1328 : (Jvm.Cond.selects "CallRoundsModel" ({ cls := "CallRoundsModel", name := "call", desc := "(II)I" } : Jvm.MethodName) ({ cls := "CallRoundsModel", name := "call", desc := "(II)I" } : Jvm.MethodName)) ∈ lw_all := lw_g (lw_at lw_m6 69 rfl) rfl
theorem q1329 : (Jvm.Cond.code ({ cls := "CallRoundsModel", name := "call", desc := "(II)I" } : Jvm.MethodName) prog_16_method_23_code (3 : Nat) (Option.some Jvm.ClassFile.FieldType.int)) ∈ lw_all := lw_g (lw_at lw_m6 70 rfl) rfl
theorem q1331 : (Jvm.Cond.instanceMethod ({ cls := "CallRoundsModel", name := "ofCall", desc := "(II)I" } : Jvm.MethodName)) ∈ lw_all := lw_g (lw_at lw_m6 72 rfl) rfl
theorem q1332 : (Jvm.Cond.selects "CallRoundsModel" ({ cls := "CallRoundsModel", name := "ofCall", desc := "(II)I" } : Jvm.MethodName) ({ cls := "CallRoundsModel", name := "ofCall", desc := "(II)I" } : Jvm.MethodName)) ∈ lw_all := lw_g (lw_at lw_m6 73 rfl) rfl
theorem q1333 : (Jvm.Cond.code ({ cls := "CallRoundsModel", name := "ofCall", desc := "(II)I" } : Jvm.MethodName) prog_16_method_27_code (3 : Nat) (Option.some Jvm.ClassFile.FieldType.int)) ∈ lw_all := lw_g (lw_at lw_m6 74 rfl) rfl
theorem q1334 : (Jvm.Cond.methodLink "CallRoundsModel" (144 : Nat) ({ cls := "CallRoundsModel", name := "isCall", desc := "(I)Z" } : Jvm.MethodName)) ∈ lw_all := lw_g (lw_at lw_m6 75 rfl) rfl
theorem q1335 : (Jvm.Cond.privateMethod ({ cls := "CallRoundsModel", name := "isCall", desc := "(I)Z" } : Jvm.MethodName)) ∈ lw_tbl := lw_at lw_m6 76 rfl
theorem q1336 : (Jvm.Cond.instanceMethod ({ cls := "CallRoundsModel", name := "isCall", desc := "(I)Z" } : Jvm.MethodName)) ∈ lw_all := lw_g (lw_at lw_m6 77 rfl) rfl
theorem q1337 : (Jvm.Cond.code ({ cls := "CallRoundsModel", name := "isCall", desc := "(I)Z" } : Jvm.MethodName) prog_16_method_24_code (2 : Nat) (Option.some Jvm.ClassFile.FieldType.boolean)) ∈ lw_all := lw_g (lw_at lw_m6 78 rfl) rfl
theorem q1338 : (Jvm.Cond.methodLink "CallRoundsModel" (147 : Nat) ({ cls := "CallRoundsModel", name := "kindOf", desc := "(I)I" } : Jvm.MethodName)) ∈ lw_all := lw_g (lw_at lw_m6 79 rfl) rfl
theorem q1339 : (Jvm.Cond.privateMethod ({ cls := "CallRoundsModel", name := "kindOf", desc := "(I)I" } : Jvm.MethodName)) ∈ lw_tbl := lw_at lw_m6 80 rfl
theorem q1340 : (Jvm.Cond.instanceMethod ({ cls := "CallRoundsModel", name := "kindOf", desc := "(I)I" } : Jvm.MethodName)) ∈ lw_all := lw_g (lw_at lw_m6 81 rfl) rfl
theorem q1341 : (Jvm.Cond.code ({ cls := "CallRoundsModel", name := "kindOf", desc := "(I)I" } : Jvm.MethodName) prog_16_method_26_code (4 : Nat) (Option.some Jvm.ClassFile.FieldType.int)) ∈ lw_all := lw_g (lw_at lw_m6 82 rfl) rfl
theorem q1342 : (Jvm.Cond.methodLink "CallRoundsModel" (138 : Nat) ({ cls := "CallRoundsModel", name := "learnt", desc := "(II)I" } : Jvm.MethodName)) ∈ lw_all := lw_g (lw_at lw_m6 83 rfl) rfl
theorem q1343 : (Jvm.Cond.privateMethod ({ cls := "CallRoundsModel", name := "learnt", desc := "(II)I" } : Jvm.MethodName)) ∈ lw_tbl := lw_at lw_m6 84 rfl
theorem q1344 : (Jvm.Cond.instanceMethod ({ cls := "CallRoundsModel", name := "learnt", desc := "(II)I" } : Jvm.MethodName)) ∈ lw_all := lw_g (lw_at lw_m6 85 rfl) rfl
theorem q1345 : (Jvm.Cond.code ({ cls := "CallRoundsModel", name := "learnt", desc := "(II)I" } : Jvm.MethodName) prog_16_method_25_code (3 : Nat) (Option.some Jvm.ClassFile.FieldType.int)) ∈ lw_all := lw_g (lw_at lw_m6 86 rfl) rfl
theorem q1346 : (Jvm.Cond.methodLink "CallRoundsModel" (141 : Nat) ({ cls := "CallRoundsModel", name := "bitsOf", desc := "(I)I" } : Jvm.MethodName)) ∈ lw_all := lw_g (lw_at lw_m6 87 rfl) rfl
theorem q1347 : (Jvm.Cond.static ({ cls := "CallRoundsModel", name := "bitsOf", desc := "(I)I" } : Jvm.MethodName)) ∈ lw_all := lw_g (lw_at lw_m6 88 rfl) rfl
theorem q1348 : (Jvm.Cond.code ({ cls := "CallRoundsModel", name := "bitsOf", desc := "(I)I" } : Jvm.MethodName) prog_16_method_7_code (3 : Nat) (Option.some Jvm.ClassFile.FieldType.int)) ∈ lw_all := lw_g (lw_at lw_m6 89 rfl) rfl
theorem q1350 : (Jvm.Cond.instanceMethod ({ cls := "CallRoundsModel", name := "back", desc := "()I" } : Jvm.MethodName)) ∈ lw_all := lw_g (lw_at lw_m6 91 rfl) rfl
theorem q1351 : (Jvm.Cond.selects "CallRoundsModel" ({ cls := "CallRoundsModel", name := "back", desc := "()I" } : Jvm.MethodName) ({ cls := "CallRoundsModel", name := "back", desc := "()I" } : Jvm.MethodName)) ∈ lw_all := lw_g (lw_at lw_m6 92 rfl) rfl
theorem q1352 : (Jvm.Cond.code ({ cls := "CallRoundsModel", name := "back", desc := "()I" } : Jvm.MethodName) prog_16_method_28_code (1 : Nat) (Option.some Jvm.ClassFile.FieldType.int)) ∈ lw_all := lw_g (lw_at lw_m6 93 rfl) rfl
theorem q1354 : (Jvm.Cond.instanceMethod ({ cls := "CallRoundsModel", name := "may", desc := "(II)I" } : Jvm.MethodName)) ∈ lw_all := lw_g (lw_at lw_m6 95 rfl) rfl
theorem q1355 : (Jvm.Cond.selects "CallRoundsModel" ({ cls := "CallRoundsModel", name := "may", desc := "(II)I" } : Jvm.MethodName) ({ cls := "CallRoundsModel", name := "may", desc := "(II)I" } : Jvm.MethodName)) ∈ lw_all := lw_g (lw_at lw_m6 96 rfl) rfl
theorem q1356 : (Jvm.Cond.code ({ cls := "CallRoundsModel", name := "may", desc := "(II)I" } : Jvm.MethodName) prog_16_method_30_code (5 : Nat) (Option.some Jvm.ClassFile.FieldType.int)) ∈ lw_all := lw_g (lw_at lw_m6 97 rfl) rfl
theorem q1357 : (Jvm.Cond.methodLink "CallRoundsModel" (150 : Nat) ({ cls := "CallRoundsModel", name := "isRule", desc := "(I)Z" } : Jvm.MethodName)) ∈ lw_all := lw_g (lw_at lw_m6 98 rfl) rfl
theorem q1358 : (Jvm.Cond.static ({ cls := "CallRoundsModel", name := "isRule", desc := "(I)Z" } : Jvm.MethodName)) ∈ lw_all := lw_g (lw_at lw_m6 99 rfl) rfl
theorem q1359 : (Jvm.Cond.code ({ cls := "CallRoundsModel", name := "isRule", desc := "(I)Z" } : Jvm.MethodName) prog_16_method_11_code (1 : Nat) (Option.some Jvm.ClassFile.FieldType.boolean)) ∈ lw_all := lw_g (lw_at lw_m6 100 rfl) rfl
theorem q1360 : (Jvm.Cond.methodLink "CallRoundsModel" (153 : Nat) ({ cls := "CallRoundsModel", name := "mayRing", desc := "([IIIIII)Z" } : Jvm.MethodName)) ∈ lw_all := lw_g (lw_at lw_m6 101 rfl) rfl
theorem q1361 : (Jvm.Cond.static ({ cls := "CallRoundsModel", name := "mayRing", desc := "([IIIIII)Z" } : Jvm.MethodName)) ∈ lw_all := lw_g (lw_at lw_m6 102 rfl) rfl
theorem q1362 : (Jvm.Cond.code ({ cls := "CallRoundsModel", name := "mayRing", desc := "([IIIIII)Z" } : Jvm.MethodName) prog_16_method_29_code (6 : Nat) (Option.some Jvm.ClassFile.FieldType.boolean)) ∈ lw_all := lw_g (lw_at lw_m6 103 rfl) rfl
theorem q1364 : (Jvm.Cond.instanceMethod ({ cls := "CallRoundsModel", name := "runs", desc := "(II)J" } : Jvm.MethodName)) ∈ lw_all := lw_g (lw_at lw_m6 105 rfl) rfl
theorem q1365 : (Jvm.Cond.selects "CallRoundsModel" ({ cls := "CallRoundsModel", name := "runs", desc := "(II)J" } : Jvm.MethodName) ({ cls := "CallRoundsModel", name := "runs", desc := "(II)J" } : Jvm.MethodName)) ∈ lw_all := lw_g (lw_at lw_m6 106 rfl) rfl
theorem q1366 : (Jvm.Cond.code ({ cls := "CallRoundsModel", name := "runs", desc := "(II)J" } : Jvm.MethodName) prog_16_method_38_code (4 : Nat) (Option.some Jvm.ClassFile.FieldType.long)) ∈ lw_all := lw_g (lw_at lw_m6 107 rfl) rfl
theorem q1367 : (Jvm.Cond.constantLong "CallRoundsModel" (76 : Nat) (-9223372036854775808 : Int64)) ∈ lw_all := lw_g (lw_at lw_m6 108 rfl) rfl
theorem q1368 : (Jvm.Cond.methodLink "CallRoundsModel" (191 : Nat) ({ cls := "CallRoundsModel", name := "layNow", desc := "(I)I" } : Jvm.MethodName)) ∈ lw_all := lw_g (lw_at lw_m6 109 rfl) rfl
theorem q1369 : (Jvm.Cond.privateMethod ({ cls := "CallRoundsModel", name := "layNow", desc := "(I)I" } : Jvm.MethodName)) ∈ lw_tbl := lw_at lw_m6 110 rfl
theorem q1370 : (Jvm.Cond.instanceMethod ({ cls := "CallRoundsModel", name := "layNow", desc := "(I)I" } : Jvm.MethodName)) ∈ lw_all := lw_g (lw_at lw_m6 111 rfl) rfl
theorem q1371 : (Jvm.Cond.code ({ cls := "CallRoundsModel", name := "layNow", desc := "(I)I" } : Jvm.MethodName) prog_16_method_37_code (2 : Nat) (Option.some Jvm.ClassFile.FieldType.int)) ∈ lw_all := lw_g (lw_at lw_m6 112 rfl) rfl
theorem q1372 : (Jvm.Cond.methodLink "CallRoundsModel" (184 : Nat) ({ cls := "CallRoundsModel", name := "lookAt", desc := "([III)V" } : Jvm.MethodName)) ∈ lw_all := lw_g (lw_at lw_m6 113 rfl) rfl
theorem q1373 : (Jvm.Cond.privateMethod ({ cls := "CallRoundsModel", name := "lookAt", desc := "([III)V" } : Jvm.MethodName)) ∈ lw_tbl := lw_at lw_m6 114 rfl
theorem q1374 : (Jvm.Cond.instanceMethod ({ cls := "CallRoundsModel", name := "lookAt", desc := "([III)V" } : Jvm.MethodName)) ∈ lw_all := lw_g (lw_at lw_m6 115 rfl) rfl
theorem q1375 : (Jvm.Cond.code ({ cls := "CallRoundsModel", name := "lookAt", desc := "([III)V" } : Jvm.MethodName) prog_16_method_36_code (4 : Nat) (Option.none : Option Jvm.ClassFile.FieldType)) ∈ lw_all := lw_g (lw_at lw_m6 116 rfl) rfl
theorem q1376 : (Jvm.Cond.methodLink "CallRoundsModel" (188 : Nat) ({ cls := "CallRoundsModel", name := "lay", desc := "(II)I" } : Jvm.MethodName)) ∈ lw_all := lw_g (lw_at lw_m6 117 rfl) rfl
theorem q1377 : (Jvm.Cond.privateMethod ({ cls := "CallRoundsModel", name := "lay", desc := "(II)I" } : Jvm.MethodName)) ∈ lw_tbl := lw_at lw_m6 118 rfl
theorem q1378 : (Jvm.Cond.instanceMethod ({ cls := "CallRoundsModel", name := "lay", desc := "(II)I" } : Jvm.MethodName)) ∈ lw_all := lw_g (lw_at lw_m6 119 rfl) rfl
theorem q1379 : (Jvm.Cond.code ({ cls := "CallRoundsModel", name := "lay", desc := "(II)I" } : Jvm.MethodName) prog_16_method_35_code (13 : Nat) (Option.some Jvm.ClassFile.FieldType.int)) ∈ lw_all := lw_g (lw_at lw_m6 120 rfl) rfl
theorem q1380 : (Jvm.Cond.methodLink "CallRoundsModel" (158 : Nat) ({ cls := "CallRoundsModel", name := "placeOf", desc := "(II)I" } : Jvm.MethodName)) ∈ lw_all := lw_g (lw_at lw_m6 121 rfl) rfl
theorem q1381 : (Jvm.Cond.static ({ cls := "CallRoundsModel", name := "placeOf", desc := "(II)I" } : Jvm.MethodName)) ∈ lw_all := lw_g (lw_at lw_m6 122 rfl) rfl
theorem q1382 : (Jvm.Cond.code ({ cls := "CallRoundsModel", name := "placeOf", desc := "(II)I" } : Jvm.MethodName) prog_16_method_31_code (7 : Nat) (Option.some Jvm.ClassFile.FieldType.int)) ∈ lw_all := lw_g (lw_at lw_m6 123 rfl) rfl
theorem q1383 : (Jvm.Cond.constant "CallRoundsModel" (157 : Nat) (65535 : Int32)) ∈ lw_all := lw_g (lw_at lw_m6 124 rfl) rfl
theorem q1384 : (Jvm.Cond.methodLink "CallRoundsModel" (170 : Nat) ({ cls := "CallRoundsModel", name := "open", desc := "(III)V" } : Jvm.MethodName)) ∈ lw_all := lw_g (lw_at lw_m6 125 rfl) rfl
theorem q1385 : (Jvm.Cond.privateMethod ({ cls := "CallRoundsModel", name := "open", desc := "(III)V" } : Jvm.MethodName)) ∈ lw_tbl := lw_at lw_m6 126 rfl
theorem q1386 : (Jvm.Cond.instanceMethod ({ cls := "CallRoundsModel", name := "open", desc := "(III)V" } : Jvm.MethodName)) ∈ lw_all := lw_g (lw_at lw_m6 127 rfl) rfl
theorem q1387 : (Jvm.Cond.code ({ cls := "CallRoundsModel", name := "open", desc := "(III)V" } : Jvm.MethodName) prog_16_method_32_code (5 : Nat) (Option.none : Option Jvm.ClassFile.FieldType)) ∈ lw_all := lw_g (lw_at lw_m6 128 rfl) rfl
theorem q1388 : (Jvm.Cond.methodLink "CallRoundsModel" (174 : Nat) ({ cls := "CallRoundsModel", name := "close", desc := "(II)V" } : Jvm.MethodName)) ∈ lw_all := lw_g (lw_at lw_m6 129 rfl) rfl
theorem q1389 : (Jvm.Cond.privateMethod ({ cls := "CallRoundsModel", name := "close", desc := "(II)V" } : Jvm.MethodName)) ∈ lw_tbl := lw_at lw_m6 130 rfl
theorem q1390 : (Jvm.Cond.instanceMethod ({ cls := "CallRoundsModel", name := "close", desc := "(II)V" } : Jvm.MethodName)) ∈ lw_all := lw_g (lw_at lw_m6 131 rfl) rfl
theorem q1391 : (Jvm.Cond.code ({ cls := "CallRoundsModel", name := "close", desc := "(II)V" } : Jvm.MethodName) prog_16_method_34_code (4 : Nat) (Option.none : Option Jvm.ClassFile.FieldType)) ∈ lw_all := lw_g (lw_at lw_m6 132 rfl) rfl
theorem q1392 : (Jvm.Cond.methodLink "CallRoundsModel" (167 : Nat) ({ cls := "CallRoundsModel", name := "areExperts", desc := "(II)Z" } : Jvm.MethodName)) ∈ lw_all := lw_g (lw_at lw_m6 133 rfl) rfl
theorem q1393 : (Jvm.Cond.privateMethod ({ cls := "CallRoundsModel", name := "areExperts", desc := "(II)Z" } : Jvm.MethodName)) ∈ lw_tbl := lw_at lw_m6 134 rfl
theorem q1394 : (Jvm.Cond.instanceMethod ({ cls := "CallRoundsModel", name := "areExperts", desc := "(II)Z" } : Jvm.MethodName)) ∈ lw_all := lw_g (lw_at lw_m6 135 rfl) rfl
theorem q1395 : (Jvm.Cond.code ({ cls := "CallRoundsModel", name := "areExperts", desc := "(II)Z" } : Jvm.MethodName) prog_16_method_18_code (4 : Nat) (Option.some Jvm.ClassFile.FieldType.boolean)) ∈ lw_all := lw_g (lw_at lw_m6 136 rfl) rfl
theorem q1396 : (Jvm.Cond.methodLink "CallRoundsModel" (181 : Nat) ({ cls := "CallRoundsModel", name := "add", desc := "(II)V" } : Jvm.MethodName)) ∈ lw_all := lw_g (lw_at lw_m6 137 rfl) rfl
theorem q1397 : (Jvm.Cond.privateMethod ({ cls := "CallRoundsModel", name := "add", desc := "(II)V" } : Jvm.MethodName)) ∈ lw_tbl := lw_at lw_m6 138 rfl
theorem q1398 : (Jvm.Cond.instanceMethod ({ cls := "CallRoundsModel", name := "add", desc := "(II)V" } : Jvm.MethodName)) ∈ lw_all := lw_g (lw_at lw_m6 139 rfl) rfl
theorem q1399 : (Jvm.Cond.code ({ cls := "CallRoundsModel", name := "add", desc := "(II)V" } : Jvm.MethodName) prog_16_method_33_code (3 : Nat) (Option.none : Option Jvm.ClassFile.FieldType)) ∈ lw_all := lw_g (lw_at lw_m6 140 rfl) rfl
theorem q1401 : (Jvm.Cond.instanceMethod ({ cls := "CallRoundsModel", name := "verdict", desc := "(I)I" } : Jvm.MethodName)) ∈ lw_all := lw_g (lw_at lw_m6 142 rfl) rfl
theorem q1402 : (Jvm.Cond.selects "CallRoundsModel" ({ cls := "CallRoundsModel", name := "verdict", desc := "(I)I" } : Jvm.MethodName) ({ cls := "CallRoundsModel", name := "verdict", desc := "(I)I" } : Jvm.MethodName)) ∈ lw_all := lw_g (lw_at lw_m6 143 rfl) rfl
theorem q1403 : (Jvm.Cond.code ({ cls := "CallRoundsModel", name := "verdict", desc := "(I)I" } : Jvm.MethodName) prog_16_method_40_code (2 : Nat) (Option.some Jvm.ClassFile.FieldType.int)) ∈ lw_all := lw_g (lw_at lw_m6 144 rfl) rfl
theorem q1404 : (Jvm.Cond.methodLink "CallRoundsModel" (194 : Nat) ({ cls := "CallRoundsModel", name := "verdictAt", desc := "(I)I" } : Jvm.MethodName)) ∈ lw_all := lw_g (lw_at lw_m6 145 rfl) rfl
theorem q1405 : (Jvm.Cond.privateMethod ({ cls := "CallRoundsModel", name := "verdictAt", desc := "(I)I" } : Jvm.MethodName)) ∈ lw_tbl := lw_at lw_m6 146 rfl
theorem q1406 : (Jvm.Cond.instanceMethod ({ cls := "CallRoundsModel", name := "verdictAt", desc := "(I)I" } : Jvm.MethodName)) ∈ lw_all := lw_g (lw_at lw_m6 147 rfl) rfl
theorem q1407 : (Jvm.Cond.code ({ cls := "CallRoundsModel", name := "verdictAt", desc := "(I)I" } : Jvm.MethodName) prog_16_method_39_code (2 : Nat) (Option.some Jvm.ClassFile.FieldType.int)) ∈ lw_all := lw_g (lw_at lw_m6 148 rfl) rfl
theorem q1409 : (Jvm.Cond.instanceMethod ({ cls := "CallRoundsModel", name := "calls", desc := "(II)I" } : Jvm.MethodName)) ∈ lw_all := lw_g (lw_at lw_m6 150 rfl) rfl
theorem q1410 : (Jvm.Cond.selects "CallRoundsModel" ({ cls := "CallRoundsModel", name := "calls", desc := "(II)I" } : Jvm.MethodName) ({ cls := "CallRoundsModel", name := "calls", desc := "(II)I" } : Jvm.MethodName)) ∈ lw_all := lw_g (lw_at lw_m6 151 rfl) rfl
theorem q1411 : (Jvm.Cond.code ({ cls := "CallRoundsModel", name := "calls", desc := "(II)I" } : Jvm.MethodName) prog_16_method_41_code (4 : Nat) (Option.some Jvm.ClassFile.FieldType.int)) ∈ lw_all := lw_g (lw_at lw_m6 152 rfl) rfl
theorem q1413 : (Jvm.Cond.instanceMethod ({ cls := "CallRoundsModel", name := "keeps", desc := "(III)I" } : Jvm.MethodName)) ∈ lw_all := lw_g (lw_at lw_m6 154 rfl) rfl
theorem q1414 : (Jvm.Cond.selects "CallRoundsModel" ({ cls := "CallRoundsModel", name := "keeps", desc := "(III)I" } : Jvm.MethodName) ({ cls := "CallRoundsModel", name := "keeps", desc := "(III)I" } : Jvm.MethodName)) ∈ lw_all := lw_g (lw_at lw_m6 155 rfl) rfl
theorem q1415 : (Jvm.Cond.code ({ cls := "CallRoundsModel", name := "keeps", desc := "(III)I" } : Jvm.MethodName) prog_16_method_42_code (6 : Nat) (Option.some Jvm.ClassFile.FieldType.int)) ∈ lw_all := lw_g (lw_at lw_m6 156 rfl) rfl
theorem q1417 : (Jvm.Cond.instanceMethod ({ cls := "CallRoundsModel", name := "best", desc := "(II)I" } : Jvm.MethodName)) ∈ lw_all := lw_g (lw_at lw_m6 158 rfl) rfl
theorem q1418 : (Jvm.Cond.selects "CallRoundsModel" ({ cls := "CallRoundsModel", name := "best", desc := "(II)I" } : Jvm.MethodName) ({ cls := "CallRoundsModel", name := "best", desc := "(II)I" } : Jvm.MethodName)) ∈ lw_all := lw_g (lw_at lw_m6 159 rfl) rfl
theorem q1419 : (Jvm.Cond.code ({ cls := "CallRoundsModel", name := "best", desc := "(II)I" } : Jvm.MethodName) prog_16_method_43_code (10 : Nat) (Option.some Jvm.ClassFile.FieldType.int)) ∈ lw_all := lw_g (lw_at lw_m6 160 rfl) rfl
theorem q1421 : (Jvm.Cond.instanceMethod ({ cls := "CallRoundsModel", name := "alike", desc := "(I)I" } : Jvm.MethodName)) ∈ lw_all := lw_g (lw_at lw_m6 162 rfl) rfl
theorem q1422 : (Jvm.Cond.selects "CallRoundsModel" ({ cls := "CallRoundsModel", name := "alike", desc := "(I)I" } : Jvm.MethodName) ({ cls := "CallRoundsModel", name := "alike", desc := "(I)I" } : Jvm.MethodName)) ∈ lw_all := lw_g (lw_at lw_m6 163 rfl) rfl
theorem q1423 : (Jvm.Cond.code ({ cls := "CallRoundsModel", name := "alike", desc := "(I)I" } : Jvm.MethodName) prog_16_method_47_code (2 : Nat) (Option.some Jvm.ClassFile.FieldType.int)) ∈ lw_all := lw_g (lw_at lw_m6 164 rfl) rfl
theorem q1424 : (Jvm.Cond.methodLink "CallRoundsModel" (209 : Nat) ({ cls := "CallRoundsModel", name := "layAlike", desc := "(I)V" } : Jvm.MethodName)) ∈ lw_all := lw_g (lw_at lw_m6 165 rfl) rfl
theorem q1425 : (Jvm.Cond.privateMethod ({ cls := "CallRoundsModel", name := "layAlike", desc := "(I)V" } : Jvm.MethodName)) ∈ lw_tbl := lw_at lw_m6 166 rfl
theorem q1426 : (Jvm.Cond.instanceMethod ({ cls := "CallRoundsModel", name := "layAlike", desc := "(I)V" } : Jvm.MethodName)) ∈ lw_all := lw_g (lw_at lw_m6 167 rfl) rfl
theorem q1427 : (Jvm.Cond.code ({ cls := "CallRoundsModel", name := "layAlike", desc := "(I)V" } : Jvm.MethodName) prog_16_method_46_code (5 : Nat) (Option.none : Option Jvm.ClassFile.FieldType)) ∈ lw_all := lw_g (lw_at lw_m6 168 rfl) rfl
theorem q1428 : (Jvm.Cond.methodLink "CallRoundsModel" (203 : Nat) ({ cls := "CallRoundsModel", name := "layRow", desc := "(I)I" } : Jvm.MethodName)) ∈ lw_all := lw_g (lw_at lw_m6 169 rfl) rfl
theorem q1429 : (Jvm.Cond.privateMethod ({ cls := "CallRoundsModel", name := "layRow", desc := "(I)I" } : Jvm.MethodName)) ∈ lw_tbl := lw_at lw_m6 170 rfl
theorem q1430 : (Jvm.Cond.instanceMethod ({ cls := "CallRoundsModel", name := "layRow", desc := "(I)I" } : Jvm.MethodName)) ∈ lw_all := lw_g (lw_at lw_m6 171 rfl) rfl
theorem q1431 : (Jvm.Cond.code ({ cls := "CallRoundsModel", name := "layRow", desc := "(I)I" } : Jvm.MethodName) prog_16_method_44_code (5 : Nat) (Option.some Jvm.ClassFile.FieldType.int)) ∈ lw_all := lw_g (lw_at lw_m6 172 rfl) rfl
theorem q1432 : (Jvm.Cond.methodLink "CallRoundsModel" (206 : Nat) ({ cls := "CallRoundsModel", name := "seesAlike", desc := "(I)Z" } : Jvm.MethodName)) ∈ lw_all := lw_g (lw_at lw_m6 173 rfl) rfl
theorem q1433 : (Jvm.Cond.privateMethod ({ cls := "CallRoundsModel", name := "seesAlike", desc := "(I)Z" } : Jvm.MethodName)) ∈ lw_tbl := lw_at lw_m6 174 rfl
theorem q1434 : (Jvm.Cond.instanceMethod ({ cls := "CallRoundsModel", name := "seesAlike", desc := "(I)Z" } : Jvm.MethodName)) ∈ lw_all := lw_g (lw_at lw_m6 175 rfl) rfl
theorem q1435 : (Jvm.Cond.code ({ cls := "CallRoundsModel", name := "seesAlike", desc := "(I)Z" } : Jvm.MethodName) prog_16_method_45_code (7 : Nat) (Option.some Jvm.ClassFile.FieldType.boolean)) ∈ lw_all := lw_g (lw_at lw_m6 176 rfl) rfl
theorem q1437 : (Jvm.Cond.instanceMethod ({ cls := "CallRoundsModel", name := "sure", desc := "(III)I" } : Jvm.MethodName)) ∈ lw_all := lw_g (lw_at lw_m6 178 rfl) rfl
theorem q1438 : (Jvm.Cond.selects "CallRoundsModel" ({ cls := "CallRoundsModel", name := "sure", desc := "(III)I" } : Jvm.MethodName) ({ cls := "CallRoundsModel", name := "sure", desc := "(III)I" } : Jvm.MethodName)) ∈ lw_all := lw_g (lw_at lw_m6 179 rfl) rfl
theorem q1439 : (Jvm.Cond.code ({ cls := "CallRoundsModel", name := "sure", desc := "(III)I" } : Jvm.MethodName) prog_16_method_48_code (4 : Nat) (Option.some Jvm.ClassFile.FieldType.int)) ∈ lw_all := lw_g (lw_at lw_m6 180 rfl) rfl
theorem q1441 : (Jvm.Cond.instanceMethod ({ cls := "CallRoundsModel", name := "known", desc := "(II)I" } : Jvm.MethodName)) ∈ lw_all := lw_g (lw_at lw_m6 182 rfl) rfl
theorem q1442 : (Jvm.Cond.selects "CallRoundsModel" ({ cls := "CallRoundsModel", name := "known", desc := "(II)I" } : Jvm.MethodName) ({ cls := "CallRoundsModel", name := "known", desc := "(II)I" } : Jvm.MethodName)) ∈ lw_all := lw_g (lw_at lw_m6 183 rfl) rfl
theorem q1443 : (Jvm.Cond.code ({ cls := "CallRoundsModel", name := "known", desc := "(II)I" } : Jvm.MethodName) prog_16_method_49_code (3 : Nat) (Option.some Jvm.ClassFile.FieldType.int)) ∈ lw_all := lw_g (lw_at lw_m6 184 rfl) rfl
theorem q1445 : (Jvm.Cond.instanceMethod ({ cls := "CallRoundsModel", name := "end", desc := "(I)I" } : Jvm.MethodName)) ∈ lw_all := lw_g (lw_at lw_m6 186 rfl) rfl
theorem q1446 : (Jvm.Cond.selects "CallRoundsModel" ({ cls := "CallRoundsModel", name := "end", desc := "(I)I" } : Jvm.MethodName) ({ cls := "CallRoundsModel", name := "end", desc := "(I)I" } : Jvm.MethodName)) ∈ lw_all := lw_g (lw_at lw_m6 187 rfl) rfl
theorem q1447 : (Jvm.Cond.code ({ cls := "CallRoundsModel", name := "end", desc := "(I)I" } : Jvm.MethodName) prog_16_method_50_code (2 : Nat) (Option.some Jvm.ClassFile.FieldType.int)) ∈ lw_all := lw_g (lw_at lw_m6 188 rfl) rfl
theorem q1449 : (Jvm.Cond.instanceMethod ({ cls := "CallRoundsModel", name := "joined", desc := "()I" } : Jvm.MethodName)) ∈ lw_all := lw_g (lw_at lw_m6 190 rfl) rfl
theorem q1450 : (Jvm.Cond.selects "CallRoundsModel" ({ cls := "CallRoundsModel", name := "joined", desc := "()I" } : Jvm.MethodName) ({ cls := "CallRoundsModel", name := "joined", desc := "()I" } : Jvm.MethodName)) ∈ lw_all := lw_g (lw_at lw_m6 191 rfl) rfl
theorem q1451 : (Jvm.Cond.code ({ cls := "CallRoundsModel", name := "joined", desc := "()I" } : Jvm.MethodName) prog_16_method_52_code (1 : Nat) (Option.some Jvm.ClassFile.FieldType.int)) ∈ lw_all := lw_g (lw_at lw_m6 192 rfl) rfl
theorem q1452 : (Jvm.Cond.methodLink "CallRoundsModel" (213 : Nat) ({ cls := "CallRoundsModel", name := "isJoined", desc := "([II)Z" } : Jvm.MethodName)) ∈ lw_all := lw_g (lw_at lw_m6 193 rfl) rfl
theorem q1453 : (Jvm.Cond.static ({ cls := "CallRoundsModel", name := "isJoined", desc := "([II)Z" } : Jvm.MethodName)) ∈ lw_all := lw_g (lw_at lw_m6 194 rfl) rfl
theorem q1454 : (Jvm.Cond.code ({ cls := "CallRoundsModel", name := "isJoined", desc := "([II)Z" } : Jvm.MethodName) prog_16_method_51_code (6 : Nat) (Option.some Jvm.ClassFile.FieldType.boolean)) ∈ lw_all := lw_g (lw_at lw_m6 195 rfl) rfl
theorem q1456 : (Jvm.Cond.instanceMethod ({ cls := "CallRoundsModel", name := "bridge", desc := "(I)I" } : Jvm.MethodName)) ∈ lw_all := lw_g (lw_at lw_m6 197 rfl) rfl
theorem q1457 : (Jvm.Cond.selects "CallRoundsModel" ({ cls := "CallRoundsModel", name := "bridge", desc := "(I)I" } : Jvm.MethodName) ({ cls := "CallRoundsModel", name := "bridge", desc := "(I)I" } : Jvm.MethodName)) ∈ lw_all := lw_g (lw_at lw_m6 198 rfl) rfl
theorem q1458 : (Jvm.Cond.code ({ cls := "CallRoundsModel", name := "bridge", desc := "(I)I" } : Jvm.MethodName) prog_16_method_54_code (5 : Nat) (Option.some Jvm.ClassFile.FieldType.int)) ∈ lw_all := lw_g (lw_at lw_m6 199 rfl) rfl
theorem q1459 : (Jvm.Cond.methodLink "CallRoundsModel" (217 : Nat) ({ cls := "CallRoundsModel", name := "layOther", desc := "(II)V" } : Jvm.MethodName)) ∈ lw_all := lw_g (lw_at lw_m6 200 rfl) rfl
theorem q1460 : (Jvm.Cond.privateMethod ({ cls := "CallRoundsModel", name := "layOther", desc := "(II)V" } : Jvm.MethodName)) ∈ lw_tbl := lw_at lw_m6 201 rfl
theorem q1461 : (Jvm.Cond.instanceMethod ({ cls := "CallRoundsModel", name := "layOther", desc := "(II)V" } : Jvm.MethodName)) ∈ lw_all := lw_g (lw_at lw_m6 202 rfl) rfl
theorem q1462 : (Jvm.Cond.code ({ cls := "CallRoundsModel", name := "layOther", desc := "(II)V" } : Jvm.MethodName) prog_16_method_53_code (4 : Nat) (Option.none : Option Jvm.ClassFile.FieldType)) ∈ lw_all := lw_g (lw_at lw_m6 203 rfl) rfl
theorem q1464 : (Jvm.Cond.instanceMethod ({ cls := "CallRoundsModel", name := "sun", desc := "()I" } : Jvm.MethodName)) ∈ lw_all := lw_g (lw_at lw_m6 205 rfl) rfl
theorem q1465 : (Jvm.Cond.selects "CallRoundsModel" ({ cls := "CallRoundsModel", name := "sun", desc := "()I" } : Jvm.MethodName) ({ cls := "CallRoundsModel", name := "sun", desc := "()I" } : Jvm.MethodName)) ∈ lw_all := lw_g (lw_at lw_m6 206 rfl) rfl
theorem q1466 : (Jvm.Cond.code ({ cls := "CallRoundsModel", name := "sun", desc := "()I" } : Jvm.MethodName) prog_16_method_55_code (6 : Nat) (Option.some Jvm.ClassFile.FieldType.int)) ∈ lw_all := lw_g (lw_at lw_m6 207 rfl) rfl
theorem q1468 : (Jvm.Cond.instanceMethod ({ cls := "CallRoundsModel", name := "mend", desc := "(II)I" } : Jvm.MethodName)) ∈ lw_all := lw_g (lw_at lw_m6 209 rfl) rfl
theorem q1469 : (Jvm.Cond.selects "CallRoundsModel" ({ cls := "CallRoundsModel", name := "mend", desc := "(II)I" } : Jvm.MethodName) ({ cls := "CallRoundsModel", name := "mend", desc := "(II)I" } : Jvm.MethodName)) ∈ lw_all := lw_g (lw_at lw_m6 210 rfl) rfl
theorem q1470 : (Jvm.Cond.code ({ cls := "CallRoundsModel", name := "mend", desc := "(II)I" } : Jvm.MethodName) prog_16_method_57_code (6 : Nat) (Option.some Jvm.ClassFile.FieldType.int)) ∈ lw_all := lw_g (lw_at lw_m6 211 rfl) rfl
theorem q1471 : (Jvm.Cond.methodLink "CallRoundsModel" (220 : Nat) ({ cls := "CallRoundsModel", name := "verdictFrom", desc := "([III)I" } : Jvm.MethodName)) ∈ lw_all := lw_g (lw_at lw_m6 212 rfl) rfl
theorem q1472 : (Jvm.Cond.privateMethod ({ cls := "CallRoundsModel", name := "verdictFrom", desc := "([III)I" } : Jvm.MethodName)) ∈ lw_tbl := lw_at lw_m6 213 rfl
theorem q1473 : (Jvm.Cond.instanceMethod ({ cls := "CallRoundsModel", name := "verdictFrom", desc := "([III)I" } : Jvm.MethodName)) ∈ lw_all := lw_g (lw_at lw_m6 214 rfl) rfl
theorem q1474 : (Jvm.Cond.code ({ cls := "CallRoundsModel", name := "verdictFrom", desc := "([III)I" } : Jvm.MethodName) prog_16_method_56_code (4 : Nat) (Option.some Jvm.ClassFile.FieldType.int)) ∈ lw_all := lw_g (lw_at lw_m6 215 rfl) rfl
theorem q1476 : (Jvm.Cond.instanceMethod ({ cls := "CallRoundsModel", name := "nets", desc := "(III)I" } : Jvm.MethodName)) ∈ lw_all := lw_g (lw_at lw_m6 217 rfl) rfl
theorem q1477 : (Jvm.Cond.selects "CallRoundsModel" ({ cls := "CallRoundsModel", name := "nets", desc := "(III)I" } : Jvm.MethodName) ({ cls := "CallRoundsModel", name := "nets", desc := "(III)I" } : Jvm.MethodName)) ∈ lw_all := lw_g (lw_at lw_m6 218 rfl) rfl
theorem q1478 : (Jvm.Cond.code ({ cls := "CallRoundsModel", name := "nets", desc := "(III)I" } : Jvm.MethodName) prog_16_method_59_code (6 : Nat) (Option.some Jvm.ClassFile.FieldType.int)) ∈ lw_all := lw_g (lw_at lw_m6 219 rfl) rfl
theorem q1479 : (Jvm.Cond.methodLink "CallRoundsModel" (223 : Nat) ({ cls := "CallRoundsModel", name := "layNet", desc := "(II)V" } : Jvm.MethodName)) ∈ lw_all := lw_g (lw_at lw_m6 220 rfl) rfl
theorem q1480 : (Jvm.Cond.privateMethod ({ cls := "CallRoundsModel", name := "layNet", desc := "(II)V" } : Jvm.MethodName)) ∈ lw_tbl := lw_at lw_m6 221 rfl
theorem q1481 : (Jvm.Cond.instanceMethod ({ cls := "CallRoundsModel", name := "layNet", desc := "(II)V" } : Jvm.MethodName)) ∈ lw_all := lw_g (lw_at lw_m6 222 rfl) rfl
theorem q1482 : (Jvm.Cond.code ({ cls := "CallRoundsModel", name := "layNet", desc := "(II)V" } : Jvm.MethodName) prog_16_method_58_code (6 : Nat) (Option.none : Option Jvm.ClassFile.FieldType)) ∈ lw_all := lw_g (lw_at lw_m6 223 rfl) rfl
theorem q1484 : (Jvm.Cond.instanceMethod ({ cls := "CallRoundsModel", name := "within", desc := "(II)I" } : Jvm.MethodName)) ∈ lw_all := lw_g (lw_at lw_m6 225 rfl) rfl
theorem q1485 : (Jvm.Cond.selects "CallRoundsModel" ({ cls := "CallRoundsModel", name := "within", desc := "(II)I" } : Jvm.MethodName) ({ cls := "CallRoundsModel", name := "within", desc := "(II)I" } : Jvm.MethodName)) ∈ lw_all := lw_g (lw_at lw_m6 226 rfl) rfl
theorem q1486 : (Jvm.Cond.code ({ cls := "CallRoundsModel", name := "within", desc := "(II)I" } : Jvm.MethodName) prog_16_method_60_code (14 : Nat) (Option.some Jvm.ClassFile.FieldType.int)) ∈ lw_all := lw_g (lw_at lw_m6 227 rfl) rfl
theorem q1488 : (Jvm.Cond.instanceMethod ({ cls := "CallRoundsModel", name := "sheet", desc := "(III)I" } : Jvm.MethodName)) ∈ lw_all := lw_g (lw_at lw_m6 229 rfl) rfl
theorem q1489 : (Jvm.Cond.selects "CallRoundsModel" ({ cls := "CallRoundsModel", name := "sheet", desc := "(III)I" } : Jvm.MethodName) ({ cls := "CallRoundsModel", name := "sheet", desc := "(III)I" } : Jvm.MethodName)) ∈ lw_all := lw_g (lw_at lw_m6 230 rfl) rfl
theorem q1490 : (Jvm.Cond.code ({ cls := "CallRoundsModel", name := "sheet", desc := "(III)I" } : Jvm.MethodName) prog_16_method_61_code (5 : Nat) (Option.some Jvm.ClassFile.FieldType.int)) ∈ lw_all := lw_g (lw_at lw_m6 231 rfl) rfl
theorem q1492 : (Jvm.Cond.instanceMethod ({ cls := "CallRoundsModel", name := "lose", desc := "(I)I" } : Jvm.MethodName)) ∈ lw_all := lw_g (lw_at lw_m6 233 rfl) rfl
theorem q1493 : (Jvm.Cond.selects "CallRoundsModel" ({ cls := "CallRoundsModel", name := "lose", desc := "(I)I" } : Jvm.MethodName) ({ cls := "CallRoundsModel", name := "lose", desc := "(I)I" } : Jvm.MethodName)) ∈ lw_all := lw_g (lw_at lw_m6 234 rfl) rfl
theorem q1494 : (Jvm.Cond.code ({ cls := "CallRoundsModel", name := "lose", desc := "(I)I" } : Jvm.MethodName) prog_16_method_62_code (3 : Nat) (Option.some Jvm.ClassFile.FieldType.int)) ∈ lw_all := lw_g (lw_at lw_m6 235 rfl) rfl
theorem q1496 : (Jvm.Cond.instanceMethod ({ cls := "CallRoundsModel", name := "put", desc := "(III)I" } : Jvm.MethodName)) ∈ lw_all := lw_g (lw_at lw_m6 237 rfl) rfl
theorem q1497 : (Jvm.Cond.selects "CallRoundsModel" ({ cls := "CallRoundsModel", name := "put", desc := "(III)I" } : Jvm.MethodName) ({ cls := "CallRoundsModel", name := "put", desc := "(III)I" } : Jvm.MethodName)) ∈ lw_all := lw_g (lw_at lw_m6 238 rfl) rfl
theorem q1498 : (Jvm.Cond.code ({ cls := "CallRoundsModel", name := "put", desc := "(III)I" } : Jvm.MethodName) prog_16_method_63_code (4 : Nat) (Option.some Jvm.ClassFile.FieldType.int)) ∈ lw_all := lw_g (lw_at lw_m6 239 rfl) rfl
theorem q1500 : (Jvm.Cond.instanceMethod ({ cls := "CallRoundsModel", name := "cell", desc := "(III)J" } : Jvm.MethodName)) ∈ lw_all := lw_g (lw_at lw_m7 1 rfl) rfl
theorem q1501 : (Jvm.Cond.selects "CallRoundsModel" ({ cls := "CallRoundsModel", name := "cell", desc := "(III)J" } : Jvm.MethodName) ({ cls := "CallRoundsModel", name := "cell", desc := "(III)J" } : Jvm.MethodName)) ∈ lw_all := lw_g (lw_at lw_m7 2 rfl) rfl
theorem q1502 : (Jvm.Cond.code ({ cls := "CallRoundsModel", name := "cell", desc := "(III)J" } : Jvm.MethodName) prog_16_method_64_code (4 : Nat) (Option.some Jvm.ClassFile.FieldType.long)) ∈ lw_all := lw_g (lw_at lw_m7 3 rfl) rfl
theorem q1503 : (Jvm.Cond.methodLink "CallRoundsModel" (226 : Nat) ({ cls := "CallRoundsModel", name := "lost", desc := "(I)J" } : Jvm.MethodName)) ∈ lw_all := lw_g (lw_at lw_m7 4 rfl) rfl
theorem q1504 : (Jvm.Cond.privateMethod ({ cls := "CallRoundsModel", name := "lost", desc := "(I)J" } : Jvm.MethodName)) ∈ lw_tbl := lw_at lw_m7 5 rfl
theorem q1505 : (Jvm.Cond.instanceMethod ({ cls := "CallRoundsModel", name := "lost", desc := "(I)J" } : Jvm.MethodName)) ∈ lw_all := lw_g (lw_at lw_m7 6 rfl) rfl
theorem q1506 : (Jvm.Cond.code ({ cls := "CallRoundsModel", name := "lost", desc := "(I)J" } : Jvm.MethodName) prog_16_method_4_code (2 : Nat) (Option.some Jvm.ClassFile.FieldType.long)) ∈ lw_all := lw_g (lw_at lw_m7 7 rfl) rfl
theorem q1508 : (Jvm.Cond.instanceMethod ({ cls := "CallRoundsModel", name := "copy", desc := "(IIIII)I" } : Jvm.MethodName)) ∈ lw_all := lw_g (lw_at lw_m7 9 rfl) rfl
theorem q1509 : (Jvm.Cond.selects "CallRoundsModel" ({ cls := "CallRoundsModel", name := "copy", desc := "(IIIII)I" } : Jvm.MethodName) ({ cls := "CallRoundsModel", name := "copy", desc := "(IIIII)I" } : Jvm.MethodName)) ∈ lw_all := lw_g (lw_at lw_m7 10 rfl) rfl
theorem q1510 : (Jvm.Cond.code ({ cls := "CallRoundsModel", name := "copy", desc := "(IIIII)I" } : Jvm.MethodName) prog_16_method_65_code (10 : Nat) (Option.some Jvm.ClassFile.FieldType.int)) ∈ lw_all := lw_g (lw_at lw_m7 11 rfl) rfl
theorem q1512 : (Jvm.Cond.instanceMethod ({ cls := "CallRoundsModel", name := "tell", desc := "(I)I" } : Jvm.MethodName)) ∈ lw_all := lw_g (lw_at lw_m7 13 rfl) rfl
theorem q1513 : (Jvm.Cond.selects "CallRoundsModel" ({ cls := "CallRoundsModel", name := "tell", desc := "(I)I" } : Jvm.MethodName) ({ cls := "CallRoundsModel", name := "tell", desc := "(I)I" } : Jvm.MethodName)) ∈ lw_all := lw_g (lw_at lw_m7 14 rfl) rfl
theorem q1514 : (Jvm.Cond.code ({ cls := "CallRoundsModel", name := "tell", desc := "(I)I" } : Jvm.MethodName) prog_16_method_67_code (4 : Nat) (Option.some Jvm.ClassFile.FieldType.int)) ∈ lw_all := lw_g (lw_at lw_m7 15 rfl) rfl
theorem q1515 : (Jvm.Cond.methodLink "CallRoundsModel" (233 : Nat) ({ cls := "CallRoundsModel", name := "begins", desc := "(I)V" } : Jvm.MethodName)) ∈ lw_all := lw_g (lw_at lw_m7 16 rfl) rfl
theorem q1516 : (Jvm.Cond.privateMethod ({ cls := "CallRoundsModel", name := "begins", desc := "(I)V" } : Jvm.MethodName)) ∈ lw_tbl := lw_at lw_m7 17 rfl
theorem q1517 : (Jvm.Cond.instanceMethod ({ cls := "CallRoundsModel", name := "begins", desc := "(I)V" } : Jvm.MethodName)) ∈ lw_all := lw_g (lw_at lw_m7 18 rfl) rfl
theorem q1518 : (Jvm.Cond.code ({ cls := "CallRoundsModel", name := "begins", desc := "(I)V" } : Jvm.MethodName) prog_16_method_66_code (2 : Nat) (Option.none : Option Jvm.ClassFile.FieldType)) ∈ lw_all := lw_g (lw_at lw_m7 19 rfl) rfl
theorem q1520 : (Jvm.Cond.instanceMethod ({ cls := "CallRoundsModel", name := "log", desc := "(I)I" } : Jvm.MethodName)) ∈ lw_all := lw_g (lw_at lw_m7 21 rfl) rfl
theorem q1521 : (Jvm.Cond.selects "CallRoundsModel" ({ cls := "CallRoundsModel", name := "log", desc := "(I)I" } : Jvm.MethodName) ({ cls := "CallRoundsModel", name := "log", desc := "(I)I" } : Jvm.MethodName)) ∈ lw_all := lw_g (lw_at lw_m7 22 rfl) rfl
theorem q1522 : (Jvm.Cond.code ({ cls := "CallRoundsModel", name := "log", desc := "(I)I" } : Jvm.MethodName) prog_16_method_68_code (3 : Nat) (Option.some Jvm.ClassFile.FieldType.int)) ∈ lw_all := lw_g (lw_at lw_m7 23 rfl) rfl
theorem q1524 : (Jvm.Cond.instanceMethod ({ cls := "CallRoundsModel", name := "as", desc := "(II)I" } : Jvm.MethodName)) ∈ lw_all := lw_g (lw_at lw_m7 25 rfl) rfl
theorem q1525 : (Jvm.Cond.selects "CallRoundsModel" ({ cls := "CallRoundsModel", name := "as", desc := "(II)I" } : Jvm.MethodName) ({ cls := "CallRoundsModel", name := "as", desc := "(II)I" } : Jvm.MethodName)) ∈ lw_all := lw_g (lw_at lw_m7 26 rfl) rfl
theorem q1526 : (Jvm.Cond.code ({ cls := "CallRoundsModel", name := "as", desc := "(II)I" } : Jvm.MethodName) prog_16_method_69_code (3 : Nat) (Option.some Jvm.ClassFile.FieldType.int)) ∈ lw_all := lw_g (lw_at lw_m7 27 rfl) rfl
theorem q1528 : (Jvm.Cond.instanceMethod ({ cls := "CallRoundsModel", name := "trace", desc := "()I" } : Jvm.MethodName)) ∈ lw_all := lw_g (lw_at lw_m7 29 rfl) rfl
theorem q1529 : (Jvm.Cond.selects "CallRoundsModel" ({ cls := "CallRoundsModel", name := "trace", desc := "()I" } : Jvm.MethodName) ({ cls := "CallRoundsModel", name := "trace", desc := "()I" } : Jvm.MethodName)) ∈ lw_all := lw_g (lw_at lw_m7 30 rfl) rfl
theorem q1530 : (Jvm.Cond.code ({ cls := "CallRoundsModel", name := "trace", desc := "()I" } : Jvm.MethodName) prog_16_method_70_code (1 : Nat) (Option.some Jvm.ClassFile.FieldType.int)) ∈ lw_all := lw_g (lw_at lw_m7 31 rfl) rfl
theorem q1532 : (Jvm.Cond.instanceMethod ({ cls := "CallRoundsModel", name := "fault", desc := "()I" } : Jvm.MethodName)) ∈ lw_all := lw_g (lw_at lw_m7 33 rfl) rfl
theorem q1533 : (Jvm.Cond.selects "CallRoundsModel" ({ cls := "CallRoundsModel", name := "fault", desc := "()I" } : Jvm.MethodName) ({ cls := "CallRoundsModel", name := "fault", desc := "()I" } : Jvm.MethodName)) ∈ lw_all := lw_g (lw_at lw_m7 34 rfl) rfl
theorem q1534 : (Jvm.Cond.code ({ cls := "CallRoundsModel", name := "fault", desc := "()I" } : Jvm.MethodName) prog_16_method_71_code (1 : Nat) (Option.some Jvm.ClassFile.FieldType.int)) ∈ lw_all := lw_g (lw_at lw_m7 35 rfl) rfl
theorem q1536 : (Jvm.Cond.instanceMethod ({ cls := "CallRoundsModel", name := "many", desc := "(I)I" } : Jvm.MethodName)) ∈ lw_all := lw_g (lw_at lw_m7 37 rfl) rfl
theorem q1537 : (Jvm.Cond.selects "CallRoundsModel" ({ cls := "CallRoundsModel", name := "many", desc := "(I)I" } : Jvm.MethodName) ({ cls := "CallRoundsModel", name := "many", desc := "(I)I" } : Jvm.MethodName)) ∈ lw_all := lw_g (lw_at lw_m7 38 rfl) rfl
theorem q1538 : (Jvm.Cond.code ({ cls := "CallRoundsModel", name := "many", desc := "(I)I" } : Jvm.MethodName) prog_16_method_72_code (5 : Nat) (Option.some Jvm.ClassFile.FieldType.int)) ∈ lw_all := lw_g (lw_at lw_m7 39 rfl) rfl
theorem q1552 : (Jvm.Cond.castable "CallRoundsModel" "java/lang/Object") ∈ lw_tbl := lw_at lw_m7 53 rfl
theorem in_X1 : ∀ w ∈ wsX10, w ∈ lw_all := lw_in wsX10 [1208, 1210, 1212, 1214, 1216, 1218, 1220, 1222, 1224, 1226, 1228, 1230, 1232, 1234, 1236, 1238, 1240, 1242, 1244, 1246, 1248, 1250, 1252, 1254, 1256, 1258, 1260, 1262, 1264, 1266] (by decide +kernel) (by decide +kernel)
