/-! TokenMouth -/
set_option maxRecDepth 100000
def RX1 : String := "TokenMouth"
def TX1 : u_T := fun k => match k with
  | 0 => ("TokenMouth", "text", "[B", true)
  | 1 => ("TokenMouth", "size", "I", false)
  | 2 => ("TokenMouth", "at", "I", false)
  | 3 => ("TokenMouth", "state", "I", false)
  | 4 => ("TokenMouth", "categories", "[B", true)
  | 5 => ("TokenMouth", "commands", "[LTokenMouth$Command;", true)
  | 6 => ("TokenMouth", "names", "Ljava/util/ArrayList;", true)
  | 7 => ("TokenMouth", "letters", "[B", true)
  | 8 => ("TokenMouth", "spellings", "[[B", true)
  | 9 => ("TokenMouth", "pending", "[S", true)
  | 10 => ("TokenMouth", "waiting", "I", false)
  | 11 => ("TokenMouth", "outs", "[S", true)
  | 12 => ("TokenMouth", "outCount", "I", false)
  | 13 => ("TokenMouth", "steps", "I", false)
  | 14 => ("TokenMouth", "groups", "I", false)
  | 15 => ("TokenMouth", "macros", "I", false)
  | 16 => ("TokenMouth", "fault", "I", false)
  | 17 => ("TokenMouth", "expansions", "I", false)
  | 18 => ("TokenMouth", "deep", "I", false)
  | 19 => ("TokenMouth", "conditionals", "[B", true)
  | 20 => ("TokenMouth", "open", "I", false)
  | 21 => ("TokenMouth", "changes", "[LTokenMouth$Change;", true)
  | 22 => ("TokenMouth", "changed", "I", false)
  | 23 => ("TokenMouth", "arguments", "[LTokenMouth$Row;", true)
  | 24 => ("TokenMouth", "head", "LTokenMouth$Row;", true)
  | _ => ("TokenMouth", "rest", "LTokenMouth$Row;", true)
def tyX1 : Nat → FieldType := fun k => match k with
  | 0 => .array .byte
  | 1 => .int
  | 2 => .int
  | 3 => .int
  | 4 => .array .byte
  | 5 => .array (.object "TokenMouth$Command")
  | 6 => .object "java/util/ArrayList"
  | 7 => .array .byte
  | 8 => .array (.array .byte)
  | 9 => .array .short
  | 10 => .int
  | 11 => .array .short
  | 12 => .int
  | 13 => .int
  | 14 => .int
  | 15 => .int
  | 16 => .int
  | 17 => .int
  | 18 => .int
  | 19 => .array .byte
  | 20 => .int
  | 21 => .array (.object "TokenMouth$Change")
  | 22 => .int
  | 23 => .array (.object "TokenMouth$Row")
  | 24 => .object "TokenMouth$Row"
  | _ => .object "TokenMouth$Row"
abbrev wsX10 : List Cond := u_ws RX1 TX1 26
set_option maxRecDepth 100000 in
theorem nmX1 : ∀ a, a < 26 → ∀ b, b < 26 → a ≠ b → (TX1 a).2.1 ≠ (TX1 b).2.1 := by decide +kernel
set_option maxRecDepth 100000 in
theorem tyX1_ok : ∀ k, k < 26 → parseFieldDescriptor (TX1 k).2.2.1 = some (tyX1 k) := by decide +kernel
abbrev cX1_init : ByteArray := prog_1_method_1_code
def yX1_init : MethodName := ⟨RX1, "<init>", "()V"⟩
def dkwX1_init_10 : List UInt8 := [132, 1, 1, 167, 255, 215, 42, 182, 0, 89, 177]
abbrev dktX1_init_10 : List UInt8 := dkwX1_init_10 ++ []
def dkwX1_init_9 : List UInt8 := [89, 42, 180, 0, 22, 27, 50, 180, 0, 74, 184, 0, 78, 3, 27, 183, 0, 82, 182, 0, 85, 87]
abbrev dktX1_init_9 : List UInt8 := dkwX1_init_9 ++ dktX1_init_10
def dkwX1_init_8 : List UInt8 := [132, 1, 1, 167, 255, 234, 3, 60, 27, 42, 180, 0, 22, 190, 162, 0, 38, 42, 180, 0, 29, 187, 0, 72]
abbrev dktX1_init_8 : List UInt8 := dkwX1_init_8 ++ dktX1_init_9
def dkwX1_init_7 : List UInt8 := [181, 0, 68, 3, 60, 27, 16, 60, 162, 0, 22, 42, 180, 0, 53, 27, 187, 0, 51, 89, 183, 0, 71, 83]
abbrev dktX1_init_7 : List UInt8 := dkwX1_init_7 ++ dktX1_init_8
def dkwX1_init_6 : List UInt8 := [181, 0, 60, 42, 187, 0, 57, 89, 183, 0, 59, 181, 0, 64, 42, 187, 0, 57, 89, 183, 0, 59]
abbrev dktX1_init_6 : List UInt8 := dkwX1_init_6 ++ dktX1_init_7
def dkwX1_init_5 : List UInt8 := [183, 0, 59, 83, 89, 5, 187, 0, 57, 89, 183, 0, 59, 83, 89, 6, 187, 0, 57, 89, 183, 0, 59, 83]
abbrev dktX1_init_5 : List UInt8 := dkwX1_init_5 ++ dktX1_init_6
def dkwX1_init_4 : List UInt8 := [181, 0, 53, 42, 7, 189, 0, 57, 89, 3, 187, 0, 57, 89, 183, 0, 59, 83, 89, 4, 187, 0, 57, 89]
abbrev dktX1_init_4 : List UInt8 := dkwX1_init_4 ++ dktX1_init_5
def dkwX1_init_3 : List UInt8 := [42, 17, 0, 200, 188, 9, 181, 0, 45, 42, 16, 12, 188, 8, 181, 0, 48, 42, 16, 60, 189, 0, 51]
abbrev dktX1_init_3 : List UInt8 := dkwX1_init_3 ++ dktX1_init_4
def dkwX1_init_2 : List UInt8 := [181, 0, 33, 42, 16, 30, 16, 11, 197, 0, 36, 2, 181, 0, 38, 42, 17, 1, 44, 188, 9, 181, 0, 41]
abbrev dktX1_init_2 : List UInt8 := dkwX1_init_2 ++ dktX1_init_3
def dkwX1_init_1 : List UInt8 := [184, 0, 16, 181, 0, 22, 42, 187, 0, 26, 89, 183, 0, 28, 181, 0, 29, 42, 16, 11, 188, 8]
abbrev dktX1_init_1 : List UInt8 := dkwX1_init_1 ++ dktX1_init_2
def dkwX1_init_0 : List UInt8 := [42, 183, 0, 3, 42, 17, 0, 160, 188, 8, 181, 0, 9, 42, 17, 0, 128, 188, 8, 181, 0, 13, 42]
abbrev dktX1_init_0 : List UInt8 := dkwX1_init_0 ++ dktX1_init_1
theorem dksX1_init_0 : cX1_init.data.toList.drop 0 = dktX1_init_0 := by decide +kernel
theorem dksX1_init_1 : cX1_init.data.toList.drop 23 = dktX1_init_1 := dk_seg dksX1_init_0 23 rfl rfl
theorem dksX1_init_2 : cX1_init.data.toList.drop 45 = dktX1_init_2 := dk_seg dksX1_init_1 22 rfl rfl
theorem dksX1_init_3 : cX1_init.data.toList.drop 69 = dktX1_init_3 := dk_seg dksX1_init_2 24 rfl rfl
theorem dksX1_init_4 : cX1_init.data.toList.drop 92 = dktX1_init_4 := dk_seg dksX1_init_3 23 rfl rfl
theorem dksX1_init_5 : cX1_init.data.toList.drop 116 = dktX1_init_5 := dk_seg dksX1_init_4 24 rfl rfl
theorem dksX1_init_6 : cX1_init.data.toList.drop 140 = dktX1_init_6 := dk_seg dksX1_init_5 24 rfl rfl
theorem dksX1_init_7 : cX1_init.data.toList.drop 162 = dktX1_init_7 := dk_seg dksX1_init_6 22 rfl rfl
theorem dksX1_init_8 : cX1_init.data.toList.drop 186 = dktX1_init_8 := dk_seg dksX1_init_7 24 rfl rfl
theorem dksX1_init_9 : cX1_init.data.toList.drop 210 = dktX1_init_9 := dk_seg dksX1_init_8 24 rfl rfl
theorem dksX1_init_10 : cX1_init.data.toList.drop 232 = dktX1_init_10 := dk_seg dksX1_init_9 22 rfl rfl
theorem dX1_init_0 : decode cX1_init 0 = .ok (.aload_n 0, 1) := dk_42 (dk_at dksX1_init_0 0 rfl rfl)
theorem dX1_init_1 : decode cX1_init 1 = .ok (.invokespecial 3, 3) := dk_183 0 3 (dk_at dksX1_init_0 1 rfl rfl)
theorem dX1_init_4 : decode cX1_init 4 = .ok (.aload_n 0, 1) := dk_42 (dk_at dksX1_init_0 4 rfl rfl)
theorem dX1_init_5 : decode cX1_init 5 = .ok (.sipush 160, 3) := dk_17 0 160 (dk_at dksX1_init_0 5 rfl rfl)
theorem dX1_init_8 : decode cX1_init 8 = .ok (.newarray .byte, 2) := dk_188_8 (dk_at dksX1_init_0 8 rfl rfl)
theorem dX1_init_10 : decode cX1_init 10 = .ok (.putfield 9, 3) := dk_181 0 9 (dk_at dksX1_init_0 10 rfl rfl)
theorem dX1_init_13 : decode cX1_init 13 = .ok (.aload_n 0, 1) := dk_42 (dk_at dksX1_init_0 13 rfl rfl)
theorem dX1_init_14 : decode cX1_init 14 = .ok (.sipush 128, 3) := dk_17 0 128 (dk_at dksX1_init_0 14 rfl rfl)
theorem dX1_init_17 : decode cX1_init 17 = .ok (.newarray .byte, 2) := dk_188_8 (dk_at dksX1_init_0 17 rfl rfl)
theorem dX1_init_19 : decode cX1_init 19 = .ok (.putfield 13, 3) := dk_181 0 13 (dk_at dksX1_init_0 19 rfl rfl)
theorem dX1_init_22 : decode cX1_init 22 = .ok (.aload_n 0, 1) := dk_42 (dk_at dksX1_init_0 22 rfl rfl)
theorem dX1_init_23 : decode cX1_init 23 = .ok (.invokestatic 16, 3) := dk_184 0 16 (dk_at dksX1_init_1 0 rfl rfl)
theorem dX1_init_26 : decode cX1_init 26 = .ok (.putfield 22, 3) := dk_181 0 22 (dk_at dksX1_init_1 3 rfl rfl)
theorem dX1_init_29 : decode cX1_init 29 = .ok (.aload_n 0, 1) := dk_42 (dk_at dksX1_init_1 6 rfl rfl)
theorem dX1_init_30 : decode cX1_init 30 = .ok (.new 26, 3) := dk_187 0 26 (dk_at dksX1_init_1 7 rfl rfl)
theorem dX1_init_33 : decode cX1_init 33 = .ok (.dup, 1) := dk_89 (dk_at dksX1_init_1 10 rfl rfl)
theorem dX1_init_34 : decode cX1_init 34 = .ok (.invokespecial 28, 3) := dk_183 0 28 (dk_at dksX1_init_1 11 rfl rfl)
theorem dX1_init_37 : decode cX1_init 37 = .ok (.putfield 29, 3) := dk_181 0 29 (dk_at dksX1_init_1 14 rfl rfl)
theorem dX1_init_40 : decode cX1_init 40 = .ok (.aload_n 0, 1) := dk_42 (dk_at dksX1_init_1 17 rfl rfl)
theorem dX1_init_41 : decode cX1_init 41 = .ok (.bipush 11, 2) := dk_16 11 (dk_at dksX1_init_1 18 rfl rfl)
theorem dX1_init_43 : decode cX1_init 43 = .ok (.newarray .byte, 2) := dk_188_8 (dk_at dksX1_init_1 20 rfl rfl)
theorem dX1_init_45 : decode cX1_init 45 = .ok (.putfield 33, 3) := dk_181 0 33 (dk_at dksX1_init_2 0 rfl rfl)
theorem dX1_init_48 : decode cX1_init 48 = .ok (.aload_n 0, 1) := dk_42 (dk_at dksX1_init_2 3 rfl rfl)
theorem dX1_init_49 : decode cX1_init 49 = .ok (.bipush 30, 2) := dk_16 30 (dk_at dksX1_init_2 4 rfl rfl)
theorem dX1_init_51 : decode cX1_init 51 = .ok (.bipush 11, 2) := dk_16 11 (dk_at dksX1_init_2 6 rfl rfl)
theorem dX1_init_53 : decode cX1_init 53 = .ok (.multianewarray 36 2, 4) := by decide +kernel
theorem dX1_init_57 : decode cX1_init 57 = .ok (.putfield 38, 3) := dk_181 0 38 (dk_at dksX1_init_2 12 rfl rfl)
theorem dX1_init_60 : decode cX1_init 60 = .ok (.aload_n 0, 1) := dk_42 (dk_at dksX1_init_2 15 rfl rfl)
theorem dX1_init_61 : decode cX1_init 61 = .ok (.sipush 300, 3) := dk_17 1 44 (dk_at dksX1_init_2 16 rfl rfl)
theorem dX1_init_64 : decode cX1_init 64 = .ok (.newarray .short, 2) := dk_188_9 (dk_at dksX1_init_2 19 rfl rfl)
theorem dX1_init_66 : decode cX1_init 66 = .ok (.putfield 41, 3) := dk_181 0 41 (dk_at dksX1_init_2 21 rfl rfl)
theorem dX1_init_69 : decode cX1_init 69 = .ok (.aload_n 0, 1) := dk_42 (dk_at dksX1_init_3 0 rfl rfl)
theorem dX1_init_70 : decode cX1_init 70 = .ok (.sipush 200, 3) := dk_17 0 200 (dk_at dksX1_init_3 1 rfl rfl)
theorem dX1_init_73 : decode cX1_init 73 = .ok (.newarray .short, 2) := dk_188_9 (dk_at dksX1_init_3 4 rfl rfl)
theorem dX1_init_75 : decode cX1_init 75 = .ok (.putfield 45, 3) := dk_181 0 45 (dk_at dksX1_init_3 6 rfl rfl)
theorem dX1_init_78 : decode cX1_init 78 = .ok (.aload_n 0, 1) := dk_42 (dk_at dksX1_init_3 9 rfl rfl)
theorem dX1_init_79 : decode cX1_init 79 = .ok (.bipush 12, 2) := dk_16 12 (dk_at dksX1_init_3 10 rfl rfl)
theorem dX1_init_81 : decode cX1_init 81 = .ok (.newarray .byte, 2) := dk_188_8 (dk_at dksX1_init_3 12 rfl rfl)
theorem dX1_init_83 : decode cX1_init 83 = .ok (.putfield 48, 3) := dk_181 0 48 (dk_at dksX1_init_3 14 rfl rfl)
theorem dX1_init_86 : decode cX1_init 86 = .ok (.aload_n 0, 1) := dk_42 (dk_at dksX1_init_3 17 rfl rfl)
theorem dX1_init_87 : decode cX1_init 87 = .ok (.bipush 60, 2) := dk_16 60 (dk_at dksX1_init_3 18 rfl rfl)
theorem dX1_init_89 : decode cX1_init 89 = .ok (.anewarray 51, 3) := dk_189 0 51 (dk_at dksX1_init_3 20 rfl rfl)
theorem dX1_init_92 : decode cX1_init 92 = .ok (.putfield 53, 3) := dk_181 0 53 (dk_at dksX1_init_4 0 rfl rfl)
theorem dX1_init_95 : decode cX1_init 95 = .ok (.aload_n 0, 1) := dk_42 (dk_at dksX1_init_4 3 rfl rfl)
theorem dX1_init_96 : decode cX1_init 96 = .ok (.iconst 4, 1) := dk_7 (dk_at dksX1_init_4 4 rfl rfl)
theorem dX1_init_97 : decode cX1_init 97 = .ok (.anewarray 57, 3) := dk_189 0 57 (dk_at dksX1_init_4 5 rfl rfl)
theorem dX1_init_100 : decode cX1_init 100 = .ok (.dup, 1) := dk_89 (dk_at dksX1_init_4 8 rfl rfl)
theorem dX1_init_101 : decode cX1_init 101 = .ok (.iconst 0, 1) := dk_3 (dk_at dksX1_init_4 9 rfl rfl)
theorem dX1_init_102 : decode cX1_init 102 = .ok (.new 57, 3) := dk_187 0 57 (dk_at dksX1_init_4 10 rfl rfl)
theorem dX1_init_105 : decode cX1_init 105 = .ok (.dup, 1) := dk_89 (dk_at dksX1_init_4 13 rfl rfl)
theorem dX1_init_106 : decode cX1_init 106 = .ok (.invokespecial 59, 3) := dk_183 0 59 (dk_at dksX1_init_4 14 rfl rfl)
theorem dX1_init_109 : decode cX1_init 109 = .ok (.aastore, 1) := dk_83 (dk_at dksX1_init_4 17 rfl rfl)
theorem dX1_init_110 : decode cX1_init 110 = .ok (.dup, 1) := dk_89 (dk_at dksX1_init_4 18 rfl rfl)
theorem dX1_init_111 : decode cX1_init 111 = .ok (.iconst 1, 1) := dk_4 (dk_at dksX1_init_4 19 rfl rfl)
theorem dX1_init_112 : decode cX1_init 112 = .ok (.new 57, 3) := dk_187 0 57 (dk_at dksX1_init_4 20 rfl rfl)
theorem dX1_init_115 : decode cX1_init 115 = .ok (.dup, 1) := dk_89 (dk_at dksX1_init_4 23 rfl rfl)
theorem dX1_init_116 : decode cX1_init 116 = .ok (.invokespecial 59, 3) := dk_183 0 59 (dk_at dksX1_init_5 0 rfl rfl)
theorem dX1_init_119 : decode cX1_init 119 = .ok (.aastore, 1) := dk_83 (dk_at dksX1_init_5 3 rfl rfl)
theorem dX1_init_120 : decode cX1_init 120 = .ok (.dup, 1) := dk_89 (dk_at dksX1_init_5 4 rfl rfl)
theorem dX1_init_121 : decode cX1_init 121 = .ok (.iconst 2, 1) := dk_5 (dk_at dksX1_init_5 5 rfl rfl)
theorem dX1_init_122 : decode cX1_init 122 = .ok (.new 57, 3) := dk_187 0 57 (dk_at dksX1_init_5 6 rfl rfl)
theorem dX1_init_125 : decode cX1_init 125 = .ok (.dup, 1) := dk_89 (dk_at dksX1_init_5 9 rfl rfl)
theorem dX1_init_126 : decode cX1_init 126 = .ok (.invokespecial 59, 3) := dk_183 0 59 (dk_at dksX1_init_5 10 rfl rfl)
theorem dX1_init_129 : decode cX1_init 129 = .ok (.aastore, 1) := dk_83 (dk_at dksX1_init_5 13 rfl rfl)
theorem dX1_init_130 : decode cX1_init 130 = .ok (.dup, 1) := dk_89 (dk_at dksX1_init_5 14 rfl rfl)
theorem dX1_init_131 : decode cX1_init 131 = .ok (.iconst 3, 1) := dk_6 (dk_at dksX1_init_5 15 rfl rfl)
theorem dX1_init_132 : decode cX1_init 132 = .ok (.new 57, 3) := dk_187 0 57 (dk_at dksX1_init_5 16 rfl rfl)
theorem dX1_init_135 : decode cX1_init 135 = .ok (.dup, 1) := dk_89 (dk_at dksX1_init_5 19 rfl rfl)
theorem dX1_init_136 : decode cX1_init 136 = .ok (.invokespecial 59, 3) := dk_183 0 59 (dk_at dksX1_init_5 20 rfl rfl)
theorem dX1_init_139 : decode cX1_init 139 = .ok (.aastore, 1) := dk_83 (dk_at dksX1_init_5 23 rfl rfl)
theorem dX1_init_140 : decode cX1_init 140 = .ok (.putfield 60, 3) := dk_181 0 60 (dk_at dksX1_init_6 0 rfl rfl)
theorem dX1_init_143 : decode cX1_init 143 = .ok (.aload_n 0, 1) := dk_42 (dk_at dksX1_init_6 3 rfl rfl)
theorem dX1_init_144 : decode cX1_init 144 = .ok (.new 57, 3) := dk_187 0 57 (dk_at dksX1_init_6 4 rfl rfl)
theorem dX1_init_147 : decode cX1_init 147 = .ok (.dup, 1) := dk_89 (dk_at dksX1_init_6 7 rfl rfl)
theorem dX1_init_148 : decode cX1_init 148 = .ok (.invokespecial 59, 3) := dk_183 0 59 (dk_at dksX1_init_6 8 rfl rfl)
theorem dX1_init_151 : decode cX1_init 151 = .ok (.putfield 64, 3) := dk_181 0 64 (dk_at dksX1_init_6 11 rfl rfl)
theorem dX1_init_154 : decode cX1_init 154 = .ok (.aload_n 0, 1) := dk_42 (dk_at dksX1_init_6 14 rfl rfl)
theorem dX1_init_155 : decode cX1_init 155 = .ok (.new 57, 3) := dk_187 0 57 (dk_at dksX1_init_6 15 rfl rfl)
theorem dX1_init_158 : decode cX1_init 158 = .ok (.dup, 1) := dk_89 (dk_at dksX1_init_6 18 rfl rfl)
theorem dX1_init_159 : decode cX1_init 159 = .ok (.invokespecial 59, 3) := dk_183 0 59 (dk_at dksX1_init_6 19 rfl rfl)
theorem dX1_init_162 : decode cX1_init 162 = .ok (.putfield 68, 3) := dk_181 0 68 (dk_at dksX1_init_7 0 rfl rfl)
theorem dX1_init_165 : decode cX1_init 165 = .ok (.iconst 0, 1) := dk_3 (dk_at dksX1_init_7 3 rfl rfl)
theorem dX1_init_166 : decode cX1_init 166 = .ok (.istore_n 1, 1) := dk_60 (dk_at dksX1_init_7 4 rfl rfl)
theorem dX1_init_167 : decode cX1_init 167 = .ok (.iload_n 1, 1) := dk_27 (dk_at dksX1_init_7 5 rfl rfl)
theorem dX1_init_168 : decode cX1_init 168 = .ok (.bipush 60, 2) := dk_16 60 (dk_at dksX1_init_7 6 rfl rfl)
theorem dX1_init_170 : decode cX1_init 170 = .ok (.if_icmp .ge 22, 3) := dk_162 0 22 (dk_at dksX1_init_7 8 rfl rfl)
theorem dX1_init_173 : decode cX1_init 173 = .ok (.aload_n 0, 1) := dk_42 (dk_at dksX1_init_7 11 rfl rfl)
theorem dX1_init_174 : decode cX1_init 174 = .ok (.getfield 53, 3) := dk_180 0 53 (dk_at dksX1_init_7 12 rfl rfl)
theorem dX1_init_177 : decode cX1_init 177 = .ok (.iload_n 1, 1) := dk_27 (dk_at dksX1_init_7 15 rfl rfl)
theorem dX1_init_178 : decode cX1_init 178 = .ok (.new 51, 3) := dk_187 0 51 (dk_at dksX1_init_7 16 rfl rfl)
theorem dX1_init_181 : decode cX1_init 181 = .ok (.dup, 1) := dk_89 (dk_at dksX1_init_7 19 rfl rfl)
theorem dX1_init_182 : decode cX1_init 182 = .ok (.invokespecial 71, 3) := dk_183 0 71 (dk_at dksX1_init_7 20 rfl rfl)
theorem dX1_init_185 : decode cX1_init 185 = .ok (.aastore, 1) := dk_83 (dk_at dksX1_init_7 23 rfl rfl)
theorem dX1_init_186 : decode cX1_init 186 = .ok (.iinc 1 1, 3) := dk_132 1 1 (dk_at dksX1_init_8 0 rfl rfl)
theorem dX1_init_189 : decode cX1_init 189 = .ok (.goto (-22), 3) := dk_167 255 234 (dk_at dksX1_init_8 3 rfl rfl)
theorem dX1_init_192 : decode cX1_init 192 = .ok (.iconst 0, 1) := dk_3 (dk_at dksX1_init_8 6 rfl rfl)
theorem dX1_init_193 : decode cX1_init 193 = .ok (.istore_n 1, 1) := dk_60 (dk_at dksX1_init_8 7 rfl rfl)
theorem dX1_init_194 : decode cX1_init 194 = .ok (.iload_n 1, 1) := dk_27 (dk_at dksX1_init_8 8 rfl rfl)
theorem dX1_init_195 : decode cX1_init 195 = .ok (.aload_n 0, 1) := dk_42 (dk_at dksX1_init_8 9 rfl rfl)
theorem dX1_init_196 : decode cX1_init 196 = .ok (.getfield 22, 3) := dk_180 0 22 (dk_at dksX1_init_8 10 rfl rfl)
theorem dX1_init_199 : decode cX1_init 199 = .ok (.arraylength, 1) := dk_190 (dk_at dksX1_init_8 13 rfl rfl)
theorem dX1_init_200 : decode cX1_init 200 = .ok (.if_icmp .ge 38, 3) := dk_162 0 38 (dk_at dksX1_init_8 14 rfl rfl)
theorem dX1_init_203 : decode cX1_init 203 = .ok (.aload_n 0, 1) := dk_42 (dk_at dksX1_init_8 17 rfl rfl)
theorem dX1_init_204 : decode cX1_init 204 = .ok (.getfield 29, 3) := dk_180 0 29 (dk_at dksX1_init_8 18 rfl rfl)
theorem dX1_init_207 : decode cX1_init 207 = .ok (.new 72, 3) := dk_187 0 72 (dk_at dksX1_init_8 21 rfl rfl)
theorem dX1_init_210 : decode cX1_init 210 = .ok (.dup, 1) := dk_89 (dk_at dksX1_init_9 0 rfl rfl)
theorem dX1_init_211 : decode cX1_init 211 = .ok (.aload_n 0, 1) := dk_42 (dk_at dksX1_init_9 1 rfl rfl)
theorem dX1_init_212 : decode cX1_init 212 = .ok (.getfield 22, 3) := dk_180 0 22 (dk_at dksX1_init_9 2 rfl rfl)
theorem dX1_init_215 : decode cX1_init 215 = .ok (.iload_n 1, 1) := dk_27 (dk_at dksX1_init_9 5 rfl rfl)
theorem dX1_init_216 : decode cX1_init 216 = .ok (.aaload, 1) := dk_50 (dk_at dksX1_init_9 6 rfl rfl)
theorem dX1_init_217 : decode cX1_init 217 = .ok (.getfield 74, 3) := dk_180 0 74 (dk_at dksX1_init_9 7 rfl rfl)
theorem dX1_init_220 : decode cX1_init 220 = .ok (.invokestatic 78, 3) := dk_184 0 78 (dk_at dksX1_init_9 10 rfl rfl)
theorem dX1_init_223 : decode cX1_init 223 = .ok (.iconst 0, 1) := dk_3 (dk_at dksX1_init_9 13 rfl rfl)
theorem dX1_init_224 : decode cX1_init 224 = .ok (.iload_n 1, 1) := dk_27 (dk_at dksX1_init_9 14 rfl rfl)
theorem dX1_init_225 : decode cX1_init 225 = .ok (.invokespecial 82, 3) := dk_183 0 82 (dk_at dksX1_init_9 15 rfl rfl)
theorem dX1_init_228 : decode cX1_init 228 = .ok (.invokevirtual 85, 3) := dk_182 0 85 (dk_at dksX1_init_9 18 rfl rfl)
theorem dX1_init_231 : decode cX1_init 231 = .ok (.pop, 1) := dk_87 (dk_at dksX1_init_9 21 rfl rfl)
theorem dX1_init_232 : decode cX1_init 232 = .ok (.iinc 1 1, 3) := dk_132 1 1 (dk_at dksX1_init_10 0 rfl rfl)
theorem dX1_init_235 : decode cX1_init 235 = .ok (.goto (-41), 3) := dk_167 255 215 (dk_at dksX1_init_10 3 rfl rfl)
theorem dX1_init_238 : decode cX1_init 238 = .ok (.aload_n 0, 1) := dk_42 (dk_at dksX1_init_10 6 rfl rfl)
theorem dX1_init_239 : decode cX1_init 239 = .ok (.invokevirtual 89, 3) := dk_182 0 89 (dk_at dksX1_init_10 7 rfl rfl)
theorem dX1_init_242 : decode cX1_init 242 = .ok (.return_, 1) := dk_177 (dk_at dksX1_init_10 10 rfl rfl)
abbrev cX1_bytes : ByteArray := prog_1_method_3_code
def yX1_bytes : MethodName := ⟨RX1, "bytes", "(Ljava/lang/String;)[B"⟩
def dkwX1_bytes_1 : List UInt8 := [145, 84, 132, 2, 1, 167, 255, 236, 43, 176]
abbrev dktX1_bytes_1 : List UInt8 := dkwX1_bytes_1 ++ []
def dkwX1_bytes_0 : List UInt8 := [42, 182, 0, 142, 188, 8, 76, 3, 61, 28, 42, 182, 0, 142, 162, 0, 18, 43, 28, 42, 28, 182, 0, 147]
abbrev dktX1_bytes_0 : List UInt8 := dkwX1_bytes_0 ++ dktX1_bytes_1
theorem dksX1_bytes_0 : cX1_bytes.data.toList.drop 0 = dktX1_bytes_0 := by decide +kernel
theorem dksX1_bytes_1 : cX1_bytes.data.toList.drop 24 = dktX1_bytes_1 := dk_seg dksX1_bytes_0 24 rfl rfl
theorem dX1_bytes_0 : decode cX1_bytes 0 = .ok (.aload_n 0, 1) := dk_42 (dk_at dksX1_bytes_0 0 rfl rfl)
theorem dX1_bytes_1 : decode cX1_bytes 1 = .ok (.invokevirtual 142, 3) := dk_182 0 142 (dk_at dksX1_bytes_0 1 rfl rfl)
theorem dX1_bytes_4 : decode cX1_bytes 4 = .ok (.newarray .byte, 2) := dk_188_8 (dk_at dksX1_bytes_0 4 rfl rfl)
theorem dX1_bytes_6 : decode cX1_bytes 6 = .ok (.astore_n 1, 1) := dk_76 (dk_at dksX1_bytes_0 6 rfl rfl)
theorem dX1_bytes_7 : decode cX1_bytes 7 = .ok (.iconst 0, 1) := dk_3 (dk_at dksX1_bytes_0 7 rfl rfl)
theorem dX1_bytes_8 : decode cX1_bytes 8 = .ok (.istore_n 2, 1) := dk_61 (dk_at dksX1_bytes_0 8 rfl rfl)
theorem dX1_bytes_9 : decode cX1_bytes 9 = .ok (.iload_n 2, 1) := dk_28 (dk_at dksX1_bytes_0 9 rfl rfl)
theorem dX1_bytes_10 : decode cX1_bytes 10 = .ok (.aload_n 0, 1) := dk_42 (dk_at dksX1_bytes_0 10 rfl rfl)
theorem dX1_bytes_11 : decode cX1_bytes 11 = .ok (.invokevirtual 142, 3) := dk_182 0 142 (dk_at dksX1_bytes_0 11 rfl rfl)
theorem dX1_bytes_14 : decode cX1_bytes 14 = .ok (.if_icmp .ge 18, 3) := dk_162 0 18 (dk_at dksX1_bytes_0 14 rfl rfl)
theorem dX1_bytes_17 : decode cX1_bytes 17 = .ok (.aload_n 1, 1) := dk_43 (dk_at dksX1_bytes_0 17 rfl rfl)
theorem dX1_bytes_18 : decode cX1_bytes 18 = .ok (.iload_n 2, 1) := dk_28 (dk_at dksX1_bytes_0 18 rfl rfl)
theorem dX1_bytes_19 : decode cX1_bytes 19 = .ok (.aload_n 0, 1) := dk_42 (dk_at dksX1_bytes_0 19 rfl rfl)
theorem dX1_bytes_20 : decode cX1_bytes 20 = .ok (.iload_n 2, 1) := dk_28 (dk_at dksX1_bytes_0 20 rfl rfl)
theorem dX1_bytes_21 : decode cX1_bytes 21 = .ok (.invokevirtual 147, 3) := dk_182 0 147 (dk_at dksX1_bytes_0 21 rfl rfl)
theorem dX1_bytes_24 : decode cX1_bytes 24 = .ok (.i2b, 1) := dk_145 (dk_at dksX1_bytes_1 0 rfl rfl)
theorem dX1_bytes_25 : decode cX1_bytes 25 = .ok (.bastore, 1) := dk_84 (dk_at dksX1_bytes_1 1 rfl rfl)
theorem dX1_bytes_26 : decode cX1_bytes 26 = .ok (.iinc 2 1, 3) := dk_132 2 1 (dk_at dksX1_bytes_1 2 rfl rfl)
theorem dX1_bytes_29 : decode cX1_bytes 29 = .ok (.goto (-20), 3) := dk_167 255 236 (dk_at dksX1_bytes_1 5 rfl rfl)
theorem dX1_bytes_32 : decode cX1_bytes 32 = .ok (.aload_n 1, 1) := dk_43 (dk_at dksX1_bytes_1 8 rfl rfl)
theorem dX1_bytes_33 : decode cX1_bytes 33 = .ok (.areturn, 1) := dk_176 (dk_at dksX1_bytes_1 9 rfl rfl)
abbrev cX1_begin : ByteArray := prog_1_method_2_code
def yX1_begin : MethodName := ⟨RX1, "begin", "()V"⟩
def dkwX1_begin_11 : List UInt8 := [181, 0, 139, 177]
abbrev dktX1_begin_11 : List UInt8 := dkwX1_begin_11 ++ []
def dkwX1_begin_10 : List UInt8 := [42, 3, 181, 0, 127, 42, 3, 181, 0, 130, 42, 3, 181, 0, 133, 42, 3, 181, 0, 136, 42, 3]
abbrev dktX1_begin_10 : List UInt8 := dkwX1_begin_10 ++ dktX1_begin_11
def dkwX1_begin_9 : List UInt8 := [181, 0, 114, 132, 1, 1, 167, 255, 224, 42, 3, 181, 0, 118, 42, 3, 181, 0, 121, 42, 3, 181, 0, 124]
abbrev dktX1_begin_9 : List UInt8 := dkwX1_begin_9 ++ dktX1_begin_10
def dkwX1_begin_8 : List UInt8 := [180, 0, 22, 190, 162, 0, 29, 42, 180, 0, 29, 27, 182, 0, 111, 192, 0, 72, 42, 180, 0, 22, 27, 50]
abbrev dktX1_begin_8 : List UInt8 := dkwX1_begin_8 ++ dktX1_begin_9
def dkwX1_begin_7 : List UInt8 := [180, 0, 29, 42, 180, 0, 29, 182, 0, 103, 4, 100, 182, 0, 107, 87, 167, 255, 224, 3, 60, 27, 42]
abbrev dktX1_begin_7 : List UInt8 := dkwX1_begin_7 ++ dktX1_begin_8
def dkwX1_begin_6 : List UInt8 := [180, 0, 13, 16, 37, 16, 14, 84, 42, 180, 0, 29, 182, 0, 103, 42, 180, 0, 22, 190, 164, 0, 23, 42]
abbrev dktX1_begin_6 : List UInt8 := dkwX1_begin_6 ++ dktX1_begin_7
def dkwX1_begin_5 : List UInt8 := [16, 8, 84, 42, 180, 0, 13, 16, 32, 16, 10, 84, 42, 180, 0, 13, 16, 126, 16, 13, 84, 42]
abbrev dktX1_begin_5 : List UInt8 := dkwX1_begin_5 ++ dktX1_begin_6
def dkwX1_begin_4 : List UInt8 := [180, 0, 13, 16, 35, 16, 6, 84, 42, 180, 0, 13, 16, 94, 16, 7, 84, 42, 180, 0, 13, 16, 95]
abbrev dktX1_begin_4 : List UInt8 := dkwX1_begin_4 ++ dktX1_begin_5
def dkwX1_begin_3 : List UInt8 := [180, 0, 13, 16, 36, 6, 84, 42, 180, 0, 13, 16, 38, 7, 84, 42, 180, 0, 13, 16, 10, 8, 84, 42]
abbrev dktX1_begin_3 : List UInt8 := dkwX1_begin_3 ++ dktX1_begin_4
def dkwX1_begin_2 : List UInt8 := [180, 0, 13, 16, 92, 3, 84, 42, 180, 0, 13, 16, 123, 4, 84, 42, 180, 0, 13, 16, 125, 5, 84, 42]
abbrev dktX1_begin_2 : List UInt8 := dkwX1_begin_2 ++ dktX1_begin_3
def dkwX1_begin_1 : List UInt8 := [27, 184, 0, 99, 153, 0, 8, 16, 11, 167, 0, 5, 16, 12, 145, 84, 132, 1, 1, 167, 255, 225, 42]
abbrev dktX1_begin_1 : List UInt8 := dkwX1_begin_1 ++ dktX1_begin_2
def dkwX1_begin_0 : List UInt8 := [42, 3, 181, 0, 92, 42, 3, 181, 0, 96, 3, 60, 27, 17, 0, 128, 162, 0, 30, 42, 180, 0, 13, 27]
abbrev dktX1_begin_0 : List UInt8 := dkwX1_begin_0 ++ dktX1_begin_1
theorem dksX1_begin_0 : cX1_begin.data.toList.drop 0 = dktX1_begin_0 := by decide +kernel
theorem dksX1_begin_1 : cX1_begin.data.toList.drop 24 = dktX1_begin_1 := dk_seg dksX1_begin_0 24 rfl rfl
theorem dksX1_begin_2 : cX1_begin.data.toList.drop 47 = dktX1_begin_2 := dk_seg dksX1_begin_1 23 rfl rfl
theorem dksX1_begin_3 : cX1_begin.data.toList.drop 71 = dktX1_begin_3 := dk_seg dksX1_begin_2 24 rfl rfl
theorem dksX1_begin_4 : cX1_begin.data.toList.drop 95 = dktX1_begin_4 := dk_seg dksX1_begin_3 24 rfl rfl
theorem dksX1_begin_5 : cX1_begin.data.toList.drop 118 = dktX1_begin_5 := dk_seg dksX1_begin_4 23 rfl rfl
theorem dksX1_begin_6 : cX1_begin.data.toList.drop 140 = dktX1_begin_6 := dk_seg dksX1_begin_5 22 rfl rfl
theorem dksX1_begin_7 : cX1_begin.data.toList.drop 164 = dktX1_begin_7 := dk_seg dksX1_begin_6 24 rfl rfl
theorem dksX1_begin_8 : cX1_begin.data.toList.drop 187 = dktX1_begin_8 := dk_seg dksX1_begin_7 23 rfl rfl
theorem dksX1_begin_9 : cX1_begin.data.toList.drop 211 = dktX1_begin_9 := dk_seg dksX1_begin_8 24 rfl rfl
theorem dksX1_begin_10 : cX1_begin.data.toList.drop 235 = dktX1_begin_10 := dk_seg dksX1_begin_9 24 rfl rfl
theorem dksX1_begin_11 : cX1_begin.data.toList.drop 257 = dktX1_begin_11 := dk_seg dksX1_begin_10 22 rfl rfl
theorem dX1_begin_0 : decode cX1_begin 0 = .ok (.aload_n 0, 1) := dk_42 (dk_at dksX1_begin_0 0 rfl rfl)
theorem dX1_begin_1 : decode cX1_begin 1 = .ok (.iconst 0, 1) := dk_3 (dk_at dksX1_begin_0 1 rfl rfl)
theorem dX1_begin_2 : decode cX1_begin 2 = .ok (.putfield 92, 3) := dk_181 0 92 (dk_at dksX1_begin_0 2 rfl rfl)
theorem dX1_begin_5 : decode cX1_begin 5 = .ok (.aload_n 0, 1) := dk_42 (dk_at dksX1_begin_0 5 rfl rfl)
theorem dX1_begin_6 : decode cX1_begin 6 = .ok (.iconst 0, 1) := dk_3 (dk_at dksX1_begin_0 6 rfl rfl)
theorem dX1_begin_7 : decode cX1_begin 7 = .ok (.putfield 96, 3) := dk_181 0 96 (dk_at dksX1_begin_0 7 rfl rfl)
theorem dX1_begin_10 : decode cX1_begin 10 = .ok (.iconst 0, 1) := dk_3 (dk_at dksX1_begin_0 10 rfl rfl)
theorem dX1_begin_11 : decode cX1_begin 11 = .ok (.istore_n 1, 1) := dk_60 (dk_at dksX1_begin_0 11 rfl rfl)
theorem dX1_begin_12 : decode cX1_begin 12 = .ok (.iload_n 1, 1) := dk_27 (dk_at dksX1_begin_0 12 rfl rfl)
theorem dX1_begin_13 : decode cX1_begin 13 = .ok (.sipush 128, 3) := dk_17 0 128 (dk_at dksX1_begin_0 13 rfl rfl)
theorem dX1_begin_16 : decode cX1_begin 16 = .ok (.if_icmp .ge 30, 3) := dk_162 0 30 (dk_at dksX1_begin_0 16 rfl rfl)
theorem dX1_begin_19 : decode cX1_begin 19 = .ok (.aload_n 0, 1) := dk_42 (dk_at dksX1_begin_0 19 rfl rfl)
theorem dX1_begin_20 : decode cX1_begin 20 = .ok (.getfield 13, 3) := dk_180 0 13 (dk_at dksX1_begin_0 20 rfl rfl)
theorem dX1_begin_23 : decode cX1_begin 23 = .ok (.iload_n 1, 1) := dk_27 (dk_at dksX1_begin_0 23 rfl rfl)
theorem dX1_begin_24 : decode cX1_begin 24 = .ok (.iload_n 1, 1) := dk_27 (dk_at dksX1_begin_1 0 rfl rfl)
theorem dX1_begin_25 : decode cX1_begin 25 = .ok (.invokestatic 99, 3) := dk_184 0 99 (dk_at dksX1_begin_1 1 rfl rfl)
theorem dX1_begin_28 : decode cX1_begin 28 = .ok (.ifCond .eq 8, 3) := dk_153 0 8 (dk_at dksX1_begin_1 4 rfl rfl)
theorem dX1_begin_31 : decode cX1_begin 31 = .ok (.bipush 11, 2) := dk_16 11 (dk_at dksX1_begin_1 7 rfl rfl)
theorem dX1_begin_33 : decode cX1_begin 33 = .ok (.goto 5, 3) := dk_167 0 5 (dk_at dksX1_begin_1 9 rfl rfl)
theorem dX1_begin_36 : decode cX1_begin 36 = .ok (.bipush 12, 2) := dk_16 12 (dk_at dksX1_begin_1 12 rfl rfl)
theorem dX1_begin_38 : decode cX1_begin 38 = .ok (.i2b, 1) := dk_145 (dk_at dksX1_begin_1 14 rfl rfl)
theorem dX1_begin_39 : decode cX1_begin 39 = .ok (.bastore, 1) := dk_84 (dk_at dksX1_begin_1 15 rfl rfl)
theorem dX1_begin_40 : decode cX1_begin 40 = .ok (.iinc 1 1, 3) := dk_132 1 1 (dk_at dksX1_begin_1 16 rfl rfl)
theorem dX1_begin_43 : decode cX1_begin 43 = .ok (.goto (-31), 3) := dk_167 255 225 (dk_at dksX1_begin_1 19 rfl rfl)
theorem dX1_begin_46 : decode cX1_begin 46 = .ok (.aload_n 0, 1) := dk_42 (dk_at dksX1_begin_1 22 rfl rfl)
theorem dX1_begin_47 : decode cX1_begin 47 = .ok (.getfield 13, 3) := dk_180 0 13 (dk_at dksX1_begin_2 0 rfl rfl)
theorem dX1_begin_50 : decode cX1_begin 50 = .ok (.bipush 92, 2) := dk_16 92 (dk_at dksX1_begin_2 3 rfl rfl)
theorem dX1_begin_52 : decode cX1_begin 52 = .ok (.iconst 0, 1) := dk_3 (dk_at dksX1_begin_2 5 rfl rfl)
theorem dX1_begin_53 : decode cX1_begin 53 = .ok (.bastore, 1) := dk_84 (dk_at dksX1_begin_2 6 rfl rfl)
theorem dX1_begin_54 : decode cX1_begin 54 = .ok (.aload_n 0, 1) := dk_42 (dk_at dksX1_begin_2 7 rfl rfl)
theorem dX1_begin_55 : decode cX1_begin 55 = .ok (.getfield 13, 3) := dk_180 0 13 (dk_at dksX1_begin_2 8 rfl rfl)
theorem dX1_begin_58 : decode cX1_begin 58 = .ok (.bipush 123, 2) := dk_16 123 (dk_at dksX1_begin_2 11 rfl rfl)
theorem dX1_begin_60 : decode cX1_begin 60 = .ok (.iconst 1, 1) := dk_4 (dk_at dksX1_begin_2 13 rfl rfl)
theorem dX1_begin_61 : decode cX1_begin 61 = .ok (.bastore, 1) := dk_84 (dk_at dksX1_begin_2 14 rfl rfl)
theorem dX1_begin_62 : decode cX1_begin 62 = .ok (.aload_n 0, 1) := dk_42 (dk_at dksX1_begin_2 15 rfl rfl)
theorem dX1_begin_63 : decode cX1_begin 63 = .ok (.getfield 13, 3) := dk_180 0 13 (dk_at dksX1_begin_2 16 rfl rfl)
theorem dX1_begin_66 : decode cX1_begin 66 = .ok (.bipush 125, 2) := dk_16 125 (dk_at dksX1_begin_2 19 rfl rfl)
theorem dX1_begin_68 : decode cX1_begin 68 = .ok (.iconst 2, 1) := dk_5 (dk_at dksX1_begin_2 21 rfl rfl)
theorem dX1_begin_69 : decode cX1_begin 69 = .ok (.bastore, 1) := dk_84 (dk_at dksX1_begin_2 22 rfl rfl)
theorem dX1_begin_70 : decode cX1_begin 70 = .ok (.aload_n 0, 1) := dk_42 (dk_at dksX1_begin_2 23 rfl rfl)
theorem dX1_begin_71 : decode cX1_begin 71 = .ok (.getfield 13, 3) := dk_180 0 13 (dk_at dksX1_begin_3 0 rfl rfl)
theorem dX1_begin_74 : decode cX1_begin 74 = .ok (.bipush 36, 2) := dk_16 36 (dk_at dksX1_begin_3 3 rfl rfl)
theorem dX1_begin_76 : decode cX1_begin 76 = .ok (.iconst 3, 1) := dk_6 (dk_at dksX1_begin_3 5 rfl rfl)
theorem dX1_begin_77 : decode cX1_begin 77 = .ok (.bastore, 1) := dk_84 (dk_at dksX1_begin_3 6 rfl rfl)
theorem dX1_begin_78 : decode cX1_begin 78 = .ok (.aload_n 0, 1) := dk_42 (dk_at dksX1_begin_3 7 rfl rfl)
theorem dX1_begin_79 : decode cX1_begin 79 = .ok (.getfield 13, 3) := dk_180 0 13 (dk_at dksX1_begin_3 8 rfl rfl)
theorem dX1_begin_82 : decode cX1_begin 82 = .ok (.bipush 38, 2) := dk_16 38 (dk_at dksX1_begin_3 11 rfl rfl)
theorem dX1_begin_84 : decode cX1_begin 84 = .ok (.iconst 4, 1) := dk_7 (dk_at dksX1_begin_3 13 rfl rfl)
theorem dX1_begin_85 : decode cX1_begin 85 = .ok (.bastore, 1) := dk_84 (dk_at dksX1_begin_3 14 rfl rfl)
theorem dX1_begin_86 : decode cX1_begin 86 = .ok (.aload_n 0, 1) := dk_42 (dk_at dksX1_begin_3 15 rfl rfl)
theorem dX1_begin_87 : decode cX1_begin 87 = .ok (.getfield 13, 3) := dk_180 0 13 (dk_at dksX1_begin_3 16 rfl rfl)
theorem dX1_begin_90 : decode cX1_begin 90 = .ok (.bipush 10, 2) := dk_16 10 (dk_at dksX1_begin_3 19 rfl rfl)
theorem dX1_begin_92 : decode cX1_begin 92 = .ok (.iconst 5, 1) := dk_8 (dk_at dksX1_begin_3 21 rfl rfl)
theorem dX1_begin_93 : decode cX1_begin 93 = .ok (.bastore, 1) := dk_84 (dk_at dksX1_begin_3 22 rfl rfl)
theorem dX1_begin_94 : decode cX1_begin 94 = .ok (.aload_n 0, 1) := dk_42 (dk_at dksX1_begin_3 23 rfl rfl)
theorem dX1_begin_95 : decode cX1_begin 95 = .ok (.getfield 13, 3) := dk_180 0 13 (dk_at dksX1_begin_4 0 rfl rfl)
theorem dX1_begin_98 : decode cX1_begin 98 = .ok (.bipush 35, 2) := dk_16 35 (dk_at dksX1_begin_4 3 rfl rfl)
theorem dX1_begin_100 : decode cX1_begin 100 = .ok (.bipush 6, 2) := dk_16 6 (dk_at dksX1_begin_4 5 rfl rfl)
theorem dX1_begin_102 : decode cX1_begin 102 = .ok (.bastore, 1) := dk_84 (dk_at dksX1_begin_4 7 rfl rfl)
theorem dX1_begin_103 : decode cX1_begin 103 = .ok (.aload_n 0, 1) := dk_42 (dk_at dksX1_begin_4 8 rfl rfl)
theorem dX1_begin_104 : decode cX1_begin 104 = .ok (.getfield 13, 3) := dk_180 0 13 (dk_at dksX1_begin_4 9 rfl rfl)
theorem dX1_begin_107 : decode cX1_begin 107 = .ok (.bipush 94, 2) := dk_16 94 (dk_at dksX1_begin_4 12 rfl rfl)
theorem dX1_begin_109 : decode cX1_begin 109 = .ok (.bipush 7, 2) := dk_16 7 (dk_at dksX1_begin_4 14 rfl rfl)
theorem dX1_begin_111 : decode cX1_begin 111 = .ok (.bastore, 1) := dk_84 (dk_at dksX1_begin_4 16 rfl rfl)
theorem dX1_begin_112 : decode cX1_begin 112 = .ok (.aload_n 0, 1) := dk_42 (dk_at dksX1_begin_4 17 rfl rfl)
theorem dX1_begin_113 : decode cX1_begin 113 = .ok (.getfield 13, 3) := dk_180 0 13 (dk_at dksX1_begin_4 18 rfl rfl)
theorem dX1_begin_116 : decode cX1_begin 116 = .ok (.bipush 95, 2) := dk_16 95 (dk_at dksX1_begin_4 21 rfl rfl)
theorem dX1_begin_118 : decode cX1_begin 118 = .ok (.bipush 8, 2) := dk_16 8 (dk_at dksX1_begin_5 0 rfl rfl)
theorem dX1_begin_120 : decode cX1_begin 120 = .ok (.bastore, 1) := dk_84 (dk_at dksX1_begin_5 2 rfl rfl)
theorem dX1_begin_121 : decode cX1_begin 121 = .ok (.aload_n 0, 1) := dk_42 (dk_at dksX1_begin_5 3 rfl rfl)
theorem dX1_begin_122 : decode cX1_begin 122 = .ok (.getfield 13, 3) := dk_180 0 13 (dk_at dksX1_begin_5 4 rfl rfl)
theorem dX1_begin_125 : decode cX1_begin 125 = .ok (.bipush 32, 2) := dk_16 32 (dk_at dksX1_begin_5 7 rfl rfl)
theorem dX1_begin_127 : decode cX1_begin 127 = .ok (.bipush 10, 2) := dk_16 10 (dk_at dksX1_begin_5 9 rfl rfl)
theorem dX1_begin_129 : decode cX1_begin 129 = .ok (.bastore, 1) := dk_84 (dk_at dksX1_begin_5 11 rfl rfl)
theorem dX1_begin_130 : decode cX1_begin 130 = .ok (.aload_n 0, 1) := dk_42 (dk_at dksX1_begin_5 12 rfl rfl)
theorem dX1_begin_131 : decode cX1_begin 131 = .ok (.getfield 13, 3) := dk_180 0 13 (dk_at dksX1_begin_5 13 rfl rfl)
theorem dX1_begin_134 : decode cX1_begin 134 = .ok (.bipush 126, 2) := dk_16 126 (dk_at dksX1_begin_5 16 rfl rfl)
theorem dX1_begin_136 : decode cX1_begin 136 = .ok (.bipush 13, 2) := dk_16 13 (dk_at dksX1_begin_5 18 rfl rfl)
theorem dX1_begin_138 : decode cX1_begin 138 = .ok (.bastore, 1) := dk_84 (dk_at dksX1_begin_5 20 rfl rfl)
theorem dX1_begin_139 : decode cX1_begin 139 = .ok (.aload_n 0, 1) := dk_42 (dk_at dksX1_begin_5 21 rfl rfl)
theorem dX1_begin_140 : decode cX1_begin 140 = .ok (.getfield 13, 3) := dk_180 0 13 (dk_at dksX1_begin_6 0 rfl rfl)
theorem dX1_begin_143 : decode cX1_begin 143 = .ok (.bipush 37, 2) := dk_16 37 (dk_at dksX1_begin_6 3 rfl rfl)
theorem dX1_begin_145 : decode cX1_begin 145 = .ok (.bipush 14, 2) := dk_16 14 (dk_at dksX1_begin_6 5 rfl rfl)
theorem dX1_begin_147 : decode cX1_begin 147 = .ok (.bastore, 1) := dk_84 (dk_at dksX1_begin_6 7 rfl rfl)
theorem dX1_begin_148 : decode cX1_begin 148 = .ok (.aload_n 0, 1) := dk_42 (dk_at dksX1_begin_6 8 rfl rfl)
theorem dX1_begin_149 : decode cX1_begin 149 = .ok (.getfield 29, 3) := dk_180 0 29 (dk_at dksX1_begin_6 9 rfl rfl)
theorem dX1_begin_152 : decode cX1_begin 152 = .ok (.invokevirtual 103, 3) := dk_182 0 103 (dk_at dksX1_begin_6 12 rfl rfl)
theorem dX1_begin_155 : decode cX1_begin 155 = .ok (.aload_n 0, 1) := dk_42 (dk_at dksX1_begin_6 15 rfl rfl)
theorem dX1_begin_156 : decode cX1_begin 156 = .ok (.getfield 22, 3) := dk_180 0 22 (dk_at dksX1_begin_6 16 rfl rfl)
theorem dX1_begin_159 : decode cX1_begin 159 = .ok (.arraylength, 1) := dk_190 (dk_at dksX1_begin_6 19 rfl rfl)
theorem dX1_begin_160 : decode cX1_begin 160 = .ok (.if_icmp .le 23, 3) := dk_164 0 23 (dk_at dksX1_begin_6 20 rfl rfl)
theorem dX1_begin_163 : decode cX1_begin 163 = .ok (.aload_n 0, 1) := dk_42 (dk_at dksX1_begin_6 23 rfl rfl)
theorem dX1_begin_164 : decode cX1_begin 164 = .ok (.getfield 29, 3) := dk_180 0 29 (dk_at dksX1_begin_7 0 rfl rfl)
theorem dX1_begin_167 : decode cX1_begin 167 = .ok (.aload_n 0, 1) := dk_42 (dk_at dksX1_begin_7 3 rfl rfl)
theorem dX1_begin_168 : decode cX1_begin 168 = .ok (.getfield 29, 3) := dk_180 0 29 (dk_at dksX1_begin_7 4 rfl rfl)
theorem dX1_begin_171 : decode cX1_begin 171 = .ok (.invokevirtual 103, 3) := dk_182 0 103 (dk_at dksX1_begin_7 7 rfl rfl)
theorem dX1_begin_174 : decode cX1_begin 174 = .ok (.iconst 1, 1) := dk_4 (dk_at dksX1_begin_7 10 rfl rfl)
theorem dX1_begin_175 : decode cX1_begin 175 = .ok (.isub, 1) := dk_100 (dk_at dksX1_begin_7 11 rfl rfl)
theorem dX1_begin_176 : decode cX1_begin 176 = .ok (.invokevirtual 107, 3) := dk_182 0 107 (dk_at dksX1_begin_7 12 rfl rfl)
theorem dX1_begin_179 : decode cX1_begin 179 = .ok (.pop, 1) := dk_87 (dk_at dksX1_begin_7 15 rfl rfl)
theorem dX1_begin_180 : decode cX1_begin 180 = .ok (.goto (-32), 3) := dk_167 255 224 (dk_at dksX1_begin_7 16 rfl rfl)
theorem dX1_begin_183 : decode cX1_begin 183 = .ok (.iconst 0, 1) := dk_3 (dk_at dksX1_begin_7 19 rfl rfl)
theorem dX1_begin_184 : decode cX1_begin 184 = .ok (.istore_n 1, 1) := dk_60 (dk_at dksX1_begin_7 20 rfl rfl)
theorem dX1_begin_185 : decode cX1_begin 185 = .ok (.iload_n 1, 1) := dk_27 (dk_at dksX1_begin_7 21 rfl rfl)
theorem dX1_begin_186 : decode cX1_begin 186 = .ok (.aload_n 0, 1) := dk_42 (dk_at dksX1_begin_7 22 rfl rfl)
theorem dX1_begin_187 : decode cX1_begin 187 = .ok (.getfield 22, 3) := dk_180 0 22 (dk_at dksX1_begin_8 0 rfl rfl)
theorem dX1_begin_190 : decode cX1_begin 190 = .ok (.arraylength, 1) := dk_190 (dk_at dksX1_begin_8 3 rfl rfl)
theorem dX1_begin_191 : decode cX1_begin 191 = .ok (.if_icmp .ge 29, 3) := dk_162 0 29 (dk_at dksX1_begin_8 4 rfl rfl)
theorem dX1_begin_194 : decode cX1_begin 194 = .ok (.aload_n 0, 1) := dk_42 (dk_at dksX1_begin_8 7 rfl rfl)
theorem dX1_begin_195 : decode cX1_begin 195 = .ok (.getfield 29, 3) := dk_180 0 29 (dk_at dksX1_begin_8 8 rfl rfl)
theorem dX1_begin_198 : decode cX1_begin 198 = .ok (.iload_n 1, 1) := dk_27 (dk_at dksX1_begin_8 11 rfl rfl)
theorem dX1_begin_199 : decode cX1_begin 199 = .ok (.invokevirtual 111, 3) := dk_182 0 111 (dk_at dksX1_begin_8 12 rfl rfl)
theorem dX1_begin_202 : decode cX1_begin 202 = .ok (.checkcast 72, 3) := dk_192 0 72 (dk_at dksX1_begin_8 15 rfl rfl)
theorem dX1_begin_205 : decode cX1_begin 205 = .ok (.aload_n 0, 1) := dk_42 (dk_at dksX1_begin_8 18 rfl rfl)
theorem dX1_begin_206 : decode cX1_begin 206 = .ok (.getfield 22, 3) := dk_180 0 22 (dk_at dksX1_begin_8 19 rfl rfl)
theorem dX1_begin_209 : decode cX1_begin 209 = .ok (.iload_n 1, 1) := dk_27 (dk_at dksX1_begin_8 22 rfl rfl)
theorem dX1_begin_210 : decode cX1_begin 210 = .ok (.aaload, 1) := dk_50 (dk_at dksX1_begin_8 23 rfl rfl)
theorem dX1_begin_211 : decode cX1_begin 211 = .ok (.putfield 114, 3) := dk_181 0 114 (dk_at dksX1_begin_9 0 rfl rfl)
theorem dX1_begin_214 : decode cX1_begin 214 = .ok (.iinc 1 1, 3) := dk_132 1 1 (dk_at dksX1_begin_9 3 rfl rfl)
theorem dX1_begin_217 : decode cX1_begin 217 = .ok (.goto (-32), 3) := dk_167 255 224 (dk_at dksX1_begin_9 6 rfl rfl)
theorem dX1_begin_220 : decode cX1_begin 220 = .ok (.aload_n 0, 1) := dk_42 (dk_at dksX1_begin_9 9 rfl rfl)
theorem dX1_begin_221 : decode cX1_begin 221 = .ok (.iconst 0, 1) := dk_3 (dk_at dksX1_begin_9 10 rfl rfl)
theorem dX1_begin_222 : decode cX1_begin 222 = .ok (.putfield 118, 3) := dk_181 0 118 (dk_at dksX1_begin_9 11 rfl rfl)
theorem dX1_begin_225 : decode cX1_begin 225 = .ok (.aload_n 0, 1) := dk_42 (dk_at dksX1_begin_9 14 rfl rfl)
theorem dX1_begin_226 : decode cX1_begin 226 = .ok (.iconst 0, 1) := dk_3 (dk_at dksX1_begin_9 15 rfl rfl)
theorem dX1_begin_227 : decode cX1_begin 227 = .ok (.putfield 121, 3) := dk_181 0 121 (dk_at dksX1_begin_9 16 rfl rfl)
theorem dX1_begin_230 : decode cX1_begin 230 = .ok (.aload_n 0, 1) := dk_42 (dk_at dksX1_begin_9 19 rfl rfl)
theorem dX1_begin_231 : decode cX1_begin 231 = .ok (.iconst 0, 1) := dk_3 (dk_at dksX1_begin_9 20 rfl rfl)
theorem dX1_begin_232 : decode cX1_begin 232 = .ok (.putfield 124, 3) := dk_181 0 124 (dk_at dksX1_begin_9 21 rfl rfl)
theorem dX1_begin_235 : decode cX1_begin 235 = .ok (.aload_n 0, 1) := dk_42 (dk_at dksX1_begin_10 0 rfl rfl)
theorem dX1_begin_236 : decode cX1_begin 236 = .ok (.iconst 0, 1) := dk_3 (dk_at dksX1_begin_10 1 rfl rfl)
theorem dX1_begin_237 : decode cX1_begin 237 = .ok (.putfield 127, 3) := dk_181 0 127 (dk_at dksX1_begin_10 2 rfl rfl)
theorem dX1_begin_240 : decode cX1_begin 240 = .ok (.aload_n 0, 1) := dk_42 (dk_at dksX1_begin_10 5 rfl rfl)
theorem dX1_begin_241 : decode cX1_begin 241 = .ok (.iconst 0, 1) := dk_3 (dk_at dksX1_begin_10 6 rfl rfl)
theorem dX1_begin_242 : decode cX1_begin 242 = .ok (.putfield 130, 3) := dk_181 0 130 (dk_at dksX1_begin_10 7 rfl rfl)
theorem dX1_begin_245 : decode cX1_begin 245 = .ok (.aload_n 0, 1) := dk_42 (dk_at dksX1_begin_10 10 rfl rfl)
theorem dX1_begin_246 : decode cX1_begin 246 = .ok (.iconst 0, 1) := dk_3 (dk_at dksX1_begin_10 11 rfl rfl)
theorem dX1_begin_247 : decode cX1_begin 247 = .ok (.putfield 133, 3) := dk_181 0 133 (dk_at dksX1_begin_10 12 rfl rfl)
theorem dX1_begin_250 : decode cX1_begin 250 = .ok (.aload_n 0, 1) := dk_42 (dk_at dksX1_begin_10 15 rfl rfl)
theorem dX1_begin_251 : decode cX1_begin 251 = .ok (.iconst 0, 1) := dk_3 (dk_at dksX1_begin_10 16 rfl rfl)
theorem dX1_begin_252 : decode cX1_begin 252 = .ok (.putfield 136, 3) := dk_181 0 136 (dk_at dksX1_begin_10 17 rfl rfl)
theorem dX1_begin_255 : decode cX1_begin 255 = .ok (.aload_n 0, 1) := dk_42 (dk_at dksX1_begin_10 20 rfl rfl)
theorem dX1_begin_256 : decode cX1_begin 256 = .ok (.iconst 0, 1) := dk_3 (dk_at dksX1_begin_10 21 rfl rfl)
theorem dX1_begin_257 : decode cX1_begin 257 = .ok (.putfield 139, 3) := dk_181 0 139 (dk_at dksX1_begin_11 0 rfl rfl)
theorem dX1_begin_260 : decode cX1_begin 260 = .ok (.return_, 1) := dk_177 (dk_at dksX1_begin_11 3 rfl rfl)
abbrev cX1_isAlphabetic : ByteArray := prog_1_method_4_code
def yX1_isAlphabetic : MethodName := ⟨RX1, "isAlphabetic", "(I)Z"⟩
def dkwX1_isAlphabetic_1 : List UInt8 := [4, 167, 0, 4, 3, 172]
abbrev dktX1_isAlphabetic_1 : List UInt8 := dkwX1_isAlphabetic_1 ++ []
def dkwX1_isAlphabetic_0 : List UInt8 := [26, 16, 97, 161, 0, 9, 26, 16, 122, 164, 0, 15, 26, 16, 65, 161, 0, 13, 26, 16, 90, 163, 0, 7]
abbrev dktX1_isAlphabetic_0 : List UInt8 := dkwX1_isAlphabetic_0 ++ dktX1_isAlphabetic_1
theorem dksX1_isAlphabetic_0 : cX1_isAlphabetic.data.toList.drop 0 = dktX1_isAlphabetic_0 := by decide +kernel
theorem dksX1_isAlphabetic_1 : cX1_isAlphabetic.data.toList.drop 24 = dktX1_isAlphabetic_1 := dk_seg dksX1_isAlphabetic_0 24 rfl rfl
theorem dX1_isAlphabetic_0 : decode cX1_isAlphabetic 0 = .ok (.iload_n 0, 1) := dk_26 (dk_at dksX1_isAlphabetic_0 0 rfl rfl)
theorem dX1_isAlphabetic_1 : decode cX1_isAlphabetic 1 = .ok (.bipush 97, 2) := dk_16 97 (dk_at dksX1_isAlphabetic_0 1 rfl rfl)
theorem dX1_isAlphabetic_3 : decode cX1_isAlphabetic 3 = .ok (.if_icmp .lt 9, 3) := dk_161 0 9 (dk_at dksX1_isAlphabetic_0 3 rfl rfl)
theorem dX1_isAlphabetic_6 : decode cX1_isAlphabetic 6 = .ok (.iload_n 0, 1) := dk_26 (dk_at dksX1_isAlphabetic_0 6 rfl rfl)
theorem dX1_isAlphabetic_7 : decode cX1_isAlphabetic 7 = .ok (.bipush 122, 2) := dk_16 122 (dk_at dksX1_isAlphabetic_0 7 rfl rfl)
theorem dX1_isAlphabetic_9 : decode cX1_isAlphabetic 9 = .ok (.if_icmp .le 15, 3) := dk_164 0 15 (dk_at dksX1_isAlphabetic_0 9 rfl rfl)
theorem dX1_isAlphabetic_12 : decode cX1_isAlphabetic 12 = .ok (.iload_n 0, 1) := dk_26 (dk_at dksX1_isAlphabetic_0 12 rfl rfl)
theorem dX1_isAlphabetic_13 : decode cX1_isAlphabetic 13 = .ok (.bipush 65, 2) := dk_16 65 (dk_at dksX1_isAlphabetic_0 13 rfl rfl)
theorem dX1_isAlphabetic_15 : decode cX1_isAlphabetic 15 = .ok (.if_icmp .lt 13, 3) := dk_161 0 13 (dk_at dksX1_isAlphabetic_0 15 rfl rfl)
theorem dX1_isAlphabetic_18 : decode cX1_isAlphabetic 18 = .ok (.iload_n 0, 1) := dk_26 (dk_at dksX1_isAlphabetic_0 18 rfl rfl)
theorem dX1_isAlphabetic_19 : decode cX1_isAlphabetic 19 = .ok (.bipush 90, 2) := dk_16 90 (dk_at dksX1_isAlphabetic_0 19 rfl rfl)
theorem dX1_isAlphabetic_21 : decode cX1_isAlphabetic 21 = .ok (.if_icmp .gt 7, 3) := dk_163 0 7 (dk_at dksX1_isAlphabetic_0 21 rfl rfl)
theorem dX1_isAlphabetic_24 : decode cX1_isAlphabetic 24 = .ok (.iconst 1, 1) := dk_4 (dk_at dksX1_isAlphabetic_1 0 rfl rfl)
theorem dX1_isAlphabetic_25 : decode cX1_isAlphabetic 25 = .ok (.goto 4, 3) := dk_167 0 4 (dk_at dksX1_isAlphabetic_1 1 rfl rfl)
theorem dX1_isAlphabetic_28 : decode cX1_isAlphabetic 28 = .ok (.iconst 0, 1) := dk_3 (dk_at dksX1_isAlphabetic_1 4 rfl rfl)
theorem dX1_isAlphabetic_29 : decode cX1_isAlphabetic 29 = .ok (.ireturn, 1) := dk_172 (dk_at dksX1_isAlphabetic_1 5 rfl rfl)
abbrev cX1_type : ByteArray := prog_1_method_55_code
def yX1_type : MethodName := ⟨RX1, "type", "(J)Z"⟩
def dkwX1_type_5 : List UInt8 := [180, 0, 207, 4, 96, 181, 0, 207, 132, 4, 248, 167, 255, 207, 4, 172]
abbrev dktX1_type_5 : List UInt8 := dkwX1_type_5 ++ []
def dkwX1_type_4 : List UInt8 := [54, 5, 21, 5, 154, 0, 6, 167, 0, 25, 42, 180, 0, 9, 42, 180, 0, 207, 21, 5, 145, 84, 42, 89]
abbrev dktX1_type_4 : List UInt8 := dkwX1_type_4 ++ dktX1_type_5
def dkwX1_type_3 : List UInt8 := [158, 0, 5, 3, 172, 16, 56, 54, 4, 21, 4, 155, 0, 50, 31, 21, 4, 125, 136, 17, 0, 255, 126]
abbrev dktX1_type_3 : List UInt8 := dkwX1_type_3 ++ dktX1_type_4
def dkwX1_type_2 : List UInt8 := [96, 62, 132, 4, 248, 167, 255, 209, 42, 180, 0, 207, 29, 96, 17, 0, 160, 163, 0, 10, 42, 180, 0, 124]
abbrev dktX1_type_2 : List UInt8 := dkwX1_type_2 ++ dktX1_type_3
def dkwX1_type_1 : List UInt8 := [153, 0, 13, 21, 5, 184, 1, 135, 154, 0, 5, 3, 172, 29, 21, 5, 154, 0, 7, 3, 167, 0, 4, 4]
abbrev dktX1_type_1 : List UInt8 := dkwX1_type_1 ++ dktX1_type_2
def dkwX1_type_0 : List UInt8 := [3, 62, 16, 56, 54, 4, 21, 4, 155, 0, 48, 31, 21, 4, 125, 136, 17, 0, 255, 126, 54, 5, 21, 5]
abbrev dktX1_type_0 : List UInt8 := dkwX1_type_0 ++ dktX1_type_1
theorem dksX1_type_0 : cX1_type.data.toList.drop 0 = dktX1_type_0 := by decide +kernel
theorem dksX1_type_1 : cX1_type.data.toList.drop 24 = dktX1_type_1 := dk_seg dksX1_type_0 24 rfl rfl
theorem dksX1_type_2 : cX1_type.data.toList.drop 48 = dktX1_type_2 := dk_seg dksX1_type_1 24 rfl rfl
theorem dksX1_type_3 : cX1_type.data.toList.drop 72 = dktX1_type_3 := dk_seg dksX1_type_2 24 rfl rfl
theorem dksX1_type_4 : cX1_type.data.toList.drop 95 = dktX1_type_4 := dk_seg dksX1_type_3 23 rfl rfl
theorem dksX1_type_5 : cX1_type.data.toList.drop 119 = dktX1_type_5 := dk_seg dksX1_type_4 24 rfl rfl
theorem dX1_type_0 : decode cX1_type 0 = .ok (.iconst 0, 1) := dk_3 (dk_at dksX1_type_0 0 rfl rfl)
theorem dX1_type_1 : decode cX1_type 1 = .ok (.istore_n 3, 1) := dk_62 (dk_at dksX1_type_0 1 rfl rfl)
theorem dX1_type_2 : decode cX1_type 2 = .ok (.bipush 56, 2) := dk_16 56 (dk_at dksX1_type_0 2 rfl rfl)
theorem dX1_type_4 : decode cX1_type 4 = .ok (.istore 4, 2) := dk_54 4 (dk_at dksX1_type_0 4 rfl rfl)
theorem dX1_type_6 : decode cX1_type 6 = .ok (.iload 4, 2) := dk_21 4 (dk_at dksX1_type_0 6 rfl rfl)
theorem dX1_type_8 : decode cX1_type 8 = .ok (.ifCond .lt 48, 3) := dk_155 0 48 (dk_at dksX1_type_0 8 rfl rfl)
theorem dX1_type_11 : decode cX1_type 11 = .ok (.lload_n 1, 1) := dk_31 (dk_at dksX1_type_0 11 rfl rfl)
theorem dX1_type_12 : decode cX1_type 12 = .ok (.iload 4, 2) := dk_21 4 (dk_at dksX1_type_0 12 rfl rfl)
theorem dX1_type_14 : decode cX1_type 14 = .ok (.lushr, 1) := dk_125 (dk_at dksX1_type_0 14 rfl rfl)
theorem dX1_type_15 : decode cX1_type 15 = .ok (.l2i, 1) := dk_136 (dk_at dksX1_type_0 15 rfl rfl)
theorem dX1_type_16 : decode cX1_type 16 = .ok (.sipush 255, 3) := dk_17 0 255 (dk_at dksX1_type_0 16 rfl rfl)
theorem dX1_type_19 : decode cX1_type 19 = .ok (.iand, 1) := dk_126 (dk_at dksX1_type_0 19 rfl rfl)
theorem dX1_type_20 : decode cX1_type 20 = .ok (.istore 5, 2) := dk_54 5 (dk_at dksX1_type_0 20 rfl rfl)
theorem dX1_type_22 : decode cX1_type 22 = .ok (.iload 5, 2) := dk_21 5 (dk_at dksX1_type_0 22 rfl rfl)
theorem dX1_type_24 : decode cX1_type 24 = .ok (.ifCond .eq 13, 3) := dk_153 0 13 (dk_at dksX1_type_1 0 rfl rfl)
theorem dX1_type_27 : decode cX1_type 27 = .ok (.iload 5, 2) := dk_21 5 (dk_at dksX1_type_1 3 rfl rfl)
theorem dX1_type_29 : decode cX1_type 29 = .ok (.invokestatic 391, 3) := dk_184 1 135 (dk_at dksX1_type_1 5 rfl rfl)
theorem dX1_type_32 : decode cX1_type 32 = .ok (.ifCond .ne 5, 3) := dk_154 0 5 (dk_at dksX1_type_1 8 rfl rfl)
theorem dX1_type_35 : decode cX1_type 35 = .ok (.iconst 0, 1) := dk_3 (dk_at dksX1_type_1 11 rfl rfl)
theorem dX1_type_36 : decode cX1_type 36 = .ok (.ireturn, 1) := dk_172 (dk_at dksX1_type_1 12 rfl rfl)
theorem dX1_type_37 : decode cX1_type 37 = .ok (.iload_n 3, 1) := dk_29 (dk_at dksX1_type_1 13 rfl rfl)
theorem dX1_type_38 : decode cX1_type 38 = .ok (.iload 5, 2) := dk_21 5 (dk_at dksX1_type_1 14 rfl rfl)
theorem dX1_type_40 : decode cX1_type 40 = .ok (.ifCond .ne 7, 3) := dk_154 0 7 (dk_at dksX1_type_1 16 rfl rfl)
theorem dX1_type_43 : decode cX1_type 43 = .ok (.iconst 0, 1) := dk_3 (dk_at dksX1_type_1 19 rfl rfl)
theorem dX1_type_44 : decode cX1_type 44 = .ok (.goto 4, 3) := dk_167 0 4 (dk_at dksX1_type_1 20 rfl rfl)
theorem dX1_type_47 : decode cX1_type 47 = .ok (.iconst 1, 1) := dk_4 (dk_at dksX1_type_1 23 rfl rfl)
theorem dX1_type_48 : decode cX1_type 48 = .ok (.iadd, 1) := dk_96 (dk_at dksX1_type_2 0 rfl rfl)
theorem dX1_type_49 : decode cX1_type 49 = .ok (.istore_n 3, 1) := dk_62 (dk_at dksX1_type_2 1 rfl rfl)
theorem dX1_type_50 : decode cX1_type 50 = .ok (.iinc 4 (-8), 3) := dk_132 4 248 (dk_at dksX1_type_2 2 rfl rfl)
theorem dX1_type_53 : decode cX1_type 53 = .ok (.goto (-47), 3) := dk_167 255 209 (dk_at dksX1_type_2 5 rfl rfl)
theorem dX1_type_56 : decode cX1_type 56 = .ok (.aload_n 0, 1) := dk_42 (dk_at dksX1_type_2 8 rfl rfl)
theorem dX1_type_57 : decode cX1_type 57 = .ok (.getfield 207, 3) := dk_180 0 207 (dk_at dksX1_type_2 9 rfl rfl)
theorem dX1_type_60 : decode cX1_type 60 = .ok (.iload_n 3, 1) := dk_29 (dk_at dksX1_type_2 12 rfl rfl)
theorem dX1_type_61 : decode cX1_type 61 = .ok (.iadd, 1) := dk_96 (dk_at dksX1_type_2 13 rfl rfl)
theorem dX1_type_62 : decode cX1_type 62 = .ok (.sipush 160, 3) := dk_17 0 160 (dk_at dksX1_type_2 14 rfl rfl)
theorem dX1_type_65 : decode cX1_type 65 = .ok (.if_icmp .gt 10, 3) := dk_163 0 10 (dk_at dksX1_type_2 17 rfl rfl)
theorem dX1_type_68 : decode cX1_type 68 = .ok (.aload_n 0, 1) := dk_42 (dk_at dksX1_type_2 20 rfl rfl)
theorem dX1_type_69 : decode cX1_type 69 = .ok (.getfield 124, 3) := dk_180 0 124 (dk_at dksX1_type_2 21 rfl rfl)
theorem dX1_type_72 : decode cX1_type 72 = .ok (.ifCond .le 5, 3) := dk_158 0 5 (dk_at dksX1_type_3 0 rfl rfl)
theorem dX1_type_75 : decode cX1_type 75 = .ok (.iconst 0, 1) := dk_3 (dk_at dksX1_type_3 3 rfl rfl)
theorem dX1_type_76 : decode cX1_type 76 = .ok (.ireturn, 1) := dk_172 (dk_at dksX1_type_3 4 rfl rfl)
theorem dX1_type_77 : decode cX1_type 77 = .ok (.bipush 56, 2) := dk_16 56 (dk_at dksX1_type_3 5 rfl rfl)
theorem dX1_type_79 : decode cX1_type 79 = .ok (.istore 4, 2) := dk_54 4 (dk_at dksX1_type_3 7 rfl rfl)
theorem dX1_type_81 : decode cX1_type 81 = .ok (.iload 4, 2) := dk_21 4 (dk_at dksX1_type_3 9 rfl rfl)
theorem dX1_type_83 : decode cX1_type 83 = .ok (.ifCond .lt 50, 3) := dk_155 0 50 (dk_at dksX1_type_3 11 rfl rfl)
theorem dX1_type_86 : decode cX1_type 86 = .ok (.lload_n 1, 1) := dk_31 (dk_at dksX1_type_3 14 rfl rfl)
theorem dX1_type_87 : decode cX1_type 87 = .ok (.iload 4, 2) := dk_21 4 (dk_at dksX1_type_3 15 rfl rfl)
theorem dX1_type_89 : decode cX1_type 89 = .ok (.lushr, 1) := dk_125 (dk_at dksX1_type_3 17 rfl rfl)
theorem dX1_type_90 : decode cX1_type 90 = .ok (.l2i, 1) := dk_136 (dk_at dksX1_type_3 18 rfl rfl)
theorem dX1_type_91 : decode cX1_type 91 = .ok (.sipush 255, 3) := dk_17 0 255 (dk_at dksX1_type_3 19 rfl rfl)
theorem dX1_type_94 : decode cX1_type 94 = .ok (.iand, 1) := dk_126 (dk_at dksX1_type_3 22 rfl rfl)
theorem dX1_type_95 : decode cX1_type 95 = .ok (.istore 5, 2) := dk_54 5 (dk_at dksX1_type_4 0 rfl rfl)
theorem dX1_type_97 : decode cX1_type 97 = .ok (.iload 5, 2) := dk_21 5 (dk_at dksX1_type_4 2 rfl rfl)
theorem dX1_type_99 : decode cX1_type 99 = .ok (.ifCond .ne 6, 3) := dk_154 0 6 (dk_at dksX1_type_4 4 rfl rfl)
theorem dX1_type_102 : decode cX1_type 102 = .ok (.goto 25, 3) := dk_167 0 25 (dk_at dksX1_type_4 7 rfl rfl)
theorem dX1_type_105 : decode cX1_type 105 = .ok (.aload_n 0, 1) := dk_42 (dk_at dksX1_type_4 10 rfl rfl)
theorem dX1_type_106 : decode cX1_type 106 = .ok (.getfield 9, 3) := dk_180 0 9 (dk_at dksX1_type_4 11 rfl rfl)
theorem dX1_type_109 : decode cX1_type 109 = .ok (.aload_n 0, 1) := dk_42 (dk_at dksX1_type_4 14 rfl rfl)
theorem dX1_type_110 : decode cX1_type 110 = .ok (.getfield 207, 3) := dk_180 0 207 (dk_at dksX1_type_4 15 rfl rfl)
theorem dX1_type_113 : decode cX1_type 113 = .ok (.iload 5, 2) := dk_21 5 (dk_at dksX1_type_4 18 rfl rfl)
theorem dX1_type_115 : decode cX1_type 115 = .ok (.i2b, 1) := dk_145 (dk_at dksX1_type_4 20 rfl rfl)
theorem dX1_type_116 : decode cX1_type 116 = .ok (.bastore, 1) := dk_84 (dk_at dksX1_type_4 21 rfl rfl)
theorem dX1_type_117 : decode cX1_type 117 = .ok (.aload_n 0, 1) := dk_42 (dk_at dksX1_type_4 22 rfl rfl)
theorem dX1_type_118 : decode cX1_type 118 = .ok (.dup, 1) := dk_89 (dk_at dksX1_type_4 23 rfl rfl)
theorem dX1_type_119 : decode cX1_type 119 = .ok (.getfield 207, 3) := dk_180 0 207 (dk_at dksX1_type_5 0 rfl rfl)
theorem dX1_type_122 : decode cX1_type 122 = .ok (.iconst 1, 1) := dk_4 (dk_at dksX1_type_5 3 rfl rfl)
theorem dX1_type_123 : decode cX1_type 123 = .ok (.iadd, 1) := dk_96 (dk_at dksX1_type_5 4 rfl rfl)
theorem dX1_type_124 : decode cX1_type 124 = .ok (.putfield 207, 3) := dk_181 0 207 (dk_at dksX1_type_5 5 rfl rfl)
theorem dX1_type_127 : decode cX1_type 127 = .ok (.iinc 4 (-8), 3) := dk_132 4 248 (dk_at dksX1_type_5 8 rfl rfl)
theorem dX1_type_130 : decode cX1_type 130 = .ok (.goto (-49), 3) := dk_167 255 207 (dk_at dksX1_type_5 11 rfl rfl)
theorem dX1_type_133 : decode cX1_type 133 = .ok (.iconst 1, 1) := dk_4 (dk_at dksX1_type_5 14 rfl rfl)
theorem dX1_type_134 : decode cX1_type 134 = .ok (.ireturn, 1) := dk_172 (dk_at dksX1_type_5 15 rfl rfl)
abbrev cX1_isSign : ByteArray := prog_1_method_5_code
def yX1_isSign : MethodName := ⟨RX1, "isSign", "(I)Z"⟩
def dkwX1_isSign_0 : List UInt8 := [26, 16, 32, 161, 0, 9, 26, 16, 126, 164, 0, 9, 26, 16, 10, 160, 0, 7, 4, 167, 0, 4, 3, 172]
abbrev dktX1_isSign_0 : List UInt8 := dkwX1_isSign_0 ++ []
theorem dksX1_isSign_0 : cX1_isSign.data.toList.drop 0 = dktX1_isSign_0 := by decide +kernel
theorem dX1_isSign_0 : decode cX1_isSign 0 = .ok (.iload_n 0, 1) := dk_26 (dk_at dksX1_isSign_0 0 rfl rfl)
theorem dX1_isSign_1 : decode cX1_isSign 1 = .ok (.bipush 32, 2) := dk_16 32 (dk_at dksX1_isSign_0 1 rfl rfl)
theorem dX1_isSign_3 : decode cX1_isSign 3 = .ok (.if_icmp .lt 9, 3) := dk_161 0 9 (dk_at dksX1_isSign_0 3 rfl rfl)
theorem dX1_isSign_6 : decode cX1_isSign 6 = .ok (.iload_n 0, 1) := dk_26 (dk_at dksX1_isSign_0 6 rfl rfl)
theorem dX1_isSign_7 : decode cX1_isSign 7 = .ok (.bipush 126, 2) := dk_16 126 (dk_at dksX1_isSign_0 7 rfl rfl)
theorem dX1_isSign_9 : decode cX1_isSign 9 = .ok (.if_icmp .le 9, 3) := dk_164 0 9 (dk_at dksX1_isSign_0 9 rfl rfl)
theorem dX1_isSign_12 : decode cX1_isSign 12 = .ok (.iload_n 0, 1) := dk_26 (dk_at dksX1_isSign_0 12 rfl rfl)
theorem dX1_isSign_13 : decode cX1_isSign 13 = .ok (.bipush 10, 2) := dk_16 10 (dk_at dksX1_isSign_0 13 rfl rfl)
theorem dX1_isSign_15 : decode cX1_isSign 15 = .ok (.if_icmp .ne 7, 3) := dk_160 0 7 (dk_at dksX1_isSign_0 15 rfl rfl)
theorem dX1_isSign_18 : decode cX1_isSign 18 = .ok (.iconst 1, 1) := dk_4 (dk_at dksX1_isSign_0 18 rfl rfl)
theorem dX1_isSign_19 : decode cX1_isSign 19 = .ok (.goto 4, 3) := dk_167 0 4 (dk_at dksX1_isSign_0 19 rfl rfl)
theorem dX1_isSign_22 : decode cX1_isSign 22 = .ok (.iconst 0, 1) := dk_3 (dk_at dksX1_isSign_0 22 rfl rfl)
theorem dX1_isSign_23 : decode cX1_isSign 23 = .ok (.ireturn, 1) := dk_172 (dk_at dksX1_isSign_0 23 rfl rfl)
abbrev cX1_wipe : ByteArray := prog_1_method_56_code
def yX1_wipe : MethodName := ⟨RX1, "wipe", "()V"⟩
def dkwX1_wipe_0 : List UInt8 := [42, 3, 181, 0, 207, 42, 182, 0, 89, 177]
abbrev dktX1_wipe_0 : List UInt8 := dkwX1_wipe_0 ++ []
theorem dksX1_wipe_0 : cX1_wipe.data.toList.drop 0 = dktX1_wipe_0 := by decide +kernel
theorem dX1_wipe_0 : decode cX1_wipe 0 = .ok (.aload_n 0, 1) := dk_42 (dk_at dksX1_wipe_0 0 rfl rfl)
theorem dX1_wipe_1 : decode cX1_wipe 1 = .ok (.iconst 0, 1) := dk_3 (dk_at dksX1_wipe_0 1 rfl rfl)
theorem dX1_wipe_2 : decode cX1_wipe 2 = .ok (.putfield 207, 3) := dk_181 0 207 (dk_at dksX1_wipe_0 2 rfl rfl)
theorem dX1_wipe_5 : decode cX1_wipe 5 = .ok (.aload_n 0, 1) := dk_42 (dk_at dksX1_wipe_0 5 rfl rfl)
theorem dX1_wipe_6 : decode cX1_wipe 6 = .ok (.invokevirtual 89, 3) := dk_182 0 89 (dk_at dksX1_wipe_0 6 rfl rfl)
theorem dX1_wipe_9 : decode cX1_wipe 9 = .ok (.return_, 1) := dk_177 (dk_at dksX1_wipe_0 9 rfl rfl)
abbrev cX1_again : ByteArray := prog_1_method_57_code
def yX1_again : MethodName := ⟨RX1, "again", "()V"⟩
theorem dX1_again_0 : decode cX1_again 0 = .ok (.aload_n 0, 1) := by decide +kernel
theorem dX1_again_1 : decode cX1_again 1 = .ok (.invokevirtual 89, 3) := by decide +kernel
theorem dX1_again_4 : decode cX1_again 4 = .ok (.return_, 1) := by decide +kernel
abbrev cX1_run : ByteArray := prog_1_method_59_code
def yX1_run : MethodName := ⟨RX1, "run", "(I)I"⟩
def dkwX1_run_2 : List UInt8 := [154, 0, 5, 4, 172, 132, 2, 1, 167, 255, 239, 3, 172]
abbrev dktX1_run_2 : List UInt8 := dkwX1_run_2 ++ []
def dkwX1_run_1 : List UInt8 := [158, 0, 11, 187, 0, 151, 89, 183, 0, 153, 191, 3, 61, 28, 27, 162, 0, 18, 42, 182, 1, 144]
abbrev dktX1_run_1 : List UInt8 := dkwX1_run_1 ++ dktX1_run_2
def dkwX1_run_0 : List UInt8 := [27, 4, 161, 0, 10, 27, 17, 1, 244, 164, 0, 11, 187, 1, 141, 89, 183, 1, 143, 191, 42, 180, 0, 133]
abbrev dktX1_run_0 : List UInt8 := dkwX1_run_0 ++ dktX1_run_1
theorem dksX1_run_0 : cX1_run.data.toList.drop 0 = dktX1_run_0 := by decide +kernel
theorem dksX1_run_1 : cX1_run.data.toList.drop 24 = dktX1_run_1 := dk_seg dksX1_run_0 24 rfl rfl
theorem dksX1_run_2 : cX1_run.data.toList.drop 46 = dktX1_run_2 := dk_seg dksX1_run_1 22 rfl rfl
theorem dX1_run_0 : decode cX1_run 0 = .ok (.iload_n 1, 1) := dk_27 (dk_at dksX1_run_0 0 rfl rfl)
theorem dX1_run_1 : decode cX1_run 1 = .ok (.iconst 1, 1) := dk_4 (dk_at dksX1_run_0 1 rfl rfl)
theorem dX1_run_2 : decode cX1_run 2 = .ok (.if_icmp .lt 10, 3) := dk_161 0 10 (dk_at dksX1_run_0 2 rfl rfl)
theorem dX1_run_5 : decode cX1_run 5 = .ok (.iload_n 1, 1) := dk_27 (dk_at dksX1_run_0 5 rfl rfl)
theorem dX1_run_6 : decode cX1_run 6 = .ok (.sipush 500, 3) := dk_17 1 244 (dk_at dksX1_run_0 6 rfl rfl)
theorem dX1_run_9 : decode cX1_run 9 = .ok (.if_icmp .le 11, 3) := dk_164 0 11 (dk_at dksX1_run_0 9 rfl rfl)
theorem dX1_run_12 : decode cX1_run 12 = .ok (.new 397, 3) := dk_187 1 141 (dk_at dksX1_run_0 12 rfl rfl)
theorem dX1_run_15 : decode cX1_run 15 = .ok (.dup, 1) := dk_89 (dk_at dksX1_run_0 15 rfl rfl)
theorem dX1_run_16 : decode cX1_run 16 = .ok (.invokespecial 399, 3) := dk_183 1 143 (dk_at dksX1_run_0 16 rfl rfl)
theorem dX1_run_19 : decode cX1_run 19 = .ok (.athrow, 1) := dk_191 (dk_at dksX1_run_0 19 rfl rfl)
theorem dX1_run_20 : decode cX1_run 20 = .ok (.aload_n 0, 1) := dk_42 (dk_at dksX1_run_0 20 rfl rfl)
theorem dX1_run_21 : decode cX1_run 21 = .ok (.getfield 133, 3) := dk_180 0 133 (dk_at dksX1_run_0 21 rfl rfl)
theorem dX1_run_24 : decode cX1_run 24 = .ok (.ifCond .le 11, 3) := dk_158 0 11 (dk_at dksX1_run_1 0 rfl rfl)
theorem dX1_run_27 : decode cX1_run 27 = .ok (.new 151, 3) := dk_187 0 151 (dk_at dksX1_run_1 3 rfl rfl)
theorem dX1_run_30 : decode cX1_run 30 = .ok (.dup, 1) := dk_89 (dk_at dksX1_run_1 6 rfl rfl)
theorem dX1_run_31 : decode cX1_run 31 = .ok (.invokespecial 153, 3) := dk_183 0 153 (dk_at dksX1_run_1 7 rfl rfl)
theorem dX1_run_34 : decode cX1_run 34 = .ok (.athrow, 1) := dk_191 (dk_at dksX1_run_1 10 rfl rfl)
theorem dX1_run_35 : decode cX1_run 35 = .ok (.iconst 0, 1) := dk_3 (dk_at dksX1_run_1 11 rfl rfl)
theorem dX1_run_36 : decode cX1_run 36 = .ok (.istore_n 2, 1) := dk_61 (dk_at dksX1_run_1 12 rfl rfl)
theorem dX1_run_37 : decode cX1_run 37 = .ok (.iload_n 2, 1) := dk_28 (dk_at dksX1_run_1 13 rfl rfl)
theorem dX1_run_38 : decode cX1_run 38 = .ok (.iload_n 1, 1) := dk_27 (dk_at dksX1_run_1 14 rfl rfl)
theorem dX1_run_39 : decode cX1_run 39 = .ok (.if_icmp .ge 18, 3) := dk_162 0 18 (dk_at dksX1_run_1 15 rfl rfl)
theorem dX1_run_42 : decode cX1_run 42 = .ok (.aload_n 0, 1) := dk_42 (dk_at dksX1_run_1 18 rfl rfl)
theorem dX1_run_43 : decode cX1_run 43 = .ok (.invokevirtual 400, 3) := dk_182 1 144 (dk_at dksX1_run_1 19 rfl rfl)
theorem dX1_run_46 : decode cX1_run 46 = .ok (.ifCond .ne 5, 3) := dk_154 0 5 (dk_at dksX1_run_2 0 rfl rfl)
theorem dX1_run_49 : decode cX1_run 49 = .ok (.iconst 1, 1) := dk_4 (dk_at dksX1_run_2 3 rfl rfl)
theorem dX1_run_50 : decode cX1_run 50 = .ok (.ireturn, 1) := dk_172 (dk_at dksX1_run_2 4 rfl rfl)
theorem dX1_run_51 : decode cX1_run 51 = .ok (.iinc 2 1, 3) := dk_132 2 1 (dk_at dksX1_run_2 5 rfl rfl)
theorem dX1_run_54 : decode cX1_run 54 = .ok (.goto (-17), 3) := dk_167 255 239 (dk_at dksX1_run_2 8 rfl rfl)
theorem dX1_run_57 : decode cX1_run 57 = .ok (.iconst 0, 1) := dk_3 (dk_at dksX1_run_2 11 rfl rfl)
theorem dX1_run_58 : decode cX1_run 58 = .ok (.ireturn, 1) := dk_172 (dk_at dksX1_run_2 12 rfl rfl)
abbrev cX1_step : ByteArray := prog_1_method_58_code
def yX1_step : MethodName := ⟨RX1, "step", "()Z"⟩
def dkwX1_step_2 : List UInt8 := [153, 0, 11, 42, 27, 182, 0, 229, 167, 0, 8, 42, 27, 182, 1, 138, 4, 172]
abbrev dktX1_step_2 : List UInt8 := dkwX1_step_2 ++ []
def dkwX1_step_1 : List UInt8 := [60, 27, 2, 160, 0, 15, 42, 89, 180, 0, 124, 4, 100, 181, 0, 124, 3, 172, 42, 27, 182, 0, 227]
abbrev dktX1_step_1 : List UInt8 := dkwX1_step_1 ++ dktX1_step_2
def dkwX1_step_0 : List UInt8 := [42, 3, 181, 0, 232, 42, 3, 181, 0, 235, 42, 89, 180, 0, 124, 4, 96, 181, 0, 124, 42, 182, 0, 222]
abbrev dktX1_step_0 : List UInt8 := dkwX1_step_0 ++ dktX1_step_1
theorem dksX1_step_0 : cX1_step.data.toList.drop 0 = dktX1_step_0 := by decide +kernel
theorem dksX1_step_1 : cX1_step.data.toList.drop 24 = dktX1_step_1 := dk_seg dksX1_step_0 24 rfl rfl
theorem dksX1_step_2 : cX1_step.data.toList.drop 47 = dktX1_step_2 := dk_seg dksX1_step_1 23 rfl rfl
theorem dX1_step_0 : decode cX1_step 0 = .ok (.aload_n 0, 1) := dk_42 (dk_at dksX1_step_0 0 rfl rfl)
theorem dX1_step_1 : decode cX1_step 1 = .ok (.iconst 0, 1) := dk_3 (dk_at dksX1_step_0 1 rfl rfl)
theorem dX1_step_2 : decode cX1_step 2 = .ok (.putfield 232, 3) := dk_181 0 232 (dk_at dksX1_step_0 2 rfl rfl)
theorem dX1_step_5 : decode cX1_step 5 = .ok (.aload_n 0, 1) := dk_42 (dk_at dksX1_step_0 5 rfl rfl)
theorem dX1_step_6 : decode cX1_step 6 = .ok (.iconst 0, 1) := dk_3 (dk_at dksX1_step_0 6 rfl rfl)
theorem dX1_step_7 : decode cX1_step 7 = .ok (.putfield 235, 3) := dk_181 0 235 (dk_at dksX1_step_0 7 rfl rfl)
theorem dX1_step_10 : decode cX1_step 10 = .ok (.aload_n 0, 1) := dk_42 (dk_at dksX1_step_0 10 rfl rfl)
theorem dX1_step_11 : decode cX1_step 11 = .ok (.dup, 1) := dk_89 (dk_at dksX1_step_0 11 rfl rfl)
theorem dX1_step_12 : decode cX1_step 12 = .ok (.getfield 124, 3) := dk_180 0 124 (dk_at dksX1_step_0 12 rfl rfl)
theorem dX1_step_15 : decode cX1_step 15 = .ok (.iconst 1, 1) := dk_4 (dk_at dksX1_step_0 15 rfl rfl)
theorem dX1_step_16 : decode cX1_step 16 = .ok (.iadd, 1) := dk_96 (dk_at dksX1_step_0 16 rfl rfl)
theorem dX1_step_17 : decode cX1_step 17 = .ok (.putfield 124, 3) := dk_181 0 124 (dk_at dksX1_step_0 17 rfl rfl)
theorem dX1_step_20 : decode cX1_step 20 = .ok (.aload_n 0, 1) := dk_42 (dk_at dksX1_step_0 20 rfl rfl)
theorem dX1_step_21 : decode cX1_step 21 = .ok (.invokevirtual 222, 3) := dk_182 0 222 (dk_at dksX1_step_0 21 rfl rfl)
theorem dX1_step_24 : decode cX1_step 24 = .ok (.istore_n 1, 1) := dk_60 (dk_at dksX1_step_1 0 rfl rfl)
theorem dX1_step_25 : decode cX1_step 25 = .ok (.iload_n 1, 1) := dk_27 (dk_at dksX1_step_1 1 rfl rfl)
theorem dX1_step_26 : decode cX1_step 26 = .ok (.iconst (-1), 1) := dk_2 (dk_at dksX1_step_1 2 rfl rfl)
theorem dX1_step_27 : decode cX1_step 27 = .ok (.if_icmp .ne 15, 3) := dk_160 0 15 (dk_at dksX1_step_1 3 rfl rfl)
theorem dX1_step_30 : decode cX1_step 30 = .ok (.aload_n 0, 1) := dk_42 (dk_at dksX1_step_1 6 rfl rfl)
theorem dX1_step_31 : decode cX1_step 31 = .ok (.dup, 1) := dk_89 (dk_at dksX1_step_1 7 rfl rfl)
theorem dX1_step_32 : decode cX1_step 32 = .ok (.getfield 124, 3) := dk_180 0 124 (dk_at dksX1_step_1 8 rfl rfl)
theorem dX1_step_35 : decode cX1_step 35 = .ok (.iconst 1, 1) := dk_4 (dk_at dksX1_step_1 11 rfl rfl)
theorem dX1_step_36 : decode cX1_step 36 = .ok (.isub, 1) := dk_100 (dk_at dksX1_step_1 12 rfl rfl)
theorem dX1_step_37 : decode cX1_step 37 = .ok (.putfield 124, 3) := dk_181 0 124 (dk_at dksX1_step_1 13 rfl rfl)
theorem dX1_step_40 : decode cX1_step 40 = .ok (.iconst 0, 1) := dk_3 (dk_at dksX1_step_1 16 rfl rfl)
theorem dX1_step_41 : decode cX1_step 41 = .ok (.ireturn, 1) := dk_172 (dk_at dksX1_step_1 17 rfl rfl)
theorem dX1_step_42 : decode cX1_step 42 = .ok (.aload_n 0, 1) := dk_42 (dk_at dksX1_step_1 18 rfl rfl)
theorem dX1_step_43 : decode cX1_step 43 = .ok (.iload_n 1, 1) := dk_27 (dk_at dksX1_step_1 19 rfl rfl)
theorem dX1_step_44 : decode cX1_step 44 = .ok (.invokevirtual 227, 3) := dk_182 0 227 (dk_at dksX1_step_1 20 rfl rfl)
theorem dX1_step_47 : decode cX1_step 47 = .ok (.ifCond .eq 11, 3) := dk_153 0 11 (dk_at dksX1_step_2 0 rfl rfl)
theorem dX1_step_50 : decode cX1_step 50 = .ok (.aload_n 0, 1) := dk_42 (dk_at dksX1_step_2 3 rfl rfl)
theorem dX1_step_51 : decode cX1_step 51 = .ok (.iload_n 1, 1) := dk_27 (dk_at dksX1_step_2 4 rfl rfl)
theorem dX1_step_52 : decode cX1_step 52 = .ok (.invokevirtual 229, 3) := dk_182 0 229 (dk_at dksX1_step_2 5 rfl rfl)
theorem dX1_step_55 : decode cX1_step 55 = .ok (.goto 8, 3) := dk_167 0 8 (dk_at dksX1_step_2 8 rfl rfl)
theorem dX1_step_58 : decode cX1_step 58 = .ok (.aload_n 0, 1) := dk_42 (dk_at dksX1_step_2 11 rfl rfl)
theorem dX1_step_59 : decode cX1_step 59 = .ok (.iload_n 1, 1) := dk_27 (dk_at dksX1_step_2 12 rfl rfl)
theorem dX1_step_60 : decode cX1_step 60 = .ok (.invokevirtual 394, 3) := dk_182 1 138 (dk_at dksX1_step_2 13 rfl rfl)
theorem dX1_step_63 : decode cX1_step 63 = .ok (.iconst 1, 1) := dk_4 (dk_at dksX1_step_2 16 rfl rfl)
theorem dX1_step_64 : decode cX1_step 64 = .ok (.ireturn, 1) := dk_172 (dk_at dksX1_step_2 17 rfl rfl)
abbrev cX1_get : ByteArray := prog_1_method_22_code
def yX1_get : MethodName := ⟨RX1, "get", "()I"⟩
def dkwX1_get_1 : List UInt8 := [180, 0, 41, 42, 180, 0, 118, 53, 172]
abbrev dktX1_get_1 : List UInt8 := dkwX1_get_1 ++ []
def dkwX1_get_0 : List UInt8 := [42, 180, 0, 118, 154, 0, 8, 42, 182, 0, 219, 172, 42, 89, 180, 0, 118, 4, 100, 181, 0, 118, 42]
abbrev dktX1_get_0 : List UInt8 := dkwX1_get_0 ++ dktX1_get_1
theorem dksX1_get_0 : cX1_get.data.toList.drop 0 = dktX1_get_0 := by decide +kernel
theorem dksX1_get_1 : cX1_get.data.toList.drop 23 = dktX1_get_1 := dk_seg dksX1_get_0 23 rfl rfl
theorem dX1_get_0 : decode cX1_get 0 = .ok (.aload_n 0, 1) := dk_42 (dk_at dksX1_get_0 0 rfl rfl)
theorem dX1_get_1 : decode cX1_get 1 = .ok (.getfield 118, 3) := dk_180 0 118 (dk_at dksX1_get_0 1 rfl rfl)
theorem dX1_get_4 : decode cX1_get 4 = .ok (.ifCond .ne 8, 3) := dk_154 0 8 (dk_at dksX1_get_0 4 rfl rfl)
theorem dX1_get_7 : decode cX1_get 7 = .ok (.aload_n 0, 1) := dk_42 (dk_at dksX1_get_0 7 rfl rfl)
theorem dX1_get_8 : decode cX1_get 8 = .ok (.invokevirtual 219, 3) := dk_182 0 219 (dk_at dksX1_get_0 8 rfl rfl)
theorem dX1_get_11 : decode cX1_get 11 = .ok (.ireturn, 1) := dk_172 (dk_at dksX1_get_0 11 rfl rfl)
theorem dX1_get_12 : decode cX1_get 12 = .ok (.aload_n 0, 1) := dk_42 (dk_at dksX1_get_0 12 rfl rfl)
theorem dX1_get_13 : decode cX1_get 13 = .ok (.dup, 1) := dk_89 (dk_at dksX1_get_0 13 rfl rfl)
theorem dX1_get_14 : decode cX1_get 14 = .ok (.getfield 118, 3) := dk_180 0 118 (dk_at dksX1_get_0 14 rfl rfl)
theorem dX1_get_17 : decode cX1_get 17 = .ok (.iconst 1, 1) := dk_4 (dk_at dksX1_get_0 17 rfl rfl)
theorem dX1_get_18 : decode cX1_get 18 = .ok (.isub, 1) := dk_100 (dk_at dksX1_get_0 18 rfl rfl)
theorem dX1_get_19 : decode cX1_get 19 = .ok (.putfield 118, 3) := dk_181 0 118 (dk_at dksX1_get_0 19 rfl rfl)
theorem dX1_get_22 : decode cX1_get 22 = .ok (.aload_n 0, 1) := dk_42 (dk_at dksX1_get_0 22 rfl rfl)
theorem dX1_get_23 : decode cX1_get 23 = .ok (.getfield 41, 3) := dk_180 0 41 (dk_at dksX1_get_1 0 rfl rfl)
theorem dX1_get_26 : decode cX1_get 26 = .ok (.aload_n 0, 1) := dk_42 (dk_at dksX1_get_1 3 rfl rfl)
theorem dX1_get_27 : decode cX1_get 27 = .ok (.getfield 118, 3) := dk_180 0 118 (dk_at dksX1_get_1 4 rfl rfl)
theorem dX1_get_30 : decode cX1_get 30 = .ok (.saload, 1) := dk_53 (dk_at dksX1_get_1 7 rfl rfl)
theorem dX1_get_31 : decode cX1_get 31 = .ok (.ireturn, 1) := dk_172 (dk_at dksX1_get_1 8 rfl rfl)
abbrev cX1_read : ByteArray := prog_1_method_19_code
def yX1_read : MethodName := ⟨RX1, "read", "()I"⟩
def dkwX1_read_8 : List UInt8 := [96, 172, 167, 255, 23, 2, 172]
abbrev dktX1_read_8 : List UInt8 := dkwX1_read_8 ++ []
def dkwX1_read_7 : List UInt8 := [182, 0, 215, 172, 42, 16, 8, 182, 0, 203, 167, 0, 16, 42, 4, 181, 0, 96, 27, 17, 1, 0, 28, 104]
abbrev dktX1_read_7 : List UInt8 := dkwX1_read_7 ++ dktX1_read_8
def dkwX1_read_6 : List UInt8 := [17, 10, 32, 172, 42, 4, 181, 0, 96, 42, 180, 0, 33, 3, 27, 145, 84, 42, 42, 180, 0, 33, 4, 4]
abbrev dktX1_read_6 : List UInt8 := dkwX1_read_6 ++ dktX1_read_7
def dkwX1_read_5 : List UInt8 := [192, 0, 72, 184, 0, 199, 172, 167, 0, 66, 42, 180, 0, 96, 4, 160, 0, 58, 42, 5, 181, 0, 96]
abbrev dktX1_read_5 : List UInt8 := dkwX1_read_5 ++ dktX1_read_6
def dkwX1_read_4 : List UInt8 := [159, 0, 95, 29, 4, 160, 0, 9, 17, 10, 32, 167, 0, 17, 42, 180, 0, 29, 3, 182, 0, 111]
abbrev dktX1_read_4 : List UInt8 := dkwX1_read_4 ++ dktX1_read_5
def dkwX1_read_3 : List UInt8 := [42, 182, 0, 209, 172, 42, 180, 0, 96, 62, 42, 27, 182, 0, 212, 28, 8, 160, 0, 100, 29, 5]
abbrev dktX1_read_3 : List UInt8 := dkwX1_read_3 ++ dktX1_read_4
def dkwX1_read_2 : List UInt8 := [170, 0, 0, 0, 181, 0, 0, 0, 0, 0, 0, 0, 15, 0, 0, 0, 77, 0, 0, 0, 181, 0, 0, 0, 181, 0, 0, 0, 181, 0, 0, 0, 181, 0, 0, 0, 82, 0, 0, 0, 181, 0, 0, 0, 181, 0, 0, 0, 181, 0, 0, 0, 128, 0, 0, 0, 131, 0, 0, 0, 181, 0, 0, 0, 181, 0, 0, 0, 148, 0, 0, 0, 82, 0, 0, 0, 172]
abbrev dktX1_read_2 : List UInt8 := dkwX1_read_2 ++ dktX1_read_3
def dkwX1_read_1 : List UInt8 := [180, 0, 13, 27, 51, 61, 42, 89, 180, 0, 92, 4, 96, 181, 0, 92, 28]
abbrev dktX1_read_1 : List UInt8 := dkwX1_read_1 ++ dktX1_read_2
def dkwX1_read_0 : List UInt8 := [42, 180, 0, 92, 42, 180, 0, 207, 162, 0, 228, 42, 180, 0, 9, 42, 180, 0, 92, 51, 60, 42]
abbrev dktX1_read_0 : List UInt8 := dkwX1_read_0 ++ dktX1_read_1
theorem dksX1_read_0 : cX1_read.data.toList.drop 0 = dktX1_read_0 := by decide +kernel
theorem dksX1_read_1 : cX1_read.data.toList.drop 22 = dktX1_read_1 := dk_seg dksX1_read_0 22 rfl rfl
theorem dksX1_read_2 : cX1_read.data.toList.drop 39 = dktX1_read_2 := dk_seg dksX1_read_1 17 rfl rfl
theorem dksX1_read_3 : cX1_read.data.toList.drop 116 = dktX1_read_3 := dk_seg dksX1_read_2 77 rfl rfl
theorem dksX1_read_4 : cX1_read.data.toList.drop 138 = dktX1_read_4 := dk_seg dksX1_read_3 22 rfl rfl
theorem dksX1_read_5 : cX1_read.data.toList.drop 160 = dktX1_read_5 := dk_seg dksX1_read_4 22 rfl rfl
theorem dksX1_read_6 : cX1_read.data.toList.drop 183 = dktX1_read_6 := dk_seg dksX1_read_5 23 rfl rfl
theorem dksX1_read_7 : cX1_read.data.toList.drop 207 = dktX1_read_7 := dk_seg dksX1_read_6 24 rfl rfl
theorem dksX1_read_8 : cX1_read.data.toList.drop 231 = dktX1_read_8 := dk_seg dksX1_read_7 24 rfl rfl
theorem dX1_read_0 : decode cX1_read 0 = .ok (.aload_n 0, 1) := dk_42 (dk_at dksX1_read_0 0 rfl rfl)
theorem dX1_read_1 : decode cX1_read 1 = .ok (.getfield 92, 3) := dk_180 0 92 (dk_at dksX1_read_0 1 rfl rfl)
theorem dX1_read_4 : decode cX1_read 4 = .ok (.aload_n 0, 1) := dk_42 (dk_at dksX1_read_0 4 rfl rfl)
theorem dX1_read_5 : decode cX1_read 5 = .ok (.getfield 207, 3) := dk_180 0 207 (dk_at dksX1_read_0 5 rfl rfl)
theorem dX1_read_8 : decode cX1_read 8 = .ok (.if_icmp .ge 228, 3) := dk_162 0 228 (dk_at dksX1_read_0 8 rfl rfl)
theorem dX1_read_11 : decode cX1_read 11 = .ok (.aload_n 0, 1) := dk_42 (dk_at dksX1_read_0 11 rfl rfl)
theorem dX1_read_12 : decode cX1_read 12 = .ok (.getfield 9, 3) := dk_180 0 9 (dk_at dksX1_read_0 12 rfl rfl)
theorem dX1_read_15 : decode cX1_read 15 = .ok (.aload_n 0, 1) := dk_42 (dk_at dksX1_read_0 15 rfl rfl)
theorem dX1_read_16 : decode cX1_read 16 = .ok (.getfield 92, 3) := dk_180 0 92 (dk_at dksX1_read_0 16 rfl rfl)
theorem dX1_read_19 : decode cX1_read 19 = .ok (.baload, 1) := dk_51 (dk_at dksX1_read_0 19 rfl rfl)
theorem dX1_read_20 : decode cX1_read 20 = .ok (.istore_n 1, 1) := dk_60 (dk_at dksX1_read_0 20 rfl rfl)
theorem dX1_read_21 : decode cX1_read 21 = .ok (.aload_n 0, 1) := dk_42 (dk_at dksX1_read_0 21 rfl rfl)
theorem dX1_read_22 : decode cX1_read 22 = .ok (.getfield 13, 3) := dk_180 0 13 (dk_at dksX1_read_1 0 rfl rfl)
theorem dX1_read_25 : decode cX1_read 25 = .ok (.iload_n 1, 1) := dk_27 (dk_at dksX1_read_1 3 rfl rfl)
theorem dX1_read_26 : decode cX1_read 26 = .ok (.baload, 1) := dk_51 (dk_at dksX1_read_1 4 rfl rfl)
theorem dX1_read_27 : decode cX1_read 27 = .ok (.istore_n 2, 1) := dk_61 (dk_at dksX1_read_1 5 rfl rfl)
theorem dX1_read_28 : decode cX1_read 28 = .ok (.aload_n 0, 1) := dk_42 (dk_at dksX1_read_1 6 rfl rfl)
theorem dX1_read_29 : decode cX1_read 29 = .ok (.dup, 1) := dk_89 (dk_at dksX1_read_1 7 rfl rfl)
theorem dX1_read_30 : decode cX1_read 30 = .ok (.getfield 92, 3) := dk_180 0 92 (dk_at dksX1_read_1 8 rfl rfl)
theorem dX1_read_33 : decode cX1_read 33 = .ok (.iconst 1, 1) := dk_4 (dk_at dksX1_read_1 11 rfl rfl)
theorem dX1_read_34 : decode cX1_read 34 = .ok (.iadd, 1) := dk_96 (dk_at dksX1_read_1 12 rfl rfl)
theorem dX1_read_35 : decode cX1_read 35 = .ok (.putfield 92, 3) := dk_181 0 92 (dk_at dksX1_read_1 13 rfl rfl)
theorem dX1_read_38 : decode cX1_read 38 = .ok (.iload_n 2, 1) := dk_28 (dk_at dksX1_read_1 16 rfl rfl)
theorem dX1_read_39 : decode cX1_read 39 = .ok (.tableswitch 181 0 15 #[77, 181, 181, 181, 181, 82, 181, 181, 181, 128, 131, 181, 181, 148, 82, 172], 77) := by decide +kernel
theorem dX1_read_116 : decode cX1_read 116 = .ok (.aload_n 0, 1) := dk_42 (dk_at dksX1_read_3 0 rfl rfl)
theorem dX1_read_117 : decode cX1_read 117 = .ok (.invokevirtual 209, 3) := dk_182 0 209 (dk_at dksX1_read_3 1 rfl rfl)
theorem dX1_read_120 : decode cX1_read 120 = .ok (.ireturn, 1) := dk_172 (dk_at dksX1_read_3 4 rfl rfl)
theorem dX1_read_121 : decode cX1_read 121 = .ok (.aload_n 0, 1) := dk_42 (dk_at dksX1_read_3 5 rfl rfl)
theorem dX1_read_122 : decode cX1_read 122 = .ok (.getfield 96, 3) := dk_180 0 96 (dk_at dksX1_read_3 6 rfl rfl)
theorem dX1_read_125 : decode cX1_read 125 = .ok (.istore_n 3, 1) := dk_62 (dk_at dksX1_read_3 9 rfl rfl)
theorem dX1_read_126 : decode cX1_read 126 = .ok (.aload_n 0, 1) := dk_42 (dk_at dksX1_read_3 10 rfl rfl)
theorem dX1_read_127 : decode cX1_read 127 = .ok (.iload_n 1, 1) := dk_27 (dk_at dksX1_read_3 11 rfl rfl)
theorem dX1_read_128 : decode cX1_read 128 = .ok (.invokevirtual 212, 3) := dk_182 0 212 (dk_at dksX1_read_3 12 rfl rfl)
theorem dX1_read_131 : decode cX1_read 131 = .ok (.iload_n 2, 1) := dk_28 (dk_at dksX1_read_3 15 rfl rfl)
theorem dX1_read_132 : decode cX1_read 132 = .ok (.iconst 5, 1) := dk_8 (dk_at dksX1_read_3 16 rfl rfl)
theorem dX1_read_133 : decode cX1_read 133 = .ok (.if_icmp .ne 100, 3) := dk_160 0 100 (dk_at dksX1_read_3 17 rfl rfl)
theorem dX1_read_136 : decode cX1_read 136 = .ok (.iload_n 3, 1) := dk_29 (dk_at dksX1_read_3 20 rfl rfl)
theorem dX1_read_137 : decode cX1_read 137 = .ok (.iconst 2, 1) := dk_5 (dk_at dksX1_read_3 21 rfl rfl)
theorem dX1_read_138 : decode cX1_read 138 = .ok (.if_icmp .eq 95, 3) := dk_159 0 95 (dk_at dksX1_read_4 0 rfl rfl)
theorem dX1_read_141 : decode cX1_read 141 = .ok (.iload_n 3, 1) := dk_29 (dk_at dksX1_read_4 3 rfl rfl)
theorem dX1_read_142 : decode cX1_read 142 = .ok (.iconst 1, 1) := dk_4 (dk_at dksX1_read_4 4 rfl rfl)
theorem dX1_read_143 : decode cX1_read 143 = .ok (.if_icmp .ne 9, 3) := dk_160 0 9 (dk_at dksX1_read_4 5 rfl rfl)
theorem dX1_read_146 : decode cX1_read 146 = .ok (.sipush 2592, 3) := dk_17 10 32 (dk_at dksX1_read_4 8 rfl rfl)
theorem dX1_read_149 : decode cX1_read 149 = .ok (.goto 17, 3) := dk_167 0 17 (dk_at dksX1_read_4 11 rfl rfl)
theorem dX1_read_152 : decode cX1_read 152 = .ok (.aload_n 0, 1) := dk_42 (dk_at dksX1_read_4 14 rfl rfl)
theorem dX1_read_153 : decode cX1_read 153 = .ok (.getfield 29, 3) := dk_180 0 29 (dk_at dksX1_read_4 15 rfl rfl)
theorem dX1_read_156 : decode cX1_read 156 = .ok (.iconst 0, 1) := dk_3 (dk_at dksX1_read_4 18 rfl rfl)
theorem dX1_read_157 : decode cX1_read 157 = .ok (.invokevirtual 111, 3) := dk_182 0 111 (dk_at dksX1_read_4 19 rfl rfl)
theorem dX1_read_160 : decode cX1_read 160 = .ok (.checkcast 72, 3) := dk_192 0 72 (dk_at dksX1_read_5 0 rfl rfl)
theorem dX1_read_163 : decode cX1_read 163 = .ok (.invokestatic 199, 3) := dk_184 0 199 (dk_at dksX1_read_5 3 rfl rfl)
theorem dX1_read_166 : decode cX1_read 166 = .ok (.ireturn, 1) := dk_172 (dk_at dksX1_read_5 6 rfl rfl)
theorem dX1_read_167 : decode cX1_read 167 = .ok (.goto 66, 3) := dk_167 0 66 (dk_at dksX1_read_5 7 rfl rfl)
theorem dX1_read_170 : decode cX1_read 170 = .ok (.aload_n 0, 1) := dk_42 (dk_at dksX1_read_5 10 rfl rfl)
theorem dX1_read_171 : decode cX1_read 171 = .ok (.getfield 96, 3) := dk_180 0 96 (dk_at dksX1_read_5 11 rfl rfl)
theorem dX1_read_174 : decode cX1_read 174 = .ok (.iconst 1, 1) := dk_4 (dk_at dksX1_read_5 14 rfl rfl)
theorem dX1_read_175 : decode cX1_read 175 = .ok (.if_icmp .ne 58, 3) := dk_160 0 58 (dk_at dksX1_read_5 15 rfl rfl)
theorem dX1_read_178 : decode cX1_read 178 = .ok (.aload_n 0, 1) := dk_42 (dk_at dksX1_read_5 18 rfl rfl)
theorem dX1_read_179 : decode cX1_read 179 = .ok (.iconst 2, 1) := dk_5 (dk_at dksX1_read_5 19 rfl rfl)
theorem dX1_read_180 : decode cX1_read 180 = .ok (.putfield 96, 3) := dk_181 0 96 (dk_at dksX1_read_5 20 rfl rfl)
theorem dX1_read_183 : decode cX1_read 183 = .ok (.sipush 2592, 3) := dk_17 10 32 (dk_at dksX1_read_6 0 rfl rfl)
theorem dX1_read_186 : decode cX1_read 186 = .ok (.ireturn, 1) := dk_172 (dk_at dksX1_read_6 3 rfl rfl)
theorem dX1_read_187 : decode cX1_read 187 = .ok (.aload_n 0, 1) := dk_42 (dk_at dksX1_read_6 4 rfl rfl)
theorem dX1_read_188 : decode cX1_read 188 = .ok (.iconst 1, 1) := dk_4 (dk_at dksX1_read_6 5 rfl rfl)
theorem dX1_read_189 : decode cX1_read 189 = .ok (.putfield 96, 3) := dk_181 0 96 (dk_at dksX1_read_6 6 rfl rfl)
theorem dX1_read_192 : decode cX1_read 192 = .ok (.aload_n 0, 1) := dk_42 (dk_at dksX1_read_6 9 rfl rfl)
theorem dX1_read_193 : decode cX1_read 193 = .ok (.getfield 33, 3) := dk_180 0 33 (dk_at dksX1_read_6 10 rfl rfl)
theorem dX1_read_196 : decode cX1_read 196 = .ok (.iconst 0, 1) := dk_3 (dk_at dksX1_read_6 13 rfl rfl)
theorem dX1_read_197 : decode cX1_read 197 = .ok (.iload_n 1, 1) := dk_27 (dk_at dksX1_read_6 14 rfl rfl)
theorem dX1_read_198 : decode cX1_read 198 = .ok (.i2b, 1) := dk_145 (dk_at dksX1_read_6 15 rfl rfl)
theorem dX1_read_199 : decode cX1_read 199 = .ok (.bastore, 1) := dk_84 (dk_at dksX1_read_6 16 rfl rfl)
theorem dX1_read_200 : decode cX1_read 200 = .ok (.aload_n 0, 1) := dk_42 (dk_at dksX1_read_6 17 rfl rfl)
theorem dX1_read_201 : decode cX1_read 201 = .ok (.aload_n 0, 1) := dk_42 (dk_at dksX1_read_6 18 rfl rfl)
theorem dX1_read_202 : decode cX1_read 202 = .ok (.getfield 33, 3) := dk_180 0 33 (dk_at dksX1_read_6 19 rfl rfl)
theorem dX1_read_205 : decode cX1_read 205 = .ok (.iconst 1, 1) := dk_4 (dk_at dksX1_read_6 22 rfl rfl)
theorem dX1_read_206 : decode cX1_read 206 = .ok (.iconst 1, 1) := dk_4 (dk_at dksX1_read_6 23 rfl rfl)
theorem dX1_read_207 : decode cX1_read 207 = .ok (.invokevirtual 215, 3) := dk_182 0 215 (dk_at dksX1_read_7 0 rfl rfl)
theorem dX1_read_210 : decode cX1_read 210 = .ok (.ireturn, 1) := dk_172 (dk_at dksX1_read_7 3 rfl rfl)
theorem dX1_read_211 : decode cX1_read 211 = .ok (.aload_n 0, 1) := dk_42 (dk_at dksX1_read_7 4 rfl rfl)
theorem dX1_read_212 : decode cX1_read 212 = .ok (.bipush 8, 2) := dk_16 8 (dk_at dksX1_read_7 5 rfl rfl)
theorem dX1_read_214 : decode cX1_read 214 = .ok (.invokevirtual 203, 3) := dk_182 0 203 (dk_at dksX1_read_7 7 rfl rfl)
theorem dX1_read_217 : decode cX1_read 217 = .ok (.goto 16, 3) := dk_167 0 16 (dk_at dksX1_read_7 10 rfl rfl)
theorem dX1_read_220 : decode cX1_read 220 = .ok (.aload_n 0, 1) := dk_42 (dk_at dksX1_read_7 13 rfl rfl)
theorem dX1_read_221 : decode cX1_read 221 = .ok (.iconst 1, 1) := dk_4 (dk_at dksX1_read_7 14 rfl rfl)
theorem dX1_read_222 : decode cX1_read 222 = .ok (.putfield 96, 3) := dk_181 0 96 (dk_at dksX1_read_7 15 rfl rfl)
theorem dX1_read_225 : decode cX1_read 225 = .ok (.iload_n 1, 1) := dk_27 (dk_at dksX1_read_7 18 rfl rfl)
theorem dX1_read_226 : decode cX1_read 226 = .ok (.sipush 256, 3) := dk_17 1 0 (dk_at dksX1_read_7 19 rfl rfl)
theorem dX1_read_229 : decode cX1_read 229 = .ok (.iload_n 2, 1) := dk_28 (dk_at dksX1_read_7 22 rfl rfl)
theorem dX1_read_230 : decode cX1_read 230 = .ok (.imul, 1) := dk_104 (dk_at dksX1_read_7 23 rfl rfl)
theorem dX1_read_231 : decode cX1_read 231 = .ok (.iadd, 1) := dk_96 (dk_at dksX1_read_8 0 rfl rfl)
theorem dX1_read_232 : decode cX1_read 232 = .ok (.ireturn, 1) := dk_172 (dk_at dksX1_read_8 1 rfl rfl)
theorem dX1_read_233 : decode cX1_read 233 = .ok (.goto (-233), 3) := dk_167 255 23 (dk_at dksX1_read_8 2 rfl rfl)
theorem dX1_read_236 : decode cX1_read 236 = .ok (.iconst (-1), 1) := dk_2 (dk_at dksX1_read_8 5 rfl rfl)
theorem dX1_read_237 : decode cX1_read 237 = .ok (.ireturn, 1) := dk_172 (dk_at dksX1_read_8 6 rfl rfl)
abbrev cX1_escape : ByteArray := prog_1_method_21_code
def yX1_escape : MethodName := ⟨RX1, "escape", "()I"⟩
def dkwX1_escape_7 : List UInt8 := [3, 182, 0, 215, 172]
abbrev dktX1_escape_7 : List UInt8 := dkwX1_escape_7 ++ []
def dkwX1_escape_6 : List UInt8 := [42, 180, 0, 9, 42, 180, 0, 92, 4, 100, 51, 84, 132, 1, 1, 167, 255, 177, 42, 42, 180, 0, 33, 27]
abbrev dktX1_escape_6 : List UInt8 := dkwX1_escape_6 ++ dktX1_escape_7
def dkwX1_escape_5 : List UInt8 := [180, 0, 92, 4, 96, 181, 0, 92, 27, 16, 11, 160, 0, 8, 42, 8, 182, 0, 203, 42, 180, 0, 33, 27]
abbrev dktX1_escape_5 : List UInt8 := dkwX1_escape_5 ++ dktX1_escape_6
def dkwX1_escape_4 : List UInt8 := [153, 0, 66, 42, 180, 0, 13, 42, 180, 0, 9, 42, 180, 0, 92, 51, 51, 16, 11, 160, 0, 47, 42, 89]
abbrev dktX1_escape_4 : List UInt8 := dkwX1_escape_4 ++ dktX1_escape_5
def dkwX1_escape_3 : List UInt8 := [167, 0, 4, 4, 181, 0, 96, 42, 180, 0, 92, 42, 180, 0, 207, 162, 0, 74, 27, 153, 0, 26, 28]
abbrev dktX1_escape_3 : List UInt8 := dkwX1_escape_3 ++ dktX1_escape_4
def dkwX1_escape_2 : List UInt8 := [154, 0, 22, 42, 180, 0, 13, 42, 180, 0, 9, 42, 180, 0, 92, 51, 51, 16, 10, 160, 0, 7, 5]
abbrev dktX1_escape_2 : List UInt8 := dkwX1_escape_2 ++ dktX1_escape_3
def dkwX1_escape_1 : List UInt8 := [180, 0, 9, 42, 180, 0, 92, 51, 51, 16, 11, 160, 0, 7, 4, 167, 0, 4, 3, 61, 42, 28]
abbrev dktX1_escape_1 : List UInt8 := dkwX1_escape_1 ++ dktX1_escape_2
def dkwX1_escape_0 : List UInt8 := [42, 180, 0, 92, 42, 180, 0, 207, 160, 0, 8, 42, 6, 182, 0, 203, 3, 60, 42, 180, 0, 13, 42]
abbrev dktX1_escape_0 : List UInt8 := dkwX1_escape_0 ++ dktX1_escape_1
theorem dksX1_escape_0 : cX1_escape.data.toList.drop 0 = dktX1_escape_0 := by decide +kernel
theorem dksX1_escape_1 : cX1_escape.data.toList.drop 23 = dktX1_escape_1 := dk_seg dksX1_escape_0 23 rfl rfl
theorem dksX1_escape_2 : cX1_escape.data.toList.drop 45 = dktX1_escape_2 := dk_seg dksX1_escape_1 22 rfl rfl
theorem dksX1_escape_3 : cX1_escape.data.toList.drop 68 = dktX1_escape_3 := dk_seg dksX1_escape_2 23 rfl rfl
theorem dksX1_escape_4 : cX1_escape.data.toList.drop 91 = dktX1_escape_4 := dk_seg dksX1_escape_3 23 rfl rfl
theorem dksX1_escape_5 : cX1_escape.data.toList.drop 115 = dktX1_escape_5 := dk_seg dksX1_escape_4 24 rfl rfl
theorem dksX1_escape_6 : cX1_escape.data.toList.drop 139 = dktX1_escape_6 := dk_seg dksX1_escape_5 24 rfl rfl
theorem dksX1_escape_7 : cX1_escape.data.toList.drop 163 = dktX1_escape_7 := dk_seg dksX1_escape_6 24 rfl rfl
theorem dX1_escape_0 : decode cX1_escape 0 = .ok (.aload_n 0, 1) := dk_42 (dk_at dksX1_escape_0 0 rfl rfl)
theorem dX1_escape_1 : decode cX1_escape 1 = .ok (.getfield 92, 3) := dk_180 0 92 (dk_at dksX1_escape_0 1 rfl rfl)
theorem dX1_escape_4 : decode cX1_escape 4 = .ok (.aload_n 0, 1) := dk_42 (dk_at dksX1_escape_0 4 rfl rfl)
theorem dX1_escape_5 : decode cX1_escape 5 = .ok (.getfield 207, 3) := dk_180 0 207 (dk_at dksX1_escape_0 5 rfl rfl)
theorem dX1_escape_8 : decode cX1_escape 8 = .ok (.if_icmp .ne 8, 3) := dk_160 0 8 (dk_at dksX1_escape_0 8 rfl rfl)
theorem dX1_escape_11 : decode cX1_escape 11 = .ok (.aload_n 0, 1) := dk_42 (dk_at dksX1_escape_0 11 rfl rfl)
theorem dX1_escape_12 : decode cX1_escape 12 = .ok (.iconst 3, 1) := dk_6 (dk_at dksX1_escape_0 12 rfl rfl)
theorem dX1_escape_13 : decode cX1_escape 13 = .ok (.invokevirtual 203, 3) := dk_182 0 203 (dk_at dksX1_escape_0 13 rfl rfl)
theorem dX1_escape_16 : decode cX1_escape 16 = .ok (.iconst 0, 1) := dk_3 (dk_at dksX1_escape_0 16 rfl rfl)
theorem dX1_escape_17 : decode cX1_escape 17 = .ok (.istore_n 1, 1) := dk_60 (dk_at dksX1_escape_0 17 rfl rfl)
theorem dX1_escape_18 : decode cX1_escape 18 = .ok (.aload_n 0, 1) := dk_42 (dk_at dksX1_escape_0 18 rfl rfl)
theorem dX1_escape_19 : decode cX1_escape 19 = .ok (.getfield 13, 3) := dk_180 0 13 (dk_at dksX1_escape_0 19 rfl rfl)
theorem dX1_escape_22 : decode cX1_escape 22 = .ok (.aload_n 0, 1) := dk_42 (dk_at dksX1_escape_0 22 rfl rfl)
theorem dX1_escape_23 : decode cX1_escape 23 = .ok (.getfield 9, 3) := dk_180 0 9 (dk_at dksX1_escape_1 0 rfl rfl)
theorem dX1_escape_26 : decode cX1_escape 26 = .ok (.aload_n 0, 1) := dk_42 (dk_at dksX1_escape_1 3 rfl rfl)
theorem dX1_escape_27 : decode cX1_escape 27 = .ok (.getfield 92, 3) := dk_180 0 92 (dk_at dksX1_escape_1 4 rfl rfl)
theorem dX1_escape_30 : decode cX1_escape 30 = .ok (.baload, 1) := dk_51 (dk_at dksX1_escape_1 7 rfl rfl)
theorem dX1_escape_31 : decode cX1_escape 31 = .ok (.baload, 1) := dk_51 (dk_at dksX1_escape_1 8 rfl rfl)
theorem dX1_escape_32 : decode cX1_escape 32 = .ok (.bipush 11, 2) := dk_16 11 (dk_at dksX1_escape_1 9 rfl rfl)
theorem dX1_escape_34 : decode cX1_escape 34 = .ok (.if_icmp .ne 7, 3) := dk_160 0 7 (dk_at dksX1_escape_1 11 rfl rfl)
theorem dX1_escape_37 : decode cX1_escape 37 = .ok (.iconst 1, 1) := dk_4 (dk_at dksX1_escape_1 14 rfl rfl)
theorem dX1_escape_38 : decode cX1_escape 38 = .ok (.goto 4, 3) := dk_167 0 4 (dk_at dksX1_escape_1 15 rfl rfl)
theorem dX1_escape_41 : decode cX1_escape 41 = .ok (.iconst 0, 1) := dk_3 (dk_at dksX1_escape_1 18 rfl rfl)
theorem dX1_escape_42 : decode cX1_escape 42 = .ok (.istore_n 2, 1) := dk_61 (dk_at dksX1_escape_1 19 rfl rfl)
theorem dX1_escape_43 : decode cX1_escape 43 = .ok (.aload_n 0, 1) := dk_42 (dk_at dksX1_escape_1 20 rfl rfl)
theorem dX1_escape_44 : decode cX1_escape 44 = .ok (.iload_n 2, 1) := dk_28 (dk_at dksX1_escape_1 21 rfl rfl)
theorem dX1_escape_45 : decode cX1_escape 45 = .ok (.ifCond .ne 22, 3) := dk_154 0 22 (dk_at dksX1_escape_2 0 rfl rfl)
theorem dX1_escape_48 : decode cX1_escape 48 = .ok (.aload_n 0, 1) := dk_42 (dk_at dksX1_escape_2 3 rfl rfl)
theorem dX1_escape_49 : decode cX1_escape 49 = .ok (.getfield 13, 3) := dk_180 0 13 (dk_at dksX1_escape_2 4 rfl rfl)
theorem dX1_escape_52 : decode cX1_escape 52 = .ok (.aload_n 0, 1) := dk_42 (dk_at dksX1_escape_2 7 rfl rfl)
theorem dX1_escape_53 : decode cX1_escape 53 = .ok (.getfield 9, 3) := dk_180 0 9 (dk_at dksX1_escape_2 8 rfl rfl)
theorem dX1_escape_56 : decode cX1_escape 56 = .ok (.aload_n 0, 1) := dk_42 (dk_at dksX1_escape_2 11 rfl rfl)
theorem dX1_escape_57 : decode cX1_escape 57 = .ok (.getfield 92, 3) := dk_180 0 92 (dk_at dksX1_escape_2 12 rfl rfl)
theorem dX1_escape_60 : decode cX1_escape 60 = .ok (.baload, 1) := dk_51 (dk_at dksX1_escape_2 15 rfl rfl)
theorem dX1_escape_61 : decode cX1_escape 61 = .ok (.baload, 1) := dk_51 (dk_at dksX1_escape_2 16 rfl rfl)
theorem dX1_escape_62 : decode cX1_escape 62 = .ok (.bipush 10, 2) := dk_16 10 (dk_at dksX1_escape_2 17 rfl rfl)
theorem dX1_escape_64 : decode cX1_escape 64 = .ok (.if_icmp .ne 7, 3) := dk_160 0 7 (dk_at dksX1_escape_2 19 rfl rfl)
theorem dX1_escape_67 : decode cX1_escape 67 = .ok (.iconst 2, 1) := dk_5 (dk_at dksX1_escape_2 22 rfl rfl)
theorem dX1_escape_68 : decode cX1_escape 68 = .ok (.goto 4, 3) := dk_167 0 4 (dk_at dksX1_escape_3 0 rfl rfl)
theorem dX1_escape_71 : decode cX1_escape 71 = .ok (.iconst 1, 1) := dk_4 (dk_at dksX1_escape_3 3 rfl rfl)
theorem dX1_escape_72 : decode cX1_escape 72 = .ok (.putfield 96, 3) := dk_181 0 96 (dk_at dksX1_escape_3 4 rfl rfl)
theorem dX1_escape_75 : decode cX1_escape 75 = .ok (.aload_n 0, 1) := dk_42 (dk_at dksX1_escape_3 7 rfl rfl)
theorem dX1_escape_76 : decode cX1_escape 76 = .ok (.getfield 92, 3) := dk_180 0 92 (dk_at dksX1_escape_3 8 rfl rfl)
theorem dX1_escape_79 : decode cX1_escape 79 = .ok (.aload_n 0, 1) := dk_42 (dk_at dksX1_escape_3 11 rfl rfl)
theorem dX1_escape_80 : decode cX1_escape 80 = .ok (.getfield 207, 3) := dk_180 0 207 (dk_at dksX1_escape_3 12 rfl rfl)
theorem dX1_escape_83 : decode cX1_escape 83 = .ok (.if_icmp .ge 74, 3) := dk_162 0 74 (dk_at dksX1_escape_3 15 rfl rfl)
theorem dX1_escape_86 : decode cX1_escape 86 = .ok (.iload_n 1, 1) := dk_27 (dk_at dksX1_escape_3 18 rfl rfl)
theorem dX1_escape_87 : decode cX1_escape 87 = .ok (.ifCond .eq 26, 3) := dk_153 0 26 (dk_at dksX1_escape_3 19 rfl rfl)
theorem dX1_escape_90 : decode cX1_escape 90 = .ok (.iload_n 2, 1) := dk_28 (dk_at dksX1_escape_3 22 rfl rfl)
theorem dX1_escape_91 : decode cX1_escape 91 = .ok (.ifCond .eq 66, 3) := dk_153 0 66 (dk_at dksX1_escape_4 0 rfl rfl)
theorem dX1_escape_94 : decode cX1_escape 94 = .ok (.aload_n 0, 1) := dk_42 (dk_at dksX1_escape_4 3 rfl rfl)
theorem dX1_escape_95 : decode cX1_escape 95 = .ok (.getfield 13, 3) := dk_180 0 13 (dk_at dksX1_escape_4 4 rfl rfl)
theorem dX1_escape_98 : decode cX1_escape 98 = .ok (.aload_n 0, 1) := dk_42 (dk_at dksX1_escape_4 7 rfl rfl)
theorem dX1_escape_99 : decode cX1_escape 99 = .ok (.getfield 9, 3) := dk_180 0 9 (dk_at dksX1_escape_4 8 rfl rfl)
theorem dX1_escape_102 : decode cX1_escape 102 = .ok (.aload_n 0, 1) := dk_42 (dk_at dksX1_escape_4 11 rfl rfl)
theorem dX1_escape_103 : decode cX1_escape 103 = .ok (.getfield 92, 3) := dk_180 0 92 (dk_at dksX1_escape_4 12 rfl rfl)
theorem dX1_escape_106 : decode cX1_escape 106 = .ok (.baload, 1) := dk_51 (dk_at dksX1_escape_4 15 rfl rfl)
theorem dX1_escape_107 : decode cX1_escape 107 = .ok (.baload, 1) := dk_51 (dk_at dksX1_escape_4 16 rfl rfl)
theorem dX1_escape_108 : decode cX1_escape 108 = .ok (.bipush 11, 2) := dk_16 11 (dk_at dksX1_escape_4 17 rfl rfl)
theorem dX1_escape_110 : decode cX1_escape 110 = .ok (.if_icmp .ne 47, 3) := dk_160 0 47 (dk_at dksX1_escape_4 19 rfl rfl)
theorem dX1_escape_113 : decode cX1_escape 113 = .ok (.aload_n 0, 1) := dk_42 (dk_at dksX1_escape_4 22 rfl rfl)
theorem dX1_escape_114 : decode cX1_escape 114 = .ok (.dup, 1) := dk_89 (dk_at dksX1_escape_4 23 rfl rfl)
theorem dX1_escape_115 : decode cX1_escape 115 = .ok (.getfield 92, 3) := dk_180 0 92 (dk_at dksX1_escape_5 0 rfl rfl)
theorem dX1_escape_118 : decode cX1_escape 118 = .ok (.iconst 1, 1) := dk_4 (dk_at dksX1_escape_5 3 rfl rfl)
theorem dX1_escape_119 : decode cX1_escape 119 = .ok (.iadd, 1) := dk_96 (dk_at dksX1_escape_5 4 rfl rfl)
theorem dX1_escape_120 : decode cX1_escape 120 = .ok (.putfield 92, 3) := dk_181 0 92 (dk_at dksX1_escape_5 5 rfl rfl)
theorem dX1_escape_123 : decode cX1_escape 123 = .ok (.iload_n 1, 1) := dk_27 (dk_at dksX1_escape_5 8 rfl rfl)
theorem dX1_escape_124 : decode cX1_escape 124 = .ok (.bipush 11, 2) := dk_16 11 (dk_at dksX1_escape_5 9 rfl rfl)
theorem dX1_escape_126 : decode cX1_escape 126 = .ok (.if_icmp .ne 8, 3) := dk_160 0 8 (dk_at dksX1_escape_5 11 rfl rfl)
theorem dX1_escape_129 : decode cX1_escape 129 = .ok (.aload_n 0, 1) := dk_42 (dk_at dksX1_escape_5 14 rfl rfl)
theorem dX1_escape_130 : decode cX1_escape 130 = .ok (.iconst 5, 1) := dk_8 (dk_at dksX1_escape_5 15 rfl rfl)
theorem dX1_escape_131 : decode cX1_escape 131 = .ok (.invokevirtual 203, 3) := dk_182 0 203 (dk_at dksX1_escape_5 16 rfl rfl)
theorem dX1_escape_134 : decode cX1_escape 134 = .ok (.aload_n 0, 1) := dk_42 (dk_at dksX1_escape_5 19 rfl rfl)
theorem dX1_escape_135 : decode cX1_escape 135 = .ok (.getfield 33, 3) := dk_180 0 33 (dk_at dksX1_escape_5 20 rfl rfl)
theorem dX1_escape_138 : decode cX1_escape 138 = .ok (.iload_n 1, 1) := dk_27 (dk_at dksX1_escape_5 23 rfl rfl)
theorem dX1_escape_139 : decode cX1_escape 139 = .ok (.aload_n 0, 1) := dk_42 (dk_at dksX1_escape_6 0 rfl rfl)
theorem dX1_escape_140 : decode cX1_escape 140 = .ok (.getfield 9, 3) := dk_180 0 9 (dk_at dksX1_escape_6 1 rfl rfl)
theorem dX1_escape_143 : decode cX1_escape 143 = .ok (.aload_n 0, 1) := dk_42 (dk_at dksX1_escape_6 4 rfl rfl)
theorem dX1_escape_144 : decode cX1_escape 144 = .ok (.getfield 92, 3) := dk_180 0 92 (dk_at dksX1_escape_6 5 rfl rfl)
theorem dX1_escape_147 : decode cX1_escape 147 = .ok (.iconst 1, 1) := dk_4 (dk_at dksX1_escape_6 8 rfl rfl)
theorem dX1_escape_148 : decode cX1_escape 148 = .ok (.isub, 1) := dk_100 (dk_at dksX1_escape_6 9 rfl rfl)
theorem dX1_escape_149 : decode cX1_escape 149 = .ok (.baload, 1) := dk_51 (dk_at dksX1_escape_6 10 rfl rfl)
theorem dX1_escape_150 : decode cX1_escape 150 = .ok (.bastore, 1) := dk_84 (dk_at dksX1_escape_6 11 rfl rfl)
theorem dX1_escape_151 : decode cX1_escape 151 = .ok (.iinc 1 1, 3) := dk_132 1 1 (dk_at dksX1_escape_6 12 rfl rfl)
theorem dX1_escape_154 : decode cX1_escape 154 = .ok (.goto (-79), 3) := dk_167 255 177 (dk_at dksX1_escape_6 15 rfl rfl)
theorem dX1_escape_157 : decode cX1_escape 157 = .ok (.aload_n 0, 1) := dk_42 (dk_at dksX1_escape_6 18 rfl rfl)
theorem dX1_escape_158 : decode cX1_escape 158 = .ok (.aload_n 0, 1) := dk_42 (dk_at dksX1_escape_6 19 rfl rfl)
theorem dX1_escape_159 : decode cX1_escape 159 = .ok (.getfield 33, 3) := dk_180 0 33 (dk_at dksX1_escape_6 20 rfl rfl)
theorem dX1_escape_162 : decode cX1_escape 162 = .ok (.iload_n 1, 1) := dk_27 (dk_at dksX1_escape_6 23 rfl rfl)
theorem dX1_escape_163 : decode cX1_escape 163 = .ok (.iconst 0, 1) := dk_3 (dk_at dksX1_escape_7 0 rfl rfl)
theorem dX1_escape_164 : decode cX1_escape 164 = .ok (.invokevirtual 215, 3) := dk_182 0 215 (dk_at dksX1_escape_7 1 rfl rfl)
theorem dX1_escape_167 : decode cX1_escape 167 = .ok (.ireturn, 1) := dk_172 (dk_at dksX1_escape_7 4 rfl rfl)
abbrev cX1_fail : ByteArray := prog_1_method_6_code
def yX1_fail : MethodName := ⟨RX1, "fail", "(I)V"⟩
def dkwX1_fail_0 : List UInt8 := [42, 27, 181, 0, 133, 187, 0, 151, 89, 183, 0, 153, 191]
abbrev dktX1_fail_0 : List UInt8 := dkwX1_fail_0 ++ []
theorem dksX1_fail_0 : cX1_fail.data.toList.drop 0 = dktX1_fail_0 := by decide +kernel
theorem dX1_fail_0 : decode cX1_fail 0 = .ok (.aload_n 0, 1) := dk_42 (dk_at dksX1_fail_0 0 rfl rfl)
theorem dX1_fail_1 : decode cX1_fail 1 = .ok (.iload_n 1, 1) := dk_27 (dk_at dksX1_fail_0 1 rfl rfl)
theorem dX1_fail_2 : decode cX1_fail 2 = .ok (.putfield 133, 3) := dk_181 0 133 (dk_at dksX1_fail_0 2 rfl rfl)
theorem dX1_fail_5 : decode cX1_fail 5 = .ok (.new 151, 3) := dk_187 0 151 (dk_at dksX1_fail_0 5 rfl rfl)
theorem dX1_fail_8 : decode cX1_fail 8 = .ok (.dup, 1) := dk_89 (dk_at dksX1_fail_0 8 rfl rfl)
theorem dX1_fail_9 : decode cX1_fail 9 = .ok (.invokespecial 153, 3) := dk_183 0 153 (dk_at dksX1_fail_0 9 rfl rfl)
theorem dX1_fail_12 : decode cX1_fail 12 = .ok (.athrow, 1) := dk_191 (dk_at dksX1_fail_0 12 rfl rfl)
abbrev cX1_known : ByteArray := prog_1_method_18_code
def yX1_known : MethodName := ⟨RX1, "known", "([BIZ)I"⟩
def dkwX1_known_4 : List UInt8 := [25, 6, 182, 0, 85, 87, 25, 6, 184, 0, 199, 172]
abbrev dktX1_known_4 : List UInt8 := dkwX1_known_4 ++ []
def dkwX1_known_3 : List UInt8 := [187, 0, 72, 89, 25, 5, 29, 42, 180, 0, 29, 182, 0, 103, 183, 0, 82, 58, 6, 42, 180, 0, 29]
abbrev dktX1_known_3 : List UInt8 := dkwX1_known_3 ++ dktX1_known_4
def dkwX1_known_2 : List UInt8 := [3, 54, 6, 21, 6, 28, 162, 0, 18, 25, 5, 21, 6, 43, 21, 6, 51, 84, 132, 6, 1, 167, 255, 238]
abbrev dktX1_known_2 : List UInt8 := dkwX1_known_2 ++ dktX1_known_3
def dkwX1_known_1 : List UInt8 := [182, 0, 103, 42, 180, 0, 22, 190, 16, 100, 96, 160, 0, 8, 42, 8, 182, 0, 203, 28, 188, 8, 58, 5]
abbrev dktX1_known_1 : List UInt8 := dkwX1_known_1 ++ dktX1_known_2
def dkwX1_known_0 : List UInt8 := [42, 43, 28, 29, 182, 0, 195, 58, 4, 25, 4, 198, 0, 9, 25, 4, 184, 0, 199, 172, 42, 180, 0, 29]
abbrev dktX1_known_0 : List UInt8 := dkwX1_known_0 ++ dktX1_known_1
theorem dksX1_known_0 : cX1_known.data.toList.drop 0 = dktX1_known_0 := by decide +kernel
theorem dksX1_known_1 : cX1_known.data.toList.drop 24 = dktX1_known_1 := dk_seg dksX1_known_0 24 rfl rfl
theorem dksX1_known_2 : cX1_known.data.toList.drop 48 = dktX1_known_2 := dk_seg dksX1_known_1 24 rfl rfl
theorem dksX1_known_3 : cX1_known.data.toList.drop 72 = dktX1_known_3 := dk_seg dksX1_known_2 24 rfl rfl
theorem dksX1_known_4 : cX1_known.data.toList.drop 95 = dktX1_known_4 := dk_seg dksX1_known_3 23 rfl rfl
theorem dX1_known_0 : decode cX1_known 0 = .ok (.aload_n 0, 1) := dk_42 (dk_at dksX1_known_0 0 rfl rfl)
theorem dX1_known_1 : decode cX1_known 1 = .ok (.aload_n 1, 1) := dk_43 (dk_at dksX1_known_0 1 rfl rfl)
theorem dX1_known_2 : decode cX1_known 2 = .ok (.iload_n 2, 1) := dk_28 (dk_at dksX1_known_0 2 rfl rfl)
theorem dX1_known_3 : decode cX1_known 3 = .ok (.iload_n 3, 1) := dk_29 (dk_at dksX1_known_0 3 rfl rfl)
theorem dX1_known_4 : decode cX1_known 4 = .ok (.invokevirtual 195, 3) := dk_182 0 195 (dk_at dksX1_known_0 4 rfl rfl)
theorem dX1_known_7 : decode cX1_known 7 = .ok (.astore 4, 2) := dk_58 4 (dk_at dksX1_known_0 7 rfl rfl)
theorem dX1_known_9 : decode cX1_known 9 = .ok (.aload 4, 2) := dk_25 4 (dk_at dksX1_known_0 9 rfl rfl)
theorem dX1_known_11 : decode cX1_known 11 = .ok (.ifnull 9, 3) := dk_198 0 9 (dk_at dksX1_known_0 11 rfl rfl)
theorem dX1_known_14 : decode cX1_known 14 = .ok (.aload 4, 2) := dk_25 4 (dk_at dksX1_known_0 14 rfl rfl)
theorem dX1_known_16 : decode cX1_known 16 = .ok (.invokestatic 199, 3) := dk_184 0 199 (dk_at dksX1_known_0 16 rfl rfl)
theorem dX1_known_19 : decode cX1_known 19 = .ok (.ireturn, 1) := dk_172 (dk_at dksX1_known_0 19 rfl rfl)
theorem dX1_known_20 : decode cX1_known 20 = .ok (.aload_n 0, 1) := dk_42 (dk_at dksX1_known_0 20 rfl rfl)
theorem dX1_known_21 : decode cX1_known 21 = .ok (.getfield 29, 3) := dk_180 0 29 (dk_at dksX1_known_0 21 rfl rfl)
theorem dX1_known_24 : decode cX1_known 24 = .ok (.invokevirtual 103, 3) := dk_182 0 103 (dk_at dksX1_known_1 0 rfl rfl)
theorem dX1_known_27 : decode cX1_known 27 = .ok (.aload_n 0, 1) := dk_42 (dk_at dksX1_known_1 3 rfl rfl)
theorem dX1_known_28 : decode cX1_known 28 = .ok (.getfield 22, 3) := dk_180 0 22 (dk_at dksX1_known_1 4 rfl rfl)
theorem dX1_known_31 : decode cX1_known 31 = .ok (.arraylength, 1) := dk_190 (dk_at dksX1_known_1 7 rfl rfl)
theorem dX1_known_32 : decode cX1_known 32 = .ok (.bipush 100, 2) := dk_16 100 (dk_at dksX1_known_1 8 rfl rfl)
theorem dX1_known_34 : decode cX1_known 34 = .ok (.iadd, 1) := dk_96 (dk_at dksX1_known_1 10 rfl rfl)
theorem dX1_known_35 : decode cX1_known 35 = .ok (.if_icmp .ne 8, 3) := dk_160 0 8 (dk_at dksX1_known_1 11 rfl rfl)
theorem dX1_known_38 : decode cX1_known 38 = .ok (.aload_n 0, 1) := dk_42 (dk_at dksX1_known_1 14 rfl rfl)
theorem dX1_known_39 : decode cX1_known 39 = .ok (.iconst 5, 1) := dk_8 (dk_at dksX1_known_1 15 rfl rfl)
theorem dX1_known_40 : decode cX1_known 40 = .ok (.invokevirtual 203, 3) := dk_182 0 203 (dk_at dksX1_known_1 16 rfl rfl)
theorem dX1_known_43 : decode cX1_known 43 = .ok (.iload_n 2, 1) := dk_28 (dk_at dksX1_known_1 19 rfl rfl)
theorem dX1_known_44 : decode cX1_known 44 = .ok (.newarray .byte, 2) := dk_188_8 (dk_at dksX1_known_1 20 rfl rfl)
theorem dX1_known_46 : decode cX1_known 46 = .ok (.astore 5, 2) := dk_58 5 (dk_at dksX1_known_1 22 rfl rfl)
theorem dX1_known_48 : decode cX1_known 48 = .ok (.iconst 0, 1) := dk_3 (dk_at dksX1_known_2 0 rfl rfl)
theorem dX1_known_49 : decode cX1_known 49 = .ok (.istore 6, 2) := dk_54 6 (dk_at dksX1_known_2 1 rfl rfl)
theorem dX1_known_51 : decode cX1_known 51 = .ok (.iload 6, 2) := dk_21 6 (dk_at dksX1_known_2 3 rfl rfl)
theorem dX1_known_53 : decode cX1_known 53 = .ok (.iload_n 2, 1) := dk_28 (dk_at dksX1_known_2 5 rfl rfl)
theorem dX1_known_54 : decode cX1_known 54 = .ok (.if_icmp .ge 18, 3) := dk_162 0 18 (dk_at dksX1_known_2 6 rfl rfl)
theorem dX1_known_57 : decode cX1_known 57 = .ok (.aload 5, 2) := dk_25 5 (dk_at dksX1_known_2 9 rfl rfl)
theorem dX1_known_59 : decode cX1_known 59 = .ok (.iload 6, 2) := dk_21 6 (dk_at dksX1_known_2 11 rfl rfl)
theorem dX1_known_61 : decode cX1_known 61 = .ok (.aload_n 1, 1) := dk_43 (dk_at dksX1_known_2 13 rfl rfl)
theorem dX1_known_62 : decode cX1_known 62 = .ok (.iload 6, 2) := dk_21 6 (dk_at dksX1_known_2 14 rfl rfl)
theorem dX1_known_64 : decode cX1_known 64 = .ok (.baload, 1) := dk_51 (dk_at dksX1_known_2 16 rfl rfl)
theorem dX1_known_65 : decode cX1_known 65 = .ok (.bastore, 1) := dk_84 (dk_at dksX1_known_2 17 rfl rfl)
theorem dX1_known_66 : decode cX1_known 66 = .ok (.iinc 6 1, 3) := dk_132 6 1 (dk_at dksX1_known_2 18 rfl rfl)
theorem dX1_known_69 : decode cX1_known 69 = .ok (.goto (-18), 3) := dk_167 255 238 (dk_at dksX1_known_2 21 rfl rfl)
theorem dX1_known_72 : decode cX1_known 72 = .ok (.new 72, 3) := dk_187 0 72 (dk_at dksX1_known_3 0 rfl rfl)
theorem dX1_known_75 : decode cX1_known 75 = .ok (.dup, 1) := dk_89 (dk_at dksX1_known_3 3 rfl rfl)
theorem dX1_known_76 : decode cX1_known 76 = .ok (.aload 5, 2) := dk_25 5 (dk_at dksX1_known_3 4 rfl rfl)
theorem dX1_known_78 : decode cX1_known 78 = .ok (.iload_n 3, 1) := dk_29 (dk_at dksX1_known_3 6 rfl rfl)
theorem dX1_known_79 : decode cX1_known 79 = .ok (.aload_n 0, 1) := dk_42 (dk_at dksX1_known_3 7 rfl rfl)
theorem dX1_known_80 : decode cX1_known 80 = .ok (.getfield 29, 3) := dk_180 0 29 (dk_at dksX1_known_3 8 rfl rfl)
theorem dX1_known_83 : decode cX1_known 83 = .ok (.invokevirtual 103, 3) := dk_182 0 103 (dk_at dksX1_known_3 11 rfl rfl)
theorem dX1_known_86 : decode cX1_known 86 = .ok (.invokespecial 82, 3) := dk_183 0 82 (dk_at dksX1_known_3 14 rfl rfl)
theorem dX1_known_89 : decode cX1_known 89 = .ok (.astore 6, 2) := dk_58 6 (dk_at dksX1_known_3 17 rfl rfl)
theorem dX1_known_91 : decode cX1_known 91 = .ok (.aload_n 0, 1) := dk_42 (dk_at dksX1_known_3 19 rfl rfl)
theorem dX1_known_92 : decode cX1_known 92 = .ok (.getfield 29, 3) := dk_180 0 29 (dk_at dksX1_known_3 20 rfl rfl)
theorem dX1_known_95 : decode cX1_known 95 = .ok (.aload 6, 2) := dk_25 6 (dk_at dksX1_known_4 0 rfl rfl)
theorem dX1_known_97 : decode cX1_known 97 = .ok (.invokevirtual 85, 3) := dk_182 0 85 (dk_at dksX1_known_4 2 rfl rfl)
theorem dX1_known_100 : decode cX1_known 100 = .ok (.pop, 1) := dk_87 (dk_at dksX1_known_4 5 rfl rfl)
theorem dX1_known_101 : decode cX1_known 101 = .ok (.aload 6, 2) := dk_25 6 (dk_at dksX1_known_4 6 rfl rfl)
theorem dX1_known_103 : decode cX1_known 103 = .ok (.invokestatic 199, 3) := dk_184 0 199 (dk_at dksX1_known_4 8 rfl rfl)
theorem dX1_known_106 : decode cX1_known 106 = .ok (.ireturn, 1) := dk_172 (dk_at dksX1_known_4 11 rfl rfl)
abbrev cX1_find : ByteArray := prog_1_method_17_code
def yX1_find : MethodName := ⟨RX1, "find", "([BIZ)LTokenMouth$Name;"⟩
def dkwX1_find_2 : List UInt8 := [176, 132, 4, 1, 167, 255, 207, 1, 176]
abbrev dktX1_find_2 : List UInt8 := dkwX1_find_2 ++ []
def dkwX1_find_1 : List UInt8 := [192, 0, 72, 43, 28, 29, 182, 0, 191, 153, 0, 16, 42, 180, 0, 29, 21, 4, 182, 0, 111, 192, 0, 72]
abbrev dktX1_find_1 : List UInt8 := dkwX1_find_1 ++ dktX1_find_2
def dkwX1_find_0 : List UInt8 := [3, 54, 4, 21, 4, 42, 180, 0, 29, 182, 0, 103, 162, 0, 43, 42, 180, 0, 29, 21, 4, 182, 0, 111]
abbrev dktX1_find_0 : List UInt8 := dkwX1_find_0 ++ dktX1_find_1
theorem dksX1_find_0 : cX1_find.data.toList.drop 0 = dktX1_find_0 := by decide +kernel
theorem dksX1_find_1 : cX1_find.data.toList.drop 24 = dktX1_find_1 := dk_seg dksX1_find_0 24 rfl rfl
theorem dksX1_find_2 : cX1_find.data.toList.drop 48 = dktX1_find_2 := dk_seg dksX1_find_1 24 rfl rfl
theorem dX1_find_0 : decode cX1_find 0 = .ok (.iconst 0, 1) := dk_3 (dk_at dksX1_find_0 0 rfl rfl)
theorem dX1_find_1 : decode cX1_find 1 = .ok (.istore 4, 2) := dk_54 4 (dk_at dksX1_find_0 1 rfl rfl)
theorem dX1_find_3 : decode cX1_find 3 = .ok (.iload 4, 2) := dk_21 4 (dk_at dksX1_find_0 3 rfl rfl)
theorem dX1_find_5 : decode cX1_find 5 = .ok (.aload_n 0, 1) := dk_42 (dk_at dksX1_find_0 5 rfl rfl)
theorem dX1_find_6 : decode cX1_find 6 = .ok (.getfield 29, 3) := dk_180 0 29 (dk_at dksX1_find_0 6 rfl rfl)
theorem dX1_find_9 : decode cX1_find 9 = .ok (.invokevirtual 103, 3) := dk_182 0 103 (dk_at dksX1_find_0 9 rfl rfl)
theorem dX1_find_12 : decode cX1_find 12 = .ok (.if_icmp .ge 43, 3) := dk_162 0 43 (dk_at dksX1_find_0 12 rfl rfl)
theorem dX1_find_15 : decode cX1_find 15 = .ok (.aload_n 0, 1) := dk_42 (dk_at dksX1_find_0 15 rfl rfl)
theorem dX1_find_16 : decode cX1_find 16 = .ok (.getfield 29, 3) := dk_180 0 29 (dk_at dksX1_find_0 16 rfl rfl)
theorem dX1_find_19 : decode cX1_find 19 = .ok (.iload 4, 2) := dk_21 4 (dk_at dksX1_find_0 19 rfl rfl)
theorem dX1_find_21 : decode cX1_find 21 = .ok (.invokevirtual 111, 3) := dk_182 0 111 (dk_at dksX1_find_0 21 rfl rfl)
theorem dX1_find_24 : decode cX1_find 24 = .ok (.checkcast 72, 3) := dk_192 0 72 (dk_at dksX1_find_1 0 rfl rfl)
theorem dX1_find_27 : decode cX1_find 27 = .ok (.aload_n 1, 1) := dk_43 (dk_at dksX1_find_1 3 rfl rfl)
theorem dX1_find_28 : decode cX1_find 28 = .ok (.iload_n 2, 1) := dk_28 (dk_at dksX1_find_1 4 rfl rfl)
theorem dX1_find_29 : decode cX1_find 29 = .ok (.iload_n 3, 1) := dk_29 (dk_at dksX1_find_1 5 rfl rfl)
theorem dX1_find_30 : decode cX1_find 30 = .ok (.invokevirtual 191, 3) := dk_182 0 191 (dk_at dksX1_find_1 6 rfl rfl)
theorem dX1_find_33 : decode cX1_find 33 = .ok (.ifCond .eq 16, 3) := dk_153 0 16 (dk_at dksX1_find_1 9 rfl rfl)
theorem dX1_find_36 : decode cX1_find 36 = .ok (.aload_n 0, 1) := dk_42 (dk_at dksX1_find_1 12 rfl rfl)
theorem dX1_find_37 : decode cX1_find 37 = .ok (.getfield 29, 3) := dk_180 0 29 (dk_at dksX1_find_1 13 rfl rfl)
theorem dX1_find_40 : decode cX1_find 40 = .ok (.iload 4, 2) := dk_21 4 (dk_at dksX1_find_1 16 rfl rfl)
theorem dX1_find_42 : decode cX1_find 42 = .ok (.invokevirtual 111, 3) := dk_182 0 111 (dk_at dksX1_find_1 18 rfl rfl)
theorem dX1_find_45 : decode cX1_find 45 = .ok (.checkcast 72, 3) := dk_192 0 72 (dk_at dksX1_find_1 21 rfl rfl)
theorem dX1_find_48 : decode cX1_find 48 = .ok (.areturn, 1) := dk_176 (dk_at dksX1_find_2 0 rfl rfl)
theorem dX1_find_49 : decode cX1_find 49 = .ok (.iinc 4 1, 3) := dk_132 4 1 (dk_at dksX1_find_2 1 rfl rfl)
theorem dX1_find_52 : decode cX1_find 52 = .ok (.goto (-49), 3) := dk_167 255 207 (dk_at dksX1_find_2 4 rfl rfl)
theorem dX1_find_55 : decode cX1_find 55 = .ok (.aconst_null, 1) := dk_1 (dk_at dksX1_find_2 7 rfl rfl)
theorem dX1_find_56 : decode cX1_find 56 = .ok (.areturn, 1) := dk_176 (dk_at dksX1_find_2 8 rfl rfl)
abbrev cX1_tokenOf : ByteArray := prog_1_method_13_code
def yX1_tokenOf : MethodName := ⟨RX1, "tokenOf", "(LTokenMouth$Name;)I"⟩
def dkwX1_tokenOf_0 : List UInt8 := [17, 16, 0, 5, 42, 180, 0, 165, 104, 96, 172]
abbrev dktX1_tokenOf_0 : List UInt8 := dkwX1_tokenOf_0 ++ []
theorem dksX1_tokenOf_0 : cX1_tokenOf.data.toList.drop 0 = dktX1_tokenOf_0 := by decide +kernel
theorem dX1_tokenOf_0 : decode cX1_tokenOf 0 = .ok (.sipush 4096, 3) := dk_17 16 0 (dk_at dksX1_tokenOf_0 0 rfl rfl)
theorem dX1_tokenOf_3 : decode cX1_tokenOf 3 = .ok (.iconst 2, 1) := dk_5 (dk_at dksX1_tokenOf_0 3 rfl rfl)
theorem dX1_tokenOf_4 : decode cX1_tokenOf 4 = .ok (.aload_n 0, 1) := dk_42 (dk_at dksX1_tokenOf_0 4 rfl rfl)
theorem dX1_tokenOf_5 : decode cX1_tokenOf 5 = .ok (.getfield 165, 3) := dk_180 0 165 (dk_at dksX1_tokenOf_0 5 rfl rfl)
theorem dX1_tokenOf_8 : decode cX1_tokenOf 8 = .ok (.imul, 1) := dk_104 (dk_at dksX1_tokenOf_0 8 rfl rfl)
theorem dX1_tokenOf_9 : decode cX1_tokenOf 9 = .ok (.iadd, 1) := dk_96 (dk_at dksX1_tokenOf_0 9 rfl rfl)
theorem dX1_tokenOf_10 : decode cX1_tokenOf 10 = .ok (.ireturn, 1) := dk_172 (dk_at dksX1_tokenOf_0 10 rfl rfl)
abbrev cX1_passLine : ByteArray := prog_1_method_20_code
def yX1_passLine : MethodName := ⟨RX1, "passLine", "(I)V"⟩
def dkwX1_passLine_3 : List UInt8 := [42, 180, 0, 92, 181, 0, 92, 177]
abbrev dktX1_passLine_3 : List UInt8 := dkwX1_passLine_3 ++ []
def dkwX1_passLine_2 : List UInt8 := [167, 255, 221, 42, 42, 180, 0, 92, 42, 180, 0, 207, 162, 0, 12, 42, 180, 0, 92, 4, 96, 167, 0, 7]
abbrev dktX1_passLine_2 : List UInt8 := dkwX1_passLine_2 ++ dktX1_passLine_3
def dkwX1_passLine_1 : List UInt8 := [180, 0, 9, 42, 180, 0, 92, 51, 16, 10, 159, 0, 16, 42, 89, 180, 0, 92, 4, 96, 181, 0, 92]
abbrev dktX1_passLine_1 : List UInt8 := dkwX1_passLine_1 ++ dktX1_passLine_2
def dkwX1_passLine_0 : List UInt8 := [42, 3, 181, 0, 96, 27, 16, 10, 160, 0, 4, 177, 42, 180, 0, 92, 42, 180, 0, 207, 162, 0, 30, 42]
abbrev dktX1_passLine_0 : List UInt8 := dkwX1_passLine_0 ++ dktX1_passLine_1
theorem dksX1_passLine_0 : cX1_passLine.data.toList.drop 0 = dktX1_passLine_0 := by decide +kernel
theorem dksX1_passLine_1 : cX1_passLine.data.toList.drop 24 = dktX1_passLine_1 := dk_seg dksX1_passLine_0 24 rfl rfl
theorem dksX1_passLine_2 : cX1_passLine.data.toList.drop 47 = dktX1_passLine_2 := dk_seg dksX1_passLine_1 23 rfl rfl
theorem dksX1_passLine_3 : cX1_passLine.data.toList.drop 71 = dktX1_passLine_3 := dk_seg dksX1_passLine_2 24 rfl rfl
theorem dX1_passLine_0 : decode cX1_passLine 0 = .ok (.aload_n 0, 1) := dk_42 (dk_at dksX1_passLine_0 0 rfl rfl)
theorem dX1_passLine_1 : decode cX1_passLine 1 = .ok (.iconst 0, 1) := dk_3 (dk_at dksX1_passLine_0 1 rfl rfl)
theorem dX1_passLine_2 : decode cX1_passLine 2 = .ok (.putfield 96, 3) := dk_181 0 96 (dk_at dksX1_passLine_0 2 rfl rfl)
theorem dX1_passLine_5 : decode cX1_passLine 5 = .ok (.iload_n 1, 1) := dk_27 (dk_at dksX1_passLine_0 5 rfl rfl)
theorem dX1_passLine_6 : decode cX1_passLine 6 = .ok (.bipush 10, 2) := dk_16 10 (dk_at dksX1_passLine_0 6 rfl rfl)
theorem dX1_passLine_8 : decode cX1_passLine 8 = .ok (.if_icmp .ne 4, 3) := dk_160 0 4 (dk_at dksX1_passLine_0 8 rfl rfl)
theorem dX1_passLine_11 : decode cX1_passLine 11 = .ok (.return_, 1) := dk_177 (dk_at dksX1_passLine_0 11 rfl rfl)
theorem dX1_passLine_12 : decode cX1_passLine 12 = .ok (.aload_n 0, 1) := dk_42 (dk_at dksX1_passLine_0 12 rfl rfl)
theorem dX1_passLine_13 : decode cX1_passLine 13 = .ok (.getfield 92, 3) := dk_180 0 92 (dk_at dksX1_passLine_0 13 rfl rfl)
theorem dX1_passLine_16 : decode cX1_passLine 16 = .ok (.aload_n 0, 1) := dk_42 (dk_at dksX1_passLine_0 16 rfl rfl)
theorem dX1_passLine_17 : decode cX1_passLine 17 = .ok (.getfield 207, 3) := dk_180 0 207 (dk_at dksX1_passLine_0 17 rfl rfl)
theorem dX1_passLine_20 : decode cX1_passLine 20 = .ok (.if_icmp .ge 30, 3) := dk_162 0 30 (dk_at dksX1_passLine_0 20 rfl rfl)
theorem dX1_passLine_23 : decode cX1_passLine 23 = .ok (.aload_n 0, 1) := dk_42 (dk_at dksX1_passLine_0 23 rfl rfl)
theorem dX1_passLine_24 : decode cX1_passLine 24 = .ok (.getfield 9, 3) := dk_180 0 9 (dk_at dksX1_passLine_1 0 rfl rfl)
theorem dX1_passLine_27 : decode cX1_passLine 27 = .ok (.aload_n 0, 1) := dk_42 (dk_at dksX1_passLine_1 3 rfl rfl)
theorem dX1_passLine_28 : decode cX1_passLine 28 = .ok (.getfield 92, 3) := dk_180 0 92 (dk_at dksX1_passLine_1 4 rfl rfl)
theorem dX1_passLine_31 : decode cX1_passLine 31 = .ok (.baload, 1) := dk_51 (dk_at dksX1_passLine_1 7 rfl rfl)
theorem dX1_passLine_32 : decode cX1_passLine 32 = .ok (.bipush 10, 2) := dk_16 10 (dk_at dksX1_passLine_1 8 rfl rfl)
theorem dX1_passLine_34 : decode cX1_passLine 34 = .ok (.if_icmp .eq 16, 3) := dk_159 0 16 (dk_at dksX1_passLine_1 10 rfl rfl)
theorem dX1_passLine_37 : decode cX1_passLine 37 = .ok (.aload_n 0, 1) := dk_42 (dk_at dksX1_passLine_1 13 rfl rfl)
theorem dX1_passLine_38 : decode cX1_passLine 38 = .ok (.dup, 1) := dk_89 (dk_at dksX1_passLine_1 14 rfl rfl)
theorem dX1_passLine_39 : decode cX1_passLine 39 = .ok (.getfield 92, 3) := dk_180 0 92 (dk_at dksX1_passLine_1 15 rfl rfl)
theorem dX1_passLine_42 : decode cX1_passLine 42 = .ok (.iconst 1, 1) := dk_4 (dk_at dksX1_passLine_1 18 rfl rfl)
theorem dX1_passLine_43 : decode cX1_passLine 43 = .ok (.iadd, 1) := dk_96 (dk_at dksX1_passLine_1 19 rfl rfl)
theorem dX1_passLine_44 : decode cX1_passLine 44 = .ok (.putfield 92, 3) := dk_181 0 92 (dk_at dksX1_passLine_1 20 rfl rfl)
theorem dX1_passLine_47 : decode cX1_passLine 47 = .ok (.goto (-35), 3) := dk_167 255 221 (dk_at dksX1_passLine_2 0 rfl rfl)
theorem dX1_passLine_50 : decode cX1_passLine 50 = .ok (.aload_n 0, 1) := dk_42 (dk_at dksX1_passLine_2 3 rfl rfl)
theorem dX1_passLine_51 : decode cX1_passLine 51 = .ok (.aload_n 0, 1) := dk_42 (dk_at dksX1_passLine_2 4 rfl rfl)
theorem dX1_passLine_52 : decode cX1_passLine 52 = .ok (.getfield 92, 3) := dk_180 0 92 (dk_at dksX1_passLine_2 5 rfl rfl)
theorem dX1_passLine_55 : decode cX1_passLine 55 = .ok (.aload_n 0, 1) := dk_42 (dk_at dksX1_passLine_2 8 rfl rfl)
theorem dX1_passLine_56 : decode cX1_passLine 56 = .ok (.getfield 207, 3) := dk_180 0 207 (dk_at dksX1_passLine_2 9 rfl rfl)
theorem dX1_passLine_59 : decode cX1_passLine 59 = .ok (.if_icmp .ge 12, 3) := dk_162 0 12 (dk_at dksX1_passLine_2 12 rfl rfl)
theorem dX1_passLine_62 : decode cX1_passLine 62 = .ok (.aload_n 0, 1) := dk_42 (dk_at dksX1_passLine_2 15 rfl rfl)
theorem dX1_passLine_63 : decode cX1_passLine 63 = .ok (.getfield 92, 3) := dk_180 0 92 (dk_at dksX1_passLine_2 16 rfl rfl)
theorem dX1_passLine_66 : decode cX1_passLine 66 = .ok (.iconst 1, 1) := dk_4 (dk_at dksX1_passLine_2 19 rfl rfl)
theorem dX1_passLine_67 : decode cX1_passLine 67 = .ok (.iadd, 1) := dk_96 (dk_at dksX1_passLine_2 20 rfl rfl)
theorem dX1_passLine_68 : decode cX1_passLine 68 = .ok (.goto 7, 3) := dk_167 0 7 (dk_at dksX1_passLine_2 21 rfl rfl)
theorem dX1_passLine_71 : decode cX1_passLine 71 = .ok (.aload_n 0, 1) := dk_42 (dk_at dksX1_passLine_3 0 rfl rfl)
theorem dX1_passLine_72 : decode cX1_passLine 72 = .ok (.getfield 92, 3) := dk_180 0 92 (dk_at dksX1_passLine_3 1 rfl rfl)
theorem dX1_passLine_75 : decode cX1_passLine 75 = .ok (.putfield 92, 3) := dk_181 0 92 (dk_at dksX1_passLine_3 4 rfl rfl)
theorem dX1_passLine_78 : decode cX1_passLine 78 = .ok (.return_, 1) := dk_177 (dk_at dksX1_passLine_3 7 rfl rfl)
abbrev cX1_isExpandable : ByteArray := prog_1_method_15_code
def yX1_isExpandable : MethodName := ⟨RX1, "isExpandable", "(I)Z"⟩
def dkwX1_isExpandable_1 : List UInt8 := [172]
abbrev dktX1_isExpandable_1 : List UInt8 := dkwX1_isExpandable_1 ++ []
def dkwX1_isExpandable_0 : List UInt8 := [42, 27, 182, 0, 176, 77, 44, 198, 0, 16, 44, 185, 0, 180, 1, 0, 153, 0, 7, 4, 167, 0, 4, 3]
abbrev dktX1_isExpandable_0 : List UInt8 := dkwX1_isExpandable_0 ++ dktX1_isExpandable_1
theorem dksX1_isExpandable_0 : cX1_isExpandable.data.toList.drop 0 = dktX1_isExpandable_0 := by decide +kernel
theorem dksX1_isExpandable_1 : cX1_isExpandable.data.toList.drop 24 = dktX1_isExpandable_1 := dk_seg dksX1_isExpandable_0 24 rfl rfl
theorem dX1_isExpandable_0 : decode cX1_isExpandable 0 = .ok (.aload_n 0, 1) := dk_42 (dk_at dksX1_isExpandable_0 0 rfl rfl)
theorem dX1_isExpandable_1 : decode cX1_isExpandable 1 = .ok (.iload_n 1, 1) := dk_27 (dk_at dksX1_isExpandable_0 1 rfl rfl)
theorem dX1_isExpandable_2 : decode cX1_isExpandable 2 = .ok (.invokevirtual 176, 3) := dk_182 0 176 (dk_at dksX1_isExpandable_0 2 rfl rfl)
theorem dX1_isExpandable_5 : decode cX1_isExpandable 5 = .ok (.astore_n 2, 1) := dk_77 (dk_at dksX1_isExpandable_0 5 rfl rfl)
theorem dX1_isExpandable_6 : decode cX1_isExpandable 6 = .ok (.aload_n 2, 1) := dk_44 (dk_at dksX1_isExpandable_0 6 rfl rfl)
theorem dX1_isExpandable_7 : decode cX1_isExpandable 7 = .ok (.ifnull 16, 3) := dk_198 0 16 (dk_at dksX1_isExpandable_0 7 rfl rfl)
theorem dX1_isExpandable_10 : decode cX1_isExpandable 10 = .ok (.aload_n 2, 1) := dk_44 (dk_at dksX1_isExpandable_0 10 rfl rfl)
theorem dX1_isExpandable_11 : decode cX1_isExpandable 11 = .ok (.invokeinterface 180 1, 5) := by decide +kernel
theorem dX1_isExpandable_16 : decode cX1_isExpandable 16 = .ok (.ifCond .eq 7, 3) := dk_153 0 7 (dk_at dksX1_isExpandable_0 16 rfl rfl)
theorem dX1_isExpandable_19 : decode cX1_isExpandable 19 = .ok (.iconst 1, 1) := dk_4 (dk_at dksX1_isExpandable_0 19 rfl rfl)
theorem dX1_isExpandable_20 : decode cX1_isExpandable 20 = .ok (.goto 4, 3) := dk_167 0 4 (dk_at dksX1_isExpandable_0 20 rfl rfl)
theorem dX1_isExpandable_23 : decode cX1_isExpandable 23 = .ok (.iconst 0, 1) := dk_3 (dk_at dksX1_isExpandable_0 23 rfl rfl)
theorem dX1_isExpandable_24 : decode cX1_isExpandable 24 = .ok (.ireturn, 1) := dk_172 (dk_at dksX1_isExpandable_1 0 rfl rfl)
abbrev cX1_meaningOf : ByteArray := prog_1_method_14_code
def yX1_meaningOf : MethodName := ⟨RX1, "meaningOf", "(I)LTokenMouth$Meaning;"⟩
def dkwX1_meaningOf_1 : List UInt8 := [42, 27, 182, 0, 172, 180, 0, 114, 176]
abbrev dktX1_meaningOf_1 : List UInt8 := dkwX1_meaningOf_1 ++ []
def dkwX1_meaningOf_0 : List UInt8 := [27, 17, 16, 0, 162, 0, 7, 1, 167, 0, 24, 27, 4, 126, 4, 160, 0, 9, 178, 0, 168, 167, 0, 11]
abbrev dktX1_meaningOf_0 : List UInt8 := dkwX1_meaningOf_0 ++ dktX1_meaningOf_1
theorem dksX1_meaningOf_0 : cX1_meaningOf.data.toList.drop 0 = dktX1_meaningOf_0 := by decide +kernel
theorem dksX1_meaningOf_1 : cX1_meaningOf.data.toList.drop 24 = dktX1_meaningOf_1 := dk_seg dksX1_meaningOf_0 24 rfl rfl
theorem dX1_meaningOf_0 : decode cX1_meaningOf 0 = .ok (.iload_n 1, 1) := dk_27 (dk_at dksX1_meaningOf_0 0 rfl rfl)
theorem dX1_meaningOf_1 : decode cX1_meaningOf 1 = .ok (.sipush 4096, 3) := dk_17 16 0 (dk_at dksX1_meaningOf_0 1 rfl rfl)
theorem dX1_meaningOf_4 : decode cX1_meaningOf 4 = .ok (.if_icmp .ge 7, 3) := dk_162 0 7 (dk_at dksX1_meaningOf_0 4 rfl rfl)
theorem dX1_meaningOf_7 : decode cX1_meaningOf 7 = .ok (.aconst_null, 1) := dk_1 (dk_at dksX1_meaningOf_0 7 rfl rfl)
theorem dX1_meaningOf_8 : decode cX1_meaningOf 8 = .ok (.goto 24, 3) := dk_167 0 24 (dk_at dksX1_meaningOf_0 8 rfl rfl)
theorem dX1_meaningOf_11 : decode cX1_meaningOf 11 = .ok (.iload_n 1, 1) := dk_27 (dk_at dksX1_meaningOf_0 11 rfl rfl)
theorem dX1_meaningOf_12 : decode cX1_meaningOf 12 = .ok (.iconst 1, 1) := dk_4 (dk_at dksX1_meaningOf_0 12 rfl rfl)
theorem dX1_meaningOf_13 : decode cX1_meaningOf 13 = .ok (.iand, 1) := dk_126 (dk_at dksX1_meaningOf_0 13 rfl rfl)
theorem dX1_meaningOf_14 : decode cX1_meaningOf 14 = .ok (.iconst 1, 1) := dk_4 (dk_at dksX1_meaningOf_0 14 rfl rfl)
theorem dX1_meaningOf_15 : decode cX1_meaningOf 15 = .ok (.if_icmp .ne 9, 3) := dk_160 0 9 (dk_at dksX1_meaningOf_0 15 rfl rfl)
theorem dX1_meaningOf_18 : decode cX1_meaningOf 18 = .ok (.getstatic 168, 3) := dk_178 0 168 (dk_at dksX1_meaningOf_0 18 rfl rfl)
theorem dX1_meaningOf_21 : decode cX1_meaningOf 21 = .ok (.goto 11, 3) := dk_167 0 11 (dk_at dksX1_meaningOf_0 21 rfl rfl)
theorem dX1_meaningOf_24 : decode cX1_meaningOf 24 = .ok (.aload_n 0, 1) := dk_42 (dk_at dksX1_meaningOf_1 0 rfl rfl)
theorem dX1_meaningOf_25 : decode cX1_meaningOf 25 = .ok (.iload_n 1, 1) := dk_27 (dk_at dksX1_meaningOf_1 1 rfl rfl)
theorem dX1_meaningOf_26 : decode cX1_meaningOf 26 = .ok (.invokevirtual 172, 3) := dk_182 0 172 (dk_at dksX1_meaningOf_1 2 rfl rfl)
theorem dX1_meaningOf_29 : decode cX1_meaningOf 29 = .ok (.getfield 114, 3) := dk_180 0 114 (dk_at dksX1_meaningOf_1 5 rfl rfl)
theorem dX1_meaningOf_32 : decode cX1_meaningOf 32 = .ok (.areturn, 1) := dk_176 (dk_at dksX1_meaningOf_1 8 rfl rfl)
abbrev cX1_nameOf : ByteArray := prog_1_method_12_code
def yX1_nameOf : MethodName := ⟨RX1, "nameOf", "(I)LTokenMouth$Name;"⟩
def dkwX1_nameOf_0 : List UInt8 := [42, 180, 0, 29, 27, 17, 16, 0, 100, 4, 122, 182, 0, 111, 192, 0, 72, 176]
abbrev dktX1_nameOf_0 : List UInt8 := dkwX1_nameOf_0 ++ []
theorem dksX1_nameOf_0 : cX1_nameOf.data.toList.drop 0 = dktX1_nameOf_0 := by decide +kernel
theorem dX1_nameOf_0 : decode cX1_nameOf 0 = .ok (.aload_n 0, 1) := dk_42 (dk_at dksX1_nameOf_0 0 rfl rfl)
theorem dX1_nameOf_1 : decode cX1_nameOf 1 = .ok (.getfield 29, 3) := dk_180 0 29 (dk_at dksX1_nameOf_0 1 rfl rfl)
theorem dX1_nameOf_4 : decode cX1_nameOf 4 = .ok (.iload_n 1, 1) := dk_27 (dk_at dksX1_nameOf_0 4 rfl rfl)
theorem dX1_nameOf_5 : decode cX1_nameOf 5 = .ok (.sipush 4096, 3) := dk_17 16 0 (dk_at dksX1_nameOf_0 5 rfl rfl)
theorem dX1_nameOf_8 : decode cX1_nameOf 8 = .ok (.isub, 1) := dk_100 (dk_at dksX1_nameOf_0 8 rfl rfl)
theorem dX1_nameOf_9 : decode cX1_nameOf 9 = .ok (.iconst 1, 1) := dk_4 (dk_at dksX1_nameOf_0 9 rfl rfl)
theorem dX1_nameOf_10 : decode cX1_nameOf 10 = .ok (.ishr, 1) := dk_122 (dk_at dksX1_nameOf_0 10 rfl rfl)
theorem dX1_nameOf_11 : decode cX1_nameOf 11 = .ok (.invokevirtual 111, 3) := dk_182 0 111 (dk_at dksX1_nameOf_0 11 rfl rfl)
theorem dX1_nameOf_14 : decode cX1_nameOf 14 = .ok (.checkcast 72, 3) := dk_192 0 72 (dk_at dksX1_nameOf_0 14 rfl rfl)
theorem dX1_nameOf_17 : decode cX1_nameOf 17 = .ok (.areturn, 1) := dk_176 (dk_at dksX1_nameOf_0 17 rfl rfl)
abbrev cX1_expand : ByteArray := prog_1_method_26_code
def yX1_expand : MethodName := ⟨RX1, "expand", "(I)V"⟩
def dkwX1_expand_2 : List UInt8 := [182, 0, 176, 42, 185, 0, 238, 2, 0, 42, 89, 180, 0, 235, 4, 100, 181, 0, 235, 177]
abbrev dktX1_expand_2 : List UInt8 := dkwX1_expand_2 ++ []
def dkwX1_expand_1 : List UInt8 := [42, 89, 180, 0, 232, 4, 96, 181, 0, 232, 42, 89, 180, 0, 235, 4, 96, 181, 0, 235, 42, 27]
abbrev dktX1_expand_1 : List UInt8 := dkwX1_expand_1 ++ dktX1_expand_2
def dkwX1_expand_0 : List UInt8 := [42, 180, 0, 232, 17, 0, 200, 159, 0, 12, 42, 180, 0, 235, 16, 30, 160, 0, 8, 42, 8, 182, 0, 203]
abbrev dktX1_expand_0 : List UInt8 := dkwX1_expand_0 ++ dktX1_expand_1
theorem dksX1_expand_0 : cX1_expand.data.toList.drop 0 = dktX1_expand_0 := by decide +kernel
theorem dksX1_expand_1 : cX1_expand.data.toList.drop 24 = dktX1_expand_1 := dk_seg dksX1_expand_0 24 rfl rfl
theorem dksX1_expand_2 : cX1_expand.data.toList.drop 46 = dktX1_expand_2 := dk_seg dksX1_expand_1 22 rfl rfl
theorem dX1_expand_0 : decode cX1_expand 0 = .ok (.aload_n 0, 1) := dk_42 (dk_at dksX1_expand_0 0 rfl rfl)
theorem dX1_expand_1 : decode cX1_expand 1 = .ok (.getfield 232, 3) := dk_180 0 232 (dk_at dksX1_expand_0 1 rfl rfl)
theorem dX1_expand_4 : decode cX1_expand 4 = .ok (.sipush 200, 3) := dk_17 0 200 (dk_at dksX1_expand_0 4 rfl rfl)
theorem dX1_expand_7 : decode cX1_expand 7 = .ok (.if_icmp .eq 12, 3) := dk_159 0 12 (dk_at dksX1_expand_0 7 rfl rfl)
theorem dX1_expand_10 : decode cX1_expand 10 = .ok (.aload_n 0, 1) := dk_42 (dk_at dksX1_expand_0 10 rfl rfl)
theorem dX1_expand_11 : decode cX1_expand 11 = .ok (.getfield 235, 3) := dk_180 0 235 (dk_at dksX1_expand_0 11 rfl rfl)
theorem dX1_expand_14 : decode cX1_expand 14 = .ok (.bipush 30, 2) := dk_16 30 (dk_at dksX1_expand_0 14 rfl rfl)
theorem dX1_expand_16 : decode cX1_expand 16 = .ok (.if_icmp .ne 8, 3) := dk_160 0 8 (dk_at dksX1_expand_0 16 rfl rfl)
theorem dX1_expand_19 : decode cX1_expand 19 = .ok (.aload_n 0, 1) := dk_42 (dk_at dksX1_expand_0 19 rfl rfl)
theorem dX1_expand_20 : decode cX1_expand 20 = .ok (.iconst 5, 1) := dk_8 (dk_at dksX1_expand_0 20 rfl rfl)
theorem dX1_expand_21 : decode cX1_expand 21 = .ok (.invokevirtual 203, 3) := dk_182 0 203 (dk_at dksX1_expand_0 21 rfl rfl)
theorem dX1_expand_24 : decode cX1_expand 24 = .ok (.aload_n 0, 1) := dk_42 (dk_at dksX1_expand_1 0 rfl rfl)
theorem dX1_expand_25 : decode cX1_expand 25 = .ok (.dup, 1) := dk_89 (dk_at dksX1_expand_1 1 rfl rfl)
theorem dX1_expand_26 : decode cX1_expand 26 = .ok (.getfield 232, 3) := dk_180 0 232 (dk_at dksX1_expand_1 2 rfl rfl)
theorem dX1_expand_29 : decode cX1_expand 29 = .ok (.iconst 1, 1) := dk_4 (dk_at dksX1_expand_1 5 rfl rfl)
theorem dX1_expand_30 : decode cX1_expand 30 = .ok (.iadd, 1) := dk_96 (dk_at dksX1_expand_1 6 rfl rfl)
theorem dX1_expand_31 : decode cX1_expand 31 = .ok (.putfield 232, 3) := dk_181 0 232 (dk_at dksX1_expand_1 7 rfl rfl)
theorem dX1_expand_34 : decode cX1_expand 34 = .ok (.aload_n 0, 1) := dk_42 (dk_at dksX1_expand_1 10 rfl rfl)
theorem dX1_expand_35 : decode cX1_expand 35 = .ok (.dup, 1) := dk_89 (dk_at dksX1_expand_1 11 rfl rfl)
theorem dX1_expand_36 : decode cX1_expand 36 = .ok (.getfield 235, 3) := dk_180 0 235 (dk_at dksX1_expand_1 12 rfl rfl)
theorem dX1_expand_39 : decode cX1_expand 39 = .ok (.iconst 1, 1) := dk_4 (dk_at dksX1_expand_1 15 rfl rfl)
theorem dX1_expand_40 : decode cX1_expand 40 = .ok (.iadd, 1) := dk_96 (dk_at dksX1_expand_1 16 rfl rfl)
theorem dX1_expand_41 : decode cX1_expand 41 = .ok (.putfield 235, 3) := dk_181 0 235 (dk_at dksX1_expand_1 17 rfl rfl)
theorem dX1_expand_44 : decode cX1_expand 44 = .ok (.aload_n 0, 1) := dk_42 (dk_at dksX1_expand_1 20 rfl rfl)
theorem dX1_expand_45 : decode cX1_expand 45 = .ok (.iload_n 1, 1) := dk_27 (dk_at dksX1_expand_1 21 rfl rfl)
theorem dX1_expand_46 : decode cX1_expand 46 = .ok (.invokevirtual 176, 3) := dk_182 0 176 (dk_at dksX1_expand_2 0 rfl rfl)
theorem dX1_expand_49 : decode cX1_expand 49 = .ok (.aload_n 0, 1) := dk_42 (dk_at dksX1_expand_2 3 rfl rfl)
theorem dX1_expand_50 : decode cX1_expand 50 = .ok (.invokeinterface 238 2, 5) := by decide +kernel
theorem dX1_expand_55 : decode cX1_expand 55 = .ok (.aload_n 0, 1) := dk_42 (dk_at dksX1_expand_2 9 rfl rfl)
theorem dX1_expand_56 : decode cX1_expand 56 = .ok (.dup, 1) := dk_89 (dk_at dksX1_expand_2 10 rfl rfl)
theorem dX1_expand_57 : decode cX1_expand 57 = .ok (.getfield 235, 3) := dk_180 0 235 (dk_at dksX1_expand_2 11 rfl rfl)
theorem dX1_expand_60 : decode cX1_expand 60 = .ok (.iconst 1, 1) := dk_4 (dk_at dksX1_expand_2 14 rfl rfl)
theorem dX1_expand_61 : decode cX1_expand 61 = .ok (.isub, 1) := dk_100 (dk_at dksX1_expand_2 15 rfl rfl)
theorem dX1_expand_62 : decode cX1_expand 62 = .ok (.putfield 235, 3) := dk_181 0 235 (dk_at dksX1_expand_2 16 rfl rfl)
theorem dX1_expand_65 : decode cX1_expand 65 = .ok (.return_, 1) := dk_177 (dk_at dksX1_expand_2 19 rfl rfl)
abbrev cX1_expandAfter : ByteArray := prog_1_method_27_code
def yX1_expandAfter : MethodName := ⟨RX1, "expandAfter", "()V"⟩
def dkwX1_expandAfter_1 : List UInt8 := [167, 0, 8, 42, 28, 182, 0, 241, 42, 27, 182, 0, 241, 177]
abbrev dktX1_expandAfter_1 : List UInt8 := dkwX1_expandAfter_1 ++ []
def dkwX1_expandAfter_0 : List UInt8 := [42, 182, 0, 224, 60, 42, 182, 0, 224, 61, 42, 28, 182, 0, 227, 153, 0, 11, 42, 28, 182, 0, 229]
abbrev dktX1_expandAfter_0 : List UInt8 := dkwX1_expandAfter_0 ++ dktX1_expandAfter_1
theorem dksX1_expandAfter_0 : cX1_expandAfter.data.toList.drop 0 = dktX1_expandAfter_0 := by decide +kernel
theorem dksX1_expandAfter_1 : cX1_expandAfter.data.toList.drop 23 = dktX1_expandAfter_1 := dk_seg dksX1_expandAfter_0 23 rfl rfl
theorem dX1_expandAfter_0 : decode cX1_expandAfter 0 = .ok (.aload_n 0, 1) := dk_42 (dk_at dksX1_expandAfter_0 0 rfl rfl)
theorem dX1_expandAfter_1 : decode cX1_expandAfter 1 = .ok (.invokevirtual 224, 3) := dk_182 0 224 (dk_at dksX1_expandAfter_0 1 rfl rfl)
theorem dX1_expandAfter_4 : decode cX1_expandAfter 4 = .ok (.istore_n 1, 1) := dk_60 (dk_at dksX1_expandAfter_0 4 rfl rfl)
theorem dX1_expandAfter_5 : decode cX1_expandAfter 5 = .ok (.aload_n 0, 1) := dk_42 (dk_at dksX1_expandAfter_0 5 rfl rfl)
theorem dX1_expandAfter_6 : decode cX1_expandAfter 6 = .ok (.invokevirtual 224, 3) := dk_182 0 224 (dk_at dksX1_expandAfter_0 6 rfl rfl)
theorem dX1_expandAfter_9 : decode cX1_expandAfter 9 = .ok (.istore_n 2, 1) := dk_61 (dk_at dksX1_expandAfter_0 9 rfl rfl)
theorem dX1_expandAfter_10 : decode cX1_expandAfter 10 = .ok (.aload_n 0, 1) := dk_42 (dk_at dksX1_expandAfter_0 10 rfl rfl)
theorem dX1_expandAfter_11 : decode cX1_expandAfter 11 = .ok (.iload_n 2, 1) := dk_28 (dk_at dksX1_expandAfter_0 11 rfl rfl)
theorem dX1_expandAfter_12 : decode cX1_expandAfter 12 = .ok (.invokevirtual 227, 3) := dk_182 0 227 (dk_at dksX1_expandAfter_0 12 rfl rfl)
theorem dX1_expandAfter_15 : decode cX1_expandAfter 15 = .ok (.ifCond .eq 11, 3) := dk_153 0 11 (dk_at dksX1_expandAfter_0 15 rfl rfl)
theorem dX1_expandAfter_18 : decode cX1_expandAfter 18 = .ok (.aload_n 0, 1) := dk_42 (dk_at dksX1_expandAfter_0 18 rfl rfl)
theorem dX1_expandAfter_19 : decode cX1_expandAfter 19 = .ok (.iload_n 2, 1) := dk_28 (dk_at dksX1_expandAfter_0 19 rfl rfl)
theorem dX1_expandAfter_20 : decode cX1_expandAfter 20 = .ok (.invokevirtual 229, 3) := dk_182 0 229 (dk_at dksX1_expandAfter_0 20 rfl rfl)
theorem dX1_expandAfter_23 : decode cX1_expandAfter 23 = .ok (.goto 8, 3) := dk_167 0 8 (dk_at dksX1_expandAfter_1 0 rfl rfl)
theorem dX1_expandAfter_26 : decode cX1_expandAfter 26 = .ok (.aload_n 0, 1) := dk_42 (dk_at dksX1_expandAfter_1 3 rfl rfl)
theorem dX1_expandAfter_27 : decode cX1_expandAfter 27 = .ok (.iload_n 2, 1) := dk_28 (dk_at dksX1_expandAfter_1 4 rfl rfl)
theorem dX1_expandAfter_28 : decode cX1_expandAfter 28 = .ok (.invokevirtual 241, 3) := dk_182 0 241 (dk_at dksX1_expandAfter_1 5 rfl rfl)
theorem dX1_expandAfter_31 : decode cX1_expandAfter 31 = .ok (.aload_n 0, 1) := dk_42 (dk_at dksX1_expandAfter_1 8 rfl rfl)
theorem dX1_expandAfter_32 : decode cX1_expandAfter 32 = .ok (.iload_n 1, 1) := dk_27 (dk_at dksX1_expandAfter_1 9 rfl rfl)
theorem dX1_expandAfter_33 : decode cX1_expandAfter 33 = .ok (.invokevirtual 241, 3) := dk_182 0 241 (dk_at dksX1_expandAfter_1 10 rfl rfl)
theorem dX1_expandAfter_36 : decode cX1_expandAfter 36 = .ok (.return_, 1) := dk_177 (dk_at dksX1_expandAfter_1 13 rfl rfl)
abbrev cX1_need : ByteArray := prog_1_method_23_code
def yX1_need : MethodName := ⟨RX1, "need", "()I"⟩
def dkwX1_need_0 : List UInt8 := [42, 182, 0, 222, 60, 27, 2, 160, 0, 8, 42, 6, 182, 0, 203, 27, 172]
abbrev dktX1_need_0 : List UInt8 := dkwX1_need_0 ++ []
theorem dksX1_need_0 : cX1_need.data.toList.drop 0 = dktX1_need_0 := by decide +kernel
theorem dX1_need_0 : decode cX1_need 0 = .ok (.aload_n 0, 1) := dk_42 (dk_at dksX1_need_0 0 rfl rfl)
theorem dX1_need_1 : decode cX1_need 1 = .ok (.invokevirtual 222, 3) := dk_182 0 222 (dk_at dksX1_need_0 1 rfl rfl)
theorem dX1_need_4 : decode cX1_need 4 = .ok (.istore_n 1, 1) := dk_60 (dk_at dksX1_need_0 4 rfl rfl)
theorem dX1_need_5 : decode cX1_need 5 = .ok (.iload_n 1, 1) := dk_27 (dk_at dksX1_need_0 5 rfl rfl)
theorem dX1_need_6 : decode cX1_need 6 = .ok (.iconst (-1), 1) := dk_2 (dk_at dksX1_need_0 6 rfl rfl)
theorem dX1_need_7 : decode cX1_need 7 = .ok (.if_icmp .ne 8, 3) := dk_160 0 8 (dk_at dksX1_need_0 7 rfl rfl)
theorem dX1_need_10 : decode cX1_need 10 = .ok (.aload_n 0, 1) := dk_42 (dk_at dksX1_need_0 10 rfl rfl)
theorem dX1_need_11 : decode cX1_need 11 = .ok (.iconst 3, 1) := dk_6 (dk_at dksX1_need_0 11 rfl rfl)
theorem dX1_need_12 : decode cX1_need 12 = .ok (.invokevirtual 203, 3) := dk_182 0 203 (dk_at dksX1_need_0 12 rfl rfl)
theorem dX1_need_15 : decode cX1_need 15 = .ok (.iload_n 1, 1) := dk_27 (dk_at dksX1_need_0 15 rfl rfl)
theorem dX1_need_16 : decode cX1_need 16 = .ok (.ireturn, 1) := dk_172 (dk_at dksX1_need_0 16 rfl rfl)
abbrev cX1_back : ByteArray := prog_1_method_24_code
def yX1_back : MethodName := ⟨RX1, "back", "(I)V"⟩
def dkwX1_back_1 : List UInt8 := [147, 86, 42, 89, 180, 0, 118, 4, 96, 181, 0, 118, 177]
abbrev dktX1_back_1 : List UInt8 := dkwX1_back_1 ++ []
def dkwX1_back_0 : List UInt8 := [42, 180, 0, 118, 17, 1, 44, 160, 0, 8, 42, 8, 182, 0, 203, 42, 180, 0, 41, 42, 180, 0, 118, 27]
abbrev dktX1_back_0 : List UInt8 := dkwX1_back_0 ++ dktX1_back_1
theorem dksX1_back_0 : cX1_back.data.toList.drop 0 = dktX1_back_0 := by decide +kernel
theorem dksX1_back_1 : cX1_back.data.toList.drop 24 = dktX1_back_1 := dk_seg dksX1_back_0 24 rfl rfl
theorem dX1_back_0 : decode cX1_back 0 = .ok (.aload_n 0, 1) := dk_42 (dk_at dksX1_back_0 0 rfl rfl)
theorem dX1_back_1 : decode cX1_back 1 = .ok (.getfield 118, 3) := dk_180 0 118 (dk_at dksX1_back_0 1 rfl rfl)
theorem dX1_back_4 : decode cX1_back 4 = .ok (.sipush 300, 3) := dk_17 1 44 (dk_at dksX1_back_0 4 rfl rfl)
theorem dX1_back_7 : decode cX1_back 7 = .ok (.if_icmp .ne 8, 3) := dk_160 0 8 (dk_at dksX1_back_0 7 rfl rfl)
theorem dX1_back_10 : decode cX1_back 10 = .ok (.aload_n 0, 1) := dk_42 (dk_at dksX1_back_0 10 rfl rfl)
theorem dX1_back_11 : decode cX1_back 11 = .ok (.iconst 5, 1) := dk_8 (dk_at dksX1_back_0 11 rfl rfl)
theorem dX1_back_12 : decode cX1_back 12 = .ok (.invokevirtual 203, 3) := dk_182 0 203 (dk_at dksX1_back_0 12 rfl rfl)
theorem dX1_back_15 : decode cX1_back 15 = .ok (.aload_n 0, 1) := dk_42 (dk_at dksX1_back_0 15 rfl rfl)
theorem dX1_back_16 : decode cX1_back 16 = .ok (.getfield 41, 3) := dk_180 0 41 (dk_at dksX1_back_0 16 rfl rfl)
theorem dX1_back_19 : decode cX1_back 19 = .ok (.aload_n 0, 1) := dk_42 (dk_at dksX1_back_0 19 rfl rfl)
theorem dX1_back_20 : decode cX1_back 20 = .ok (.getfield 118, 3) := dk_180 0 118 (dk_at dksX1_back_0 20 rfl rfl)
theorem dX1_back_23 : decode cX1_back 23 = .ok (.iload_n 1, 1) := dk_27 (dk_at dksX1_back_0 23 rfl rfl)
theorem dX1_back_24 : decode cX1_back 24 = .ok (.i2s, 1) := dk_147 (dk_at dksX1_back_1 0 rfl rfl)
theorem dX1_back_25 : decode cX1_back 25 = .ok (.sastore, 1) := dk_86 (dk_at dksX1_back_1 1 rfl rfl)
theorem dX1_back_26 : decode cX1_back 26 = .ok (.aload_n 0, 1) := dk_42 (dk_at dksX1_back_1 2 rfl rfl)
theorem dX1_back_27 : decode cX1_back 27 = .ok (.dup, 1) := dk_89 (dk_at dksX1_back_1 3 rfl rfl)
theorem dX1_back_28 : decode cX1_back 28 = .ok (.getfield 118, 3) := dk_180 0 118 (dk_at dksX1_back_1 4 rfl rfl)
theorem dX1_back_31 : decode cX1_back 31 = .ok (.iconst 1, 1) := dk_4 (dk_at dksX1_back_1 7 rfl rfl)
theorem dX1_back_32 : decode cX1_back 32 = .ok (.iadd, 1) := dk_96 (dk_at dksX1_back_1 8 rfl rfl)
theorem dX1_back_33 : decode cX1_back 33 = .ok (.putfield 118, 3) := dk_181 0 118 (dk_at dksX1_back_1 9 rfl rfl)
theorem dX1_back_36 : decode cX1_back 36 = .ok (.return_, 1) := dk_177 (dk_at dksX1_back_1 12 rfl rfl)
abbrev cX1_mark : ByteArray := prog_1_method_28_code
def yX1_mark : MethodName := ⟨RX1, "mark", "()V"⟩
def dkwX1_mark_1 : List UInt8 := [177]
abbrev dktX1_mark_1 : List UInt8 := dkwX1_mark_1 ++ []
def dkwX1_mark_0 : List UInt8 := [42, 182, 0, 224, 60, 42, 42, 27, 182, 0, 227, 153, 0, 9, 27, 4, 128, 167, 0, 4, 27, 182, 0, 241]
abbrev dktX1_mark_0 : List UInt8 := dkwX1_mark_0 ++ dktX1_mark_1
theorem dksX1_mark_0 : cX1_mark.data.toList.drop 0 = dktX1_mark_0 := by decide +kernel
theorem dksX1_mark_1 : cX1_mark.data.toList.drop 24 = dktX1_mark_1 := dk_seg dksX1_mark_0 24 rfl rfl
theorem dX1_mark_0 : decode cX1_mark 0 = .ok (.aload_n 0, 1) := dk_42 (dk_at dksX1_mark_0 0 rfl rfl)
theorem dX1_mark_1 : decode cX1_mark 1 = .ok (.invokevirtual 224, 3) := dk_182 0 224 (dk_at dksX1_mark_0 1 rfl rfl)
theorem dX1_mark_4 : decode cX1_mark 4 = .ok (.istore_n 1, 1) := dk_60 (dk_at dksX1_mark_0 4 rfl rfl)
theorem dX1_mark_5 : decode cX1_mark 5 = .ok (.aload_n 0, 1) := dk_42 (dk_at dksX1_mark_0 5 rfl rfl)
theorem dX1_mark_6 : decode cX1_mark 6 = .ok (.aload_n 0, 1) := dk_42 (dk_at dksX1_mark_0 6 rfl rfl)
theorem dX1_mark_7 : decode cX1_mark 7 = .ok (.iload_n 1, 1) := dk_27 (dk_at dksX1_mark_0 7 rfl rfl)
theorem dX1_mark_8 : decode cX1_mark 8 = .ok (.invokevirtual 227, 3) := dk_182 0 227 (dk_at dksX1_mark_0 8 rfl rfl)
theorem dX1_mark_11 : decode cX1_mark 11 = .ok (.ifCond .eq 9, 3) := dk_153 0 9 (dk_at dksX1_mark_0 11 rfl rfl)
theorem dX1_mark_14 : decode cX1_mark 14 = .ok (.iload_n 1, 1) := dk_27 (dk_at dksX1_mark_0 14 rfl rfl)
theorem dX1_mark_15 : decode cX1_mark 15 = .ok (.iconst 1, 1) := dk_4 (dk_at dksX1_mark_0 15 rfl rfl)
theorem dX1_mark_16 : decode cX1_mark 16 = .ok (.ior, 1) := dk_128 (dk_at dksX1_mark_0 16 rfl rfl)
theorem dX1_mark_17 : decode cX1_mark 17 = .ok (.goto 4, 3) := dk_167 0 4 (dk_at dksX1_mark_0 17 rfl rfl)
theorem dX1_mark_20 : decode cX1_mark 20 = .ok (.iload_n 1, 1) := dk_27 (dk_at dksX1_mark_0 20 rfl rfl)
theorem dX1_mark_21 : decode cX1_mark 21 = .ok (.invokevirtual 241, 3) := dk_182 0 241 (dk_at dksX1_mark_0 21 rfl rfl)
theorem dX1_mark_24 : decode cX1_mark 24 = .ok (.return_, 1) := dk_177 (dk_at dksX1_mark_1 0 rfl rfl)
abbrev cX1_spell : ByteArray := prog_1_method_31_code
def yX1_spell : MethodName := ⟨RX1, "spell", "()V"⟩
def dkwX1_spell_5 : List UInt8 := [21, 4, 182, 0, 241, 177]
abbrev dktX1_spell_5 : List UInt8 := dkwX1_spell_5 ++ []
def dkwX1_spell_4 : List UInt8 := [182, 0, 172, 180, 0, 114, 199, 0, 16, 42, 42, 21, 4, 182, 0, 172, 178, 0, 168, 182, 1, 2, 42]
abbrev dktX1_spell_4 : List UInt8 := dkwX1_spell_4 ++ dktX1_spell_5
def dkwX1_spell_3 : List UInt8 := [167, 255, 205, 28, 154, 0, 8, 42, 7, 182, 0, 203, 42, 43, 28, 3, 182, 0, 215, 54, 4, 42, 21, 4]
abbrev dktX1_spell_3 : List UInt8 := dkwX1_spell_3 ++ dktX1_spell_4
def dkwX1_spell_2 : List UInt8 := [42, 8, 182, 0, 203, 43, 28, 29, 17, 0, 255, 126, 145, 84, 132, 2, 1, 42, 182, 0, 252, 62]
abbrev dktX1_spell_2 : List UInt8 := dkwX1_spell_2 ++ dktX1_spell_3
def dkwX1_spell_1 : List UInt8 := [178, 0, 255, 165, 0, 46, 29, 184, 0, 158, 154, 0, 8, 42, 7, 182, 0, 203, 28, 16, 11, 160, 0, 8]
abbrev dktX1_spell_1 : List UInt8 := dkwX1_spell_1 ++ dktX1_spell_2
def dkwX1_spell_0 : List UInt8 := [42, 180, 0, 38, 42, 180, 0, 235, 4, 100, 50, 76, 3, 61, 42, 182, 0, 252, 62, 42, 29, 182, 0, 176]
abbrev dktX1_spell_0 : List UInt8 := dkwX1_spell_0 ++ dktX1_spell_1
theorem dksX1_spell_0 : cX1_spell.data.toList.drop 0 = dktX1_spell_0 := by decide +kernel
theorem dksX1_spell_1 : cX1_spell.data.toList.drop 24 = dktX1_spell_1 := dk_seg dksX1_spell_0 24 rfl rfl
theorem dksX1_spell_2 : cX1_spell.data.toList.drop 48 = dktX1_spell_2 := dk_seg dksX1_spell_1 24 rfl rfl
theorem dksX1_spell_3 : cX1_spell.data.toList.drop 70 = dktX1_spell_3 := dk_seg dksX1_spell_2 22 rfl rfl
theorem dksX1_spell_4 : cX1_spell.data.toList.drop 94 = dktX1_spell_4 := dk_seg dksX1_spell_3 24 rfl rfl
theorem dksX1_spell_5 : cX1_spell.data.toList.drop 117 = dktX1_spell_5 := dk_seg dksX1_spell_4 23 rfl rfl
theorem dX1_spell_0 : decode cX1_spell 0 = .ok (.aload_n 0, 1) := dk_42 (dk_at dksX1_spell_0 0 rfl rfl)
theorem dX1_spell_1 : decode cX1_spell 1 = .ok (.getfield 38, 3) := dk_180 0 38 (dk_at dksX1_spell_0 1 rfl rfl)
theorem dX1_spell_4 : decode cX1_spell 4 = .ok (.aload_n 0, 1) := dk_42 (dk_at dksX1_spell_0 4 rfl rfl)
theorem dX1_spell_5 : decode cX1_spell 5 = .ok (.getfield 235, 3) := dk_180 0 235 (dk_at dksX1_spell_0 5 rfl rfl)
theorem dX1_spell_8 : decode cX1_spell 8 = .ok (.iconst 1, 1) := dk_4 (dk_at dksX1_spell_0 8 rfl rfl)
theorem dX1_spell_9 : decode cX1_spell 9 = .ok (.isub, 1) := dk_100 (dk_at dksX1_spell_0 9 rfl rfl)
theorem dX1_spell_10 : decode cX1_spell 10 = .ok (.aaload, 1) := dk_50 (dk_at dksX1_spell_0 10 rfl rfl)
theorem dX1_spell_11 : decode cX1_spell 11 = .ok (.astore_n 1, 1) := dk_76 (dk_at dksX1_spell_0 11 rfl rfl)
theorem dX1_spell_12 : decode cX1_spell 12 = .ok (.iconst 0, 1) := dk_3 (dk_at dksX1_spell_0 12 rfl rfl)
theorem dX1_spell_13 : decode cX1_spell 13 = .ok (.istore_n 2, 1) := dk_61 (dk_at dksX1_spell_0 13 rfl rfl)
theorem dX1_spell_14 : decode cX1_spell 14 = .ok (.aload_n 0, 1) := dk_42 (dk_at dksX1_spell_0 14 rfl rfl)
theorem dX1_spell_15 : decode cX1_spell 15 = .ok (.invokevirtual 252, 3) := dk_182 0 252 (dk_at dksX1_spell_0 15 rfl rfl)
theorem dX1_spell_18 : decode cX1_spell 18 = .ok (.istore_n 3, 1) := dk_62 (dk_at dksX1_spell_0 18 rfl rfl)
theorem dX1_spell_19 : decode cX1_spell 19 = .ok (.aload_n 0, 1) := dk_42 (dk_at dksX1_spell_0 19 rfl rfl)
theorem dX1_spell_20 : decode cX1_spell 20 = .ok (.iload_n 3, 1) := dk_29 (dk_at dksX1_spell_0 20 rfl rfl)
theorem dX1_spell_21 : decode cX1_spell 21 = .ok (.invokevirtual 176, 3) := dk_182 0 176 (dk_at dksX1_spell_0 21 rfl rfl)
theorem dX1_spell_24 : decode cX1_spell 24 = .ok (.getstatic 255, 3) := dk_178 0 255 (dk_at dksX1_spell_1 0 rfl rfl)
theorem dX1_spell_27 : decode cX1_spell 27 = .ok (.if_acmp .eq 46, 3) := dk_165 0 46 (dk_at dksX1_spell_1 3 rfl rfl)
theorem dX1_spell_30 : decode cX1_spell 30 = .ok (.iload_n 3, 1) := dk_29 (dk_at dksX1_spell_1 6 rfl rfl)
theorem dX1_spell_31 : decode cX1_spell 31 = .ok (.invokestatic 158, 3) := dk_184 0 158 (dk_at dksX1_spell_1 7 rfl rfl)
theorem dX1_spell_34 : decode cX1_spell 34 = .ok (.ifCond .ne 8, 3) := dk_154 0 8 (dk_at dksX1_spell_1 10 rfl rfl)
theorem dX1_spell_37 : decode cX1_spell 37 = .ok (.aload_n 0, 1) := dk_42 (dk_at dksX1_spell_1 13 rfl rfl)
theorem dX1_spell_38 : decode cX1_spell 38 = .ok (.iconst 4, 1) := dk_7 (dk_at dksX1_spell_1 14 rfl rfl)
theorem dX1_spell_39 : decode cX1_spell 39 = .ok (.invokevirtual 203, 3) := dk_182 0 203 (dk_at dksX1_spell_1 15 rfl rfl)
theorem dX1_spell_42 : decode cX1_spell 42 = .ok (.iload_n 2, 1) := dk_28 (dk_at dksX1_spell_1 18 rfl rfl)
theorem dX1_spell_43 : decode cX1_spell 43 = .ok (.bipush 11, 2) := dk_16 11 (dk_at dksX1_spell_1 19 rfl rfl)
theorem dX1_spell_45 : decode cX1_spell 45 = .ok (.if_icmp .ne 8, 3) := dk_160 0 8 (dk_at dksX1_spell_1 21 rfl rfl)
theorem dX1_spell_48 : decode cX1_spell 48 = .ok (.aload_n 0, 1) := dk_42 (dk_at dksX1_spell_2 0 rfl rfl)
theorem dX1_spell_49 : decode cX1_spell 49 = .ok (.iconst 5, 1) := dk_8 (dk_at dksX1_spell_2 1 rfl rfl)
theorem dX1_spell_50 : decode cX1_spell 50 = .ok (.invokevirtual 203, 3) := dk_182 0 203 (dk_at dksX1_spell_2 2 rfl rfl)
theorem dX1_spell_53 : decode cX1_spell 53 = .ok (.aload_n 1, 1) := dk_43 (dk_at dksX1_spell_2 5 rfl rfl)
theorem dX1_spell_54 : decode cX1_spell 54 = .ok (.iload_n 2, 1) := dk_28 (dk_at dksX1_spell_2 6 rfl rfl)
theorem dX1_spell_55 : decode cX1_spell 55 = .ok (.iload_n 3, 1) := dk_29 (dk_at dksX1_spell_2 7 rfl rfl)
theorem dX1_spell_56 : decode cX1_spell 56 = .ok (.sipush 255, 3) := dk_17 0 255 (dk_at dksX1_spell_2 8 rfl rfl)
theorem dX1_spell_59 : decode cX1_spell 59 = .ok (.iand, 1) := dk_126 (dk_at dksX1_spell_2 11 rfl rfl)
theorem dX1_spell_60 : decode cX1_spell 60 = .ok (.i2b, 1) := dk_145 (dk_at dksX1_spell_2 12 rfl rfl)
theorem dX1_spell_61 : decode cX1_spell 61 = .ok (.bastore, 1) := dk_84 (dk_at dksX1_spell_2 13 rfl rfl)
theorem dX1_spell_62 : decode cX1_spell 62 = .ok (.iinc 2 1, 3) := dk_132 2 1 (dk_at dksX1_spell_2 14 rfl rfl)
theorem dX1_spell_65 : decode cX1_spell 65 = .ok (.aload_n 0, 1) := dk_42 (dk_at dksX1_spell_2 17 rfl rfl)
theorem dX1_spell_66 : decode cX1_spell 66 = .ok (.invokevirtual 252, 3) := dk_182 0 252 (dk_at dksX1_spell_2 18 rfl rfl)
theorem dX1_spell_69 : decode cX1_spell 69 = .ok (.istore_n 3, 1) := dk_62 (dk_at dksX1_spell_2 21 rfl rfl)
theorem dX1_spell_70 : decode cX1_spell 70 = .ok (.goto (-51), 3) := dk_167 255 205 (dk_at dksX1_spell_3 0 rfl rfl)
theorem dX1_spell_73 : decode cX1_spell 73 = .ok (.iload_n 2, 1) := dk_28 (dk_at dksX1_spell_3 3 rfl rfl)
theorem dX1_spell_74 : decode cX1_spell 74 = .ok (.ifCond .ne 8, 3) := dk_154 0 8 (dk_at dksX1_spell_3 4 rfl rfl)
theorem dX1_spell_77 : decode cX1_spell 77 = .ok (.aload_n 0, 1) := dk_42 (dk_at dksX1_spell_3 7 rfl rfl)
theorem dX1_spell_78 : decode cX1_spell 78 = .ok (.iconst 4, 1) := dk_7 (dk_at dksX1_spell_3 8 rfl rfl)
theorem dX1_spell_79 : decode cX1_spell 79 = .ok (.invokevirtual 203, 3) := dk_182 0 203 (dk_at dksX1_spell_3 9 rfl rfl)
theorem dX1_spell_82 : decode cX1_spell 82 = .ok (.aload_n 0, 1) := dk_42 (dk_at dksX1_spell_3 12 rfl rfl)
theorem dX1_spell_83 : decode cX1_spell 83 = .ok (.aload_n 1, 1) := dk_43 (dk_at dksX1_spell_3 13 rfl rfl)
theorem dX1_spell_84 : decode cX1_spell 84 = .ok (.iload_n 2, 1) := dk_28 (dk_at dksX1_spell_3 14 rfl rfl)
theorem dX1_spell_85 : decode cX1_spell 85 = .ok (.iconst 0, 1) := dk_3 (dk_at dksX1_spell_3 15 rfl rfl)
theorem dX1_spell_86 : decode cX1_spell 86 = .ok (.invokevirtual 215, 3) := dk_182 0 215 (dk_at dksX1_spell_3 16 rfl rfl)
theorem dX1_spell_89 : decode cX1_spell 89 = .ok (.istore 4, 2) := dk_54 4 (dk_at dksX1_spell_3 19 rfl rfl)
theorem dX1_spell_91 : decode cX1_spell 91 = .ok (.aload_n 0, 1) := dk_42 (dk_at dksX1_spell_3 21 rfl rfl)
theorem dX1_spell_92 : decode cX1_spell 92 = .ok (.iload 4, 2) := dk_21 4 (dk_at dksX1_spell_3 22 rfl rfl)
theorem dX1_spell_94 : decode cX1_spell 94 = .ok (.invokevirtual 172, 3) := dk_182 0 172 (dk_at dksX1_spell_4 0 rfl rfl)
theorem dX1_spell_97 : decode cX1_spell 97 = .ok (.getfield 114, 3) := dk_180 0 114 (dk_at dksX1_spell_4 3 rfl rfl)
theorem dX1_spell_100 : decode cX1_spell 100 = .ok (.ifnonnull 16, 3) := dk_199 0 16 (dk_at dksX1_spell_4 6 rfl rfl)
theorem dX1_spell_103 : decode cX1_spell 103 = .ok (.aload_n 0, 1) := dk_42 (dk_at dksX1_spell_4 9 rfl rfl)
theorem dX1_spell_104 : decode cX1_spell 104 = .ok (.aload_n 0, 1) := dk_42 (dk_at dksX1_spell_4 10 rfl rfl)
theorem dX1_spell_105 : decode cX1_spell 105 = .ok (.iload 4, 2) := dk_21 4 (dk_at dksX1_spell_4 11 rfl rfl)
theorem dX1_spell_107 : decode cX1_spell 107 = .ok (.invokevirtual 172, 3) := dk_182 0 172 (dk_at dksX1_spell_4 13 rfl rfl)
theorem dX1_spell_110 : decode cX1_spell 110 = .ok (.getstatic 168, 3) := dk_178 0 168 (dk_at dksX1_spell_4 16 rfl rfl)
theorem dX1_spell_113 : decode cX1_spell 113 = .ok (.invokevirtual 258, 3) := dk_182 1 2 (dk_at dksX1_spell_4 19 rfl rfl)
theorem dX1_spell_116 : decode cX1_spell 116 = .ok (.aload_n 0, 1) := dk_42 (dk_at dksX1_spell_4 22 rfl rfl)
theorem dX1_spell_117 : decode cX1_spell 117 = .ok (.iload 4, 2) := dk_21 4 (dk_at dksX1_spell_5 0 rfl rfl)
theorem dX1_spell_119 : decode cX1_spell 119 = .ok (.invokevirtual 241, 3) := dk_182 0 241 (dk_at dksX1_spell_5 2 rfl rfl)
theorem dX1_spell_122 : decode cX1_spell 122 = .ok (.return_, 1) := dk_177 (dk_at dksX1_spell_5 5 rfl rfl)
abbrev cX1_needExpanded : ByteArray := prog_1_method_25_code
def yX1_needExpanded : MethodName := ⟨RX1, "needExpanded", "()I"⟩
def dkwX1_needExpanded_1 : List UInt8 := [167, 255, 238, 27, 172]
abbrev dktX1_needExpanded_1 : List UInt8 := dkwX1_needExpanded_1 ++ []
def dkwX1_needExpanded_0 : List UInt8 := [42, 182, 0, 224, 60, 42, 27, 182, 0, 227, 153, 0, 16, 42, 27, 182, 0, 229, 42, 182, 0, 224, 60]
abbrev dktX1_needExpanded_0 : List UInt8 := dkwX1_needExpanded_0 ++ dktX1_needExpanded_1
theorem dksX1_needExpanded_0 : cX1_needExpanded.data.toList.drop 0 = dktX1_needExpanded_0 := by decide +kernel
theorem dksX1_needExpanded_1 : cX1_needExpanded.data.toList.drop 23 = dktX1_needExpanded_1 := dk_seg dksX1_needExpanded_0 23 rfl rfl
theorem dX1_needExpanded_0 : decode cX1_needExpanded 0 = .ok (.aload_n 0, 1) := dk_42 (dk_at dksX1_needExpanded_0 0 rfl rfl)
theorem dX1_needExpanded_1 : decode cX1_needExpanded 1 = .ok (.invokevirtual 224, 3) := dk_182 0 224 (dk_at dksX1_needExpanded_0 1 rfl rfl)
theorem dX1_needExpanded_4 : decode cX1_needExpanded 4 = .ok (.istore_n 1, 1) := dk_60 (dk_at dksX1_needExpanded_0 4 rfl rfl)
theorem dX1_needExpanded_5 : decode cX1_needExpanded 5 = .ok (.aload_n 0, 1) := dk_42 (dk_at dksX1_needExpanded_0 5 rfl rfl)
theorem dX1_needExpanded_6 : decode cX1_needExpanded 6 = .ok (.iload_n 1, 1) := dk_27 (dk_at dksX1_needExpanded_0 6 rfl rfl)
theorem dX1_needExpanded_7 : decode cX1_needExpanded 7 = .ok (.invokevirtual 227, 3) := dk_182 0 227 (dk_at dksX1_needExpanded_0 7 rfl rfl)
theorem dX1_needExpanded_10 : decode cX1_needExpanded 10 = .ok (.ifCond .eq 16, 3) := dk_153 0 16 (dk_at dksX1_needExpanded_0 10 rfl rfl)
theorem dX1_needExpanded_13 : decode cX1_needExpanded 13 = .ok (.aload_n 0, 1) := dk_42 (dk_at dksX1_needExpanded_0 13 rfl rfl)
theorem dX1_needExpanded_14 : decode cX1_needExpanded 14 = .ok (.iload_n 1, 1) := dk_27 (dk_at dksX1_needExpanded_0 14 rfl rfl)
theorem dX1_needExpanded_15 : decode cX1_needExpanded 15 = .ok (.invokevirtual 229, 3) := dk_182 0 229 (dk_at dksX1_needExpanded_0 15 rfl rfl)
theorem dX1_needExpanded_18 : decode cX1_needExpanded 18 = .ok (.aload_n 0, 1) := dk_42 (dk_at dksX1_needExpanded_0 18 rfl rfl)
theorem dX1_needExpanded_19 : decode cX1_needExpanded 19 = .ok (.invokevirtual 224, 3) := dk_182 0 224 (dk_at dksX1_needExpanded_0 19 rfl rfl)
theorem dX1_needExpanded_22 : decode cX1_needExpanded 22 = .ok (.istore_n 1, 1) := dk_60 (dk_at dksX1_needExpanded_0 22 rfl rfl)
theorem dX1_needExpanded_23 : decode cX1_needExpanded 23 = .ok (.goto (-18), 3) := dk_167 255 238 (dk_at dksX1_needExpanded_1 0 rfl rfl)
theorem dX1_needExpanded_26 : decode cX1_needExpanded 26 = .ok (.iload_n 1, 1) := dk_27 (dk_at dksX1_needExpanded_1 3 rfl rfl)
theorem dX1_needExpanded_27 : decode cX1_needExpanded 27 = .ok (.ireturn, 1) := dk_172 (dk_at dksX1_needExpanded_1 4 rfl rfl)
abbrev cX1_isCharacter : ByteArray := prog_1_method_9_code
def yX1_isCharacter : MethodName := ⟨RX1, "isCharacter", "(I)Z"⟩
def dkwX1_isCharacter_0 : List UInt8 := [26, 155, 0, 14, 26, 17, 16, 0, 162, 0, 7, 4, 167, 0, 4, 3, 172]
abbrev dktX1_isCharacter_0 : List UInt8 := dkwX1_isCharacter_0 ++ []
theorem dksX1_isCharacter_0 : cX1_isCharacter.data.toList.drop 0 = dktX1_isCharacter_0 := by decide +kernel
theorem dX1_isCharacter_0 : decode cX1_isCharacter 0 = .ok (.iload_n 0, 1) := dk_26 (dk_at dksX1_isCharacter_0 0 rfl rfl)
theorem dX1_isCharacter_1 : decode cX1_isCharacter 1 = .ok (.ifCond .lt 14, 3) := dk_155 0 14 (dk_at dksX1_isCharacter_0 1 rfl rfl)
theorem dX1_isCharacter_4 : decode cX1_isCharacter 4 = .ok (.iload_n 0, 1) := dk_26 (dk_at dksX1_isCharacter_0 4 rfl rfl)
theorem dX1_isCharacter_5 : decode cX1_isCharacter 5 = .ok (.sipush 4096, 3) := dk_17 16 0 (dk_at dksX1_isCharacter_0 5 rfl rfl)
theorem dX1_isCharacter_8 : decode cX1_isCharacter 8 = .ok (.if_icmp .ge 7, 3) := dk_162 0 7 (dk_at dksX1_isCharacter_0 8 rfl rfl)
theorem dX1_isCharacter_11 : decode cX1_isCharacter 11 = .ok (.iconst 1, 1) := dk_4 (dk_at dksX1_isCharacter_0 11 rfl rfl)
theorem dX1_isCharacter_12 : decode cX1_isCharacter 12 = .ok (.goto 4, 3) := dk_167 0 4 (dk_at dksX1_isCharacter_0 12 rfl rfl)
theorem dX1_isCharacter_15 : decode cX1_isCharacter 15 = .ok (.iconst 0, 1) := dk_3 (dk_at dksX1_isCharacter_0 15 rfl rfl)
theorem dX1_isCharacter_16 : decode cX1_isCharacter 16 = .ok (.ireturn, 1) := dk_172 (dk_at dksX1_isCharacter_0 16 rfl rfl)
abbrev cX1_change : ByteArray := prog_1_method_52_code
def yX1_change : MethodName := ⟨RX1, "change", "(LTokenMouth$Name;LTokenMouth$Meaning;)V"⟩
def dkwX1_change_0 : List UInt8 := [42, 43, 3, 182, 1, 122, 43, 44, 181, 0, 114, 177]
abbrev dktX1_change_0 : List UInt8 := dkwX1_change_0 ++ []
theorem dksX1_change_0 : cX1_change.data.toList.drop 0 = dktX1_change_0 := by decide +kernel
theorem dX1_change_0 : decode cX1_change 0 = .ok (.aload_n 0, 1) := dk_42 (dk_at dksX1_change_0 0 rfl rfl)
theorem dX1_change_1 : decode cX1_change 1 = .ok (.aload_n 1, 1) := dk_43 (dk_at dksX1_change_0 1 rfl rfl)
theorem dX1_change_2 : decode cX1_change 2 = .ok (.iconst 0, 1) := dk_3 (dk_at dksX1_change_0 2 rfl rfl)
theorem dX1_change_3 : decode cX1_change 3 = .ok (.invokevirtual 378, 3) := dk_182 1 122 (dk_at dksX1_change_0 3 rfl rfl)
theorem dX1_change_6 : decode cX1_change 6 = .ok (.aload_n 1, 1) := dk_43 (dk_at dksX1_change_0 6 rfl rfl)
theorem dX1_change_7 : decode cX1_change 7 = .ok (.aload_n 2, 1) := dk_44 (dk_at dksX1_change_0 7 rfl rfl)
theorem dX1_change_8 : decode cX1_change 8 = .ok (.putfield 114, 3) := dk_181 0 114 (dk_at dksX1_change_0 8 rfl rfl)
theorem dX1_change_11 : decode cX1_change 11 = .ok (.return_, 1) := dk_177 (dk_at dksX1_change_0 11 rfl rfl)
abbrev cX1_keep : ByteArray := prog_1_method_53_code
def yX1_keep : MethodName := ⟨RX1, "keep", "(LTokenMouth$Name;I)V"⟩
def dkwX1_keep_6 : List UInt8 := [96, 181, 0, 139, 177]
abbrev dktX1_keep_6 : List UInt8 := dkwX1_keep_6 ++ []
def dkwX1_keep_5 : List UInt8 := [45, 42, 180, 0, 13, 28, 51, 181, 1, 132, 45, 42, 180, 0, 127, 181, 1, 126, 42, 89, 180, 0, 139, 4]
abbrev dktX1_keep_5 : List UInt8 := dkwX1_keep_5 ++ dktX1_keep_6
def dkwX1_keep_4 : List UInt8 := [181, 1, 108, 45, 43, 199, 0, 7, 1, 167, 0, 7, 43, 180, 0, 114, 181, 1, 112, 45, 28, 181, 1, 129]
abbrev dktX1_keep_4 : List UInt8 := dkwX1_keep_4 ++ dktX1_keep_5
def dkwX1_keep_3 : List UInt8 := [16, 60, 160, 0, 8, 42, 8, 182, 0, 203, 42, 180, 0, 53, 42, 180, 0, 139, 50, 78, 45, 43]
abbrev dktX1_keep_3 : List UInt8 := dkwX1_keep_3 ++ dktX1_keep_4
def dkwX1_keep_2 : List UInt8 := [42, 180, 0, 53, 29, 50, 180, 1, 129, 28, 160, 0, 4, 177, 132, 3, 255, 167, 255, 206, 42, 180, 0, 139]
abbrev dktX1_keep_2 : List UInt8 := dkwX1_keep_2 ++ dktX1_keep_3
def dkwX1_keep_1 : List UInt8 := [50, 180, 1, 126, 42, 180, 0, 127, 160, 0, 36, 42, 180, 0, 53, 29, 50, 180, 1, 108, 43, 166, 0, 17]
abbrev dktX1_keep_1 : List UInt8 := dkwX1_keep_1 ++ dktX1_keep_2
def dkwX1_keep_0 : List UInt8 := [42, 180, 0, 127, 154, 0, 4, 177, 42, 180, 0, 139, 4, 100, 62, 29, 155, 0, 52, 42, 180, 0, 53, 29]
abbrev dktX1_keep_0 : List UInt8 := dkwX1_keep_0 ++ dktX1_keep_1
theorem dksX1_keep_0 : cX1_keep.data.toList.drop 0 = dktX1_keep_0 := by decide +kernel
theorem dksX1_keep_1 : cX1_keep.data.toList.drop 24 = dktX1_keep_1 := dk_seg dksX1_keep_0 24 rfl rfl
theorem dksX1_keep_2 : cX1_keep.data.toList.drop 48 = dktX1_keep_2 := dk_seg dksX1_keep_1 24 rfl rfl
theorem dksX1_keep_3 : cX1_keep.data.toList.drop 72 = dktX1_keep_3 := dk_seg dksX1_keep_2 24 rfl rfl
theorem dksX1_keep_4 : cX1_keep.data.toList.drop 94 = dktX1_keep_4 := dk_seg dksX1_keep_3 22 rfl rfl
theorem dksX1_keep_5 : cX1_keep.data.toList.drop 118 = dktX1_keep_5 := dk_seg dksX1_keep_4 24 rfl rfl
theorem dksX1_keep_6 : cX1_keep.data.toList.drop 142 = dktX1_keep_6 := dk_seg dksX1_keep_5 24 rfl rfl
theorem dX1_keep_0 : decode cX1_keep 0 = .ok (.aload_n 0, 1) := dk_42 (dk_at dksX1_keep_0 0 rfl rfl)
theorem dX1_keep_1 : decode cX1_keep 1 = .ok (.getfield 127, 3) := dk_180 0 127 (dk_at dksX1_keep_0 1 rfl rfl)
theorem dX1_keep_4 : decode cX1_keep 4 = .ok (.ifCond .ne 4, 3) := dk_154 0 4 (dk_at dksX1_keep_0 4 rfl rfl)
theorem dX1_keep_7 : decode cX1_keep 7 = .ok (.return_, 1) := dk_177 (dk_at dksX1_keep_0 7 rfl rfl)
theorem dX1_keep_8 : decode cX1_keep 8 = .ok (.aload_n 0, 1) := dk_42 (dk_at dksX1_keep_0 8 rfl rfl)
theorem dX1_keep_9 : decode cX1_keep 9 = .ok (.getfield 139, 3) := dk_180 0 139 (dk_at dksX1_keep_0 9 rfl rfl)
theorem dX1_keep_12 : decode cX1_keep 12 = .ok (.iconst 1, 1) := dk_4 (dk_at dksX1_keep_0 12 rfl rfl)
theorem dX1_keep_13 : decode cX1_keep 13 = .ok (.isub, 1) := dk_100 (dk_at dksX1_keep_0 13 rfl rfl)
theorem dX1_keep_14 : decode cX1_keep 14 = .ok (.istore_n 3, 1) := dk_62 (dk_at dksX1_keep_0 14 rfl rfl)
theorem dX1_keep_15 : decode cX1_keep 15 = .ok (.iload_n 3, 1) := dk_29 (dk_at dksX1_keep_0 15 rfl rfl)
theorem dX1_keep_16 : decode cX1_keep 16 = .ok (.ifCond .lt 52, 3) := dk_155 0 52 (dk_at dksX1_keep_0 16 rfl rfl)
theorem dX1_keep_19 : decode cX1_keep 19 = .ok (.aload_n 0, 1) := dk_42 (dk_at dksX1_keep_0 19 rfl rfl)
theorem dX1_keep_20 : decode cX1_keep 20 = .ok (.getfield 53, 3) := dk_180 0 53 (dk_at dksX1_keep_0 20 rfl rfl)
theorem dX1_keep_23 : decode cX1_keep 23 = .ok (.iload_n 3, 1) := dk_29 (dk_at dksX1_keep_0 23 rfl rfl)
theorem dX1_keep_24 : decode cX1_keep 24 = .ok (.aaload, 1) := dk_50 (dk_at dksX1_keep_1 0 rfl rfl)
theorem dX1_keep_25 : decode cX1_keep 25 = .ok (.getfield 382, 3) := dk_180 1 126 (dk_at dksX1_keep_1 1 rfl rfl)
theorem dX1_keep_28 : decode cX1_keep 28 = .ok (.aload_n 0, 1) := dk_42 (dk_at dksX1_keep_1 4 rfl rfl)
theorem dX1_keep_29 : decode cX1_keep 29 = .ok (.getfield 127, 3) := dk_180 0 127 (dk_at dksX1_keep_1 5 rfl rfl)
theorem dX1_keep_32 : decode cX1_keep 32 = .ok (.if_icmp .ne 36, 3) := dk_160 0 36 (dk_at dksX1_keep_1 8 rfl rfl)
theorem dX1_keep_35 : decode cX1_keep 35 = .ok (.aload_n 0, 1) := dk_42 (dk_at dksX1_keep_1 11 rfl rfl)
theorem dX1_keep_36 : decode cX1_keep 36 = .ok (.getfield 53, 3) := dk_180 0 53 (dk_at dksX1_keep_1 12 rfl rfl)
theorem dX1_keep_39 : decode cX1_keep 39 = .ok (.iload_n 3, 1) := dk_29 (dk_at dksX1_keep_1 15 rfl rfl)
theorem dX1_keep_40 : decode cX1_keep 40 = .ok (.aaload, 1) := dk_50 (dk_at dksX1_keep_1 16 rfl rfl)
theorem dX1_keep_41 : decode cX1_keep 41 = .ok (.getfield 364, 3) := dk_180 1 108 (dk_at dksX1_keep_1 17 rfl rfl)
theorem dX1_keep_44 : decode cX1_keep 44 = .ok (.aload_n 1, 1) := dk_43 (dk_at dksX1_keep_1 20 rfl rfl)
theorem dX1_keep_45 : decode cX1_keep 45 = .ok (.if_acmp .ne 17, 3) := dk_166 0 17 (dk_at dksX1_keep_1 21 rfl rfl)
theorem dX1_keep_48 : decode cX1_keep 48 = .ok (.aload_n 0, 1) := dk_42 (dk_at dksX1_keep_2 0 rfl rfl)
theorem dX1_keep_49 : decode cX1_keep 49 = .ok (.getfield 53, 3) := dk_180 0 53 (dk_at dksX1_keep_2 1 rfl rfl)
theorem dX1_keep_52 : decode cX1_keep 52 = .ok (.iload_n 3, 1) := dk_29 (dk_at dksX1_keep_2 4 rfl rfl)
theorem dX1_keep_53 : decode cX1_keep 53 = .ok (.aaload, 1) := dk_50 (dk_at dksX1_keep_2 5 rfl rfl)
theorem dX1_keep_54 : decode cX1_keep 54 = .ok (.getfield 385, 3) := dk_180 1 129 (dk_at dksX1_keep_2 6 rfl rfl)
theorem dX1_keep_57 : decode cX1_keep 57 = .ok (.iload_n 2, 1) := dk_28 (dk_at dksX1_keep_2 9 rfl rfl)
theorem dX1_keep_58 : decode cX1_keep 58 = .ok (.if_icmp .ne 4, 3) := dk_160 0 4 (dk_at dksX1_keep_2 10 rfl rfl)
theorem dX1_keep_61 : decode cX1_keep 61 = .ok (.return_, 1) := dk_177 (dk_at dksX1_keep_2 13 rfl rfl)
theorem dX1_keep_62 : decode cX1_keep 62 = .ok (.iinc 3 (-1), 3) := dk_132 3 255 (dk_at dksX1_keep_2 14 rfl rfl)
theorem dX1_keep_65 : decode cX1_keep 65 = .ok (.goto (-50), 3) := dk_167 255 206 (dk_at dksX1_keep_2 17 rfl rfl)
theorem dX1_keep_68 : decode cX1_keep 68 = .ok (.aload_n 0, 1) := dk_42 (dk_at dksX1_keep_2 20 rfl rfl)
theorem dX1_keep_69 : decode cX1_keep 69 = .ok (.getfield 139, 3) := dk_180 0 139 (dk_at dksX1_keep_2 21 rfl rfl)
theorem dX1_keep_72 : decode cX1_keep 72 = .ok (.bipush 60, 2) := dk_16 60 (dk_at dksX1_keep_3 0 rfl rfl)
theorem dX1_keep_74 : decode cX1_keep 74 = .ok (.if_icmp .ne 8, 3) := dk_160 0 8 (dk_at dksX1_keep_3 2 rfl rfl)
theorem dX1_keep_77 : decode cX1_keep 77 = .ok (.aload_n 0, 1) := dk_42 (dk_at dksX1_keep_3 5 rfl rfl)
theorem dX1_keep_78 : decode cX1_keep 78 = .ok (.iconst 5, 1) := dk_8 (dk_at dksX1_keep_3 6 rfl rfl)
theorem dX1_keep_79 : decode cX1_keep 79 = .ok (.invokevirtual 203, 3) := dk_182 0 203 (dk_at dksX1_keep_3 7 rfl rfl)
theorem dX1_keep_82 : decode cX1_keep 82 = .ok (.aload_n 0, 1) := dk_42 (dk_at dksX1_keep_3 10 rfl rfl)
theorem dX1_keep_83 : decode cX1_keep 83 = .ok (.getfield 53, 3) := dk_180 0 53 (dk_at dksX1_keep_3 11 rfl rfl)
theorem dX1_keep_86 : decode cX1_keep 86 = .ok (.aload_n 0, 1) := dk_42 (dk_at dksX1_keep_3 14 rfl rfl)
theorem dX1_keep_87 : decode cX1_keep 87 = .ok (.getfield 139, 3) := dk_180 0 139 (dk_at dksX1_keep_3 15 rfl rfl)
theorem dX1_keep_90 : decode cX1_keep 90 = .ok (.aaload, 1) := dk_50 (dk_at dksX1_keep_3 18 rfl rfl)
theorem dX1_keep_91 : decode cX1_keep 91 = .ok (.astore_n 3, 1) := dk_78 (dk_at dksX1_keep_3 19 rfl rfl)
theorem dX1_keep_92 : decode cX1_keep 92 = .ok (.aload_n 3, 1) := dk_45 (dk_at dksX1_keep_3 20 rfl rfl)
theorem dX1_keep_93 : decode cX1_keep 93 = .ok (.aload_n 1, 1) := dk_43 (dk_at dksX1_keep_3 21 rfl rfl)
theorem dX1_keep_94 : decode cX1_keep 94 = .ok (.putfield 364, 3) := dk_181 1 108 (dk_at dksX1_keep_4 0 rfl rfl)
theorem dX1_keep_97 : decode cX1_keep 97 = .ok (.aload_n 3, 1) := dk_45 (dk_at dksX1_keep_4 3 rfl rfl)
theorem dX1_keep_98 : decode cX1_keep 98 = .ok (.aload_n 1, 1) := dk_43 (dk_at dksX1_keep_4 4 rfl rfl)
theorem dX1_keep_99 : decode cX1_keep 99 = .ok (.ifnonnull 7, 3) := dk_199 0 7 (dk_at dksX1_keep_4 5 rfl rfl)
theorem dX1_keep_102 : decode cX1_keep 102 = .ok (.aconst_null, 1) := dk_1 (dk_at dksX1_keep_4 8 rfl rfl)
theorem dX1_keep_103 : decode cX1_keep 103 = .ok (.goto 7, 3) := dk_167 0 7 (dk_at dksX1_keep_4 9 rfl rfl)
theorem dX1_keep_106 : decode cX1_keep 106 = .ok (.aload_n 1, 1) := dk_43 (dk_at dksX1_keep_4 12 rfl rfl)
theorem dX1_keep_107 : decode cX1_keep 107 = .ok (.getfield 114, 3) := dk_180 0 114 (dk_at dksX1_keep_4 13 rfl rfl)
theorem dX1_keep_110 : decode cX1_keep 110 = .ok (.putfield 368, 3) := dk_181 1 112 (dk_at dksX1_keep_4 16 rfl rfl)
theorem dX1_keep_113 : decode cX1_keep 113 = .ok (.aload_n 3, 1) := dk_45 (dk_at dksX1_keep_4 19 rfl rfl)
theorem dX1_keep_114 : decode cX1_keep 114 = .ok (.iload_n 2, 1) := dk_28 (dk_at dksX1_keep_4 20 rfl rfl)
theorem dX1_keep_115 : decode cX1_keep 115 = .ok (.putfield 385, 3) := dk_181 1 129 (dk_at dksX1_keep_4 21 rfl rfl)
theorem dX1_keep_118 : decode cX1_keep 118 = .ok (.aload_n 3, 1) := dk_45 (dk_at dksX1_keep_5 0 rfl rfl)
theorem dX1_keep_119 : decode cX1_keep 119 = .ok (.aload_n 0, 1) := dk_42 (dk_at dksX1_keep_5 1 rfl rfl)
theorem dX1_keep_120 : decode cX1_keep 120 = .ok (.getfield 13, 3) := dk_180 0 13 (dk_at dksX1_keep_5 2 rfl rfl)
theorem dX1_keep_123 : decode cX1_keep 123 = .ok (.iload_n 2, 1) := dk_28 (dk_at dksX1_keep_5 5 rfl rfl)
theorem dX1_keep_124 : decode cX1_keep 124 = .ok (.baload, 1) := dk_51 (dk_at dksX1_keep_5 6 rfl rfl)
theorem dX1_keep_125 : decode cX1_keep 125 = .ok (.putfield 388, 3) := dk_181 1 132 (dk_at dksX1_keep_5 7 rfl rfl)
theorem dX1_keep_128 : decode cX1_keep 128 = .ok (.aload_n 3, 1) := dk_45 (dk_at dksX1_keep_5 10 rfl rfl)
theorem dX1_keep_129 : decode cX1_keep 129 = .ok (.aload_n 0, 1) := dk_42 (dk_at dksX1_keep_5 11 rfl rfl)
theorem dX1_keep_130 : decode cX1_keep 130 = .ok (.getfield 127, 3) := dk_180 0 127 (dk_at dksX1_keep_5 12 rfl rfl)
theorem dX1_keep_133 : decode cX1_keep 133 = .ok (.putfield 382, 3) := dk_181 1 126 (dk_at dksX1_keep_5 15 rfl rfl)
theorem dX1_keep_136 : decode cX1_keep 136 = .ok (.aload_n 0, 1) := dk_42 (dk_at dksX1_keep_5 18 rfl rfl)
theorem dX1_keep_137 : decode cX1_keep 137 = .ok (.dup, 1) := dk_89 (dk_at dksX1_keep_5 19 rfl rfl)
theorem dX1_keep_138 : decode cX1_keep 138 = .ok (.getfield 139, 3) := dk_180 0 139 (dk_at dksX1_keep_5 20 rfl rfl)
theorem dX1_keep_141 : decode cX1_keep 141 = .ok (.iconst 1, 1) := dk_4 (dk_at dksX1_keep_5 23 rfl rfl)
theorem dX1_keep_142 : decode cX1_keep 142 = .ok (.iadd, 1) := dk_96 (dk_at dksX1_keep_6 0 rfl rfl)
theorem dX1_keep_143 : decode cX1_keep 143 = .ok (.putfield 139, 3) := dk_181 0 139 (dk_at dksX1_keep_6 1 rfl rfl)
theorem dX1_keep_146 : decode cX1_keep 146 = .ok (.return_, 1) := dk_177 (dk_at dksX1_keep_6 4 rfl rfl)
abbrev cX1_tell : ByteArray := prog_1_method_30_code
def yX1_tell : MethodName := ⟨RX1, "tell", "()V"⟩
def dkwX1_tell_3 : List UInt8 := [184, 0, 244, 182, 0, 241, 177]
abbrev dktX1_tell_3 : List UInt8 := dkwX1_tell_3 ++ []
def dkwX1_tell_2 : List UInt8 := [29, 51, 184, 0, 244, 182, 0, 241, 132, 3, 255, 167, 255, 236, 44, 180, 0, 248, 154, 0, 12, 42, 16, 92]
abbrev dktX1_tell_2 : List UInt8 := dkwX1_tell_2 ++ dktX1_tell_3
def dkwX1_tell_1 : List UInt8 := [177, 42, 27, 182, 0, 172, 77, 44, 180, 0, 247, 190, 4, 100, 62, 29, 155, 0, 22, 42, 44, 180, 0, 247]
abbrev dktX1_tell_1 : List UInt8 := dkwX1_tell_1 ++ dktX1_tell_2
def dkwX1_tell_0 : List UInt8 := [42, 182, 0, 224, 60, 27, 184, 0, 158, 153, 0, 16, 42, 27, 17, 0, 255, 126, 184, 0, 244, 182, 0, 241]
abbrev dktX1_tell_0 : List UInt8 := dkwX1_tell_0 ++ dktX1_tell_1
theorem dksX1_tell_0 : cX1_tell.data.toList.drop 0 = dktX1_tell_0 := by decide +kernel
theorem dksX1_tell_1 : cX1_tell.data.toList.drop 24 = dktX1_tell_1 := dk_seg dksX1_tell_0 24 rfl rfl
theorem dksX1_tell_2 : cX1_tell.data.toList.drop 48 = dktX1_tell_2 := dk_seg dksX1_tell_1 24 rfl rfl
theorem dksX1_tell_3 : cX1_tell.data.toList.drop 72 = dktX1_tell_3 := dk_seg dksX1_tell_2 24 rfl rfl
theorem dX1_tell_0 : decode cX1_tell 0 = .ok (.aload_n 0, 1) := dk_42 (dk_at dksX1_tell_0 0 rfl rfl)
theorem dX1_tell_1 : decode cX1_tell 1 = .ok (.invokevirtual 224, 3) := dk_182 0 224 (dk_at dksX1_tell_0 1 rfl rfl)
theorem dX1_tell_4 : decode cX1_tell 4 = .ok (.istore_n 1, 1) := dk_60 (dk_at dksX1_tell_0 4 rfl rfl)
theorem dX1_tell_5 : decode cX1_tell 5 = .ok (.iload_n 1, 1) := dk_27 (dk_at dksX1_tell_0 5 rfl rfl)
theorem dX1_tell_6 : decode cX1_tell 6 = .ok (.invokestatic 158, 3) := dk_184 0 158 (dk_at dksX1_tell_0 6 rfl rfl)
theorem dX1_tell_9 : decode cX1_tell 9 = .ok (.ifCond .eq 16, 3) := dk_153 0 16 (dk_at dksX1_tell_0 9 rfl rfl)
theorem dX1_tell_12 : decode cX1_tell 12 = .ok (.aload_n 0, 1) := dk_42 (dk_at dksX1_tell_0 12 rfl rfl)
theorem dX1_tell_13 : decode cX1_tell 13 = .ok (.iload_n 1, 1) := dk_27 (dk_at dksX1_tell_0 13 rfl rfl)
theorem dX1_tell_14 : decode cX1_tell 14 = .ok (.sipush 255, 3) := dk_17 0 255 (dk_at dksX1_tell_0 14 rfl rfl)
theorem dX1_tell_17 : decode cX1_tell 17 = .ok (.iand, 1) := dk_126 (dk_at dksX1_tell_0 17 rfl rfl)
theorem dX1_tell_18 : decode cX1_tell 18 = .ok (.invokestatic 244, 3) := dk_184 0 244 (dk_at dksX1_tell_0 18 rfl rfl)
theorem dX1_tell_21 : decode cX1_tell 21 = .ok (.invokevirtual 241, 3) := dk_182 0 241 (dk_at dksX1_tell_0 21 rfl rfl)
theorem dX1_tell_24 : decode cX1_tell 24 = .ok (.return_, 1) := dk_177 (dk_at dksX1_tell_1 0 rfl rfl)
theorem dX1_tell_25 : decode cX1_tell 25 = .ok (.aload_n 0, 1) := dk_42 (dk_at dksX1_tell_1 1 rfl rfl)
theorem dX1_tell_26 : decode cX1_tell 26 = .ok (.iload_n 1, 1) := dk_27 (dk_at dksX1_tell_1 2 rfl rfl)
theorem dX1_tell_27 : decode cX1_tell 27 = .ok (.invokevirtual 172, 3) := dk_182 0 172 (dk_at dksX1_tell_1 3 rfl rfl)
theorem dX1_tell_30 : decode cX1_tell 30 = .ok (.astore_n 2, 1) := dk_77 (dk_at dksX1_tell_1 6 rfl rfl)
theorem dX1_tell_31 : decode cX1_tell 31 = .ok (.aload_n 2, 1) := dk_44 (dk_at dksX1_tell_1 7 rfl rfl)
theorem dX1_tell_32 : decode cX1_tell 32 = .ok (.getfield 247, 3) := dk_180 0 247 (dk_at dksX1_tell_1 8 rfl rfl)
theorem dX1_tell_35 : decode cX1_tell 35 = .ok (.arraylength, 1) := dk_190 (dk_at dksX1_tell_1 11 rfl rfl)
theorem dX1_tell_36 : decode cX1_tell 36 = .ok (.iconst 1, 1) := dk_4 (dk_at dksX1_tell_1 12 rfl rfl)
theorem dX1_tell_37 : decode cX1_tell 37 = .ok (.isub, 1) := dk_100 (dk_at dksX1_tell_1 13 rfl rfl)
theorem dX1_tell_38 : decode cX1_tell 38 = .ok (.istore_n 3, 1) := dk_62 (dk_at dksX1_tell_1 14 rfl rfl)
theorem dX1_tell_39 : decode cX1_tell 39 = .ok (.iload_n 3, 1) := dk_29 (dk_at dksX1_tell_1 15 rfl rfl)
theorem dX1_tell_40 : decode cX1_tell 40 = .ok (.ifCond .lt 22, 3) := dk_155 0 22 (dk_at dksX1_tell_1 16 rfl rfl)
theorem dX1_tell_43 : decode cX1_tell 43 = .ok (.aload_n 0, 1) := dk_42 (dk_at dksX1_tell_1 19 rfl rfl)
theorem dX1_tell_44 : decode cX1_tell 44 = .ok (.aload_n 2, 1) := dk_44 (dk_at dksX1_tell_1 20 rfl rfl)
theorem dX1_tell_45 : decode cX1_tell 45 = .ok (.getfield 247, 3) := dk_180 0 247 (dk_at dksX1_tell_1 21 rfl rfl)
theorem dX1_tell_48 : decode cX1_tell 48 = .ok (.iload_n 3, 1) := dk_29 (dk_at dksX1_tell_2 0 rfl rfl)
theorem dX1_tell_49 : decode cX1_tell 49 = .ok (.baload, 1) := dk_51 (dk_at dksX1_tell_2 1 rfl rfl)
theorem dX1_tell_50 : decode cX1_tell 50 = .ok (.invokestatic 244, 3) := dk_184 0 244 (dk_at dksX1_tell_2 2 rfl rfl)
theorem dX1_tell_53 : decode cX1_tell 53 = .ok (.invokevirtual 241, 3) := dk_182 0 241 (dk_at dksX1_tell_2 5 rfl rfl)
theorem dX1_tell_56 : decode cX1_tell 56 = .ok (.iinc 3 (-1), 3) := dk_132 3 255 (dk_at dksX1_tell_2 8 rfl rfl)
theorem dX1_tell_59 : decode cX1_tell 59 = .ok (.goto (-20), 3) := dk_167 255 236 (dk_at dksX1_tell_2 11 rfl rfl)
theorem dX1_tell_62 : decode cX1_tell 62 = .ok (.aload_n 2, 1) := dk_44 (dk_at dksX1_tell_2 14 rfl rfl)
theorem dX1_tell_63 : decode cX1_tell 63 = .ok (.getfield 248, 3) := dk_180 0 248 (dk_at dksX1_tell_2 15 rfl rfl)
theorem dX1_tell_66 : decode cX1_tell 66 = .ok (.ifCond .ne 12, 3) := dk_154 0 12 (dk_at dksX1_tell_2 18 rfl rfl)
theorem dX1_tell_69 : decode cX1_tell 69 = .ok (.aload_n 0, 1) := dk_42 (dk_at dksX1_tell_2 21 rfl rfl)
theorem dX1_tell_70 : decode cX1_tell 70 = .ok (.bipush 92, 2) := dk_16 92 (dk_at dksX1_tell_2 22 rfl rfl)
theorem dX1_tell_72 : decode cX1_tell 72 = .ok (.invokestatic 244, 3) := dk_184 0 244 (dk_at dksX1_tell_3 0 rfl rfl)
theorem dX1_tell_75 : decode cX1_tell 75 = .ok (.invokevirtual 241, 3) := dk_182 0 241 (dk_at dksX1_tell_3 3 rfl rfl)
theorem dX1_tell_78 : decode cX1_tell 78 = .ok (.return_, 1) := dk_177 (dk_at dksX1_tell_3 6 rfl rfl)
abbrev cX1_told : ByteArray := prog_1_method_29_code
def yX1_told : MethodName := ⟨RX1, "told", "(I)I"⟩
def dkwX1_told_0 : List UInt8 := [26, 16, 32, 160, 0, 9, 17, 10, 32, 167, 0, 8, 26, 17, 12, 0, 96, 172]
abbrev dktX1_told_0 : List UInt8 := dkwX1_told_0 ++ []
theorem dksX1_told_0 : cX1_told.data.toList.drop 0 = dktX1_told_0 := by decide +kernel
theorem dX1_told_0 : decode cX1_told 0 = .ok (.iload_n 0, 1) := dk_26 (dk_at dksX1_told_0 0 rfl rfl)
theorem dX1_told_1 : decode cX1_told 1 = .ok (.bipush 32, 2) := dk_16 32 (dk_at dksX1_told_0 1 rfl rfl)
theorem dX1_told_3 : decode cX1_told 3 = .ok (.if_icmp .ne 9, 3) := dk_160 0 9 (dk_at dksX1_told_0 3 rfl rfl)
theorem dX1_told_6 : decode cX1_told 6 = .ok (.sipush 2592, 3) := dk_17 10 32 (dk_at dksX1_told_0 6 rfl rfl)
theorem dX1_told_9 : decode cX1_told 9 = .ok (.goto 8, 3) := dk_167 0 8 (dk_at dksX1_told_0 9 rfl rfl)
theorem dX1_told_12 : decode cX1_told 12 = .ok (.iload_n 0, 1) := dk_26 (dk_at dksX1_told_0 12 rfl rfl)
theorem dX1_told_13 : decode cX1_told 13 = .ok (.sipush 3072, 3) := dk_17 12 0 (dk_at dksX1_told_0 13 rfl rfl)
theorem dX1_told_16 : decode cX1_told 16 = .ok (.iadd, 1) := dk_96 (dk_at dksX1_told_0 16 rfl rfl)
theorem dX1_told_17 : decode cX1_told 17 = .ok (.ireturn, 1) := dk_172 (dk_at dksX1_told_0 17 rfl rfl)
abbrev cX1_otherwise : ByteArray := prog_1_method_39_code
def yX1_otherwise : MethodName := ⟨RX1, "otherwise", "()V"⟩
def dkwX1_otherwise_1 : List UInt8 := [182, 0, 203, 42, 3, 182, 1, 51, 87, 42, 89, 180, 0, 136, 4, 100, 181, 0, 136, 177]
abbrev dktX1_otherwise_1 : List UInt8 := dkwX1_otherwise_1 ++ []
def dkwX1_otherwise_0 : List UInt8 := [42, 180, 0, 136, 153, 0, 18, 42, 180, 0, 48, 42, 180, 0, 136, 4, 100, 51, 4, 159, 0, 8, 42, 4]
abbrev dktX1_otherwise_0 : List UInt8 := dkwX1_otherwise_0 ++ dktX1_otherwise_1
theorem dksX1_otherwise_0 : cX1_otherwise.data.toList.drop 0 = dktX1_otherwise_0 := by decide +kernel
theorem dksX1_otherwise_1 : cX1_otherwise.data.toList.drop 24 = dktX1_otherwise_1 := dk_seg dksX1_otherwise_0 24 rfl rfl
theorem dX1_otherwise_0 : decode cX1_otherwise 0 = .ok (.aload_n 0, 1) := dk_42 (dk_at dksX1_otherwise_0 0 rfl rfl)
theorem dX1_otherwise_1 : decode cX1_otherwise 1 = .ok (.getfield 136, 3) := dk_180 0 136 (dk_at dksX1_otherwise_0 1 rfl rfl)
theorem dX1_otherwise_4 : decode cX1_otherwise 4 = .ok (.ifCond .eq 18, 3) := dk_153 0 18 (dk_at dksX1_otherwise_0 4 rfl rfl)
theorem dX1_otherwise_7 : decode cX1_otherwise 7 = .ok (.aload_n 0, 1) := dk_42 (dk_at dksX1_otherwise_0 7 rfl rfl)
theorem dX1_otherwise_8 : decode cX1_otherwise 8 = .ok (.getfield 48, 3) := dk_180 0 48 (dk_at dksX1_otherwise_0 8 rfl rfl)
theorem dX1_otherwise_11 : decode cX1_otherwise 11 = .ok (.aload_n 0, 1) := dk_42 (dk_at dksX1_otherwise_0 11 rfl rfl)
theorem dX1_otherwise_12 : decode cX1_otherwise 12 = .ok (.getfield 136, 3) := dk_180 0 136 (dk_at dksX1_otherwise_0 12 rfl rfl)
theorem dX1_otherwise_15 : decode cX1_otherwise 15 = .ok (.iconst 1, 1) := dk_4 (dk_at dksX1_otherwise_0 15 rfl rfl)
theorem dX1_otherwise_16 : decode cX1_otherwise 16 = .ok (.isub, 1) := dk_100 (dk_at dksX1_otherwise_0 16 rfl rfl)
theorem dX1_otherwise_17 : decode cX1_otherwise 17 = .ok (.baload, 1) := dk_51 (dk_at dksX1_otherwise_0 17 rfl rfl)
theorem dX1_otherwise_18 : decode cX1_otherwise 18 = .ok (.iconst 1, 1) := dk_4 (dk_at dksX1_otherwise_0 18 rfl rfl)
theorem dX1_otherwise_19 : decode cX1_otherwise 19 = .ok (.if_icmp .eq 8, 3) := dk_159 0 8 (dk_at dksX1_otherwise_0 19 rfl rfl)
theorem dX1_otherwise_22 : decode cX1_otherwise 22 = .ok (.aload_n 0, 1) := dk_42 (dk_at dksX1_otherwise_0 22 rfl rfl)
theorem dX1_otherwise_23 : decode cX1_otherwise 23 = .ok (.iconst 1, 1) := dk_4 (dk_at dksX1_otherwise_0 23 rfl rfl)
theorem dX1_otherwise_24 : decode cX1_otherwise 24 = .ok (.invokevirtual 203, 3) := dk_182 0 203 (dk_at dksX1_otherwise_1 0 rfl rfl)
theorem dX1_otherwise_27 : decode cX1_otherwise 27 = .ok (.aload_n 0, 1) := dk_42 (dk_at dksX1_otherwise_1 3 rfl rfl)
theorem dX1_otherwise_28 : decode cX1_otherwise 28 = .ok (.iconst 0, 1) := dk_3 (dk_at dksX1_otherwise_1 4 rfl rfl)
theorem dX1_otherwise_29 : decode cX1_otherwise 29 = .ok (.invokevirtual 307, 3) := dk_182 1 51 (dk_at dksX1_otherwise_1 5 rfl rfl)
theorem dX1_otherwise_32 : decode cX1_otherwise 32 = .ok (.pop, 1) := dk_87 (dk_at dksX1_otherwise_1 8 rfl rfl)
theorem dX1_otherwise_33 : decode cX1_otherwise 33 = .ok (.aload_n 0, 1) := dk_42 (dk_at dksX1_otherwise_1 9 rfl rfl)
theorem dX1_otherwise_34 : decode cX1_otherwise 34 = .ok (.dup, 1) := dk_89 (dk_at dksX1_otherwise_1 10 rfl rfl)
theorem dX1_otherwise_35 : decode cX1_otherwise 35 = .ok (.getfield 136, 3) := dk_180 0 136 (dk_at dksX1_otherwise_1 11 rfl rfl)
theorem dX1_otherwise_38 : decode cX1_otherwise 38 = .ok (.iconst 1, 1) := dk_4 (dk_at dksX1_otherwise_1 14 rfl rfl)
theorem dX1_otherwise_39 : decode cX1_otherwise 39 = .ok (.isub, 1) := dk_100 (dk_at dksX1_otherwise_1 15 rfl rfl)
theorem dX1_otherwise_40 : decode cX1_otherwise 40 = .ok (.putfield 136, 3) := dk_181 0 136 (dk_at dksX1_otherwise_1 16 rfl rfl)
theorem dX1_otherwise_43 : decode cX1_otherwise 43 = .ok (.return_, 1) := dk_177 (dk_at dksX1_otherwise_1 19 rfl rfl)
abbrev cX1_skip : ByteArray := prog_1_method_38_code
def yX1_skip : MethodName := ⟨RX1, "skip", "(Z)Z"⟩
def dkwX1_skip_2 : List UInt8 := [178, 1, 61, 166, 0, 13, 28, 154, 0, 9, 27, 153, 0, 5, 4, 172, 167, 255, 196, 3, 172]
abbrev dktX1_skip_2 : List UInt8 := dkwX1_skip_2 ++ []
def dkwX1_skip_1 : List UInt8 := [192, 0, 17, 182, 1, 55, 153, 0, 6, 132, 2, 1, 45, 178, 1, 58, 166, 0, 6, 132, 2, 255, 45]
abbrev dktX1_skip_1 : List UInt8 := dkwX1_skip_1 ++ dktX1_skip_2
def dkwX1_skip_0 : List UInt8 := [3, 61, 28, 155, 0, 62, 42, 42, 182, 0, 224, 182, 0, 176, 78, 45, 193, 0, 17, 153, 0, 16, 45]
abbrev dktX1_skip_0 : List UInt8 := dkwX1_skip_0 ++ dktX1_skip_1
theorem dksX1_skip_0 : cX1_skip.data.toList.drop 0 = dktX1_skip_0 := by decide +kernel
theorem dksX1_skip_1 : cX1_skip.data.toList.drop 23 = dktX1_skip_1 := dk_seg dksX1_skip_0 23 rfl rfl
theorem dksX1_skip_2 : cX1_skip.data.toList.drop 46 = dktX1_skip_2 := dk_seg dksX1_skip_1 23 rfl rfl
theorem dX1_skip_0 : decode cX1_skip 0 = .ok (.iconst 0, 1) := dk_3 (dk_at dksX1_skip_0 0 rfl rfl)
theorem dX1_skip_1 : decode cX1_skip 1 = .ok (.istore_n 2, 1) := dk_61 (dk_at dksX1_skip_0 1 rfl rfl)
theorem dX1_skip_2 : decode cX1_skip 2 = .ok (.iload_n 2, 1) := dk_28 (dk_at dksX1_skip_0 2 rfl rfl)
theorem dX1_skip_3 : decode cX1_skip 3 = .ok (.ifCond .lt 62, 3) := dk_155 0 62 (dk_at dksX1_skip_0 3 rfl rfl)
theorem dX1_skip_6 : decode cX1_skip 6 = .ok (.aload_n 0, 1) := dk_42 (dk_at dksX1_skip_0 6 rfl rfl)
theorem dX1_skip_7 : decode cX1_skip 7 = .ok (.aload_n 0, 1) := dk_42 (dk_at dksX1_skip_0 7 rfl rfl)
theorem dX1_skip_8 : decode cX1_skip 8 = .ok (.invokevirtual 224, 3) := dk_182 0 224 (dk_at dksX1_skip_0 8 rfl rfl)
theorem dX1_skip_11 : decode cX1_skip 11 = .ok (.invokevirtual 176, 3) := dk_182 0 176 (dk_at dksX1_skip_0 11 rfl rfl)
theorem dX1_skip_14 : decode cX1_skip 14 = .ok (.astore_n 3, 1) := dk_78 (dk_at dksX1_skip_0 14 rfl rfl)
theorem dX1_skip_15 : decode cX1_skip 15 = .ok (.aload_n 3, 1) := dk_45 (dk_at dksX1_skip_0 15 rfl rfl)
theorem dX1_skip_16 : decode cX1_skip 16 = .ok (.instanceof 17, 3) := dk_193 0 17 (dk_at dksX1_skip_0 16 rfl rfl)
theorem dX1_skip_19 : decode cX1_skip 19 = .ok (.ifCond .eq 16, 3) := dk_153 0 16 (dk_at dksX1_skip_0 19 rfl rfl)
theorem dX1_skip_22 : decode cX1_skip 22 = .ok (.aload_n 3, 1) := dk_45 (dk_at dksX1_skip_0 22 rfl rfl)
theorem dX1_skip_23 : decode cX1_skip 23 = .ok (.checkcast 17, 3) := dk_192 0 17 (dk_at dksX1_skip_1 0 rfl rfl)
theorem dX1_skip_26 : decode cX1_skip 26 = .ok (.invokevirtual 311, 3) := dk_182 1 55 (dk_at dksX1_skip_1 3 rfl rfl)
theorem dX1_skip_29 : decode cX1_skip 29 = .ok (.ifCond .eq 6, 3) := dk_153 0 6 (dk_at dksX1_skip_1 6 rfl rfl)
theorem dX1_skip_32 : decode cX1_skip 32 = .ok (.iinc 2 1, 3) := dk_132 2 1 (dk_at dksX1_skip_1 9 rfl rfl)
theorem dX1_skip_35 : decode cX1_skip 35 = .ok (.aload_n 3, 1) := dk_45 (dk_at dksX1_skip_1 12 rfl rfl)
theorem dX1_skip_36 : decode cX1_skip 36 = .ok (.getstatic 314, 3) := dk_178 1 58 (dk_at dksX1_skip_1 13 rfl rfl)
theorem dX1_skip_39 : decode cX1_skip 39 = .ok (.if_acmp .ne 6, 3) := dk_166 0 6 (dk_at dksX1_skip_1 16 rfl rfl)
theorem dX1_skip_42 : decode cX1_skip 42 = .ok (.iinc 2 (-1), 3) := dk_132 2 255 (dk_at dksX1_skip_1 19 rfl rfl)
theorem dX1_skip_45 : decode cX1_skip 45 = .ok (.aload_n 3, 1) := dk_45 (dk_at dksX1_skip_1 22 rfl rfl)
theorem dX1_skip_46 : decode cX1_skip 46 = .ok (.getstatic 317, 3) := dk_178 1 61 (dk_at dksX1_skip_2 0 rfl rfl)
theorem dX1_skip_49 : decode cX1_skip 49 = .ok (.if_acmp .ne 13, 3) := dk_166 0 13 (dk_at dksX1_skip_2 3 rfl rfl)
theorem dX1_skip_52 : decode cX1_skip 52 = .ok (.iload_n 2, 1) := dk_28 (dk_at dksX1_skip_2 6 rfl rfl)
theorem dX1_skip_53 : decode cX1_skip 53 = .ok (.ifCond .ne 9, 3) := dk_154 0 9 (dk_at dksX1_skip_2 7 rfl rfl)
theorem dX1_skip_56 : decode cX1_skip 56 = .ok (.iload_n 1, 1) := dk_27 (dk_at dksX1_skip_2 10 rfl rfl)
theorem dX1_skip_57 : decode cX1_skip 57 = .ok (.ifCond .eq 5, 3) := dk_153 0 5 (dk_at dksX1_skip_2 11 rfl rfl)
theorem dX1_skip_60 : decode cX1_skip 60 = .ok (.iconst 1, 1) := dk_4 (dk_at dksX1_skip_2 14 rfl rfl)
theorem dX1_skip_61 : decode cX1_skip 61 = .ok (.ireturn, 1) := dk_172 (dk_at dksX1_skip_2 15 rfl rfl)
theorem dX1_skip_62 : decode cX1_skip 62 = .ok (.goto (-60), 3) := dk_167 255 196 (dk_at dksX1_skip_2 16 rfl rfl)
theorem dX1_skip_65 : decode cX1_skip 65 = .ok (.iconst 0, 1) := dk_3 (dk_at dksX1_skip_2 19 rfl rfl)
theorem dX1_skip_66 : decode cX1_skip 66 = .ok (.ireturn, 1) := dk_172 (dk_at dksX1_skip_2 20 rfl rfl)
abbrev cX1_close : ByteArray := prog_1_method_40_code
def yX1_close : MethodName := ⟨RX1, "close", "()V"⟩
def dkwX1_close_1 : List UInt8 := [182, 0, 203, 42, 89, 180, 0, 136, 4, 100, 181, 0, 136, 177]
abbrev dktX1_close_1 : List UInt8 := dkwX1_close_1 ++ []
def dkwX1_close_0 : List UInt8 := [42, 180, 0, 136, 153, 0, 17, 42, 180, 0, 48, 42, 180, 0, 136, 4, 100, 51, 154, 0, 8, 42, 4]
abbrev dktX1_close_0 : List UInt8 := dkwX1_close_0 ++ dktX1_close_1
theorem dksX1_close_0 : cX1_close.data.toList.drop 0 = dktX1_close_0 := by decide +kernel
theorem dksX1_close_1 : cX1_close.data.toList.drop 23 = dktX1_close_1 := dk_seg dksX1_close_0 23 rfl rfl
theorem dX1_close_0 : decode cX1_close 0 = .ok (.aload_n 0, 1) := dk_42 (dk_at dksX1_close_0 0 rfl rfl)
theorem dX1_close_1 : decode cX1_close 1 = .ok (.getfield 136, 3) := dk_180 0 136 (dk_at dksX1_close_0 1 rfl rfl)
theorem dX1_close_4 : decode cX1_close 4 = .ok (.ifCond .eq 17, 3) := dk_153 0 17 (dk_at dksX1_close_0 4 rfl rfl)
theorem dX1_close_7 : decode cX1_close 7 = .ok (.aload_n 0, 1) := dk_42 (dk_at dksX1_close_0 7 rfl rfl)
theorem dX1_close_8 : decode cX1_close 8 = .ok (.getfield 48, 3) := dk_180 0 48 (dk_at dksX1_close_0 8 rfl rfl)
theorem dX1_close_11 : decode cX1_close 11 = .ok (.aload_n 0, 1) := dk_42 (dk_at dksX1_close_0 11 rfl rfl)
theorem dX1_close_12 : decode cX1_close 12 = .ok (.getfield 136, 3) := dk_180 0 136 (dk_at dksX1_close_0 12 rfl rfl)
theorem dX1_close_15 : decode cX1_close 15 = .ok (.iconst 1, 1) := dk_4 (dk_at dksX1_close_0 15 rfl rfl)
theorem dX1_close_16 : decode cX1_close 16 = .ok (.isub, 1) := dk_100 (dk_at dksX1_close_0 16 rfl rfl)
theorem dX1_close_17 : decode cX1_close 17 = .ok (.baload, 1) := dk_51 (dk_at dksX1_close_0 17 rfl rfl)
theorem dX1_close_18 : decode cX1_close 18 = .ok (.ifCond .ne 8, 3) := dk_154 0 8 (dk_at dksX1_close_0 18 rfl rfl)
theorem dX1_close_21 : decode cX1_close 21 = .ok (.aload_n 0, 1) := dk_42 (dk_at dksX1_close_0 21 rfl rfl)
theorem dX1_close_22 : decode cX1_close 22 = .ok (.iconst 1, 1) := dk_4 (dk_at dksX1_close_0 22 rfl rfl)
theorem dX1_close_23 : decode cX1_close 23 = .ok (.invokevirtual 203, 3) := dk_182 0 203 (dk_at dksX1_close_1 0 rfl rfl)
theorem dX1_close_26 : decode cX1_close 26 = .ok (.aload_n 0, 1) := dk_42 (dk_at dksX1_close_1 3 rfl rfl)
theorem dX1_close_27 : decode cX1_close 27 = .ok (.dup, 1) := dk_89 (dk_at dksX1_close_1 4 rfl rfl)
theorem dX1_close_28 : decode cX1_close 28 = .ok (.getfield 136, 3) := dk_180 0 136 (dk_at dksX1_close_1 5 rfl rfl)
theorem dX1_close_31 : decode cX1_close 31 = .ok (.iconst 1, 1) := dk_4 (dk_at dksX1_close_1 8 rfl rfl)
theorem dX1_close_32 : decode cX1_close 32 = .ok (.isub, 1) := dk_100 (dk_at dksX1_close_1 9 rfl rfl)
theorem dX1_close_33 : decode cX1_close 33 = .ok (.putfield 136, 3) := dk_181 0 136 (dk_at dksX1_close_1 10 rfl rfl)
theorem dX1_close_36 : decode cX1_close 36 = .ok (.return_, 1) := dk_177 (dk_at dksX1_close_1 13 rfl rfl)
abbrev cX1_test : ByteArray := prog_1_method_37_code
def yX1_test : MethodName := ⟨RX1, "test", "(LTokenMouth$Command;)V"⟩
def dkwX1_test_6 : List UInt8 := [180, 0, 48, 28, 5, 84, 167, 0, 13, 42, 89, 180, 0, 136, 4, 100, 181, 0, 136, 177]
abbrev dktX1_test_6 : List UInt8 := dkwX1_test_6 ++ []
def dkwX1_test_5 : List UInt8 := [181, 0, 136, 42, 180, 0, 48, 28, 4, 84, 29, 153, 0, 4, 177, 42, 4, 182, 1, 51, 153, 0, 13, 42]
abbrev dktX1_test_5 : List UInt8 := dkwX1_test_5 ++ dktX1_test_6
def dkwX1_test_4 : List UInt8 := [166, 0, 20, 42, 182, 0, 224, 54, 4, 42, 21, 4, 42, 182, 0, 224, 182, 1, 48, 62, 42, 28, 4, 96]
abbrev dktX1_test_4 : List UInt8 := dkwX1_test_4 ++ dktX1_test_5
def dkwX1_test_3 : List UInt8 := [182, 0, 252, 182, 1, 42, 160, 0, 7, 4, 167, 0, 4, 3, 62, 167, 0, 27, 43, 178, 1, 45]
abbrev dktX1_test_3 : List UInt8 := dkwX1_test_3 ++ dktX1_test_4
def dkwX1_test_2 : List UInt8 := [62, 43, 178, 1, 39, 166, 0, 35, 42, 42, 182, 0, 252, 182, 1, 42, 54, 4, 21, 4, 42, 42]
abbrev dktX1_test_2 : List UInt8 := dkwX1_test_2 ++ dktX1_test_3
def dkwX1_test_1 : List UInt8 := [3, 84, 42, 89, 180, 0, 136, 4, 96, 181, 0, 136, 43, 178, 1, 36, 166, 0, 7, 4, 167, 0, 4, 3]
abbrev dktX1_test_1 : List UInt8 := dkwX1_test_1 ++ dktX1_test_2
def dkwX1_test_0 : List UInt8 := [42, 180, 0, 136, 16, 12, 160, 0, 8, 42, 8, 182, 0, 203, 42, 180, 0, 136, 61, 42, 180, 0, 48, 28]
abbrev dktX1_test_0 : List UInt8 := dkwX1_test_0 ++ dktX1_test_1
theorem dksX1_test_0 : cX1_test.data.toList.drop 0 = dktX1_test_0 := by decide +kernel
theorem dksX1_test_1 : cX1_test.data.toList.drop 24 = dktX1_test_1 := dk_seg dksX1_test_0 24 rfl rfl
theorem dksX1_test_2 : cX1_test.data.toList.drop 48 = dktX1_test_2 := dk_seg dksX1_test_1 24 rfl rfl
theorem dksX1_test_3 : cX1_test.data.toList.drop 70 = dktX1_test_3 := dk_seg dksX1_test_2 22 rfl rfl
theorem dksX1_test_4 : cX1_test.data.toList.drop 92 = dktX1_test_4 := dk_seg dksX1_test_3 22 rfl rfl
theorem dksX1_test_5 : cX1_test.data.toList.drop 116 = dktX1_test_5 := dk_seg dksX1_test_4 24 rfl rfl
theorem dksX1_test_6 : cX1_test.data.toList.drop 140 = dktX1_test_6 := dk_seg dksX1_test_5 24 rfl rfl
theorem dX1_test_0 : decode cX1_test 0 = .ok (.aload_n 0, 1) := dk_42 (dk_at dksX1_test_0 0 rfl rfl)
theorem dX1_test_1 : decode cX1_test 1 = .ok (.getfield 136, 3) := dk_180 0 136 (dk_at dksX1_test_0 1 rfl rfl)
theorem dX1_test_4 : decode cX1_test 4 = .ok (.bipush 12, 2) := dk_16 12 (dk_at dksX1_test_0 4 rfl rfl)
theorem dX1_test_6 : decode cX1_test 6 = .ok (.if_icmp .ne 8, 3) := dk_160 0 8 (dk_at dksX1_test_0 6 rfl rfl)
theorem dX1_test_9 : decode cX1_test 9 = .ok (.aload_n 0, 1) := dk_42 (dk_at dksX1_test_0 9 rfl rfl)
theorem dX1_test_10 : decode cX1_test 10 = .ok (.iconst 5, 1) := dk_8 (dk_at dksX1_test_0 10 rfl rfl)
theorem dX1_test_11 : decode cX1_test 11 = .ok (.invokevirtual 203, 3) := dk_182 0 203 (dk_at dksX1_test_0 11 rfl rfl)
theorem dX1_test_14 : decode cX1_test 14 = .ok (.aload_n 0, 1) := dk_42 (dk_at dksX1_test_0 14 rfl rfl)
theorem dX1_test_15 : decode cX1_test 15 = .ok (.getfield 136, 3) := dk_180 0 136 (dk_at dksX1_test_0 15 rfl rfl)
theorem dX1_test_18 : decode cX1_test 18 = .ok (.istore_n 2, 1) := dk_61 (dk_at dksX1_test_0 18 rfl rfl)
theorem dX1_test_19 : decode cX1_test 19 = .ok (.aload_n 0, 1) := dk_42 (dk_at dksX1_test_0 19 rfl rfl)
theorem dX1_test_20 : decode cX1_test 20 = .ok (.getfield 48, 3) := dk_180 0 48 (dk_at dksX1_test_0 20 rfl rfl)
theorem dX1_test_23 : decode cX1_test 23 = .ok (.iload_n 2, 1) := dk_28 (dk_at dksX1_test_0 23 rfl rfl)
theorem dX1_test_24 : decode cX1_test 24 = .ok (.iconst 0, 1) := dk_3 (dk_at dksX1_test_1 0 rfl rfl)
theorem dX1_test_25 : decode cX1_test 25 = .ok (.bastore, 1) := dk_84 (dk_at dksX1_test_1 1 rfl rfl)
theorem dX1_test_26 : decode cX1_test 26 = .ok (.aload_n 0, 1) := dk_42 (dk_at dksX1_test_1 2 rfl rfl)
theorem dX1_test_27 : decode cX1_test 27 = .ok (.dup, 1) := dk_89 (dk_at dksX1_test_1 3 rfl rfl)
theorem dX1_test_28 : decode cX1_test 28 = .ok (.getfield 136, 3) := dk_180 0 136 (dk_at dksX1_test_1 4 rfl rfl)
theorem dX1_test_31 : decode cX1_test 31 = .ok (.iconst 1, 1) := dk_4 (dk_at dksX1_test_1 7 rfl rfl)
theorem dX1_test_32 : decode cX1_test 32 = .ok (.iadd, 1) := dk_96 (dk_at dksX1_test_1 8 rfl rfl)
theorem dX1_test_33 : decode cX1_test 33 = .ok (.putfield 136, 3) := dk_181 0 136 (dk_at dksX1_test_1 9 rfl rfl)
theorem dX1_test_36 : decode cX1_test 36 = .ok (.aload_n 1, 1) := dk_43 (dk_at dksX1_test_1 12 rfl rfl)
theorem dX1_test_37 : decode cX1_test 37 = .ok (.getstatic 292, 3) := dk_178 1 36 (dk_at dksX1_test_1 13 rfl rfl)
theorem dX1_test_40 : decode cX1_test 40 = .ok (.if_acmp .ne 7, 3) := dk_166 0 7 (dk_at dksX1_test_1 16 rfl rfl)
theorem dX1_test_43 : decode cX1_test 43 = .ok (.iconst 1, 1) := dk_4 (dk_at dksX1_test_1 19 rfl rfl)
theorem dX1_test_44 : decode cX1_test 44 = .ok (.goto 4, 3) := dk_167 0 4 (dk_at dksX1_test_1 20 rfl rfl)
theorem dX1_test_47 : decode cX1_test 47 = .ok (.iconst 0, 1) := dk_3 (dk_at dksX1_test_1 23 rfl rfl)
theorem dX1_test_48 : decode cX1_test 48 = .ok (.istore_n 3, 1) := dk_62 (dk_at dksX1_test_2 0 rfl rfl)
theorem dX1_test_49 : decode cX1_test 49 = .ok (.aload_n 1, 1) := dk_43 (dk_at dksX1_test_2 1 rfl rfl)
theorem dX1_test_50 : decode cX1_test 50 = .ok (.getstatic 295, 3) := dk_178 1 39 (dk_at dksX1_test_2 2 rfl rfl)
theorem dX1_test_53 : decode cX1_test 53 = .ok (.if_acmp .ne 35, 3) := dk_166 0 35 (dk_at dksX1_test_2 5 rfl rfl)
theorem dX1_test_56 : decode cX1_test 56 = .ok (.aload_n 0, 1) := dk_42 (dk_at dksX1_test_2 8 rfl rfl)
theorem dX1_test_57 : decode cX1_test 57 = .ok (.aload_n 0, 1) := dk_42 (dk_at dksX1_test_2 9 rfl rfl)
theorem dX1_test_58 : decode cX1_test 58 = .ok (.invokevirtual 252, 3) := dk_182 0 252 (dk_at dksX1_test_2 10 rfl rfl)
theorem dX1_test_61 : decode cX1_test 61 = .ok (.invokevirtual 298, 3) := dk_182 1 42 (dk_at dksX1_test_2 13 rfl rfl)
theorem dX1_test_64 : decode cX1_test 64 = .ok (.istore 4, 2) := dk_54 4 (dk_at dksX1_test_2 16 rfl rfl)
theorem dX1_test_66 : decode cX1_test 66 = .ok (.iload 4, 2) := dk_21 4 (dk_at dksX1_test_2 18 rfl rfl)
theorem dX1_test_68 : decode cX1_test 68 = .ok (.aload_n 0, 1) := dk_42 (dk_at dksX1_test_2 20 rfl rfl)
theorem dX1_test_69 : decode cX1_test 69 = .ok (.aload_n 0, 1) := dk_42 (dk_at dksX1_test_2 21 rfl rfl)
theorem dX1_test_70 : decode cX1_test 70 = .ok (.invokevirtual 252, 3) := dk_182 0 252 (dk_at dksX1_test_3 0 rfl rfl)
theorem dX1_test_73 : decode cX1_test 73 = .ok (.invokevirtual 298, 3) := dk_182 1 42 (dk_at dksX1_test_3 3 rfl rfl)
theorem dX1_test_76 : decode cX1_test 76 = .ok (.if_icmp .ne 7, 3) := dk_160 0 7 (dk_at dksX1_test_3 6 rfl rfl)
theorem dX1_test_79 : decode cX1_test 79 = .ok (.iconst 1, 1) := dk_4 (dk_at dksX1_test_3 9 rfl rfl)
theorem dX1_test_80 : decode cX1_test 80 = .ok (.goto 4, 3) := dk_167 0 4 (dk_at dksX1_test_3 10 rfl rfl)
theorem dX1_test_83 : decode cX1_test 83 = .ok (.iconst 0, 1) := dk_3 (dk_at dksX1_test_3 13 rfl rfl)
theorem dX1_test_84 : decode cX1_test 84 = .ok (.istore_n 3, 1) := dk_62 (dk_at dksX1_test_3 14 rfl rfl)
theorem dX1_test_85 : decode cX1_test 85 = .ok (.goto 27, 3) := dk_167 0 27 (dk_at dksX1_test_3 15 rfl rfl)
theorem dX1_test_88 : decode cX1_test 88 = .ok (.aload_n 1, 1) := dk_43 (dk_at dksX1_test_3 18 rfl rfl)
theorem dX1_test_89 : decode cX1_test 89 = .ok (.getstatic 301, 3) := dk_178 1 45 (dk_at dksX1_test_3 19 rfl rfl)
theorem dX1_test_92 : decode cX1_test 92 = .ok (.if_acmp .ne 20, 3) := dk_166 0 20 (dk_at dksX1_test_4 0 rfl rfl)
theorem dX1_test_95 : decode cX1_test 95 = .ok (.aload_n 0, 1) := dk_42 (dk_at dksX1_test_4 3 rfl rfl)
theorem dX1_test_96 : decode cX1_test 96 = .ok (.invokevirtual 224, 3) := dk_182 0 224 (dk_at dksX1_test_4 4 rfl rfl)
theorem dX1_test_99 : decode cX1_test 99 = .ok (.istore 4, 2) := dk_54 4 (dk_at dksX1_test_4 7 rfl rfl)
theorem dX1_test_101 : decode cX1_test 101 = .ok (.aload_n 0, 1) := dk_42 (dk_at dksX1_test_4 9 rfl rfl)
theorem dX1_test_102 : decode cX1_test 102 = .ok (.iload 4, 2) := dk_21 4 (dk_at dksX1_test_4 10 rfl rfl)
theorem dX1_test_104 : decode cX1_test 104 = .ok (.aload_n 0, 1) := dk_42 (dk_at dksX1_test_4 12 rfl rfl)
theorem dX1_test_105 : decode cX1_test 105 = .ok (.invokevirtual 224, 3) := dk_182 0 224 (dk_at dksX1_test_4 13 rfl rfl)
theorem dX1_test_108 : decode cX1_test 108 = .ok (.invokevirtual 304, 3) := dk_182 1 48 (dk_at dksX1_test_4 16 rfl rfl)
theorem dX1_test_111 : decode cX1_test 111 = .ok (.istore_n 3, 1) := dk_62 (dk_at dksX1_test_4 19 rfl rfl)
theorem dX1_test_112 : decode cX1_test 112 = .ok (.aload_n 0, 1) := dk_42 (dk_at dksX1_test_4 20 rfl rfl)
theorem dX1_test_113 : decode cX1_test 113 = .ok (.iload_n 2, 1) := dk_28 (dk_at dksX1_test_4 21 rfl rfl)
theorem dX1_test_114 : decode cX1_test 114 = .ok (.iconst 1, 1) := dk_4 (dk_at dksX1_test_4 22 rfl rfl)
theorem dX1_test_115 : decode cX1_test 115 = .ok (.iadd, 1) := dk_96 (dk_at dksX1_test_4 23 rfl rfl)
theorem dX1_test_116 : decode cX1_test 116 = .ok (.putfield 136, 3) := dk_181 0 136 (dk_at dksX1_test_5 0 rfl rfl)
theorem dX1_test_119 : decode cX1_test 119 = .ok (.aload_n 0, 1) := dk_42 (dk_at dksX1_test_5 3 rfl rfl)
theorem dX1_test_120 : decode cX1_test 120 = .ok (.getfield 48, 3) := dk_180 0 48 (dk_at dksX1_test_5 4 rfl rfl)
theorem dX1_test_123 : decode cX1_test 123 = .ok (.iload_n 2, 1) := dk_28 (dk_at dksX1_test_5 7 rfl rfl)
theorem dX1_test_124 : decode cX1_test 124 = .ok (.iconst 1, 1) := dk_4 (dk_at dksX1_test_5 8 rfl rfl)
theorem dX1_test_125 : decode cX1_test 125 = .ok (.bastore, 1) := dk_84 (dk_at dksX1_test_5 9 rfl rfl)
theorem dX1_test_126 : decode cX1_test 126 = .ok (.iload_n 3, 1) := dk_29 (dk_at dksX1_test_5 10 rfl rfl)
theorem dX1_test_127 : decode cX1_test 127 = .ok (.ifCond .eq 4, 3) := dk_153 0 4 (dk_at dksX1_test_5 11 rfl rfl)
theorem dX1_test_130 : decode cX1_test 130 = .ok (.return_, 1) := dk_177 (dk_at dksX1_test_5 14 rfl rfl)
theorem dX1_test_131 : decode cX1_test 131 = .ok (.aload_n 0, 1) := dk_42 (dk_at dksX1_test_5 15 rfl rfl)
theorem dX1_test_132 : decode cX1_test 132 = .ok (.iconst 1, 1) := dk_4 (dk_at dksX1_test_5 16 rfl rfl)
theorem dX1_test_133 : decode cX1_test 133 = .ok (.invokevirtual 307, 3) := dk_182 1 51 (dk_at dksX1_test_5 17 rfl rfl)
theorem dX1_test_136 : decode cX1_test 136 = .ok (.ifCond .eq 13, 3) := dk_153 0 13 (dk_at dksX1_test_5 20 rfl rfl)
theorem dX1_test_139 : decode cX1_test 139 = .ok (.aload_n 0, 1) := dk_42 (dk_at dksX1_test_5 23 rfl rfl)
theorem dX1_test_140 : decode cX1_test 140 = .ok (.getfield 48, 3) := dk_180 0 48 (dk_at dksX1_test_6 0 rfl rfl)
theorem dX1_test_143 : decode cX1_test 143 = .ok (.iload_n 2, 1) := dk_28 (dk_at dksX1_test_6 3 rfl rfl)
theorem dX1_test_144 : decode cX1_test 144 = .ok (.iconst 2, 1) := dk_5 (dk_at dksX1_test_6 4 rfl rfl)
theorem dX1_test_145 : decode cX1_test 145 = .ok (.bastore, 1) := dk_84 (dk_at dksX1_test_6 5 rfl rfl)
theorem dX1_test_146 : decode cX1_test 146 = .ok (.goto 13, 3) := dk_167 0 13 (dk_at dksX1_test_6 6 rfl rfl)
theorem dX1_test_149 : decode cX1_test 149 = .ok (.aload_n 0, 1) := dk_42 (dk_at dksX1_test_6 9 rfl rfl)
theorem dX1_test_150 : decode cX1_test 150 = .ok (.dup, 1) := dk_89 (dk_at dksX1_test_6 10 rfl rfl)
theorem dX1_test_151 : decode cX1_test 151 = .ok (.getfield 136, 3) := dk_180 0 136 (dk_at dksX1_test_6 11 rfl rfl)
theorem dX1_test_154 : decode cX1_test 154 = .ok (.iconst 1, 1) := dk_4 (dk_at dksX1_test_6 14 rfl rfl)
theorem dX1_test_155 : decode cX1_test 155 = .ok (.isub, 1) := dk_100 (dk_at dksX1_test_6 15 rfl rfl)
theorem dX1_test_156 : decode cX1_test 156 = .ok (.putfield 136, 3) := dk_181 0 136 (dk_at dksX1_test_6 16 rfl rfl)
theorem dX1_test_159 : decode cX1_test 159 = .ok (.return_, 1) := dk_177 (dk_at dksX1_test_6 19 rfl rfl)
abbrev cX1_codeOf : ByteArray := prog_1_method_35_code
def yX1_codeOf : MethodName := ⟨RX1, "codeOf", "(I)I"⟩
def dkwX1_codeOf_0 : List UInt8 := [42, 27, 182, 1, 29, 61, 28, 2, 160, 0, 9, 17, 1, 0, 167, 0, 8, 28, 17, 0, 255, 126, 172]
abbrev dktX1_codeOf_0 : List UInt8 := dkwX1_codeOf_0 ++ []
theorem dksX1_codeOf_0 : cX1_codeOf.data.toList.drop 0 = dktX1_codeOf_0 := by decide +kernel
theorem dX1_codeOf_0 : decode cX1_codeOf 0 = .ok (.aload_n 0, 1) := dk_42 (dk_at dksX1_codeOf_0 0 rfl rfl)
theorem dX1_codeOf_1 : decode cX1_codeOf 1 = .ok (.iload_n 1, 1) := dk_27 (dk_at dksX1_codeOf_0 1 rfl rfl)
theorem dX1_codeOf_2 : decode cX1_codeOf 2 = .ok (.invokevirtual 285, 3) := dk_182 1 29 (dk_at dksX1_codeOf_0 2 rfl rfl)
theorem dX1_codeOf_5 : decode cX1_codeOf 5 = .ok (.istore_n 2, 1) := dk_61 (dk_at dksX1_codeOf_0 5 rfl rfl)
theorem dX1_codeOf_6 : decode cX1_codeOf 6 = .ok (.iload_n 2, 1) := dk_28 (dk_at dksX1_codeOf_0 6 rfl rfl)
theorem dX1_codeOf_7 : decode cX1_codeOf 7 = .ok (.iconst (-1), 1) := dk_2 (dk_at dksX1_codeOf_0 7 rfl rfl)
theorem dX1_codeOf_8 : decode cX1_codeOf 8 = .ok (.if_icmp .ne 9, 3) := dk_160 0 9 (dk_at dksX1_codeOf_0 8 rfl rfl)
theorem dX1_codeOf_11 : decode cX1_codeOf 11 = .ok (.sipush 256, 3) := dk_17 1 0 (dk_at dksX1_codeOf_0 11 rfl rfl)
theorem dX1_codeOf_14 : decode cX1_codeOf 14 = .ok (.goto 8, 3) := dk_167 0 8 (dk_at dksX1_codeOf_0 14 rfl rfl)
theorem dX1_codeOf_17 : decode cX1_codeOf 17 = .ok (.iload_n 2, 1) := dk_28 (dk_at dksX1_codeOf_0 17 rfl rfl)
theorem dX1_codeOf_18 : decode cX1_codeOf 18 = .ok (.sipush 255, 3) := dk_17 0 255 (dk_at dksX1_codeOf_0 18 rfl rfl)
theorem dX1_codeOf_21 : decode cX1_codeOf 21 = .ok (.iand, 1) := dk_126 (dk_at dksX1_codeOf_0 21 rfl rfl)
theorem dX1_codeOf_22 : decode cX1_codeOf 22 = .ok (.ireturn, 1) := dk_172 (dk_at dksX1_codeOf_0 22 rfl rfl)
abbrev cX1_signOf : ByteArray := prog_1_method_16_code
def yX1_signOf : MethodName := ⟨RX1, "signOf", "(I)I"⟩
def dkwX1_signOf_1 : List UInt8 := [192, 0, 186, 180, 0, 188, 167, 0, 4, 2, 172]
abbrev dktX1_signOf_1 : List UInt8 := dkwX1_signOf_1 ++ []
def dkwX1_signOf_0 : List UInt8 := [27, 184, 0, 158, 153, 0, 5, 27, 172, 42, 27, 182, 0, 176, 77, 44, 193, 0, 186, 153, 0, 13, 44]
abbrev dktX1_signOf_0 : List UInt8 := dkwX1_signOf_0 ++ dktX1_signOf_1
theorem dksX1_signOf_0 : cX1_signOf.data.toList.drop 0 = dktX1_signOf_0 := by decide +kernel
theorem dksX1_signOf_1 : cX1_signOf.data.toList.drop 23 = dktX1_signOf_1 := dk_seg dksX1_signOf_0 23 rfl rfl
theorem dX1_signOf_0 : decode cX1_signOf 0 = .ok (.iload_n 1, 1) := dk_27 (dk_at dksX1_signOf_0 0 rfl rfl)
theorem dX1_signOf_1 : decode cX1_signOf 1 = .ok (.invokestatic 158, 3) := dk_184 0 158 (dk_at dksX1_signOf_0 1 rfl rfl)
theorem dX1_signOf_4 : decode cX1_signOf 4 = .ok (.ifCond .eq 5, 3) := dk_153 0 5 (dk_at dksX1_signOf_0 4 rfl rfl)
theorem dX1_signOf_7 : decode cX1_signOf 7 = .ok (.iload_n 1, 1) := dk_27 (dk_at dksX1_signOf_0 7 rfl rfl)
theorem dX1_signOf_8 : decode cX1_signOf 8 = .ok (.ireturn, 1) := dk_172 (dk_at dksX1_signOf_0 8 rfl rfl)
theorem dX1_signOf_9 : decode cX1_signOf 9 = .ok (.aload_n 0, 1) := dk_42 (dk_at dksX1_signOf_0 9 rfl rfl)
theorem dX1_signOf_10 : decode cX1_signOf 10 = .ok (.iload_n 1, 1) := dk_27 (dk_at dksX1_signOf_0 10 rfl rfl)
theorem dX1_signOf_11 : decode cX1_signOf 11 = .ok (.invokevirtual 176, 3) := dk_182 0 176 (dk_at dksX1_signOf_0 11 rfl rfl)
theorem dX1_signOf_14 : decode cX1_signOf 14 = .ok (.astore_n 2, 1) := dk_77 (dk_at dksX1_signOf_0 14 rfl rfl)
theorem dX1_signOf_15 : decode cX1_signOf 15 = .ok (.aload_n 2, 1) := dk_44 (dk_at dksX1_signOf_0 15 rfl rfl)
theorem dX1_signOf_16 : decode cX1_signOf 16 = .ok (.instanceof 186, 3) := dk_193 0 186 (dk_at dksX1_signOf_0 16 rfl rfl)
theorem dX1_signOf_19 : decode cX1_signOf 19 = .ok (.ifCond .eq 13, 3) := dk_153 0 13 (dk_at dksX1_signOf_0 19 rfl rfl)
theorem dX1_signOf_22 : decode cX1_signOf 22 = .ok (.aload_n 2, 1) := dk_44 (dk_at dksX1_signOf_0 22 rfl rfl)
theorem dX1_signOf_23 : decode cX1_signOf 23 = .ok (.checkcast 186, 3) := dk_192 0 186 (dk_at dksX1_signOf_1 0 rfl rfl)
theorem dX1_signOf_26 : decode cX1_signOf 26 = .ok (.getfield 188, 3) := dk_180 0 188 (dk_at dksX1_signOf_1 3 rfl rfl)
theorem dX1_signOf_29 : decode cX1_signOf 29 = .ok (.goto 4, 3) := dk_167 0 4 (dk_at dksX1_signOf_1 6 rfl rfl)
theorem dX1_signOf_32 : decode cX1_signOf 32 = .ok (.iconst (-1), 1) := dk_2 (dk_at dksX1_signOf_1 9 rfl rfl)
theorem dX1_signOf_33 : decode cX1_signOf 33 = .ok (.ireturn, 1) := dk_172 (dk_at dksX1_signOf_1 10 rfl rfl)
abbrev cX1_meansSame : ByteArray := prog_1_method_36_code
def yX1_meansSame : MethodName := ⟨RX1, "meansSame", "(II)Z"⟩
def dkwX1_meansSame_3 : List UInt8 := [25, 5, 42, 28, 182, 0, 176, 185, 1, 32, 2, 0, 153, 0, 7, 4, 167, 0, 4, 3, 172]
abbrev dktX1_meansSame_3 : List UInt8 := dkwX1_meansSame_3 ++ []
def dkwX1_meansSame_2 : List UInt8 := [42, 28, 182, 0, 176, 199, 0, 7, 4, 167, 0, 35, 3, 167, 0, 31, 42, 28, 182, 0, 176, 198, 0, 22]
abbrev dktX1_meansSame_2 : List UInt8 := dkwX1_meansSame_2 ++ dktX1_meansSame_3
def dkwX1_meansSame_1 : List UInt8 := [29, 21, 4, 160, 0, 7, 4, 167, 0, 4, 3, 172, 42, 27, 182, 0, 176, 58, 5, 25, 5, 199, 0, 19]
abbrev dktX1_meansSame_1 : List UInt8 := dkwX1_meansSame_1 ++ dktX1_meansSame_2
def dkwX1_meansSame_0 : List UInt8 := [42, 27, 182, 1, 29, 62, 42, 28, 182, 1, 29, 54, 4, 29, 2, 160, 0, 9, 21, 4, 2, 159, 0, 15]
abbrev dktX1_meansSame_0 : List UInt8 := dkwX1_meansSame_0 ++ dktX1_meansSame_1
theorem dksX1_meansSame_0 : cX1_meansSame.data.toList.drop 0 = dktX1_meansSame_0 := by decide +kernel
theorem dksX1_meansSame_1 : cX1_meansSame.data.toList.drop 24 = dktX1_meansSame_1 := dk_seg dksX1_meansSame_0 24 rfl rfl
theorem dksX1_meansSame_2 : cX1_meansSame.data.toList.drop 48 = dktX1_meansSame_2 := dk_seg dksX1_meansSame_1 24 rfl rfl
theorem dksX1_meansSame_3 : cX1_meansSame.data.toList.drop 72 = dktX1_meansSame_3 := dk_seg dksX1_meansSame_2 24 rfl rfl
theorem dX1_meansSame_0 : decode cX1_meansSame 0 = .ok (.aload_n 0, 1) := dk_42 (dk_at dksX1_meansSame_0 0 rfl rfl)
theorem dX1_meansSame_1 : decode cX1_meansSame 1 = .ok (.iload_n 1, 1) := dk_27 (dk_at dksX1_meansSame_0 1 rfl rfl)
theorem dX1_meansSame_2 : decode cX1_meansSame 2 = .ok (.invokevirtual 285, 3) := dk_182 1 29 (dk_at dksX1_meansSame_0 2 rfl rfl)
theorem dX1_meansSame_5 : decode cX1_meansSame 5 = .ok (.istore_n 3, 1) := dk_62 (dk_at dksX1_meansSame_0 5 rfl rfl)
theorem dX1_meansSame_6 : decode cX1_meansSame 6 = .ok (.aload_n 0, 1) := dk_42 (dk_at dksX1_meansSame_0 6 rfl rfl)
theorem dX1_meansSame_7 : decode cX1_meansSame 7 = .ok (.iload_n 2, 1) := dk_28 (dk_at dksX1_meansSame_0 7 rfl rfl)
theorem dX1_meansSame_8 : decode cX1_meansSame 8 = .ok (.invokevirtual 285, 3) := dk_182 1 29 (dk_at dksX1_meansSame_0 8 rfl rfl)
theorem dX1_meansSame_11 : decode cX1_meansSame 11 = .ok (.istore 4, 2) := dk_54 4 (dk_at dksX1_meansSame_0 11 rfl rfl)
theorem dX1_meansSame_13 : decode cX1_meansSame 13 = .ok (.iload_n 3, 1) := dk_29 (dk_at dksX1_meansSame_0 13 rfl rfl)
theorem dX1_meansSame_14 : decode cX1_meansSame 14 = .ok (.iconst (-1), 1) := dk_2 (dk_at dksX1_meansSame_0 14 rfl rfl)
theorem dX1_meansSame_15 : decode cX1_meansSame 15 = .ok (.if_icmp .ne 9, 3) := dk_160 0 9 (dk_at dksX1_meansSame_0 15 rfl rfl)
theorem dX1_meansSame_18 : decode cX1_meansSame 18 = .ok (.iload 4, 2) := dk_21 4 (dk_at dksX1_meansSame_0 18 rfl rfl)
theorem dX1_meansSame_20 : decode cX1_meansSame 20 = .ok (.iconst (-1), 1) := dk_2 (dk_at dksX1_meansSame_0 20 rfl rfl)
theorem dX1_meansSame_21 : decode cX1_meansSame 21 = .ok (.if_icmp .eq 15, 3) := dk_159 0 15 (dk_at dksX1_meansSame_0 21 rfl rfl)
theorem dX1_meansSame_24 : decode cX1_meansSame 24 = .ok (.iload_n 3, 1) := dk_29 (dk_at dksX1_meansSame_1 0 rfl rfl)
theorem dX1_meansSame_25 : decode cX1_meansSame 25 = .ok (.iload 4, 2) := dk_21 4 (dk_at dksX1_meansSame_1 1 rfl rfl)
theorem dX1_meansSame_27 : decode cX1_meansSame 27 = .ok (.if_icmp .ne 7, 3) := dk_160 0 7 (dk_at dksX1_meansSame_1 3 rfl rfl)
theorem dX1_meansSame_30 : decode cX1_meansSame 30 = .ok (.iconst 1, 1) := dk_4 (dk_at dksX1_meansSame_1 6 rfl rfl)
theorem dX1_meansSame_31 : decode cX1_meansSame 31 = .ok (.goto 4, 3) := dk_167 0 4 (dk_at dksX1_meansSame_1 7 rfl rfl)
theorem dX1_meansSame_34 : decode cX1_meansSame 34 = .ok (.iconst 0, 1) := dk_3 (dk_at dksX1_meansSame_1 10 rfl rfl)
theorem dX1_meansSame_35 : decode cX1_meansSame 35 = .ok (.ireturn, 1) := dk_172 (dk_at dksX1_meansSame_1 11 rfl rfl)
theorem dX1_meansSame_36 : decode cX1_meansSame 36 = .ok (.aload_n 0, 1) := dk_42 (dk_at dksX1_meansSame_1 12 rfl rfl)
theorem dX1_meansSame_37 : decode cX1_meansSame 37 = .ok (.iload_n 1, 1) := dk_27 (dk_at dksX1_meansSame_1 13 rfl rfl)
theorem dX1_meansSame_38 : decode cX1_meansSame 38 = .ok (.invokevirtual 176, 3) := dk_182 0 176 (dk_at dksX1_meansSame_1 14 rfl rfl)
theorem dX1_meansSame_41 : decode cX1_meansSame 41 = .ok (.astore 5, 2) := dk_58 5 (dk_at dksX1_meansSame_1 17 rfl rfl)
theorem dX1_meansSame_43 : decode cX1_meansSame 43 = .ok (.aload 5, 2) := dk_25 5 (dk_at dksX1_meansSame_1 19 rfl rfl)
theorem dX1_meansSame_45 : decode cX1_meansSame 45 = .ok (.ifnonnull 19, 3) := dk_199 0 19 (dk_at dksX1_meansSame_1 21 rfl rfl)
theorem dX1_meansSame_48 : decode cX1_meansSame 48 = .ok (.aload_n 0, 1) := dk_42 (dk_at dksX1_meansSame_2 0 rfl rfl)
theorem dX1_meansSame_49 : decode cX1_meansSame 49 = .ok (.iload_n 2, 1) := dk_28 (dk_at dksX1_meansSame_2 1 rfl rfl)
theorem dX1_meansSame_50 : decode cX1_meansSame 50 = .ok (.invokevirtual 176, 3) := dk_182 0 176 (dk_at dksX1_meansSame_2 2 rfl rfl)
theorem dX1_meansSame_53 : decode cX1_meansSame 53 = .ok (.ifnonnull 7, 3) := dk_199 0 7 (dk_at dksX1_meansSame_2 5 rfl rfl)
theorem dX1_meansSame_56 : decode cX1_meansSame 56 = .ok (.iconst 1, 1) := dk_4 (dk_at dksX1_meansSame_2 8 rfl rfl)
theorem dX1_meansSame_57 : decode cX1_meansSame 57 = .ok (.goto 35, 3) := dk_167 0 35 (dk_at dksX1_meansSame_2 9 rfl rfl)
theorem dX1_meansSame_60 : decode cX1_meansSame 60 = .ok (.iconst 0, 1) := dk_3 (dk_at dksX1_meansSame_2 12 rfl rfl)
theorem dX1_meansSame_61 : decode cX1_meansSame 61 = .ok (.goto 31, 3) := dk_167 0 31 (dk_at dksX1_meansSame_2 13 rfl rfl)
theorem dX1_meansSame_64 : decode cX1_meansSame 64 = .ok (.aload_n 0, 1) := dk_42 (dk_at dksX1_meansSame_2 16 rfl rfl)
theorem dX1_meansSame_65 : decode cX1_meansSame 65 = .ok (.iload_n 2, 1) := dk_28 (dk_at dksX1_meansSame_2 17 rfl rfl)
theorem dX1_meansSame_66 : decode cX1_meansSame 66 = .ok (.invokevirtual 176, 3) := dk_182 0 176 (dk_at dksX1_meansSame_2 18 rfl rfl)
theorem dX1_meansSame_69 : decode cX1_meansSame 69 = .ok (.ifnull 22, 3) := dk_198 0 22 (dk_at dksX1_meansSame_2 21 rfl rfl)
theorem dX1_meansSame_72 : decode cX1_meansSame 72 = .ok (.aload 5, 2) := dk_25 5 (dk_at dksX1_meansSame_3 0 rfl rfl)
theorem dX1_meansSame_74 : decode cX1_meansSame 74 = .ok (.aload_n 0, 1) := dk_42 (dk_at dksX1_meansSame_3 2 rfl rfl)
theorem dX1_meansSame_75 : decode cX1_meansSame 75 = .ok (.iload_n 2, 1) := dk_28 (dk_at dksX1_meansSame_3 3 rfl rfl)
theorem dX1_meansSame_76 : decode cX1_meansSame 76 = .ok (.invokevirtual 176, 3) := dk_182 0 176 (dk_at dksX1_meansSame_3 4 rfl rfl)
theorem dX1_meansSame_79 : decode cX1_meansSame 79 = .ok (.invokeinterface 288 2, 5) := by decide +kernel
theorem dX1_meansSame_84 : decode cX1_meansSame 84 = .ok (.ifCond .eq 7, 3) := dk_153 0 7 (dk_at dksX1_meansSame_3 12 rfl rfl)
theorem dX1_meansSame_87 : decode cX1_meansSame 87 = .ok (.iconst 1, 1) := dk_4 (dk_at dksX1_meansSame_3 15 rfl rfl)
theorem dX1_meansSame_88 : decode cX1_meansSame 88 = .ok (.goto 4, 3) := dk_167 0 4 (dk_at dksX1_meansSame_3 16 rfl rfl)
theorem dX1_meansSame_91 : decode cX1_meansSame 91 = .ok (.iconst 0, 1) := dk_3 (dk_at dksX1_meansSame_3 19 rfl rfl)
theorem dX1_meansSame_92 : decode cX1_meansSame 92 = .ok (.ireturn, 1) := dk_172 (dk_at dksX1_meansSame_3 20 rfl rfl)
abbrev cX1_same : ByteArray := prog_1_method_8_code
def yX1_same : MethodName := ⟨RX1, "same", "(II)Z"⟩
def dkwX1_same_0 : List UInt8 := [26, 184, 0, 154, 27, 184, 0, 154, 160, 0, 7, 4, 167, 0, 4, 3, 172]
abbrev dktX1_same_0 : List UInt8 := dkwX1_same_0 ++ []
theorem dksX1_same_0 : cX1_same.data.toList.drop 0 = dktX1_same_0 := by decide +kernel
theorem dX1_same_0 : decode cX1_same 0 = .ok (.iload_n 0, 1) := dk_26 (dk_at dksX1_same_0 0 rfl rfl)
theorem dX1_same_1 : decode cX1_same 1 = .ok (.invokestatic 154, 3) := dk_184 0 154 (dk_at dksX1_same_0 1 rfl rfl)
theorem dX1_same_4 : decode cX1_same 4 = .ok (.iload_n 1, 1) := dk_27 (dk_at dksX1_same_0 4 rfl rfl)
theorem dX1_same_5 : decode cX1_same 5 = .ok (.invokestatic 154, 3) := dk_184 0 154 (dk_at dksX1_same_0 5 rfl rfl)
theorem dX1_same_8 : decode cX1_same 8 = .ok (.if_icmp .ne 7, 3) := dk_160 0 7 (dk_at dksX1_same_0 8 rfl rfl)
theorem dX1_same_11 : decode cX1_same 11 = .ok (.iconst 1, 1) := dk_4 (dk_at dksX1_same_0 11 rfl rfl)
theorem dX1_same_12 : decode cX1_same 12 = .ok (.goto 4, 3) := dk_167 0 4 (dk_at dksX1_same_0 12 rfl rfl)
theorem dX1_same_15 : decode cX1_same 15 = .ok (.iconst 0, 1) := dk_3 (dk_at dksX1_same_0 15 rfl rfl)
theorem dX1_same_16 : decode cX1_same 16 = .ok (.ireturn, 1) := dk_172 (dk_at dksX1_same_0 16 rfl rfl)
abbrev cX1_plain : ByteArray := prog_1_method_7_code
def yX1_plain : MethodName := ⟨RX1, "plain", "(I)I"⟩
def dkwX1_plain_0 : List UInt8 := [26, 17, 16, 0, 161, 0, 10, 26, 16, 254, 126, 167, 0, 4, 26, 172]
abbrev dktX1_plain_0 : List UInt8 := dkwX1_plain_0 ++ []
theorem dksX1_plain_0 : cX1_plain.data.toList.drop 0 = dktX1_plain_0 := by decide +kernel
theorem dX1_plain_0 : decode cX1_plain 0 = .ok (.iload_n 0, 1) := dk_26 (dk_at dksX1_plain_0 0 rfl rfl)
theorem dX1_plain_1 : decode cX1_plain 1 = .ok (.sipush 4096, 3) := dk_17 16 0 (dk_at dksX1_plain_0 1 rfl rfl)
theorem dX1_plain_4 : decode cX1_plain 4 = .ok (.if_icmp .lt 10, 3) := dk_161 0 10 (dk_at dksX1_plain_0 4 rfl rfl)
theorem dX1_plain_7 : decode cX1_plain 7 = .ok (.iload_n 0, 1) := dk_26 (dk_at dksX1_plain_0 7 rfl rfl)
theorem dX1_plain_8 : decode cX1_plain 8 = .ok (.bipush (-2), 2) := dk_16 254 (dk_at dksX1_plain_0 8 rfl rfl)
theorem dX1_plain_10 : decode cX1_plain 10 = .ok (.iand, 1) := dk_126 (dk_at dksX1_plain_0 10 rfl rfl)
theorem dX1_plain_11 : decode cX1_plain 11 = .ok (.goto 4, 3) := dk_167 0 4 (dk_at dksX1_plain_0 11 rfl rfl)
theorem dX1_plain_14 : decode cX1_plain 14 = .ok (.iload_n 0, 1) := dk_26 (dk_at dksX1_plain_0 14 rfl rfl)
theorem dX1_plain_15 : decode cX1_plain 15 = .ok (.ireturn, 1) := dk_172 (dk_at dksX1_plain_0 15 rfl rfl)
abbrev cX1_undelimited : ByteArray := prog_1_method_33_code
def yX1_undelimited : MethodName := ⟨RX1, "undelimited", "(LTokenMouth$Row;)V"⟩
def dkwX1_undelimited_4 : List UInt8 := [43, 28, 16, 40, 182, 1, 17, 87, 132, 4, 1, 167, 255, 220, 177]
abbrev dktX1_undelimited_4 : List UInt8 := dkwX1_undelimited_4 ++ []
def dkwX1_undelimited_3 : List UInt8 := [158, 0, 38, 42, 21, 4, 1, 3, 3, 182, 1, 10, 61, 29, 28, 184, 1, 14, 96, 62, 29, 158, 0, 11]
abbrev dktX1_undelimited_3 : List UInt8 := dkwX1_undelimited_3 ++ dktX1_undelimited_4
def dkwX1_undelimited_2 : List UInt8 := [156, 0, 8, 42, 4, 182, 0, 203, 29, 154, 0, 11, 43, 28, 16, 40, 182, 1, 17, 87, 4, 54, 4, 29]
abbrev dktX1_undelimited_2 : List UInt8 := dkwX1_undelimited_2 ++ dktX1_undelimited_3
def dkwX1_undelimited_1 : List UInt8 := [167, 255, 244, 42, 28, 182, 0, 241, 42, 3, 1, 3, 3, 182, 1, 10, 61, 28, 184, 1, 14, 62, 29]
abbrev dktX1_undelimited_1 : List UInt8 := dkwX1_undelimited_1 ++ dktX1_undelimited_2
def dkwX1_undelimited_0 : List UInt8 := [43, 3, 181, 1, 9, 42, 182, 0, 224, 61, 28, 17, 10, 32, 160, 0, 11, 42, 182, 0, 224, 61]
abbrev dktX1_undelimited_0 : List UInt8 := dkwX1_undelimited_0 ++ dktX1_undelimited_1
theorem dksX1_undelimited_0 : cX1_undelimited.data.toList.drop 0 = dktX1_undelimited_0 := by decide +kernel
theorem dksX1_undelimited_1 : cX1_undelimited.data.toList.drop 22 = dktX1_undelimited_1 := dk_seg dksX1_undelimited_0 22 rfl rfl
theorem dksX1_undelimited_2 : cX1_undelimited.data.toList.drop 45 = dktX1_undelimited_2 := dk_seg dksX1_undelimited_1 23 rfl rfl
theorem dksX1_undelimited_3 : cX1_undelimited.data.toList.drop 69 = dktX1_undelimited_3 := dk_seg dksX1_undelimited_2 24 rfl rfl
theorem dksX1_undelimited_4 : cX1_undelimited.data.toList.drop 93 = dktX1_undelimited_4 := dk_seg dksX1_undelimited_3 24 rfl rfl
theorem dX1_undelimited_0 : decode cX1_undelimited 0 = .ok (.aload_n 1, 1) := dk_43 (dk_at dksX1_undelimited_0 0 rfl rfl)
theorem dX1_undelimited_1 : decode cX1_undelimited 1 = .ok (.iconst 0, 1) := dk_3 (dk_at dksX1_undelimited_0 1 rfl rfl)
theorem dX1_undelimited_2 : decode cX1_undelimited 2 = .ok (.putfield 265, 3) := dk_181 1 9 (dk_at dksX1_undelimited_0 2 rfl rfl)
theorem dX1_undelimited_5 : decode cX1_undelimited 5 = .ok (.aload_n 0, 1) := dk_42 (dk_at dksX1_undelimited_0 5 rfl rfl)
theorem dX1_undelimited_6 : decode cX1_undelimited 6 = .ok (.invokevirtual 224, 3) := dk_182 0 224 (dk_at dksX1_undelimited_0 6 rfl rfl)
theorem dX1_undelimited_9 : decode cX1_undelimited 9 = .ok (.istore_n 2, 1) := dk_61 (dk_at dksX1_undelimited_0 9 rfl rfl)
theorem dX1_undelimited_10 : decode cX1_undelimited 10 = .ok (.iload_n 2, 1) := dk_28 (dk_at dksX1_undelimited_0 10 rfl rfl)
theorem dX1_undelimited_11 : decode cX1_undelimited 11 = .ok (.sipush 2592, 3) := dk_17 10 32 (dk_at dksX1_undelimited_0 11 rfl rfl)
theorem dX1_undelimited_14 : decode cX1_undelimited 14 = .ok (.if_icmp .ne 11, 3) := dk_160 0 11 (dk_at dksX1_undelimited_0 14 rfl rfl)
theorem dX1_undelimited_17 : decode cX1_undelimited 17 = .ok (.aload_n 0, 1) := dk_42 (dk_at dksX1_undelimited_0 17 rfl rfl)
theorem dX1_undelimited_18 : decode cX1_undelimited 18 = .ok (.invokevirtual 224, 3) := dk_182 0 224 (dk_at dksX1_undelimited_0 18 rfl rfl)
theorem dX1_undelimited_21 : decode cX1_undelimited 21 = .ok (.istore_n 2, 1) := dk_61 (dk_at dksX1_undelimited_0 21 rfl rfl)
theorem dX1_undelimited_22 : decode cX1_undelimited 22 = .ok (.goto (-12), 3) := dk_167 255 244 (dk_at dksX1_undelimited_1 0 rfl rfl)
theorem dX1_undelimited_25 : decode cX1_undelimited 25 = .ok (.aload_n 0, 1) := dk_42 (dk_at dksX1_undelimited_1 3 rfl rfl)
theorem dX1_undelimited_26 : decode cX1_undelimited 26 = .ok (.iload_n 2, 1) := dk_28 (dk_at dksX1_undelimited_1 4 rfl rfl)
theorem dX1_undelimited_27 : decode cX1_undelimited 27 = .ok (.invokevirtual 241, 3) := dk_182 0 241 (dk_at dksX1_undelimited_1 5 rfl rfl)
theorem dX1_undelimited_30 : decode cX1_undelimited 30 = .ok (.aload_n 0, 1) := dk_42 (dk_at dksX1_undelimited_1 8 rfl rfl)
theorem dX1_undelimited_31 : decode cX1_undelimited 31 = .ok (.iconst 0, 1) := dk_3 (dk_at dksX1_undelimited_1 9 rfl rfl)
theorem dX1_undelimited_32 : decode cX1_undelimited 32 = .ok (.aconst_null, 1) := dk_1 (dk_at dksX1_undelimited_1 10 rfl rfl)
theorem dX1_undelimited_33 : decode cX1_undelimited 33 = .ok (.iconst 0, 1) := dk_3 (dk_at dksX1_undelimited_1 11 rfl rfl)
theorem dX1_undelimited_34 : decode cX1_undelimited 34 = .ok (.iconst 0, 1) := dk_3 (dk_at dksX1_undelimited_1 12 rfl rfl)
theorem dX1_undelimited_35 : decode cX1_undelimited 35 = .ok (.invokevirtual 266, 3) := dk_182 1 10 (dk_at dksX1_undelimited_1 13 rfl rfl)
theorem dX1_undelimited_38 : decode cX1_undelimited 38 = .ok (.istore_n 2, 1) := dk_61 (dk_at dksX1_undelimited_1 16 rfl rfl)
theorem dX1_undelimited_39 : decode cX1_undelimited 39 = .ok (.iload_n 2, 1) := dk_28 (dk_at dksX1_undelimited_1 17 rfl rfl)
theorem dX1_undelimited_40 : decode cX1_undelimited 40 = .ok (.invokestatic 270, 3) := dk_184 1 14 (dk_at dksX1_undelimited_1 18 rfl rfl)
theorem dX1_undelimited_43 : decode cX1_undelimited 43 = .ok (.istore_n 3, 1) := dk_62 (dk_at dksX1_undelimited_1 21 rfl rfl)
theorem dX1_undelimited_44 : decode cX1_undelimited 44 = .ok (.iload_n 3, 1) := dk_29 (dk_at dksX1_undelimited_1 22 rfl rfl)
theorem dX1_undelimited_45 : decode cX1_undelimited 45 = .ok (.ifCond .ge 8, 3) := dk_156 0 8 (dk_at dksX1_undelimited_2 0 rfl rfl)
theorem dX1_undelimited_48 : decode cX1_undelimited 48 = .ok (.aload_n 0, 1) := dk_42 (dk_at dksX1_undelimited_2 3 rfl rfl)
theorem dX1_undelimited_49 : decode cX1_undelimited 49 = .ok (.iconst 1, 1) := dk_4 (dk_at dksX1_undelimited_2 4 rfl rfl)
theorem dX1_undelimited_50 : decode cX1_undelimited 50 = .ok (.invokevirtual 203, 3) := dk_182 0 203 (dk_at dksX1_undelimited_2 5 rfl rfl)
theorem dX1_undelimited_53 : decode cX1_undelimited 53 = .ok (.iload_n 3, 1) := dk_29 (dk_at dksX1_undelimited_2 8 rfl rfl)
theorem dX1_undelimited_54 : decode cX1_undelimited 54 = .ok (.ifCond .ne 11, 3) := dk_154 0 11 (dk_at dksX1_undelimited_2 9 rfl rfl)
theorem dX1_undelimited_57 : decode cX1_undelimited 57 = .ok (.aload_n 1, 1) := dk_43 (dk_at dksX1_undelimited_2 12 rfl rfl)
theorem dX1_undelimited_58 : decode cX1_undelimited 58 = .ok (.iload_n 2, 1) := dk_28 (dk_at dksX1_undelimited_2 13 rfl rfl)
theorem dX1_undelimited_59 : decode cX1_undelimited 59 = .ok (.bipush 40, 2) := dk_16 40 (dk_at dksX1_undelimited_2 14 rfl rfl)
theorem dX1_undelimited_61 : decode cX1_undelimited 61 = .ok (.invokevirtual 273, 3) := dk_182 1 17 (dk_at dksX1_undelimited_2 16 rfl rfl)
theorem dX1_undelimited_64 : decode cX1_undelimited 64 = .ok (.pop, 1) := dk_87 (dk_at dksX1_undelimited_2 19 rfl rfl)
theorem dX1_undelimited_65 : decode cX1_undelimited 65 = .ok (.iconst 1, 1) := dk_4 (dk_at dksX1_undelimited_2 20 rfl rfl)
theorem dX1_undelimited_66 : decode cX1_undelimited 66 = .ok (.istore 4, 2) := dk_54 4 (dk_at dksX1_undelimited_2 21 rfl rfl)
theorem dX1_undelimited_68 : decode cX1_undelimited 68 = .ok (.iload_n 3, 1) := dk_29 (dk_at dksX1_undelimited_2 23 rfl rfl)
theorem dX1_undelimited_69 : decode cX1_undelimited 69 = .ok (.ifCond .le 38, 3) := dk_158 0 38 (dk_at dksX1_undelimited_3 0 rfl rfl)
theorem dX1_undelimited_72 : decode cX1_undelimited 72 = .ok (.aload_n 0, 1) := dk_42 (dk_at dksX1_undelimited_3 3 rfl rfl)
theorem dX1_undelimited_73 : decode cX1_undelimited 73 = .ok (.iload 4, 2) := dk_21 4 (dk_at dksX1_undelimited_3 4 rfl rfl)
theorem dX1_undelimited_75 : decode cX1_undelimited 75 = .ok (.aconst_null, 1) := dk_1 (dk_at dksX1_undelimited_3 6 rfl rfl)
theorem dX1_undelimited_76 : decode cX1_undelimited 76 = .ok (.iconst 0, 1) := dk_3 (dk_at dksX1_undelimited_3 7 rfl rfl)
theorem dX1_undelimited_77 : decode cX1_undelimited 77 = .ok (.iconst 0, 1) := dk_3 (dk_at dksX1_undelimited_3 8 rfl rfl)
theorem dX1_undelimited_78 : decode cX1_undelimited 78 = .ok (.invokevirtual 266, 3) := dk_182 1 10 (dk_at dksX1_undelimited_3 9 rfl rfl)
theorem dX1_undelimited_81 : decode cX1_undelimited 81 = .ok (.istore_n 2, 1) := dk_61 (dk_at dksX1_undelimited_3 12 rfl rfl)
theorem dX1_undelimited_82 : decode cX1_undelimited 82 = .ok (.iload_n 3, 1) := dk_29 (dk_at dksX1_undelimited_3 13 rfl rfl)
theorem dX1_undelimited_83 : decode cX1_undelimited 83 = .ok (.iload_n 2, 1) := dk_28 (dk_at dksX1_undelimited_3 14 rfl rfl)
theorem dX1_undelimited_84 : decode cX1_undelimited 84 = .ok (.invokestatic 270, 3) := dk_184 1 14 (dk_at dksX1_undelimited_3 15 rfl rfl)
theorem dX1_undelimited_87 : decode cX1_undelimited 87 = .ok (.iadd, 1) := dk_96 (dk_at dksX1_undelimited_3 18 rfl rfl)
theorem dX1_undelimited_88 : decode cX1_undelimited 88 = .ok (.istore_n 3, 1) := dk_62 (dk_at dksX1_undelimited_3 19 rfl rfl)
theorem dX1_undelimited_89 : decode cX1_undelimited 89 = .ok (.iload_n 3, 1) := dk_29 (dk_at dksX1_undelimited_3 20 rfl rfl)
theorem dX1_undelimited_90 : decode cX1_undelimited 90 = .ok (.ifCond .le 11, 3) := dk_158 0 11 (dk_at dksX1_undelimited_3 21 rfl rfl)
theorem dX1_undelimited_93 : decode cX1_undelimited 93 = .ok (.aload_n 1, 1) := dk_43 (dk_at dksX1_undelimited_4 0 rfl rfl)
theorem dX1_undelimited_94 : decode cX1_undelimited 94 = .ok (.iload_n 2, 1) := dk_28 (dk_at dksX1_undelimited_4 1 rfl rfl)
theorem dX1_undelimited_95 : decode cX1_undelimited 95 = .ok (.bipush 40, 2) := dk_16 40 (dk_at dksX1_undelimited_4 2 rfl rfl)
theorem dX1_undelimited_97 : decode cX1_undelimited 97 = .ok (.invokevirtual 273, 3) := dk_182 1 17 (dk_at dksX1_undelimited_4 4 rfl rfl)
theorem dX1_undelimited_100 : decode cX1_undelimited 100 = .ok (.pop, 1) := dk_87 (dk_at dksX1_undelimited_4 7 rfl rfl)
theorem dX1_undelimited_101 : decode cX1_undelimited 101 = .ok (.iinc 4 1, 3) := dk_132 4 1 (dk_at dksX1_undelimited_4 8 rfl rfl)
theorem dX1_undelimited_104 : decode cX1_undelimited 104 = .ok (.goto (-36), 3) := dk_167 255 220 (dk_at dksX1_undelimited_4 11 rfl rfl)
theorem dX1_undelimited_107 : decode cX1_undelimited 107 = .ok (.return_, 1) := dk_177 (dk_at dksX1_undelimited_4 14 rfl rfl)
abbrev cX1_argued : ByteArray := prog_1_method_32_code
def yX1_argued : MethodName := ⟨RX1, "argued", "(I[SII)I"⟩
def dkwX1_argued_3 : List UInt8 := [21, 6, 154, 0, 9, 42, 16, 7, 182, 0, 203, 21, 5, 172]
abbrev dktX1_argued_3 : List UInt8 := dkwX1_argued_3 ++ []
def dkwX1_argued_2 : List UInt8 := [4, 167, 0, 4, 3, 54, 6, 132, 7, 1, 167, 255, 222, 21, 5, 17, 16, 0, 184, 1, 6, 153, 0, 14]
abbrev dktX1_argued_2 : List UInt8 := dkwX1_argued_2 ++ dktX1_argued_3
def dkwX1_argued_1 : List UInt8 := [21, 7, 21, 4, 162, 0, 33, 21, 6, 154, 0, 15, 21, 5, 44, 21, 7, 53, 184, 1, 6, 153, 0, 7]
abbrev dktX1_argued_1 : List UInt8 := dkwX1_argued_1 ++ dktX1_argued_2
def dkwX1_argued_0 : List UInt8 := [42, 182, 0, 224, 54, 5, 27, 16, 40, 160, 0, 8, 42, 8, 182, 0, 203, 3, 54, 6, 29, 54, 7]
abbrev dktX1_argued_0 : List UInt8 := dkwX1_argued_0 ++ dktX1_argued_1
theorem dksX1_argued_0 : cX1_argued.data.toList.drop 0 = dktX1_argued_0 := by decide +kernel
theorem dksX1_argued_1 : cX1_argued.data.toList.drop 23 = dktX1_argued_1 := dk_seg dksX1_argued_0 23 rfl rfl
theorem dksX1_argued_2 : cX1_argued.data.toList.drop 47 = dktX1_argued_2 := dk_seg dksX1_argued_1 24 rfl rfl
theorem dksX1_argued_3 : cX1_argued.data.toList.drop 71 = dktX1_argued_3 := dk_seg dksX1_argued_2 24 rfl rfl
theorem dX1_argued_0 : decode cX1_argued 0 = .ok (.aload_n 0, 1) := dk_42 (dk_at dksX1_argued_0 0 rfl rfl)
theorem dX1_argued_1 : decode cX1_argued 1 = .ok (.invokevirtual 224, 3) := dk_182 0 224 (dk_at dksX1_argued_0 1 rfl rfl)
theorem dX1_argued_4 : decode cX1_argued 4 = .ok (.istore 5, 2) := dk_54 5 (dk_at dksX1_argued_0 4 rfl rfl)
theorem dX1_argued_6 : decode cX1_argued 6 = .ok (.iload_n 1, 1) := dk_27 (dk_at dksX1_argued_0 6 rfl rfl)
theorem dX1_argued_7 : decode cX1_argued 7 = .ok (.bipush 40, 2) := dk_16 40 (dk_at dksX1_argued_0 7 rfl rfl)
theorem dX1_argued_9 : decode cX1_argued 9 = .ok (.if_icmp .ne 8, 3) := dk_160 0 8 (dk_at dksX1_argued_0 9 rfl rfl)
theorem dX1_argued_12 : decode cX1_argued 12 = .ok (.aload_n 0, 1) := dk_42 (dk_at dksX1_argued_0 12 rfl rfl)
theorem dX1_argued_13 : decode cX1_argued 13 = .ok (.iconst 5, 1) := dk_8 (dk_at dksX1_argued_0 13 rfl rfl)
theorem dX1_argued_14 : decode cX1_argued 14 = .ok (.invokevirtual 203, 3) := dk_182 0 203 (dk_at dksX1_argued_0 14 rfl rfl)
theorem dX1_argued_17 : decode cX1_argued 17 = .ok (.iconst 0, 1) := dk_3 (dk_at dksX1_argued_0 17 rfl rfl)
theorem dX1_argued_18 : decode cX1_argued 18 = .ok (.istore 6, 2) := dk_54 6 (dk_at dksX1_argued_0 18 rfl rfl)
theorem dX1_argued_20 : decode cX1_argued 20 = .ok (.iload_n 3, 1) := dk_29 (dk_at dksX1_argued_0 20 rfl rfl)
theorem dX1_argued_21 : decode cX1_argued 21 = .ok (.istore 7, 2) := dk_54 7 (dk_at dksX1_argued_0 21 rfl rfl)
theorem dX1_argued_23 : decode cX1_argued 23 = .ok (.iload 7, 2) := dk_21 7 (dk_at dksX1_argued_1 0 rfl rfl)
theorem dX1_argued_25 : decode cX1_argued 25 = .ok (.iload 4, 2) := dk_21 4 (dk_at dksX1_argued_1 2 rfl rfl)
theorem dX1_argued_27 : decode cX1_argued 27 = .ok (.if_icmp .ge 33, 3) := dk_162 0 33 (dk_at dksX1_argued_1 4 rfl rfl)
theorem dX1_argued_30 : decode cX1_argued 30 = .ok (.iload 6, 2) := dk_21 6 (dk_at dksX1_argued_1 7 rfl rfl)
theorem dX1_argued_32 : decode cX1_argued 32 = .ok (.ifCond .ne 15, 3) := dk_154 0 15 (dk_at dksX1_argued_1 9 rfl rfl)
theorem dX1_argued_35 : decode cX1_argued 35 = .ok (.iload 5, 2) := dk_21 5 (dk_at dksX1_argued_1 12 rfl rfl)
theorem dX1_argued_37 : decode cX1_argued 37 = .ok (.aload_n 2, 1) := dk_44 (dk_at dksX1_argued_1 14 rfl rfl)
theorem dX1_argued_38 : decode cX1_argued 38 = .ok (.iload 7, 2) := dk_21 7 (dk_at dksX1_argued_1 15 rfl rfl)
theorem dX1_argued_40 : decode cX1_argued 40 = .ok (.saload, 1) := dk_53 (dk_at dksX1_argued_1 17 rfl rfl)
theorem dX1_argued_41 : decode cX1_argued 41 = .ok (.invokestatic 262, 3) := dk_184 1 6 (dk_at dksX1_argued_1 18 rfl rfl)
theorem dX1_argued_44 : decode cX1_argued 44 = .ok (.ifCond .eq 7, 3) := dk_153 0 7 (dk_at dksX1_argued_1 21 rfl rfl)
theorem dX1_argued_47 : decode cX1_argued 47 = .ok (.iconst 1, 1) := dk_4 (dk_at dksX1_argued_2 0 rfl rfl)
theorem dX1_argued_48 : decode cX1_argued 48 = .ok (.goto 4, 3) := dk_167 0 4 (dk_at dksX1_argued_2 1 rfl rfl)
theorem dX1_argued_51 : decode cX1_argued 51 = .ok (.iconst 0, 1) := dk_3 (dk_at dksX1_argued_2 4 rfl rfl)
theorem dX1_argued_52 : decode cX1_argued 52 = .ok (.istore 6, 2) := dk_54 6 (dk_at dksX1_argued_2 5 rfl rfl)
theorem dX1_argued_54 : decode cX1_argued 54 = .ok (.iinc 7 1, 3) := dk_132 7 1 (dk_at dksX1_argued_2 7 rfl rfl)
theorem dX1_argued_57 : decode cX1_argued 57 = .ok (.goto (-34), 3) := dk_167 255 222 (dk_at dksX1_argued_2 10 rfl rfl)
theorem dX1_argued_60 : decode cX1_argued 60 = .ok (.iload 5, 2) := dk_21 5 (dk_at dksX1_argued_2 13 rfl rfl)
theorem dX1_argued_62 : decode cX1_argued 62 = .ok (.sipush 4096, 3) := dk_17 16 0 (dk_at dksX1_argued_2 15 rfl rfl)
theorem dX1_argued_65 : decode cX1_argued 65 = .ok (.invokestatic 262, 3) := dk_184 1 6 (dk_at dksX1_argued_2 18 rfl rfl)
theorem dX1_argued_68 : decode cX1_argued 68 = .ok (.ifCond .eq 14, 3) := dk_153 0 14 (dk_at dksX1_argued_2 21 rfl rfl)
theorem dX1_argued_71 : decode cX1_argued 71 = .ok (.iload 6, 2) := dk_21 6 (dk_at dksX1_argued_3 0 rfl rfl)
theorem dX1_argued_73 : decode cX1_argued 73 = .ok (.ifCond .ne 9, 3) := dk_154 0 9 (dk_at dksX1_argued_3 2 rfl rfl)
theorem dX1_argued_76 : decode cX1_argued 76 = .ok (.aload_n 0, 1) := dk_42 (dk_at dksX1_argued_3 5 rfl rfl)
theorem dX1_argued_77 : decode cX1_argued 77 = .ok (.bipush 7, 2) := dk_16 7 (dk_at dksX1_argued_3 6 rfl rfl)
theorem dX1_argued_79 : decode cX1_argued 79 = .ok (.invokevirtual 203, 3) := dk_182 0 203 (dk_at dksX1_argued_3 8 rfl rfl)
theorem dX1_argued_82 : decode cX1_argued 82 = .ok (.iload 5, 2) := dk_21 5 (dk_at dksX1_argued_3 11 rfl rfl)
theorem dX1_argued_84 : decode cX1_argued 84 = .ok (.ireturn, 1) := dk_172 (dk_at dksX1_argued_3 13 rfl rfl)
abbrev cX1_levelOf : ByteArray := prog_1_method_11_code
def yX1_levelOf : MethodName := ⟨RX1, "levelOf", "(I)I"⟩
def dkwX1_levelOf_1 : List UInt8 := [3, 172]
abbrev dktX1_levelOf_1 : List UInt8 := dkwX1_levelOf_1 ++ []
def dkwX1_levelOf_0 : List UInt8 := [26, 4, 184, 0, 161, 153, 0, 7, 4, 167, 0, 16, 26, 5, 184, 0, 161, 153, 0, 7, 2, 167, 0, 4]
abbrev dktX1_levelOf_0 : List UInt8 := dkwX1_levelOf_0 ++ dktX1_levelOf_1
theorem dksX1_levelOf_0 : cX1_levelOf.data.toList.drop 0 = dktX1_levelOf_0 := by decide +kernel
theorem dksX1_levelOf_1 : cX1_levelOf.data.toList.drop 24 = dktX1_levelOf_1 := dk_seg dksX1_levelOf_0 24 rfl rfl
theorem dX1_levelOf_0 : decode cX1_levelOf 0 = .ok (.iload_n 0, 1) := dk_26 (dk_at dksX1_levelOf_0 0 rfl rfl)
theorem dX1_levelOf_1 : decode cX1_levelOf 1 = .ok (.iconst 1, 1) := dk_4 (dk_at dksX1_levelOf_0 1 rfl rfl)
theorem dX1_levelOf_2 : decode cX1_levelOf 2 = .ok (.invokestatic 161, 3) := dk_184 0 161 (dk_at dksX1_levelOf_0 2 rfl rfl)
theorem dX1_levelOf_5 : decode cX1_levelOf 5 = .ok (.ifCond .eq 7, 3) := dk_153 0 7 (dk_at dksX1_levelOf_0 5 rfl rfl)
theorem dX1_levelOf_8 : decode cX1_levelOf 8 = .ok (.iconst 1, 1) := dk_4 (dk_at dksX1_levelOf_0 8 rfl rfl)
theorem dX1_levelOf_9 : decode cX1_levelOf 9 = .ok (.goto 16, 3) := dk_167 0 16 (dk_at dksX1_levelOf_0 9 rfl rfl)
theorem dX1_levelOf_12 : decode cX1_levelOf 12 = .ok (.iload_n 0, 1) := dk_26 (dk_at dksX1_levelOf_0 12 rfl rfl)
theorem dX1_levelOf_13 : decode cX1_levelOf 13 = .ok (.iconst 2, 1) := dk_5 (dk_at dksX1_levelOf_0 13 rfl rfl)
theorem dX1_levelOf_14 : decode cX1_levelOf 14 = .ok (.invokestatic 161, 3) := dk_184 0 161 (dk_at dksX1_levelOf_0 14 rfl rfl)
theorem dX1_levelOf_17 : decode cX1_levelOf 17 = .ok (.ifCond .eq 7, 3) := dk_153 0 7 (dk_at dksX1_levelOf_0 17 rfl rfl)
theorem dX1_levelOf_20 : decode cX1_levelOf 20 = .ok (.iconst (-1), 1) := dk_2 (dk_at dksX1_levelOf_0 20 rfl rfl)
theorem dX1_levelOf_21 : decode cX1_levelOf 21 = .ok (.goto 4, 3) := dk_167 0 4 (dk_at dksX1_levelOf_0 21 rfl rfl)
theorem dX1_levelOf_24 : decode cX1_levelOf 24 = .ok (.iconst 0, 1) := dk_3 (dk_at dksX1_levelOf_1 0 rfl rfl)
theorem dX1_levelOf_25 : decode cX1_levelOf 25 = .ok (.ireturn, 1) := dk_172 (dk_at dksX1_levelOf_1 1 rfl rfl)
abbrev cX1_isOf : ByteArray := prog_1_method_10_code
def yX1_isOf : MethodName := ⟨RX1, "isOf", "(II)Z"⟩
def dkwX1_isOf_0 : List UInt8 := [26, 184, 0, 158, 153, 0, 15, 26, 16, 8, 122, 27, 160, 0, 7, 4, 167, 0, 4, 3, 172]
abbrev dktX1_isOf_0 : List UInt8 := dkwX1_isOf_0 ++ []
theorem dksX1_isOf_0 : cX1_isOf.data.toList.drop 0 = dktX1_isOf_0 := by decide +kernel
theorem dX1_isOf_0 : decode cX1_isOf 0 = .ok (.iload_n 0, 1) := dk_26 (dk_at dksX1_isOf_0 0 rfl rfl)
theorem dX1_isOf_1 : decode cX1_isOf 1 = .ok (.invokestatic 158, 3) := dk_184 0 158 (dk_at dksX1_isOf_0 1 rfl rfl)
theorem dX1_isOf_4 : decode cX1_isOf 4 = .ok (.ifCond .eq 15, 3) := dk_153 0 15 (dk_at dksX1_isOf_0 4 rfl rfl)
theorem dX1_isOf_7 : decode cX1_isOf 7 = .ok (.iload_n 0, 1) := dk_26 (dk_at dksX1_isOf_0 7 rfl rfl)
theorem dX1_isOf_8 : decode cX1_isOf 8 = .ok (.bipush 8, 2) := dk_16 8 (dk_at dksX1_isOf_0 8 rfl rfl)
theorem dX1_isOf_10 : decode cX1_isOf 10 = .ok (.ishr, 1) := dk_122 (dk_at dksX1_isOf_0 10 rfl rfl)
theorem dX1_isOf_11 : decode cX1_isOf 11 = .ok (.iload_n 1, 1) := dk_27 (dk_at dksX1_isOf_0 11 rfl rfl)
theorem dX1_isOf_12 : decode cX1_isOf 12 = .ok (.if_icmp .ne 7, 3) := dk_160 0 7 (dk_at dksX1_isOf_0 12 rfl rfl)
theorem dX1_isOf_15 : decode cX1_isOf 15 = .ok (.iconst 1, 1) := dk_4 (dk_at dksX1_isOf_0 15 rfl rfl)
theorem dX1_isOf_16 : decode cX1_isOf 16 = .ok (.goto 4, 3) := dk_167 0 4 (dk_at dksX1_isOf_0 16 rfl rfl)
theorem dX1_isOf_19 : decode cX1_isOf 19 = .ok (.iconst 0, 1) := dk_3 (dk_at dksX1_isOf_0 19 rfl rfl)
theorem dX1_isOf_20 : decode cX1_isOf 20 = .ok (.ireturn, 1) := dk_172 (dk_at dksX1_isOf_0 20 rfl rfl)
abbrev cX1_delimited : ByteArray := prog_1_method_34_code
def yX1_delimited : MethodName := ⟨RX1, "delimited", "(LTokenMouth$Row;[SII)V"⟩
def dkwX1_delimited_4 : List UInt8 := [153, 0, 7, 43, 182, 1, 26, 177]
abbrev dktX1_delimited_4 : List UInt8 := dkwX1_delimited_4 ++ []
def dkwX1_delimited_3 : List UInt8 := [87, 132, 6, 1, 167, 255, 191, 43, 89, 180, 1, 9, 21, 4, 29, 100, 100, 181, 1, 9, 43, 182, 1, 23]
abbrev dktX1_delimited_3 : List UInt8 := dkwX1_delimited_3 ++ dktX1_delimited_4
def dkwX1_delimited_2 : List UInt8 := [184, 1, 14, 96, 54, 5, 21, 5, 156, 0, 8, 42, 4, 182, 0, 203, 43, 21, 7, 16, 40, 182, 1, 17]
abbrev dktX1_delimited_2 : List UInt8 := dkwX1_delimited_2 ++ dktX1_delimited_3
def dkwX1_delimited_1 : List UInt8 := [21, 4, 182, 1, 19, 154, 0, 50, 42, 21, 6, 44, 29, 21, 4, 182, 1, 10, 54, 7, 21, 5, 21, 7]
abbrev dktX1_delimited_1 : List UInt8 := dkwX1_delimited_1 ++ dktX1_delimited_2
def dkwX1_delimited_0 : List UInt8 := [43, 3, 181, 1, 9, 3, 54, 5, 3, 54, 6, 21, 6, 153, 0, 19, 21, 5, 157, 0, 14, 43, 44, 29]
abbrev dktX1_delimited_0 : List UInt8 := dkwX1_delimited_0 ++ dktX1_delimited_1
theorem dksX1_delimited_0 : cX1_delimited.data.toList.drop 0 = dktX1_delimited_0 := by decide +kernel
theorem dksX1_delimited_1 : cX1_delimited.data.toList.drop 24 = dktX1_delimited_1 := dk_seg dksX1_delimited_0 24 rfl rfl
theorem dksX1_delimited_2 : cX1_delimited.data.toList.drop 48 = dktX1_delimited_2 := dk_seg dksX1_delimited_1 24 rfl rfl
theorem dksX1_delimited_3 : cX1_delimited.data.toList.drop 72 = dktX1_delimited_3 := dk_seg dksX1_delimited_2 24 rfl rfl
theorem dksX1_delimited_4 : cX1_delimited.data.toList.drop 96 = dktX1_delimited_4 := dk_seg dksX1_delimited_3 24 rfl rfl
theorem dX1_delimited_0 : decode cX1_delimited 0 = .ok (.aload_n 1, 1) := dk_43 (dk_at dksX1_delimited_0 0 rfl rfl)
theorem dX1_delimited_1 : decode cX1_delimited 1 = .ok (.iconst 0, 1) := dk_3 (dk_at dksX1_delimited_0 1 rfl rfl)
theorem dX1_delimited_2 : decode cX1_delimited 2 = .ok (.putfield 265, 3) := dk_181 1 9 (dk_at dksX1_delimited_0 2 rfl rfl)
theorem dX1_delimited_5 : decode cX1_delimited 5 = .ok (.iconst 0, 1) := dk_3 (dk_at dksX1_delimited_0 5 rfl rfl)
theorem dX1_delimited_6 : decode cX1_delimited 6 = .ok (.istore 5, 2) := dk_54 5 (dk_at dksX1_delimited_0 6 rfl rfl)
theorem dX1_delimited_8 : decode cX1_delimited 8 = .ok (.iconst 0, 1) := dk_3 (dk_at dksX1_delimited_0 8 rfl rfl)
theorem dX1_delimited_9 : decode cX1_delimited 9 = .ok (.istore 6, 2) := dk_54 6 (dk_at dksX1_delimited_0 9 rfl rfl)
theorem dX1_delimited_11 : decode cX1_delimited 11 = .ok (.iload 6, 2) := dk_21 6 (dk_at dksX1_delimited_0 11 rfl rfl)
theorem dX1_delimited_13 : decode cX1_delimited 13 = .ok (.ifCond .eq 19, 3) := dk_153 0 19 (dk_at dksX1_delimited_0 13 rfl rfl)
theorem dX1_delimited_16 : decode cX1_delimited 16 = .ok (.iload 5, 2) := dk_21 5 (dk_at dksX1_delimited_0 16 rfl rfl)
theorem dX1_delimited_18 : decode cX1_delimited 18 = .ok (.ifCond .gt 14, 3) := dk_157 0 14 (dk_at dksX1_delimited_0 18 rfl rfl)
theorem dX1_delimited_21 : decode cX1_delimited 21 = .ok (.aload_n 1, 1) := dk_43 (dk_at dksX1_delimited_0 21 rfl rfl)
theorem dX1_delimited_22 : decode cX1_delimited 22 = .ok (.aload_n 2, 1) := dk_44 (dk_at dksX1_delimited_0 22 rfl rfl)
theorem dX1_delimited_23 : decode cX1_delimited 23 = .ok (.iload_n 3, 1) := dk_29 (dk_at dksX1_delimited_0 23 rfl rfl)
theorem dX1_delimited_24 : decode cX1_delimited 24 = .ok (.iload 4, 2) := dk_21 4 (dk_at dksX1_delimited_1 0 rfl rfl)
theorem dX1_delimited_26 : decode cX1_delimited 26 = .ok (.invokevirtual 275, 3) := dk_182 1 19 (dk_at dksX1_delimited_1 2 rfl rfl)
theorem dX1_delimited_29 : decode cX1_delimited 29 = .ok (.ifCond .ne 50, 3) := dk_154 0 50 (dk_at dksX1_delimited_1 5 rfl rfl)
theorem dX1_delimited_32 : decode cX1_delimited 32 = .ok (.aload_n 0, 1) := dk_42 (dk_at dksX1_delimited_1 8 rfl rfl)
theorem dX1_delimited_33 : decode cX1_delimited 33 = .ok (.iload 6, 2) := dk_21 6 (dk_at dksX1_delimited_1 9 rfl rfl)
theorem dX1_delimited_35 : decode cX1_delimited 35 = .ok (.aload_n 2, 1) := dk_44 (dk_at dksX1_delimited_1 11 rfl rfl)
theorem dX1_delimited_36 : decode cX1_delimited 36 = .ok (.iload_n 3, 1) := dk_29 (dk_at dksX1_delimited_1 12 rfl rfl)
theorem dX1_delimited_37 : decode cX1_delimited 37 = .ok (.iload 4, 2) := dk_21 4 (dk_at dksX1_delimited_1 13 rfl rfl)
theorem dX1_delimited_39 : decode cX1_delimited 39 = .ok (.invokevirtual 266, 3) := dk_182 1 10 (dk_at dksX1_delimited_1 15 rfl rfl)
theorem dX1_delimited_42 : decode cX1_delimited 42 = .ok (.istore 7, 2) := dk_54 7 (dk_at dksX1_delimited_1 18 rfl rfl)
theorem dX1_delimited_44 : decode cX1_delimited 44 = .ok (.iload 5, 2) := dk_21 5 (dk_at dksX1_delimited_1 20 rfl rfl)
theorem dX1_delimited_46 : decode cX1_delimited 46 = .ok (.iload 7, 2) := dk_21 7 (dk_at dksX1_delimited_1 22 rfl rfl)
theorem dX1_delimited_48 : decode cX1_delimited 48 = .ok (.invokestatic 270, 3) := dk_184 1 14 (dk_at dksX1_delimited_2 0 rfl rfl)
theorem dX1_delimited_51 : decode cX1_delimited 51 = .ok (.iadd, 1) := dk_96 (dk_at dksX1_delimited_2 3 rfl rfl)
theorem dX1_delimited_52 : decode cX1_delimited 52 = .ok (.istore 5, 2) := dk_54 5 (dk_at dksX1_delimited_2 4 rfl rfl)
theorem dX1_delimited_54 : decode cX1_delimited 54 = .ok (.iload 5, 2) := dk_21 5 (dk_at dksX1_delimited_2 6 rfl rfl)
theorem dX1_delimited_56 : decode cX1_delimited 56 = .ok (.ifCond .ge 8, 3) := dk_156 0 8 (dk_at dksX1_delimited_2 8 rfl rfl)
theorem dX1_delimited_59 : decode cX1_delimited 59 = .ok (.aload_n 0, 1) := dk_42 (dk_at dksX1_delimited_2 11 rfl rfl)
theorem dX1_delimited_60 : decode cX1_delimited 60 = .ok (.iconst 1, 1) := dk_4 (dk_at dksX1_delimited_2 12 rfl rfl)
theorem dX1_delimited_61 : decode cX1_delimited 61 = .ok (.invokevirtual 203, 3) := dk_182 0 203 (dk_at dksX1_delimited_2 13 rfl rfl)
theorem dX1_delimited_64 : decode cX1_delimited 64 = .ok (.aload_n 1, 1) := dk_43 (dk_at dksX1_delimited_2 16 rfl rfl)
theorem dX1_delimited_65 : decode cX1_delimited 65 = .ok (.iload 7, 2) := dk_21 7 (dk_at dksX1_delimited_2 17 rfl rfl)
theorem dX1_delimited_67 : decode cX1_delimited 67 = .ok (.bipush 40, 2) := dk_16 40 (dk_at dksX1_delimited_2 19 rfl rfl)
theorem dX1_delimited_69 : decode cX1_delimited 69 = .ok (.invokevirtual 273, 3) := dk_182 1 17 (dk_at dksX1_delimited_2 21 rfl rfl)
theorem dX1_delimited_72 : decode cX1_delimited 72 = .ok (.pop, 1) := dk_87 (dk_at dksX1_delimited_3 0 rfl rfl)
theorem dX1_delimited_73 : decode cX1_delimited 73 = .ok (.iinc 6 1, 3) := dk_132 6 1 (dk_at dksX1_delimited_3 1 rfl rfl)
theorem dX1_delimited_76 : decode cX1_delimited 76 = .ok (.goto (-65), 3) := dk_167 255 191 (dk_at dksX1_delimited_3 4 rfl rfl)
theorem dX1_delimited_79 : decode cX1_delimited 79 = .ok (.aload_n 1, 1) := dk_43 (dk_at dksX1_delimited_3 7 rfl rfl)
theorem dX1_delimited_80 : decode cX1_delimited 80 = .ok (.dup, 1) := dk_89 (dk_at dksX1_delimited_3 8 rfl rfl)
theorem dX1_delimited_81 : decode cX1_delimited 81 = .ok (.getfield 265, 3) := dk_180 1 9 (dk_at dksX1_delimited_3 9 rfl rfl)
theorem dX1_delimited_84 : decode cX1_delimited 84 = .ok (.iload 4, 2) := dk_21 4 (dk_at dksX1_delimited_3 12 rfl rfl)
theorem dX1_delimited_86 : decode cX1_delimited 86 = .ok (.iload_n 3, 1) := dk_29 (dk_at dksX1_delimited_3 14 rfl rfl)
theorem dX1_delimited_87 : decode cX1_delimited 87 = .ok (.isub, 1) := dk_100 (dk_at dksX1_delimited_3 15 rfl rfl)
theorem dX1_delimited_88 : decode cX1_delimited 88 = .ok (.isub, 1) := dk_100 (dk_at dksX1_delimited_3 16 rfl rfl)
theorem dX1_delimited_89 : decode cX1_delimited 89 = .ok (.putfield 265, 3) := dk_181 1 9 (dk_at dksX1_delimited_3 17 rfl rfl)
theorem dX1_delimited_92 : decode cX1_delimited 92 = .ok (.aload_n 1, 1) := dk_43 (dk_at dksX1_delimited_3 20 rfl rfl)
theorem dX1_delimited_93 : decode cX1_delimited 93 = .ok (.invokevirtual 279, 3) := dk_182 1 23 (dk_at dksX1_delimited_3 21 rfl rfl)
theorem dX1_delimited_96 : decode cX1_delimited 96 = .ok (.ifCond .eq 7, 3) := dk_153 0 7 (dk_at dksX1_delimited_4 0 rfl rfl)
theorem dX1_delimited_99 : decode cX1_delimited 99 = .ok (.aload_n 1, 1) := dk_43 (dk_at dksX1_delimited_4 3 rfl rfl)
theorem dX1_delimited_100 : decode cX1_delimited 100 = .ok (.invokevirtual 282, 3) := dk_182 1 26 (dk_at dksX1_delimited_4 4 rfl rfl)
theorem dX1_delimited_103 : decode cX1_delimited 103 = .ok (.return_, 1) := dk_177 (dk_at dksX1_delimited_4 7 rfl rfl)
abbrev cX1_perform : ByteArray := prog_1_method_41_code
def yX1_perform : MethodName := ⟨RX1, "perform", "(I)V"⟩
def dkwX1_perform_5 : List UInt8 := [167, 0, 18, 42, 182, 1, 80, 167, 0, 11, 42, 4, 182, 0, 203, 167, 0, 3, 177]
abbrev dktX1_perform_5 : List UInt8 := dkwX1_perform_5 ++ []
def dkwX1_perform_4 : List UInt8 := [42, 17, 16, 0, 182, 1, 70, 167, 0, 34, 42, 25, 4, 182, 1, 73, 167, 0, 25, 42, 182, 1, 77]
abbrev dktX1_perform_4 : List UInt8 := dkwX1_perform_4 ++ dktX1_perform_5
def dkwX1_perform_3 : List UInt8 := [170, 0, 0, 0, 98, 0, 0, 0, 0, 0, 0, 0, 10, 0, 0, 0, 57, 0, 0, 0, 98, 0, 0, 0, 67, 0, 0, 0, 67, 0, 0, 0, 67, 0, 0, 0, 76, 0, 0, 0, 83, 0, 0, 0, 98, 0, 0, 0, 98, 0, 0, 0, 98, 0, 0, 0, 90]
abbrev dktX1_perform_3 : List UInt8 := dkwX1_perform_3 ++ dktX1_perform_4
def dkwX1_perform_2 : List UInt8 := [182, 1, 67]
abbrev dktX1_perform_2 : List UInt8 := dkwX1_perform_2 ++ dktX1_perform_3
def dkwX1_perform_1 : List UInt8 := [199, 0, 8, 42, 5, 182, 0, 203, 45, 193, 0, 17, 154, 0, 4, 177, 45, 192, 0, 17, 58, 4, 25, 4]
abbrev dktX1_perform_1 : List UInt8 := dkwX1_perform_1 ++ dktX1_perform_2
def dkwX1_perform_0 : List UInt8 := [42, 27, 182, 1, 29, 61, 28, 2, 159, 0, 9, 42, 28, 182, 1, 64, 177, 42, 27, 182, 0, 176, 78, 45]
abbrev dktX1_perform_0 : List UInt8 := dkwX1_perform_0 ++ dktX1_perform_1
theorem dksX1_perform_0 : cX1_perform.data.toList.drop 0 = dktX1_perform_0 := by decide +kernel
theorem dksX1_perform_1 : cX1_perform.data.toList.drop 24 = dktX1_perform_1 := dk_seg dksX1_perform_0 24 rfl rfl
theorem dksX1_perform_2 : cX1_perform.data.toList.drop 48 = dktX1_perform_2 := dk_seg dksX1_perform_1 24 rfl rfl
theorem dksX1_perform_3 : cX1_perform.data.toList.drop 51 = dktX1_perform_3 := dk_seg dksX1_perform_2 3 rfl rfl
theorem dksX1_perform_4 : cX1_perform.data.toList.drop 108 = dktX1_perform_4 := dk_seg dksX1_perform_3 57 rfl rfl
theorem dksX1_perform_5 : cX1_perform.data.toList.drop 131 = dktX1_perform_5 := dk_seg dksX1_perform_4 23 rfl rfl
theorem dX1_perform_0 : decode cX1_perform 0 = .ok (.aload_n 0, 1) := dk_42 (dk_at dksX1_perform_0 0 rfl rfl)
theorem dX1_perform_1 : decode cX1_perform 1 = .ok (.iload_n 1, 1) := dk_27 (dk_at dksX1_perform_0 1 rfl rfl)
theorem dX1_perform_2 : decode cX1_perform 2 = .ok (.invokevirtual 285, 3) := dk_182 1 29 (dk_at dksX1_perform_0 2 rfl rfl)
theorem dX1_perform_5 : decode cX1_perform 5 = .ok (.istore_n 2, 1) := dk_61 (dk_at dksX1_perform_0 5 rfl rfl)
theorem dX1_perform_6 : decode cX1_perform 6 = .ok (.iload_n 2, 1) := dk_28 (dk_at dksX1_perform_0 6 rfl rfl)
theorem dX1_perform_7 : decode cX1_perform 7 = .ok (.iconst (-1), 1) := dk_2 (dk_at dksX1_perform_0 7 rfl rfl)
theorem dX1_perform_8 : decode cX1_perform 8 = .ok (.if_icmp .eq 9, 3) := dk_159 0 9 (dk_at dksX1_perform_0 8 rfl rfl)
theorem dX1_perform_11 : decode cX1_perform 11 = .ok (.aload_n 0, 1) := dk_42 (dk_at dksX1_perform_0 11 rfl rfl)
theorem dX1_perform_12 : decode cX1_perform 12 = .ok (.iload_n 2, 1) := dk_28 (dk_at dksX1_perform_0 12 rfl rfl)
theorem dX1_perform_13 : decode cX1_perform 13 = .ok (.invokevirtual 320, 3) := dk_182 1 64 (dk_at dksX1_perform_0 13 rfl rfl)
theorem dX1_perform_16 : decode cX1_perform 16 = .ok (.return_, 1) := dk_177 (dk_at dksX1_perform_0 16 rfl rfl)
theorem dX1_perform_17 : decode cX1_perform 17 = .ok (.aload_n 0, 1) := dk_42 (dk_at dksX1_perform_0 17 rfl rfl)
theorem dX1_perform_18 : decode cX1_perform 18 = .ok (.iload_n 1, 1) := dk_27 (dk_at dksX1_perform_0 18 rfl rfl)
theorem dX1_perform_19 : decode cX1_perform 19 = .ok (.invokevirtual 176, 3) := dk_182 0 176 (dk_at dksX1_perform_0 19 rfl rfl)
theorem dX1_perform_22 : decode cX1_perform 22 = .ok (.astore_n 3, 1) := dk_78 (dk_at dksX1_perform_0 22 rfl rfl)
theorem dX1_perform_23 : decode cX1_perform 23 = .ok (.aload_n 3, 1) := dk_45 (dk_at dksX1_perform_0 23 rfl rfl)
theorem dX1_perform_24 : decode cX1_perform 24 = .ok (.ifnonnull 8, 3) := dk_199 0 8 (dk_at dksX1_perform_1 0 rfl rfl)
theorem dX1_perform_27 : decode cX1_perform 27 = .ok (.aload_n 0, 1) := dk_42 (dk_at dksX1_perform_1 3 rfl rfl)
theorem dX1_perform_28 : decode cX1_perform 28 = .ok (.iconst 2, 1) := dk_5 (dk_at dksX1_perform_1 4 rfl rfl)
theorem dX1_perform_29 : decode cX1_perform 29 = .ok (.invokevirtual 203, 3) := dk_182 0 203 (dk_at dksX1_perform_1 5 rfl rfl)
theorem dX1_perform_32 : decode cX1_perform 32 = .ok (.aload_n 3, 1) := dk_45 (dk_at dksX1_perform_1 8 rfl rfl)
theorem dX1_perform_33 : decode cX1_perform 33 = .ok (.instanceof 17, 3) := dk_193 0 17 (dk_at dksX1_perform_1 9 rfl rfl)
theorem dX1_perform_36 : decode cX1_perform 36 = .ok (.ifCond .ne 4, 3) := dk_154 0 4 (dk_at dksX1_perform_1 12 rfl rfl)
theorem dX1_perform_39 : decode cX1_perform 39 = .ok (.return_, 1) := dk_177 (dk_at dksX1_perform_1 15 rfl rfl)
theorem dX1_perform_40 : decode cX1_perform 40 = .ok (.aload_n 3, 1) := dk_45 (dk_at dksX1_perform_1 16 rfl rfl)
theorem dX1_perform_41 : decode cX1_perform 41 = .ok (.checkcast 17, 3) := dk_192 0 17 (dk_at dksX1_perform_1 17 rfl rfl)
theorem dX1_perform_44 : decode cX1_perform 44 = .ok (.astore 4, 2) := dk_58 4 (dk_at dksX1_perform_1 20 rfl rfl)
theorem dX1_perform_46 : decode cX1_perform 46 = .ok (.aload 4, 2) := dk_25 4 (dk_at dksX1_perform_1 22 rfl rfl)
theorem dX1_perform_48 : decode cX1_perform 48 = .ok (.invokevirtual 323, 3) := dk_182 1 67 (dk_at dksX1_perform_2 0 rfl rfl)
theorem dX1_perform_51 : decode cX1_perform 51 = .ok (.tableswitch 98 0 10 #[57, 98, 67, 67, 67, 76, 83, 98, 98, 98, 90], 57) := by decide +kernel
theorem dX1_perform_108 : decode cX1_perform 108 = .ok (.aload_n 0, 1) := dk_42 (dk_at dksX1_perform_4 0 rfl rfl)
theorem dX1_perform_109 : decode cX1_perform 109 = .ok (.sipush 4096, 3) := dk_17 16 0 (dk_at dksX1_perform_4 1 rfl rfl)
theorem dX1_perform_112 : decode cX1_perform 112 = .ok (.invokevirtual 326, 3) := dk_182 1 70 (dk_at dksX1_perform_4 4 rfl rfl)
theorem dX1_perform_115 : decode cX1_perform 115 = .ok (.goto 34, 3) := dk_167 0 34 (dk_at dksX1_perform_4 7 rfl rfl)
theorem dX1_perform_118 : decode cX1_perform 118 = .ok (.aload_n 0, 1) := dk_42 (dk_at dksX1_perform_4 10 rfl rfl)
theorem dX1_perform_119 : decode cX1_perform 119 = .ok (.aload 4, 2) := dk_25 4 (dk_at dksX1_perform_4 11 rfl rfl)
theorem dX1_perform_121 : decode cX1_perform 121 = .ok (.invokevirtual 329, 3) := dk_182 1 73 (dk_at dksX1_perform_4 13 rfl rfl)
theorem dX1_perform_124 : decode cX1_perform 124 = .ok (.goto 25, 3) := dk_167 0 25 (dk_at dksX1_perform_4 16 rfl rfl)
theorem dX1_perform_127 : decode cX1_perform 127 = .ok (.aload_n 0, 1) := dk_42 (dk_at dksX1_perform_4 19 rfl rfl)
theorem dX1_perform_128 : decode cX1_perform 128 = .ok (.invokevirtual 333, 3) := dk_182 1 77 (dk_at dksX1_perform_4 20 rfl rfl)
theorem dX1_perform_131 : decode cX1_perform 131 = .ok (.goto 18, 3) := dk_167 0 18 (dk_at dksX1_perform_5 0 rfl rfl)
theorem dX1_perform_134 : decode cX1_perform 134 = .ok (.aload_n 0, 1) := dk_42 (dk_at dksX1_perform_5 3 rfl rfl)
theorem dX1_perform_135 : decode cX1_perform 135 = .ok (.invokevirtual 336, 3) := dk_182 1 80 (dk_at dksX1_perform_5 4 rfl rfl)
theorem dX1_perform_138 : decode cX1_perform 138 = .ok (.goto 11, 3) := dk_167 0 11 (dk_at dksX1_perform_5 7 rfl rfl)
theorem dX1_perform_141 : decode cX1_perform 141 = .ok (.aload_n 0, 1) := dk_42 (dk_at dksX1_perform_5 10 rfl rfl)
theorem dX1_perform_142 : decode cX1_perform 142 = .ok (.iconst 1, 1) := dk_4 (dk_at dksX1_perform_5 11 rfl rfl)
theorem dX1_perform_143 : decode cX1_perform 143 = .ok (.invokevirtual 203, 3) := dk_182 0 203 (dk_at dksX1_perform_5 12 rfl rfl)
theorem dX1_perform_146 : decode cX1_perform 146 = .ok (.goto 3, 3) := dk_167 0 3 (dk_at dksX1_perform_5 15 rfl rfl)
theorem dX1_perform_149 : decode cX1_perform 149 = .ok (.return_, 1) := dk_177 (dk_at dksX1_perform_5 18 rfl rfl)
abbrev cX1_place : ByteArray := prog_1_method_42_code
def yX1_place : MethodName := ⟨RX1, "place", "(I)V"⟩
def dkwX1_place_3 : List UInt8 := [167, 0, 8, 42, 27, 182, 1, 70, 177]
abbrev dktX1_place_3 : List UInt8 := dkwX1_place_3 ++ []
def dkwX1_place_2 : List UInt8 := [154, 0, 8, 42, 4, 182, 0, 203, 42, 182, 1, 83, 42, 89, 180, 0, 127, 4, 100, 181, 0, 127]
abbrev dktX1_place_2 : List UInt8 := dkwX1_place_2 ++ dktX1_place_3
def dkwX1_place_1 : List UInt8 := [180, 0, 127, 4, 96, 181, 0, 127, 167, 0, 45, 27, 5, 184, 0, 161, 153, 0, 32, 42, 180, 0, 127]
abbrev dktX1_place_1 : List UInt8 := dkwX1_place_1 ++ dktX1_place_2
def dkwX1_place_0 : List UInt8 := [27, 4, 184, 0, 161, 153, 0, 30, 42, 180, 0, 127, 16, 30, 160, 0, 8, 42, 8, 182, 0, 203, 42, 89]
abbrev dktX1_place_0 : List UInt8 := dkwX1_place_0 ++ dktX1_place_1
theorem dksX1_place_0 : cX1_place.data.toList.drop 0 = dktX1_place_0 := by decide +kernel
theorem dksX1_place_1 : cX1_place.data.toList.drop 24 = dktX1_place_1 := dk_seg dksX1_place_0 24 rfl rfl
theorem dksX1_place_2 : cX1_place.data.toList.drop 47 = dktX1_place_2 := dk_seg dksX1_place_1 23 rfl rfl
theorem dksX1_place_3 : cX1_place.data.toList.drop 69 = dktX1_place_3 := dk_seg dksX1_place_2 22 rfl rfl
theorem dX1_place_0 : decode cX1_place 0 = .ok (.iload_n 1, 1) := dk_27 (dk_at dksX1_place_0 0 rfl rfl)
theorem dX1_place_1 : decode cX1_place 1 = .ok (.iconst 1, 1) := dk_4 (dk_at dksX1_place_0 1 rfl rfl)
theorem dX1_place_2 : decode cX1_place 2 = .ok (.invokestatic 161, 3) := dk_184 0 161 (dk_at dksX1_place_0 2 rfl rfl)
theorem dX1_place_5 : decode cX1_place 5 = .ok (.ifCond .eq 30, 3) := dk_153 0 30 (dk_at dksX1_place_0 5 rfl rfl)
theorem dX1_place_8 : decode cX1_place 8 = .ok (.aload_n 0, 1) := dk_42 (dk_at dksX1_place_0 8 rfl rfl)
theorem dX1_place_9 : decode cX1_place 9 = .ok (.getfield 127, 3) := dk_180 0 127 (dk_at dksX1_place_0 9 rfl rfl)
theorem dX1_place_12 : decode cX1_place 12 = .ok (.bipush 30, 2) := dk_16 30 (dk_at dksX1_place_0 12 rfl rfl)
theorem dX1_place_14 : decode cX1_place 14 = .ok (.if_icmp .ne 8, 3) := dk_160 0 8 (dk_at dksX1_place_0 14 rfl rfl)
theorem dX1_place_17 : decode cX1_place 17 = .ok (.aload_n 0, 1) := dk_42 (dk_at dksX1_place_0 17 rfl rfl)
theorem dX1_place_18 : decode cX1_place 18 = .ok (.iconst 5, 1) := dk_8 (dk_at dksX1_place_0 18 rfl rfl)
theorem dX1_place_19 : decode cX1_place 19 = .ok (.invokevirtual 203, 3) := dk_182 0 203 (dk_at dksX1_place_0 19 rfl rfl)
theorem dX1_place_22 : decode cX1_place 22 = .ok (.aload_n 0, 1) := dk_42 (dk_at dksX1_place_0 22 rfl rfl)
theorem dX1_place_23 : decode cX1_place 23 = .ok (.dup, 1) := dk_89 (dk_at dksX1_place_0 23 rfl rfl)
theorem dX1_place_24 : decode cX1_place 24 = .ok (.getfield 127, 3) := dk_180 0 127 (dk_at dksX1_place_1 0 rfl rfl)
theorem dX1_place_27 : decode cX1_place 27 = .ok (.iconst 1, 1) := dk_4 (dk_at dksX1_place_1 3 rfl rfl)
theorem dX1_place_28 : decode cX1_place 28 = .ok (.iadd, 1) := dk_96 (dk_at dksX1_place_1 4 rfl rfl)
theorem dX1_place_29 : decode cX1_place 29 = .ok (.putfield 127, 3) := dk_181 0 127 (dk_at dksX1_place_1 5 rfl rfl)
theorem dX1_place_32 : decode cX1_place 32 = .ok (.goto 45, 3) := dk_167 0 45 (dk_at dksX1_place_1 8 rfl rfl)
theorem dX1_place_35 : decode cX1_place 35 = .ok (.iload_n 1, 1) := dk_27 (dk_at dksX1_place_1 11 rfl rfl)
theorem dX1_place_36 : decode cX1_place 36 = .ok (.iconst 2, 1) := dk_5 (dk_at dksX1_place_1 12 rfl rfl)
theorem dX1_place_37 : decode cX1_place 37 = .ok (.invokestatic 161, 3) := dk_184 0 161 (dk_at dksX1_place_1 13 rfl rfl)
theorem dX1_place_40 : decode cX1_place 40 = .ok (.ifCond .eq 32, 3) := dk_153 0 32 (dk_at dksX1_place_1 16 rfl rfl)
theorem dX1_place_43 : decode cX1_place 43 = .ok (.aload_n 0, 1) := dk_42 (dk_at dksX1_place_1 19 rfl rfl)
theorem dX1_place_44 : decode cX1_place 44 = .ok (.getfield 127, 3) := dk_180 0 127 (dk_at dksX1_place_1 20 rfl rfl)
theorem dX1_place_47 : decode cX1_place 47 = .ok (.ifCond .ne 8, 3) := dk_154 0 8 (dk_at dksX1_place_2 0 rfl rfl)
theorem dX1_place_50 : decode cX1_place 50 = .ok (.aload_n 0, 1) := dk_42 (dk_at dksX1_place_2 3 rfl rfl)
theorem dX1_place_51 : decode cX1_place 51 = .ok (.iconst 1, 1) := dk_4 (dk_at dksX1_place_2 4 rfl rfl)
theorem dX1_place_52 : decode cX1_place 52 = .ok (.invokevirtual 203, 3) := dk_182 0 203 (dk_at dksX1_place_2 5 rfl rfl)
theorem dX1_place_55 : decode cX1_place 55 = .ok (.aload_n 0, 1) := dk_42 (dk_at dksX1_place_2 8 rfl rfl)
theorem dX1_place_56 : decode cX1_place 56 = .ok (.invokevirtual 339, 3) := dk_182 1 83 (dk_at dksX1_place_2 9 rfl rfl)
theorem dX1_place_59 : decode cX1_place 59 = .ok (.aload_n 0, 1) := dk_42 (dk_at dksX1_place_2 12 rfl rfl)
theorem dX1_place_60 : decode cX1_place 60 = .ok (.dup, 1) := dk_89 (dk_at dksX1_place_2 13 rfl rfl)
theorem dX1_place_61 : decode cX1_place 61 = .ok (.getfield 127, 3) := dk_180 0 127 (dk_at dksX1_place_2 14 rfl rfl)
theorem dX1_place_64 : decode cX1_place 64 = .ok (.iconst 1, 1) := dk_4 (dk_at dksX1_place_2 17 rfl rfl)
theorem dX1_place_65 : decode cX1_place 65 = .ok (.isub, 1) := dk_100 (dk_at dksX1_place_2 18 rfl rfl)
theorem dX1_place_66 : decode cX1_place 66 = .ok (.putfield 127, 3) := dk_181 0 127 (dk_at dksX1_place_2 19 rfl rfl)
theorem dX1_place_69 : decode cX1_place 69 = .ok (.goto 8, 3) := dk_167 0 8 (dk_at dksX1_place_3 0 rfl rfl)
theorem dX1_place_72 : decode cX1_place 72 = .ok (.aload_n 0, 1) := dk_42 (dk_at dksX1_place_3 3 rfl rfl)
theorem dX1_place_73 : decode cX1_place 73 = .ok (.iload_n 1, 1) := dk_27 (dk_at dksX1_place_3 4 rfl rfl)
theorem dX1_place_74 : decode cX1_place 74 = .ok (.invokevirtual 326, 3) := dk_182 1 70 (dk_at dksX1_place_3 5 rfl rfl)
theorem dX1_place_77 : decode cX1_place 77 = .ok (.return_, 1) := dk_177 (dk_at dksX1_place_3 8 rfl rfl)
abbrev cX1_undo : ByteArray := prog_1_method_54_code
def yX1_undo : MethodName := ⟨RX1, "undo", "()V"⟩
def dkwX1_undo_3 : List UInt8 := [167, 0, 14, 43, 180, 1, 108, 43, 180, 1, 112, 181, 0, 114, 167, 255, 173, 177]
abbrev dktX1_undo_3 : List UInt8 := dkwX1_undo_3 ++ []
def dkwX1_undo_2 : List UInt8 := [50, 76, 43, 180, 1, 108, 199, 0, 20, 42, 180, 0, 13, 43, 180, 1, 129, 43, 180, 1, 132, 145, 84]
abbrev dktX1_undo_2 : List UInt8 := dkwX1_undo_2 ++ dktX1_undo_3
def dkwX1_undo_1 : List UInt8 := [180, 0, 127, 160, 0, 61, 42, 89, 180, 0, 139, 4, 100, 181, 0, 139, 42, 180, 0, 53, 42, 180, 0, 139]
abbrev dktX1_undo_1 : List UInt8 := dkwX1_undo_1 ++ dktX1_undo_2
def dkwX1_undo_0 : List UInt8 := [42, 180, 0, 139, 158, 0, 82, 42, 180, 0, 53, 42, 180, 0, 139, 4, 100, 50, 180, 1, 126, 42]
abbrev dktX1_undo_0 : List UInt8 := dkwX1_undo_0 ++ dktX1_undo_1
theorem dksX1_undo_0 : cX1_undo.data.toList.drop 0 = dktX1_undo_0 := by decide +kernel
theorem dksX1_undo_1 : cX1_undo.data.toList.drop 22 = dktX1_undo_1 := dk_seg dksX1_undo_0 22 rfl rfl
theorem dksX1_undo_2 : cX1_undo.data.toList.drop 46 = dktX1_undo_2 := dk_seg dksX1_undo_1 24 rfl rfl
theorem dksX1_undo_3 : cX1_undo.data.toList.drop 69 = dktX1_undo_3 := dk_seg dksX1_undo_2 23 rfl rfl
theorem dX1_undo_0 : decode cX1_undo 0 = .ok (.aload_n 0, 1) := dk_42 (dk_at dksX1_undo_0 0 rfl rfl)
theorem dX1_undo_1 : decode cX1_undo 1 = .ok (.getfield 139, 3) := dk_180 0 139 (dk_at dksX1_undo_0 1 rfl rfl)
theorem dX1_undo_4 : decode cX1_undo 4 = .ok (.ifCond .le 82, 3) := dk_158 0 82 (dk_at dksX1_undo_0 4 rfl rfl)
theorem dX1_undo_7 : decode cX1_undo 7 = .ok (.aload_n 0, 1) := dk_42 (dk_at dksX1_undo_0 7 rfl rfl)
theorem dX1_undo_8 : decode cX1_undo 8 = .ok (.getfield 53, 3) := dk_180 0 53 (dk_at dksX1_undo_0 8 rfl rfl)
theorem dX1_undo_11 : decode cX1_undo 11 = .ok (.aload_n 0, 1) := dk_42 (dk_at dksX1_undo_0 11 rfl rfl)
theorem dX1_undo_12 : decode cX1_undo 12 = .ok (.getfield 139, 3) := dk_180 0 139 (dk_at dksX1_undo_0 12 rfl rfl)
theorem dX1_undo_15 : decode cX1_undo 15 = .ok (.iconst 1, 1) := dk_4 (dk_at dksX1_undo_0 15 rfl rfl)
theorem dX1_undo_16 : decode cX1_undo 16 = .ok (.isub, 1) := dk_100 (dk_at dksX1_undo_0 16 rfl rfl)
theorem dX1_undo_17 : decode cX1_undo 17 = .ok (.aaload, 1) := dk_50 (dk_at dksX1_undo_0 17 rfl rfl)
theorem dX1_undo_18 : decode cX1_undo 18 = .ok (.getfield 382, 3) := dk_180 1 126 (dk_at dksX1_undo_0 18 rfl rfl)
theorem dX1_undo_21 : decode cX1_undo 21 = .ok (.aload_n 0, 1) := dk_42 (dk_at dksX1_undo_0 21 rfl rfl)
theorem dX1_undo_22 : decode cX1_undo 22 = .ok (.getfield 127, 3) := dk_180 0 127 (dk_at dksX1_undo_1 0 rfl rfl)
theorem dX1_undo_25 : decode cX1_undo 25 = .ok (.if_icmp .ne 61, 3) := dk_160 0 61 (dk_at dksX1_undo_1 3 rfl rfl)
theorem dX1_undo_28 : decode cX1_undo 28 = .ok (.aload_n 0, 1) := dk_42 (dk_at dksX1_undo_1 6 rfl rfl)
theorem dX1_undo_29 : decode cX1_undo 29 = .ok (.dup, 1) := dk_89 (dk_at dksX1_undo_1 7 rfl rfl)
theorem dX1_undo_30 : decode cX1_undo 30 = .ok (.getfield 139, 3) := dk_180 0 139 (dk_at dksX1_undo_1 8 rfl rfl)
theorem dX1_undo_33 : decode cX1_undo 33 = .ok (.iconst 1, 1) := dk_4 (dk_at dksX1_undo_1 11 rfl rfl)
theorem dX1_undo_34 : decode cX1_undo 34 = .ok (.isub, 1) := dk_100 (dk_at dksX1_undo_1 12 rfl rfl)
theorem dX1_undo_35 : decode cX1_undo 35 = .ok (.putfield 139, 3) := dk_181 0 139 (dk_at dksX1_undo_1 13 rfl rfl)
theorem dX1_undo_38 : decode cX1_undo 38 = .ok (.aload_n 0, 1) := dk_42 (dk_at dksX1_undo_1 16 rfl rfl)
theorem dX1_undo_39 : decode cX1_undo 39 = .ok (.getfield 53, 3) := dk_180 0 53 (dk_at dksX1_undo_1 17 rfl rfl)
theorem dX1_undo_42 : decode cX1_undo 42 = .ok (.aload_n 0, 1) := dk_42 (dk_at dksX1_undo_1 20 rfl rfl)
theorem dX1_undo_43 : decode cX1_undo 43 = .ok (.getfield 139, 3) := dk_180 0 139 (dk_at dksX1_undo_1 21 rfl rfl)
theorem dX1_undo_46 : decode cX1_undo 46 = .ok (.aaload, 1) := dk_50 (dk_at dksX1_undo_2 0 rfl rfl)
theorem dX1_undo_47 : decode cX1_undo 47 = .ok (.astore_n 1, 1) := dk_76 (dk_at dksX1_undo_2 1 rfl rfl)
theorem dX1_undo_48 : decode cX1_undo 48 = .ok (.aload_n 1, 1) := dk_43 (dk_at dksX1_undo_2 2 rfl rfl)
theorem dX1_undo_49 : decode cX1_undo 49 = .ok (.getfield 364, 3) := dk_180 1 108 (dk_at dksX1_undo_2 3 rfl rfl)
theorem dX1_undo_52 : decode cX1_undo 52 = .ok (.ifnonnull 20, 3) := dk_199 0 20 (dk_at dksX1_undo_2 6 rfl rfl)
theorem dX1_undo_55 : decode cX1_undo 55 = .ok (.aload_n 0, 1) := dk_42 (dk_at dksX1_undo_2 9 rfl rfl)
theorem dX1_undo_56 : decode cX1_undo 56 = .ok (.getfield 13, 3) := dk_180 0 13 (dk_at dksX1_undo_2 10 rfl rfl)
theorem dX1_undo_59 : decode cX1_undo 59 = .ok (.aload_n 1, 1) := dk_43 (dk_at dksX1_undo_2 13 rfl rfl)
theorem dX1_undo_60 : decode cX1_undo 60 = .ok (.getfield 385, 3) := dk_180 1 129 (dk_at dksX1_undo_2 14 rfl rfl)
theorem dX1_undo_63 : decode cX1_undo 63 = .ok (.aload_n 1, 1) := dk_43 (dk_at dksX1_undo_2 17 rfl rfl)
theorem dX1_undo_64 : decode cX1_undo 64 = .ok (.getfield 388, 3) := dk_180 1 132 (dk_at dksX1_undo_2 18 rfl rfl)
theorem dX1_undo_67 : decode cX1_undo 67 = .ok (.i2b, 1) := dk_145 (dk_at dksX1_undo_2 21 rfl rfl)
theorem dX1_undo_68 : decode cX1_undo 68 = .ok (.bastore, 1) := dk_84 (dk_at dksX1_undo_2 22 rfl rfl)
theorem dX1_undo_69 : decode cX1_undo 69 = .ok (.goto 14, 3) := dk_167 0 14 (dk_at dksX1_undo_3 0 rfl rfl)
theorem dX1_undo_72 : decode cX1_undo 72 = .ok (.aload_n 1, 1) := dk_43 (dk_at dksX1_undo_3 3 rfl rfl)
theorem dX1_undo_73 : decode cX1_undo 73 = .ok (.getfield 364, 3) := dk_180 1 108 (dk_at dksX1_undo_3 4 rfl rfl)
theorem dX1_undo_76 : decode cX1_undo 76 = .ok (.aload_n 1, 1) := dk_43 (dk_at dksX1_undo_3 7 rfl rfl)
theorem dX1_undo_77 : decode cX1_undo 77 = .ok (.getfield 368, 3) := dk_180 1 112 (dk_at dksX1_undo_3 8 rfl rfl)
theorem dX1_undo_80 : decode cX1_undo 80 = .ok (.putfield 114, 3) := dk_181 0 114 (dk_at dksX1_undo_3 11 rfl rfl)
theorem dX1_undo_83 : decode cX1_undo 83 = .ok (.goto (-83), 3) := dk_167 255 173 (dk_at dksX1_undo_3 14 rfl rfl)
theorem dX1_undo_86 : decode cX1_undo 86 = .ok (.return_, 1) := dk_177 (dk_at dksX1_undo_3 17 rfl rfl)
abbrev cX1_put : ByteArray := prog_1_method_43_code
def yX1_put : MethodName := ⟨RX1, "put", "(I)V"⟩
def dkwX1_put_1 : List UInt8 := [147, 86, 42, 89, 180, 0, 121, 4, 96, 181, 0, 121, 177]
abbrev dktX1_put_1 : List UInt8 := dkwX1_put_1 ++ []
def dkwX1_put_0 : List UInt8 := [42, 180, 0, 121, 17, 0, 200, 160, 0, 8, 42, 8, 182, 0, 203, 42, 180, 0, 45, 42, 180, 0, 121, 27]
abbrev dktX1_put_0 : List UInt8 := dkwX1_put_0 ++ dktX1_put_1
theorem dksX1_put_0 : cX1_put.data.toList.drop 0 = dktX1_put_0 := by decide +kernel
theorem dksX1_put_1 : cX1_put.data.toList.drop 24 = dktX1_put_1 := dk_seg dksX1_put_0 24 rfl rfl
theorem dX1_put_0 : decode cX1_put 0 = .ok (.aload_n 0, 1) := dk_42 (dk_at dksX1_put_0 0 rfl rfl)
theorem dX1_put_1 : decode cX1_put 1 = .ok (.getfield 121, 3) := dk_180 0 121 (dk_at dksX1_put_0 1 rfl rfl)
theorem dX1_put_4 : decode cX1_put 4 = .ok (.sipush 200, 3) := dk_17 0 200 (dk_at dksX1_put_0 4 rfl rfl)
theorem dX1_put_7 : decode cX1_put 7 = .ok (.if_icmp .ne 8, 3) := dk_160 0 8 (dk_at dksX1_put_0 7 rfl rfl)
theorem dX1_put_10 : decode cX1_put 10 = .ok (.aload_n 0, 1) := dk_42 (dk_at dksX1_put_0 10 rfl rfl)
theorem dX1_put_11 : decode cX1_put 11 = .ok (.iconst 5, 1) := dk_8 (dk_at dksX1_put_0 11 rfl rfl)
theorem dX1_put_12 : decode cX1_put 12 = .ok (.invokevirtual 203, 3) := dk_182 0 203 (dk_at dksX1_put_0 12 rfl rfl)
theorem dX1_put_15 : decode cX1_put 15 = .ok (.aload_n 0, 1) := dk_42 (dk_at dksX1_put_0 15 rfl rfl)
theorem dX1_put_16 : decode cX1_put 16 = .ok (.getfield 45, 3) := dk_180 0 45 (dk_at dksX1_put_0 16 rfl rfl)
theorem dX1_put_19 : decode cX1_put 19 = .ok (.aload_n 0, 1) := dk_42 (dk_at dksX1_put_0 19 rfl rfl)
theorem dX1_put_20 : decode cX1_put 20 = .ok (.getfield 121, 3) := dk_180 0 121 (dk_at dksX1_put_0 20 rfl rfl)
theorem dX1_put_23 : decode cX1_put 23 = .ok (.iload_n 1, 1) := dk_27 (dk_at dksX1_put_0 23 rfl rfl)
theorem dX1_put_24 : decode cX1_put 24 = .ok (.i2s, 1) := dk_147 (dk_at dksX1_put_1 0 rfl rfl)
theorem dX1_put_25 : decode cX1_put 25 = .ok (.sastore, 1) := dk_86 (dk_at dksX1_put_1 1 rfl rfl)
theorem dX1_put_26 : decode cX1_put 26 = .ok (.aload_n 0, 1) := dk_42 (dk_at dksX1_put_1 2 rfl rfl)
theorem dX1_put_27 : decode cX1_put 27 = .ok (.dup, 1) := dk_89 (dk_at dksX1_put_1 3 rfl rfl)
theorem dX1_put_28 : decode cX1_put 28 = .ok (.getfield 121, 3) := dk_180 0 121 (dk_at dksX1_put_1 4 rfl rfl)
theorem dX1_put_31 : decode cX1_put 31 = .ok (.iconst 1, 1) := dk_4 (dk_at dksX1_put_1 7 rfl rfl)
theorem dX1_put_32 : decode cX1_put 32 = .ok (.iadd, 1) := dk_96 (dk_at dksX1_put_1 8 rfl rfl)
theorem dX1_put_33 : decode cX1_put 33 = .ok (.putfield 121, 3) := dk_181 0 121 (dk_at dksX1_put_1 9 rfl rfl)
theorem dX1_put_36 : decode cX1_put 36 = .ok (.return_, 1) := dk_177 (dk_at dksX1_put_1 12 rfl rfl)
abbrev cX1_define : ByteArray := prog_1_method_45_code
def yX1_define : MethodName := ⟨RX1, "define", "(LTokenMouth$Command;)V"⟩
def dkwX1_define_5 : List UInt8 := [25, 4, 181, 1, 112, 132, 5, 1, 167, 255, 218, 44, 25, 4, 181, 0, 114, 177]
abbrev dktX1_define_5 : List UInt8 := dkwX1_define_5 ++ []
def dkwX1_define_4 : List UInt8 := [162, 0, 35, 42, 180, 0, 53, 21, 5, 50, 180, 1, 108, 44, 166, 0, 15, 42, 180, 0, 53, 21, 5, 50]
abbrev dktX1_define_4 : List UInt8 := dkwX1_define_4 ++ dktX1_define_5
def dkwX1_define_3 : List UInt8 := [178, 1, 105, 165, 0, 11, 42, 44, 25, 4, 182, 1, 2, 177, 3, 54, 5, 21, 5, 42, 180, 0, 139]
abbrev dktX1_define_3 : List UInt8 := dkwX1_define_3 ++ dktX1_define_4
def dkwX1_define_2 : List UInt8 := [181, 0, 130, 187, 1, 100, 89, 42, 180, 0, 64, 42, 180, 0, 68, 29, 183, 1, 102, 58, 4, 43]
abbrev dktX1_define_2 : List UInt8 := dkwX1_define_2 ++ dktX1_define_3
def dkwX1_define_1 : List UInt8 := [182, 1, 96, 42, 180, 0, 130, 16, 60, 160, 0, 8, 42, 8, 182, 0, 203, 42, 89, 180, 0, 130, 4, 96]
abbrev dktX1_define_1 : List UInt8 := dkwX1_define_1 ++ dktX1_define_2
def dkwX1_define_0 : List UInt8 := [42, 182, 1, 86, 77, 42, 182, 1, 90, 62, 42, 43, 178, 1, 93, 166, 0, 7, 4, 167, 0, 4, 3, 29]
abbrev dktX1_define_0 : List UInt8 := dkwX1_define_0 ++ dktX1_define_1
theorem dksX1_define_0 : cX1_define.data.toList.drop 0 = dktX1_define_0 := by decide +kernel
theorem dksX1_define_1 : cX1_define.data.toList.drop 24 = dktX1_define_1 := dk_seg dksX1_define_0 24 rfl rfl
theorem dksX1_define_2 : cX1_define.data.toList.drop 48 = dktX1_define_2 := dk_seg dksX1_define_1 24 rfl rfl
theorem dksX1_define_3 : cX1_define.data.toList.drop 70 = dktX1_define_3 := dk_seg dksX1_define_2 22 rfl rfl
theorem dksX1_define_4 : cX1_define.data.toList.drop 93 = dktX1_define_4 := dk_seg dksX1_define_3 23 rfl rfl
theorem dksX1_define_5 : cX1_define.data.toList.drop 117 = dktX1_define_5 := dk_seg dksX1_define_4 24 rfl rfl
theorem dX1_define_0 : decode cX1_define 0 = .ok (.aload_n 0, 1) := dk_42 (dk_at dksX1_define_0 0 rfl rfl)
theorem dX1_define_1 : decode cX1_define 1 = .ok (.invokevirtual 342, 3) := dk_182 1 86 (dk_at dksX1_define_0 1 rfl rfl)
theorem dX1_define_4 : decode cX1_define 4 = .ok (.astore_n 2, 1) := dk_77 (dk_at dksX1_define_0 4 rfl rfl)
theorem dX1_define_5 : decode cX1_define 5 = .ok (.aload_n 0, 1) := dk_42 (dk_at dksX1_define_0 5 rfl rfl)
theorem dX1_define_6 : decode cX1_define 6 = .ok (.invokevirtual 346, 3) := dk_182 1 90 (dk_at dksX1_define_0 6 rfl rfl)
theorem dX1_define_9 : decode cX1_define 9 = .ok (.istore_n 3, 1) := dk_62 (dk_at dksX1_define_0 9 rfl rfl)
theorem dX1_define_10 : decode cX1_define 10 = .ok (.aload_n 0, 1) := dk_42 (dk_at dksX1_define_0 10 rfl rfl)
theorem dX1_define_11 : decode cX1_define 11 = .ok (.aload_n 1, 1) := dk_43 (dk_at dksX1_define_0 11 rfl rfl)
theorem dX1_define_12 : decode cX1_define 12 = .ok (.getstatic 349, 3) := dk_178 1 93 (dk_at dksX1_define_0 12 rfl rfl)
theorem dX1_define_15 : decode cX1_define 15 = .ok (.if_acmp .ne 7, 3) := dk_166 0 7 (dk_at dksX1_define_0 15 rfl rfl)
theorem dX1_define_18 : decode cX1_define 18 = .ok (.iconst 1, 1) := dk_4 (dk_at dksX1_define_0 18 rfl rfl)
theorem dX1_define_19 : decode cX1_define 19 = .ok (.goto 4, 3) := dk_167 0 4 (dk_at dksX1_define_0 19 rfl rfl)
theorem dX1_define_22 : decode cX1_define 22 = .ok (.iconst 0, 1) := dk_3 (dk_at dksX1_define_0 22 rfl rfl)
theorem dX1_define_23 : decode cX1_define 23 = .ok (.iload_n 3, 1) := dk_29 (dk_at dksX1_define_0 23 rfl rfl)
theorem dX1_define_24 : decode cX1_define 24 = .ok (.invokevirtual 352, 3) := dk_182 1 96 (dk_at dksX1_define_1 0 rfl rfl)
theorem dX1_define_27 : decode cX1_define 27 = .ok (.aload_n 0, 1) := dk_42 (dk_at dksX1_define_1 3 rfl rfl)
theorem dX1_define_28 : decode cX1_define 28 = .ok (.getfield 130, 3) := dk_180 0 130 (dk_at dksX1_define_1 4 rfl rfl)
theorem dX1_define_31 : decode cX1_define 31 = .ok (.bipush 60, 2) := dk_16 60 (dk_at dksX1_define_1 7 rfl rfl)
theorem dX1_define_33 : decode cX1_define 33 = .ok (.if_icmp .ne 8, 3) := dk_160 0 8 (dk_at dksX1_define_1 9 rfl rfl)
theorem dX1_define_36 : decode cX1_define 36 = .ok (.aload_n 0, 1) := dk_42 (dk_at dksX1_define_1 12 rfl rfl)
theorem dX1_define_37 : decode cX1_define 37 = .ok (.iconst 5, 1) := dk_8 (dk_at dksX1_define_1 13 rfl rfl)
theorem dX1_define_38 : decode cX1_define 38 = .ok (.invokevirtual 203, 3) := dk_182 0 203 (dk_at dksX1_define_1 14 rfl rfl)
theorem dX1_define_41 : decode cX1_define 41 = .ok (.aload_n 0, 1) := dk_42 (dk_at dksX1_define_1 17 rfl rfl)
theorem dX1_define_42 : decode cX1_define 42 = .ok (.dup, 1) := dk_89 (dk_at dksX1_define_1 18 rfl rfl)
theorem dX1_define_43 : decode cX1_define 43 = .ok (.getfield 130, 3) := dk_180 0 130 (dk_at dksX1_define_1 19 rfl rfl)
theorem dX1_define_46 : decode cX1_define 46 = .ok (.iconst 1, 1) := dk_4 (dk_at dksX1_define_1 22 rfl rfl)
theorem dX1_define_47 : decode cX1_define 47 = .ok (.iadd, 1) := dk_96 (dk_at dksX1_define_1 23 rfl rfl)
theorem dX1_define_48 : decode cX1_define 48 = .ok (.putfield 130, 3) := dk_181 0 130 (dk_at dksX1_define_2 0 rfl rfl)
theorem dX1_define_51 : decode cX1_define 51 = .ok (.new 356, 3) := dk_187 1 100 (dk_at dksX1_define_2 3 rfl rfl)
theorem dX1_define_54 : decode cX1_define 54 = .ok (.dup, 1) := dk_89 (dk_at dksX1_define_2 6 rfl rfl)
theorem dX1_define_55 : decode cX1_define 55 = .ok (.aload_n 0, 1) := dk_42 (dk_at dksX1_define_2 7 rfl rfl)
theorem dX1_define_56 : decode cX1_define 56 = .ok (.getfield 64, 3) := dk_180 0 64 (dk_at dksX1_define_2 8 rfl rfl)
theorem dX1_define_59 : decode cX1_define 59 = .ok (.aload_n 0, 1) := dk_42 (dk_at dksX1_define_2 11 rfl rfl)
theorem dX1_define_60 : decode cX1_define 60 = .ok (.getfield 68, 3) := dk_180 0 68 (dk_at dksX1_define_2 12 rfl rfl)
theorem dX1_define_63 : decode cX1_define 63 = .ok (.iload_n 3, 1) := dk_29 (dk_at dksX1_define_2 15 rfl rfl)
theorem dX1_define_64 : decode cX1_define 64 = .ok (.invokespecial 358, 3) := dk_183 1 102 (dk_at dksX1_define_2 16 rfl rfl)
theorem dX1_define_67 : decode cX1_define 67 = .ok (.astore 4, 2) := dk_58 4 (dk_at dksX1_define_2 19 rfl rfl)
theorem dX1_define_69 : decode cX1_define 69 = .ok (.aload_n 1, 1) := dk_43 (dk_at dksX1_define_2 21 rfl rfl)
theorem dX1_define_70 : decode cX1_define 70 = .ok (.getstatic 361, 3) := dk_178 1 105 (dk_at dksX1_define_3 0 rfl rfl)
theorem dX1_define_73 : decode cX1_define 73 = .ok (.if_acmp .eq 11, 3) := dk_165 0 11 (dk_at dksX1_define_3 3 rfl rfl)
theorem dX1_define_76 : decode cX1_define 76 = .ok (.aload_n 0, 1) := dk_42 (dk_at dksX1_define_3 6 rfl rfl)
theorem dX1_define_77 : decode cX1_define 77 = .ok (.aload_n 2, 1) := dk_44 (dk_at dksX1_define_3 7 rfl rfl)
theorem dX1_define_78 : decode cX1_define 78 = .ok (.aload 4, 2) := dk_25 4 (dk_at dksX1_define_3 8 rfl rfl)
theorem dX1_define_80 : decode cX1_define 80 = .ok (.invokevirtual 258, 3) := dk_182 1 2 (dk_at dksX1_define_3 10 rfl rfl)
theorem dX1_define_83 : decode cX1_define 83 = .ok (.return_, 1) := dk_177 (dk_at dksX1_define_3 13 rfl rfl)
theorem dX1_define_84 : decode cX1_define 84 = .ok (.iconst 0, 1) := dk_3 (dk_at dksX1_define_3 14 rfl rfl)
theorem dX1_define_85 : decode cX1_define 85 = .ok (.istore 5, 2) := dk_54 5 (dk_at dksX1_define_3 15 rfl rfl)
theorem dX1_define_87 : decode cX1_define 87 = .ok (.iload 5, 2) := dk_21 5 (dk_at dksX1_define_3 17 rfl rfl)
theorem dX1_define_89 : decode cX1_define 89 = .ok (.aload_n 0, 1) := dk_42 (dk_at dksX1_define_3 19 rfl rfl)
theorem dX1_define_90 : decode cX1_define 90 = .ok (.getfield 139, 3) := dk_180 0 139 (dk_at dksX1_define_3 20 rfl rfl)
theorem dX1_define_93 : decode cX1_define 93 = .ok (.if_icmp .ge 35, 3) := dk_162 0 35 (dk_at dksX1_define_4 0 rfl rfl)
theorem dX1_define_96 : decode cX1_define 96 = .ok (.aload_n 0, 1) := dk_42 (dk_at dksX1_define_4 3 rfl rfl)
theorem dX1_define_97 : decode cX1_define 97 = .ok (.getfield 53, 3) := dk_180 0 53 (dk_at dksX1_define_4 4 rfl rfl)
theorem dX1_define_100 : decode cX1_define 100 = .ok (.iload 5, 2) := dk_21 5 (dk_at dksX1_define_4 7 rfl rfl)
theorem dX1_define_102 : decode cX1_define 102 = .ok (.aaload, 1) := dk_50 (dk_at dksX1_define_4 9 rfl rfl)
theorem dX1_define_103 : decode cX1_define 103 = .ok (.getfield 364, 3) := dk_180 1 108 (dk_at dksX1_define_4 10 rfl rfl)
theorem dX1_define_106 : decode cX1_define 106 = .ok (.aload_n 2, 1) := dk_44 (dk_at dksX1_define_4 13 rfl rfl)
theorem dX1_define_107 : decode cX1_define 107 = .ok (.if_acmp .ne 15, 3) := dk_166 0 15 (dk_at dksX1_define_4 14 rfl rfl)
theorem dX1_define_110 : decode cX1_define 110 = .ok (.aload_n 0, 1) := dk_42 (dk_at dksX1_define_4 17 rfl rfl)
theorem dX1_define_111 : decode cX1_define 111 = .ok (.getfield 53, 3) := dk_180 0 53 (dk_at dksX1_define_4 18 rfl rfl)
theorem dX1_define_114 : decode cX1_define 114 = .ok (.iload 5, 2) := dk_21 5 (dk_at dksX1_define_4 21 rfl rfl)
theorem dX1_define_116 : decode cX1_define 116 = .ok (.aaload, 1) := dk_50 (dk_at dksX1_define_4 23 rfl rfl)
theorem dX1_define_117 : decode cX1_define 117 = .ok (.aload 4, 2) := dk_25 4 (dk_at dksX1_define_5 0 rfl rfl)
theorem dX1_define_119 : decode cX1_define 119 = .ok (.putfield 368, 3) := dk_181 1 112 (dk_at dksX1_define_5 2 rfl rfl)
theorem dX1_define_122 : decode cX1_define 122 = .ok (.iinc 5 1, 3) := dk_132 5 1 (dk_at dksX1_define_5 5 rfl rfl)
theorem dX1_define_125 : decode cX1_define 125 = .ok (.goto (-38), 3) := dk_167 255 218 (dk_at dksX1_define_5 8 rfl rfl)
theorem dX1_define_128 : decode cX1_define 128 = .ok (.aload_n 2, 1) := dk_44 (dk_at dksX1_define_5 11 rfl rfl)
theorem dX1_define_129 : decode cX1_define 129 = .ok (.aload 4, 2) := dk_25 4 (dk_at dksX1_define_5 12 rfl rfl)
theorem dX1_define_131 : decode cX1_define 131 = .ok (.putfield 114, 3) := dk_181 0 114 (dk_at dksX1_define_5 14 rfl rfl)
theorem dX1_define_134 : decode cX1_define 134 = .ok (.return_, 1) := dk_177 (dk_at dksX1_define_5 17 rfl rfl)
abbrev cX1_neededName : ByteArray := prog_1_method_44_code
def yX1_neededName : MethodName := ⟨RX1, "neededName", "()LTokenMouth$Name;"⟩
def dkwX1_neededName_0 : List UInt8 := [42, 182, 0, 224, 60, 27, 184, 0, 158, 153, 0, 8, 42, 7, 182, 0, 203, 42, 27, 182, 0, 172, 176]
abbrev dktX1_neededName_0 : List UInt8 := dkwX1_neededName_0 ++ []
theorem dksX1_neededName_0 : cX1_neededName.data.toList.drop 0 = dktX1_neededName_0 := by decide +kernel
theorem dX1_neededName_0 : decode cX1_neededName 0 = .ok (.aload_n 0, 1) := dk_42 (dk_at dksX1_neededName_0 0 rfl rfl)
theorem dX1_neededName_1 : decode cX1_neededName 1 = .ok (.invokevirtual 224, 3) := dk_182 0 224 (dk_at dksX1_neededName_0 1 rfl rfl)
theorem dX1_neededName_4 : decode cX1_neededName 4 = .ok (.istore_n 1, 1) := dk_60 (dk_at dksX1_neededName_0 4 rfl rfl)
theorem dX1_neededName_5 : decode cX1_neededName 5 = .ok (.iload_n 1, 1) := dk_27 (dk_at dksX1_neededName_0 5 rfl rfl)
theorem dX1_neededName_6 : decode cX1_neededName 6 = .ok (.invokestatic 158, 3) := dk_184 0 158 (dk_at dksX1_neededName_0 6 rfl rfl)
theorem dX1_neededName_9 : decode cX1_neededName 9 = .ok (.ifCond .eq 8, 3) := dk_153 0 8 (dk_at dksX1_neededName_0 9 rfl rfl)
theorem dX1_neededName_12 : decode cX1_neededName 12 = .ok (.aload_n 0, 1) := dk_42 (dk_at dksX1_neededName_0 12 rfl rfl)
theorem dX1_neededName_13 : decode cX1_neededName 13 = .ok (.iconst 4, 1) := dk_7 (dk_at dksX1_neededName_0 13 rfl rfl)
theorem dX1_neededName_14 : decode cX1_neededName 14 = .ok (.invokevirtual 203, 3) := dk_182 0 203 (dk_at dksX1_neededName_0 14 rfl rfl)
theorem dX1_neededName_17 : decode cX1_neededName 17 = .ok (.aload_n 0, 1) := dk_42 (dk_at dksX1_neededName_0 17 rfl rfl)
theorem dX1_neededName_18 : decode cX1_neededName 18 = .ok (.iload_n 1, 1) := dk_27 (dk_at dksX1_neededName_0 18 rfl rfl)
theorem dX1_neededName_19 : decode cX1_neededName 19 = .ok (.invokevirtual 172, 3) := dk_182 0 172 (dk_at dksX1_neededName_0 19 rfl rfl)
theorem dX1_neededName_22 : decode cX1_neededName 22 = .ok (.areturn, 1) := dk_176 (dk_at dksX1_neededName_0 22 rfl rfl)
abbrev cX1_headOf : ByteArray := prog_1_method_46_code
def yX1_headOf : MethodName := ⟨RX1, "headOf", "()I"⟩
def dkwX1_headOf_4 : List UInt8 := [182, 1, 17, 154, 0, 8, 42, 8, 182, 0, 203, 42, 182, 0, 224, 61, 167, 255, 163, 27, 172]
abbrev dktX1_headOf_4 : List UInt8 := dkwX1_headOf_4 ++ []
def dkwX1_headOf_3 : List UInt8 := [96, 159, 0, 8, 42, 7, 182, 0, 203, 132, 1, 1, 27, 116, 61, 42, 180, 0, 64, 28, 16, 12]
abbrev dktX1_headOf_3 : List UInt8 := dkwX1_headOf_3 ++ dktX1_headOf_4
def dkwX1_headOf_2 : List UInt8 := [182, 0, 224, 62, 27, 7, 159, 0, 22, 29, 184, 0, 158, 153, 0, 15, 29, 17, 0, 255, 126, 16, 49, 27]
abbrev dktX1_headOf_2 : List UInt8 := dkwX1_headOf_2 ++ dktX1_headOf_3
def dkwX1_headOf_1 : List UInt8 := [5, 184, 0, 161, 153, 0, 8, 42, 4, 182, 0, 203, 28, 16, 6, 184, 0, 161, 153, 0, 43, 42]
abbrev dktX1_headOf_1 : List UInt8 := dkwX1_headOf_1 ++ dktX1_headOf_2
def dkwX1_headOf_0 : List UInt8 := [42, 180, 0, 64, 3, 181, 1, 9, 3, 60, 42, 182, 0, 224, 61, 28, 4, 184, 0, 161, 154, 0, 91, 28]
abbrev dktX1_headOf_0 : List UInt8 := dkwX1_headOf_0 ++ dktX1_headOf_1
theorem dksX1_headOf_0 : cX1_headOf.data.toList.drop 0 = dktX1_headOf_0 := by decide +kernel
theorem dksX1_headOf_1 : cX1_headOf.data.toList.drop 24 = dktX1_headOf_1 := dk_seg dksX1_headOf_0 24 rfl rfl
theorem dksX1_headOf_2 : cX1_headOf.data.toList.drop 46 = dktX1_headOf_2 := dk_seg dksX1_headOf_1 22 rfl rfl
theorem dksX1_headOf_3 : cX1_headOf.data.toList.drop 70 = dktX1_headOf_3 := dk_seg dksX1_headOf_2 24 rfl rfl
theorem dksX1_headOf_4 : cX1_headOf.data.toList.drop 92 = dktX1_headOf_4 := dk_seg dksX1_headOf_3 22 rfl rfl
theorem dX1_headOf_0 : decode cX1_headOf 0 = .ok (.aload_n 0, 1) := dk_42 (dk_at dksX1_headOf_0 0 rfl rfl)
theorem dX1_headOf_1 : decode cX1_headOf 1 = .ok (.getfield 64, 3) := dk_180 0 64 (dk_at dksX1_headOf_0 1 rfl rfl)
theorem dX1_headOf_4 : decode cX1_headOf 4 = .ok (.iconst 0, 1) := dk_3 (dk_at dksX1_headOf_0 4 rfl rfl)
theorem dX1_headOf_5 : decode cX1_headOf 5 = .ok (.putfield 265, 3) := dk_181 1 9 (dk_at dksX1_headOf_0 5 rfl rfl)
theorem dX1_headOf_8 : decode cX1_headOf 8 = .ok (.iconst 0, 1) := dk_3 (dk_at dksX1_headOf_0 8 rfl rfl)
theorem dX1_headOf_9 : decode cX1_headOf 9 = .ok (.istore_n 1, 1) := dk_60 (dk_at dksX1_headOf_0 9 rfl rfl)
theorem dX1_headOf_10 : decode cX1_headOf 10 = .ok (.aload_n 0, 1) := dk_42 (dk_at dksX1_headOf_0 10 rfl rfl)
theorem dX1_headOf_11 : decode cX1_headOf 11 = .ok (.invokevirtual 224, 3) := dk_182 0 224 (dk_at dksX1_headOf_0 11 rfl rfl)
theorem dX1_headOf_14 : decode cX1_headOf 14 = .ok (.istore_n 2, 1) := dk_61 (dk_at dksX1_headOf_0 14 rfl rfl)
theorem dX1_headOf_15 : decode cX1_headOf 15 = .ok (.iload_n 2, 1) := dk_28 (dk_at dksX1_headOf_0 15 rfl rfl)
theorem dX1_headOf_16 : decode cX1_headOf 16 = .ok (.iconst 1, 1) := dk_4 (dk_at dksX1_headOf_0 16 rfl rfl)
theorem dX1_headOf_17 : decode cX1_headOf 17 = .ok (.invokestatic 161, 3) := dk_184 0 161 (dk_at dksX1_headOf_0 17 rfl rfl)
theorem dX1_headOf_20 : decode cX1_headOf 20 = .ok (.ifCond .ne 91, 3) := dk_154 0 91 (dk_at dksX1_headOf_0 20 rfl rfl)
theorem dX1_headOf_23 : decode cX1_headOf 23 = .ok (.iload_n 2, 1) := dk_28 (dk_at dksX1_headOf_0 23 rfl rfl)
theorem dX1_headOf_24 : decode cX1_headOf 24 = .ok (.iconst 2, 1) := dk_5 (dk_at dksX1_headOf_1 0 rfl rfl)
theorem dX1_headOf_25 : decode cX1_headOf 25 = .ok (.invokestatic 161, 3) := dk_184 0 161 (dk_at dksX1_headOf_1 1 rfl rfl)
theorem dX1_headOf_28 : decode cX1_headOf 28 = .ok (.ifCond .eq 8, 3) := dk_153 0 8 (dk_at dksX1_headOf_1 4 rfl rfl)
theorem dX1_headOf_31 : decode cX1_headOf 31 = .ok (.aload_n 0, 1) := dk_42 (dk_at dksX1_headOf_1 7 rfl rfl)
theorem dX1_headOf_32 : decode cX1_headOf 32 = .ok (.iconst 1, 1) := dk_4 (dk_at dksX1_headOf_1 8 rfl rfl)
theorem dX1_headOf_33 : decode cX1_headOf 33 = .ok (.invokevirtual 203, 3) := dk_182 0 203 (dk_at dksX1_headOf_1 9 rfl rfl)
theorem dX1_headOf_36 : decode cX1_headOf 36 = .ok (.iload_n 2, 1) := dk_28 (dk_at dksX1_headOf_1 12 rfl rfl)
theorem dX1_headOf_37 : decode cX1_headOf 37 = .ok (.bipush 6, 2) := dk_16 6 (dk_at dksX1_headOf_1 13 rfl rfl)
theorem dX1_headOf_39 : decode cX1_headOf 39 = .ok (.invokestatic 161, 3) := dk_184 0 161 (dk_at dksX1_headOf_1 15 rfl rfl)
theorem dX1_headOf_42 : decode cX1_headOf 42 = .ok (.ifCond .eq 43, 3) := dk_153 0 43 (dk_at dksX1_headOf_1 18 rfl rfl)
theorem dX1_headOf_45 : decode cX1_headOf 45 = .ok (.aload_n 0, 1) := dk_42 (dk_at dksX1_headOf_1 21 rfl rfl)
theorem dX1_headOf_46 : decode cX1_headOf 46 = .ok (.invokevirtual 224, 3) := dk_182 0 224 (dk_at dksX1_headOf_2 0 rfl rfl)
theorem dX1_headOf_49 : decode cX1_headOf 49 = .ok (.istore_n 3, 1) := dk_62 (dk_at dksX1_headOf_2 3 rfl rfl)
theorem dX1_headOf_50 : decode cX1_headOf 50 = .ok (.iload_n 1, 1) := dk_27 (dk_at dksX1_headOf_2 4 rfl rfl)
theorem dX1_headOf_51 : decode cX1_headOf 51 = .ok (.iconst 4, 1) := dk_7 (dk_at dksX1_headOf_2 5 rfl rfl)
theorem dX1_headOf_52 : decode cX1_headOf 52 = .ok (.if_icmp .eq 22, 3) := dk_159 0 22 (dk_at dksX1_headOf_2 6 rfl rfl)
theorem dX1_headOf_55 : decode cX1_headOf 55 = .ok (.iload_n 3, 1) := dk_29 (dk_at dksX1_headOf_2 9 rfl rfl)
theorem dX1_headOf_56 : decode cX1_headOf 56 = .ok (.invokestatic 158, 3) := dk_184 0 158 (dk_at dksX1_headOf_2 10 rfl rfl)
theorem dX1_headOf_59 : decode cX1_headOf 59 = .ok (.ifCond .eq 15, 3) := dk_153 0 15 (dk_at dksX1_headOf_2 13 rfl rfl)
theorem dX1_headOf_62 : decode cX1_headOf 62 = .ok (.iload_n 3, 1) := dk_29 (dk_at dksX1_headOf_2 16 rfl rfl)
theorem dX1_headOf_63 : decode cX1_headOf 63 = .ok (.sipush 255, 3) := dk_17 0 255 (dk_at dksX1_headOf_2 17 rfl rfl)
theorem dX1_headOf_66 : decode cX1_headOf 66 = .ok (.iand, 1) := dk_126 (dk_at dksX1_headOf_2 20 rfl rfl)
theorem dX1_headOf_67 : decode cX1_headOf 67 = .ok (.bipush 49, 2) := dk_16 49 (dk_at dksX1_headOf_2 21 rfl rfl)
theorem dX1_headOf_69 : decode cX1_headOf 69 = .ok (.iload_n 1, 1) := dk_27 (dk_at dksX1_headOf_2 23 rfl rfl)
theorem dX1_headOf_70 : decode cX1_headOf 70 = .ok (.iadd, 1) := dk_96 (dk_at dksX1_headOf_3 0 rfl rfl)
theorem dX1_headOf_71 : decode cX1_headOf 71 = .ok (.if_icmp .eq 8, 3) := dk_159 0 8 (dk_at dksX1_headOf_3 1 rfl rfl)
theorem dX1_headOf_74 : decode cX1_headOf 74 = .ok (.aload_n 0, 1) := dk_42 (dk_at dksX1_headOf_3 4 rfl rfl)
theorem dX1_headOf_75 : decode cX1_headOf 75 = .ok (.iconst 4, 1) := dk_7 (dk_at dksX1_headOf_3 5 rfl rfl)
theorem dX1_headOf_76 : decode cX1_headOf 76 = .ok (.invokevirtual 203, 3) := dk_182 0 203 (dk_at dksX1_headOf_3 6 rfl rfl)
theorem dX1_headOf_79 : decode cX1_headOf 79 = .ok (.iinc 1 1, 3) := dk_132 1 1 (dk_at dksX1_headOf_3 9 rfl rfl)
theorem dX1_headOf_82 : decode cX1_headOf 82 = .ok (.iload_n 1, 1) := dk_27 (dk_at dksX1_headOf_3 12 rfl rfl)
theorem dX1_headOf_83 : decode cX1_headOf 83 = .ok (.ineg, 1) := dk_116 (dk_at dksX1_headOf_3 13 rfl rfl)
theorem dX1_headOf_84 : decode cX1_headOf 84 = .ok (.istore_n 2, 1) := dk_61 (dk_at dksX1_headOf_3 14 rfl rfl)
theorem dX1_headOf_85 : decode cX1_headOf 85 = .ok (.aload_n 0, 1) := dk_42 (dk_at dksX1_headOf_3 15 rfl rfl)
theorem dX1_headOf_86 : decode cX1_headOf 86 = .ok (.getfield 64, 3) := dk_180 0 64 (dk_at dksX1_headOf_3 16 rfl rfl)
theorem dX1_headOf_89 : decode cX1_headOf 89 = .ok (.iload_n 2, 1) := dk_28 (dk_at dksX1_headOf_3 19 rfl rfl)
theorem dX1_headOf_90 : decode cX1_headOf 90 = .ok (.bipush 12, 2) := dk_16 12 (dk_at dksX1_headOf_3 20 rfl rfl)
theorem dX1_headOf_92 : decode cX1_headOf 92 = .ok (.invokevirtual 273, 3) := dk_182 1 17 (dk_at dksX1_headOf_4 0 rfl rfl)
theorem dX1_headOf_95 : decode cX1_headOf 95 = .ok (.ifCond .ne 8, 3) := dk_154 0 8 (dk_at dksX1_headOf_4 3 rfl rfl)
theorem dX1_headOf_98 : decode cX1_headOf 98 = .ok (.aload_n 0, 1) := dk_42 (dk_at dksX1_headOf_4 6 rfl rfl)
theorem dX1_headOf_99 : decode cX1_headOf 99 = .ok (.iconst 5, 1) := dk_8 (dk_at dksX1_headOf_4 7 rfl rfl)
theorem dX1_headOf_100 : decode cX1_headOf 100 = .ok (.invokevirtual 203, 3) := dk_182 0 203 (dk_at dksX1_headOf_4 8 rfl rfl)
theorem dX1_headOf_103 : decode cX1_headOf 103 = .ok (.aload_n 0, 1) := dk_42 (dk_at dksX1_headOf_4 11 rfl rfl)
theorem dX1_headOf_104 : decode cX1_headOf 104 = .ok (.invokevirtual 224, 3) := dk_182 0 224 (dk_at dksX1_headOf_4 12 rfl rfl)
theorem dX1_headOf_107 : decode cX1_headOf 107 = .ok (.istore_n 2, 1) := dk_61 (dk_at dksX1_headOf_4 15 rfl rfl)
theorem dX1_headOf_108 : decode cX1_headOf 108 = .ok (.goto (-93), 3) := dk_167 255 163 (dk_at dksX1_headOf_4 16 rfl rfl)
theorem dX1_headOf_111 : decode cX1_headOf 111 = .ok (.iload_n 1, 1) := dk_27 (dk_at dksX1_headOf_4 19 rfl rfl)
theorem dX1_headOf_112 : decode cX1_headOf 112 = .ok (.ireturn, 1) := dk_172 (dk_at dksX1_headOf_4 20 rfl rfl)
abbrev cX1_bodyOf : ByteArray := prog_1_method_47_code
def yX1_bodyOf : MethodName := ⟨RX1, "bodyOf", "(ZI)V"⟩
def dkwX1_bodyOf_5 : List UInt8 := [167, 255, 176, 177]
abbrev dktX1_bodyOf_5 : List UInt8 := dkwX1_bodyOf_5 ++ []
def dkwX1_bodyOf_4 : List UInt8 := [153, 0, 10, 42, 182, 0, 252, 167, 0, 7, 42, 182, 0, 224, 54, 4, 29, 21, 4, 184, 1, 14, 96, 62]
abbrev dktX1_bodyOf_4 : List UInt8 := dkwX1_bodyOf_4 ++ dktX1_bodyOf_5
def dkwX1_bodyOf_3 : List UInt8 := [54, 4, 42, 180, 0, 68, 21, 4, 16, 40, 182, 1, 17, 154, 0, 8, 42, 8, 182, 0, 203, 27]
abbrev dktX1_bodyOf_3 : List UInt8 := dkwX1_bodyOf_3 ++ dktX1_bodyOf_4
def dkwX1_bodyOf_2 : List UInt8 := [153, 0, 25, 42, 27, 153, 0, 10, 42, 182, 0, 252, 167, 0, 7, 42, 182, 0, 224, 28, 182, 1, 113]
abbrev dktX1_bodyOf_2 : List UInt8 := dkwX1_bodyOf_2 ++ dktX1_bodyOf_3
def dkwX1_bodyOf_1 : List UInt8 := [182, 0, 224, 54, 4, 29, 21, 4, 184, 1, 14, 96, 62, 29, 158, 0, 82, 21, 4, 16, 6, 184, 0, 161]
abbrev dktX1_bodyOf_1 : List UInt8 := dkwX1_bodyOf_1 ++ dktX1_bodyOf_2
def dkwX1_bodyOf_0 : List UInt8 := [42, 180, 0, 68, 3, 181, 1, 9, 4, 62, 27, 153, 0, 10, 42, 182, 0, 252, 167, 0, 7, 42]
abbrev dktX1_bodyOf_0 : List UInt8 := dkwX1_bodyOf_0 ++ dktX1_bodyOf_1
theorem dksX1_bodyOf_0 : cX1_bodyOf.data.toList.drop 0 = dktX1_bodyOf_0 := by decide +kernel
theorem dksX1_bodyOf_1 : cX1_bodyOf.data.toList.drop 22 = dktX1_bodyOf_1 := dk_seg dksX1_bodyOf_0 22 rfl rfl
theorem dksX1_bodyOf_2 : cX1_bodyOf.data.toList.drop 46 = dktX1_bodyOf_2 := dk_seg dksX1_bodyOf_1 24 rfl rfl
theorem dksX1_bodyOf_3 : cX1_bodyOf.data.toList.drop 69 = dktX1_bodyOf_3 := dk_seg dksX1_bodyOf_2 23 rfl rfl
theorem dksX1_bodyOf_4 : cX1_bodyOf.data.toList.drop 91 = dktX1_bodyOf_4 := dk_seg dksX1_bodyOf_3 22 rfl rfl
theorem dksX1_bodyOf_5 : cX1_bodyOf.data.toList.drop 115 = dktX1_bodyOf_5 := dk_seg dksX1_bodyOf_4 24 rfl rfl
theorem dX1_bodyOf_0 : decode cX1_bodyOf 0 = .ok (.aload_n 0, 1) := dk_42 (dk_at dksX1_bodyOf_0 0 rfl rfl)
theorem dX1_bodyOf_1 : decode cX1_bodyOf 1 = .ok (.getfield 68, 3) := dk_180 0 68 (dk_at dksX1_bodyOf_0 1 rfl rfl)
theorem dX1_bodyOf_4 : decode cX1_bodyOf 4 = .ok (.iconst 0, 1) := dk_3 (dk_at dksX1_bodyOf_0 4 rfl rfl)
theorem dX1_bodyOf_5 : decode cX1_bodyOf 5 = .ok (.putfield 265, 3) := dk_181 1 9 (dk_at dksX1_bodyOf_0 5 rfl rfl)
theorem dX1_bodyOf_8 : decode cX1_bodyOf 8 = .ok (.iconst 1, 1) := dk_4 (dk_at dksX1_bodyOf_0 8 rfl rfl)
theorem dX1_bodyOf_9 : decode cX1_bodyOf 9 = .ok (.istore_n 3, 1) := dk_62 (dk_at dksX1_bodyOf_0 9 rfl rfl)
theorem dX1_bodyOf_10 : decode cX1_bodyOf 10 = .ok (.iload_n 1, 1) := dk_27 (dk_at dksX1_bodyOf_0 10 rfl rfl)
theorem dX1_bodyOf_11 : decode cX1_bodyOf 11 = .ok (.ifCond .eq 10, 3) := dk_153 0 10 (dk_at dksX1_bodyOf_0 11 rfl rfl)
theorem dX1_bodyOf_14 : decode cX1_bodyOf 14 = .ok (.aload_n 0, 1) := dk_42 (dk_at dksX1_bodyOf_0 14 rfl rfl)
theorem dX1_bodyOf_15 : decode cX1_bodyOf 15 = .ok (.invokevirtual 252, 3) := dk_182 0 252 (dk_at dksX1_bodyOf_0 15 rfl rfl)
theorem dX1_bodyOf_18 : decode cX1_bodyOf 18 = .ok (.goto 7, 3) := dk_167 0 7 (dk_at dksX1_bodyOf_0 18 rfl rfl)
theorem dX1_bodyOf_21 : decode cX1_bodyOf 21 = .ok (.aload_n 0, 1) := dk_42 (dk_at dksX1_bodyOf_0 21 rfl rfl)
theorem dX1_bodyOf_22 : decode cX1_bodyOf 22 = .ok (.invokevirtual 224, 3) := dk_182 0 224 (dk_at dksX1_bodyOf_1 0 rfl rfl)
theorem dX1_bodyOf_25 : decode cX1_bodyOf 25 = .ok (.istore 4, 2) := dk_54 4 (dk_at dksX1_bodyOf_1 3 rfl rfl)
theorem dX1_bodyOf_27 : decode cX1_bodyOf 27 = .ok (.iload_n 3, 1) := dk_29 (dk_at dksX1_bodyOf_1 5 rfl rfl)
theorem dX1_bodyOf_28 : decode cX1_bodyOf 28 = .ok (.iload 4, 2) := dk_21 4 (dk_at dksX1_bodyOf_1 6 rfl rfl)
theorem dX1_bodyOf_30 : decode cX1_bodyOf 30 = .ok (.invokestatic 270, 3) := dk_184 1 14 (dk_at dksX1_bodyOf_1 8 rfl rfl)
theorem dX1_bodyOf_33 : decode cX1_bodyOf 33 = .ok (.iadd, 1) := dk_96 (dk_at dksX1_bodyOf_1 11 rfl rfl)
theorem dX1_bodyOf_34 : decode cX1_bodyOf 34 = .ok (.istore_n 3, 1) := dk_62 (dk_at dksX1_bodyOf_1 12 rfl rfl)
theorem dX1_bodyOf_35 : decode cX1_bodyOf 35 = .ok (.iload_n 3, 1) := dk_29 (dk_at dksX1_bodyOf_1 13 rfl rfl)
theorem dX1_bodyOf_36 : decode cX1_bodyOf 36 = .ok (.ifCond .le 82, 3) := dk_158 0 82 (dk_at dksX1_bodyOf_1 14 rfl rfl)
theorem dX1_bodyOf_39 : decode cX1_bodyOf 39 = .ok (.iload 4, 2) := dk_21 4 (dk_at dksX1_bodyOf_1 17 rfl rfl)
theorem dX1_bodyOf_41 : decode cX1_bodyOf 41 = .ok (.bipush 6, 2) := dk_16 6 (dk_at dksX1_bodyOf_1 19 rfl rfl)
theorem dX1_bodyOf_43 : decode cX1_bodyOf 43 = .ok (.invokestatic 161, 3) := dk_184 0 161 (dk_at dksX1_bodyOf_1 21 rfl rfl)
theorem dX1_bodyOf_46 : decode cX1_bodyOf 46 = .ok (.ifCond .eq 25, 3) := dk_153 0 25 (dk_at dksX1_bodyOf_2 0 rfl rfl)
theorem dX1_bodyOf_49 : decode cX1_bodyOf 49 = .ok (.aload_n 0, 1) := dk_42 (dk_at dksX1_bodyOf_2 3 rfl rfl)
theorem dX1_bodyOf_50 : decode cX1_bodyOf 50 = .ok (.iload_n 1, 1) := dk_27 (dk_at dksX1_bodyOf_2 4 rfl rfl)
theorem dX1_bodyOf_51 : decode cX1_bodyOf 51 = .ok (.ifCond .eq 10, 3) := dk_153 0 10 (dk_at dksX1_bodyOf_2 5 rfl rfl)
theorem dX1_bodyOf_54 : decode cX1_bodyOf 54 = .ok (.aload_n 0, 1) := dk_42 (dk_at dksX1_bodyOf_2 8 rfl rfl)
theorem dX1_bodyOf_55 : decode cX1_bodyOf 55 = .ok (.invokevirtual 252, 3) := dk_182 0 252 (dk_at dksX1_bodyOf_2 9 rfl rfl)
theorem dX1_bodyOf_58 : decode cX1_bodyOf 58 = .ok (.goto 7, 3) := dk_167 0 7 (dk_at dksX1_bodyOf_2 12 rfl rfl)
theorem dX1_bodyOf_61 : decode cX1_bodyOf 61 = .ok (.aload_n 0, 1) := dk_42 (dk_at dksX1_bodyOf_2 15 rfl rfl)
theorem dX1_bodyOf_62 : decode cX1_bodyOf 62 = .ok (.invokevirtual 224, 3) := dk_182 0 224 (dk_at dksX1_bodyOf_2 16 rfl rfl)
theorem dX1_bodyOf_65 : decode cX1_bodyOf 65 = .ok (.iload_n 2, 1) := dk_28 (dk_at dksX1_bodyOf_2 19 rfl rfl)
theorem dX1_bodyOf_66 : decode cX1_bodyOf 66 = .ok (.invokevirtual 369, 3) := dk_182 1 113 (dk_at dksX1_bodyOf_2 20 rfl rfl)
theorem dX1_bodyOf_69 : decode cX1_bodyOf 69 = .ok (.istore 4, 2) := dk_54 4 (dk_at dksX1_bodyOf_3 0 rfl rfl)
theorem dX1_bodyOf_71 : decode cX1_bodyOf 71 = .ok (.aload_n 0, 1) := dk_42 (dk_at dksX1_bodyOf_3 2 rfl rfl)
theorem dX1_bodyOf_72 : decode cX1_bodyOf 72 = .ok (.getfield 68, 3) := dk_180 0 68 (dk_at dksX1_bodyOf_3 3 rfl rfl)
theorem dX1_bodyOf_75 : decode cX1_bodyOf 75 = .ok (.iload 4, 2) := dk_21 4 (dk_at dksX1_bodyOf_3 6 rfl rfl)
theorem dX1_bodyOf_77 : decode cX1_bodyOf 77 = .ok (.bipush 40, 2) := dk_16 40 (dk_at dksX1_bodyOf_3 8 rfl rfl)
theorem dX1_bodyOf_79 : decode cX1_bodyOf 79 = .ok (.invokevirtual 273, 3) := dk_182 1 17 (dk_at dksX1_bodyOf_3 10 rfl rfl)
theorem dX1_bodyOf_82 : decode cX1_bodyOf 82 = .ok (.ifCond .ne 8, 3) := dk_154 0 8 (dk_at dksX1_bodyOf_3 13 rfl rfl)
theorem dX1_bodyOf_85 : decode cX1_bodyOf 85 = .ok (.aload_n 0, 1) := dk_42 (dk_at dksX1_bodyOf_3 16 rfl rfl)
theorem dX1_bodyOf_86 : decode cX1_bodyOf 86 = .ok (.iconst 5, 1) := dk_8 (dk_at dksX1_bodyOf_3 17 rfl rfl)
theorem dX1_bodyOf_87 : decode cX1_bodyOf 87 = .ok (.invokevirtual 203, 3) := dk_182 0 203 (dk_at dksX1_bodyOf_3 18 rfl rfl)
theorem dX1_bodyOf_90 : decode cX1_bodyOf 90 = .ok (.iload_n 1, 1) := dk_27 (dk_at dksX1_bodyOf_3 21 rfl rfl)
theorem dX1_bodyOf_91 : decode cX1_bodyOf 91 = .ok (.ifCond .eq 10, 3) := dk_153 0 10 (dk_at dksX1_bodyOf_4 0 rfl rfl)
theorem dX1_bodyOf_94 : decode cX1_bodyOf 94 = .ok (.aload_n 0, 1) := dk_42 (dk_at dksX1_bodyOf_4 3 rfl rfl)
theorem dX1_bodyOf_95 : decode cX1_bodyOf 95 = .ok (.invokevirtual 252, 3) := dk_182 0 252 (dk_at dksX1_bodyOf_4 4 rfl rfl)
theorem dX1_bodyOf_98 : decode cX1_bodyOf 98 = .ok (.goto 7, 3) := dk_167 0 7 (dk_at dksX1_bodyOf_4 7 rfl rfl)
theorem dX1_bodyOf_101 : decode cX1_bodyOf 101 = .ok (.aload_n 0, 1) := dk_42 (dk_at dksX1_bodyOf_4 10 rfl rfl)
theorem dX1_bodyOf_102 : decode cX1_bodyOf 102 = .ok (.invokevirtual 224, 3) := dk_182 0 224 (dk_at dksX1_bodyOf_4 11 rfl rfl)
theorem dX1_bodyOf_105 : decode cX1_bodyOf 105 = .ok (.istore 4, 2) := dk_54 4 (dk_at dksX1_bodyOf_4 14 rfl rfl)
theorem dX1_bodyOf_107 : decode cX1_bodyOf 107 = .ok (.iload_n 3, 1) := dk_29 (dk_at dksX1_bodyOf_4 16 rfl rfl)
theorem dX1_bodyOf_108 : decode cX1_bodyOf 108 = .ok (.iload 4, 2) := dk_21 4 (dk_at dksX1_bodyOf_4 17 rfl rfl)
theorem dX1_bodyOf_110 : decode cX1_bodyOf 110 = .ok (.invokestatic 270, 3) := dk_184 1 14 (dk_at dksX1_bodyOf_4 19 rfl rfl)
theorem dX1_bodyOf_113 : decode cX1_bodyOf 113 = .ok (.iadd, 1) := dk_96 (dk_at dksX1_bodyOf_4 22 rfl rfl)
theorem dX1_bodyOf_114 : decode cX1_bodyOf 114 = .ok (.istore_n 3, 1) := dk_62 (dk_at dksX1_bodyOf_4 23 rfl rfl)
theorem dX1_bodyOf_115 : decode cX1_bodyOf 115 = .ok (.goto (-80), 3) := dk_167 255 176 (dk_at dksX1_bodyOf_5 0 rfl rfl)
theorem dX1_bodyOf_118 : decode cX1_bodyOf 118 = .ok (.return_, 1) := dk_177 (dk_at dksX1_bodyOf_5 3 rfl rfl)
abbrev cX1_behindHash : ByteArray := prog_1_method_48_code
def yX1_behindHash : MethodName := ⟨RX1, "behindHash", "(II)I"⟩
def dkwX1_behindHash_2 : List UInt8 := [116, 172]
abbrev dktX1_behindHash_2 : List UInt8 := dkwX1_behindHash_2 ++ []
def dkwX1_behindHash_1 : List UInt8 := [16, 48, 100, 167, 0, 4, 3, 62, 29, 4, 161, 0, 8, 29, 28, 164, 0, 8, 42, 7, 182, 0, 203, 29]
abbrev dktX1_behindHash_1 : List UInt8 := dkwX1_behindHash_1 ++ dktX1_behindHash_2
def dkwX1_behindHash_0 : List UInt8 := [27, 16, 6, 184, 0, 161, 153, 0, 5, 27, 172, 27, 184, 0, 158, 153, 0, 14, 27, 17, 0, 255, 126]
abbrev dktX1_behindHash_0 : List UInt8 := dkwX1_behindHash_0 ++ dktX1_behindHash_1
theorem dksX1_behindHash_0 : cX1_behindHash.data.toList.drop 0 = dktX1_behindHash_0 := by decide +kernel
theorem dksX1_behindHash_1 : cX1_behindHash.data.toList.drop 23 = dktX1_behindHash_1 := dk_seg dksX1_behindHash_0 23 rfl rfl
theorem dksX1_behindHash_2 : cX1_behindHash.data.toList.drop 47 = dktX1_behindHash_2 := dk_seg dksX1_behindHash_1 24 rfl rfl
theorem dX1_behindHash_0 : decode cX1_behindHash 0 = .ok (.iload_n 1, 1) := dk_27 (dk_at dksX1_behindHash_0 0 rfl rfl)
theorem dX1_behindHash_1 : decode cX1_behindHash 1 = .ok (.bipush 6, 2) := dk_16 6 (dk_at dksX1_behindHash_0 1 rfl rfl)
theorem dX1_behindHash_3 : decode cX1_behindHash 3 = .ok (.invokestatic 161, 3) := dk_184 0 161 (dk_at dksX1_behindHash_0 3 rfl rfl)
theorem dX1_behindHash_6 : decode cX1_behindHash 6 = .ok (.ifCond .eq 5, 3) := dk_153 0 5 (dk_at dksX1_behindHash_0 6 rfl rfl)
theorem dX1_behindHash_9 : decode cX1_behindHash 9 = .ok (.iload_n 1, 1) := dk_27 (dk_at dksX1_behindHash_0 9 rfl rfl)
theorem dX1_behindHash_10 : decode cX1_behindHash 10 = .ok (.ireturn, 1) := dk_172 (dk_at dksX1_behindHash_0 10 rfl rfl)
theorem dX1_behindHash_11 : decode cX1_behindHash 11 = .ok (.iload_n 1, 1) := dk_27 (dk_at dksX1_behindHash_0 11 rfl rfl)
theorem dX1_behindHash_12 : decode cX1_behindHash 12 = .ok (.invokestatic 158, 3) := dk_184 0 158 (dk_at dksX1_behindHash_0 12 rfl rfl)
theorem dX1_behindHash_15 : decode cX1_behindHash 15 = .ok (.ifCond .eq 14, 3) := dk_153 0 14 (dk_at dksX1_behindHash_0 15 rfl rfl)
theorem dX1_behindHash_18 : decode cX1_behindHash 18 = .ok (.iload_n 1, 1) := dk_27 (dk_at dksX1_behindHash_0 18 rfl rfl)
theorem dX1_behindHash_19 : decode cX1_behindHash 19 = .ok (.sipush 255, 3) := dk_17 0 255 (dk_at dksX1_behindHash_0 19 rfl rfl)
theorem dX1_behindHash_22 : decode cX1_behindHash 22 = .ok (.iand, 1) := dk_126 (dk_at dksX1_behindHash_0 22 rfl rfl)
theorem dX1_behindHash_23 : decode cX1_behindHash 23 = .ok (.bipush 48, 2) := dk_16 48 (dk_at dksX1_behindHash_1 0 rfl rfl)
theorem dX1_behindHash_25 : decode cX1_behindHash 25 = .ok (.isub, 1) := dk_100 (dk_at dksX1_behindHash_1 2 rfl rfl)
theorem dX1_behindHash_26 : decode cX1_behindHash 26 = .ok (.goto 4, 3) := dk_167 0 4 (dk_at dksX1_behindHash_1 3 rfl rfl)
theorem dX1_behindHash_29 : decode cX1_behindHash 29 = .ok (.iconst 0, 1) := dk_3 (dk_at dksX1_behindHash_1 6 rfl rfl)
theorem dX1_behindHash_30 : decode cX1_behindHash 30 = .ok (.istore_n 3, 1) := dk_62 (dk_at dksX1_behindHash_1 7 rfl rfl)
theorem dX1_behindHash_31 : decode cX1_behindHash 31 = .ok (.iload_n 3, 1) := dk_29 (dk_at dksX1_behindHash_1 8 rfl rfl)
theorem dX1_behindHash_32 : decode cX1_behindHash 32 = .ok (.iconst 1, 1) := dk_4 (dk_at dksX1_behindHash_1 9 rfl rfl)
theorem dX1_behindHash_33 : decode cX1_behindHash 33 = .ok (.if_icmp .lt 8, 3) := dk_161 0 8 (dk_at dksX1_behindHash_1 10 rfl rfl)
theorem dX1_behindHash_36 : decode cX1_behindHash 36 = .ok (.iload_n 3, 1) := dk_29 (dk_at dksX1_behindHash_1 13 rfl rfl)
theorem dX1_behindHash_37 : decode cX1_behindHash 37 = .ok (.iload_n 2, 1) := dk_28 (dk_at dksX1_behindHash_1 14 rfl rfl)
theorem dX1_behindHash_38 : decode cX1_behindHash 38 = .ok (.if_icmp .le 8, 3) := dk_164 0 8 (dk_at dksX1_behindHash_1 15 rfl rfl)
theorem dX1_behindHash_41 : decode cX1_behindHash 41 = .ok (.aload_n 0, 1) := dk_42 (dk_at dksX1_behindHash_1 18 rfl rfl)
theorem dX1_behindHash_42 : decode cX1_behindHash 42 = .ok (.iconst 4, 1) := dk_7 (dk_at dksX1_behindHash_1 19 rfl rfl)
theorem dX1_behindHash_43 : decode cX1_behindHash 43 = .ok (.invokevirtual 203, 3) := dk_182 0 203 (dk_at dksX1_behindHash_1 20 rfl rfl)
theorem dX1_behindHash_46 : decode cX1_behindHash 46 = .ok (.iload_n 3, 1) := dk_29 (dk_at dksX1_behindHash_1 23 rfl rfl)
theorem dX1_behindHash_47 : decode cX1_behindHash 47 = .ok (.ineg, 1) := dk_116 (dk_at dksX1_behindHash_2 0 rfl rfl)
theorem dX1_behindHash_48 : decode cX1_behindHash 48 = .ok (.ireturn, 1) := dk_172 (dk_at dksX1_behindHash_2 1 rfl rfl)
abbrev cX1_let : ByteArray := prog_1_method_49_code
def yX1_let : MethodName := ⟨RX1, "let", "()V"⟩
def dkwX1_let_2 : List UInt8 := [182, 1, 2, 177]
abbrev dktX1_let_2 : List UInt8 := dkwX1_let_2 ++ []
def dkwX1_let_1 : List UInt8 := [28, 184, 0, 158, 153, 0, 14, 187, 0, 186, 89, 28, 183, 1, 117, 167, 0, 8, 42, 28, 182, 0, 176]
abbrev dktX1_let_1 : List UInt8 := dkwX1_let_1 ++ dktX1_let_2
def dkwX1_let_0 : List UInt8 := [42, 182, 1, 86, 76, 42, 182, 0, 224, 61, 28, 17, 12, 61, 160, 0, 8, 42, 182, 0, 224, 61, 42, 43]
abbrev dktX1_let_0 : List UInt8 := dkwX1_let_0 ++ dktX1_let_1
theorem dksX1_let_0 : cX1_let.data.toList.drop 0 = dktX1_let_0 := by decide +kernel
theorem dksX1_let_1 : cX1_let.data.toList.drop 24 = dktX1_let_1 := dk_seg dksX1_let_0 24 rfl rfl
theorem dksX1_let_2 : cX1_let.data.toList.drop 47 = dktX1_let_2 := dk_seg dksX1_let_1 23 rfl rfl
theorem dX1_let_0 : decode cX1_let 0 = .ok (.aload_n 0, 1) := dk_42 (dk_at dksX1_let_0 0 rfl rfl)
theorem dX1_let_1 : decode cX1_let 1 = .ok (.invokevirtual 342, 3) := dk_182 1 86 (dk_at dksX1_let_0 1 rfl rfl)
theorem dX1_let_4 : decode cX1_let 4 = .ok (.astore_n 1, 1) := dk_76 (dk_at dksX1_let_0 4 rfl rfl)
theorem dX1_let_5 : decode cX1_let 5 = .ok (.aload_n 0, 1) := dk_42 (dk_at dksX1_let_0 5 rfl rfl)
theorem dX1_let_6 : decode cX1_let 6 = .ok (.invokevirtual 224, 3) := dk_182 0 224 (dk_at dksX1_let_0 6 rfl rfl)
theorem dX1_let_9 : decode cX1_let 9 = .ok (.istore_n 2, 1) := dk_61 (dk_at dksX1_let_0 9 rfl rfl)
theorem dX1_let_10 : decode cX1_let 10 = .ok (.iload_n 2, 1) := dk_28 (dk_at dksX1_let_0 10 rfl rfl)
theorem dX1_let_11 : decode cX1_let 11 = .ok (.sipush 3133, 3) := dk_17 12 61 (dk_at dksX1_let_0 11 rfl rfl)
theorem dX1_let_14 : decode cX1_let 14 = .ok (.if_icmp .ne 8, 3) := dk_160 0 8 (dk_at dksX1_let_0 14 rfl rfl)
theorem dX1_let_17 : decode cX1_let 17 = .ok (.aload_n 0, 1) := dk_42 (dk_at dksX1_let_0 17 rfl rfl)
theorem dX1_let_18 : decode cX1_let 18 = .ok (.invokevirtual 224, 3) := dk_182 0 224 (dk_at dksX1_let_0 18 rfl rfl)
theorem dX1_let_21 : decode cX1_let 21 = .ok (.istore_n 2, 1) := dk_61 (dk_at dksX1_let_0 21 rfl rfl)
theorem dX1_let_22 : decode cX1_let 22 = .ok (.aload_n 0, 1) := dk_42 (dk_at dksX1_let_0 22 rfl rfl)
theorem dX1_let_23 : decode cX1_let 23 = .ok (.aload_n 1, 1) := dk_43 (dk_at dksX1_let_0 23 rfl rfl)
theorem dX1_let_24 : decode cX1_let 24 = .ok (.iload_n 2, 1) := dk_28 (dk_at dksX1_let_1 0 rfl rfl)
theorem dX1_let_25 : decode cX1_let 25 = .ok (.invokestatic 158, 3) := dk_184 0 158 (dk_at dksX1_let_1 1 rfl rfl)
theorem dX1_let_28 : decode cX1_let 28 = .ok (.ifCond .eq 14, 3) := dk_153 0 14 (dk_at dksX1_let_1 4 rfl rfl)
theorem dX1_let_31 : decode cX1_let 31 = .ok (.new 186, 3) := dk_187 0 186 (dk_at dksX1_let_1 7 rfl rfl)
theorem dX1_let_34 : decode cX1_let 34 = .ok (.dup, 1) := dk_89 (dk_at dksX1_let_1 10 rfl rfl)
theorem dX1_let_35 : decode cX1_let 35 = .ok (.iload_n 2, 1) := dk_28 (dk_at dksX1_let_1 11 rfl rfl)
theorem dX1_let_36 : decode cX1_let 36 = .ok (.invokespecial 373, 3) := dk_183 1 117 (dk_at dksX1_let_1 12 rfl rfl)
theorem dX1_let_39 : decode cX1_let 39 = .ok (.goto 8, 3) := dk_167 0 8 (dk_at dksX1_let_1 15 rfl rfl)
theorem dX1_let_42 : decode cX1_let 42 = .ok (.aload_n 0, 1) := dk_42 (dk_at dksX1_let_1 18 rfl rfl)
theorem dX1_let_43 : decode cX1_let 43 = .ok (.iload_n 2, 1) := dk_28 (dk_at dksX1_let_1 19 rfl rfl)
theorem dX1_let_44 : decode cX1_let 44 = .ok (.invokevirtual 176, 3) := dk_182 0 176 (dk_at dksX1_let_1 20 rfl rfl)
theorem dX1_let_47 : decode cX1_let 47 = .ok (.invokevirtual 258, 3) := dk_182 1 2 (dk_at dksX1_let_2 0 rfl rfl)
theorem dX1_let_50 : decode cX1_let 50 = .ok (.return_, 1) := dk_177 (dk_at dksX1_let_2 3 rfl rfl)
abbrev cX1_catcode : ByteArray := prog_1_method_51_code
def yX1_catcode : MethodName := ⟨RX1, "catcode", "()V"⟩
def dkwX1_catcode_6 : List UInt8 := [42, 1, 28, 182, 1, 122, 42, 180, 0, 13, 28, 21, 4, 145, 84, 177]
abbrev dktX1_catcode_6 : List UInt8 := dkwX1_catcode_6 ++ []
def dkwX1_catcode_5 : List UInt8 := [21, 5, 2, 159, 0, 9, 42, 21, 5, 182, 0, 241, 21, 4, 16, 15, 164, 0, 8, 42, 7, 182, 0, 203]
abbrev dktX1_catcode_5 : List UInt8 := dkwX1_catcode_5 ++ dktX1_catcode_6
def dkwX1_catcode_4 : List UInt8 := [153, 0, 23, 16, 10, 21, 4, 104, 21, 5, 17, 0, 255, 126, 96, 16, 48, 100, 54, 4, 167, 0, 15]
abbrev dktX1_catcode_4 : List UInt8 := dkwX1_catcode_4 ++ dktX1_catcode_5
def dkwX1_catcode_3 : List UInt8 := [182, 0, 203, 29, 17, 0, 255, 126, 16, 48, 100, 54, 4, 42, 182, 0, 222, 54, 5, 21, 5, 184, 1, 119]
abbrev dktX1_catcode_3 : List UInt8 := dkwX1_catcode_3 ++ dktX1_catcode_4
def dkwX1_catcode_2 : List UInt8 := [27, 182, 0, 172, 180, 0, 247, 3, 51, 61, 42, 182, 0, 224, 62, 29, 184, 1, 119, 154, 0, 8, 42, 7]
abbrev dktX1_catcode_2 : List UInt8 := dkwX1_catcode_2 ++ dktX1_catcode_3
def dkwX1_catcode_1 : List UInt8 := [164, 0, 8, 42, 7, 182, 0, 203, 27, 184, 0, 158, 153, 0, 11, 27, 17, 0, 255, 126, 167, 0, 13, 42]
abbrev dktX1_catcode_1 : List UInt8 := dkwX1_catcode_1 ++ dktX1_catcode_2
def dkwX1_catcode_0 : List UInt8 := [42, 182, 0, 224, 60, 27, 184, 0, 158, 154, 0, 21, 42, 27, 182, 0, 172, 180, 0, 247, 190, 4]
abbrev dktX1_catcode_0 : List UInt8 := dkwX1_catcode_0 ++ dktX1_catcode_1
theorem dksX1_catcode_0 : cX1_catcode.data.toList.drop 0 = dktX1_catcode_0 := by decide +kernel
theorem dksX1_catcode_1 : cX1_catcode.data.toList.drop 22 = dktX1_catcode_1 := dk_seg dksX1_catcode_0 22 rfl rfl
theorem dksX1_catcode_2 : cX1_catcode.data.toList.drop 46 = dktX1_catcode_2 := dk_seg dksX1_catcode_1 24 rfl rfl
theorem dksX1_catcode_3 : cX1_catcode.data.toList.drop 70 = dktX1_catcode_3 := dk_seg dksX1_catcode_2 24 rfl rfl
theorem dksX1_catcode_4 : cX1_catcode.data.toList.drop 94 = dktX1_catcode_4 := dk_seg dksX1_catcode_3 24 rfl rfl
theorem dksX1_catcode_5 : cX1_catcode.data.toList.drop 117 = dktX1_catcode_5 := dk_seg dksX1_catcode_4 23 rfl rfl
theorem dksX1_catcode_6 : cX1_catcode.data.toList.drop 141 = dktX1_catcode_6 := dk_seg dksX1_catcode_5 24 rfl rfl
theorem dX1_catcode_0 : decode cX1_catcode 0 = .ok (.aload_n 0, 1) := dk_42 (dk_at dksX1_catcode_0 0 rfl rfl)
theorem dX1_catcode_1 : decode cX1_catcode 1 = .ok (.invokevirtual 224, 3) := dk_182 0 224 (dk_at dksX1_catcode_0 1 rfl rfl)
theorem dX1_catcode_4 : decode cX1_catcode 4 = .ok (.istore_n 1, 1) := dk_60 (dk_at dksX1_catcode_0 4 rfl rfl)
theorem dX1_catcode_5 : decode cX1_catcode 5 = .ok (.iload_n 1, 1) := dk_27 (dk_at dksX1_catcode_0 5 rfl rfl)
theorem dX1_catcode_6 : decode cX1_catcode 6 = .ok (.invokestatic 158, 3) := dk_184 0 158 (dk_at dksX1_catcode_0 6 rfl rfl)
theorem dX1_catcode_9 : decode cX1_catcode 9 = .ok (.ifCond .ne 21, 3) := dk_154 0 21 (dk_at dksX1_catcode_0 9 rfl rfl)
theorem dX1_catcode_12 : decode cX1_catcode 12 = .ok (.aload_n 0, 1) := dk_42 (dk_at dksX1_catcode_0 12 rfl rfl)
theorem dX1_catcode_13 : decode cX1_catcode 13 = .ok (.iload_n 1, 1) := dk_27 (dk_at dksX1_catcode_0 13 rfl rfl)
theorem dX1_catcode_14 : decode cX1_catcode 14 = .ok (.invokevirtual 172, 3) := dk_182 0 172 (dk_at dksX1_catcode_0 14 rfl rfl)
theorem dX1_catcode_17 : decode cX1_catcode 17 = .ok (.getfield 247, 3) := dk_180 0 247 (dk_at dksX1_catcode_0 17 rfl rfl)
theorem dX1_catcode_20 : decode cX1_catcode 20 = .ok (.arraylength, 1) := dk_190 (dk_at dksX1_catcode_0 20 rfl rfl)
theorem dX1_catcode_21 : decode cX1_catcode 21 = .ok (.iconst 1, 1) := dk_4 (dk_at dksX1_catcode_0 21 rfl rfl)
theorem dX1_catcode_22 : decode cX1_catcode 22 = .ok (.if_icmp .le 8, 3) := dk_164 0 8 (dk_at dksX1_catcode_1 0 rfl rfl)
theorem dX1_catcode_25 : decode cX1_catcode 25 = .ok (.aload_n 0, 1) := dk_42 (dk_at dksX1_catcode_1 3 rfl rfl)
theorem dX1_catcode_26 : decode cX1_catcode 26 = .ok (.iconst 4, 1) := dk_7 (dk_at dksX1_catcode_1 4 rfl rfl)
theorem dX1_catcode_27 : decode cX1_catcode 27 = .ok (.invokevirtual 203, 3) := dk_182 0 203 (dk_at dksX1_catcode_1 5 rfl rfl)
theorem dX1_catcode_30 : decode cX1_catcode 30 = .ok (.iload_n 1, 1) := dk_27 (dk_at dksX1_catcode_1 8 rfl rfl)
theorem dX1_catcode_31 : decode cX1_catcode 31 = .ok (.invokestatic 158, 3) := dk_184 0 158 (dk_at dksX1_catcode_1 9 rfl rfl)
theorem dX1_catcode_34 : decode cX1_catcode 34 = .ok (.ifCond .eq 11, 3) := dk_153 0 11 (dk_at dksX1_catcode_1 12 rfl rfl)
theorem dX1_catcode_37 : decode cX1_catcode 37 = .ok (.iload_n 1, 1) := dk_27 (dk_at dksX1_catcode_1 15 rfl rfl)
theorem dX1_catcode_38 : decode cX1_catcode 38 = .ok (.sipush 255, 3) := dk_17 0 255 (dk_at dksX1_catcode_1 16 rfl rfl)
theorem dX1_catcode_41 : decode cX1_catcode 41 = .ok (.iand, 1) := dk_126 (dk_at dksX1_catcode_1 19 rfl rfl)
theorem dX1_catcode_42 : decode cX1_catcode 42 = .ok (.goto 13, 3) := dk_167 0 13 (dk_at dksX1_catcode_1 20 rfl rfl)
theorem dX1_catcode_45 : decode cX1_catcode 45 = .ok (.aload_n 0, 1) := dk_42 (dk_at dksX1_catcode_1 23 rfl rfl)
theorem dX1_catcode_46 : decode cX1_catcode 46 = .ok (.iload_n 1, 1) := dk_27 (dk_at dksX1_catcode_2 0 rfl rfl)
theorem dX1_catcode_47 : decode cX1_catcode 47 = .ok (.invokevirtual 172, 3) := dk_182 0 172 (dk_at dksX1_catcode_2 1 rfl rfl)
theorem dX1_catcode_50 : decode cX1_catcode 50 = .ok (.getfield 247, 3) := dk_180 0 247 (dk_at dksX1_catcode_2 4 rfl rfl)
theorem dX1_catcode_53 : decode cX1_catcode 53 = .ok (.iconst 0, 1) := dk_3 (dk_at dksX1_catcode_2 7 rfl rfl)
theorem dX1_catcode_54 : decode cX1_catcode 54 = .ok (.baload, 1) := dk_51 (dk_at dksX1_catcode_2 8 rfl rfl)
theorem dX1_catcode_55 : decode cX1_catcode 55 = .ok (.istore_n 2, 1) := dk_61 (dk_at dksX1_catcode_2 9 rfl rfl)
theorem dX1_catcode_56 : decode cX1_catcode 56 = .ok (.aload_n 0, 1) := dk_42 (dk_at dksX1_catcode_2 10 rfl rfl)
theorem dX1_catcode_57 : decode cX1_catcode 57 = .ok (.invokevirtual 224, 3) := dk_182 0 224 (dk_at dksX1_catcode_2 11 rfl rfl)
theorem dX1_catcode_60 : decode cX1_catcode 60 = .ok (.istore_n 3, 1) := dk_62 (dk_at dksX1_catcode_2 14 rfl rfl)
theorem dX1_catcode_61 : decode cX1_catcode 61 = .ok (.iload_n 3, 1) := dk_29 (dk_at dksX1_catcode_2 15 rfl rfl)
theorem dX1_catcode_62 : decode cX1_catcode 62 = .ok (.invokestatic 375, 3) := dk_184 1 119 (dk_at dksX1_catcode_2 16 rfl rfl)
theorem dX1_catcode_65 : decode cX1_catcode 65 = .ok (.ifCond .ne 8, 3) := dk_154 0 8 (dk_at dksX1_catcode_2 19 rfl rfl)
theorem dX1_catcode_68 : decode cX1_catcode 68 = .ok (.aload_n 0, 1) := dk_42 (dk_at dksX1_catcode_2 22 rfl rfl)
theorem dX1_catcode_69 : decode cX1_catcode 69 = .ok (.iconst 4, 1) := dk_7 (dk_at dksX1_catcode_2 23 rfl rfl)
theorem dX1_catcode_70 : decode cX1_catcode 70 = .ok (.invokevirtual 203, 3) := dk_182 0 203 (dk_at dksX1_catcode_3 0 rfl rfl)
theorem dX1_catcode_73 : decode cX1_catcode 73 = .ok (.iload_n 3, 1) := dk_29 (dk_at dksX1_catcode_3 3 rfl rfl)
theorem dX1_catcode_74 : decode cX1_catcode 74 = .ok (.sipush 255, 3) := dk_17 0 255 (dk_at dksX1_catcode_3 4 rfl rfl)
theorem dX1_catcode_77 : decode cX1_catcode 77 = .ok (.iand, 1) := dk_126 (dk_at dksX1_catcode_3 7 rfl rfl)
theorem dX1_catcode_78 : decode cX1_catcode 78 = .ok (.bipush 48, 2) := dk_16 48 (dk_at dksX1_catcode_3 8 rfl rfl)
theorem dX1_catcode_80 : decode cX1_catcode 80 = .ok (.isub, 1) := dk_100 (dk_at dksX1_catcode_3 10 rfl rfl)
theorem dX1_catcode_81 : decode cX1_catcode 81 = .ok (.istore 4, 2) := dk_54 4 (dk_at dksX1_catcode_3 11 rfl rfl)
theorem dX1_catcode_83 : decode cX1_catcode 83 = .ok (.aload_n 0, 1) := dk_42 (dk_at dksX1_catcode_3 13 rfl rfl)
theorem dX1_catcode_84 : decode cX1_catcode 84 = .ok (.invokevirtual 222, 3) := dk_182 0 222 (dk_at dksX1_catcode_3 14 rfl rfl)
theorem dX1_catcode_87 : decode cX1_catcode 87 = .ok (.istore 5, 2) := dk_54 5 (dk_at dksX1_catcode_3 17 rfl rfl)
theorem dX1_catcode_89 : decode cX1_catcode 89 = .ok (.iload 5, 2) := dk_21 5 (dk_at dksX1_catcode_3 19 rfl rfl)
theorem dX1_catcode_91 : decode cX1_catcode 91 = .ok (.invokestatic 375, 3) := dk_184 1 119 (dk_at dksX1_catcode_3 21 rfl rfl)
theorem dX1_catcode_94 : decode cX1_catcode 94 = .ok (.ifCond .eq 23, 3) := dk_153 0 23 (dk_at dksX1_catcode_4 0 rfl rfl)
theorem dX1_catcode_97 : decode cX1_catcode 97 = .ok (.bipush 10, 2) := dk_16 10 (dk_at dksX1_catcode_4 3 rfl rfl)
theorem dX1_catcode_99 : decode cX1_catcode 99 = .ok (.iload 4, 2) := dk_21 4 (dk_at dksX1_catcode_4 5 rfl rfl)
theorem dX1_catcode_101 : decode cX1_catcode 101 = .ok (.imul, 1) := dk_104 (dk_at dksX1_catcode_4 7 rfl rfl)
theorem dX1_catcode_102 : decode cX1_catcode 102 = .ok (.iload 5, 2) := dk_21 5 (dk_at dksX1_catcode_4 8 rfl rfl)
theorem dX1_catcode_104 : decode cX1_catcode 104 = .ok (.sipush 255, 3) := dk_17 0 255 (dk_at dksX1_catcode_4 10 rfl rfl)
theorem dX1_catcode_107 : decode cX1_catcode 107 = .ok (.iand, 1) := dk_126 (dk_at dksX1_catcode_4 13 rfl rfl)
theorem dX1_catcode_108 : decode cX1_catcode 108 = .ok (.iadd, 1) := dk_96 (dk_at dksX1_catcode_4 14 rfl rfl)
theorem dX1_catcode_109 : decode cX1_catcode 109 = .ok (.bipush 48, 2) := dk_16 48 (dk_at dksX1_catcode_4 15 rfl rfl)
theorem dX1_catcode_111 : decode cX1_catcode 111 = .ok (.isub, 1) := dk_100 (dk_at dksX1_catcode_4 17 rfl rfl)
theorem dX1_catcode_112 : decode cX1_catcode 112 = .ok (.istore 4, 2) := dk_54 4 (dk_at dksX1_catcode_4 18 rfl rfl)
theorem dX1_catcode_114 : decode cX1_catcode 114 = .ok (.goto 15, 3) := dk_167 0 15 (dk_at dksX1_catcode_4 20 rfl rfl)
theorem dX1_catcode_117 : decode cX1_catcode 117 = .ok (.iload 5, 2) := dk_21 5 (dk_at dksX1_catcode_5 0 rfl rfl)
theorem dX1_catcode_119 : decode cX1_catcode 119 = .ok (.iconst (-1), 1) := dk_2 (dk_at dksX1_catcode_5 2 rfl rfl)
theorem dX1_catcode_120 : decode cX1_catcode 120 = .ok (.if_icmp .eq 9, 3) := dk_159 0 9 (dk_at dksX1_catcode_5 3 rfl rfl)
theorem dX1_catcode_123 : decode cX1_catcode 123 = .ok (.aload_n 0, 1) := dk_42 (dk_at dksX1_catcode_5 6 rfl rfl)
theorem dX1_catcode_124 : decode cX1_catcode 124 = .ok (.iload 5, 2) := dk_21 5 (dk_at dksX1_catcode_5 7 rfl rfl)
theorem dX1_catcode_126 : decode cX1_catcode 126 = .ok (.invokevirtual 241, 3) := dk_182 0 241 (dk_at dksX1_catcode_5 9 rfl rfl)
theorem dX1_catcode_129 : decode cX1_catcode 129 = .ok (.iload 4, 2) := dk_21 4 (dk_at dksX1_catcode_5 12 rfl rfl)
theorem dX1_catcode_131 : decode cX1_catcode 131 = .ok (.bipush 15, 2) := dk_16 15 (dk_at dksX1_catcode_5 14 rfl rfl)
theorem dX1_catcode_133 : decode cX1_catcode 133 = .ok (.if_icmp .le 8, 3) := dk_164 0 8 (dk_at dksX1_catcode_5 16 rfl rfl)
theorem dX1_catcode_136 : decode cX1_catcode 136 = .ok (.aload_n 0, 1) := dk_42 (dk_at dksX1_catcode_5 19 rfl rfl)
theorem dX1_catcode_137 : decode cX1_catcode 137 = .ok (.iconst 4, 1) := dk_7 (dk_at dksX1_catcode_5 20 rfl rfl)
theorem dX1_catcode_138 : decode cX1_catcode 138 = .ok (.invokevirtual 203, 3) := dk_182 0 203 (dk_at dksX1_catcode_5 21 rfl rfl)
theorem dX1_catcode_141 : decode cX1_catcode 141 = .ok (.aload_n 0, 1) := dk_42 (dk_at dksX1_catcode_6 0 rfl rfl)
theorem dX1_catcode_142 : decode cX1_catcode 142 = .ok (.aconst_null, 1) := dk_1 (dk_at dksX1_catcode_6 1 rfl rfl)
theorem dX1_catcode_143 : decode cX1_catcode 143 = .ok (.iload_n 2, 1) := dk_28 (dk_at dksX1_catcode_6 2 rfl rfl)
theorem dX1_catcode_144 : decode cX1_catcode 144 = .ok (.invokevirtual 378, 3) := dk_182 1 122 (dk_at dksX1_catcode_6 3 rfl rfl)
theorem dX1_catcode_147 : decode cX1_catcode 147 = .ok (.aload_n 0, 1) := dk_42 (dk_at dksX1_catcode_6 6 rfl rfl)
theorem dX1_catcode_148 : decode cX1_catcode 148 = .ok (.getfield 13, 3) := dk_180 0 13 (dk_at dksX1_catcode_6 7 rfl rfl)
theorem dX1_catcode_151 : decode cX1_catcode 151 = .ok (.iload_n 2, 1) := dk_28 (dk_at dksX1_catcode_6 10 rfl rfl)
theorem dX1_catcode_152 : decode cX1_catcode 152 = .ok (.iload 4, 2) := dk_21 4 (dk_at dksX1_catcode_6 11 rfl rfl)
theorem dX1_catcode_154 : decode cX1_catcode 154 = .ok (.i2b, 1) := dk_145 (dk_at dksX1_catcode_6 13 rfl rfl)
theorem dX1_catcode_155 : decode cX1_catcode 155 = .ok (.bastore, 1) := dk_84 (dk_at dksX1_catcode_6 14 rfl rfl)
theorem dX1_catcode_156 : decode cX1_catcode 156 = .ok (.return_, 1) := dk_177 (dk_at dksX1_catcode_6 15 rfl rfl)
abbrev cX1_isDigit : ByteArray := prog_1_method_50_code
def yX1_isDigit : MethodName := ⟨RX1, "isDigit", "(I)Z"⟩
def dkwX1_isDigit_1 : List UInt8 := [16, 57, 163, 0, 7, 4, 167, 0, 4, 3, 172]
abbrev dktX1_isDigit_1 : List UInt8 := dkwX1_isDigit_1 ++ []
def dkwX1_isDigit_0 : List UInt8 := [26, 16, 12, 184, 0, 161, 153, 0, 27, 26, 17, 0, 255, 126, 16, 48, 161, 0, 17, 26, 17, 0, 255, 126]
abbrev dktX1_isDigit_0 : List UInt8 := dkwX1_isDigit_0 ++ dktX1_isDigit_1
theorem dksX1_isDigit_0 : cX1_isDigit.data.toList.drop 0 = dktX1_isDigit_0 := by decide +kernel
theorem dksX1_isDigit_1 : cX1_isDigit.data.toList.drop 24 = dktX1_isDigit_1 := dk_seg dksX1_isDigit_0 24 rfl rfl
theorem dX1_isDigit_0 : decode cX1_isDigit 0 = .ok (.iload_n 0, 1) := dk_26 (dk_at dksX1_isDigit_0 0 rfl rfl)
theorem dX1_isDigit_1 : decode cX1_isDigit 1 = .ok (.bipush 12, 2) := dk_16 12 (dk_at dksX1_isDigit_0 1 rfl rfl)
theorem dX1_isDigit_3 : decode cX1_isDigit 3 = .ok (.invokestatic 161, 3) := dk_184 0 161 (dk_at dksX1_isDigit_0 3 rfl rfl)
theorem dX1_isDigit_6 : decode cX1_isDigit 6 = .ok (.ifCond .eq 27, 3) := dk_153 0 27 (dk_at dksX1_isDigit_0 6 rfl rfl)
theorem dX1_isDigit_9 : decode cX1_isDigit 9 = .ok (.iload_n 0, 1) := dk_26 (dk_at dksX1_isDigit_0 9 rfl rfl)
theorem dX1_isDigit_10 : decode cX1_isDigit 10 = .ok (.sipush 255, 3) := dk_17 0 255 (dk_at dksX1_isDigit_0 10 rfl rfl)
theorem dX1_isDigit_13 : decode cX1_isDigit 13 = .ok (.iand, 1) := dk_126 (dk_at dksX1_isDigit_0 13 rfl rfl)
theorem dX1_isDigit_14 : decode cX1_isDigit 14 = .ok (.bipush 48, 2) := dk_16 48 (dk_at dksX1_isDigit_0 14 rfl rfl)
theorem dX1_isDigit_16 : decode cX1_isDigit 16 = .ok (.if_icmp .lt 17, 3) := dk_161 0 17 (dk_at dksX1_isDigit_0 16 rfl rfl)
theorem dX1_isDigit_19 : decode cX1_isDigit 19 = .ok (.iload_n 0, 1) := dk_26 (dk_at dksX1_isDigit_0 19 rfl rfl)
theorem dX1_isDigit_20 : decode cX1_isDigit 20 = .ok (.sipush 255, 3) := dk_17 0 255 (dk_at dksX1_isDigit_0 20 rfl rfl)
theorem dX1_isDigit_23 : decode cX1_isDigit 23 = .ok (.iand, 1) := dk_126 (dk_at dksX1_isDigit_0 23 rfl rfl)
theorem dX1_isDigit_24 : decode cX1_isDigit 24 = .ok (.bipush 57, 2) := dk_16 57 (dk_at dksX1_isDigit_1 0 rfl rfl)
theorem dX1_isDigit_26 : decode cX1_isDigit 26 = .ok (.if_icmp .gt 7, 3) := dk_163 0 7 (dk_at dksX1_isDigit_1 2 rfl rfl)
theorem dX1_isDigit_29 : decode cX1_isDigit 29 = .ok (.iconst 1, 1) := dk_4 (dk_at dksX1_isDigit_1 5 rfl rfl)
theorem dX1_isDigit_30 : decode cX1_isDigit 30 = .ok (.goto 4, 3) := dk_167 0 4 (dk_at dksX1_isDigit_1 6 rfl rfl)
theorem dX1_isDigit_33 : decode cX1_isDigit 33 = .ok (.iconst 0, 1) := dk_3 (dk_at dksX1_isDigit_1 9 rfl rfl)
theorem dX1_isDigit_34 : decode cX1_isDigit 34 = .ok (.ireturn, 1) := dk_172 (dk_at dksX1_isDigit_1 10 rfl rfl)
abbrev cX1_fault : ByteArray := prog_1_method_61_code
def yX1_fault : MethodName := ⟨RX1, "fault", "(I)I"⟩
def dkwX1_fault_1 : List UInt8 := [180, 0, 133, 167, 0, 7, 42, 180, 0, 92, 172]
abbrev dktX1_fault_1 : List UInt8 := dkwX1_fault_1 ++ []
def dkwX1_fault_0 : List UInt8 := [27, 153, 0, 8, 27, 4, 160, 0, 7, 4, 167, 0, 4, 3, 184, 1, 150, 27, 154, 0, 10, 42]
abbrev dktX1_fault_0 : List UInt8 := dkwX1_fault_0 ++ dktX1_fault_1
theorem dksX1_fault_0 : cX1_fault.data.toList.drop 0 = dktX1_fault_0 := by decide +kernel
theorem dksX1_fault_1 : cX1_fault.data.toList.drop 22 = dktX1_fault_1 := dk_seg dksX1_fault_0 22 rfl rfl
theorem dX1_fault_0 : decode cX1_fault 0 = .ok (.iload_n 1, 1) := dk_27 (dk_at dksX1_fault_0 0 rfl rfl)
theorem dX1_fault_1 : decode cX1_fault 1 = .ok (.ifCond .eq 8, 3) := dk_153 0 8 (dk_at dksX1_fault_0 1 rfl rfl)
theorem dX1_fault_4 : decode cX1_fault 4 = .ok (.iload_n 1, 1) := dk_27 (dk_at dksX1_fault_0 4 rfl rfl)
theorem dX1_fault_5 : decode cX1_fault 5 = .ok (.iconst 1, 1) := dk_4 (dk_at dksX1_fault_0 5 rfl rfl)
theorem dX1_fault_6 : decode cX1_fault 6 = .ok (.if_icmp .ne 7, 3) := dk_160 0 7 (dk_at dksX1_fault_0 6 rfl rfl)
theorem dX1_fault_9 : decode cX1_fault 9 = .ok (.iconst 1, 1) := dk_4 (dk_at dksX1_fault_0 9 rfl rfl)
theorem dX1_fault_10 : decode cX1_fault 10 = .ok (.goto 4, 3) := dk_167 0 4 (dk_at dksX1_fault_0 10 rfl rfl)
theorem dX1_fault_13 : decode cX1_fault 13 = .ok (.iconst 0, 1) := dk_3 (dk_at dksX1_fault_0 13 rfl rfl)
theorem dX1_fault_14 : decode cX1_fault 14 = .ok (.invokestatic 406, 3) := dk_184 1 150 (dk_at dksX1_fault_0 14 rfl rfl)
theorem dX1_fault_17 : decode cX1_fault 17 = .ok (.iload_n 1, 1) := dk_27 (dk_at dksX1_fault_0 17 rfl rfl)
theorem dX1_fault_18 : decode cX1_fault 18 = .ok (.ifCond .ne 10, 3) := dk_154 0 10 (dk_at dksX1_fault_0 18 rfl rfl)
theorem dX1_fault_21 : decode cX1_fault 21 = .ok (.aload_n 0, 1) := dk_42 (dk_at dksX1_fault_0 21 rfl rfl)
theorem dX1_fault_22 : decode cX1_fault 22 = .ok (.getfield 133, 3) := dk_180 0 133 (dk_at dksX1_fault_1 0 rfl rfl)
theorem dX1_fault_25 : decode cX1_fault 25 = .ok (.goto 7, 3) := dk_167 0 7 (dk_at dksX1_fault_1 3 rfl rfl)
theorem dX1_fault_28 : decode cX1_fault 28 = .ok (.aload_n 0, 1) := dk_42 (dk_at dksX1_fault_1 6 rfl rfl)
theorem dX1_fault_29 : decode cX1_fault 29 = .ok (.getfield 92, 3) := dk_180 0 92 (dk_at dksX1_fault_1 7 rfl rfl)
theorem dX1_fault_32 : decode cX1_fault 32 = .ok (.ireturn, 1) := dk_172 (dk_at dksX1_fault_1 10 rfl rfl)
abbrev cX1_there : ByteArray := prog_1_method_60_code
def yX1_there : MethodName := ⟨RX1, "there", "(Z)V"⟩
def dkwX1_there_0 : List UInt8 := [26, 154, 0, 11, 187, 1, 147, 89, 183, 1, 149, 191, 177]
abbrev dktX1_there_0 : List UInt8 := dkwX1_there_0 ++ []
theorem dksX1_there_0 : cX1_there.data.toList.drop 0 = dktX1_there_0 := by decide +kernel
theorem dX1_there_0 : decode cX1_there 0 = .ok (.iload_n 0, 1) := dk_26 (dk_at dksX1_there_0 0 rfl rfl)
theorem dX1_there_1 : decode cX1_there 1 = .ok (.ifCond .ne 11, 3) := dk_154 0 11 (dk_at dksX1_there_0 1 rfl rfl)
theorem dX1_there_4 : decode cX1_there 4 = .ok (.new 403, 3) := dk_187 1 147 (dk_at dksX1_there_0 4 rfl rfl)
theorem dX1_there_7 : decode cX1_there 7 = .ok (.dup, 1) := dk_89 (dk_at dksX1_there_0 7 rfl rfl)
theorem dX1_there_8 : decode cX1_there 8 = .ok (.invokespecial 405, 3) := dk_183 1 149 (dk_at dksX1_there_0 8 rfl rfl)
theorem dX1_there_11 : decode cX1_there 11 = .ok (.athrow, 1) := dk_191 (dk_at dksX1_there_0 11 rfl rfl)
theorem dX1_there_12 : decode cX1_there 12 = .ok (.return_, 1) := dk_177 (dk_at dksX1_there_0 12 rfl rfl)
abbrev cX1_out : ByteArray := prog_1_method_62_code
def yX1_out : MethodName := ⟨RX1, "out", "(I)I"⟩
def dkwX1_out_1 : List UInt8 := [27, 53, 172]
abbrev dktX1_out_1 : List UInt8 := dkwX1_out_1 ++ []
def dkwX1_out_0 : List UInt8 := [27, 155, 0, 15, 27, 42, 180, 0, 121, 162, 0, 7, 4, 167, 0, 4, 3, 184, 1, 150, 42, 180, 0, 45]
abbrev dktX1_out_0 : List UInt8 := dkwX1_out_0 ++ dktX1_out_1
theorem dksX1_out_0 : cX1_out.data.toList.drop 0 = dktX1_out_0 := by decide +kernel
theorem dksX1_out_1 : cX1_out.data.toList.drop 24 = dktX1_out_1 := dk_seg dksX1_out_0 24 rfl rfl
theorem dX1_out_0 : decode cX1_out 0 = .ok (.iload_n 1, 1) := dk_27 (dk_at dksX1_out_0 0 rfl rfl)
theorem dX1_out_1 : decode cX1_out 1 = .ok (.ifCond .lt 15, 3) := dk_155 0 15 (dk_at dksX1_out_0 1 rfl rfl)
theorem dX1_out_4 : decode cX1_out 4 = .ok (.iload_n 1, 1) := dk_27 (dk_at dksX1_out_0 4 rfl rfl)
theorem dX1_out_5 : decode cX1_out 5 = .ok (.aload_n 0, 1) := dk_42 (dk_at dksX1_out_0 5 rfl rfl)
theorem dX1_out_6 : decode cX1_out 6 = .ok (.getfield 121, 3) := dk_180 0 121 (dk_at dksX1_out_0 6 rfl rfl)
theorem dX1_out_9 : decode cX1_out 9 = .ok (.if_icmp .ge 7, 3) := dk_162 0 7 (dk_at dksX1_out_0 9 rfl rfl)
theorem dX1_out_12 : decode cX1_out 12 = .ok (.iconst 1, 1) := dk_4 (dk_at dksX1_out_0 12 rfl rfl)
theorem dX1_out_13 : decode cX1_out 13 = .ok (.goto 4, 3) := dk_167 0 4 (dk_at dksX1_out_0 13 rfl rfl)
theorem dX1_out_16 : decode cX1_out 16 = .ok (.iconst 0, 1) := dk_3 (dk_at dksX1_out_0 16 rfl rfl)
theorem dX1_out_17 : decode cX1_out 17 = .ok (.invokestatic 406, 3) := dk_184 1 150 (dk_at dksX1_out_0 17 rfl rfl)
theorem dX1_out_20 : decode cX1_out 20 = .ok (.aload_n 0, 1) := dk_42 (dk_at dksX1_out_0 20 rfl rfl)
theorem dX1_out_21 : decode cX1_out 21 = .ok (.getfield 45, 3) := dk_180 0 45 (dk_at dksX1_out_0 21 rfl rfl)
theorem dX1_out_24 : decode cX1_out 24 = .ok (.iload_n 1, 1) := dk_27 (dk_at dksX1_out_1 0 rfl rfl)
theorem dX1_out_25 : decode cX1_out 25 = .ok (.saload, 1) := dk_53 (dk_at dksX1_out_1 1 rfl rfl)
theorem dX1_out_26 : decode cX1_out 26 = .ok (.ireturn, 1) := dk_172 (dk_at dksX1_out_1 2 rfl rfl)
abbrev cX1_count : ByteArray := prog_1_method_63_code
def yX1_count : MethodName := ⟨RX1, "count", "(I)I"⟩
def dkwX1_count_3 : List UInt8 := [172]
abbrev dktX1_count_3 : List UInt8 := dkwX1_count_3 ++ []
def dkwX1_count_2 : List UInt8 := [42, 180, 0, 121, 172, 42, 180, 0, 124, 172, 42, 180, 0, 127, 172, 42, 180, 0, 136, 172, 42, 180, 0, 130]
abbrev dktX1_count_2 : List UInt8 := dkwX1_count_2 ++ dktX1_count_3
def dkwX1_count_1 : List UInt8 := [170, 0, 0, 0, 0, 50, 0, 0, 0, 0, 0, 0, 0, 3, 0, 0, 0, 30, 0, 0, 0, 35, 0, 0, 0, 40, 0, 0, 0, 45]
abbrev dktX1_count_1 : List UInt8 := dkwX1_count_1 ++ dktX1_count_2
def dkwX1_count_0 : List UInt8 := [27, 155, 0, 12, 27, 8, 162, 0, 7, 4, 167, 0, 4, 3, 184, 1, 150, 27]
abbrev dktX1_count_0 : List UInt8 := dkwX1_count_0 ++ dktX1_count_1
theorem dksX1_count_0 : cX1_count.data.toList.drop 0 = dktX1_count_0 := by decide +kernel
theorem dksX1_count_1 : cX1_count.data.toList.drop 18 = dktX1_count_1 := dk_seg dksX1_count_0 18 rfl rfl
theorem dksX1_count_2 : cX1_count.data.toList.drop 48 = dktX1_count_2 := dk_seg dksX1_count_1 30 rfl rfl
theorem dksX1_count_3 : cX1_count.data.toList.drop 72 = dktX1_count_3 := dk_seg dksX1_count_2 24 rfl rfl
theorem dX1_count_0 : decode cX1_count 0 = .ok (.iload_n 1, 1) := dk_27 (dk_at dksX1_count_0 0 rfl rfl)
theorem dX1_count_1 : decode cX1_count 1 = .ok (.ifCond .lt 12, 3) := dk_155 0 12 (dk_at dksX1_count_0 1 rfl rfl)
theorem dX1_count_4 : decode cX1_count 4 = .ok (.iload_n 1, 1) := dk_27 (dk_at dksX1_count_0 4 rfl rfl)
theorem dX1_count_5 : decode cX1_count 5 = .ok (.iconst 5, 1) := dk_8 (dk_at dksX1_count_0 5 rfl rfl)
theorem dX1_count_6 : decode cX1_count 6 = .ok (.if_icmp .ge 7, 3) := dk_162 0 7 (dk_at dksX1_count_0 6 rfl rfl)
theorem dX1_count_9 : decode cX1_count 9 = .ok (.iconst 1, 1) := dk_4 (dk_at dksX1_count_0 9 rfl rfl)
theorem dX1_count_10 : decode cX1_count 10 = .ok (.goto 4, 3) := dk_167 0 4 (dk_at dksX1_count_0 10 rfl rfl)
theorem dX1_count_13 : decode cX1_count 13 = .ok (.iconst 0, 1) := dk_3 (dk_at dksX1_count_0 13 rfl rfl)
theorem dX1_count_14 : decode cX1_count 14 = .ok (.invokestatic 406, 3) := dk_184 1 150 (dk_at dksX1_count_0 14 rfl rfl)
theorem dX1_count_17 : decode cX1_count 17 = .ok (.iload_n 1, 1) := dk_27 (dk_at dksX1_count_0 17 rfl rfl)
theorem dX1_count_18 : decode cX1_count 18 = .ok (.tableswitch 50 0 3 #[30, 35, 40, 45], 30) := by decide +kernel
theorem dX1_count_48 : decode cX1_count 48 = .ok (.aload_n 0, 1) := dk_42 (dk_at dksX1_count_2 0 rfl rfl)
theorem dX1_count_49 : decode cX1_count 49 = .ok (.getfield 121, 3) := dk_180 0 121 (dk_at dksX1_count_2 1 rfl rfl)
theorem dX1_count_52 : decode cX1_count 52 = .ok (.ireturn, 1) := dk_172 (dk_at dksX1_count_2 4 rfl rfl)
theorem dX1_count_53 : decode cX1_count 53 = .ok (.aload_n 0, 1) := dk_42 (dk_at dksX1_count_2 5 rfl rfl)
theorem dX1_count_54 : decode cX1_count 54 = .ok (.getfield 124, 3) := dk_180 0 124 (dk_at dksX1_count_2 6 rfl rfl)
theorem dX1_count_57 : decode cX1_count 57 = .ok (.ireturn, 1) := dk_172 (dk_at dksX1_count_2 9 rfl rfl)
theorem dX1_count_58 : decode cX1_count 58 = .ok (.aload_n 0, 1) := dk_42 (dk_at dksX1_count_2 10 rfl rfl)
theorem dX1_count_59 : decode cX1_count 59 = .ok (.getfield 127, 3) := dk_180 0 127 (dk_at dksX1_count_2 11 rfl rfl)
theorem dX1_count_62 : decode cX1_count 62 = .ok (.ireturn, 1) := dk_172 (dk_at dksX1_count_2 14 rfl rfl)
theorem dX1_count_63 : decode cX1_count 63 = .ok (.aload_n 0, 1) := dk_42 (dk_at dksX1_count_2 15 rfl rfl)
theorem dX1_count_64 : decode cX1_count 64 = .ok (.getfield 136, 3) := dk_180 0 136 (dk_at dksX1_count_2 16 rfl rfl)
theorem dX1_count_67 : decode cX1_count 67 = .ok (.ireturn, 1) := dk_172 (dk_at dksX1_count_2 19 rfl rfl)
theorem dX1_count_68 : decode cX1_count 68 = .ok (.aload_n 0, 1) := dk_42 (dk_at dksX1_count_2 20 rfl rfl)
theorem dX1_count_69 : decode cX1_count 69 = .ok (.getfield 130, 3) := dk_180 0 130 (dk_at dksX1_count_2 21 rfl rfl)
theorem dX1_count_72 : decode cX1_count 72 = .ok (.ireturn, 1) := dk_172 (dk_at dksX1_count_3 0 rfl rfl)
abbrev cX1_category : ByteArray := prog_1_method_64_code
def yX1_category : MethodName := ⟨RX1, "category", "(I)I"⟩
def dkwX1_category_0 : List UInt8 := [27, 184, 1, 135, 184, 1, 150, 42, 180, 0, 13, 27, 51, 172]
abbrev dktX1_category_0 : List UInt8 := dkwX1_category_0 ++ []
theorem dksX1_category_0 : cX1_category.data.toList.drop 0 = dktX1_category_0 := by decide +kernel
theorem dX1_category_0 : decode cX1_category 0 = .ok (.iload_n 1, 1) := dk_27 (dk_at dksX1_category_0 0 rfl rfl)
theorem dX1_category_1 : decode cX1_category 1 = .ok (.invokestatic 391, 3) := dk_184 1 135 (dk_at dksX1_category_0 1 rfl rfl)
theorem dX1_category_4 : decode cX1_category 4 = .ok (.invokestatic 406, 3) := dk_184 1 150 (dk_at dksX1_category_0 4 rfl rfl)
theorem dX1_category_7 : decode cX1_category 7 = .ok (.aload_n 0, 1) := dk_42 (dk_at dksX1_category_0 7 rfl rfl)
theorem dX1_category_8 : decode cX1_category 8 = .ok (.getfield 13, 3) := dk_180 0 13 (dk_at dksX1_category_0 8 rfl rfl)
theorem dX1_category_11 : decode cX1_category 11 = .ok (.iload_n 1, 1) := dk_27 (dk_at dksX1_category_0 11 rfl rfl)
theorem dX1_category_12 : decode cX1_category 12 = .ok (.baload, 1) := dk_51 (dk_at dksX1_category_0 12 rfl rfl)
theorem dX1_category_13 : decode cX1_category 13 = .ok (.ireturn, 1) := dk_172 (dk_at dksX1_category_0 13 rfl rfl)
abbrev cX1_meaning : ByteArray := prog_1_method_66_code
def yX1_meaning : MethodName := ⟨RX1, "meaning", "(JZ)I"⟩
def dkwX1_meaning_1 : List UInt8 := [172]
abbrev dktX1_meaning_1 : List UInt8 := dkwX1_meaning_1 ++ []
def dkwX1_meaning_0 : List UInt8 := [42, 31, 29, 182, 1, 157, 58, 4, 25, 4, 199, 0, 7, 3, 167, 0, 10, 25, 4, 185, 1, 161, 1, 0]
abbrev dktX1_meaning_0 : List UInt8 := dkwX1_meaning_0 ++ dktX1_meaning_1
theorem dksX1_meaning_0 : cX1_meaning.data.toList.drop 0 = dktX1_meaning_0 := by decide +kernel
theorem dksX1_meaning_1 : cX1_meaning.data.toList.drop 24 = dktX1_meaning_1 := dk_seg dksX1_meaning_0 24 rfl rfl
theorem dX1_meaning_0 : decode cX1_meaning 0 = .ok (.aload_n 0, 1) := dk_42 (dk_at dksX1_meaning_0 0 rfl rfl)
theorem dX1_meaning_1 : decode cX1_meaning 1 = .ok (.lload_n 1, 1) := dk_31 (dk_at dksX1_meaning_0 1 rfl rfl)
theorem dX1_meaning_2 : decode cX1_meaning 2 = .ok (.iload_n 3, 1) := dk_29 (dk_at dksX1_meaning_0 2 rfl rfl)
theorem dX1_meaning_3 : decode cX1_meaning 3 = .ok (.invokevirtual 413, 3) := dk_182 1 157 (dk_at dksX1_meaning_0 3 rfl rfl)
theorem dX1_meaning_6 : decode cX1_meaning 6 = .ok (.astore 4, 2) := dk_58 4 (dk_at dksX1_meaning_0 6 rfl rfl)
theorem dX1_meaning_8 : decode cX1_meaning 8 = .ok (.aload 4, 2) := dk_25 4 (dk_at dksX1_meaning_0 8 rfl rfl)
theorem dX1_meaning_10 : decode cX1_meaning 10 = .ok (.ifnonnull 7, 3) := dk_199 0 7 (dk_at dksX1_meaning_0 10 rfl rfl)
theorem dX1_meaning_13 : decode cX1_meaning 13 = .ok (.iconst 0, 1) := dk_3 (dk_at dksX1_meaning_0 13 rfl rfl)
theorem dX1_meaning_14 : decode cX1_meaning 14 = .ok (.goto 10, 3) := dk_167 0 10 (dk_at dksX1_meaning_0 14 rfl rfl)
theorem dX1_meaning_17 : decode cX1_meaning 17 = .ok (.aload 4, 2) := dk_25 4 (dk_at dksX1_meaning_0 17 rfl rfl)
theorem dX1_meaning_19 : decode cX1_meaning 19 = .ok (.invokeinterface 417 1, 5) := by decide +kernel
theorem dX1_meaning_24 : decode cX1_meaning 24 = .ok (.ireturn, 1) := dk_172 (dk_at dksX1_meaning_1 0 rfl rfl)
abbrev cX1_asked : ByteArray := prog_1_method_65_code
def yX1_asked : MethodName := ⟨RX1, "asked", "(JZ)LTokenMouth$Meaning;"⟩
def dkwX1_asked_5 : List UInt8 := [25, 6, 180, 0, 114, 176]
abbrev dktX1_asked_5 : List UInt8 := dkwX1_asked_5 ++ []
def dkwX1_asked_4 : List UInt8 := [183, 1, 156, 191, 42, 25, 4, 21, 5, 29, 182, 0, 195, 58, 6, 25, 6, 199, 0, 7, 1, 167, 0, 8]
abbrev dktX1_asked_4 : List UInt8 := dkwX1_asked_4 ++ dktX1_asked_5
def dkwX1_asked_3 : List UInt8 := [167, 255, 202, 21, 5, 153, 0, 13, 29, 153, 0, 17, 21, 5, 4, 164, 0, 11, 187, 1, 154, 89]
abbrev dktX1_asked_3 : List UInt8 := dkwX1_asked_3 ++ dktX1_asked_4
def dkwX1_asked_2 : List UInt8 := [187, 1, 154, 89, 183, 1, 156, 191, 25, 4, 21, 5, 21, 7, 145, 84, 132, 5, 1, 132, 6, 248]
abbrev dktX1_asked_2 : List UInt8 := dkwX1_asked_2 ++ dktX1_asked_3
def dkwX1_asked_1 : List UInt8 := [17, 0, 255, 126, 54, 7, 21, 7, 154, 0, 6, 167, 0, 30, 21, 7, 184, 1, 135, 154, 0, 11]
abbrev dktX1_asked_1 : List UInt8 := dkwX1_asked_1 ++ dktX1_asked_2
def dkwX1_asked_0 : List UInt8 := [42, 180, 0, 33, 58, 4, 3, 54, 5, 16, 56, 54, 6, 21, 6, 155, 0, 55, 31, 21, 6, 125, 136]
abbrev dktX1_asked_0 : List UInt8 := dkwX1_asked_0 ++ dktX1_asked_1
theorem dksX1_asked_0 : cX1_asked.data.toList.drop 0 = dktX1_asked_0 := by decide +kernel
theorem dksX1_asked_1 : cX1_asked.data.toList.drop 23 = dktX1_asked_1 := dk_seg dksX1_asked_0 23 rfl rfl
theorem dksX1_asked_2 : cX1_asked.data.toList.drop 45 = dktX1_asked_2 := dk_seg dksX1_asked_1 22 rfl rfl
theorem dksX1_asked_3 : cX1_asked.data.toList.drop 67 = dktX1_asked_3 := dk_seg dksX1_asked_2 22 rfl rfl
theorem dksX1_asked_4 : cX1_asked.data.toList.drop 89 = dktX1_asked_4 := dk_seg dksX1_asked_3 22 rfl rfl
theorem dksX1_asked_5 : cX1_asked.data.toList.drop 113 = dktX1_asked_5 := dk_seg dksX1_asked_4 24 rfl rfl
theorem dX1_asked_0 : decode cX1_asked 0 = .ok (.aload_n 0, 1) := dk_42 (dk_at dksX1_asked_0 0 rfl rfl)
theorem dX1_asked_1 : decode cX1_asked 1 = .ok (.getfield 33, 3) := dk_180 0 33 (dk_at dksX1_asked_0 1 rfl rfl)
theorem dX1_asked_4 : decode cX1_asked 4 = .ok (.astore 4, 2) := dk_58 4 (dk_at dksX1_asked_0 4 rfl rfl)
theorem dX1_asked_6 : decode cX1_asked 6 = .ok (.iconst 0, 1) := dk_3 (dk_at dksX1_asked_0 6 rfl rfl)
theorem dX1_asked_7 : decode cX1_asked 7 = .ok (.istore 5, 2) := dk_54 5 (dk_at dksX1_asked_0 7 rfl rfl)
theorem dX1_asked_9 : decode cX1_asked 9 = .ok (.bipush 56, 2) := dk_16 56 (dk_at dksX1_asked_0 9 rfl rfl)
theorem dX1_asked_11 : decode cX1_asked 11 = .ok (.istore 6, 2) := dk_54 6 (dk_at dksX1_asked_0 11 rfl rfl)
theorem dX1_asked_13 : decode cX1_asked 13 = .ok (.iload 6, 2) := dk_21 6 (dk_at dksX1_asked_0 13 rfl rfl)
theorem dX1_asked_15 : decode cX1_asked 15 = .ok (.ifCond .lt 55, 3) := dk_155 0 55 (dk_at dksX1_asked_0 15 rfl rfl)
theorem dX1_asked_18 : decode cX1_asked 18 = .ok (.lload_n 1, 1) := dk_31 (dk_at dksX1_asked_0 18 rfl rfl)
theorem dX1_asked_19 : decode cX1_asked 19 = .ok (.iload 6, 2) := dk_21 6 (dk_at dksX1_asked_0 19 rfl rfl)
theorem dX1_asked_21 : decode cX1_asked 21 = .ok (.lushr, 1) := dk_125 (dk_at dksX1_asked_0 21 rfl rfl)
theorem dX1_asked_22 : decode cX1_asked 22 = .ok (.l2i, 1) := dk_136 (dk_at dksX1_asked_0 22 rfl rfl)
theorem dX1_asked_23 : decode cX1_asked 23 = .ok (.sipush 255, 3) := dk_17 0 255 (dk_at dksX1_asked_1 0 rfl rfl)
theorem dX1_asked_26 : decode cX1_asked 26 = .ok (.iand, 1) := dk_126 (dk_at dksX1_asked_1 3 rfl rfl)
theorem dX1_asked_27 : decode cX1_asked 27 = .ok (.istore 7, 2) := dk_54 7 (dk_at dksX1_asked_1 4 rfl rfl)
theorem dX1_asked_29 : decode cX1_asked 29 = .ok (.iload 7, 2) := dk_21 7 (dk_at dksX1_asked_1 6 rfl rfl)
theorem dX1_asked_31 : decode cX1_asked 31 = .ok (.ifCond .ne 6, 3) := dk_154 0 6 (dk_at dksX1_asked_1 8 rfl rfl)
theorem dX1_asked_34 : decode cX1_asked 34 = .ok (.goto 30, 3) := dk_167 0 30 (dk_at dksX1_asked_1 11 rfl rfl)
theorem dX1_asked_37 : decode cX1_asked 37 = .ok (.iload 7, 2) := dk_21 7 (dk_at dksX1_asked_1 14 rfl rfl)
theorem dX1_asked_39 : decode cX1_asked 39 = .ok (.invokestatic 391, 3) := dk_184 1 135 (dk_at dksX1_asked_1 16 rfl rfl)
theorem dX1_asked_42 : decode cX1_asked 42 = .ok (.ifCond .ne 11, 3) := dk_154 0 11 (dk_at dksX1_asked_1 19 rfl rfl)
theorem dX1_asked_45 : decode cX1_asked 45 = .ok (.new 410, 3) := dk_187 1 154 (dk_at dksX1_asked_2 0 rfl rfl)
theorem dX1_asked_48 : decode cX1_asked 48 = .ok (.dup, 1) := dk_89 (dk_at dksX1_asked_2 3 rfl rfl)
theorem dX1_asked_49 : decode cX1_asked 49 = .ok (.invokespecial 412, 3) := dk_183 1 156 (dk_at dksX1_asked_2 4 rfl rfl)
theorem dX1_asked_52 : decode cX1_asked 52 = .ok (.athrow, 1) := dk_191 (dk_at dksX1_asked_2 7 rfl rfl)
theorem dX1_asked_53 : decode cX1_asked 53 = .ok (.aload 4, 2) := dk_25 4 (dk_at dksX1_asked_2 8 rfl rfl)
theorem dX1_asked_55 : decode cX1_asked 55 = .ok (.iload 5, 2) := dk_21 5 (dk_at dksX1_asked_2 10 rfl rfl)
theorem dX1_asked_57 : decode cX1_asked 57 = .ok (.iload 7, 2) := dk_21 7 (dk_at dksX1_asked_2 12 rfl rfl)
theorem dX1_asked_59 : decode cX1_asked 59 = .ok (.i2b, 1) := dk_145 (dk_at dksX1_asked_2 14 rfl rfl)
theorem dX1_asked_60 : decode cX1_asked 60 = .ok (.bastore, 1) := dk_84 (dk_at dksX1_asked_2 15 rfl rfl)
theorem dX1_asked_61 : decode cX1_asked 61 = .ok (.iinc 5 1, 3) := dk_132 5 1 (dk_at dksX1_asked_2 16 rfl rfl)
theorem dX1_asked_64 : decode cX1_asked 64 = .ok (.iinc 6 (-8), 3) := dk_132 6 248 (dk_at dksX1_asked_2 19 rfl rfl)
theorem dX1_asked_67 : decode cX1_asked 67 = .ok (.goto (-54), 3) := dk_167 255 202 (dk_at dksX1_asked_3 0 rfl rfl)
theorem dX1_asked_70 : decode cX1_asked 70 = .ok (.iload 5, 2) := dk_21 5 (dk_at dksX1_asked_3 3 rfl rfl)
theorem dX1_asked_72 : decode cX1_asked 72 = .ok (.ifCond .eq 13, 3) := dk_153 0 13 (dk_at dksX1_asked_3 5 rfl rfl)
theorem dX1_asked_75 : decode cX1_asked 75 = .ok (.iload_n 3, 1) := dk_29 (dk_at dksX1_asked_3 8 rfl rfl)
theorem dX1_asked_76 : decode cX1_asked 76 = .ok (.ifCond .eq 17, 3) := dk_153 0 17 (dk_at dksX1_asked_3 9 rfl rfl)
theorem dX1_asked_79 : decode cX1_asked 79 = .ok (.iload 5, 2) := dk_21 5 (dk_at dksX1_asked_3 12 rfl rfl)
theorem dX1_asked_81 : decode cX1_asked 81 = .ok (.iconst 1, 1) := dk_4 (dk_at dksX1_asked_3 14 rfl rfl)
theorem dX1_asked_82 : decode cX1_asked 82 = .ok (.if_icmp .le 11, 3) := dk_164 0 11 (dk_at dksX1_asked_3 15 rfl rfl)
theorem dX1_asked_85 : decode cX1_asked 85 = .ok (.new 410, 3) := dk_187 1 154 (dk_at dksX1_asked_3 18 rfl rfl)
theorem dX1_asked_88 : decode cX1_asked 88 = .ok (.dup, 1) := dk_89 (dk_at dksX1_asked_3 21 rfl rfl)
theorem dX1_asked_89 : decode cX1_asked 89 = .ok (.invokespecial 412, 3) := dk_183 1 156 (dk_at dksX1_asked_4 0 rfl rfl)
theorem dX1_asked_92 : decode cX1_asked 92 = .ok (.athrow, 1) := dk_191 (dk_at dksX1_asked_4 3 rfl rfl)
theorem dX1_asked_93 : decode cX1_asked 93 = .ok (.aload_n 0, 1) := dk_42 (dk_at dksX1_asked_4 4 rfl rfl)
theorem dX1_asked_94 : decode cX1_asked 94 = .ok (.aload 4, 2) := dk_25 4 (dk_at dksX1_asked_4 5 rfl rfl)
theorem dX1_asked_96 : decode cX1_asked 96 = .ok (.iload 5, 2) := dk_21 5 (dk_at dksX1_asked_4 7 rfl rfl)
theorem dX1_asked_98 : decode cX1_asked 98 = .ok (.iload_n 3, 1) := dk_29 (dk_at dksX1_asked_4 9 rfl rfl)
theorem dX1_asked_99 : decode cX1_asked 99 = .ok (.invokevirtual 195, 3) := dk_182 0 195 (dk_at dksX1_asked_4 10 rfl rfl)
theorem dX1_asked_102 : decode cX1_asked 102 = .ok (.astore 6, 2) := dk_58 6 (dk_at dksX1_asked_4 13 rfl rfl)
theorem dX1_asked_104 : decode cX1_asked 104 = .ok (.aload 6, 2) := dk_25 6 (dk_at dksX1_asked_4 15 rfl rfl)
theorem dX1_asked_106 : decode cX1_asked 106 = .ok (.ifnonnull 7, 3) := dk_199 0 7 (dk_at dksX1_asked_4 17 rfl rfl)
theorem dX1_asked_109 : decode cX1_asked 109 = .ok (.aconst_null, 1) := dk_1 (dk_at dksX1_asked_4 20 rfl rfl)
theorem dX1_asked_110 : decode cX1_asked 110 = .ok (.goto 8, 3) := dk_167 0 8 (dk_at dksX1_asked_4 21 rfl rfl)
theorem dX1_asked_113 : decode cX1_asked 113 = .ok (.aload 6, 2) := dk_25 6 (dk_at dksX1_asked_5 0 rfl rfl)
theorem dX1_asked_115 : decode cX1_asked 115 = .ok (.getfield 114, 3) := dk_180 0 114 (dk_at dksX1_asked_5 2 rfl rfl)
theorem dX1_asked_118 : decode cX1_asked 118 = .ok (.areturn, 1) := dk_176 (dk_at dksX1_asked_5 5 rfl rfl)
abbrev cX1_detail : ByteArray := prog_1_method_67_code
def yX1_detail : MethodName := ⟨RX1, "detail", "(JZI)I"⟩
def dkwX1_detail_10 : List UInt8 := [21, 7, 172]
abbrev dktX1_detail_10 : List UInt8 := dkwX1_detail_10 ++ []
def dkwX1_detail_9 : List UInt8 := [17, 16, 0, 21, 7, 100, 167, 0, 19, 21, 7, 17, 16, 0, 161, 0, 9, 17, 16, 0, 167, 0, 5]
abbrev dktX1_detail_9 : List UInt8 := dkwX1_detail_9 ++ dktX1_detail_10
def dkwX1_detail_8 : List UInt8 := [161, 0, 5, 2, 172, 25, 6, 180, 1, 169, 21, 4, 6, 100, 53, 54, 7, 21, 7, 156, 0, 12]
abbrev dktX1_detail_8 : List UInt8 := dkwX1_detail_8 ++ dktX1_detail_9
def dkwX1_detail_7 : List UInt8 := [160, 0, 12, 25, 6, 180, 1, 169, 190, 167, 0, 4, 2, 172, 21, 4, 6, 100, 25, 6, 180, 1, 169, 190]
abbrev dktX1_detail_7 : List UInt8 := dkwX1_detail_7 ++ dktX1_detail_8
def dkwX1_detail_6 : List UInt8 := [180, 1, 164, 167, 0, 34, 21, 4, 4, 160, 0, 12, 25, 6, 180, 1, 167, 190, 167, 0, 19, 21, 4, 5]
abbrev dktX1_detail_6 : List UInt8 := dkwX1_detail_6 ++ dktX1_detail_7
def dkwX1_detail_5 : List UInt8 := [2, 172, 25, 5, 192, 1, 100, 58, 6, 21, 4, 6, 162, 0, 48, 21, 4, 154, 0, 11, 25, 6]
abbrev dktX1_detail_5 : List UInt8 := dkwX1_detail_5 ++ dktX1_detail_6
def dkwX1_detail_4 : List UInt8 := [25, 5, 193, 1, 100, 154, 0, 21, 21, 4, 4, 159, 0, 9, 21, 4, 5, 160, 0, 7, 3, 167, 0, 4]
abbrev dktX1_detail_4 : List UInt8 := dkwX1_detail_4 ++ dktX1_detail_5
def dkwX1_detail_3 : List UInt8 := [180, 0, 188, 167, 0, 20, 21, 4, 4, 159, 0, 9, 21, 4, 5, 160, 0, 7, 3, 167, 0, 4, 2, 172]
abbrev dktX1_detail_3 : List UInt8 := dkwX1_detail_3 ++ dktX1_detail_4
def dkwX1_detail_2 : List UInt8 := [167, 0, 4, 2, 172, 25, 5, 193, 0, 186, 153, 0, 37, 21, 4, 154, 0, 14, 25, 5, 192, 0, 186]
abbrev dktX1_detail_2 : List UInt8 := dkwX1_detail_2 ++ dktX1_detail_3
def dkwX1_detail_1 : List UInt8 := [192, 0, 17, 182, 1, 67, 4, 96, 167, 0, 20, 21, 4, 4, 159, 0, 9, 21, 4, 5, 160, 0, 7, 3]
abbrev dktX1_detail_1 : List UInt8 := dkwX1_detail_1 ++ dktX1_detail_2
def dkwX1_detail_0 : List UInt8 := [42, 31, 29, 182, 1, 157, 58, 5, 25, 5, 193, 0, 17, 153, 0, 39, 21, 4, 154, 0, 16, 25, 5]
abbrev dktX1_detail_0 : List UInt8 := dkwX1_detail_0 ++ dktX1_detail_1
theorem dksX1_detail_0 : cX1_detail.data.toList.drop 0 = dktX1_detail_0 := by decide +kernel
theorem dksX1_detail_1 : cX1_detail.data.toList.drop 23 = dktX1_detail_1 := dk_seg dksX1_detail_0 23 rfl rfl
theorem dksX1_detail_2 : cX1_detail.data.toList.drop 47 = dktX1_detail_2 := dk_seg dksX1_detail_1 24 rfl rfl
theorem dksX1_detail_3 : cX1_detail.data.toList.drop 70 = dktX1_detail_3 := dk_seg dksX1_detail_2 23 rfl rfl
theorem dksX1_detail_4 : cX1_detail.data.toList.drop 94 = dktX1_detail_4 := dk_seg dksX1_detail_3 24 rfl rfl
theorem dksX1_detail_5 : cX1_detail.data.toList.drop 118 = dktX1_detail_5 := dk_seg dksX1_detail_4 24 rfl rfl
theorem dksX1_detail_6 : cX1_detail.data.toList.drop 140 = dktX1_detail_6 := dk_seg dksX1_detail_5 22 rfl rfl
theorem dksX1_detail_7 : cX1_detail.data.toList.drop 164 = dktX1_detail_7 := dk_seg dksX1_detail_6 24 rfl rfl
theorem dksX1_detail_8 : cX1_detail.data.toList.drop 188 = dktX1_detail_8 := dk_seg dksX1_detail_7 24 rfl rfl
theorem dksX1_detail_9 : cX1_detail.data.toList.drop 210 = dktX1_detail_9 := dk_seg dksX1_detail_8 22 rfl rfl
theorem dksX1_detail_10 : cX1_detail.data.toList.drop 233 = dktX1_detail_10 := dk_seg dksX1_detail_9 23 rfl rfl
theorem dX1_detail_0 : decode cX1_detail 0 = .ok (.aload_n 0, 1) := dk_42 (dk_at dksX1_detail_0 0 rfl rfl)
theorem dX1_detail_1 : decode cX1_detail 1 = .ok (.lload_n 1, 1) := dk_31 (dk_at dksX1_detail_0 1 rfl rfl)
theorem dX1_detail_2 : decode cX1_detail 2 = .ok (.iload_n 3, 1) := dk_29 (dk_at dksX1_detail_0 2 rfl rfl)
theorem dX1_detail_3 : decode cX1_detail 3 = .ok (.invokevirtual 413, 3) := dk_182 1 157 (dk_at dksX1_detail_0 3 rfl rfl)
theorem dX1_detail_6 : decode cX1_detail 6 = .ok (.astore 5, 2) := dk_58 5 (dk_at dksX1_detail_0 6 rfl rfl)
theorem dX1_detail_8 : decode cX1_detail 8 = .ok (.aload 5, 2) := dk_25 5 (dk_at dksX1_detail_0 8 rfl rfl)
theorem dX1_detail_10 : decode cX1_detail 10 = .ok (.instanceof 17, 3) := dk_193 0 17 (dk_at dksX1_detail_0 10 rfl rfl)
theorem dX1_detail_13 : decode cX1_detail 13 = .ok (.ifCond .eq 39, 3) := dk_153 0 39 (dk_at dksX1_detail_0 13 rfl rfl)
theorem dX1_detail_16 : decode cX1_detail 16 = .ok (.iload 4, 2) := dk_21 4 (dk_at dksX1_detail_0 16 rfl rfl)
theorem dX1_detail_18 : decode cX1_detail 18 = .ok (.ifCond .ne 16, 3) := dk_154 0 16 (dk_at dksX1_detail_0 18 rfl rfl)
theorem dX1_detail_21 : decode cX1_detail 21 = .ok (.aload 5, 2) := dk_25 5 (dk_at dksX1_detail_0 21 rfl rfl)
theorem dX1_detail_23 : decode cX1_detail 23 = .ok (.checkcast 17, 3) := dk_192 0 17 (dk_at dksX1_detail_1 0 rfl rfl)
theorem dX1_detail_26 : decode cX1_detail 26 = .ok (.invokevirtual 323, 3) := dk_182 1 67 (dk_at dksX1_detail_1 3 rfl rfl)
theorem dX1_detail_29 : decode cX1_detail 29 = .ok (.iconst 1, 1) := dk_4 (dk_at dksX1_detail_1 6 rfl rfl)
theorem dX1_detail_30 : decode cX1_detail 30 = .ok (.iadd, 1) := dk_96 (dk_at dksX1_detail_1 7 rfl rfl)
theorem dX1_detail_31 : decode cX1_detail 31 = .ok (.goto 20, 3) := dk_167 0 20 (dk_at dksX1_detail_1 8 rfl rfl)
theorem dX1_detail_34 : decode cX1_detail 34 = .ok (.iload 4, 2) := dk_21 4 (dk_at dksX1_detail_1 11 rfl rfl)
theorem dX1_detail_36 : decode cX1_detail 36 = .ok (.iconst 1, 1) := dk_4 (dk_at dksX1_detail_1 13 rfl rfl)
theorem dX1_detail_37 : decode cX1_detail 37 = .ok (.if_icmp .eq 9, 3) := dk_159 0 9 (dk_at dksX1_detail_1 14 rfl rfl)
theorem dX1_detail_40 : decode cX1_detail 40 = .ok (.iload 4, 2) := dk_21 4 (dk_at dksX1_detail_1 17 rfl rfl)
theorem dX1_detail_42 : decode cX1_detail 42 = .ok (.iconst 2, 1) := dk_5 (dk_at dksX1_detail_1 19 rfl rfl)
theorem dX1_detail_43 : decode cX1_detail 43 = .ok (.if_icmp .ne 7, 3) := dk_160 0 7 (dk_at dksX1_detail_1 20 rfl rfl)
theorem dX1_detail_46 : decode cX1_detail 46 = .ok (.iconst 0, 1) := dk_3 (dk_at dksX1_detail_1 23 rfl rfl)
theorem dX1_detail_47 : decode cX1_detail 47 = .ok (.goto 4, 3) := dk_167 0 4 (dk_at dksX1_detail_2 0 rfl rfl)
theorem dX1_detail_50 : decode cX1_detail 50 = .ok (.iconst (-1), 1) := dk_2 (dk_at dksX1_detail_2 3 rfl rfl)
theorem dX1_detail_51 : decode cX1_detail 51 = .ok (.ireturn, 1) := dk_172 (dk_at dksX1_detail_2 4 rfl rfl)
theorem dX1_detail_52 : decode cX1_detail 52 = .ok (.aload 5, 2) := dk_25 5 (dk_at dksX1_detail_2 5 rfl rfl)
theorem dX1_detail_54 : decode cX1_detail 54 = .ok (.instanceof 186, 3) := dk_193 0 186 (dk_at dksX1_detail_2 7 rfl rfl)
theorem dX1_detail_57 : decode cX1_detail 57 = .ok (.ifCond .eq 37, 3) := dk_153 0 37 (dk_at dksX1_detail_2 10 rfl rfl)
theorem dX1_detail_60 : decode cX1_detail 60 = .ok (.iload 4, 2) := dk_21 4 (dk_at dksX1_detail_2 13 rfl rfl)
theorem dX1_detail_62 : decode cX1_detail 62 = .ok (.ifCond .ne 14, 3) := dk_154 0 14 (dk_at dksX1_detail_2 15 rfl rfl)
theorem dX1_detail_65 : decode cX1_detail 65 = .ok (.aload 5, 2) := dk_25 5 (dk_at dksX1_detail_2 18 rfl rfl)
theorem dX1_detail_67 : decode cX1_detail 67 = .ok (.checkcast 186, 3) := dk_192 0 186 (dk_at dksX1_detail_2 20 rfl rfl)
theorem dX1_detail_70 : decode cX1_detail 70 = .ok (.getfield 188, 3) := dk_180 0 188 (dk_at dksX1_detail_3 0 rfl rfl)
theorem dX1_detail_73 : decode cX1_detail 73 = .ok (.goto 20, 3) := dk_167 0 20 (dk_at dksX1_detail_3 3 rfl rfl)
theorem dX1_detail_76 : decode cX1_detail 76 = .ok (.iload 4, 2) := dk_21 4 (dk_at dksX1_detail_3 6 rfl rfl)
theorem dX1_detail_78 : decode cX1_detail 78 = .ok (.iconst 1, 1) := dk_4 (dk_at dksX1_detail_3 8 rfl rfl)
theorem dX1_detail_79 : decode cX1_detail 79 = .ok (.if_icmp .eq 9, 3) := dk_159 0 9 (dk_at dksX1_detail_3 9 rfl rfl)
theorem dX1_detail_82 : decode cX1_detail 82 = .ok (.iload 4, 2) := dk_21 4 (dk_at dksX1_detail_3 12 rfl rfl)
theorem dX1_detail_84 : decode cX1_detail 84 = .ok (.iconst 2, 1) := dk_5 (dk_at dksX1_detail_3 14 rfl rfl)
theorem dX1_detail_85 : decode cX1_detail 85 = .ok (.if_icmp .ne 7, 3) := dk_160 0 7 (dk_at dksX1_detail_3 15 rfl rfl)
theorem dX1_detail_88 : decode cX1_detail 88 = .ok (.iconst 0, 1) := dk_3 (dk_at dksX1_detail_3 18 rfl rfl)
theorem dX1_detail_89 : decode cX1_detail 89 = .ok (.goto 4, 3) := dk_167 0 4 (dk_at dksX1_detail_3 19 rfl rfl)
theorem dX1_detail_92 : decode cX1_detail 92 = .ok (.iconst (-1), 1) := dk_2 (dk_at dksX1_detail_3 22 rfl rfl)
theorem dX1_detail_93 : decode cX1_detail 93 = .ok (.ireturn, 1) := dk_172 (dk_at dksX1_detail_3 23 rfl rfl)
theorem dX1_detail_94 : decode cX1_detail 94 = .ok (.aload 5, 2) := dk_25 5 (dk_at dksX1_detail_4 0 rfl rfl)
theorem dX1_detail_96 : decode cX1_detail 96 = .ok (.instanceof 356, 3) := dk_193 1 100 (dk_at dksX1_detail_4 2 rfl rfl)
theorem dX1_detail_99 : decode cX1_detail 99 = .ok (.ifCond .ne 21, 3) := dk_154 0 21 (dk_at dksX1_detail_4 5 rfl rfl)
theorem dX1_detail_102 : decode cX1_detail 102 = .ok (.iload 4, 2) := dk_21 4 (dk_at dksX1_detail_4 8 rfl rfl)
theorem dX1_detail_104 : decode cX1_detail 104 = .ok (.iconst 1, 1) := dk_4 (dk_at dksX1_detail_4 10 rfl rfl)
theorem dX1_detail_105 : decode cX1_detail 105 = .ok (.if_icmp .eq 9, 3) := dk_159 0 9 (dk_at dksX1_detail_4 11 rfl rfl)
theorem dX1_detail_108 : decode cX1_detail 108 = .ok (.iload 4, 2) := dk_21 4 (dk_at dksX1_detail_4 14 rfl rfl)
theorem dX1_detail_110 : decode cX1_detail 110 = .ok (.iconst 2, 1) := dk_5 (dk_at dksX1_detail_4 16 rfl rfl)
theorem dX1_detail_111 : decode cX1_detail 111 = .ok (.if_icmp .ne 7, 3) := dk_160 0 7 (dk_at dksX1_detail_4 17 rfl rfl)
theorem dX1_detail_114 : decode cX1_detail 114 = .ok (.iconst 0, 1) := dk_3 (dk_at dksX1_detail_4 20 rfl rfl)
theorem dX1_detail_115 : decode cX1_detail 115 = .ok (.goto 4, 3) := dk_167 0 4 (dk_at dksX1_detail_4 21 rfl rfl)
theorem dX1_detail_118 : decode cX1_detail 118 = .ok (.iconst (-1), 1) := dk_2 (dk_at dksX1_detail_5 0 rfl rfl)
theorem dX1_detail_119 : decode cX1_detail 119 = .ok (.ireturn, 1) := dk_172 (dk_at dksX1_detail_5 1 rfl rfl)
theorem dX1_detail_120 : decode cX1_detail 120 = .ok (.aload 5, 2) := dk_25 5 (dk_at dksX1_detail_5 2 rfl rfl)
theorem dX1_detail_122 : decode cX1_detail 122 = .ok (.checkcast 356, 3) := dk_192 1 100 (dk_at dksX1_detail_5 4 rfl rfl)
theorem dX1_detail_125 : decode cX1_detail 125 = .ok (.astore 6, 2) := dk_58 6 (dk_at dksX1_detail_5 7 rfl rfl)
theorem dX1_detail_127 : decode cX1_detail 127 = .ok (.iload 4, 2) := dk_21 4 (dk_at dksX1_detail_5 9 rfl rfl)
theorem dX1_detail_129 : decode cX1_detail 129 = .ok (.iconst 3, 1) := dk_6 (dk_at dksX1_detail_5 11 rfl rfl)
theorem dX1_detail_130 : decode cX1_detail 130 = .ok (.if_icmp .ge 48, 3) := dk_162 0 48 (dk_at dksX1_detail_5 12 rfl rfl)
theorem dX1_detail_133 : decode cX1_detail 133 = .ok (.iload 4, 2) := dk_21 4 (dk_at dksX1_detail_5 15 rfl rfl)
theorem dX1_detail_135 : decode cX1_detail 135 = .ok (.ifCond .ne 11, 3) := dk_154 0 11 (dk_at dksX1_detail_5 17 rfl rfl)
theorem dX1_detail_138 : decode cX1_detail 138 = .ok (.aload 6, 2) := dk_25 6 (dk_at dksX1_detail_5 20 rfl rfl)
theorem dX1_detail_140 : decode cX1_detail 140 = .ok (.getfield 420, 3) := dk_180 1 164 (dk_at dksX1_detail_6 0 rfl rfl)
theorem dX1_detail_143 : decode cX1_detail 143 = .ok (.goto 34, 3) := dk_167 0 34 (dk_at dksX1_detail_6 3 rfl rfl)
theorem dX1_detail_146 : decode cX1_detail 146 = .ok (.iload 4, 2) := dk_21 4 (dk_at dksX1_detail_6 6 rfl rfl)
theorem dX1_detail_148 : decode cX1_detail 148 = .ok (.iconst 1, 1) := dk_4 (dk_at dksX1_detail_6 8 rfl rfl)
theorem dX1_detail_149 : decode cX1_detail 149 = .ok (.if_icmp .ne 12, 3) := dk_160 0 12 (dk_at dksX1_detail_6 9 rfl rfl)
theorem dX1_detail_152 : decode cX1_detail 152 = .ok (.aload 6, 2) := dk_25 6 (dk_at dksX1_detail_6 12 rfl rfl)
theorem dX1_detail_154 : decode cX1_detail 154 = .ok (.getfield 423, 3) := dk_180 1 167 (dk_at dksX1_detail_6 14 rfl rfl)
theorem dX1_detail_157 : decode cX1_detail 157 = .ok (.arraylength, 1) := dk_190 (dk_at dksX1_detail_6 17 rfl rfl)
theorem dX1_detail_158 : decode cX1_detail 158 = .ok (.goto 19, 3) := dk_167 0 19 (dk_at dksX1_detail_6 18 rfl rfl)
theorem dX1_detail_161 : decode cX1_detail 161 = .ok (.iload 4, 2) := dk_21 4 (dk_at dksX1_detail_6 21 rfl rfl)
theorem dX1_detail_163 : decode cX1_detail 163 = .ok (.iconst 2, 1) := dk_5 (dk_at dksX1_detail_6 23 rfl rfl)
theorem dX1_detail_164 : decode cX1_detail 164 = .ok (.if_icmp .ne 12, 3) := dk_160 0 12 (dk_at dksX1_detail_7 0 rfl rfl)
theorem dX1_detail_167 : decode cX1_detail 167 = .ok (.aload 6, 2) := dk_25 6 (dk_at dksX1_detail_7 3 rfl rfl)
theorem dX1_detail_169 : decode cX1_detail 169 = .ok (.getfield 425, 3) := dk_180 1 169 (dk_at dksX1_detail_7 5 rfl rfl)
theorem dX1_detail_172 : decode cX1_detail 172 = .ok (.arraylength, 1) := dk_190 (dk_at dksX1_detail_7 8 rfl rfl)
theorem dX1_detail_173 : decode cX1_detail 173 = .ok (.goto 4, 3) := dk_167 0 4 (dk_at dksX1_detail_7 9 rfl rfl)
theorem dX1_detail_176 : decode cX1_detail 176 = .ok (.iconst (-1), 1) := dk_2 (dk_at dksX1_detail_7 12 rfl rfl)
theorem dX1_detail_177 : decode cX1_detail 177 = .ok (.ireturn, 1) := dk_172 (dk_at dksX1_detail_7 13 rfl rfl)
theorem dX1_detail_178 : decode cX1_detail 178 = .ok (.iload 4, 2) := dk_21 4 (dk_at dksX1_detail_7 14 rfl rfl)
theorem dX1_detail_180 : decode cX1_detail 180 = .ok (.iconst 3, 1) := dk_6 (dk_at dksX1_detail_7 16 rfl rfl)
theorem dX1_detail_181 : decode cX1_detail 181 = .ok (.isub, 1) := dk_100 (dk_at dksX1_detail_7 17 rfl rfl)
theorem dX1_detail_182 : decode cX1_detail 182 = .ok (.aload 6, 2) := dk_25 6 (dk_at dksX1_detail_7 18 rfl rfl)
theorem dX1_detail_184 : decode cX1_detail 184 = .ok (.getfield 425, 3) := dk_180 1 169 (dk_at dksX1_detail_7 20 rfl rfl)
theorem dX1_detail_187 : decode cX1_detail 187 = .ok (.arraylength, 1) := dk_190 (dk_at dksX1_detail_7 23 rfl rfl)
theorem dX1_detail_188 : decode cX1_detail 188 = .ok (.if_icmp .lt 5, 3) := dk_161 0 5 (dk_at dksX1_detail_8 0 rfl rfl)
theorem dX1_detail_191 : decode cX1_detail 191 = .ok (.iconst (-1), 1) := dk_2 (dk_at dksX1_detail_8 3 rfl rfl)
theorem dX1_detail_192 : decode cX1_detail 192 = .ok (.ireturn, 1) := dk_172 (dk_at dksX1_detail_8 4 rfl rfl)
theorem dX1_detail_193 : decode cX1_detail 193 = .ok (.aload 6, 2) := dk_25 6 (dk_at dksX1_detail_8 5 rfl rfl)
theorem dX1_detail_195 : decode cX1_detail 195 = .ok (.getfield 425, 3) := dk_180 1 169 (dk_at dksX1_detail_8 7 rfl rfl)
theorem dX1_detail_198 : decode cX1_detail 198 = .ok (.iload 4, 2) := dk_21 4 (dk_at dksX1_detail_8 10 rfl rfl)
theorem dX1_detail_200 : decode cX1_detail 200 = .ok (.iconst 3, 1) := dk_6 (dk_at dksX1_detail_8 12 rfl rfl)
theorem dX1_detail_201 : decode cX1_detail 201 = .ok (.isub, 1) := dk_100 (dk_at dksX1_detail_8 13 rfl rfl)
theorem dX1_detail_202 : decode cX1_detail 202 = .ok (.saload, 1) := dk_53 (dk_at dksX1_detail_8 14 rfl rfl)
theorem dX1_detail_203 : decode cX1_detail 203 = .ok (.istore 7, 2) := dk_54 7 (dk_at dksX1_detail_8 15 rfl rfl)
theorem dX1_detail_205 : decode cX1_detail 205 = .ok (.iload 7, 2) := dk_21 7 (dk_at dksX1_detail_8 17 rfl rfl)
theorem dX1_detail_207 : decode cX1_detail 207 = .ok (.ifCond .ge 12, 3) := dk_156 0 12 (dk_at dksX1_detail_8 19 rfl rfl)
theorem dX1_detail_210 : decode cX1_detail 210 = .ok (.sipush 4096, 3) := dk_17 16 0 (dk_at dksX1_detail_9 0 rfl rfl)
theorem dX1_detail_213 : decode cX1_detail 213 = .ok (.iload 7, 2) := dk_21 7 (dk_at dksX1_detail_9 3 rfl rfl)
theorem dX1_detail_215 : decode cX1_detail 215 = .ok (.isub, 1) := dk_100 (dk_at dksX1_detail_9 5 rfl rfl)
theorem dX1_detail_216 : decode cX1_detail 216 = .ok (.goto 19, 3) := dk_167 0 19 (dk_at dksX1_detail_9 6 rfl rfl)
theorem dX1_detail_219 : decode cX1_detail 219 = .ok (.iload 7, 2) := dk_21 7 (dk_at dksX1_detail_9 9 rfl rfl)
theorem dX1_detail_221 : decode cX1_detail 221 = .ok (.sipush 4096, 3) := dk_17 16 0 (dk_at dksX1_detail_9 11 rfl rfl)
theorem dX1_detail_224 : decode cX1_detail 224 = .ok (.if_icmp .lt 9, 3) := dk_161 0 9 (dk_at dksX1_detail_9 14 rfl rfl)
theorem dX1_detail_227 : decode cX1_detail 227 = .ok (.sipush 4096, 3) := dk_17 16 0 (dk_at dksX1_detail_9 17 rfl rfl)
theorem dX1_detail_230 : decode cX1_detail 230 = .ok (.goto 5, 3) := dk_167 0 5 (dk_at dksX1_detail_9 20 rfl rfl)
theorem dX1_detail_233 : decode cX1_detail 233 = .ok (.iload 7, 2) := dk_21 7 (dk_at dksX1_detail_10 0 rfl rfl)
theorem dX1_detail_235 : decode cX1_detail 235 = .ok (.ireturn, 1) := dk_172 (dk_at dksX1_detail_10 2 rfl rfl)
theorem q95 : (Jvm.Cond.initialized "TokenMouth") ∈ lw_all := lw_g (lw_at lw_m1 1 rfl) rfl
theorem q125 : (Jvm.Cond.instantiable "TokenMouth" (26 : Nat)) ∈ lw_all := lw_g (lw_at lw_m1 31 rfl) rfl
theorem q127 : (Jvm.Cond.instanceMethod ({ cls := "TokenMouth", name := "<init>", desc := "()V" } : Jvm.MethodName)) ∈ lw_all := lw_g (lw_at lw_m1 33 rfl) rfl
theorem q128 : (Jvm.Cond.code ({ cls := "TokenMouth", name := "<init>", desc := "()V" } : Jvm.MethodName) prog_1_method_1_code (2 : Nat) (Option.none : Option Jvm.ClassFile.FieldType)) ∈ lw_all := lw_g (lw_at lw_m1 34 rfl) rfl
theorem q129 : (Jvm.Cond.methodLink "TokenMouth" (3 : Nat) ({ cls := "java/lang/Object", name := "<init>", desc := "()V" } : Jvm.MethodName)) ∈ lw_all := lw_g (lw_at lw_m1 35 rfl) rfl
theorem q132 : (Jvm.Cond.methodLink "TokenMouth" (16 : Nat) ({ cls := "TokenMouth$Command", name := "values", desc := "()[LTokenMouth$Command;" } : Jvm.MethodName)) ∈ lw_all := lw_g (lw_at lw_m1 38 rfl) rfl
theorem q145 : (Jvm.Cond.classLink "TokenMouth" (26 : Nat) "java/util/ArrayList") ∈ lw_all := lw_g (lw_at lw_m1 51 rfl) rfl
theorem q147 : (Jvm.Cond.methodLink "TokenMouth" (28 : Nat) ({ cls := "java/util/ArrayList", name := "<init>", desc := "()V" } : Jvm.MethodName)) ∈ lw_all := lw_g (lw_at lw_m1 53 rfl) rfl
theorem q172 : (Jvm.Cond.classLink "TokenMouth" (36 : Nat) "[[B") ∈ lw_all := lw_g (lw_at lw_m1 78 rfl) rfl
theorem q174 : (Jvm.Cond.classLink "TokenMouth" (51 : Nat) "TokenMouth$Change") ∈ lw_all := lw_g (lw_at lw_m1 80 rfl) rfl
theorem q176 : (Jvm.Cond.classLink "TokenMouth" (57 : Nat) "TokenMouth$Row") ∈ lw_all := lw_g (lw_at lw_m1 82 rfl) rfl
theorem q179 : (Jvm.Cond.methodLinkNest "TokenMouth" (59 : Nat) ({ cls := "TokenMouth$Row", name := "<init>", desc := "()V" } : Jvm.MethodName) "TokenMouth") ∈ lw_tbl := lw_at lw_m1 85 rfl
theorem q185 : (Jvm.Cond.fieldLinkNest "TokenMouth" (265 : Nat) "TokenMouth$Row" "size" "I" "TokenMouth") ∈ lw_tbl := lw_at lw_m1 91 rfl
theorem q193 : (Jvm.Cond.methodLinkNest "TokenMouth" (71 : Nat) ({ cls := "TokenMouth$Change", name := "<init>", desc := "()V" } : Jvm.MethodName) "TokenMouth") ∈ lw_tbl := lw_at lw_m1 99 rfl
theorem q197 : (Jvm.Cond.fieldLinkNest "TokenMouth" (364 : Nat) "TokenMouth$Change" "name" "LTokenMouth$Name;" "TokenMouth") ∈ lw_tbl := lw_at lw_m1 103 rfl
theorem q198 : (Jvm.Cond.fieldLinkNest "TokenMouth" (368 : Nat) "TokenMouth$Change" "meaning" "LTokenMouth$Meaning;" "TokenMouth") ∈ lw_tbl := lw_at lw_m1 104 rfl
theorem q199 : (Jvm.Cond.fieldLinkNest "TokenMouth" (385 : Nat) "TokenMouth$Change" "character" "I" "TokenMouth") ∈ lw_tbl := lw_at lw_m1 105 rfl
theorem q200 : (Jvm.Cond.fieldLinkNest "TokenMouth" (388 : Nat) "TokenMouth$Change" "category" "I" "TokenMouth") ∈ lw_tbl := lw_at lw_m1 106 rfl
theorem q201 : (Jvm.Cond.fieldLinkNest "TokenMouth" (382 : Nat) "TokenMouth$Change" "group" "I" "TokenMouth") ∈ lw_tbl := lw_at lw_m1 107 rfl
theorem q213 : (Jvm.Cond.classLink "TokenMouth" (72 : Nat) "TokenMouth$Name") ∈ lw_all := lw_g (lw_at lw_m1 119 rfl) rfl
theorem q215 : (Jvm.Cond.methodLink "TokenMouth" (78 : Nat) ({ cls := "TokenMouth", name := "bytes", desc := "(Ljava/lang/String;)[B" } : Jvm.MethodName)) ∈ lw_all := lw_g (lw_at lw_m1 121 rfl) rfl
theorem q216 : (Jvm.Cond.static ({ cls := "TokenMouth", name := "bytes", desc := "(Ljava/lang/String;)[B" } : Jvm.MethodName)) ∈ lw_all := lw_g (lw_at lw_m1 122 rfl) rfl
theorem q217 : (Jvm.Cond.code ({ cls := "TokenMouth", name := "bytes", desc := "(Ljava/lang/String;)[B" } : Jvm.MethodName) prog_1_method_3_code (3 : Nat) (Option.some (Jvm.ClassFile.FieldType.array Jvm.ClassFile.FieldType.byte))) ∈ lw_all := lw_g (lw_at lw_m1 123 rfl) rfl
theorem q218 : (Jvm.Cond.methodLink "TokenMouth" (142 : Nat) ({ cls := "java/lang/String", name := "length", desc := "()I" } : Jvm.MethodName)) ∈ lw_all := lw_g (lw_at lw_m1 124 rfl) rfl
theorem q228 : (Jvm.Cond.methodLink "TokenMouth" (147 : Nat) ({ cls := "java/lang/String", name := "charAt", desc := "(I)C" } : Jvm.MethodName)) ∈ lw_all := lw_g (lw_at lw_m1 134 rfl) rfl
theorem q266 : (Jvm.Cond.methodLink "TokenMouth" (82 : Nat) ({ cls := "TokenMouth$Name", name := "<init>", desc := "([BZI)V" } : Jvm.MethodName)) ∈ lw_all := lw_g (lw_at lw_m1 172 rfl) rfl
theorem q271 : (Jvm.Cond.fieldLinkNest "TokenMouth" (247 : Nat) "TokenMouth$Name" "letters" "[B" "TokenMouth") ∈ lw_tbl := lw_at lw_m1 177 rfl
theorem q273 : (Jvm.Cond.fieldLinkNest "TokenMouth" (248 : Nat) "TokenMouth$Name" "active" "Z" "TokenMouth") ∈ lw_tbl := lw_at lw_m1 179 rfl
theorem q275 : (Jvm.Cond.fieldLinkNest "TokenMouth" (165 : Nat) "TokenMouth$Name" "number" "I" "TokenMouth") ∈ lw_tbl := lw_at lw_m1 181 rfl
theorem q276 : (Jvm.Cond.fieldLinkNest "TokenMouth" (114 : Nat) "TokenMouth$Name" "meaning" "LTokenMouth$Meaning;" "TokenMouth") ∈ lw_tbl := lw_at lw_m1 182 rfl
theorem q286 : (Jvm.Cond.methodLink "TokenMouth" (85 : Nat) ({ cls := "java/util/ArrayList", name := "add", desc := "(Ljava/lang/Object;)Z" } : Jvm.MethodName)) ∈ lw_all := lw_g (lw_at lw_m1 192 rfl) rfl
theorem q318 : (Jvm.Cond.selects "TokenMouth" ({ cls := "java/lang/Object", name := "getClass", desc := "()Ljava/lang/Class;" } : Jvm.MethodName) ({ cls := "java/lang/Object", name := "getClass", desc := "()Ljava/lang/Class;" } : Jvm.MethodName)) ∈ lw_all := lw_g (lw_at lw_m1 224 rfl) rfl
theorem q347 : (Jvm.Cond.methodLink "TokenMouth" (89 : Nat) ({ cls := "TokenMouth", name := "begin", desc := "()V" } : Jvm.MethodName)) ∈ lw_all := lw_g (lw_at lw_m2 13 rfl) rfl
theorem q348 : (Jvm.Cond.privateMethod ({ cls := "TokenMouth", name := "begin", desc := "()V" } : Jvm.MethodName)) ∈ lw_tbl := lw_at lw_m2 14 rfl
theorem q349 : (Jvm.Cond.instanceMethod ({ cls := "TokenMouth", name := "begin", desc := "()V" } : Jvm.MethodName)) ∈ lw_all := lw_g (lw_at lw_m2 15 rfl) rfl
theorem q350 : (Jvm.Cond.code ({ cls := "TokenMouth", name := "begin", desc := "()V" } : Jvm.MethodName) prog_1_method_2_code (2 : Nat) (Option.none : Option Jvm.ClassFile.FieldType)) ∈ lw_all := lw_g (lw_at lw_m2 16 rfl) rfl
theorem q351 : (Jvm.Cond.methodLink "TokenMouth" (99 : Nat) ({ cls := "TokenMouth", name := "isAlphabetic", desc := "(I)Z" } : Jvm.MethodName)) ∈ lw_all := lw_g (lw_at lw_m2 17 rfl) rfl
theorem q352 : (Jvm.Cond.static ({ cls := "TokenMouth", name := "isAlphabetic", desc := "(I)Z" } : Jvm.MethodName)) ∈ lw_all := lw_g (lw_at lw_m2 18 rfl) rfl
theorem q353 : (Jvm.Cond.code ({ cls := "TokenMouth", name := "isAlphabetic", desc := "(I)Z" } : Jvm.MethodName) prog_1_method_4_code (1 : Nat) (Option.some Jvm.ClassFile.FieldType.boolean)) ∈ lw_all := lw_g (lw_at lw_m2 19 rfl) rfl
theorem q354 : (Jvm.Cond.methodLink "TokenMouth" (103 : Nat) ({ cls := "java/util/ArrayList", name := "size", desc := "()I" } : Jvm.MethodName)) ∈ lw_all := lw_g (lw_at lw_m2 20 rfl) rfl
theorem q358 : (Jvm.Cond.methodLink "TokenMouth" (107 : Nat) ({ cls := "java/util/ArrayList", name := "remove", desc := "(I)Ljava/lang/Object;" } : Jvm.MethodName)) ∈ lw_all := lw_g (lw_at lw_m2 24 rfl) rfl
theorem q371 : (Jvm.Cond.methodLink "TokenMouth" (111 : Nat) ({ cls := "java/util/ArrayList", name := "get", desc := "(I)Ljava/lang/Object;" } : Jvm.MethodName)) ∈ lw_all := lw_g (lw_at lw_m2 37 rfl) rfl
theorem q379 : (Jvm.Cond.fieldLink "TokenMouth" (9 : Nat) "TokenMouth" "text" "[B") ∈ lw_all := lw_g (lw_at lw_m2 45 rfl) rfl
theorem q380 : (Jvm.Cond.fieldLink "TokenMouth" (207 : Nat) "TokenMouth" "size" "I") ∈ lw_all := lw_g (lw_at lw_m2 46 rfl) rfl
theorem q381 : (Jvm.Cond.fieldLink "TokenMouth" (92 : Nat) "TokenMouth" "at" "I") ∈ lw_all := lw_g (lw_at lw_m2 47 rfl) rfl
theorem q382 : (Jvm.Cond.fieldLink "TokenMouth" (96 : Nat) "TokenMouth" "state" "I") ∈ lw_all := lw_g (lw_at lw_m2 48 rfl) rfl
theorem q383 : (Jvm.Cond.fieldLink "TokenMouth" (13 : Nat) "TokenMouth" "categories" "[B") ∈ lw_all := lw_g (lw_at lw_m2 49 rfl) rfl
theorem q384 : (Jvm.Cond.fieldLink "TokenMouth" (22 : Nat) "TokenMouth" "commands" "[LTokenMouth$Command;") ∈ lw_all := lw_g (lw_at lw_m2 50 rfl) rfl
theorem q385 : (Jvm.Cond.fieldLink "TokenMouth" (29 : Nat) "TokenMouth" "names" "Ljava/util/ArrayList;") ∈ lw_all := lw_g (lw_at lw_m2 51 rfl) rfl
theorem q386 : (Jvm.Cond.fieldLink "TokenMouth" (33 : Nat) "TokenMouth" "letters" "[B") ∈ lw_all := lw_g (lw_at lw_m2 52 rfl) rfl
theorem q387 : (Jvm.Cond.fieldLink "TokenMouth" (38 : Nat) "TokenMouth" "spellings" "[[B") ∈ lw_all := lw_g (lw_at lw_m2 53 rfl) rfl
theorem q388 : (Jvm.Cond.fieldLink "TokenMouth" (41 : Nat) "TokenMouth" "pending" "[S") ∈ lw_all := lw_g (lw_at lw_m2 54 rfl) rfl
theorem q389 : (Jvm.Cond.fieldLink "TokenMouth" (118 : Nat) "TokenMouth" "waiting" "I") ∈ lw_all := lw_g (lw_at lw_m2 55 rfl) rfl
theorem q390 : (Jvm.Cond.fieldLink "TokenMouth" (45 : Nat) "TokenMouth" "outs" "[S") ∈ lw_all := lw_g (lw_at lw_m2 56 rfl) rfl
theorem q391 : (Jvm.Cond.fieldLink "TokenMouth" (121 : Nat) "TokenMouth" "outCount" "I") ∈ lw_all := lw_g (lw_at lw_m2 57 rfl) rfl
theorem q392 : (Jvm.Cond.fieldLink "TokenMouth" (124 : Nat) "TokenMouth" "steps" "I") ∈ lw_all := lw_g (lw_at lw_m2 58 rfl) rfl
theorem q393 : (Jvm.Cond.fieldLink "TokenMouth" (127 : Nat) "TokenMouth" "groups" "I") ∈ lw_all := lw_g (lw_at lw_m2 59 rfl) rfl
theorem q394 : (Jvm.Cond.fieldLink "TokenMouth" (130 : Nat) "TokenMouth" "macros" "I") ∈ lw_all := lw_g (lw_at lw_m2 60 rfl) rfl
theorem q395 : (Jvm.Cond.fieldLink "TokenMouth" (133 : Nat) "TokenMouth" "fault" "I") ∈ lw_all := lw_g (lw_at lw_m2 61 rfl) rfl
theorem q396 : (Jvm.Cond.fieldLink "TokenMouth" (232 : Nat) "TokenMouth" "expansions" "I") ∈ lw_all := lw_g (lw_at lw_m2 62 rfl) rfl
theorem q397 : (Jvm.Cond.fieldLink "TokenMouth" (235 : Nat) "TokenMouth" "deep" "I") ∈ lw_all := lw_g (lw_at lw_m2 63 rfl) rfl
theorem q398 : (Jvm.Cond.fieldLink "TokenMouth" (48 : Nat) "TokenMouth" "conditionals" "[B") ∈ lw_all := lw_g (lw_at lw_m2 64 rfl) rfl
theorem q399 : (Jvm.Cond.fieldLink "TokenMouth" (136 : Nat) "TokenMouth" "open" "I") ∈ lw_all := lw_g (lw_at lw_m2 65 rfl) rfl
theorem q400 : (Jvm.Cond.fieldLink "TokenMouth" (53 : Nat) "TokenMouth" "changes" "[LTokenMouth$Change;") ∈ lw_all := lw_g (lw_at lw_m2 66 rfl) rfl
theorem q401 : (Jvm.Cond.fieldLink "TokenMouth" (139 : Nat) "TokenMouth" "changed" "I") ∈ lw_all := lw_g (lw_at lw_m2 67 rfl) rfl
theorem q402 : (Jvm.Cond.fieldLink "TokenMouth" (60 : Nat) "TokenMouth" "arguments" "[LTokenMouth$Row;") ∈ lw_all := lw_g (lw_at lw_m2 68 rfl) rfl
theorem q404 : (Jvm.Cond.fieldLink "TokenMouth" (64 : Nat) "TokenMouth" "head" "LTokenMouth$Row;") ∈ lw_all := lw_g (lw_at lw_m2 70 rfl) rfl
theorem q405 : (Jvm.Cond.fieldLink "TokenMouth" (68 : Nat) "TokenMouth" "rest" "LTokenMouth$Row;") ∈ lw_all := lw_g (lw_at lw_m2 71 rfl) rfl
theorem q406 : (Jvm.Cond.laysFinal "TokenMouth" "TokenMouth" "text" "[B") ∈ lw_all := lw_g (lw_at lw_m2 72 rfl) rfl
theorem q407 : (Jvm.Cond.soleField "TokenMouth" "text") ∈ lw_all := lw_g (lw_at lw_m2 73 rfl) rfl
theorem q408 : (Jvm.Cond.lays "TokenMouth" "TokenMouth" "size" "I") ∈ lw_all := lw_g (lw_at lw_m2 74 rfl) rfl
theorem q409 : (Jvm.Cond.soleField "TokenMouth" "size") ∈ lw_all := lw_g (lw_at lw_m2 75 rfl) rfl
theorem q410 : (Jvm.Cond.lays "TokenMouth" "TokenMouth" "at" "I") ∈ lw_all := lw_g (lw_at lw_m2 76 rfl) rfl
theorem q411 : (Jvm.Cond.soleField "TokenMouth" "at") ∈ lw_all := lw_g (lw_at lw_m2 77 rfl) rfl
theorem q412 : (Jvm.Cond.lays "TokenMouth" "TokenMouth" "state" "I") ∈ lw_all := lw_g (lw_at lw_m2 78 rfl) rfl
theorem q413 : (Jvm.Cond.soleField "TokenMouth" "state") ∈ lw_all := lw_g (lw_at lw_m2 79 rfl) rfl
theorem q414 : (Jvm.Cond.laysFinal "TokenMouth" "TokenMouth" "categories" "[B") ∈ lw_all := lw_g (lw_at lw_m2 80 rfl) rfl
theorem q415 : (Jvm.Cond.soleField "TokenMouth" "categories") ∈ lw_all := lw_g (lw_at lw_m2 81 rfl) rfl
theorem q416 : (Jvm.Cond.laysFinal "TokenMouth" "TokenMouth" "commands" "[LTokenMouth$Command;") ∈ lw_all := lw_g (lw_at lw_m2 82 rfl) rfl
theorem q417 : (Jvm.Cond.soleField "TokenMouth" "commands") ∈ lw_all := lw_g (lw_at lw_m2 83 rfl) rfl
theorem q418 : (Jvm.Cond.laysFinal "TokenMouth" "TokenMouth" "names" "Ljava/util/ArrayList;") ∈ lw_all := lw_g (lw_at lw_m2 84 rfl) rfl
theorem q419 : (Jvm.Cond.soleField "TokenMouth" "names") ∈ lw_all := lw_g (lw_at lw_m2 85 rfl) rfl
theorem q420 : (Jvm.Cond.laysFinal "TokenMouth" "TokenMouth" "letters" "[B") ∈ lw_all := lw_g (lw_at lw_m2 86 rfl) rfl
theorem q421 : (Jvm.Cond.soleField "TokenMouth" "letters") ∈ lw_all := lw_g (lw_at lw_m2 87 rfl) rfl
theorem q422 : (Jvm.Cond.laysFinal "TokenMouth" "TokenMouth" "spellings" "[[B") ∈ lw_all := lw_g (lw_at lw_m2 88 rfl) rfl
theorem q423 : (Jvm.Cond.soleField "TokenMouth" "spellings") ∈ lw_all := lw_g (lw_at lw_m2 89 rfl) rfl
theorem q424 : (Jvm.Cond.laysFinal "TokenMouth" "TokenMouth" "pending" "[S") ∈ lw_all := lw_g (lw_at lw_m2 90 rfl) rfl
theorem q425 : (Jvm.Cond.soleField "TokenMouth" "pending") ∈ lw_all := lw_g (lw_at lw_m2 91 rfl) rfl
theorem q426 : (Jvm.Cond.lays "TokenMouth" "TokenMouth" "waiting" "I") ∈ lw_all := lw_g (lw_at lw_m2 92 rfl) rfl
theorem q427 : (Jvm.Cond.soleField "TokenMouth" "waiting") ∈ lw_all := lw_g (lw_at lw_m2 93 rfl) rfl
theorem q428 : (Jvm.Cond.laysFinal "TokenMouth" "TokenMouth" "outs" "[S") ∈ lw_all := lw_g (lw_at lw_m2 94 rfl) rfl
theorem q429 : (Jvm.Cond.soleField "TokenMouth" "outs") ∈ lw_all := lw_g (lw_at lw_m2 95 rfl) rfl
theorem q430 : (Jvm.Cond.lays "TokenMouth" "TokenMouth" "outCount" "I") ∈ lw_all := lw_g (lw_at lw_m2 96 rfl) rfl
theorem q431 : (Jvm.Cond.soleField "TokenMouth" "outCount") ∈ lw_all := lw_g (lw_at lw_m2 97 rfl) rfl
theorem q432 : (Jvm.Cond.lays "TokenMouth" "TokenMouth" "steps" "I") ∈ lw_all := lw_g (lw_at lw_m2 98 rfl) rfl
theorem q433 : (Jvm.Cond.soleField "TokenMouth" "steps") ∈ lw_all := lw_g (lw_at lw_m2 99 rfl) rfl
theorem q434 : (Jvm.Cond.lays "TokenMouth" "TokenMouth" "groups" "I") ∈ lw_all := lw_g (lw_at lw_m2 100 rfl) rfl
theorem q435 : (Jvm.Cond.soleField "TokenMouth" "groups") ∈ lw_all := lw_g (lw_at lw_m2 101 rfl) rfl
theorem q436 : (Jvm.Cond.lays "TokenMouth" "TokenMouth" "macros" "I") ∈ lw_all := lw_g (lw_at lw_m2 102 rfl) rfl
theorem q437 : (Jvm.Cond.soleField "TokenMouth" "macros") ∈ lw_all := lw_g (lw_at lw_m2 103 rfl) rfl
theorem q438 : (Jvm.Cond.lays "TokenMouth" "TokenMouth" "fault" "I") ∈ lw_all := lw_g (lw_at lw_m2 104 rfl) rfl
theorem q439 : (Jvm.Cond.soleField "TokenMouth" "fault") ∈ lw_all := lw_g (lw_at lw_m2 105 rfl) rfl
theorem q440 : (Jvm.Cond.lays "TokenMouth" "TokenMouth" "expansions" "I") ∈ lw_all := lw_g (lw_at lw_m2 106 rfl) rfl
theorem q441 : (Jvm.Cond.soleField "TokenMouth" "expansions") ∈ lw_all := lw_g (lw_at lw_m2 107 rfl) rfl
theorem q442 : (Jvm.Cond.lays "TokenMouth" "TokenMouth" "deep" "I") ∈ lw_all := lw_g (lw_at lw_m2 108 rfl) rfl
theorem q443 : (Jvm.Cond.soleField "TokenMouth" "deep") ∈ lw_all := lw_g (lw_at lw_m2 109 rfl) rfl
theorem q444 : (Jvm.Cond.laysFinal "TokenMouth" "TokenMouth" "conditionals" "[B") ∈ lw_all := lw_g (lw_at lw_m2 110 rfl) rfl
theorem q445 : (Jvm.Cond.soleField "TokenMouth" "conditionals") ∈ lw_all := lw_g (lw_at lw_m2 111 rfl) rfl
theorem q446 : (Jvm.Cond.lays "TokenMouth" "TokenMouth" "open" "I") ∈ lw_all := lw_g (lw_at lw_m2 112 rfl) rfl
theorem q447 : (Jvm.Cond.soleField "TokenMouth" "open") ∈ lw_all := lw_g (lw_at lw_m2 113 rfl) rfl
theorem q448 : (Jvm.Cond.laysFinal "TokenMouth" "TokenMouth" "changes" "[LTokenMouth$Change;") ∈ lw_all := lw_g (lw_at lw_m2 114 rfl) rfl
theorem q449 : (Jvm.Cond.soleField "TokenMouth" "changes") ∈ lw_all := lw_g (lw_at lw_m2 115 rfl) rfl
theorem q450 : (Jvm.Cond.lays "TokenMouth" "TokenMouth" "changed" "I") ∈ lw_all := lw_g (lw_at lw_m2 116 rfl) rfl
theorem q451 : (Jvm.Cond.soleField "TokenMouth" "changed") ∈ lw_all := lw_g (lw_at lw_m2 117 rfl) rfl
theorem q452 : (Jvm.Cond.laysFinal "TokenMouth" "TokenMouth" "arguments" "[LTokenMouth$Row;") ∈ lw_all := lw_g (lw_at lw_m2 118 rfl) rfl
theorem q453 : (Jvm.Cond.soleField "TokenMouth" "arguments") ∈ lw_all := lw_g (lw_at lw_m2 119 rfl) rfl
theorem q454 : (Jvm.Cond.laysFinal "TokenMouth" "TokenMouth" "head" "LTokenMouth$Row;") ∈ lw_all := lw_g (lw_at lw_m2 120 rfl) rfl
theorem q455 : (Jvm.Cond.soleField "TokenMouth" "head") ∈ lw_all := lw_g (lw_at lw_m2 121 rfl) rfl
theorem q456 : (Jvm.Cond.laysFinal "TokenMouth" "TokenMouth" "rest" "LTokenMouth$Row;") ∈ lw_all := lw_g (lw_at lw_m2 122 rfl) rfl
theorem q457 : (Jvm.Cond.soleField "TokenMouth" "rest") ∈ lw_all := lw_g (lw_at lw_m2 123 rfl) rfl
theorem q458 : (Jvm.Cond.superclass "TokenMouth" "java/lang/Object") ∈ lw_all := lw_g (lw_at lw_m2 124 rfl) rfl
theorem q460 : (Jvm.Cond.instanceMethod ({ cls := "TokenMouth", name := "type", desc := "(J)Z" } : Jvm.MethodName)) ∈ lw_all := lw_g (lw_at lw_m2 126 rfl) rfl
theorem q461 : (Jvm.Cond.selects "TokenMouth" ({ cls := "TokenMouth", name := "type", desc := "(J)Z" } : Jvm.MethodName) ({ cls := "TokenMouth", name := "type", desc := "(J)Z" } : Jvm.MethodName)) ∈ lw_all := lw_g (lw_at lw_m2 127 rfl) rfl
theorem q462 : (Jvm.Cond.code ({ cls := "TokenMouth", name := "type", desc := "(J)Z" } : Jvm.MethodName) prog_1_method_55_code (6 : Nat) (Option.some Jvm.ClassFile.FieldType.boolean)) ∈ lw_all := lw_g (lw_at lw_m2 128 rfl) rfl
theorem q463 : (Jvm.Cond.methodLink "TokenMouth" (391 : Nat) ({ cls := "TokenMouth", name := "isSign", desc := "(I)Z" } : Jvm.MethodName)) ∈ lw_all := lw_g (lw_at lw_m2 129 rfl) rfl
theorem q464 : (Jvm.Cond.static ({ cls := "TokenMouth", name := "isSign", desc := "(I)Z" } : Jvm.MethodName)) ∈ lw_all := lw_g (lw_at lw_m2 130 rfl) rfl
theorem q465 : (Jvm.Cond.code ({ cls := "TokenMouth", name := "isSign", desc := "(I)Z" } : Jvm.MethodName) prog_1_method_5_code (1 : Nat) (Option.some Jvm.ClassFile.FieldType.boolean)) ∈ lw_all := lw_g (lw_at lw_m2 131 rfl) rfl
theorem q467 : (Jvm.Cond.instanceMethod ({ cls := "TokenMouth", name := "wipe", desc := "()V" } : Jvm.MethodName)) ∈ lw_all := lw_g (lw_at lw_m2 133 rfl) rfl
theorem q468 : (Jvm.Cond.selects "TokenMouth" ({ cls := "TokenMouth", name := "wipe", desc := "()V" } : Jvm.MethodName) ({ cls := "TokenMouth", name := "wipe", desc := "()V" } : Jvm.MethodName)) ∈ lw_all := lw_g (lw_at lw_m2 134 rfl) rfl
theorem q469 : (Jvm.Cond.code ({ cls := "TokenMouth", name := "wipe", desc := "()V" } : Jvm.MethodName) prog_1_method_56_code (1 : Nat) (Option.none : Option Jvm.ClassFile.FieldType)) ∈ lw_all := lw_g (lw_at lw_m2 135 rfl) rfl
theorem q471 : (Jvm.Cond.instanceMethod ({ cls := "TokenMouth", name := "again", desc := "()V" } : Jvm.MethodName)) ∈ lw_all := lw_g (lw_at lw_m2 137 rfl) rfl
theorem q472 : (Jvm.Cond.selects "TokenMouth" ({ cls := "TokenMouth", name := "again", desc := "()V" } : Jvm.MethodName) ({ cls := "TokenMouth", name := "again", desc := "()V" } : Jvm.MethodName)) ∈ lw_all := lw_g (lw_at lw_m2 138 rfl) rfl
theorem q473 : (Jvm.Cond.code ({ cls := "TokenMouth", name := "again", desc := "()V" } : Jvm.MethodName) prog_1_method_57_code (1 : Nat) (Option.none : Option Jvm.ClassFile.FieldType)) ∈ lw_all := lw_g (lw_at lw_m2 139 rfl) rfl
theorem q480 : (Jvm.Cond.instanceMethod ({ cls := "TokenMouth", name := "run", desc := "(I)I" } : Jvm.MethodName)) ∈ lw_all := lw_g (lw_at lw_m2 146 rfl) rfl
theorem q481 : (Jvm.Cond.selects "TokenMouth" ({ cls := "TokenMouth", name := "run", desc := "(I)I" } : Jvm.MethodName) ({ cls := "TokenMouth", name := "run", desc := "(I)I" } : Jvm.MethodName)) ∈ lw_all := lw_g (lw_at lw_m2 147 rfl) rfl
theorem q482 : (Jvm.Cond.code ({ cls := "TokenMouth", name := "run", desc := "(I)I" } : Jvm.MethodName) prog_1_method_59_code (3 : Nat) (Option.some Jvm.ClassFile.FieldType.int)) ∈ lw_all := lw_g (lw_at lw_m2 148 rfl) rfl
theorem q483 : (Jvm.Cond.classLink "TokenMouth" (397 : Nat) "java/lang/IllegalArgumentException") ∈ lw_all := lw_g (lw_at lw_m2 149 rfl) rfl
theorem q526 : (Jvm.Cond.methodLink "TokenMouth" (399 : Nat) ({ cls := "java/lang/IllegalArgumentException", name := "<init>", desc := "()V" } : Jvm.MethodName)) ∈ lw_all := lw_g (lw_at lw_m2 192 rfl) rfl
theorem q549 : (Jvm.Cond.classLink "TokenMouth" (151 : Nat) "java/lang/IllegalStateException") ∈ lw_all := lw_g (lw_at lw_m2 215 rfl) rfl
theorem q558 : (Jvm.Cond.methodLink "TokenMouth" (153 : Nat) ({ cls := "java/lang/IllegalStateException", name := "<init>", desc := "()V" } : Jvm.MethodName)) ∈ lw_all := lw_g (lw_at lw_m2 224 rfl) rfl
theorem q564 : (Jvm.Cond.methodLink "TokenMouth" (400 : Nat) ({ cls := "TokenMouth", name := "step", desc := "()Z" } : Jvm.MethodName)) ∈ lw_all := lw_g (lw_at lw_m2 230 rfl) rfl
theorem q565 : (Jvm.Cond.privateMethod ({ cls := "TokenMouth", name := "step", desc := "()Z" } : Jvm.MethodName)) ∈ lw_tbl := lw_at lw_m2 231 rfl
theorem q566 : (Jvm.Cond.instanceMethod ({ cls := "TokenMouth", name := "step", desc := "()Z" } : Jvm.MethodName)) ∈ lw_all := lw_g (lw_at lw_m2 232 rfl) rfl
theorem q567 : (Jvm.Cond.code ({ cls := "TokenMouth", name := "step", desc := "()Z" } : Jvm.MethodName) prog_1_method_58_code (2 : Nat) (Option.some Jvm.ClassFile.FieldType.boolean)) ∈ lw_all := lw_g (lw_at lw_m2 233 rfl) rfl
theorem q568 : (Jvm.Cond.methodLink "TokenMouth" (222 : Nat) ({ cls := "TokenMouth", name := "get", desc := "()I" } : Jvm.MethodName)) ∈ lw_all := lw_g (lw_at lw_m2 234 rfl) rfl
theorem q569 : (Jvm.Cond.privateMethod ({ cls := "TokenMouth", name := "get", desc := "()I" } : Jvm.MethodName)) ∈ lw_tbl := lw_at lw_m2 235 rfl
theorem q570 : (Jvm.Cond.instanceMethod ({ cls := "TokenMouth", name := "get", desc := "()I" } : Jvm.MethodName)) ∈ lw_all := lw_g (lw_at lw_m2 236 rfl) rfl
theorem q571 : (Jvm.Cond.code ({ cls := "TokenMouth", name := "get", desc := "()I" } : Jvm.MethodName) prog_1_method_22_code (1 : Nat) (Option.some Jvm.ClassFile.FieldType.int)) ∈ lw_all := lw_g (lw_at lw_m2 237 rfl) rfl
theorem q572 : (Jvm.Cond.methodLink "TokenMouth" (219 : Nat) ({ cls := "TokenMouth", name := "read", desc := "()I" } : Jvm.MethodName)) ∈ lw_all := lw_g (lw_at lw_m2 238 rfl) rfl
theorem q573 : (Jvm.Cond.privateMethod ({ cls := "TokenMouth", name := "read", desc := "()I" } : Jvm.MethodName)) ∈ lw_tbl := lw_at lw_m2 239 rfl
theorem q574 : (Jvm.Cond.instanceMethod ({ cls := "TokenMouth", name := "read", desc := "()I" } : Jvm.MethodName)) ∈ lw_all := lw_g (lw_at lw_m3 0 rfl) rfl
theorem q575 : (Jvm.Cond.code ({ cls := "TokenMouth", name := "read", desc := "()I" } : Jvm.MethodName) prog_1_method_19_code (4 : Nat) (Option.some Jvm.ClassFile.FieldType.int)) ∈ lw_all := lw_g (lw_at lw_m3 1 rfl) rfl
theorem q576 : (Jvm.Cond.methodLink "TokenMouth" (209 : Nat) ({ cls := "TokenMouth", name := "escape", desc := "()I" } : Jvm.MethodName)) ∈ lw_all := lw_g (lw_at lw_m3 2 rfl) rfl
theorem q577 : (Jvm.Cond.privateMethod ({ cls := "TokenMouth", name := "escape", desc := "()I" } : Jvm.MethodName)) ∈ lw_tbl := lw_at lw_m3 3 rfl
theorem q578 : (Jvm.Cond.instanceMethod ({ cls := "TokenMouth", name := "escape", desc := "()I" } : Jvm.MethodName)) ∈ lw_all := lw_g (lw_at lw_m3 4 rfl) rfl
theorem q579 : (Jvm.Cond.code ({ cls := "TokenMouth", name := "escape", desc := "()I" } : Jvm.MethodName) prog_1_method_21_code (3 : Nat) (Option.some Jvm.ClassFile.FieldType.int)) ∈ lw_all := lw_g (lw_at lw_m3 5 rfl) rfl
theorem q580 : (Jvm.Cond.methodLink "TokenMouth" (203 : Nat) ({ cls := "TokenMouth", name := "fail", desc := "(I)V" } : Jvm.MethodName)) ∈ lw_all := lw_g (lw_at lw_m3 6 rfl) rfl
theorem q581 : (Jvm.Cond.privateMethod ({ cls := "TokenMouth", name := "fail", desc := "(I)V" } : Jvm.MethodName)) ∈ lw_tbl := lw_at lw_m3 7 rfl
theorem q582 : (Jvm.Cond.instanceMethod ({ cls := "TokenMouth", name := "fail", desc := "(I)V" } : Jvm.MethodName)) ∈ lw_all := lw_g (lw_at lw_m3 8 rfl) rfl
theorem q583 : (Jvm.Cond.code ({ cls := "TokenMouth", name := "fail", desc := "(I)V" } : Jvm.MethodName) prog_1_method_6_code (2 : Nat) (Option.none : Option Jvm.ClassFile.FieldType)) ∈ lw_all := lw_g (lw_at lw_m3 9 rfl) rfl
theorem q584 : (Jvm.Cond.methodLink "TokenMouth" (215 : Nat) ({ cls := "TokenMouth", name := "known", desc := "([BIZ)I" } : Jvm.MethodName)) ∈ lw_all := lw_g (lw_at lw_m3 10 rfl) rfl
theorem q585 : (Jvm.Cond.privateMethod ({ cls := "TokenMouth", name := "known", desc := "([BIZ)I" } : Jvm.MethodName)) ∈ lw_tbl := lw_at lw_m3 11 rfl
theorem q586 : (Jvm.Cond.instanceMethod ({ cls := "TokenMouth", name := "known", desc := "([BIZ)I" } : Jvm.MethodName)) ∈ lw_all := lw_g (lw_at lw_m3 12 rfl) rfl
theorem q587 : (Jvm.Cond.code ({ cls := "TokenMouth", name := "known", desc := "([BIZ)I" } : Jvm.MethodName) prog_1_method_18_code (7 : Nat) (Option.some Jvm.ClassFile.FieldType.int)) ∈ lw_all := lw_g (lw_at lw_m3 13 rfl) rfl
theorem q588 : (Jvm.Cond.methodLink "TokenMouth" (195 : Nat) ({ cls := "TokenMouth", name := "find", desc := "([BIZ)LTokenMouth$Name;" } : Jvm.MethodName)) ∈ lw_all := lw_g (lw_at lw_m3 14 rfl) rfl
theorem q589 : (Jvm.Cond.privateMethod ({ cls := "TokenMouth", name := "find", desc := "([BIZ)LTokenMouth$Name;" } : Jvm.MethodName)) ∈ lw_tbl := lw_at lw_m3 15 rfl
theorem q590 : (Jvm.Cond.instanceMethod ({ cls := "TokenMouth", name := "find", desc := "([BIZ)LTokenMouth$Name;" } : Jvm.MethodName)) ∈ lw_all := lw_g (lw_at lw_m3 16 rfl) rfl
theorem q591 : (Jvm.Cond.code ({ cls := "TokenMouth", name := "find", desc := "([BIZ)LTokenMouth$Name;" } : Jvm.MethodName) prog_1_method_17_code (5 : Nat) (Option.some (Jvm.ClassFile.FieldType.object "TokenMouth$Name"))) ∈ lw_all := lw_g (lw_at lw_m3 17 rfl) rfl
theorem q592 : (Jvm.Cond.methodLink "TokenMouth" (191 : Nat) ({ cls := "TokenMouth$Name", name := "is", desc := "([BIZ)Z" } : Jvm.MethodName)) ∈ lw_all := lw_g (lw_at lw_m3 18 rfl) rfl
theorem q596 : (Jvm.Cond.methodLink "TokenMouth" (199 : Nat) ({ cls := "TokenMouth", name := "tokenOf", desc := "(LTokenMouth$Name;)I" } : Jvm.MethodName)) ∈ lw_all := lw_g (lw_at lw_m3 22 rfl) rfl
theorem q597 : (Jvm.Cond.static ({ cls := "TokenMouth", name := "tokenOf", desc := "(LTokenMouth$Name;)I" } : Jvm.MethodName)) ∈ lw_all := lw_g (lw_at lw_m3 23 rfl) rfl
theorem q598 : (Jvm.Cond.code ({ cls := "TokenMouth", name := "tokenOf", desc := "(LTokenMouth$Name;)I" } : Jvm.MethodName) prog_1_method_13_code (1 : Nat) (Option.some Jvm.ClassFile.FieldType.int)) ∈ lw_all := lw_g (lw_at lw_m3 24 rfl) rfl
theorem q599 : (Jvm.Cond.methodLink "TokenMouth" (212 : Nat) ({ cls := "TokenMouth", name := "passLine", desc := "(I)V" } : Jvm.MethodName)) ∈ lw_all := lw_g (lw_at lw_m3 25 rfl) rfl
theorem q600 : (Jvm.Cond.privateMethod ({ cls := "TokenMouth", name := "passLine", desc := "(I)V" } : Jvm.MethodName)) ∈ lw_tbl := lw_at lw_m3 26 rfl
theorem q601 : (Jvm.Cond.instanceMethod ({ cls := "TokenMouth", name := "passLine", desc := "(I)V" } : Jvm.MethodName)) ∈ lw_all := lw_g (lw_at lw_m3 27 rfl) rfl
theorem q602 : (Jvm.Cond.code ({ cls := "TokenMouth", name := "passLine", desc := "(I)V" } : Jvm.MethodName) prog_1_method_20_code (2 : Nat) (Option.none : Option Jvm.ClassFile.FieldType)) ∈ lw_all := lw_g (lw_at lw_m3 28 rfl) rfl
theorem q603 : (Jvm.Cond.methodLink "TokenMouth" (227 : Nat) ({ cls := "TokenMouth", name := "isExpandable", desc := "(I)Z" } : Jvm.MethodName)) ∈ lw_all := lw_g (lw_at lw_m3 29 rfl) rfl
theorem q604 : (Jvm.Cond.privateMethod ({ cls := "TokenMouth", name := "isExpandable", desc := "(I)Z" } : Jvm.MethodName)) ∈ lw_tbl := lw_at lw_m3 30 rfl
theorem q605 : (Jvm.Cond.instanceMethod ({ cls := "TokenMouth", name := "isExpandable", desc := "(I)Z" } : Jvm.MethodName)) ∈ lw_all := lw_g (lw_at lw_m3 31 rfl) rfl
theorem q606 : (Jvm.Cond.code ({ cls := "TokenMouth", name := "isExpandable", desc := "(I)Z" } : Jvm.MethodName) prog_1_method_15_code (3 : Nat) (Option.some Jvm.ClassFile.FieldType.boolean)) ∈ lw_all := lw_g (lw_at lw_m3 32 rfl) rfl
theorem q607 : (Jvm.Cond.methodLink "TokenMouth" (176 : Nat) ({ cls := "TokenMouth", name := "meaningOf", desc := "(I)LTokenMouth$Meaning;" } : Jvm.MethodName)) ∈ lw_all := lw_g (lw_at lw_m3 33 rfl) rfl
theorem q608 : (Jvm.Cond.privateMethod ({ cls := "TokenMouth", name := "meaningOf", desc := "(I)LTokenMouth$Meaning;" } : Jvm.MethodName)) ∈ lw_tbl := lw_at lw_m3 34 rfl
theorem q609 : (Jvm.Cond.instanceMethod ({ cls := "TokenMouth", name := "meaningOf", desc := "(I)LTokenMouth$Meaning;" } : Jvm.MethodName)) ∈ lw_all := lw_g (lw_at lw_m3 35 rfl) rfl
theorem q610 : (Jvm.Cond.code ({ cls := "TokenMouth", name := "meaningOf", desc := "(I)LTokenMouth$Meaning;" } : Jvm.MethodName) prog_1_method_14_code (2 : Nat) (Option.some (Jvm.ClassFile.FieldType.object "TokenMouth$Meaning"))) ∈ lw_all := lw_g (lw_at lw_m3 36 rfl) rfl
theorem q611 : (Jvm.Cond.fieldLink "TokenMouth" (168 : Nat) "TokenMouth$Command" "RELAX" "LTokenMouth$Command;") ∈ lw_all := lw_g (lw_at lw_m3 37 rfl) rfl
theorem q613 : (Jvm.Cond.methodLink "TokenMouth" (172 : Nat) ({ cls := "TokenMouth", name := "nameOf", desc := "(I)LTokenMouth$Name;" } : Jvm.MethodName)) ∈ lw_all := lw_g (lw_at lw_m3 39 rfl) rfl
theorem q614 : (Jvm.Cond.privateMethod ({ cls := "TokenMouth", name := "nameOf", desc := "(I)LTokenMouth$Name;" } : Jvm.MethodName)) ∈ lw_tbl := lw_at lw_m3 40 rfl
theorem q615 : (Jvm.Cond.instanceMethod ({ cls := "TokenMouth", name := "nameOf", desc := "(I)LTokenMouth$Name;" } : Jvm.MethodName)) ∈ lw_all := lw_g (lw_at lw_m3 41 rfl) rfl
theorem q616 : (Jvm.Cond.code ({ cls := "TokenMouth", name := "nameOf", desc := "(I)LTokenMouth$Name;" } : Jvm.MethodName) prog_1_method_12_code (2 : Nat) (Option.some (Jvm.ClassFile.FieldType.object "TokenMouth$Name"))) ∈ lw_all := lw_g (lw_at lw_m3 42 rfl) rfl
theorem q617 : (Jvm.Cond.interfaceEntry "TokenMouth" (180 : Nat)) ∈ lw_tbl := lw_at lw_m3 43 rfl
theorem q618 : (Jvm.Cond.methodLink "TokenMouth" (180 : Nat) ({ cls := "TokenMouth$Meaning", name := "isExpandable", desc := "()Z" } : Jvm.MethodName)) ∈ lw_all := lw_g (lw_at lw_m3 44 rfl) rfl
theorem q663 : (Jvm.Cond.methodLink "TokenMouth" (229 : Nat) ({ cls := "TokenMouth", name := "expand", desc := "(I)V" } : Jvm.MethodName)) ∈ lw_all := lw_g (lw_at lw_m3 89 rfl) rfl
theorem q664 : (Jvm.Cond.privateMethod ({ cls := "TokenMouth", name := "expand", desc := "(I)V" } : Jvm.MethodName)) ∈ lw_tbl := lw_at lw_m3 90 rfl
theorem q665 : (Jvm.Cond.instanceMethod ({ cls := "TokenMouth", name := "expand", desc := "(I)V" } : Jvm.MethodName)) ∈ lw_all := lw_g (lw_at lw_m3 91 rfl) rfl
theorem q666 : (Jvm.Cond.code ({ cls := "TokenMouth", name := "expand", desc := "(I)V" } : Jvm.MethodName) prog_1_method_26_code (2 : Nat) (Option.none : Option Jvm.ClassFile.FieldType)) ∈ lw_all := lw_g (lw_at lw_m3 92 rfl) rfl
theorem q667 : (Jvm.Cond.interfaceEntry "TokenMouth" (238 : Nat)) ∈ lw_tbl := lw_at lw_m3 93 rfl
theorem q668 : (Jvm.Cond.methodLink "TokenMouth" (238 : Nat) ({ cls := "TokenMouth$Meaning", name := "expand", desc := "(LTokenMouth;)V" } : Jvm.MethodName)) ∈ lw_all := lw_g (lw_at lw_m3 94 rfl) rfl
theorem q683 : (Jvm.Cond.privateMethod ({ cls := "TokenMouth", name := "expandAfter", desc := "()V" } : Jvm.MethodName)) ∈ lw_tbl := lw_at lw_m3 109 rfl
theorem q684 : (Jvm.Cond.instanceMethod ({ cls := "TokenMouth", name := "expandAfter", desc := "()V" } : Jvm.MethodName)) ∈ lw_all := lw_g (lw_at lw_m3 110 rfl) rfl
theorem q685 : (Jvm.Cond.code ({ cls := "TokenMouth", name := "expandAfter", desc := "()V" } : Jvm.MethodName) prog_1_method_27_code (3 : Nat) (Option.none : Option Jvm.ClassFile.FieldType)) ∈ lw_all := lw_g (lw_at lw_m3 111 rfl) rfl
theorem q686 : (Jvm.Cond.methodLink "TokenMouth" (224 : Nat) ({ cls := "TokenMouth", name := "need", desc := "()I" } : Jvm.MethodName)) ∈ lw_all := lw_g (lw_at lw_m3 112 rfl) rfl
theorem q687 : (Jvm.Cond.privateMethod ({ cls := "TokenMouth", name := "need", desc := "()I" } : Jvm.MethodName)) ∈ lw_tbl := lw_at lw_m3 113 rfl
theorem q688 : (Jvm.Cond.instanceMethod ({ cls := "TokenMouth", name := "need", desc := "()I" } : Jvm.MethodName)) ∈ lw_all := lw_g (lw_at lw_m3 114 rfl) rfl
theorem q689 : (Jvm.Cond.code ({ cls := "TokenMouth", name := "need", desc := "()I" } : Jvm.MethodName) prog_1_method_23_code (2 : Nat) (Option.some Jvm.ClassFile.FieldType.int)) ∈ lw_all := lw_g (lw_at lw_m3 115 rfl) rfl
theorem q690 : (Jvm.Cond.methodLink "TokenMouth" (241 : Nat) ({ cls := "TokenMouth", name := "back", desc := "(I)V" } : Jvm.MethodName)) ∈ lw_all := lw_g (lw_at lw_m3 116 rfl) rfl
theorem q691 : (Jvm.Cond.privateMethod ({ cls := "TokenMouth", name := "back", desc := "(I)V" } : Jvm.MethodName)) ∈ lw_tbl := lw_at lw_m3 117 rfl
theorem q692 : (Jvm.Cond.instanceMethod ({ cls := "TokenMouth", name := "back", desc := "(I)V" } : Jvm.MethodName)) ∈ lw_all := lw_g (lw_at lw_m3 118 rfl) rfl
theorem q693 : (Jvm.Cond.code ({ cls := "TokenMouth", name := "back", desc := "(I)V" } : Jvm.MethodName) prog_1_method_24_code (2 : Nat) (Option.none : Option Jvm.ClassFile.FieldType)) ∈ lw_all := lw_g (lw_at lw_m3 119 rfl) rfl
theorem q695 : (Jvm.Cond.privateMethod ({ cls := "TokenMouth", name := "mark", desc := "()V" } : Jvm.MethodName)) ∈ lw_tbl := lw_at lw_m3 121 rfl
theorem q696 : (Jvm.Cond.instanceMethod ({ cls := "TokenMouth", name := "mark", desc := "()V" } : Jvm.MethodName)) ∈ lw_all := lw_g (lw_at lw_m3 122 rfl) rfl
theorem q697 : (Jvm.Cond.code ({ cls := "TokenMouth", name := "mark", desc := "()V" } : Jvm.MethodName) prog_1_method_28_code (2 : Nat) (Option.none : Option Jvm.ClassFile.FieldType)) ∈ lw_all := lw_g (lw_at lw_m3 123 rfl) rfl
theorem q699 : (Jvm.Cond.privateMethod ({ cls := "TokenMouth", name := "spell", desc := "()V" } : Jvm.MethodName)) ∈ lw_tbl := lw_at lw_m3 125 rfl
theorem q700 : (Jvm.Cond.instanceMethod ({ cls := "TokenMouth", name := "spell", desc := "()V" } : Jvm.MethodName)) ∈ lw_all := lw_g (lw_at lw_m3 126 rfl) rfl
theorem q701 : (Jvm.Cond.code ({ cls := "TokenMouth", name := "spell", desc := "()V" } : Jvm.MethodName) prog_1_method_31_code (5 : Nat) (Option.none : Option Jvm.ClassFile.FieldType)) ∈ lw_all := lw_g (lw_at lw_m3 127 rfl) rfl
theorem q702 : (Jvm.Cond.methodLink "TokenMouth" (252 : Nat) ({ cls := "TokenMouth", name := "needExpanded", desc := "()I" } : Jvm.MethodName)) ∈ lw_all := lw_g (lw_at lw_m3 128 rfl) rfl
theorem q703 : (Jvm.Cond.privateMethod ({ cls := "TokenMouth", name := "needExpanded", desc := "()I" } : Jvm.MethodName)) ∈ lw_tbl := lw_at lw_m3 129 rfl
theorem q704 : (Jvm.Cond.instanceMethod ({ cls := "TokenMouth", name := "needExpanded", desc := "()I" } : Jvm.MethodName)) ∈ lw_all := lw_g (lw_at lw_m3 130 rfl) rfl
theorem q705 : (Jvm.Cond.code ({ cls := "TokenMouth", name := "needExpanded", desc := "()I" } : Jvm.MethodName) prog_1_method_25_code (2 : Nat) (Option.some Jvm.ClassFile.FieldType.int)) ∈ lw_all := lw_g (lw_at lw_m3 131 rfl) rfl
theorem q706 : (Jvm.Cond.fieldLink "TokenMouth" (255 : Nat) "TokenMouth$Command" "ENDCSNAME" "LTokenMouth$Command;") ∈ lw_all := lw_g (lw_at lw_m3 132 rfl) rfl
theorem q708 : (Jvm.Cond.methodLink "TokenMouth" (158 : Nat) ({ cls := "TokenMouth", name := "isCharacter", desc := "(I)Z" } : Jvm.MethodName)) ∈ lw_all := lw_g (lw_at lw_m3 134 rfl) rfl
theorem q709 : (Jvm.Cond.static ({ cls := "TokenMouth", name := "isCharacter", desc := "(I)Z" } : Jvm.MethodName)) ∈ lw_all := lw_g (lw_at lw_m3 135 rfl) rfl
theorem q710 : (Jvm.Cond.code ({ cls := "TokenMouth", name := "isCharacter", desc := "(I)Z" } : Jvm.MethodName) prog_1_method_9_code (1 : Nat) (Option.some Jvm.ClassFile.FieldType.boolean)) ∈ lw_all := lw_g (lw_at lw_m3 136 rfl) rfl
theorem q711 : (Jvm.Cond.methodLink "TokenMouth" (258 : Nat) ({ cls := "TokenMouth", name := "change", desc := "(LTokenMouth$Name;LTokenMouth$Meaning;)V" } : Jvm.MethodName)) ∈ lw_all := lw_g (lw_at lw_m3 137 rfl) rfl
theorem q712 : (Jvm.Cond.privateMethod ({ cls := "TokenMouth", name := "change", desc := "(LTokenMouth$Name;LTokenMouth$Meaning;)V" } : Jvm.MethodName)) ∈ lw_tbl := lw_at lw_m3 138 rfl
theorem q713 : (Jvm.Cond.instanceMethod ({ cls := "TokenMouth", name := "change", desc := "(LTokenMouth$Name;LTokenMouth$Meaning;)V" } : Jvm.MethodName)) ∈ lw_all := lw_g (lw_at lw_m3 139 rfl) rfl
theorem q714 : (Jvm.Cond.code ({ cls := "TokenMouth", name := "change", desc := "(LTokenMouth$Name;LTokenMouth$Meaning;)V" } : Jvm.MethodName) prog_1_method_52_code (3 : Nat) (Option.none : Option Jvm.ClassFile.FieldType)) ∈ lw_all := lw_g (lw_at lw_m3 140 rfl) rfl
theorem q715 : (Jvm.Cond.methodLink "TokenMouth" (378 : Nat) ({ cls := "TokenMouth", name := "keep", desc := "(LTokenMouth$Name;I)V" } : Jvm.MethodName)) ∈ lw_all := lw_g (lw_at lw_m3 141 rfl) rfl
theorem q716 : (Jvm.Cond.privateMethod ({ cls := "TokenMouth", name := "keep", desc := "(LTokenMouth$Name;I)V" } : Jvm.MethodName)) ∈ lw_tbl := lw_at lw_m3 142 rfl
theorem q717 : (Jvm.Cond.instanceMethod ({ cls := "TokenMouth", name := "keep", desc := "(LTokenMouth$Name;I)V" } : Jvm.MethodName)) ∈ lw_all := lw_g (lw_at lw_m3 143 rfl) rfl
theorem q718 : (Jvm.Cond.code ({ cls := "TokenMouth", name := "keep", desc := "(LTokenMouth$Name;I)V" } : Jvm.MethodName) prog_1_method_53_code (4 : Nat) (Option.none : Option Jvm.ClassFile.FieldType)) ∈ lw_all := lw_g (lw_at lw_m3 144 rfl) rfl
theorem q720 : (Jvm.Cond.privateMethod ({ cls := "TokenMouth", name := "tell", desc := "()V" } : Jvm.MethodName)) ∈ lw_tbl := lw_at lw_m3 146 rfl
theorem q721 : (Jvm.Cond.instanceMethod ({ cls := "TokenMouth", name := "tell", desc := "()V" } : Jvm.MethodName)) ∈ lw_all := lw_g (lw_at lw_m3 147 rfl) rfl
theorem q722 : (Jvm.Cond.code ({ cls := "TokenMouth", name := "tell", desc := "()V" } : Jvm.MethodName) prog_1_method_30_code (4 : Nat) (Option.none : Option Jvm.ClassFile.FieldType)) ∈ lw_all := lw_g (lw_at lw_m3 148 rfl) rfl
theorem q723 : (Jvm.Cond.methodLink "TokenMouth" (244 : Nat) ({ cls := "TokenMouth", name := "told", desc := "(I)I" } : Jvm.MethodName)) ∈ lw_all := lw_g (lw_at lw_m3 149 rfl) rfl
theorem q724 : (Jvm.Cond.static ({ cls := "TokenMouth", name := "told", desc := "(I)I" } : Jvm.MethodName)) ∈ lw_all := lw_g (lw_at lw_m3 150 rfl) rfl
theorem q725 : (Jvm.Cond.code ({ cls := "TokenMouth", name := "told", desc := "(I)I" } : Jvm.MethodName) prog_1_method_29_code (1 : Nat) (Option.some Jvm.ClassFile.FieldType.int)) ∈ lw_all := lw_g (lw_at lw_m3 151 rfl) rfl
theorem q727 : (Jvm.Cond.privateMethod ({ cls := "TokenMouth", name := "otherwise", desc := "()V" } : Jvm.MethodName)) ∈ lw_tbl := lw_at lw_m3 153 rfl
theorem q728 : (Jvm.Cond.instanceMethod ({ cls := "TokenMouth", name := "otherwise", desc := "()V" } : Jvm.MethodName)) ∈ lw_all := lw_g (lw_at lw_m3 154 rfl) rfl
theorem q729 : (Jvm.Cond.code ({ cls := "TokenMouth", name := "otherwise", desc := "()V" } : Jvm.MethodName) prog_1_method_39_code (1 : Nat) (Option.none : Option Jvm.ClassFile.FieldType)) ∈ lw_all := lw_g (lw_at lw_m3 155 rfl) rfl
theorem q730 : (Jvm.Cond.methodLink "TokenMouth" (307 : Nat) ({ cls := "TokenMouth", name := "skip", desc := "(Z)Z" } : Jvm.MethodName)) ∈ lw_all := lw_g (lw_at lw_m3 156 rfl) rfl
theorem q731 : (Jvm.Cond.privateMethod ({ cls := "TokenMouth", name := "skip", desc := "(Z)Z" } : Jvm.MethodName)) ∈ lw_tbl := lw_at lw_m3 157 rfl
theorem q732 : (Jvm.Cond.instanceMethod ({ cls := "TokenMouth", name := "skip", desc := "(Z)Z" } : Jvm.MethodName)) ∈ lw_all := lw_g (lw_at lw_m3 158 rfl) rfl
theorem q733 : (Jvm.Cond.code ({ cls := "TokenMouth", name := "skip", desc := "(Z)Z" } : Jvm.MethodName) prog_1_method_38_code (4 : Nat) (Option.some Jvm.ClassFile.FieldType.boolean)) ∈ lw_all := lw_g (lw_at lw_m3 159 rfl) rfl
theorem q734 : (Jvm.Cond.classLink "TokenMouth" (17 : Nat) "TokenMouth$Command") ∈ lw_all := lw_g (lw_at lw_m3 160 rfl) rfl
theorem q735 : (Jvm.Cond.methodLink "TokenMouth" (311 : Nat) ({ cls := "TokenMouth$Command", name := "opens", desc := "()Z" } : Jvm.MethodName)) ∈ lw_all := lw_g (lw_at lw_m3 161 rfl) rfl
theorem q736 : (Jvm.Cond.fieldLink "TokenMouth" (314 : Nat) "TokenMouth$Command" "FI" "LTokenMouth$Command;") ∈ lw_all := lw_g (lw_at lw_m3 162 rfl) rfl
theorem q737 : (Jvm.Cond.fieldLink "TokenMouth" (317 : Nat) "TokenMouth$Command" "ELSE" "LTokenMouth$Command;") ∈ lw_all := lw_g (lw_at lw_m3 163 rfl) rfl
theorem q739 : (Jvm.Cond.privateMethod ({ cls := "TokenMouth", name := "close", desc := "()V" } : Jvm.MethodName)) ∈ lw_tbl := lw_at lw_m3 165 rfl
theorem q740 : (Jvm.Cond.instanceMethod ({ cls := "TokenMouth", name := "close", desc := "()V" } : Jvm.MethodName)) ∈ lw_all := lw_g (lw_at lw_m3 166 rfl) rfl
theorem q741 : (Jvm.Cond.code ({ cls := "TokenMouth", name := "close", desc := "()V" } : Jvm.MethodName) prog_1_method_40_code (1 : Nat) (Option.none : Option Jvm.ClassFile.FieldType)) ∈ lw_all := lw_g (lw_at lw_m3 167 rfl) rfl
theorem q743 : (Jvm.Cond.privateMethod ({ cls := "TokenMouth", name := "test", desc := "(LTokenMouth$Command;)V" } : Jvm.MethodName)) ∈ lw_tbl := lw_at lw_m3 169 rfl
theorem q744 : (Jvm.Cond.instanceMethod ({ cls := "TokenMouth", name := "test", desc := "(LTokenMouth$Command;)V" } : Jvm.MethodName)) ∈ lw_all := lw_g (lw_at lw_m3 170 rfl) rfl
theorem q745 : (Jvm.Cond.code ({ cls := "TokenMouth", name := "test", desc := "(LTokenMouth$Command;)V" } : Jvm.MethodName) prog_1_method_37_code (5 : Nat) (Option.none : Option Jvm.ClassFile.FieldType)) ∈ lw_all := lw_g (lw_at lw_m3 171 rfl) rfl
theorem q746 : (Jvm.Cond.fieldLink "TokenMouth" (292 : Nat) "TokenMouth$Command" "IFTRUE" "LTokenMouth$Command;") ∈ lw_all := lw_g (lw_at lw_m3 172 rfl) rfl
theorem q747 : (Jvm.Cond.fieldLink "TokenMouth" (295 : Nat) "TokenMouth$Command" "IF" "LTokenMouth$Command;") ∈ lw_all := lw_g (lw_at lw_m3 173 rfl) rfl
theorem q748 : (Jvm.Cond.methodLink "TokenMouth" (298 : Nat) ({ cls := "TokenMouth", name := "codeOf", desc := "(I)I" } : Jvm.MethodName)) ∈ lw_all := lw_g (lw_at lw_m3 174 rfl) rfl
theorem q749 : (Jvm.Cond.privateMethod ({ cls := "TokenMouth", name := "codeOf", desc := "(I)I" } : Jvm.MethodName)) ∈ lw_tbl := lw_at lw_m3 175 rfl
theorem q750 : (Jvm.Cond.instanceMethod ({ cls := "TokenMouth", name := "codeOf", desc := "(I)I" } : Jvm.MethodName)) ∈ lw_all := lw_g (lw_at lw_m3 176 rfl) rfl
theorem q751 : (Jvm.Cond.code ({ cls := "TokenMouth", name := "codeOf", desc := "(I)I" } : Jvm.MethodName) prog_1_method_35_code (3 : Nat) (Option.some Jvm.ClassFile.FieldType.int)) ∈ lw_all := lw_g (lw_at lw_m3 177 rfl) rfl
theorem q752 : (Jvm.Cond.methodLink "TokenMouth" (285 : Nat) ({ cls := "TokenMouth", name := "signOf", desc := "(I)I" } : Jvm.MethodName)) ∈ lw_all := lw_g (lw_at lw_m3 178 rfl) rfl
theorem q753 : (Jvm.Cond.privateMethod ({ cls := "TokenMouth", name := "signOf", desc := "(I)I" } : Jvm.MethodName)) ∈ lw_tbl := lw_at lw_m3 179 rfl
theorem q754 : (Jvm.Cond.instanceMethod ({ cls := "TokenMouth", name := "signOf", desc := "(I)I" } : Jvm.MethodName)) ∈ lw_all := lw_g (lw_at lw_m3 180 rfl) rfl
theorem q755 : (Jvm.Cond.code ({ cls := "TokenMouth", name := "signOf", desc := "(I)I" } : Jvm.MethodName) prog_1_method_16_code (3 : Nat) (Option.some Jvm.ClassFile.FieldType.int)) ∈ lw_all := lw_g (lw_at lw_m3 181 rfl) rfl
theorem q756 : (Jvm.Cond.classLink "TokenMouth" (186 : Nat) "TokenMouth$Sign") ∈ lw_all := lw_g (lw_at lw_m3 182 rfl) rfl
theorem q757 : (Jvm.Cond.fieldLink "TokenMouth" (301 : Nat) "TokenMouth$Command" "IFX" "LTokenMouth$Command;") ∈ lw_all := lw_g (lw_at lw_m3 183 rfl) rfl
theorem q758 : (Jvm.Cond.methodLink "TokenMouth" (304 : Nat) ({ cls := "TokenMouth", name := "meansSame", desc := "(II)Z" } : Jvm.MethodName)) ∈ lw_all := lw_g (lw_at lw_m3 184 rfl) rfl
theorem q759 : (Jvm.Cond.privateMethod ({ cls := "TokenMouth", name := "meansSame", desc := "(II)Z" } : Jvm.MethodName)) ∈ lw_tbl := lw_at lw_m3 185 rfl
theorem q760 : (Jvm.Cond.instanceMethod ({ cls := "TokenMouth", name := "meansSame", desc := "(II)Z" } : Jvm.MethodName)) ∈ lw_all := lw_g (lw_at lw_m3 186 rfl) rfl
theorem q761 : (Jvm.Cond.code ({ cls := "TokenMouth", name := "meansSame", desc := "(II)Z" } : Jvm.MethodName) prog_1_method_36_code (6 : Nat) (Option.some Jvm.ClassFile.FieldType.boolean)) ∈ lw_all := lw_g (lw_at lw_m3 187 rfl) rfl
theorem q762 : (Jvm.Cond.interfaceEntry "TokenMouth" (288 : Nat)) ∈ lw_tbl := lw_at lw_m3 188 rfl
theorem q763 : (Jvm.Cond.methodLink "TokenMouth" (288 : Nat) ({ cls := "TokenMouth$Meaning", name := "isLike", desc := "(LTokenMouth$Meaning;)Z" } : Jvm.MethodName)) ∈ lw_all := lw_g (lw_at lw_m3 189 rfl) rfl
theorem q793 : (Jvm.Cond.static ({ cls := "TokenMouth", name := "same", desc := "(II)Z" } : Jvm.MethodName)) ∈ lw_all := lw_g (lw_at lw_m3 219 rfl) rfl
theorem q794 : (Jvm.Cond.code ({ cls := "TokenMouth", name := "same", desc := "(II)Z" } : Jvm.MethodName) prog_1_method_8_code (2 : Nat) (Option.some Jvm.ClassFile.FieldType.boolean)) ∈ lw_all := lw_g (lw_at lw_m3 220 rfl) rfl
theorem q795 : (Jvm.Cond.methodLink "TokenMouth" (154 : Nat) ({ cls := "TokenMouth", name := "plain", desc := "(I)I" } : Jvm.MethodName)) ∈ lw_all := lw_g (lw_at lw_m3 221 rfl) rfl
theorem q796 : (Jvm.Cond.static ({ cls := "TokenMouth", name := "plain", desc := "(I)I" } : Jvm.MethodName)) ∈ lw_all := lw_g (lw_at lw_m3 222 rfl) rfl
theorem q797 : (Jvm.Cond.code ({ cls := "TokenMouth", name := "plain", desc := "(I)I" } : Jvm.MethodName) prog_1_method_7_code (1 : Nat) (Option.some Jvm.ClassFile.FieldType.int)) ∈ lw_all := lw_g (lw_at lw_m3 223 rfl) rfl
theorem q800 : (Jvm.Cond.privateMethod ({ cls := "TokenMouth", name := "undelimited", desc := "(LTokenMouth$Row;)V" } : Jvm.MethodName)) ∈ lw_tbl := lw_at lw_m3 226 rfl
theorem q801 : (Jvm.Cond.instanceMethod ({ cls := "TokenMouth", name := "undelimited", desc := "(LTokenMouth$Row;)V" } : Jvm.MethodName)) ∈ lw_all := lw_g (lw_at lw_m3 227 rfl) rfl
theorem q802 : (Jvm.Cond.code ({ cls := "TokenMouth", name := "undelimited", desc := "(LTokenMouth$Row;)V" } : Jvm.MethodName) prog_1_method_33_code (5 : Nat) (Option.none : Option Jvm.ClassFile.FieldType)) ∈ lw_all := lw_g (lw_at lw_m3 228 rfl) rfl
theorem q803 : (Jvm.Cond.methodLink "TokenMouth" (266 : Nat) ({ cls := "TokenMouth", name := "argued", desc := "(I[SII)I" } : Jvm.MethodName)) ∈ lw_all := lw_g (lw_at lw_m3 229 rfl) rfl
theorem q804 : (Jvm.Cond.privateMethod ({ cls := "TokenMouth", name := "argued", desc := "(I[SII)I" } : Jvm.MethodName)) ∈ lw_tbl := lw_at lw_m3 230 rfl
theorem q805 : (Jvm.Cond.instanceMethod ({ cls := "TokenMouth", name := "argued", desc := "(I[SII)I" } : Jvm.MethodName)) ∈ lw_all := lw_g (lw_at lw_m3 231 rfl) rfl
theorem q806 : (Jvm.Cond.code ({ cls := "TokenMouth", name := "argued", desc := "(I[SII)I" } : Jvm.MethodName) prog_1_method_32_code (8 : Nat) (Option.some Jvm.ClassFile.FieldType.int)) ∈ lw_all := lw_g (lw_at lw_m3 232 rfl) rfl
theorem q807 : (Jvm.Cond.methodLink "TokenMouth" (262 : Nat) ({ cls := "TokenMouth", name := "same", desc := "(II)Z" } : Jvm.MethodName)) ∈ lw_all := lw_g (lw_at lw_m3 233 rfl) rfl
theorem q808 : (Jvm.Cond.methodLink "TokenMouth" (270 : Nat) ({ cls := "TokenMouth", name := "levelOf", desc := "(I)I" } : Jvm.MethodName)) ∈ lw_all := lw_g (lw_at lw_m3 234 rfl) rfl
theorem q809 : (Jvm.Cond.static ({ cls := "TokenMouth", name := "levelOf", desc := "(I)I" } : Jvm.MethodName)) ∈ lw_all := lw_g (lw_at lw_m3 235 rfl) rfl
theorem q810 : (Jvm.Cond.code ({ cls := "TokenMouth", name := "levelOf", desc := "(I)I" } : Jvm.MethodName) prog_1_method_11_code (1 : Nat) (Option.some Jvm.ClassFile.FieldType.int)) ∈ lw_all := lw_g (lw_at lw_m3 236 rfl) rfl
theorem q811 : (Jvm.Cond.methodLink "TokenMouth" (161 : Nat) ({ cls := "TokenMouth", name := "isOf", desc := "(II)Z" } : Jvm.MethodName)) ∈ lw_all := lw_g (lw_at lw_m3 237 rfl) rfl
theorem q812 : (Jvm.Cond.static ({ cls := "TokenMouth", name := "isOf", desc := "(II)Z" } : Jvm.MethodName)) ∈ lw_all := lw_g (lw_at lw_m3 238 rfl) rfl
theorem q813 : (Jvm.Cond.code ({ cls := "TokenMouth", name := "isOf", desc := "(II)Z" } : Jvm.MethodName) prog_1_method_10_code (2 : Nat) (Option.some Jvm.ClassFile.FieldType.boolean)) ∈ lw_all := lw_g (lw_at lw_m3 239 rfl) rfl
theorem q814 : (Jvm.Cond.methodLink "TokenMouth" (273 : Nat) ({ cls := "TokenMouth$Row", name := "add", desc := "(II)Z" } : Jvm.MethodName)) ∈ lw_all := lw_g (lw_at lw_m4 0 rfl) rfl
theorem q820 : (Jvm.Cond.privateMethod ({ cls := "TokenMouth", name := "delimited", desc := "(LTokenMouth$Row;[SII)V" } : Jvm.MethodName)) ∈ lw_tbl := lw_at lw_m4 6 rfl
theorem q821 : (Jvm.Cond.instanceMethod ({ cls := "TokenMouth", name := "delimited", desc := "(LTokenMouth$Row;[SII)V" } : Jvm.MethodName)) ∈ lw_all := lw_g (lw_at lw_m4 7 rfl) rfl
theorem q822 : (Jvm.Cond.code ({ cls := "TokenMouth", name := "delimited", desc := "(LTokenMouth$Row;[SII)V" } : Jvm.MethodName) prog_1_method_34_code (8 : Nat) (Option.none : Option Jvm.ClassFile.FieldType)) ∈ lw_all := lw_g (lw_at lw_m4 8 rfl) rfl
theorem q823 : (Jvm.Cond.methodLink "TokenMouth" (275 : Nat) ({ cls := "TokenMouth$Row", name := "endsWith", desc := "([SII)Z" } : Jvm.MethodName)) ∈ lw_all := lw_g (lw_at lw_m4 9 rfl) rfl
theorem q827 : (Jvm.Cond.methodLink "TokenMouth" (279 : Nat) ({ cls := "TokenMouth$Row", name := "isGroup", desc := "()Z" } : Jvm.MethodName)) ∈ lw_all := lw_g (lw_at lw_m4 13 rfl) rfl
theorem q832 : (Jvm.Cond.methodLink "TokenMouth" (282 : Nat) ({ cls := "TokenMouth$Row", name := "strip", desc := "()V" } : Jvm.MethodName)) ∈ lw_all := lw_g (lw_at lw_m4 18 rfl) rfl
theorem q847 : (Jvm.Cond.methodLink "TokenMouth" (394 : Nat) ({ cls := "TokenMouth", name := "perform", desc := "(I)V" } : Jvm.MethodName)) ∈ lw_all := lw_g (lw_at lw_m4 33 rfl) rfl
theorem q848 : (Jvm.Cond.privateMethod ({ cls := "TokenMouth", name := "perform", desc := "(I)V" } : Jvm.MethodName)) ∈ lw_tbl := lw_at lw_m4 34 rfl
theorem q849 : (Jvm.Cond.instanceMethod ({ cls := "TokenMouth", name := "perform", desc := "(I)V" } : Jvm.MethodName)) ∈ lw_all := lw_g (lw_at lw_m4 35 rfl) rfl
theorem q850 : (Jvm.Cond.code ({ cls := "TokenMouth", name := "perform", desc := "(I)V" } : Jvm.MethodName) prog_1_method_41_code (5 : Nat) (Option.none : Option Jvm.ClassFile.FieldType)) ∈ lw_all := lw_g (lw_at lw_m4 36 rfl) rfl
theorem q851 : (Jvm.Cond.methodLink "TokenMouth" (320 : Nat) ({ cls := "TokenMouth", name := "place", desc := "(I)V" } : Jvm.MethodName)) ∈ lw_all := lw_g (lw_at lw_m4 37 rfl) rfl
theorem q852 : (Jvm.Cond.privateMethod ({ cls := "TokenMouth", name := "place", desc := "(I)V" } : Jvm.MethodName)) ∈ lw_tbl := lw_at lw_m4 38 rfl
theorem q853 : (Jvm.Cond.instanceMethod ({ cls := "TokenMouth", name := "place", desc := "(I)V" } : Jvm.MethodName)) ∈ lw_all := lw_g (lw_at lw_m4 39 rfl) rfl
theorem q854 : (Jvm.Cond.code ({ cls := "TokenMouth", name := "place", desc := "(I)V" } : Jvm.MethodName) prog_1_method_42_code (2 : Nat) (Option.none : Option Jvm.ClassFile.FieldType)) ∈ lw_all := lw_g (lw_at lw_m4 40 rfl) rfl
theorem q855 : (Jvm.Cond.methodLink "TokenMouth" (339 : Nat) ({ cls := "TokenMouth", name := "undo", desc := "()V" } : Jvm.MethodName)) ∈ lw_all := lw_g (lw_at lw_m4 41 rfl) rfl
theorem q856 : (Jvm.Cond.privateMethod ({ cls := "TokenMouth", name := "undo", desc := "()V" } : Jvm.MethodName)) ∈ lw_tbl := lw_at lw_m4 42 rfl
theorem q857 : (Jvm.Cond.instanceMethod ({ cls := "TokenMouth", name := "undo", desc := "()V" } : Jvm.MethodName)) ∈ lw_all := lw_g (lw_at lw_m4 43 rfl) rfl
theorem q858 : (Jvm.Cond.code ({ cls := "TokenMouth", name := "undo", desc := "()V" } : Jvm.MethodName) prog_1_method_54_code (2 : Nat) (Option.none : Option Jvm.ClassFile.FieldType)) ∈ lw_all := lw_g (lw_at lw_m4 44 rfl) rfl
theorem q859 : (Jvm.Cond.methodLink "TokenMouth" (326 : Nat) ({ cls := "TokenMouth", name := "put", desc := "(I)V" } : Jvm.MethodName)) ∈ lw_all := lw_g (lw_at lw_m4 45 rfl) rfl
theorem q860 : (Jvm.Cond.privateMethod ({ cls := "TokenMouth", name := "put", desc := "(I)V" } : Jvm.MethodName)) ∈ lw_tbl := lw_at lw_m4 46 rfl
theorem q861 : (Jvm.Cond.instanceMethod ({ cls := "TokenMouth", name := "put", desc := "(I)V" } : Jvm.MethodName)) ∈ lw_all := lw_g (lw_at lw_m4 47 rfl) rfl
theorem q862 : (Jvm.Cond.code ({ cls := "TokenMouth", name := "put", desc := "(I)V" } : Jvm.MethodName) prog_1_method_43_code (2 : Nat) (Option.none : Option Jvm.ClassFile.FieldType)) ∈ lw_all := lw_g (lw_at lw_m4 48 rfl) rfl
theorem q863 : (Jvm.Cond.methodLink "TokenMouth" (323 : Nat) ({ cls := "TokenMouth$Command", name := "ordinal", desc := "()I" } : Jvm.MethodName)) ∈ lw_all := lw_g (lw_at lw_m4 49 rfl) rfl
theorem q864 : (Jvm.Cond.methodLink "TokenMouth" (329 : Nat) ({ cls := "TokenMouth", name := "define", desc := "(LTokenMouth$Command;)V" } : Jvm.MethodName)) ∈ lw_all := lw_g (lw_at lw_m4 50 rfl) rfl
theorem q865 : (Jvm.Cond.privateMethod ({ cls := "TokenMouth", name := "define", desc := "(LTokenMouth$Command;)V" } : Jvm.MethodName)) ∈ lw_tbl := lw_at lw_m4 51 rfl
theorem q866 : (Jvm.Cond.instanceMethod ({ cls := "TokenMouth", name := "define", desc := "(LTokenMouth$Command;)V" } : Jvm.MethodName)) ∈ lw_all := lw_g (lw_at lw_m4 52 rfl) rfl
theorem q867 : (Jvm.Cond.code ({ cls := "TokenMouth", name := "define", desc := "(LTokenMouth$Command;)V" } : Jvm.MethodName) prog_1_method_45_code (6 : Nat) (Option.none : Option Jvm.ClassFile.FieldType)) ∈ lw_all := lw_g (lw_at lw_m4 53 rfl) rfl
theorem q868 : (Jvm.Cond.methodLink "TokenMouth" (342 : Nat) ({ cls := "TokenMouth", name := "neededName", desc := "()LTokenMouth$Name;" } : Jvm.MethodName)) ∈ lw_all := lw_g (lw_at lw_m4 54 rfl) rfl
theorem q869 : (Jvm.Cond.privateMethod ({ cls := "TokenMouth", name := "neededName", desc := "()LTokenMouth$Name;" } : Jvm.MethodName)) ∈ lw_tbl := lw_at lw_m4 55 rfl
theorem q870 : (Jvm.Cond.instanceMethod ({ cls := "TokenMouth", name := "neededName", desc := "()LTokenMouth$Name;" } : Jvm.MethodName)) ∈ lw_all := lw_g (lw_at lw_m4 56 rfl) rfl
theorem q871 : (Jvm.Cond.code ({ cls := "TokenMouth", name := "neededName", desc := "()LTokenMouth$Name;" } : Jvm.MethodName) prog_1_method_44_code (2 : Nat) (Option.some (Jvm.ClassFile.FieldType.object "TokenMouth$Name"))) ∈ lw_all := lw_g (lw_at lw_m4 57 rfl) rfl
theorem q872 : (Jvm.Cond.methodLink "TokenMouth" (346 : Nat) ({ cls := "TokenMouth", name := "headOf", desc := "()I" } : Jvm.MethodName)) ∈ lw_all := lw_g (lw_at lw_m4 58 rfl) rfl
theorem q873 : (Jvm.Cond.privateMethod ({ cls := "TokenMouth", name := "headOf", desc := "()I" } : Jvm.MethodName)) ∈ lw_tbl := lw_at lw_m4 59 rfl
theorem q874 : (Jvm.Cond.instanceMethod ({ cls := "TokenMouth", name := "headOf", desc := "()I" } : Jvm.MethodName)) ∈ lw_all := lw_g (lw_at lw_m4 60 rfl) rfl
theorem q875 : (Jvm.Cond.code ({ cls := "TokenMouth", name := "headOf", desc := "()I" } : Jvm.MethodName) prog_1_method_46_code (4 : Nat) (Option.some Jvm.ClassFile.FieldType.int)) ∈ lw_all := lw_g (lw_at lw_m4 61 rfl) rfl
theorem q876 : (Jvm.Cond.fieldLink "TokenMouth" (349 : Nat) "TokenMouth$Command" "EDEF" "LTokenMouth$Command;") ∈ lw_all := lw_g (lw_at lw_m4 62 rfl) rfl
theorem q878 : (Jvm.Cond.methodLink "TokenMouth" (352 : Nat) ({ cls := "TokenMouth", name := "bodyOf", desc := "(ZI)V" } : Jvm.MethodName)) ∈ lw_all := lw_g (lw_at lw_m4 64 rfl) rfl
theorem q879 : (Jvm.Cond.privateMethod ({ cls := "TokenMouth", name := "bodyOf", desc := "(ZI)V" } : Jvm.MethodName)) ∈ lw_tbl := lw_at lw_m4 65 rfl
theorem q880 : (Jvm.Cond.instanceMethod ({ cls := "TokenMouth", name := "bodyOf", desc := "(ZI)V" } : Jvm.MethodName)) ∈ lw_all := lw_g (lw_at lw_m4 66 rfl) rfl
theorem q881 : (Jvm.Cond.code ({ cls := "TokenMouth", name := "bodyOf", desc := "(ZI)V" } : Jvm.MethodName) prog_1_method_47_code (5 : Nat) (Option.none : Option Jvm.ClassFile.FieldType)) ∈ lw_all := lw_g (lw_at lw_m4 67 rfl) rfl
theorem q882 : (Jvm.Cond.methodLink "TokenMouth" (369 : Nat) ({ cls := "TokenMouth", name := "behindHash", desc := "(II)I" } : Jvm.MethodName)) ∈ lw_all := lw_g (lw_at lw_m4 68 rfl) rfl
theorem q883 : (Jvm.Cond.privateMethod ({ cls := "TokenMouth", name := "behindHash", desc := "(II)I" } : Jvm.MethodName)) ∈ lw_tbl := lw_at lw_m4 69 rfl
theorem q884 : (Jvm.Cond.instanceMethod ({ cls := "TokenMouth", name := "behindHash", desc := "(II)I" } : Jvm.MethodName)) ∈ lw_all := lw_g (lw_at lw_m4 70 rfl) rfl
theorem q885 : (Jvm.Cond.code ({ cls := "TokenMouth", name := "behindHash", desc := "(II)I" } : Jvm.MethodName) prog_1_method_48_code (4 : Nat) (Option.some Jvm.ClassFile.FieldType.int)) ∈ lw_all := lw_g (lw_at lw_m4 71 rfl) rfl
theorem q886 : (Jvm.Cond.classLink "TokenMouth" (356 : Nat) "TokenMouth$Macro") ∈ lw_all := lw_g (lw_at lw_m4 72 rfl) rfl
theorem q888 : (Jvm.Cond.methodLink "TokenMouth" (358 : Nat) ({ cls := "TokenMouth$Macro", name := "<init>", desc := "(LTokenMouth$Row;LTokenMouth$Row;I)V" } : Jvm.MethodName)) ∈ lw_all := lw_g (lw_at lw_m4 74 rfl) rfl
theorem q897 : (Jvm.Cond.fieldLinkNest "TokenMouth" (423 : Nat) "TokenMouth$Macro" "text" "[S" "TokenMouth") ∈ lw_tbl := lw_at lw_m4 83 rfl
theorem q899 : (Jvm.Cond.fieldLinkNest "TokenMouth" (425 : Nat) "TokenMouth$Macro" "body" "[S" "TokenMouth") ∈ lw_tbl := lw_at lw_m4 85 rfl
theorem q901 : (Jvm.Cond.fieldLinkNest "TokenMouth" (420 : Nat) "TokenMouth$Macro" "parameters" "I" "TokenMouth") ∈ lw_tbl := lw_at lw_m4 87 rfl
theorem q909 : (Jvm.Cond.fieldLink "TokenMouth" (361 : Nat) "TokenMouth$Command" "GDEF" "LTokenMouth$Command;") ∈ lw_all := lw_g (lw_at lw_m4 95 rfl) rfl
theorem q911 : (Jvm.Cond.methodLink "TokenMouth" (333 : Nat) ({ cls := "TokenMouth", name := "let", desc := "()V" } : Jvm.MethodName)) ∈ lw_all := lw_g (lw_at lw_m4 97 rfl) rfl
theorem q912 : (Jvm.Cond.privateMethod ({ cls := "TokenMouth", name := "let", desc := "()V" } : Jvm.MethodName)) ∈ lw_tbl := lw_at lw_m4 98 rfl
theorem q913 : (Jvm.Cond.instanceMethod ({ cls := "TokenMouth", name := "let", desc := "()V" } : Jvm.MethodName)) ∈ lw_all := lw_g (lw_at lw_m4 99 rfl) rfl
theorem q914 : (Jvm.Cond.code ({ cls := "TokenMouth", name := "let", desc := "()V" } : Jvm.MethodName) prog_1_method_49_code (3 : Nat) (Option.none : Option Jvm.ClassFile.FieldType)) ∈ lw_all := lw_g (lw_at lw_m4 100 rfl) rfl
theorem q916 : (Jvm.Cond.methodLink "TokenMouth" (373 : Nat) ({ cls := "TokenMouth$Sign", name := "<init>", desc := "(I)V" } : Jvm.MethodName)) ∈ lw_all := lw_g (lw_at lw_m4 102 rfl) rfl
theorem q921 : (Jvm.Cond.fieldLinkNest "TokenMouth" (188 : Nat) "TokenMouth$Sign" "token" "I" "TokenMouth") ∈ lw_tbl := lw_at lw_m4 107 rfl
theorem q925 : (Jvm.Cond.methodLink "TokenMouth" (336 : Nat) ({ cls := "TokenMouth", name := "catcode", desc := "()V" } : Jvm.MethodName)) ∈ lw_all := lw_g (lw_at lw_m4 111 rfl) rfl
theorem q926 : (Jvm.Cond.privateMethod ({ cls := "TokenMouth", name := "catcode", desc := "()V" } : Jvm.MethodName)) ∈ lw_tbl := lw_at lw_m4 112 rfl
theorem q927 : (Jvm.Cond.instanceMethod ({ cls := "TokenMouth", name := "catcode", desc := "()V" } : Jvm.MethodName)) ∈ lw_all := lw_g (lw_at lw_m4 113 rfl) rfl
theorem q928 : (Jvm.Cond.code ({ cls := "TokenMouth", name := "catcode", desc := "()V" } : Jvm.MethodName) prog_1_method_51_code (6 : Nat) (Option.none : Option Jvm.ClassFile.FieldType)) ∈ lw_all := lw_g (lw_at lw_m4 114 rfl) rfl
theorem q929 : (Jvm.Cond.methodLink "TokenMouth" (375 : Nat) ({ cls := "TokenMouth", name := "isDigit", desc := "(I)Z" } : Jvm.MethodName)) ∈ lw_all := lw_g (lw_at lw_m4 115 rfl) rfl
theorem q930 : (Jvm.Cond.static ({ cls := "TokenMouth", name := "isDigit", desc := "(I)Z" } : Jvm.MethodName)) ∈ lw_all := lw_g (lw_at lw_m4 116 rfl) rfl
theorem q931 : (Jvm.Cond.code ({ cls := "TokenMouth", name := "isDigit", desc := "(I)Z" } : Jvm.MethodName) prog_1_method_50_code (1 : Nat) (Option.some Jvm.ClassFile.FieldType.boolean)) ∈ lw_all := lw_g (lw_at lw_m4 117 rfl) rfl
theorem q968 : (Jvm.Cond.instanceMethod ({ cls := "TokenMouth", name := "fault", desc := "(I)I" } : Jvm.MethodName)) ∈ lw_all := lw_g (lw_at lw_m4 154 rfl) rfl
theorem q969 : (Jvm.Cond.selects "TokenMouth" ({ cls := "TokenMouth", name := "fault", desc := "(I)I" } : Jvm.MethodName) ({ cls := "TokenMouth", name := "fault", desc := "(I)I" } : Jvm.MethodName)) ∈ lw_all := lw_g (lw_at lw_m4 155 rfl) rfl
theorem q970 : (Jvm.Cond.code ({ cls := "TokenMouth", name := "fault", desc := "(I)I" } : Jvm.MethodName) prog_1_method_61_code (2 : Nat) (Option.some Jvm.ClassFile.FieldType.int)) ∈ lw_all := lw_g (lw_at lw_m4 156 rfl) rfl
theorem q971 : (Jvm.Cond.methodLink "TokenMouth" (406 : Nat) ({ cls := "TokenMouth", name := "there", desc := "(Z)V" } : Jvm.MethodName)) ∈ lw_all := lw_g (lw_at lw_m4 157 rfl) rfl
theorem q972 : (Jvm.Cond.static ({ cls := "TokenMouth", name := "there", desc := "(Z)V" } : Jvm.MethodName)) ∈ lw_all := lw_g (lw_at lw_m4 158 rfl) rfl
theorem q973 : (Jvm.Cond.code ({ cls := "TokenMouth", name := "there", desc := "(Z)V" } : Jvm.MethodName) prog_1_method_60_code (1 : Nat) (Option.none : Option Jvm.ClassFile.FieldType)) ∈ lw_all := lw_g (lw_at lw_m4 159 rfl) rfl
theorem q974 : (Jvm.Cond.classLink "TokenMouth" (403 : Nat) "java/lang/IndexOutOfBoundsException") ∈ lw_all := lw_g (lw_at lw_m4 160 rfl) rfl
theorem q983 : (Jvm.Cond.methodLink "TokenMouth" (405 : Nat) ({ cls := "java/lang/IndexOutOfBoundsException", name := "<init>", desc := "()V" } : Jvm.MethodName)) ∈ lw_all := lw_g (lw_at lw_m4 169 rfl) rfl
theorem q993 : (Jvm.Cond.instanceMethod ({ cls := "TokenMouth", name := "out", desc := "(I)I" } : Jvm.MethodName)) ∈ lw_all := lw_g (lw_at lw_m4 179 rfl) rfl
theorem q994 : (Jvm.Cond.selects "TokenMouth" ({ cls := "TokenMouth", name := "out", desc := "(I)I" } : Jvm.MethodName) ({ cls := "TokenMouth", name := "out", desc := "(I)I" } : Jvm.MethodName)) ∈ lw_all := lw_g (lw_at lw_m4 180 rfl) rfl
theorem q995 : (Jvm.Cond.code ({ cls := "TokenMouth", name := "out", desc := "(I)I" } : Jvm.MethodName) prog_1_method_62_code (2 : Nat) (Option.some Jvm.ClassFile.FieldType.int)) ∈ lw_all := lw_g (lw_at lw_m4 181 rfl) rfl
theorem q1000 : (Jvm.Cond.instanceMethod ({ cls := "TokenMouth", name := "count", desc := "(I)I" } : Jvm.MethodName)) ∈ lw_all := lw_g (lw_at lw_m4 186 rfl) rfl
theorem q1001 : (Jvm.Cond.selects "TokenMouth" ({ cls := "TokenMouth", name := "count", desc := "(I)I" } : Jvm.MethodName) ({ cls := "TokenMouth", name := "count", desc := "(I)I" } : Jvm.MethodName)) ∈ lw_all := lw_g (lw_at lw_m4 187 rfl) rfl
theorem q1002 : (Jvm.Cond.code ({ cls := "TokenMouth", name := "count", desc := "(I)I" } : Jvm.MethodName) prog_1_method_63_code (2 : Nat) (Option.some Jvm.ClassFile.FieldType.int)) ∈ lw_all := lw_g (lw_at lw_m4 188 rfl) rfl
theorem q1007 : (Jvm.Cond.instanceMethod ({ cls := "TokenMouth", name := "category", desc := "(I)I" } : Jvm.MethodName)) ∈ lw_all := lw_g (lw_at lw_m4 193 rfl) rfl
theorem q1008 : (Jvm.Cond.selects "TokenMouth" ({ cls := "TokenMouth", name := "category", desc := "(I)I" } : Jvm.MethodName) ({ cls := "TokenMouth", name := "category", desc := "(I)I" } : Jvm.MethodName)) ∈ lw_all := lw_g (lw_at lw_m4 194 rfl) rfl
theorem q1009 : (Jvm.Cond.code ({ cls := "TokenMouth", name := "category", desc := "(I)I" } : Jvm.MethodName) prog_1_method_64_code (2 : Nat) (Option.some Jvm.ClassFile.FieldType.int)) ∈ lw_all := lw_g (lw_at lw_m4 195 rfl) rfl
theorem q1015 : (Jvm.Cond.instanceMethod ({ cls := "TokenMouth", name := "meaning", desc := "(JZ)I" } : Jvm.MethodName)) ∈ lw_all := lw_g (lw_at lw_m4 201 rfl) rfl
theorem q1016 : (Jvm.Cond.selects "TokenMouth" ({ cls := "TokenMouth", name := "meaning", desc := "(JZ)I" } : Jvm.MethodName) ({ cls := "TokenMouth", name := "meaning", desc := "(JZ)I" } : Jvm.MethodName)) ∈ lw_all := lw_g (lw_at lw_m4 202 rfl) rfl
theorem q1017 : (Jvm.Cond.code ({ cls := "TokenMouth", name := "meaning", desc := "(JZ)I" } : Jvm.MethodName) prog_1_method_66_code (5 : Nat) (Option.some Jvm.ClassFile.FieldType.int)) ∈ lw_all := lw_g (lw_at lw_m4 203 rfl) rfl
theorem q1018 : (Jvm.Cond.methodLink "TokenMouth" (413 : Nat) ({ cls := "TokenMouth", name := "asked", desc := "(JZ)LTokenMouth$Meaning;" } : Jvm.MethodName)) ∈ lw_all := lw_g (lw_at lw_m4 204 rfl) rfl
theorem q1019 : (Jvm.Cond.privateMethod ({ cls := "TokenMouth", name := "asked", desc := "(JZ)LTokenMouth$Meaning;" } : Jvm.MethodName)) ∈ lw_tbl := lw_at lw_m4 205 rfl
theorem q1020 : (Jvm.Cond.instanceMethod ({ cls := "TokenMouth", name := "asked", desc := "(JZ)LTokenMouth$Meaning;" } : Jvm.MethodName)) ∈ lw_all := lw_g (lw_at lw_m4 206 rfl) rfl
theorem q1021 : (Jvm.Cond.code ({ cls := "TokenMouth", name := "asked", desc := "(JZ)LTokenMouth$Meaning;" } : Jvm.MethodName) prog_1_method_65_code (8 : Nat) (Option.some (Jvm.ClassFile.FieldType.object "TokenMouth$Meaning"))) ∈ lw_all := lw_g (lw_at lw_m4 207 rfl) rfl
theorem q1022 : (Jvm.Cond.classLink "TokenMouth" (410 : Nat) "java/util/NoSuchElementException") ∈ lw_all := lw_g (lw_at lw_m4 208 rfl) rfl
theorem q1031 : (Jvm.Cond.methodLink "TokenMouth" (412 : Nat) ({ cls := "java/util/NoSuchElementException", name := "<init>", desc := "()V" } : Jvm.MethodName)) ∈ lw_all := lw_g (lw_at lw_m4 217 rfl) rfl
theorem q1037 : (Jvm.Cond.interfaceEntry "TokenMouth" (417 : Nat)) ∈ lw_tbl := lw_at lw_m4 223 rfl
theorem q1038 : (Jvm.Cond.methodLink "TokenMouth" (417 : Nat) ({ cls := "TokenMouth$Meaning", name := "kind", desc := "()I" } : Jvm.MethodName)) ∈ lw_all := lw_g (lw_at lw_m4 224 rfl) rfl
theorem q1060 : (Jvm.Cond.instanceMethod ({ cls := "TokenMouth", name := "detail", desc := "(JZI)I" } : Jvm.MethodName)) ∈ lw_all := lw_g (lw_at lw_m5 6 rfl) rfl
theorem q1061 : (Jvm.Cond.selects "TokenMouth" ({ cls := "TokenMouth", name := "detail", desc := "(JZI)I" } : Jvm.MethodName) ({ cls := "TokenMouth", name := "detail", desc := "(JZI)I" } : Jvm.MethodName)) ∈ lw_all := lw_g (lw_at lw_m5 7 rfl) rfl
theorem q1062 : (Jvm.Cond.code ({ cls := "TokenMouth", name := "detail", desc := "(JZI)I" } : Jvm.MethodName) prog_1_method_67_code (8 : Nat) (Option.some Jvm.ClassFile.FieldType.int)) ∈ lw_all := lw_g (lw_at lw_m5 8 rfl) rfl
theorem q1477 : (Jvm.Cond.castable "TokenMouth" "java/lang/Object") ∈ lw_tbl := lw_at lw_m6 183 rfl
theorem q1503 : (Jvm.Cond.fieldLinkNest "TokenMouth" (74 : Nat) "TokenMouth$Command" "spelled" "Ljava/lang/String;" "TokenMouth") ∈ lw_tbl := lw_at lw_m6 209 rfl
theorem in_X1 : ∀ w ∈ wsX10, w ∈ lw_all := lw_in wsX10 [406, 408, 410, 412, 414, 416, 418, 420, 422, 424, 426, 428, 430, 432, 434, 436, 438, 440, 442, 444, 446, 448, 450, 452, 454, 456] (by decide +kernel) (by decide +kernel)
