/-! TermIdeals -/
set_option maxRecDepth 100000
def RX0 : String := "TermIdeals"
def TX0 : u_T := fun k => match k with
  | 0 => ("TermIdeals", "ideals", "[LTermIdeals$Ideal;", true)
  | 1 => ("TermIdeals", "tried", "LTermIdeals$Ideal;", true)
  | 2 => ("TermIdeals", "faces", "LTermIdeals$Faces;", true)
  | 3 => ("TermIdeals", "deeds", "LTermIdeals$Deeds;", true)
  | 4 => ("TermIdeals", "one", "LTermIdeals$Stairs;", true)
  | 5 => ("TermIdeals", "other", "LTermIdeals$Stairs;", true)
  | 6 => ("TermIdeals", "power", "LTermIdeals$Stairs;", true)
  | 7 => ("TermIdeals", "next", "LTermIdeals$Stairs;", true)
  | 8 => ("TermIdeals", "text", "[B", true)
  | 9 => ("TermIdeals", "texted", "I", false)
  | 10 => ("TermIdeals", "seen", "LTermIdeals$Rows;", true)
  | 11 => ("TermIdeals", "events", "LTermIdeals$Rows;", true)
  | 12 => ("TermIdeals", "book", "LTermIdeals$Rows;", true)
  | 13 => ("TermIdeals", "tapes", "[LTermIdeals$Tape;", true)
  | 14 => ("TermIdeals", "imageIdeals", "[LTermIdeals$Ideal;", true)
  | 15 => ("TermIdeals", "imageSeen", "LTermIdeals$Rows;", true)
  | 16 => ("TermIdeals", "imageEvents", "LTermIdeals$Rows;", true)
  | 17 => ("TermIdeals", "imageBook", "LTermIdeals$Rows;", true)
  | _ => ("TermIdeals", "hasImage", "Z", false)
def tyX0 : Nat → FieldType := fun k => match k with
  | 0 => .array (.object "TermIdeals$Ideal")
  | 1 => .object "TermIdeals$Ideal"
  | 2 => .object "TermIdeals$Faces"
  | 3 => .object "TermIdeals$Deeds"
  | 4 => .object "TermIdeals$Stairs"
  | 5 => .object "TermIdeals$Stairs"
  | 6 => .object "TermIdeals$Stairs"
  | 7 => .object "TermIdeals$Stairs"
  | 8 => .array .byte
  | 9 => .int
  | 10 => .object "TermIdeals$Rows"
  | 11 => .object "TermIdeals$Rows"
  | 12 => .object "TermIdeals$Rows"
  | 13 => .array (.object "TermIdeals$Tape")
  | 14 => .array (.object "TermIdeals$Ideal")
  | 15 => .object "TermIdeals$Rows"
  | 16 => .object "TermIdeals$Rows"
  | 17 => .object "TermIdeals$Rows"
  | _ => .boolean
abbrev wsX00 : List Cond := u_ws RX0 TX0 19
set_option maxRecDepth 100000 in
theorem nmX0 : ∀ a, a < 19 → ∀ b, b < 19 → a ≠ b → (TX0 a).2.1 ≠ (TX0 b).2.1 := by decide +kernel
set_option maxRecDepth 100000 in
theorem tyX0_ok : ∀ k, k < 19 → parseFieldDescriptor (TX0 k).2.2.1 = some (tyX0 k) := by decide +kernel
abbrev cX0_init : ByteArray := prog_1_method_7_code
def yX0_init : MethodName := ⟨RX0, "<init>", "()V"⟩
def dkwX0_init_11 : List UInt8 := [132, 1, 1, 167, 255, 234, 177]
abbrev dktX0_init_11 : List UInt8 := dkwX0_init_11 ++ []
def dkwX0_init_10 : List UInt8 := [181, 0, 94, 3, 60, 27, 16, 6, 162, 0, 22, 42, 180, 0, 81, 27, 187, 0, 79, 89, 183, 0, 97, 83]
abbrev dktX0_init_10 : List UInt8 := dkwX0_init_10 ++ dktX0_init_11
def dkwX0_init_9 : List UInt8 := [187, 0, 64, 89, 16, 8, 183, 0, 66, 181, 0, 91, 42, 187, 0, 64, 89, 16, 8, 183, 0, 66]
abbrev dktX0_init_9 : List UInt8 := dkwX0_init_9 ++ dktX0_init_10
def dkwX0_init_8 : List UInt8 := [187, 0, 19, 89, 183, 0, 21, 83, 181, 0, 85, 42, 187, 0, 64, 89, 7, 183, 0, 66, 181, 0, 88, 42]
abbrev dktX0_init_8 : List UInt8 := dkwX0_init_8 ++ dktX0_init_9
def dkwX0_init_7 : List UInt8 := [189, 0, 79, 181, 0, 81, 42, 5, 189, 0, 19, 89, 3, 187, 0, 19, 89, 183, 0, 21, 83, 89, 4]
abbrev dktX0_init_7 : List UInt8 := dkwX0_init_7 ++ dktX0_init_8
def dkwX0_init_6 : List UInt8 := [183, 0, 66, 181, 0, 73, 42, 187, 0, 64, 89, 16, 8, 183, 0, 66, 181, 0, 76, 42, 16, 6]
abbrev dktX0_init_6 : List UInt8 := dkwX0_init_6 ++ dktX0_init_7
def dkwX0_init_5 : List UInt8 := [181, 0, 60, 42, 187, 0, 64, 89, 7, 183, 0, 66, 181, 0, 69, 42, 187, 0, 64, 89, 16, 8]
abbrev dktX0_init_5 : List UInt8 := dkwX0_init_5 ++ dktX0_init_6
def dkwX0_init_4 : List UInt8 := [183, 0, 46, 181, 0, 54, 42, 187, 0, 44, 89, 183, 0, 46, 181, 0, 57, 42, 16, 100, 188, 8]
abbrev dktX0_init_4 : List UInt8 := dkwX0_init_4 ++ dktX0_init_5
def dkwX0_init_3 : List UInt8 := [183, 0, 46, 181, 0, 47, 42, 187, 0, 44, 89, 183, 0, 46, 181, 0, 51, 42, 187, 0, 44, 89]
abbrev dktX0_init_3 : List UInt8 := dkwX0_init_3 ++ dktX0_init_4
def dkwX0_init_2 : List UInt8 := [183, 0, 32, 181, 0, 33, 42, 187, 0, 37, 89, 183, 0, 39, 181, 0, 40, 42, 187, 0, 44, 89]
abbrev dktX0_init_2 : List UInt8 := dkwX0_init_2 ++ dktX0_init_3
def dkwX0_init_1 : List UInt8 := [89, 183, 0, 21, 83, 181, 0, 22, 42, 187, 0, 19, 89, 183, 0, 21, 181, 0, 26, 42, 187, 0, 30, 89]
abbrev dktX0_init_1 : List UInt8 := dkwX0_init_1 ++ dktX0_init_2
def dkwX0_init_0 : List UInt8 := [42, 183, 0, 13, 42, 5, 189, 0, 19, 89, 3, 187, 0, 19, 89, 183, 0, 21, 83, 89, 4, 187, 0, 19]
abbrev dktX0_init_0 : List UInt8 := dkwX0_init_0 ++ dktX0_init_1
theorem dksX0_init_0 : cX0_init.data.toList.drop 0 = dktX0_init_0 := by decide +kernel
theorem dksX0_init_1 : cX0_init.data.toList.drop 24 = dktX0_init_1 := dk_seg dksX0_init_0 24 rfl rfl
theorem dksX0_init_2 : cX0_init.data.toList.drop 48 = dktX0_init_2 := dk_seg dksX0_init_1 24 rfl rfl
theorem dksX0_init_3 : cX0_init.data.toList.drop 70 = dktX0_init_3 := dk_seg dksX0_init_2 22 rfl rfl
theorem dksX0_init_4 : cX0_init.data.toList.drop 92 = dktX0_init_4 := dk_seg dksX0_init_3 22 rfl rfl
theorem dksX0_init_5 : cX0_init.data.toList.drop 114 = dktX0_init_5 := dk_seg dksX0_init_4 22 rfl rfl
theorem dksX0_init_6 : cX0_init.data.toList.drop 136 = dktX0_init_6 := dk_seg dksX0_init_5 22 rfl rfl
theorem dksX0_init_7 : cX0_init.data.toList.drop 158 = dktX0_init_7 := dk_seg dksX0_init_6 22 rfl rfl
theorem dksX0_init_8 : cX0_init.data.toList.drop 181 = dktX0_init_8 := dk_seg dksX0_init_7 23 rfl rfl
theorem dksX0_init_9 : cX0_init.data.toList.drop 205 = dktX0_init_9 := dk_seg dksX0_init_8 24 rfl rfl
theorem dksX0_init_10 : cX0_init.data.toList.drop 227 = dktX0_init_10 := dk_seg dksX0_init_9 22 rfl rfl
theorem dksX0_init_11 : cX0_init.data.toList.drop 251 = dktX0_init_11 := dk_seg dksX0_init_10 24 rfl rfl
theorem dX0_init_0 : decode cX0_init 0 = .ok (.aload_n 0, 1) := dk_42 (dk_at dksX0_init_0 0 rfl rfl)
theorem dX0_init_1 : decode cX0_init 1 = .ok (.invokespecial 13, 3) := dk_183 0 13 (dk_at dksX0_init_0 1 rfl rfl)
theorem dX0_init_4 : decode cX0_init 4 = .ok (.aload_n 0, 1) := dk_42 (dk_at dksX0_init_0 4 rfl rfl)
theorem dX0_init_5 : decode cX0_init 5 = .ok (.iconst 2, 1) := dk_5 (dk_at dksX0_init_0 5 rfl rfl)
theorem dX0_init_6 : decode cX0_init 6 = .ok (.anewarray 19, 3) := dk_189 0 19 (dk_at dksX0_init_0 6 rfl rfl)
theorem dX0_init_9 : decode cX0_init 9 = .ok (.dup, 1) := dk_89 (dk_at dksX0_init_0 9 rfl rfl)
theorem dX0_init_10 : decode cX0_init 10 = .ok (.iconst 0, 1) := dk_3 (dk_at dksX0_init_0 10 rfl rfl)
theorem dX0_init_11 : decode cX0_init 11 = .ok (.new 19, 3) := dk_187 0 19 (dk_at dksX0_init_0 11 rfl rfl)
theorem dX0_init_14 : decode cX0_init 14 = .ok (.dup, 1) := dk_89 (dk_at dksX0_init_0 14 rfl rfl)
theorem dX0_init_15 : decode cX0_init 15 = .ok (.invokespecial 21, 3) := dk_183 0 21 (dk_at dksX0_init_0 15 rfl rfl)
theorem dX0_init_18 : decode cX0_init 18 = .ok (.aastore, 1) := dk_83 (dk_at dksX0_init_0 18 rfl rfl)
theorem dX0_init_19 : decode cX0_init 19 = .ok (.dup, 1) := dk_89 (dk_at dksX0_init_0 19 rfl rfl)
theorem dX0_init_20 : decode cX0_init 20 = .ok (.iconst 1, 1) := dk_4 (dk_at dksX0_init_0 20 rfl rfl)
theorem dX0_init_21 : decode cX0_init 21 = .ok (.new 19, 3) := dk_187 0 19 (dk_at dksX0_init_0 21 rfl rfl)
theorem dX0_init_24 : decode cX0_init 24 = .ok (.dup, 1) := dk_89 (dk_at dksX0_init_1 0 rfl rfl)
theorem dX0_init_25 : decode cX0_init 25 = .ok (.invokespecial 21, 3) := dk_183 0 21 (dk_at dksX0_init_1 1 rfl rfl)
theorem dX0_init_28 : decode cX0_init 28 = .ok (.aastore, 1) := dk_83 (dk_at dksX0_init_1 4 rfl rfl)
theorem dX0_init_29 : decode cX0_init 29 = .ok (.putfield 22, 3) := dk_181 0 22 (dk_at dksX0_init_1 5 rfl rfl)
theorem dX0_init_32 : decode cX0_init 32 = .ok (.aload_n 0, 1) := dk_42 (dk_at dksX0_init_1 8 rfl rfl)
theorem dX0_init_33 : decode cX0_init 33 = .ok (.new 19, 3) := dk_187 0 19 (dk_at dksX0_init_1 9 rfl rfl)
theorem dX0_init_36 : decode cX0_init 36 = .ok (.dup, 1) := dk_89 (dk_at dksX0_init_1 12 rfl rfl)
theorem dX0_init_37 : decode cX0_init 37 = .ok (.invokespecial 21, 3) := dk_183 0 21 (dk_at dksX0_init_1 13 rfl rfl)
theorem dX0_init_40 : decode cX0_init 40 = .ok (.putfield 26, 3) := dk_181 0 26 (dk_at dksX0_init_1 16 rfl rfl)
theorem dX0_init_43 : decode cX0_init 43 = .ok (.aload_n 0, 1) := dk_42 (dk_at dksX0_init_1 19 rfl rfl)
theorem dX0_init_44 : decode cX0_init 44 = .ok (.new 30, 3) := dk_187 0 30 (dk_at dksX0_init_1 20 rfl rfl)
theorem dX0_init_47 : decode cX0_init 47 = .ok (.dup, 1) := dk_89 (dk_at dksX0_init_1 23 rfl rfl)
theorem dX0_init_48 : decode cX0_init 48 = .ok (.invokespecial 32, 3) := dk_183 0 32 (dk_at dksX0_init_2 0 rfl rfl)
theorem dX0_init_51 : decode cX0_init 51 = .ok (.putfield 33, 3) := dk_181 0 33 (dk_at dksX0_init_2 3 rfl rfl)
theorem dX0_init_54 : decode cX0_init 54 = .ok (.aload_n 0, 1) := dk_42 (dk_at dksX0_init_2 6 rfl rfl)
theorem dX0_init_55 : decode cX0_init 55 = .ok (.new 37, 3) := dk_187 0 37 (dk_at dksX0_init_2 7 rfl rfl)
theorem dX0_init_58 : decode cX0_init 58 = .ok (.dup, 1) := dk_89 (dk_at dksX0_init_2 10 rfl rfl)
theorem dX0_init_59 : decode cX0_init 59 = .ok (.invokespecial 39, 3) := dk_183 0 39 (dk_at dksX0_init_2 11 rfl rfl)
theorem dX0_init_62 : decode cX0_init 62 = .ok (.putfield 40, 3) := dk_181 0 40 (dk_at dksX0_init_2 14 rfl rfl)
theorem dX0_init_65 : decode cX0_init 65 = .ok (.aload_n 0, 1) := dk_42 (dk_at dksX0_init_2 17 rfl rfl)
theorem dX0_init_66 : decode cX0_init 66 = .ok (.new 44, 3) := dk_187 0 44 (dk_at dksX0_init_2 18 rfl rfl)
theorem dX0_init_69 : decode cX0_init 69 = .ok (.dup, 1) := dk_89 (dk_at dksX0_init_2 21 rfl rfl)
theorem dX0_init_70 : decode cX0_init 70 = .ok (.invokespecial 46, 3) := dk_183 0 46 (dk_at dksX0_init_3 0 rfl rfl)
theorem dX0_init_73 : decode cX0_init 73 = .ok (.putfield 47, 3) := dk_181 0 47 (dk_at dksX0_init_3 3 rfl rfl)
theorem dX0_init_76 : decode cX0_init 76 = .ok (.aload_n 0, 1) := dk_42 (dk_at dksX0_init_3 6 rfl rfl)
theorem dX0_init_77 : decode cX0_init 77 = .ok (.new 44, 3) := dk_187 0 44 (dk_at dksX0_init_3 7 rfl rfl)
theorem dX0_init_80 : decode cX0_init 80 = .ok (.dup, 1) := dk_89 (dk_at dksX0_init_3 10 rfl rfl)
theorem dX0_init_81 : decode cX0_init 81 = .ok (.invokespecial 46, 3) := dk_183 0 46 (dk_at dksX0_init_3 11 rfl rfl)
theorem dX0_init_84 : decode cX0_init 84 = .ok (.putfield 51, 3) := dk_181 0 51 (dk_at dksX0_init_3 14 rfl rfl)
theorem dX0_init_87 : decode cX0_init 87 = .ok (.aload_n 0, 1) := dk_42 (dk_at dksX0_init_3 17 rfl rfl)
theorem dX0_init_88 : decode cX0_init 88 = .ok (.new 44, 3) := dk_187 0 44 (dk_at dksX0_init_3 18 rfl rfl)
theorem dX0_init_91 : decode cX0_init 91 = .ok (.dup, 1) := dk_89 (dk_at dksX0_init_3 21 rfl rfl)
theorem dX0_init_92 : decode cX0_init 92 = .ok (.invokespecial 46, 3) := dk_183 0 46 (dk_at dksX0_init_4 0 rfl rfl)
theorem dX0_init_95 : decode cX0_init 95 = .ok (.putfield 54, 3) := dk_181 0 54 (dk_at dksX0_init_4 3 rfl rfl)
theorem dX0_init_98 : decode cX0_init 98 = .ok (.aload_n 0, 1) := dk_42 (dk_at dksX0_init_4 6 rfl rfl)
theorem dX0_init_99 : decode cX0_init 99 = .ok (.new 44, 3) := dk_187 0 44 (dk_at dksX0_init_4 7 rfl rfl)
theorem dX0_init_102 : decode cX0_init 102 = .ok (.dup, 1) := dk_89 (dk_at dksX0_init_4 10 rfl rfl)
theorem dX0_init_103 : decode cX0_init 103 = .ok (.invokespecial 46, 3) := dk_183 0 46 (dk_at dksX0_init_4 11 rfl rfl)
theorem dX0_init_106 : decode cX0_init 106 = .ok (.putfield 57, 3) := dk_181 0 57 (dk_at dksX0_init_4 14 rfl rfl)
theorem dX0_init_109 : decode cX0_init 109 = .ok (.aload_n 0, 1) := dk_42 (dk_at dksX0_init_4 17 rfl rfl)
theorem dX0_init_110 : decode cX0_init 110 = .ok (.bipush 100, 2) := dk_16 100 (dk_at dksX0_init_4 18 rfl rfl)
theorem dX0_init_112 : decode cX0_init 112 = .ok (.newarray .byte, 2) := dk_188_8 (dk_at dksX0_init_4 20 rfl rfl)
theorem dX0_init_114 : decode cX0_init 114 = .ok (.putfield 60, 3) := dk_181 0 60 (dk_at dksX0_init_5 0 rfl rfl)
theorem dX0_init_117 : decode cX0_init 117 = .ok (.aload_n 0, 1) := dk_42 (dk_at dksX0_init_5 3 rfl rfl)
theorem dX0_init_118 : decode cX0_init 118 = .ok (.new 64, 3) := dk_187 0 64 (dk_at dksX0_init_5 4 rfl rfl)
theorem dX0_init_121 : decode cX0_init 121 = .ok (.dup, 1) := dk_89 (dk_at dksX0_init_5 7 rfl rfl)
theorem dX0_init_122 : decode cX0_init 122 = .ok (.iconst 4, 1) := dk_7 (dk_at dksX0_init_5 8 rfl rfl)
theorem dX0_init_123 : decode cX0_init 123 = .ok (.invokespecial 66, 3) := dk_183 0 66 (dk_at dksX0_init_5 9 rfl rfl)
theorem dX0_init_126 : decode cX0_init 126 = .ok (.putfield 69, 3) := dk_181 0 69 (dk_at dksX0_init_5 12 rfl rfl)
theorem dX0_init_129 : decode cX0_init 129 = .ok (.aload_n 0, 1) := dk_42 (dk_at dksX0_init_5 15 rfl rfl)
theorem dX0_init_130 : decode cX0_init 130 = .ok (.new 64, 3) := dk_187 0 64 (dk_at dksX0_init_5 16 rfl rfl)
theorem dX0_init_133 : decode cX0_init 133 = .ok (.dup, 1) := dk_89 (dk_at dksX0_init_5 19 rfl rfl)
theorem dX0_init_134 : decode cX0_init 134 = .ok (.bipush 8, 2) := dk_16 8 (dk_at dksX0_init_5 20 rfl rfl)
theorem dX0_init_136 : decode cX0_init 136 = .ok (.invokespecial 66, 3) := dk_183 0 66 (dk_at dksX0_init_6 0 rfl rfl)
theorem dX0_init_139 : decode cX0_init 139 = .ok (.putfield 73, 3) := dk_181 0 73 (dk_at dksX0_init_6 3 rfl rfl)
theorem dX0_init_142 : decode cX0_init 142 = .ok (.aload_n 0, 1) := dk_42 (dk_at dksX0_init_6 6 rfl rfl)
theorem dX0_init_143 : decode cX0_init 143 = .ok (.new 64, 3) := dk_187 0 64 (dk_at dksX0_init_6 7 rfl rfl)
theorem dX0_init_146 : decode cX0_init 146 = .ok (.dup, 1) := dk_89 (dk_at dksX0_init_6 10 rfl rfl)
theorem dX0_init_147 : decode cX0_init 147 = .ok (.bipush 8, 2) := dk_16 8 (dk_at dksX0_init_6 11 rfl rfl)
theorem dX0_init_149 : decode cX0_init 149 = .ok (.invokespecial 66, 3) := dk_183 0 66 (dk_at dksX0_init_6 13 rfl rfl)
theorem dX0_init_152 : decode cX0_init 152 = .ok (.putfield 76, 3) := dk_181 0 76 (dk_at dksX0_init_6 16 rfl rfl)
theorem dX0_init_155 : decode cX0_init 155 = .ok (.aload_n 0, 1) := dk_42 (dk_at dksX0_init_6 19 rfl rfl)
theorem dX0_init_156 : decode cX0_init 156 = .ok (.bipush 6, 2) := dk_16 6 (dk_at dksX0_init_6 20 rfl rfl)
theorem dX0_init_158 : decode cX0_init 158 = .ok (.anewarray 79, 3) := dk_189 0 79 (dk_at dksX0_init_7 0 rfl rfl)
theorem dX0_init_161 : decode cX0_init 161 = .ok (.putfield 81, 3) := dk_181 0 81 (dk_at dksX0_init_7 3 rfl rfl)
theorem dX0_init_164 : decode cX0_init 164 = .ok (.aload_n 0, 1) := dk_42 (dk_at dksX0_init_7 6 rfl rfl)
theorem dX0_init_165 : decode cX0_init 165 = .ok (.iconst 2, 1) := dk_5 (dk_at dksX0_init_7 7 rfl rfl)
theorem dX0_init_166 : decode cX0_init 166 = .ok (.anewarray 19, 3) := dk_189 0 19 (dk_at dksX0_init_7 8 rfl rfl)
theorem dX0_init_169 : decode cX0_init 169 = .ok (.dup, 1) := dk_89 (dk_at dksX0_init_7 11 rfl rfl)
theorem dX0_init_170 : decode cX0_init 170 = .ok (.iconst 0, 1) := dk_3 (dk_at dksX0_init_7 12 rfl rfl)
theorem dX0_init_171 : decode cX0_init 171 = .ok (.new 19, 3) := dk_187 0 19 (dk_at dksX0_init_7 13 rfl rfl)
theorem dX0_init_174 : decode cX0_init 174 = .ok (.dup, 1) := dk_89 (dk_at dksX0_init_7 16 rfl rfl)
theorem dX0_init_175 : decode cX0_init 175 = .ok (.invokespecial 21, 3) := dk_183 0 21 (dk_at dksX0_init_7 17 rfl rfl)
theorem dX0_init_178 : decode cX0_init 178 = .ok (.aastore, 1) := dk_83 (dk_at dksX0_init_7 20 rfl rfl)
theorem dX0_init_179 : decode cX0_init 179 = .ok (.dup, 1) := dk_89 (dk_at dksX0_init_7 21 rfl rfl)
theorem dX0_init_180 : decode cX0_init 180 = .ok (.iconst 1, 1) := dk_4 (dk_at dksX0_init_7 22 rfl rfl)
theorem dX0_init_181 : decode cX0_init 181 = .ok (.new 19, 3) := dk_187 0 19 (dk_at dksX0_init_8 0 rfl rfl)
theorem dX0_init_184 : decode cX0_init 184 = .ok (.dup, 1) := dk_89 (dk_at dksX0_init_8 3 rfl rfl)
theorem dX0_init_185 : decode cX0_init 185 = .ok (.invokespecial 21, 3) := dk_183 0 21 (dk_at dksX0_init_8 4 rfl rfl)
theorem dX0_init_188 : decode cX0_init 188 = .ok (.aastore, 1) := dk_83 (dk_at dksX0_init_8 7 rfl rfl)
theorem dX0_init_189 : decode cX0_init 189 = .ok (.putfield 85, 3) := dk_181 0 85 (dk_at dksX0_init_8 8 rfl rfl)
theorem dX0_init_192 : decode cX0_init 192 = .ok (.aload_n 0, 1) := dk_42 (dk_at dksX0_init_8 11 rfl rfl)
theorem dX0_init_193 : decode cX0_init 193 = .ok (.new 64, 3) := dk_187 0 64 (dk_at dksX0_init_8 12 rfl rfl)
theorem dX0_init_196 : decode cX0_init 196 = .ok (.dup, 1) := dk_89 (dk_at dksX0_init_8 15 rfl rfl)
theorem dX0_init_197 : decode cX0_init 197 = .ok (.iconst 4, 1) := dk_7 (dk_at dksX0_init_8 16 rfl rfl)
theorem dX0_init_198 : decode cX0_init 198 = .ok (.invokespecial 66, 3) := dk_183 0 66 (dk_at dksX0_init_8 17 rfl rfl)
theorem dX0_init_201 : decode cX0_init 201 = .ok (.putfield 88, 3) := dk_181 0 88 (dk_at dksX0_init_8 20 rfl rfl)
theorem dX0_init_204 : decode cX0_init 204 = .ok (.aload_n 0, 1) := dk_42 (dk_at dksX0_init_8 23 rfl rfl)
theorem dX0_init_205 : decode cX0_init 205 = .ok (.new 64, 3) := dk_187 0 64 (dk_at dksX0_init_9 0 rfl rfl)
theorem dX0_init_208 : decode cX0_init 208 = .ok (.dup, 1) := dk_89 (dk_at dksX0_init_9 3 rfl rfl)
theorem dX0_init_209 : decode cX0_init 209 = .ok (.bipush 8, 2) := dk_16 8 (dk_at dksX0_init_9 4 rfl rfl)
theorem dX0_init_211 : decode cX0_init 211 = .ok (.invokespecial 66, 3) := dk_183 0 66 (dk_at dksX0_init_9 6 rfl rfl)
theorem dX0_init_214 : decode cX0_init 214 = .ok (.putfield 91, 3) := dk_181 0 91 (dk_at dksX0_init_9 9 rfl rfl)
theorem dX0_init_217 : decode cX0_init 217 = .ok (.aload_n 0, 1) := dk_42 (dk_at dksX0_init_9 12 rfl rfl)
theorem dX0_init_218 : decode cX0_init 218 = .ok (.new 64, 3) := dk_187 0 64 (dk_at dksX0_init_9 13 rfl rfl)
theorem dX0_init_221 : decode cX0_init 221 = .ok (.dup, 1) := dk_89 (dk_at dksX0_init_9 16 rfl rfl)
theorem dX0_init_222 : decode cX0_init 222 = .ok (.bipush 8, 2) := dk_16 8 (dk_at dksX0_init_9 17 rfl rfl)
theorem dX0_init_224 : decode cX0_init 224 = .ok (.invokespecial 66, 3) := dk_183 0 66 (dk_at dksX0_init_9 19 rfl rfl)
theorem dX0_init_227 : decode cX0_init 227 = .ok (.putfield 94, 3) := dk_181 0 94 (dk_at dksX0_init_10 0 rfl rfl)
theorem dX0_init_230 : decode cX0_init 230 = .ok (.iconst 0, 1) := dk_3 (dk_at dksX0_init_10 3 rfl rfl)
theorem dX0_init_231 : decode cX0_init 231 = .ok (.istore_n 1, 1) := dk_60 (dk_at dksX0_init_10 4 rfl rfl)
theorem dX0_init_232 : decode cX0_init 232 = .ok (.iload_n 1, 1) := dk_27 (dk_at dksX0_init_10 5 rfl rfl)
theorem dX0_init_233 : decode cX0_init 233 = .ok (.bipush 6, 2) := dk_16 6 (dk_at dksX0_init_10 6 rfl rfl)
theorem dX0_init_235 : decode cX0_init 235 = .ok (.if_icmp .ge 22, 3) := dk_162 0 22 (dk_at dksX0_init_10 8 rfl rfl)
theorem dX0_init_238 : decode cX0_init 238 = .ok (.aload_n 0, 1) := dk_42 (dk_at dksX0_init_10 11 rfl rfl)
theorem dX0_init_239 : decode cX0_init 239 = .ok (.getfield 81, 3) := dk_180 0 81 (dk_at dksX0_init_10 12 rfl rfl)
theorem dX0_init_242 : decode cX0_init 242 = .ok (.iload_n 1, 1) := dk_27 (dk_at dksX0_init_10 15 rfl rfl)
theorem dX0_init_243 : decode cX0_init 243 = .ok (.new 79, 3) := dk_187 0 79 (dk_at dksX0_init_10 16 rfl rfl)
theorem dX0_init_246 : decode cX0_init 246 = .ok (.dup, 1) := dk_89 (dk_at dksX0_init_10 19 rfl rfl)
theorem dX0_init_247 : decode cX0_init 247 = .ok (.invokespecial 97, 3) := dk_183 0 97 (dk_at dksX0_init_10 20 rfl rfl)
theorem dX0_init_250 : decode cX0_init 250 = .ok (.aastore, 1) := dk_83 (dk_at dksX0_init_10 23 rfl rfl)
theorem dX0_init_251 : decode cX0_init 251 = .ok (.iinc 1 1, 3) := dk_132 1 1 (dk_at dksX0_init_11 0 rfl rfl)
theorem dX0_init_254 : decode cX0_init 254 = .ok (.goto (-22), 3) := dk_167 255 234 (dk_at dksX0_init_11 3 rfl rfl)
theorem dX0_init_257 : decode cX0_init 257 = .ok (.return_, 1) := dk_177 (dk_at dksX0_init_11 6 rfl rfl)
abbrev cX0_generate : ByteArray := prog_1_method_9_code
def yX0_generate : MethodName := ⟨RX0, "generate", "(III)I"⟩
def dkwX0_generate_3 : List UInt8 := [182, 0, 118, 25, 4, 180, 0, 102, 172]
abbrev dktX0_generate_3 : List UInt8 := dkwX0_generate_3 ++ []
def dkwX0_generate_2 : List UInt8 := [16, 6, 160, 0, 6, 16, 252, 172, 42, 180, 0, 40, 27, 25, 4, 182, 0, 114, 25, 4, 28, 29]
abbrev dktX0_generate_2 : List UInt8 := dkwX0_generate_2 ++ dktX0_generate_3
def dkwX0_generate_1 : List UInt8 := [27, 50, 58, 4, 25, 4, 28, 29, 182, 0, 110, 16, 251, 159, 0, 6, 16, 253, 172, 25, 4, 180, 0, 102]
abbrev dktX0_generate_1 : List UInt8 := dkwX0_generate_1 ++ dktX0_generate_2
def dkwX0_generate_0 : List UInt8 := [27, 184, 0, 98, 154, 0, 5, 2, 172, 28, 29, 184, 0, 106, 154, 0, 6, 16, 254, 172, 42, 180, 0, 22]
abbrev dktX0_generate_0 : List UInt8 := dkwX0_generate_0 ++ dktX0_generate_1
theorem dksX0_generate_0 : cX0_generate.data.toList.drop 0 = dktX0_generate_0 := by decide +kernel
theorem dksX0_generate_1 : cX0_generate.data.toList.drop 24 = dktX0_generate_1 := dk_seg dksX0_generate_0 24 rfl rfl
theorem dksX0_generate_2 : cX0_generate.data.toList.drop 48 = dktX0_generate_2 := dk_seg dksX0_generate_1 24 rfl rfl
theorem dksX0_generate_3 : cX0_generate.data.toList.drop 70 = dktX0_generate_3 := dk_seg dksX0_generate_2 22 rfl rfl
theorem dX0_generate_0 : decode cX0_generate 0 = .ok (.iload_n 1, 1) := dk_27 (dk_at dksX0_generate_0 0 rfl rfl)
theorem dX0_generate_1 : decode cX0_generate 1 = .ok (.invokestatic 98, 3) := dk_184 0 98 (dk_at dksX0_generate_0 1 rfl rfl)
theorem dX0_generate_4 : decode cX0_generate 4 = .ok (.ifCond .ne 5, 3) := dk_154 0 5 (dk_at dksX0_generate_0 4 rfl rfl)
theorem dX0_generate_7 : decode cX0_generate 7 = .ok (.iconst (-1), 1) := dk_2 (dk_at dksX0_generate_0 7 rfl rfl)
theorem dX0_generate_8 : decode cX0_generate 8 = .ok (.ireturn, 1) := dk_172 (dk_at dksX0_generate_0 8 rfl rfl)
theorem dX0_generate_9 : decode cX0_generate 9 = .ok (.iload_n 2, 1) := dk_28 (dk_at dksX0_generate_0 9 rfl rfl)
theorem dX0_generate_10 : decode cX0_generate 10 = .ok (.iload_n 3, 1) := dk_29 (dk_at dksX0_generate_0 10 rfl rfl)
theorem dX0_generate_11 : decode cX0_generate 11 = .ok (.invokestatic 106, 3) := dk_184 0 106 (dk_at dksX0_generate_0 11 rfl rfl)
theorem dX0_generate_14 : decode cX0_generate 14 = .ok (.ifCond .ne 6, 3) := dk_154 0 6 (dk_at dksX0_generate_0 14 rfl rfl)
theorem dX0_generate_17 : decode cX0_generate 17 = .ok (.bipush (-2), 2) := dk_16 254 (dk_at dksX0_generate_0 17 rfl rfl)
theorem dX0_generate_19 : decode cX0_generate 19 = .ok (.ireturn, 1) := dk_172 (dk_at dksX0_generate_0 19 rfl rfl)
theorem dX0_generate_20 : decode cX0_generate 20 = .ok (.aload_n 0, 1) := dk_42 (dk_at dksX0_generate_0 20 rfl rfl)
theorem dX0_generate_21 : decode cX0_generate 21 = .ok (.getfield 22, 3) := dk_180 0 22 (dk_at dksX0_generate_0 21 rfl rfl)
theorem dX0_generate_24 : decode cX0_generate 24 = .ok (.iload_n 1, 1) := dk_27 (dk_at dksX0_generate_1 0 rfl rfl)
theorem dX0_generate_25 : decode cX0_generate 25 = .ok (.aaload, 1) := dk_50 (dk_at dksX0_generate_1 1 rfl rfl)
theorem dX0_generate_26 : decode cX0_generate 26 = .ok (.astore 4, 2) := dk_58 4 (dk_at dksX0_generate_1 2 rfl rfl)
theorem dX0_generate_28 : decode cX0_generate 28 = .ok (.aload 4, 2) := dk_25 4 (dk_at dksX0_generate_1 4 rfl rfl)
theorem dX0_generate_30 : decode cX0_generate 30 = .ok (.iload_n 2, 1) := dk_28 (dk_at dksX0_generate_1 6 rfl rfl)
theorem dX0_generate_31 : decode cX0_generate 31 = .ok (.iload_n 3, 1) := dk_29 (dk_at dksX0_generate_1 7 rfl rfl)
theorem dX0_generate_32 : decode cX0_generate 32 = .ok (.invokevirtual 110, 3) := dk_182 0 110 (dk_at dksX0_generate_1 8 rfl rfl)
theorem dX0_generate_35 : decode cX0_generate 35 = .ok (.bipush (-5), 2) := dk_16 251 (dk_at dksX0_generate_1 11 rfl rfl)
theorem dX0_generate_37 : decode cX0_generate 37 = .ok (.if_icmp .eq 6, 3) := dk_159 0 6 (dk_at dksX0_generate_1 13 rfl rfl)
theorem dX0_generate_40 : decode cX0_generate 40 = .ok (.bipush (-3), 2) := dk_16 253 (dk_at dksX0_generate_1 16 rfl rfl)
theorem dX0_generate_42 : decode cX0_generate 42 = .ok (.ireturn, 1) := dk_172 (dk_at dksX0_generate_1 18 rfl rfl)
theorem dX0_generate_43 : decode cX0_generate 43 = .ok (.aload 4, 2) := dk_25 4 (dk_at dksX0_generate_1 19 rfl rfl)
theorem dX0_generate_45 : decode cX0_generate 45 = .ok (.getfield 102, 3) := dk_180 0 102 (dk_at dksX0_generate_1 21 rfl rfl)
theorem dX0_generate_48 : decode cX0_generate 48 = .ok (.bipush 6, 2) := dk_16 6 (dk_at dksX0_generate_2 0 rfl rfl)
theorem dX0_generate_50 : decode cX0_generate 50 = .ok (.if_icmp .ne 6, 3) := dk_160 0 6 (dk_at dksX0_generate_2 2 rfl rfl)
theorem dX0_generate_53 : decode cX0_generate 53 = .ok (.bipush (-4), 2) := dk_16 252 (dk_at dksX0_generate_2 5 rfl rfl)
theorem dX0_generate_55 : decode cX0_generate 55 = .ok (.ireturn, 1) := dk_172 (dk_at dksX0_generate_2 7 rfl rfl)
theorem dX0_generate_56 : decode cX0_generate 56 = .ok (.aload_n 0, 1) := dk_42 (dk_at dksX0_generate_2 8 rfl rfl)
theorem dX0_generate_57 : decode cX0_generate 57 = .ok (.getfield 40, 3) := dk_180 0 40 (dk_at dksX0_generate_2 9 rfl rfl)
theorem dX0_generate_60 : decode cX0_generate 60 = .ok (.iload_n 1, 1) := dk_27 (dk_at dksX0_generate_2 12 rfl rfl)
theorem dX0_generate_61 : decode cX0_generate 61 = .ok (.aload 4, 2) := dk_25 4 (dk_at dksX0_generate_2 13 rfl rfl)
theorem dX0_generate_63 : decode cX0_generate 63 = .ok (.invokevirtual 114, 3) := dk_182 0 114 (dk_at dksX0_generate_2 15 rfl rfl)
theorem dX0_generate_66 : decode cX0_generate 66 = .ok (.aload 4, 2) := dk_25 4 (dk_at dksX0_generate_2 18 rfl rfl)
theorem dX0_generate_68 : decode cX0_generate 68 = .ok (.iload_n 2, 1) := dk_28 (dk_at dksX0_generate_2 20 rfl rfl)
theorem dX0_generate_69 : decode cX0_generate 69 = .ok (.iload_n 3, 1) := dk_29 (dk_at dksX0_generate_2 21 rfl rfl)
theorem dX0_generate_70 : decode cX0_generate 70 = .ok (.invokevirtual 118, 3) := dk_182 0 118 (dk_at dksX0_generate_3 0 rfl rfl)
theorem dX0_generate_73 : decode cX0_generate 73 = .ok (.aload 4, 2) := dk_25 4 (dk_at dksX0_generate_3 3 rfl rfl)
theorem dX0_generate_75 : decode cX0_generate 75 = .ok (.getfield 102, 3) := dk_180 0 102 (dk_at dksX0_generate_3 5 rfl rfl)
theorem dX0_generate_78 : decode cX0_generate 78 = .ok (.ireturn, 1) := dk_172 (dk_at dksX0_generate_3 8 rfl rfl)
abbrev cX0_isIdeal : ByteArray := prog_1_method_2_code
def yX0_isIdeal : MethodName := ⟨RX0, "isIdeal", "(I)Z"⟩
def dkwX0_isIdeal_0 : List UInt8 := [26, 3, 4, 184, 0, 5, 172]
abbrev dktX0_isIdeal_0 : List UInt8 := dkwX0_isIdeal_0 ++ []
theorem dksX0_isIdeal_0 : cX0_isIdeal.data.toList.drop 0 = dktX0_isIdeal_0 := by decide +kernel
theorem dX0_isIdeal_0 : decode cX0_isIdeal 0 = .ok (.iload_n 0, 1) := dk_26 (dk_at dksX0_isIdeal_0 0 rfl rfl)
theorem dX0_isIdeal_1 : decode cX0_isIdeal 1 = .ok (.iconst 0, 1) := dk_3 (dk_at dksX0_isIdeal_0 1 rfl rfl)
theorem dX0_isIdeal_2 : decode cX0_isIdeal 2 = .ok (.iconst 1, 1) := dk_4 (dk_at dksX0_isIdeal_0 2 rfl rfl)
theorem dX0_isIdeal_3 : decode cX0_isIdeal 3 = .ok (.invokestatic 5, 3) := dk_184 0 5 (dk_at dksX0_isIdeal_0 3 rfl rfl)
theorem dX0_isIdeal_6 : decode cX0_isIdeal 6 = .ok (.ireturn, 1) := dk_172 (dk_at dksX0_isIdeal_0 6 rfl rfl)
abbrev cX0_in : ByteArray := prog_1_method_1_code
def yX0_in : MethodName := ⟨RX0, "in", "(III)Z"⟩
def dkwX0_in_0 : List UInt8 := [26, 27, 161, 0, 12, 26, 28, 163, 0, 7, 4, 167, 0, 4, 3, 172]
abbrev dktX0_in_0 : List UInt8 := dkwX0_in_0 ++ []
theorem dksX0_in_0 : cX0_in.data.toList.drop 0 = dktX0_in_0 := by decide +kernel
theorem dX0_in_0 : decode cX0_in 0 = .ok (.iload_n 0, 1) := dk_26 (dk_at dksX0_in_0 0 rfl rfl)
theorem dX0_in_1 : decode cX0_in 1 = .ok (.iload_n 1, 1) := dk_27 (dk_at dksX0_in_0 1 rfl rfl)
theorem dX0_in_2 : decode cX0_in 2 = .ok (.if_icmp .lt 12, 3) := dk_161 0 12 (dk_at dksX0_in_0 2 rfl rfl)
theorem dX0_in_5 : decode cX0_in 5 = .ok (.iload_n 0, 1) := dk_26 (dk_at dksX0_in_0 5 rfl rfl)
theorem dX0_in_6 : decode cX0_in 6 = .ok (.iload_n 2, 1) := dk_28 (dk_at dksX0_in_0 6 rfl rfl)
theorem dX0_in_7 : decode cX0_in 7 = .ok (.if_icmp .gt 7, 3) := dk_163 0 7 (dk_at dksX0_in_0 7 rfl rfl)
theorem dX0_in_10 : decode cX0_in 10 = .ok (.iconst 1, 1) := dk_4 (dk_at dksX0_in_0 10 rfl rfl)
theorem dX0_in_11 : decode cX0_in 11 = .ok (.goto 4, 3) := dk_167 0 4 (dk_at dksX0_in_0 11 rfl rfl)
theorem dX0_in_14 : decode cX0_in 14 = .ok (.iconst 0, 1) := dk_3 (dk_at dksX0_in_0 14 rfl rfl)
theorem dX0_in_15 : decode cX0_in 15 = .ok (.ireturn, 1) := dk_172 (dk_at dksX0_in_0 15 rfl rfl)
abbrev cX0_isTerm : ByteArray := prog_1_method_3_code
def yX0_isTerm : MethodName := ⟨RX0, "isTerm", "(II)Z"⟩
def dkwX0_isTerm_1 : List UInt8 := [3, 172]
abbrev dktX0_isTerm_1 : List UInt8 := dkwX0_isTerm_1 ++ []
def dkwX0_isTerm_0 : List UInt8 := [26, 3, 16, 9, 184, 0, 5, 153, 0, 17, 27, 3, 16, 9, 184, 0, 5, 153, 0, 7, 4, 167, 0, 4]
abbrev dktX0_isTerm_0 : List UInt8 := dkwX0_isTerm_0 ++ dktX0_isTerm_1
theorem dksX0_isTerm_0 : cX0_isTerm.data.toList.drop 0 = dktX0_isTerm_0 := by decide +kernel
theorem dksX0_isTerm_1 : cX0_isTerm.data.toList.drop 24 = dktX0_isTerm_1 := dk_seg dksX0_isTerm_0 24 rfl rfl
theorem dX0_isTerm_0 : decode cX0_isTerm 0 = .ok (.iload_n 0, 1) := dk_26 (dk_at dksX0_isTerm_0 0 rfl rfl)
theorem dX0_isTerm_1 : decode cX0_isTerm 1 = .ok (.iconst 0, 1) := dk_3 (dk_at dksX0_isTerm_0 1 rfl rfl)
theorem dX0_isTerm_2 : decode cX0_isTerm 2 = .ok (.bipush 9, 2) := dk_16 9 (dk_at dksX0_isTerm_0 2 rfl rfl)
theorem dX0_isTerm_4 : decode cX0_isTerm 4 = .ok (.invokestatic 5, 3) := dk_184 0 5 (dk_at dksX0_isTerm_0 4 rfl rfl)
theorem dX0_isTerm_7 : decode cX0_isTerm 7 = .ok (.ifCond .eq 17, 3) := dk_153 0 17 (dk_at dksX0_isTerm_0 7 rfl rfl)
theorem dX0_isTerm_10 : decode cX0_isTerm 10 = .ok (.iload_n 1, 1) := dk_27 (dk_at dksX0_isTerm_0 10 rfl rfl)
theorem dX0_isTerm_11 : decode cX0_isTerm 11 = .ok (.iconst 0, 1) := dk_3 (dk_at dksX0_isTerm_0 11 rfl rfl)
theorem dX0_isTerm_12 : decode cX0_isTerm 12 = .ok (.bipush 9, 2) := dk_16 9 (dk_at dksX0_isTerm_0 12 rfl rfl)
theorem dX0_isTerm_14 : decode cX0_isTerm 14 = .ok (.invokestatic 5, 3) := dk_184 0 5 (dk_at dksX0_isTerm_0 14 rfl rfl)
theorem dX0_isTerm_17 : decode cX0_isTerm 17 = .ok (.ifCond .eq 7, 3) := dk_153 0 7 (dk_at dksX0_isTerm_0 17 rfl rfl)
theorem dX0_isTerm_20 : decode cX0_isTerm 20 = .ok (.iconst 1, 1) := dk_4 (dk_at dksX0_isTerm_0 20 rfl rfl)
theorem dX0_isTerm_21 : decode cX0_isTerm 21 = .ok (.goto 4, 3) := dk_167 0 4 (dk_at dksX0_isTerm_0 21 rfl rfl)
theorem dX0_isTerm_24 : decode cX0_isTerm 24 = .ok (.iconst 0, 1) := dk_3 (dk_at dksX0_isTerm_1 0 rfl rfl)
theorem dX0_isTerm_25 : decode cX0_isTerm 25 = .ok (.ireturn, 1) := dk_172 (dk_at dksX0_isTerm_1 1 rfl rfl)
abbrev cX0_drop : ByteArray := prog_1_method_10_code
def yX0_drop : MethodName := ⟨RX0, "drop", "(II)I"⟩
def dkwX0_drop_1 : List UInt8 := [182, 0, 114, 42, 180, 0, 22, 27, 50, 28, 182, 0, 125, 42, 180, 0, 22, 27, 50, 180, 0, 102, 172]
abbrev dktX0_drop_1 : List UInt8 := dkwX0_drop_1 ++ []
def dkwX0_drop_0 : List UInt8 := [42, 27, 28, 182, 0, 122, 154, 0, 5, 2, 172, 42, 180, 0, 40, 27, 42, 180, 0, 22, 27, 50]
abbrev dktX0_drop_0 : List UInt8 := dkwX0_drop_0 ++ dktX0_drop_1
theorem dksX0_drop_0 : cX0_drop.data.toList.drop 0 = dktX0_drop_0 := by decide +kernel
theorem dksX0_drop_1 : cX0_drop.data.toList.drop 22 = dktX0_drop_1 := dk_seg dksX0_drop_0 22 rfl rfl
theorem dX0_drop_0 : decode cX0_drop 0 = .ok (.aload_n 0, 1) := dk_42 (dk_at dksX0_drop_0 0 rfl rfl)
theorem dX0_drop_1 : decode cX0_drop 1 = .ok (.iload_n 1, 1) := dk_27 (dk_at dksX0_drop_0 1 rfl rfl)
theorem dX0_drop_2 : decode cX0_drop 2 = .ok (.iload_n 2, 1) := dk_28 (dk_at dksX0_drop_0 2 rfl rfl)
theorem dX0_drop_3 : decode cX0_drop 3 = .ok (.invokevirtual 122, 3) := dk_182 0 122 (dk_at dksX0_drop_0 3 rfl rfl)
theorem dX0_drop_6 : decode cX0_drop 6 = .ok (.ifCond .ne 5, 3) := dk_154 0 5 (dk_at dksX0_drop_0 6 rfl rfl)
theorem dX0_drop_9 : decode cX0_drop 9 = .ok (.iconst (-1), 1) := dk_2 (dk_at dksX0_drop_0 9 rfl rfl)
theorem dX0_drop_10 : decode cX0_drop 10 = .ok (.ireturn, 1) := dk_172 (dk_at dksX0_drop_0 10 rfl rfl)
theorem dX0_drop_11 : decode cX0_drop 11 = .ok (.aload_n 0, 1) := dk_42 (dk_at dksX0_drop_0 11 rfl rfl)
theorem dX0_drop_12 : decode cX0_drop 12 = .ok (.getfield 40, 3) := dk_180 0 40 (dk_at dksX0_drop_0 12 rfl rfl)
theorem dX0_drop_15 : decode cX0_drop 15 = .ok (.iload_n 1, 1) := dk_27 (dk_at dksX0_drop_0 15 rfl rfl)
theorem dX0_drop_16 : decode cX0_drop 16 = .ok (.aload_n 0, 1) := dk_42 (dk_at dksX0_drop_0 16 rfl rfl)
theorem dX0_drop_17 : decode cX0_drop 17 = .ok (.getfield 22, 3) := dk_180 0 22 (dk_at dksX0_drop_0 17 rfl rfl)
theorem dX0_drop_20 : decode cX0_drop 20 = .ok (.iload_n 1, 1) := dk_27 (dk_at dksX0_drop_0 20 rfl rfl)
theorem dX0_drop_21 : decode cX0_drop 21 = .ok (.aaload, 1) := dk_50 (dk_at dksX0_drop_0 21 rfl rfl)
theorem dX0_drop_22 : decode cX0_drop 22 = .ok (.invokevirtual 114, 3) := dk_182 0 114 (dk_at dksX0_drop_1 0 rfl rfl)
theorem dX0_drop_25 : decode cX0_drop 25 = .ok (.aload_n 0, 1) := dk_42 (dk_at dksX0_drop_1 3 rfl rfl)
theorem dX0_drop_26 : decode cX0_drop 26 = .ok (.getfield 22, 3) := dk_180 0 22 (dk_at dksX0_drop_1 4 rfl rfl)
theorem dX0_drop_29 : decode cX0_drop 29 = .ok (.iload_n 1, 1) := dk_27 (dk_at dksX0_drop_1 7 rfl rfl)
theorem dX0_drop_30 : decode cX0_drop 30 = .ok (.aaload, 1) := dk_50 (dk_at dksX0_drop_1 8 rfl rfl)
theorem dX0_drop_31 : decode cX0_drop 31 = .ok (.iload_n 2, 1) := dk_28 (dk_at dksX0_drop_1 9 rfl rfl)
theorem dX0_drop_32 : decode cX0_drop 32 = .ok (.invokevirtual 125, 3) := dk_182 0 125 (dk_at dksX0_drop_1 10 rfl rfl)
theorem dX0_drop_35 : decode cX0_drop 35 = .ok (.aload_n 0, 1) := dk_42 (dk_at dksX0_drop_1 13 rfl rfl)
theorem dX0_drop_36 : decode cX0_drop 36 = .ok (.getfield 22, 3) := dk_180 0 22 (dk_at dksX0_drop_1 14 rfl rfl)
theorem dX0_drop_39 : decode cX0_drop 39 = .ok (.iload_n 1, 1) := dk_27 (dk_at dksX0_drop_1 17 rfl rfl)
theorem dX0_drop_40 : decode cX0_drop 40 = .ok (.aaload, 1) := dk_50 (dk_at dksX0_drop_1 18 rfl rfl)
theorem dX0_drop_41 : decode cX0_drop 41 = .ok (.getfield 102, 3) := dk_180 0 102 (dk_at dksX0_drop_1 19 rfl rfl)
theorem dX0_drop_44 : decode cX0_drop 44 = .ok (.ireturn, 1) := dk_172 (dk_at dksX0_drop_1 22 rfl rfl)
abbrev cX0_isGenerator : ByteArray := prog_1_method_8_code
def yX0_isGenerator : MethodName := ⟨RX0, "isGenerator", "(II)Z"⟩
def dkwX0_isGenerator_1 : List UInt8 := [153, 0, 7, 4, 167, 0, 4, 3, 172]
abbrev dktX0_isGenerator_1 : List UInt8 := dkwX0_isGenerator_1 ++ []
def dkwX0_isGenerator_0 : List UInt8 := [27, 184, 0, 98, 153, 0, 26, 28, 3, 42, 180, 0, 22, 27, 50, 180, 0, 102, 4, 100, 184, 0, 5]
abbrev dktX0_isGenerator_0 : List UInt8 := dkwX0_isGenerator_0 ++ dktX0_isGenerator_1
theorem dksX0_isGenerator_0 : cX0_isGenerator.data.toList.drop 0 = dktX0_isGenerator_0 := by decide +kernel
theorem dksX0_isGenerator_1 : cX0_isGenerator.data.toList.drop 23 = dktX0_isGenerator_1 := dk_seg dksX0_isGenerator_0 23 rfl rfl
theorem dX0_isGenerator_0 : decode cX0_isGenerator 0 = .ok (.iload_n 1, 1) := dk_27 (dk_at dksX0_isGenerator_0 0 rfl rfl)
theorem dX0_isGenerator_1 : decode cX0_isGenerator 1 = .ok (.invokestatic 98, 3) := dk_184 0 98 (dk_at dksX0_isGenerator_0 1 rfl rfl)
theorem dX0_isGenerator_4 : decode cX0_isGenerator 4 = .ok (.ifCond .eq 26, 3) := dk_153 0 26 (dk_at dksX0_isGenerator_0 4 rfl rfl)
theorem dX0_isGenerator_7 : decode cX0_isGenerator 7 = .ok (.iload_n 2, 1) := dk_28 (dk_at dksX0_isGenerator_0 7 rfl rfl)
theorem dX0_isGenerator_8 : decode cX0_isGenerator 8 = .ok (.iconst 0, 1) := dk_3 (dk_at dksX0_isGenerator_0 8 rfl rfl)
theorem dX0_isGenerator_9 : decode cX0_isGenerator 9 = .ok (.aload_n 0, 1) := dk_42 (dk_at dksX0_isGenerator_0 9 rfl rfl)
theorem dX0_isGenerator_10 : decode cX0_isGenerator 10 = .ok (.getfield 22, 3) := dk_180 0 22 (dk_at dksX0_isGenerator_0 10 rfl rfl)
theorem dX0_isGenerator_13 : decode cX0_isGenerator 13 = .ok (.iload_n 1, 1) := dk_27 (dk_at dksX0_isGenerator_0 13 rfl rfl)
theorem dX0_isGenerator_14 : decode cX0_isGenerator 14 = .ok (.aaload, 1) := dk_50 (dk_at dksX0_isGenerator_0 14 rfl rfl)
theorem dX0_isGenerator_15 : decode cX0_isGenerator 15 = .ok (.getfield 102, 3) := dk_180 0 102 (dk_at dksX0_isGenerator_0 15 rfl rfl)
theorem dX0_isGenerator_18 : decode cX0_isGenerator 18 = .ok (.iconst 1, 1) := dk_4 (dk_at dksX0_isGenerator_0 18 rfl rfl)
theorem dX0_isGenerator_19 : decode cX0_isGenerator 19 = .ok (.isub, 1) := dk_100 (dk_at dksX0_isGenerator_0 19 rfl rfl)
theorem dX0_isGenerator_20 : decode cX0_isGenerator 20 = .ok (.invokestatic 5, 3) := dk_184 0 5 (dk_at dksX0_isGenerator_0 20 rfl rfl)
theorem dX0_isGenerator_23 : decode cX0_isGenerator 23 = .ok (.ifCond .eq 7, 3) := dk_153 0 7 (dk_at dksX0_isGenerator_1 0 rfl rfl)
theorem dX0_isGenerator_26 : decode cX0_isGenerator 26 = .ok (.iconst 1, 1) := dk_4 (dk_at dksX0_isGenerator_1 3 rfl rfl)
theorem dX0_isGenerator_27 : decode cX0_isGenerator 27 = .ok (.goto 4, 3) := dk_167 0 4 (dk_at dksX0_isGenerator_1 4 rfl rfl)
theorem dX0_isGenerator_30 : decode cX0_isGenerator 30 = .ok (.iconst 0, 1) := dk_3 (dk_at dksX0_isGenerator_1 7 rfl rfl)
theorem dX0_isGenerator_31 : decode cX0_isGenerator 31 = .ok (.ireturn, 1) := dk_172 (dk_at dksX0_isGenerator_1 8 rfl rfl)
abbrev cX0_clear : ByteArray := prog_1_method_11_code
def yX0_clear : MethodName := ⟨RX0, "clear", "(I)I"⟩
def dkwX0_clear_2 : List UInt8 := [181, 0, 102, 28, 172]
abbrev dktX0_clear_2 : List UInt8 := dkwX0_clear_2 ++ []
def dkwX0_clear_1 : List UInt8 := [16, 253, 172, 42, 180, 0, 40, 27, 42, 180, 0, 22, 27, 50, 182, 0, 114, 42, 180, 0, 22, 27, 50, 3]
abbrev dktX0_clear_1 : List UInt8 := dkwX0_clear_1 ++ dktX0_clear_2
def dkwX0_clear_0 : List UInt8 := [27, 184, 0, 98, 154, 0, 5, 2, 172, 42, 180, 0, 22, 27, 50, 180, 0, 102, 61, 28, 154, 0, 6]
abbrev dktX0_clear_0 : List UInt8 := dkwX0_clear_0 ++ dktX0_clear_1
theorem dksX0_clear_0 : cX0_clear.data.toList.drop 0 = dktX0_clear_0 := by decide +kernel
theorem dksX0_clear_1 : cX0_clear.data.toList.drop 23 = dktX0_clear_1 := dk_seg dksX0_clear_0 23 rfl rfl
theorem dksX0_clear_2 : cX0_clear.data.toList.drop 47 = dktX0_clear_2 := dk_seg dksX0_clear_1 24 rfl rfl
theorem dX0_clear_0 : decode cX0_clear 0 = .ok (.iload_n 1, 1) := dk_27 (dk_at dksX0_clear_0 0 rfl rfl)
theorem dX0_clear_1 : decode cX0_clear 1 = .ok (.invokestatic 98, 3) := dk_184 0 98 (dk_at dksX0_clear_0 1 rfl rfl)
theorem dX0_clear_4 : decode cX0_clear 4 = .ok (.ifCond .ne 5, 3) := dk_154 0 5 (dk_at dksX0_clear_0 4 rfl rfl)
theorem dX0_clear_7 : decode cX0_clear 7 = .ok (.iconst (-1), 1) := dk_2 (dk_at dksX0_clear_0 7 rfl rfl)
theorem dX0_clear_8 : decode cX0_clear 8 = .ok (.ireturn, 1) := dk_172 (dk_at dksX0_clear_0 8 rfl rfl)
theorem dX0_clear_9 : decode cX0_clear 9 = .ok (.aload_n 0, 1) := dk_42 (dk_at dksX0_clear_0 9 rfl rfl)
theorem dX0_clear_10 : decode cX0_clear 10 = .ok (.getfield 22, 3) := dk_180 0 22 (dk_at dksX0_clear_0 10 rfl rfl)
theorem dX0_clear_13 : decode cX0_clear 13 = .ok (.iload_n 1, 1) := dk_27 (dk_at dksX0_clear_0 13 rfl rfl)
theorem dX0_clear_14 : decode cX0_clear 14 = .ok (.aaload, 1) := dk_50 (dk_at dksX0_clear_0 14 rfl rfl)
theorem dX0_clear_15 : decode cX0_clear 15 = .ok (.getfield 102, 3) := dk_180 0 102 (dk_at dksX0_clear_0 15 rfl rfl)
theorem dX0_clear_18 : decode cX0_clear 18 = .ok (.istore_n 2, 1) := dk_61 (dk_at dksX0_clear_0 18 rfl rfl)
theorem dX0_clear_19 : decode cX0_clear 19 = .ok (.iload_n 2, 1) := dk_28 (dk_at dksX0_clear_0 19 rfl rfl)
theorem dX0_clear_20 : decode cX0_clear 20 = .ok (.ifCond .ne 6, 3) := dk_154 0 6 (dk_at dksX0_clear_0 20 rfl rfl)
theorem dX0_clear_23 : decode cX0_clear 23 = .ok (.bipush (-3), 2) := dk_16 253 (dk_at dksX0_clear_1 0 rfl rfl)
theorem dX0_clear_25 : decode cX0_clear 25 = .ok (.ireturn, 1) := dk_172 (dk_at dksX0_clear_1 2 rfl rfl)
theorem dX0_clear_26 : decode cX0_clear 26 = .ok (.aload_n 0, 1) := dk_42 (dk_at dksX0_clear_1 3 rfl rfl)
theorem dX0_clear_27 : decode cX0_clear 27 = .ok (.getfield 40, 3) := dk_180 0 40 (dk_at dksX0_clear_1 4 rfl rfl)
theorem dX0_clear_30 : decode cX0_clear 30 = .ok (.iload_n 1, 1) := dk_27 (dk_at dksX0_clear_1 7 rfl rfl)
theorem dX0_clear_31 : decode cX0_clear 31 = .ok (.aload_n 0, 1) := dk_42 (dk_at dksX0_clear_1 8 rfl rfl)
theorem dX0_clear_32 : decode cX0_clear 32 = .ok (.getfield 22, 3) := dk_180 0 22 (dk_at dksX0_clear_1 9 rfl rfl)
theorem dX0_clear_35 : decode cX0_clear 35 = .ok (.iload_n 1, 1) := dk_27 (dk_at dksX0_clear_1 12 rfl rfl)
theorem dX0_clear_36 : decode cX0_clear 36 = .ok (.aaload, 1) := dk_50 (dk_at dksX0_clear_1 13 rfl rfl)
theorem dX0_clear_37 : decode cX0_clear 37 = .ok (.invokevirtual 114, 3) := dk_182 0 114 (dk_at dksX0_clear_1 14 rfl rfl)
theorem dX0_clear_40 : decode cX0_clear 40 = .ok (.aload_n 0, 1) := dk_42 (dk_at dksX0_clear_1 17 rfl rfl)
theorem dX0_clear_41 : decode cX0_clear 41 = .ok (.getfield 22, 3) := dk_180 0 22 (dk_at dksX0_clear_1 18 rfl rfl)
theorem dX0_clear_44 : decode cX0_clear 44 = .ok (.iload_n 1, 1) := dk_27 (dk_at dksX0_clear_1 21 rfl rfl)
theorem dX0_clear_45 : decode cX0_clear 45 = .ok (.aaload, 1) := dk_50 (dk_at dksX0_clear_1 22 rfl rfl)
theorem dX0_clear_46 : decode cX0_clear 46 = .ok (.iconst 0, 1) := dk_3 (dk_at dksX0_clear_1 23 rfl rfl)
theorem dX0_clear_47 : decode cX0_clear 47 = .ok (.putfield 102, 3) := dk_181 0 102 (dk_at dksX0_clear_2 0 rfl rfl)
theorem dX0_clear_50 : decode cX0_clear 50 = .ok (.iload_n 2, 1) := dk_28 (dk_at dksX0_clear_2 3 rfl rfl)
theorem dX0_clear_51 : decode cX0_clear 51 = .ok (.ireturn, 1) := dk_172 (dk_at dksX0_clear_2 4 rfl rfl)
abbrev cX0_merge : ByteArray := prog_1_method_13_code
def yX0_merge : MethodName := ⟨RX0, "merge", "(I)I"⟩
def dkwX0_merge_4 : List UInt8 := [44, 180, 0, 136, 29, 46, 182, 0, 118, 132, 3, 1, 167, 255, 184, 42, 27, 182, 0, 139, 172]
abbrev dktX0_merge_4 : List UInt8 := dkwX0_merge_4 ++ []
def dkwX0_merge_3 : List UInt8 := [180, 0, 26, 180, 0, 102, 16, 6, 160, 0, 6, 16, 252, 172, 42, 180, 0, 26, 44, 180, 0, 132, 29, 46]
abbrev dktX0_merge_3 : List UInt8 := dkwX0_merge_3 ++ dktX0_merge_4
def dkwX0_merge_2 : List UInt8 := [180, 0, 132, 29, 46, 44, 180, 0, 136, 29, 46, 182, 0, 110, 16, 251, 159, 0, 6, 167, 0, 37, 42]
abbrev dktX0_merge_2 : List UInt8 := dkwX0_merge_2 ++ dktX0_merge_3
def dkwX0_merge_1 : List UInt8 := [180, 0, 22, 27, 50, 182, 0, 128, 3, 62, 29, 44, 180, 0, 102, 162, 0, 70, 42, 180, 0, 26, 44]
abbrev dktX0_merge_1 : List UInt8 := dkwX0_merge_1 ++ dktX0_merge_2
def dkwX0_merge_0 : List UInt8 := [27, 184, 0, 98, 154, 0, 5, 2, 172, 42, 180, 0, 22, 4, 27, 100, 50, 77, 42, 180, 0, 26, 42]
abbrev dktX0_merge_0 : List UInt8 := dkwX0_merge_0 ++ dktX0_merge_1
theorem dksX0_merge_0 : cX0_merge.data.toList.drop 0 = dktX0_merge_0 := by decide +kernel
theorem dksX0_merge_1 : cX0_merge.data.toList.drop 23 = dktX0_merge_1 := dk_seg dksX0_merge_0 23 rfl rfl
theorem dksX0_merge_2 : cX0_merge.data.toList.drop 46 = dktX0_merge_2 := dk_seg dksX0_merge_1 23 rfl rfl
theorem dksX0_merge_3 : cX0_merge.data.toList.drop 69 = dktX0_merge_3 := dk_seg dksX0_merge_2 23 rfl rfl
theorem dksX0_merge_4 : cX0_merge.data.toList.drop 93 = dktX0_merge_4 := dk_seg dksX0_merge_3 24 rfl rfl
theorem dX0_merge_0 : decode cX0_merge 0 = .ok (.iload_n 1, 1) := dk_27 (dk_at dksX0_merge_0 0 rfl rfl)
theorem dX0_merge_1 : decode cX0_merge 1 = .ok (.invokestatic 98, 3) := dk_184 0 98 (dk_at dksX0_merge_0 1 rfl rfl)
theorem dX0_merge_4 : decode cX0_merge 4 = .ok (.ifCond .ne 5, 3) := dk_154 0 5 (dk_at dksX0_merge_0 4 rfl rfl)
theorem dX0_merge_7 : decode cX0_merge 7 = .ok (.iconst (-1), 1) := dk_2 (dk_at dksX0_merge_0 7 rfl rfl)
theorem dX0_merge_8 : decode cX0_merge 8 = .ok (.ireturn, 1) := dk_172 (dk_at dksX0_merge_0 8 rfl rfl)
theorem dX0_merge_9 : decode cX0_merge 9 = .ok (.aload_n 0, 1) := dk_42 (dk_at dksX0_merge_0 9 rfl rfl)
theorem dX0_merge_10 : decode cX0_merge 10 = .ok (.getfield 22, 3) := dk_180 0 22 (dk_at dksX0_merge_0 10 rfl rfl)
theorem dX0_merge_13 : decode cX0_merge 13 = .ok (.iconst 1, 1) := dk_4 (dk_at dksX0_merge_0 13 rfl rfl)
theorem dX0_merge_14 : decode cX0_merge 14 = .ok (.iload_n 1, 1) := dk_27 (dk_at dksX0_merge_0 14 rfl rfl)
theorem dX0_merge_15 : decode cX0_merge 15 = .ok (.isub, 1) := dk_100 (dk_at dksX0_merge_0 15 rfl rfl)
theorem dX0_merge_16 : decode cX0_merge 16 = .ok (.aaload, 1) := dk_50 (dk_at dksX0_merge_0 16 rfl rfl)
theorem dX0_merge_17 : decode cX0_merge 17 = .ok (.astore_n 2, 1) := dk_77 (dk_at dksX0_merge_0 17 rfl rfl)
theorem dX0_merge_18 : decode cX0_merge 18 = .ok (.aload_n 0, 1) := dk_42 (dk_at dksX0_merge_0 18 rfl rfl)
theorem dX0_merge_19 : decode cX0_merge 19 = .ok (.getfield 26, 3) := dk_180 0 26 (dk_at dksX0_merge_0 19 rfl rfl)
theorem dX0_merge_22 : decode cX0_merge 22 = .ok (.aload_n 0, 1) := dk_42 (dk_at dksX0_merge_0 22 rfl rfl)
theorem dX0_merge_23 : decode cX0_merge 23 = .ok (.getfield 22, 3) := dk_180 0 22 (dk_at dksX0_merge_1 0 rfl rfl)
theorem dX0_merge_26 : decode cX0_merge 26 = .ok (.iload_n 1, 1) := dk_27 (dk_at dksX0_merge_1 3 rfl rfl)
theorem dX0_merge_27 : decode cX0_merge 27 = .ok (.aaload, 1) := dk_50 (dk_at dksX0_merge_1 4 rfl rfl)
theorem dX0_merge_28 : decode cX0_merge 28 = .ok (.invokevirtual 128, 3) := dk_182 0 128 (dk_at dksX0_merge_1 5 rfl rfl)
theorem dX0_merge_31 : decode cX0_merge 31 = .ok (.iconst 0, 1) := dk_3 (dk_at dksX0_merge_1 8 rfl rfl)
theorem dX0_merge_32 : decode cX0_merge 32 = .ok (.istore_n 3, 1) := dk_62 (dk_at dksX0_merge_1 9 rfl rfl)
theorem dX0_merge_33 : decode cX0_merge 33 = .ok (.iload_n 3, 1) := dk_29 (dk_at dksX0_merge_1 10 rfl rfl)
theorem dX0_merge_34 : decode cX0_merge 34 = .ok (.aload_n 2, 1) := dk_44 (dk_at dksX0_merge_1 11 rfl rfl)
theorem dX0_merge_35 : decode cX0_merge 35 = .ok (.getfield 102, 3) := dk_180 0 102 (dk_at dksX0_merge_1 12 rfl rfl)
theorem dX0_merge_38 : decode cX0_merge 38 = .ok (.if_icmp .ge 70, 3) := dk_162 0 70 (dk_at dksX0_merge_1 15 rfl rfl)
theorem dX0_merge_41 : decode cX0_merge 41 = .ok (.aload_n 0, 1) := dk_42 (dk_at dksX0_merge_1 18 rfl rfl)
theorem dX0_merge_42 : decode cX0_merge 42 = .ok (.getfield 26, 3) := dk_180 0 26 (dk_at dksX0_merge_1 19 rfl rfl)
theorem dX0_merge_45 : decode cX0_merge 45 = .ok (.aload_n 2, 1) := dk_44 (dk_at dksX0_merge_1 22 rfl rfl)
theorem dX0_merge_46 : decode cX0_merge 46 = .ok (.getfield 132, 3) := dk_180 0 132 (dk_at dksX0_merge_2 0 rfl rfl)
theorem dX0_merge_49 : decode cX0_merge 49 = .ok (.iload_n 3, 1) := dk_29 (dk_at dksX0_merge_2 3 rfl rfl)
theorem dX0_merge_50 : decode cX0_merge 50 = .ok (.iaload, 1) := dk_46 (dk_at dksX0_merge_2 4 rfl rfl)
theorem dX0_merge_51 : decode cX0_merge 51 = .ok (.aload_n 2, 1) := dk_44 (dk_at dksX0_merge_2 5 rfl rfl)
theorem dX0_merge_52 : decode cX0_merge 52 = .ok (.getfield 136, 3) := dk_180 0 136 (dk_at dksX0_merge_2 6 rfl rfl)
theorem dX0_merge_55 : decode cX0_merge 55 = .ok (.iload_n 3, 1) := dk_29 (dk_at dksX0_merge_2 9 rfl rfl)
theorem dX0_merge_56 : decode cX0_merge 56 = .ok (.iaload, 1) := dk_46 (dk_at dksX0_merge_2 10 rfl rfl)
theorem dX0_merge_57 : decode cX0_merge 57 = .ok (.invokevirtual 110, 3) := dk_182 0 110 (dk_at dksX0_merge_2 11 rfl rfl)
theorem dX0_merge_60 : decode cX0_merge 60 = .ok (.bipush (-5), 2) := dk_16 251 (dk_at dksX0_merge_2 14 rfl rfl)
theorem dX0_merge_62 : decode cX0_merge 62 = .ok (.if_icmp .eq 6, 3) := dk_159 0 6 (dk_at dksX0_merge_2 16 rfl rfl)
theorem dX0_merge_65 : decode cX0_merge 65 = .ok (.goto 37, 3) := dk_167 0 37 (dk_at dksX0_merge_2 19 rfl rfl)
theorem dX0_merge_68 : decode cX0_merge 68 = .ok (.aload_n 0, 1) := dk_42 (dk_at dksX0_merge_2 22 rfl rfl)
theorem dX0_merge_69 : decode cX0_merge 69 = .ok (.getfield 26, 3) := dk_180 0 26 (dk_at dksX0_merge_3 0 rfl rfl)
theorem dX0_merge_72 : decode cX0_merge 72 = .ok (.getfield 102, 3) := dk_180 0 102 (dk_at dksX0_merge_3 3 rfl rfl)
theorem dX0_merge_75 : decode cX0_merge 75 = .ok (.bipush 6, 2) := dk_16 6 (dk_at dksX0_merge_3 6 rfl rfl)
theorem dX0_merge_77 : decode cX0_merge 77 = .ok (.if_icmp .ne 6, 3) := dk_160 0 6 (dk_at dksX0_merge_3 8 rfl rfl)
theorem dX0_merge_80 : decode cX0_merge 80 = .ok (.bipush (-4), 2) := dk_16 252 (dk_at dksX0_merge_3 11 rfl rfl)
theorem dX0_merge_82 : decode cX0_merge 82 = .ok (.ireturn, 1) := dk_172 (dk_at dksX0_merge_3 13 rfl rfl)
theorem dX0_merge_83 : decode cX0_merge 83 = .ok (.aload_n 0, 1) := dk_42 (dk_at dksX0_merge_3 14 rfl rfl)
theorem dX0_merge_84 : decode cX0_merge 84 = .ok (.getfield 26, 3) := dk_180 0 26 (dk_at dksX0_merge_3 15 rfl rfl)
theorem dX0_merge_87 : decode cX0_merge 87 = .ok (.aload_n 2, 1) := dk_44 (dk_at dksX0_merge_3 18 rfl rfl)
theorem dX0_merge_88 : decode cX0_merge 88 = .ok (.getfield 132, 3) := dk_180 0 132 (dk_at dksX0_merge_3 19 rfl rfl)
theorem dX0_merge_91 : decode cX0_merge 91 = .ok (.iload_n 3, 1) := dk_29 (dk_at dksX0_merge_3 22 rfl rfl)
theorem dX0_merge_92 : decode cX0_merge 92 = .ok (.iaload, 1) := dk_46 (dk_at dksX0_merge_3 23 rfl rfl)
theorem dX0_merge_93 : decode cX0_merge 93 = .ok (.aload_n 2, 1) := dk_44 (dk_at dksX0_merge_4 0 rfl rfl)
theorem dX0_merge_94 : decode cX0_merge 94 = .ok (.getfield 136, 3) := dk_180 0 136 (dk_at dksX0_merge_4 1 rfl rfl)
theorem dX0_merge_97 : decode cX0_merge 97 = .ok (.iload_n 3, 1) := dk_29 (dk_at dksX0_merge_4 4 rfl rfl)
theorem dX0_merge_98 : decode cX0_merge 98 = .ok (.iaload, 1) := dk_46 (dk_at dksX0_merge_4 5 rfl rfl)
theorem dX0_merge_99 : decode cX0_merge 99 = .ok (.invokevirtual 118, 3) := dk_182 0 118 (dk_at dksX0_merge_4 6 rfl rfl)
theorem dX0_merge_102 : decode cX0_merge 102 = .ok (.iinc 3 1, 3) := dk_132 3 1 (dk_at dksX0_merge_4 9 rfl rfl)
theorem dX0_merge_105 : decode cX0_merge 105 = .ok (.goto (-72), 3) := dk_167 255 184 (dk_at dksX0_merge_4 12 rfl rfl)
theorem dX0_merge_108 : decode cX0_merge 108 = .ok (.aload_n 0, 1) := dk_42 (dk_at dksX0_merge_4 15 rfl rfl)
theorem dX0_merge_109 : decode cX0_merge 109 = .ok (.iload_n 1, 1) := dk_27 (dk_at dksX0_merge_4 16 rfl rfl)
theorem dX0_merge_110 : decode cX0_merge 110 = .ok (.invokevirtual 139, 3) := dk_182 0 139 (dk_at dksX0_merge_4 17 rfl rfl)
theorem dX0_merge_113 : decode cX0_merge 113 = .ok (.ireturn, 1) := dk_172 (dk_at dksX0_merge_4 20 rfl rfl)
abbrev cX0_becomes : ByteArray := prog_1_method_12_code
def yX0_becomes : MethodName := ⟨RX0, "becomes", "(I)I"⟩
def dkwX0_becomes_1 : List UInt8 := [182, 0, 128, 42, 180, 0, 26, 180, 0, 102, 172]
abbrev dktX0_becomes_1 : List UInt8 := dkwX0_becomes_1 ++ []
def dkwX0_becomes_0 : List UInt8 := [42, 180, 0, 40, 27, 42, 180, 0, 22, 27, 50, 182, 0, 114, 42, 180, 0, 22, 27, 50, 42, 180, 0, 26]
abbrev dktX0_becomes_0 : List UInt8 := dkwX0_becomes_0 ++ dktX0_becomes_1
theorem dksX0_becomes_0 : cX0_becomes.data.toList.drop 0 = dktX0_becomes_0 := by decide +kernel
theorem dksX0_becomes_1 : cX0_becomes.data.toList.drop 24 = dktX0_becomes_1 := dk_seg dksX0_becomes_0 24 rfl rfl
theorem dX0_becomes_0 : decode cX0_becomes 0 = .ok (.aload_n 0, 1) := dk_42 (dk_at dksX0_becomes_0 0 rfl rfl)
theorem dX0_becomes_1 : decode cX0_becomes 1 = .ok (.getfield 40, 3) := dk_180 0 40 (dk_at dksX0_becomes_0 1 rfl rfl)
theorem dX0_becomes_4 : decode cX0_becomes 4 = .ok (.iload_n 1, 1) := dk_27 (dk_at dksX0_becomes_0 4 rfl rfl)
theorem dX0_becomes_5 : decode cX0_becomes 5 = .ok (.aload_n 0, 1) := dk_42 (dk_at dksX0_becomes_0 5 rfl rfl)
theorem dX0_becomes_6 : decode cX0_becomes 6 = .ok (.getfield 22, 3) := dk_180 0 22 (dk_at dksX0_becomes_0 6 rfl rfl)
theorem dX0_becomes_9 : decode cX0_becomes 9 = .ok (.iload_n 1, 1) := dk_27 (dk_at dksX0_becomes_0 9 rfl rfl)
theorem dX0_becomes_10 : decode cX0_becomes 10 = .ok (.aaload, 1) := dk_50 (dk_at dksX0_becomes_0 10 rfl rfl)
theorem dX0_becomes_11 : decode cX0_becomes 11 = .ok (.invokevirtual 114, 3) := dk_182 0 114 (dk_at dksX0_becomes_0 11 rfl rfl)
theorem dX0_becomes_14 : decode cX0_becomes 14 = .ok (.aload_n 0, 1) := dk_42 (dk_at dksX0_becomes_0 14 rfl rfl)
theorem dX0_becomes_15 : decode cX0_becomes 15 = .ok (.getfield 22, 3) := dk_180 0 22 (dk_at dksX0_becomes_0 15 rfl rfl)
theorem dX0_becomes_18 : decode cX0_becomes 18 = .ok (.iload_n 1, 1) := dk_27 (dk_at dksX0_becomes_0 18 rfl rfl)
theorem dX0_becomes_19 : decode cX0_becomes 19 = .ok (.aaload, 1) := dk_50 (dk_at dksX0_becomes_0 19 rfl rfl)
theorem dX0_becomes_20 : decode cX0_becomes 20 = .ok (.aload_n 0, 1) := dk_42 (dk_at dksX0_becomes_0 20 rfl rfl)
theorem dX0_becomes_21 : decode cX0_becomes 21 = .ok (.getfield 26, 3) := dk_180 0 26 (dk_at dksX0_becomes_0 21 rfl rfl)
theorem dX0_becomes_24 : decode cX0_becomes 24 = .ok (.invokevirtual 128, 3) := dk_182 0 128 (dk_at dksX0_becomes_1 0 rfl rfl)
theorem dX0_becomes_27 : decode cX0_becomes 27 = .ok (.aload_n 0, 1) := dk_42 (dk_at dksX0_becomes_1 3 rfl rfl)
theorem dX0_becomes_28 : decode cX0_becomes 28 = .ok (.getfield 26, 3) := dk_180 0 26 (dk_at dksX0_becomes_1 4 rfl rfl)
theorem dX0_becomes_31 : decode cX0_becomes 31 = .ok (.getfield 102, 3) := dk_180 0 102 (dk_at dksX0_becomes_1 7 rfl rfl)
theorem dX0_becomes_34 : decode cX0_becomes 34 = .ok (.ireturn, 1) := dk_172 (dk_at dksX0_becomes_1 10 rfl rfl)
abbrev cX0_close : ByteArray := prog_1_method_15_code
def yX0_close : MethodName := ⟨RX0, "close", "(I)I"⟩
def dkwX0_close_4 : List UInt8 := [132, 2, 1, 167, 255, 199, 42, 27, 182, 0, 139, 172]
abbrev dktX0_close_4 : List UInt8 := dkwX0_close_4 ++ []
def dkwX0_close_3 : List UInt8 := [16, 6, 160, 0, 6, 16, 252, 172, 42, 180, 0, 26, 28, 16, 10, 108, 28, 16, 10, 112, 182, 0, 118]
abbrev dktX0_close_3 : List UInt8 := dkwX0_close_3 ++ dktX0_close_4
def dkwX0_close_2 : List UInt8 := [28, 16, 10, 108, 28, 16, 10, 112, 182, 0, 152, 154, 0, 6, 167, 0, 33, 42, 180, 0, 26, 180, 0, 102]
abbrev dktX0_close_2 : List UInt8 := dkwX0_close_2 ++ dktX0_close_3
def dkwX0_close_1 : List UInt8 := [167, 0, 7, 77, 16, 253, 172, 42, 180, 0, 26, 3, 181, 0, 102, 3, 61, 28, 16, 100, 162, 0, 57, 42]
abbrev dktX0_close_1 : List UInt8 := dkwX0_close_1 ++ dktX0_close_2
def dkwX0_close_0 : List UInt8 := [27, 184, 0, 98, 154, 0, 5, 2, 172, 42, 180, 0, 33, 42, 180, 0, 22, 27, 50, 182, 0, 146, 87]
abbrev dktX0_close_0 : List UInt8 := dkwX0_close_0 ++ dktX0_close_1
theorem dksX0_close_0 : cX0_close.data.toList.drop 0 = dktX0_close_0 := by decide +kernel
theorem dksX0_close_1 : cX0_close.data.toList.drop 23 = dktX0_close_1 := dk_seg dksX0_close_0 23 rfl rfl
theorem dksX0_close_2 : cX0_close.data.toList.drop 47 = dktX0_close_2 := dk_seg dksX0_close_1 24 rfl rfl
theorem dksX0_close_3 : cX0_close.data.toList.drop 71 = dktX0_close_3 := dk_seg dksX0_close_2 24 rfl rfl
theorem dksX0_close_4 : cX0_close.data.toList.drop 94 = dktX0_close_4 := dk_seg dksX0_close_3 23 rfl rfl
theorem dX0_close_0 : decode cX0_close 0 = .ok (.iload_n 1, 1) := dk_27 (dk_at dksX0_close_0 0 rfl rfl)
theorem dX0_close_1 : decode cX0_close 1 = .ok (.invokestatic 98, 3) := dk_184 0 98 (dk_at dksX0_close_0 1 rfl rfl)
theorem dX0_close_4 : decode cX0_close 4 = .ok (.ifCond .ne 5, 3) := dk_154 0 5 (dk_at dksX0_close_0 4 rfl rfl)
theorem dX0_close_7 : decode cX0_close 7 = .ok (.iconst (-1), 1) := dk_2 (dk_at dksX0_close_0 7 rfl rfl)
theorem dX0_close_8 : decode cX0_close 8 = .ok (.ireturn, 1) := dk_172 (dk_at dksX0_close_0 8 rfl rfl)
theorem dX0_close_9 : decode cX0_close 9 = .ok (.aload_n 0, 1) := dk_42 (dk_at dksX0_close_0 9 rfl rfl)
theorem dX0_close_10 : decode cX0_close 10 = .ok (.getfield 33, 3) := dk_180 0 33 (dk_at dksX0_close_0 10 rfl rfl)
theorem dX0_close_13 : decode cX0_close 13 = .ok (.aload_n 0, 1) := dk_42 (dk_at dksX0_close_0 13 rfl rfl)
theorem dX0_close_14 : decode cX0_close 14 = .ok (.getfield 22, 3) := dk_180 0 22 (dk_at dksX0_close_0 14 rfl rfl)
theorem dX0_close_17 : decode cX0_close 17 = .ok (.iload_n 1, 1) := dk_27 (dk_at dksX0_close_0 17 rfl rfl)
theorem dX0_close_18 : decode cX0_close 18 = .ok (.aaload, 1) := dk_50 (dk_at dksX0_close_0 18 rfl rfl)
theorem dX0_close_19 : decode cX0_close 19 = .ok (.invokevirtual 146, 3) := dk_182 0 146 (dk_at dksX0_close_0 19 rfl rfl)
theorem dX0_close_22 : decode cX0_close 22 = .ok (.pop, 1) := dk_87 (dk_at dksX0_close_0 22 rfl rfl)
theorem dX0_close_23 : decode cX0_close 23 = .ok (.goto 7, 3) := dk_167 0 7 (dk_at dksX0_close_1 0 rfl rfl)
theorem dX0_close_26 : decode cX0_close 26 = .ok (.astore_n 2, 1) := dk_77 (dk_at dksX0_close_1 3 rfl rfl)
theorem dX0_close_27 : decode cX0_close 27 = .ok (.bipush (-3), 2) := dk_16 253 (dk_at dksX0_close_1 4 rfl rfl)
theorem dX0_close_29 : decode cX0_close 29 = .ok (.ireturn, 1) := dk_172 (dk_at dksX0_close_1 6 rfl rfl)
theorem dX0_close_30 : decode cX0_close 30 = .ok (.aload_n 0, 1) := dk_42 (dk_at dksX0_close_1 7 rfl rfl)
theorem dX0_close_31 : decode cX0_close 31 = .ok (.getfield 26, 3) := dk_180 0 26 (dk_at dksX0_close_1 8 rfl rfl)
theorem dX0_close_34 : decode cX0_close 34 = .ok (.iconst 0, 1) := dk_3 (dk_at dksX0_close_1 11 rfl rfl)
theorem dX0_close_35 : decode cX0_close 35 = .ok (.putfield 102, 3) := dk_181 0 102 (dk_at dksX0_close_1 12 rfl rfl)
theorem dX0_close_38 : decode cX0_close 38 = .ok (.iconst 0, 1) := dk_3 (dk_at dksX0_close_1 15 rfl rfl)
theorem dX0_close_39 : decode cX0_close 39 = .ok (.istore_n 2, 1) := dk_61 (dk_at dksX0_close_1 16 rfl rfl)
theorem dX0_close_40 : decode cX0_close 40 = .ok (.iload_n 2, 1) := dk_28 (dk_at dksX0_close_1 17 rfl rfl)
theorem dX0_close_41 : decode cX0_close 41 = .ok (.bipush 100, 2) := dk_16 100 (dk_at dksX0_close_1 18 rfl rfl)
theorem dX0_close_43 : decode cX0_close 43 = .ok (.if_icmp .ge 57, 3) := dk_162 0 57 (dk_at dksX0_close_1 20 rfl rfl)
theorem dX0_close_46 : decode cX0_close 46 = .ok (.aload_n 0, 1) := dk_42 (dk_at dksX0_close_1 23 rfl rfl)
theorem dX0_close_47 : decode cX0_close 47 = .ok (.iload_n 2, 1) := dk_28 (dk_at dksX0_close_2 0 rfl rfl)
theorem dX0_close_48 : decode cX0_close 48 = .ok (.bipush 10, 2) := dk_16 10 (dk_at dksX0_close_2 1 rfl rfl)
theorem dX0_close_50 : decode cX0_close 50 = .ok (.idiv, 1) := dk_108 (dk_at dksX0_close_2 3 rfl rfl)
theorem dX0_close_51 : decode cX0_close 51 = .ok (.iload_n 2, 1) := dk_28 (dk_at dksX0_close_2 4 rfl rfl)
theorem dX0_close_52 : decode cX0_close 52 = .ok (.bipush 10, 2) := dk_16 10 (dk_at dksX0_close_2 5 rfl rfl)
theorem dX0_close_54 : decode cX0_close 54 = .ok (.irem, 1) := dk_112 (dk_at dksX0_close_2 7 rfl rfl)
theorem dX0_close_55 : decode cX0_close 55 = .ok (.invokevirtual 152, 3) := dk_182 0 152 (dk_at dksX0_close_2 8 rfl rfl)
theorem dX0_close_58 : decode cX0_close 58 = .ok (.ifCond .ne 6, 3) := dk_154 0 6 (dk_at dksX0_close_2 11 rfl rfl)
theorem dX0_close_61 : decode cX0_close 61 = .ok (.goto 33, 3) := dk_167 0 33 (dk_at dksX0_close_2 14 rfl rfl)
theorem dX0_close_64 : decode cX0_close 64 = .ok (.aload_n 0, 1) := dk_42 (dk_at dksX0_close_2 17 rfl rfl)
theorem dX0_close_65 : decode cX0_close 65 = .ok (.getfield 26, 3) := dk_180 0 26 (dk_at dksX0_close_2 18 rfl rfl)
theorem dX0_close_68 : decode cX0_close 68 = .ok (.getfield 102, 3) := dk_180 0 102 (dk_at dksX0_close_2 21 rfl rfl)
theorem dX0_close_71 : decode cX0_close 71 = .ok (.bipush 6, 2) := dk_16 6 (dk_at dksX0_close_3 0 rfl rfl)
theorem dX0_close_73 : decode cX0_close 73 = .ok (.if_icmp .ne 6, 3) := dk_160 0 6 (dk_at dksX0_close_3 2 rfl rfl)
theorem dX0_close_76 : decode cX0_close 76 = .ok (.bipush (-4), 2) := dk_16 252 (dk_at dksX0_close_3 5 rfl rfl)
theorem dX0_close_78 : decode cX0_close 78 = .ok (.ireturn, 1) := dk_172 (dk_at dksX0_close_3 7 rfl rfl)
theorem dX0_close_79 : decode cX0_close 79 = .ok (.aload_n 0, 1) := dk_42 (dk_at dksX0_close_3 8 rfl rfl)
theorem dX0_close_80 : decode cX0_close 80 = .ok (.getfield 26, 3) := dk_180 0 26 (dk_at dksX0_close_3 9 rfl rfl)
theorem dX0_close_83 : decode cX0_close 83 = .ok (.iload_n 2, 1) := dk_28 (dk_at dksX0_close_3 12 rfl rfl)
theorem dX0_close_84 : decode cX0_close 84 = .ok (.bipush 10, 2) := dk_16 10 (dk_at dksX0_close_3 13 rfl rfl)
theorem dX0_close_86 : decode cX0_close 86 = .ok (.idiv, 1) := dk_108 (dk_at dksX0_close_3 15 rfl rfl)
theorem dX0_close_87 : decode cX0_close 87 = .ok (.iload_n 2, 1) := dk_28 (dk_at dksX0_close_3 16 rfl rfl)
theorem dX0_close_88 : decode cX0_close 88 = .ok (.bipush 10, 2) := dk_16 10 (dk_at dksX0_close_3 17 rfl rfl)
theorem dX0_close_90 : decode cX0_close 90 = .ok (.irem, 1) := dk_112 (dk_at dksX0_close_3 19 rfl rfl)
theorem dX0_close_91 : decode cX0_close 91 = .ok (.invokevirtual 118, 3) := dk_182 0 118 (dk_at dksX0_close_3 20 rfl rfl)
theorem dX0_close_94 : decode cX0_close 94 = .ok (.iinc 2 1, 3) := dk_132 2 1 (dk_at dksX0_close_4 0 rfl rfl)
theorem dX0_close_97 : decode cX0_close 97 = .ok (.goto (-57), 3) := dk_167 255 199 (dk_at dksX0_close_4 3 rfl rfl)
theorem dX0_close_100 : decode cX0_close 100 = .ok (.aload_n 0, 1) := dk_42 (dk_at dksX0_close_4 6 rfl rfl)
theorem dX0_close_101 : decode cX0_close 101 = .ok (.iload_n 1, 1) := dk_27 (dk_at dksX0_close_4 7 rfl rfl)
theorem dX0_close_102 : decode cX0_close 102 = .ok (.invokevirtual 139, 3) := dk_182 0 139 (dk_at dksX0_close_4 8 rfl rfl)
theorem dX0_close_105 : decode cX0_close 105 = .ok (.ireturn, 1) := dk_172 (dk_at dksX0_close_4 11 rfl rfl)
abbrev cX0_divisor : ByteArray := prog_1_method_5_code
def yX0_divisor : MethodName := ⟨RX0, "divisor", "(JJ)J"⟩
def dkwX0_divisor_1 : List UInt8 := [22, 4, 173]
abbrev dktX0_divisor_1 : List UInt8 := dkwX0_divisor_1 ++ []
def dkwX0_divisor_0 : List UInt8 := [30, 55, 4, 32, 9, 148, 153, 0, 18, 22, 4, 32, 113, 55, 6, 32, 55, 4, 22, 6, 65, 167, 255, 238]
abbrev dktX0_divisor_0 : List UInt8 := dkwX0_divisor_0 ++ dktX0_divisor_1
theorem dksX0_divisor_0 : cX0_divisor.data.toList.drop 0 = dktX0_divisor_0 := by decide +kernel
theorem dksX0_divisor_1 : cX0_divisor.data.toList.drop 24 = dktX0_divisor_1 := dk_seg dksX0_divisor_0 24 rfl rfl
theorem dX0_divisor_0 : decode cX0_divisor 0 = .ok (.lload_n 0, 1) := dk_30 (dk_at dksX0_divisor_0 0 rfl rfl)
theorem dX0_divisor_1 : decode cX0_divisor 1 = .ok (.lstore 4, 2) := dk_55 4 (dk_at dksX0_divisor_0 1 rfl rfl)
theorem dX0_divisor_3 : decode cX0_divisor 3 = .ok (.lload_n 2, 1) := dk_32 (dk_at dksX0_divisor_0 3 rfl rfl)
theorem dX0_divisor_4 : decode cX0_divisor 4 = .ok (.lconst 0, 1) := dk_9 (dk_at dksX0_divisor_0 4 rfl rfl)
theorem dX0_divisor_5 : decode cX0_divisor 5 = .ok (.lcmp, 1) := dk_148 (dk_at dksX0_divisor_0 5 rfl rfl)
theorem dX0_divisor_6 : decode cX0_divisor 6 = .ok (.ifCond .eq 18, 3) := dk_153 0 18 (dk_at dksX0_divisor_0 6 rfl rfl)
theorem dX0_divisor_9 : decode cX0_divisor 9 = .ok (.lload 4, 2) := dk_22 4 (dk_at dksX0_divisor_0 9 rfl rfl)
theorem dX0_divisor_11 : decode cX0_divisor 11 = .ok (.lload_n 2, 1) := dk_32 (dk_at dksX0_divisor_0 11 rfl rfl)
theorem dX0_divisor_12 : decode cX0_divisor 12 = .ok (.lrem, 1) := dk_113 (dk_at dksX0_divisor_0 12 rfl rfl)
theorem dX0_divisor_13 : decode cX0_divisor 13 = .ok (.lstore 6, 2) := dk_55 6 (dk_at dksX0_divisor_0 13 rfl rfl)
theorem dX0_divisor_15 : decode cX0_divisor 15 = .ok (.lload_n 2, 1) := dk_32 (dk_at dksX0_divisor_0 15 rfl rfl)
theorem dX0_divisor_16 : decode cX0_divisor 16 = .ok (.lstore 4, 2) := dk_55 4 (dk_at dksX0_divisor_0 16 rfl rfl)
theorem dX0_divisor_18 : decode cX0_divisor 18 = .ok (.lload 6, 2) := dk_22 6 (dk_at dksX0_divisor_0 18 rfl rfl)
theorem dX0_divisor_20 : decode cX0_divisor 20 = .ok (.lstore_n 2, 1) := dk_65 (dk_at dksX0_divisor_0 20 rfl rfl)
theorem dX0_divisor_21 : decode cX0_divisor 21 = .ok (.goto (-18), 3) := dk_167 255 238 (dk_at dksX0_divisor_0 21 rfl rfl)
theorem dX0_divisor_24 : decode cX0_divisor 24 = .ok (.lload 4, 2) := dk_22 4 (dk_at dksX0_divisor_1 0 rfl rfl)
theorem dX0_divisor_26 : decode cX0_divisor 26 = .ok (.lreturn, 1) := dk_173 (dk_at dksX0_divisor_1 2 rfl rfl)
abbrev cX0_isCorner : ByteArray := prog_1_method_14_code
def yX0_isCorner : MethodName := ⟨RX0, "isCorner", "(II)Z"⟩
def dkwX0_isCorner_2 : List UInt8 := [154, 0, 7, 4, 167, 0, 4, 3, 172]
abbrev dktX0_isCorner_2 : List UInt8 := dkwX0_isCorner_2 ++ []
def dkwX0_isCorner_1 : List UInt8 := [100, 28, 182, 0, 143, 154, 0, 25, 28, 158, 0, 17, 42, 180, 0, 33, 27, 28, 4, 100, 182, 0, 143]
abbrev dktX0_isCorner_1 : List UInt8 := dkwX0_isCorner_1 ++ dktX0_isCorner_2
def dkwX0_isCorner_0 : List UInt8 := [42, 180, 0, 33, 27, 28, 182, 0, 143, 154, 0, 5, 3, 172, 27, 158, 0, 17, 42, 180, 0, 33, 27, 4]
abbrev dktX0_isCorner_0 : List UInt8 := dkwX0_isCorner_0 ++ dktX0_isCorner_1
theorem dksX0_isCorner_0 : cX0_isCorner.data.toList.drop 0 = dktX0_isCorner_0 := by decide +kernel
theorem dksX0_isCorner_1 : cX0_isCorner.data.toList.drop 24 = dktX0_isCorner_1 := dk_seg dksX0_isCorner_0 24 rfl rfl
theorem dksX0_isCorner_2 : cX0_isCorner.data.toList.drop 47 = dktX0_isCorner_2 := dk_seg dksX0_isCorner_1 23 rfl rfl
theorem dX0_isCorner_0 : decode cX0_isCorner 0 = .ok (.aload_n 0, 1) := dk_42 (dk_at dksX0_isCorner_0 0 rfl rfl)
theorem dX0_isCorner_1 : decode cX0_isCorner 1 = .ok (.getfield 33, 3) := dk_180 0 33 (dk_at dksX0_isCorner_0 1 rfl rfl)
theorem dX0_isCorner_4 : decode cX0_isCorner 4 = .ok (.iload_n 1, 1) := dk_27 (dk_at dksX0_isCorner_0 4 rfl rfl)
theorem dX0_isCorner_5 : decode cX0_isCorner 5 = .ok (.iload_n 2, 1) := dk_28 (dk_at dksX0_isCorner_0 5 rfl rfl)
theorem dX0_isCorner_6 : decode cX0_isCorner 6 = .ok (.invokevirtual 143, 3) := dk_182 0 143 (dk_at dksX0_isCorner_0 6 rfl rfl)
theorem dX0_isCorner_9 : decode cX0_isCorner 9 = .ok (.ifCond .ne 5, 3) := dk_154 0 5 (dk_at dksX0_isCorner_0 9 rfl rfl)
theorem dX0_isCorner_12 : decode cX0_isCorner 12 = .ok (.iconst 0, 1) := dk_3 (dk_at dksX0_isCorner_0 12 rfl rfl)
theorem dX0_isCorner_13 : decode cX0_isCorner 13 = .ok (.ireturn, 1) := dk_172 (dk_at dksX0_isCorner_0 13 rfl rfl)
theorem dX0_isCorner_14 : decode cX0_isCorner 14 = .ok (.iload_n 1, 1) := dk_27 (dk_at dksX0_isCorner_0 14 rfl rfl)
theorem dX0_isCorner_15 : decode cX0_isCorner 15 = .ok (.ifCond .le 17, 3) := dk_158 0 17 (dk_at dksX0_isCorner_0 15 rfl rfl)
theorem dX0_isCorner_18 : decode cX0_isCorner 18 = .ok (.aload_n 0, 1) := dk_42 (dk_at dksX0_isCorner_0 18 rfl rfl)
theorem dX0_isCorner_19 : decode cX0_isCorner 19 = .ok (.getfield 33, 3) := dk_180 0 33 (dk_at dksX0_isCorner_0 19 rfl rfl)
theorem dX0_isCorner_22 : decode cX0_isCorner 22 = .ok (.iload_n 1, 1) := dk_27 (dk_at dksX0_isCorner_0 22 rfl rfl)
theorem dX0_isCorner_23 : decode cX0_isCorner 23 = .ok (.iconst 1, 1) := dk_4 (dk_at dksX0_isCorner_0 23 rfl rfl)
theorem dX0_isCorner_24 : decode cX0_isCorner 24 = .ok (.isub, 1) := dk_100 (dk_at dksX0_isCorner_1 0 rfl rfl)
theorem dX0_isCorner_25 : decode cX0_isCorner 25 = .ok (.iload_n 2, 1) := dk_28 (dk_at dksX0_isCorner_1 1 rfl rfl)
theorem dX0_isCorner_26 : decode cX0_isCorner 26 = .ok (.invokevirtual 143, 3) := dk_182 0 143 (dk_at dksX0_isCorner_1 2 rfl rfl)
theorem dX0_isCorner_29 : decode cX0_isCorner 29 = .ok (.ifCond .ne 25, 3) := dk_154 0 25 (dk_at dksX0_isCorner_1 5 rfl rfl)
theorem dX0_isCorner_32 : decode cX0_isCorner 32 = .ok (.iload_n 2, 1) := dk_28 (dk_at dksX0_isCorner_1 8 rfl rfl)
theorem dX0_isCorner_33 : decode cX0_isCorner 33 = .ok (.ifCond .le 17, 3) := dk_158 0 17 (dk_at dksX0_isCorner_1 9 rfl rfl)
theorem dX0_isCorner_36 : decode cX0_isCorner 36 = .ok (.aload_n 0, 1) := dk_42 (dk_at dksX0_isCorner_1 12 rfl rfl)
theorem dX0_isCorner_37 : decode cX0_isCorner 37 = .ok (.getfield 33, 3) := dk_180 0 33 (dk_at dksX0_isCorner_1 13 rfl rfl)
theorem dX0_isCorner_40 : decode cX0_isCorner 40 = .ok (.iload_n 1, 1) := dk_27 (dk_at dksX0_isCorner_1 16 rfl rfl)
theorem dX0_isCorner_41 : decode cX0_isCorner 41 = .ok (.iload_n 2, 1) := dk_28 (dk_at dksX0_isCorner_1 17 rfl rfl)
theorem dX0_isCorner_42 : decode cX0_isCorner 42 = .ok (.iconst 1, 1) := dk_4 (dk_at dksX0_isCorner_1 18 rfl rfl)
theorem dX0_isCorner_43 : decode cX0_isCorner 43 = .ok (.isub, 1) := dk_100 (dk_at dksX0_isCorner_1 19 rfl rfl)
theorem dX0_isCorner_44 : decode cX0_isCorner 44 = .ok (.invokevirtual 143, 3) := dk_182 0 143 (dk_at dksX0_isCorner_1 20 rfl rfl)
theorem dX0_isCorner_47 : decode cX0_isCorner 47 = .ok (.ifCond .ne 7, 3) := dk_154 0 7 (dk_at dksX0_isCorner_2 0 rfl rfl)
theorem dX0_isCorner_50 : decode cX0_isCorner 50 = .ok (.iconst 1, 1) := dk_4 (dk_at dksX0_isCorner_2 3 rfl rfl)
theorem dX0_isCorner_51 : decode cX0_isCorner 51 = .ok (.goto 4, 3) := dk_167 0 4 (dk_at dksX0_isCorner_2 4 rfl rfl)
theorem dX0_isCorner_54 : decode cX0_isCorner 54 = .ok (.iconst 0, 1) := dk_3 (dk_at dksX0_isCorner_2 7 rfl rfl)
theorem dX0_isCorner_55 : decode cX0_isCorner 55 = .ok (.ireturn, 1) := dk_172 (dk_at dksX0_isCorner_2 8 rfl rfl)
abbrev cX0_back : ByteArray := prog_1_method_16_code
def yX0_back : MethodName := ⟨RX0, "back", "()I"⟩
def dkwX0_back_1 : List UInt8 := [42, 180, 0, 40, 180, 0, 155, 172]
abbrev dktX0_back_1 : List UInt8 := dkwX0_back_1 ++ []
def dkwX0_back_0 : List UInt8 := [42, 180, 0, 40, 180, 0, 155, 154, 0, 6, 16, 253, 172, 42, 180, 0, 40, 42, 180, 0, 22, 182, 0, 156]
abbrev dktX0_back_0 : List UInt8 := dkwX0_back_0 ++ dktX0_back_1
theorem dksX0_back_0 : cX0_back.data.toList.drop 0 = dktX0_back_0 := by decide +kernel
theorem dksX0_back_1 : cX0_back.data.toList.drop 24 = dktX0_back_1 := dk_seg dksX0_back_0 24 rfl rfl
theorem dX0_back_0 : decode cX0_back 0 = .ok (.aload_n 0, 1) := dk_42 (dk_at dksX0_back_0 0 rfl rfl)
theorem dX0_back_1 : decode cX0_back 1 = .ok (.getfield 40, 3) := dk_180 0 40 (dk_at dksX0_back_0 1 rfl rfl)
theorem dX0_back_4 : decode cX0_back 4 = .ok (.getfield 155, 3) := dk_180 0 155 (dk_at dksX0_back_0 4 rfl rfl)
theorem dX0_back_7 : decode cX0_back 7 = .ok (.ifCond .ne 6, 3) := dk_154 0 6 (dk_at dksX0_back_0 7 rfl rfl)
theorem dX0_back_10 : decode cX0_back 10 = .ok (.bipush (-3), 2) := dk_16 253 (dk_at dksX0_back_0 10 rfl rfl)
theorem dX0_back_12 : decode cX0_back 12 = .ok (.ireturn, 1) := dk_172 (dk_at dksX0_back_0 12 rfl rfl)
theorem dX0_back_13 : decode cX0_back 13 = .ok (.aload_n 0, 1) := dk_42 (dk_at dksX0_back_0 13 rfl rfl)
theorem dX0_back_14 : decode cX0_back 14 = .ok (.getfield 40, 3) := dk_180 0 40 (dk_at dksX0_back_0 14 rfl rfl)
theorem dX0_back_17 : decode cX0_back 17 = .ok (.aload_n 0, 1) := dk_42 (dk_at dksX0_back_0 17 rfl rfl)
theorem dX0_back_18 : decode cX0_back 18 = .ok (.getfield 22, 3) := dk_180 0 22 (dk_at dksX0_back_0 18 rfl rfl)
theorem dX0_back_21 : decode cX0_back 21 = .ok (.invokevirtual 156, 3) := dk_182 0 156 (dk_at dksX0_back_0 21 rfl rfl)
theorem dX0_back_24 : decode cX0_back 24 = .ok (.aload_n 0, 1) := dk_42 (dk_at dksX0_back_1 0 rfl rfl)
theorem dX0_back_25 : decode cX0_back 25 = .ok (.getfield 40, 3) := dk_180 0 40 (dk_at dksX0_back_1 1 rfl rfl)
theorem dX0_back_28 : decode cX0_back 28 = .ok (.getfield 155, 3) := dk_180 0 155 (dk_at dksX0_back_1 4 rfl rfl)
theorem dX0_back_31 : decode cX0_back 31 = .ok (.ireturn, 1) := dk_172 (dk_at dksX0_back_1 7 rfl rfl)
abbrev cX0_feed : ByteArray := prog_1_method_17_code
def yX0_feed : MethodName := ⟨RX0, "feed", "(I)I"⟩
def dkwX0_feed_1 : List UInt8 := [172, 42, 180, 0, 60, 42, 89, 180, 0, 160, 90, 4, 96, 181, 0, 160, 27, 145, 84, 42, 180, 0, 160, 172]
abbrev dktX0_feed_1 : List UInt8 := dkwX0_feed_1 ++ []
def dkwX0_feed_0 : List UInt8 := [27, 3, 16, 127, 184, 0, 5, 154, 0, 6, 16, 254, 172, 42, 180, 0, 160, 16, 100, 160, 0, 6, 16, 252]
abbrev dktX0_feed_0 : List UInt8 := dkwX0_feed_0 ++ dktX0_feed_1
theorem dksX0_feed_0 : cX0_feed.data.toList.drop 0 = dktX0_feed_0 := by decide +kernel
theorem dksX0_feed_1 : cX0_feed.data.toList.drop 24 = dktX0_feed_1 := dk_seg dksX0_feed_0 24 rfl rfl
theorem dX0_feed_0 : decode cX0_feed 0 = .ok (.iload_n 1, 1) := dk_27 (dk_at dksX0_feed_0 0 rfl rfl)
theorem dX0_feed_1 : decode cX0_feed 1 = .ok (.iconst 0, 1) := dk_3 (dk_at dksX0_feed_0 1 rfl rfl)
theorem dX0_feed_2 : decode cX0_feed 2 = .ok (.bipush 127, 2) := dk_16 127 (dk_at dksX0_feed_0 2 rfl rfl)
theorem dX0_feed_4 : decode cX0_feed 4 = .ok (.invokestatic 5, 3) := dk_184 0 5 (dk_at dksX0_feed_0 4 rfl rfl)
theorem dX0_feed_7 : decode cX0_feed 7 = .ok (.ifCond .ne 6, 3) := dk_154 0 6 (dk_at dksX0_feed_0 7 rfl rfl)
theorem dX0_feed_10 : decode cX0_feed 10 = .ok (.bipush (-2), 2) := dk_16 254 (dk_at dksX0_feed_0 10 rfl rfl)
theorem dX0_feed_12 : decode cX0_feed 12 = .ok (.ireturn, 1) := dk_172 (dk_at dksX0_feed_0 12 rfl rfl)
theorem dX0_feed_13 : decode cX0_feed 13 = .ok (.aload_n 0, 1) := dk_42 (dk_at dksX0_feed_0 13 rfl rfl)
theorem dX0_feed_14 : decode cX0_feed 14 = .ok (.getfield 160, 3) := dk_180 0 160 (dk_at dksX0_feed_0 14 rfl rfl)
theorem dX0_feed_17 : decode cX0_feed 17 = .ok (.bipush 100, 2) := dk_16 100 (dk_at dksX0_feed_0 17 rfl rfl)
theorem dX0_feed_19 : decode cX0_feed 19 = .ok (.if_icmp .ne 6, 3) := dk_160 0 6 (dk_at dksX0_feed_0 19 rfl rfl)
theorem dX0_feed_22 : decode cX0_feed 22 = .ok (.bipush (-4), 2) := dk_16 252 (dk_at dksX0_feed_0 22 rfl rfl)
theorem dX0_feed_24 : decode cX0_feed 24 = .ok (.ireturn, 1) := dk_172 (dk_at dksX0_feed_1 0 rfl rfl)
theorem dX0_feed_25 : decode cX0_feed 25 = .ok (.aload_n 0, 1) := dk_42 (dk_at dksX0_feed_1 1 rfl rfl)
theorem dX0_feed_26 : decode cX0_feed 26 = .ok (.getfield 60, 3) := dk_180 0 60 (dk_at dksX0_feed_1 2 rfl rfl)
theorem dX0_feed_29 : decode cX0_feed 29 = .ok (.aload_n 0, 1) := dk_42 (dk_at dksX0_feed_1 5 rfl rfl)
theorem dX0_feed_30 : decode cX0_feed 30 = .ok (.dup, 1) := dk_89 (dk_at dksX0_feed_1 6 rfl rfl)
theorem dX0_feed_31 : decode cX0_feed 31 = .ok (.getfield 160, 3) := dk_180 0 160 (dk_at dksX0_feed_1 7 rfl rfl)
theorem dX0_feed_34 : decode cX0_feed 34 = .ok (.dup_x1, 1) := dk_90 (dk_at dksX0_feed_1 10 rfl rfl)
theorem dX0_feed_35 : decode cX0_feed 35 = .ok (.iconst 1, 1) := dk_4 (dk_at dksX0_feed_1 11 rfl rfl)
theorem dX0_feed_36 : decode cX0_feed 36 = .ok (.iadd, 1) := dk_96 (dk_at dksX0_feed_1 12 rfl rfl)
theorem dX0_feed_37 : decode cX0_feed 37 = .ok (.putfield 160, 3) := dk_181 0 160 (dk_at dksX0_feed_1 13 rfl rfl)
theorem dX0_feed_40 : decode cX0_feed 40 = .ok (.iload_n 1, 1) := dk_27 (dk_at dksX0_feed_1 16 rfl rfl)
theorem dX0_feed_41 : decode cX0_feed 41 = .ok (.i2b, 1) := dk_145 (dk_at dksX0_feed_1 17 rfl rfl)
theorem dX0_feed_42 : decode cX0_feed 42 = .ok (.bastore, 1) := dk_84 (dk_at dksX0_feed_1 18 rfl rfl)
theorem dX0_feed_43 : decode cX0_feed 43 = .ok (.aload_n 0, 1) := dk_42 (dk_at dksX0_feed_1 19 rfl rfl)
theorem dX0_feed_44 : decode cX0_feed 44 = .ok (.getfield 160, 3) := dk_180 0 160 (dk_at dksX0_feed_1 20 rfl rfl)
theorem dX0_feed_47 : decode cX0_feed 47 = .ok (.ireturn, 1) := dk_172 (dk_at dksX0_feed_1 23 rfl rfl)
abbrev cX0_read : ByteArray := prog_1_method_18_code
def yX0_read : MethodName := ⟨RX0, "read", "()I"⟩
def dkwX0_read_1 : List UInt8 := [182, 0, 168, 42, 182, 0, 172, 172, 77, 16, 246, 44, 180, 0, 178, 100, 172]
abbrev dktX0_read_1 : List UInt8 := dkwX0_read_1 ++ []
def dkwX0_read_0 : List UInt8 := [42, 180, 0, 160, 60, 42, 3, 181, 0, 160, 187, 0, 163, 89, 42, 180, 0, 60, 27, 183, 0, 165]
abbrev dktX0_read_0 : List UInt8 := dkwX0_read_0 ++ dktX0_read_1
theorem dksX0_read_0 : cX0_read.data.toList.drop 0 = dktX0_read_0 := by decide +kernel
theorem dksX0_read_1 : cX0_read.data.toList.drop 22 = dktX0_read_1 := dk_seg dksX0_read_0 22 rfl rfl
theorem dX0_read_0 : decode cX0_read 0 = .ok (.aload_n 0, 1) := dk_42 (dk_at dksX0_read_0 0 rfl rfl)
theorem dX0_read_1 : decode cX0_read 1 = .ok (.getfield 160, 3) := dk_180 0 160 (dk_at dksX0_read_0 1 rfl rfl)
theorem dX0_read_4 : decode cX0_read 4 = .ok (.istore_n 1, 1) := dk_60 (dk_at dksX0_read_0 4 rfl rfl)
theorem dX0_read_5 : decode cX0_read 5 = .ok (.aload_n 0, 1) := dk_42 (dk_at dksX0_read_0 5 rfl rfl)
theorem dX0_read_6 : decode cX0_read 6 = .ok (.iconst 0, 1) := dk_3 (dk_at dksX0_read_0 6 rfl rfl)
theorem dX0_read_7 : decode cX0_read 7 = .ok (.putfield 160, 3) := dk_181 0 160 (dk_at dksX0_read_0 7 rfl rfl)
theorem dX0_read_10 : decode cX0_read 10 = .ok (.new 163, 3) := dk_187 0 163 (dk_at dksX0_read_0 10 rfl rfl)
theorem dX0_read_13 : decode cX0_read 13 = .ok (.dup, 1) := dk_89 (dk_at dksX0_read_0 13 rfl rfl)
theorem dX0_read_14 : decode cX0_read 14 = .ok (.aload_n 0, 1) := dk_42 (dk_at dksX0_read_0 14 rfl rfl)
theorem dX0_read_15 : decode cX0_read 15 = .ok (.getfield 60, 3) := dk_180 0 60 (dk_at dksX0_read_0 15 rfl rfl)
theorem dX0_read_18 : decode cX0_read 18 = .ok (.iload_n 1, 1) := dk_27 (dk_at dksX0_read_0 18 rfl rfl)
theorem dX0_read_19 : decode cX0_read 19 = .ok (.invokespecial 165, 3) := dk_183 0 165 (dk_at dksX0_read_0 19 rfl rfl)
theorem dX0_read_22 : decode cX0_read 22 = .ok (.invokevirtual 168, 3) := dk_182 0 168 (dk_at dksX0_read_1 0 rfl rfl)
theorem dX0_read_25 : decode cX0_read 25 = .ok (.aload_n 0, 1) := dk_42 (dk_at dksX0_read_1 3 rfl rfl)
theorem dX0_read_26 : decode cX0_read 26 = .ok (.invokevirtual 172, 3) := dk_182 0 172 (dk_at dksX0_read_1 4 rfl rfl)
theorem dX0_read_29 : decode cX0_read 29 = .ok (.ireturn, 1) := dk_172 (dk_at dksX0_read_1 7 rfl rfl)
theorem dX0_read_30 : decode cX0_read 30 = .ok (.astore_n 2, 1) := dk_77 (dk_at dksX0_read_1 8 rfl rfl)
theorem dX0_read_31 : decode cX0_read 31 = .ok (.bipush (-10), 2) := dk_16 246 (dk_at dksX0_read_1 9 rfl rfl)
theorem dX0_read_33 : decode cX0_read 33 = .ok (.aload_n 2, 1) := dk_44 (dk_at dksX0_read_1 11 rfl rfl)
theorem dX0_read_34 : decode cX0_read 34 = .ok (.getfield 178, 3) := dk_180 0 178 (dk_at dksX0_read_1 12 rfl rfl)
theorem dX0_read_37 : decode cX0_read 37 = .ok (.isub, 1) := dk_100 (dk_at dksX0_read_1 15 rfl rfl)
theorem dX0_read_38 : decode cX0_read 38 = .ok (.ireturn, 1) := dk_172 (dk_at dksX0_read_1 16 rfl rfl)
abbrev cX0_of : ByteArray := prog_1_method_19_code
def yX0_of : MethodName := ⟨RX0, "of", "(III)I"⟩
def dkwX0_of_3 : List UInt8 := [42, 180, 0, 22, 27, 50, 28, 182, 0, 181, 153, 0, 7, 4, 167, 0, 4, 3, 172, 2, 172]
abbrev dktX0_of_3 : List UInt8 := dkwX0_of_3 ++ []
def dkwX0_of_2 : List UInt8 := [42, 180, 0, 22, 27, 50, 180, 0, 132, 28, 46, 172, 42, 180, 0, 22, 27, 50, 180, 0, 136, 28, 46, 172]
abbrev dktX0_of_2 : List UInt8 := dkwX0_of_2 ++ dktX0_of_3
def dkwX0_of_1 : List UInt8 := [170, 0, 0, 0, 0, 0, 0, 71, 0, 0, 0, 0, 0, 0, 0, 2, 0, 0, 0, 28, 0, 0, 0, 40, 0, 0, 0, 52]
abbrev dktX0_of_1 : List UInt8 := dkwX0_of_1 ++ dktX0_of_2
def dkwX0_of_0 : List UInt8 := [42, 27, 28, 182, 0, 122, 154, 0, 5, 2, 172, 29]
abbrev dktX0_of_0 : List UInt8 := dkwX0_of_0 ++ dktX0_of_1
theorem dksX0_of_0 : cX0_of.data.toList.drop 0 = dktX0_of_0 := by decide +kernel
theorem dksX0_of_1 : cX0_of.data.toList.drop 12 = dktX0_of_1 := dk_seg dksX0_of_0 12 rfl rfl
theorem dksX0_of_2 : cX0_of.data.toList.drop 40 = dktX0_of_2 := dk_seg dksX0_of_1 28 rfl rfl
theorem dksX0_of_3 : cX0_of.data.toList.drop 64 = dktX0_of_3 := dk_seg dksX0_of_2 24 rfl rfl
theorem dX0_of_0 : decode cX0_of 0 = .ok (.aload_n 0, 1) := dk_42 (dk_at dksX0_of_0 0 rfl rfl)
theorem dX0_of_1 : decode cX0_of 1 = .ok (.iload_n 1, 1) := dk_27 (dk_at dksX0_of_0 1 rfl rfl)
theorem dX0_of_2 : decode cX0_of 2 = .ok (.iload_n 2, 1) := dk_28 (dk_at dksX0_of_0 2 rfl rfl)
theorem dX0_of_3 : decode cX0_of 3 = .ok (.invokevirtual 122, 3) := dk_182 0 122 (dk_at dksX0_of_0 3 rfl rfl)
theorem dX0_of_6 : decode cX0_of 6 = .ok (.ifCond .ne 5, 3) := dk_154 0 5 (dk_at dksX0_of_0 6 rfl rfl)
theorem dX0_of_9 : decode cX0_of 9 = .ok (.iconst (-1), 1) := dk_2 (dk_at dksX0_of_0 9 rfl rfl)
theorem dX0_of_10 : decode cX0_of 10 = .ok (.ireturn, 1) := dk_172 (dk_at dksX0_of_0 10 rfl rfl)
theorem dX0_of_11 : decode cX0_of 11 = .ok (.iload_n 3, 1) := dk_29 (dk_at dksX0_of_0 11 rfl rfl)
theorem dX0_of_12 : decode cX0_of 12 = .ok (.tableswitch 71 0 2 #[28, 40, 52], 28) := by decide +kernel
theorem dX0_of_40 : decode cX0_of 40 = .ok (.aload_n 0, 1) := dk_42 (dk_at dksX0_of_2 0 rfl rfl)
theorem dX0_of_41 : decode cX0_of 41 = .ok (.getfield 22, 3) := dk_180 0 22 (dk_at dksX0_of_2 1 rfl rfl)
theorem dX0_of_44 : decode cX0_of 44 = .ok (.iload_n 1, 1) := dk_27 (dk_at dksX0_of_2 4 rfl rfl)
theorem dX0_of_45 : decode cX0_of 45 = .ok (.aaload, 1) := dk_50 (dk_at dksX0_of_2 5 rfl rfl)
theorem dX0_of_46 : decode cX0_of 46 = .ok (.getfield 132, 3) := dk_180 0 132 (dk_at dksX0_of_2 6 rfl rfl)
theorem dX0_of_49 : decode cX0_of 49 = .ok (.iload_n 2, 1) := dk_28 (dk_at dksX0_of_2 9 rfl rfl)
theorem dX0_of_50 : decode cX0_of 50 = .ok (.iaload, 1) := dk_46 (dk_at dksX0_of_2 10 rfl rfl)
theorem dX0_of_51 : decode cX0_of 51 = .ok (.ireturn, 1) := dk_172 (dk_at dksX0_of_2 11 rfl rfl)
theorem dX0_of_52 : decode cX0_of 52 = .ok (.aload_n 0, 1) := dk_42 (dk_at dksX0_of_2 12 rfl rfl)
theorem dX0_of_53 : decode cX0_of 53 = .ok (.getfield 22, 3) := dk_180 0 22 (dk_at dksX0_of_2 13 rfl rfl)
theorem dX0_of_56 : decode cX0_of 56 = .ok (.iload_n 1, 1) := dk_27 (dk_at dksX0_of_2 16 rfl rfl)
theorem dX0_of_57 : decode cX0_of 57 = .ok (.aaload, 1) := dk_50 (dk_at dksX0_of_2 17 rfl rfl)
theorem dX0_of_58 : decode cX0_of 58 = .ok (.getfield 136, 3) := dk_180 0 136 (dk_at dksX0_of_2 18 rfl rfl)
theorem dX0_of_61 : decode cX0_of 61 = .ok (.iload_n 2, 1) := dk_28 (dk_at dksX0_of_2 21 rfl rfl)
theorem dX0_of_62 : decode cX0_of 62 = .ok (.iaload, 1) := dk_46 (dk_at dksX0_of_2 22 rfl rfl)
theorem dX0_of_63 : decode cX0_of 63 = .ok (.ireturn, 1) := dk_172 (dk_at dksX0_of_2 23 rfl rfl)
theorem dX0_of_64 : decode cX0_of 64 = .ok (.aload_n 0, 1) := dk_42 (dk_at dksX0_of_3 0 rfl rfl)
theorem dX0_of_65 : decode cX0_of 65 = .ok (.getfield 22, 3) := dk_180 0 22 (dk_at dksX0_of_3 1 rfl rfl)
theorem dX0_of_68 : decode cX0_of 68 = .ok (.iload_n 1, 1) := dk_27 (dk_at dksX0_of_3 4 rfl rfl)
theorem dX0_of_69 : decode cX0_of 69 = .ok (.aaload, 1) := dk_50 (dk_at dksX0_of_3 5 rfl rfl)
theorem dX0_of_70 : decode cX0_of 70 = .ok (.iload_n 2, 1) := dk_28 (dk_at dksX0_of_3 6 rfl rfl)
theorem dX0_of_71 : decode cX0_of 71 = .ok (.invokevirtual 181, 3) := dk_182 0 181 (dk_at dksX0_of_3 7 rfl rfl)
theorem dX0_of_74 : decode cX0_of 74 = .ok (.ifCond .eq 7, 3) := dk_153 0 7 (dk_at dksX0_of_3 10 rfl rfl)
theorem dX0_of_77 : decode cX0_of 77 = .ok (.iconst 1, 1) := dk_4 (dk_at dksX0_of_3 13 rfl rfl)
theorem dX0_of_78 : decode cX0_of 78 = .ok (.goto 4, 3) := dk_167 0 4 (dk_at dksX0_of_3 14 rfl rfl)
theorem dX0_of_81 : decode cX0_of 81 = .ok (.iconst 0, 1) := dk_3 (dk_at dksX0_of_3 17 rfl rfl)
theorem dX0_of_82 : decode cX0_of 82 = .ok (.ireturn, 1) := dk_172 (dk_at dksX0_of_3 18 rfl rfl)
theorem dX0_of_83 : decode cX0_of 83 = .ok (.iconst (-1), 1) := dk_2 (dk_at dksX0_of_3 19 rfl rfl)
theorem dX0_of_84 : decode cX0_of 84 = .ok (.ireturn, 1) := dk_172 (dk_at dksX0_of_3 20 rfl rfl)
abbrev cX0_told : ByteArray := prog_1_method_20_code
def yX0_told : MethodName := ⟨RX0, "told", "(II)I"⟩
def dkwX0_told_4 : List UInt8 := [182, 0, 146, 182, 0, 193, 172, 2, 172, 58, 4, 16, 253, 172]
abbrev dktX0_told_4 : List UInt8 := dkwX0_told_4 ++ []
def dkwX0_told_3 : List UInt8 := [180, 0, 33, 45, 182, 0, 146, 182, 0, 189, 153, 0, 7, 4, 167, 0, 4, 3, 172, 42, 180, 0, 33, 45]
abbrev dktX0_told_3 : List UInt8 := dkwX0_told_3 ++ dktX0_told_4
def dkwX0_told_2 : List UInt8 := [45, 180, 0, 102, 172, 45, 182, 0, 184, 172, 42, 180, 0, 33, 45, 182, 0, 146, 180, 0, 188, 172, 42]
abbrev dktX0_told_2 : List UInt8 := dkwX0_told_2 ++ dktX0_told_3
def dkwX0_told_1 : List UInt8 := [170, 0, 0, 0, 0, 0, 89, 0, 0, 0, 0, 0, 0, 0, 4, 0, 0, 0, 35, 0, 0, 0, 40, 0, 0, 0, 45, 0, 0, 0, 57, 0, 0, 0, 77]
abbrev dktX0_told_1 : List UInt8 := dkwX0_told_1 ++ dktX0_told_2
def dkwX0_told_0 : List UInt8 := [27, 184, 0, 98, 154, 0, 5, 2, 172, 42, 180, 0, 22, 27, 50, 78, 28]
abbrev dktX0_told_0 : List UInt8 := dkwX0_told_0 ++ dktX0_told_1
theorem dksX0_told_0 : cX0_told.data.toList.drop 0 = dktX0_told_0 := by decide +kernel
theorem dksX0_told_1 : cX0_told.data.toList.drop 17 = dktX0_told_1 := dk_seg dksX0_told_0 17 rfl rfl
theorem dksX0_told_2 : cX0_told.data.toList.drop 52 = dktX0_told_2 := dk_seg dksX0_told_1 35 rfl rfl
theorem dksX0_told_3 : cX0_told.data.toList.drop 75 = dktX0_told_3 := dk_seg dksX0_told_2 23 rfl rfl
theorem dksX0_told_4 : cX0_told.data.toList.drop 99 = dktX0_told_4 := dk_seg dksX0_told_3 24 rfl rfl
theorem dX0_told_0 : decode cX0_told 0 = .ok (.iload_n 1, 1) := dk_27 (dk_at dksX0_told_0 0 rfl rfl)
theorem dX0_told_1 : decode cX0_told 1 = .ok (.invokestatic 98, 3) := dk_184 0 98 (dk_at dksX0_told_0 1 rfl rfl)
theorem dX0_told_4 : decode cX0_told 4 = .ok (.ifCond .ne 5, 3) := dk_154 0 5 (dk_at dksX0_told_0 4 rfl rfl)
theorem dX0_told_7 : decode cX0_told 7 = .ok (.iconst (-1), 1) := dk_2 (dk_at dksX0_told_0 7 rfl rfl)
theorem dX0_told_8 : decode cX0_told 8 = .ok (.ireturn, 1) := dk_172 (dk_at dksX0_told_0 8 rfl rfl)
theorem dX0_told_9 : decode cX0_told 9 = .ok (.aload_n 0, 1) := dk_42 (dk_at dksX0_told_0 9 rfl rfl)
theorem dX0_told_10 : decode cX0_told 10 = .ok (.getfield 22, 3) := dk_180 0 22 (dk_at dksX0_told_0 10 rfl rfl)
theorem dX0_told_13 : decode cX0_told 13 = .ok (.iload_n 1, 1) := dk_27 (dk_at dksX0_told_0 13 rfl rfl)
theorem dX0_told_14 : decode cX0_told 14 = .ok (.aaload, 1) := dk_50 (dk_at dksX0_told_0 14 rfl rfl)
theorem dX0_told_15 : decode cX0_told 15 = .ok (.astore_n 3, 1) := dk_78 (dk_at dksX0_told_0 15 rfl rfl)
theorem dX0_told_16 : decode cX0_told 16 = .ok (.iload_n 2, 1) := dk_28 (dk_at dksX0_told_0 16 rfl rfl)
theorem dX0_told_17 : decode cX0_told 17 = .ok (.tableswitch 89 0 4 #[35, 40, 45, 57, 77], 35) := by decide +kernel
theorem dX0_told_52 : decode cX0_told 52 = .ok (.aload_n 3, 1) := dk_45 (dk_at dksX0_told_2 0 rfl rfl)
theorem dX0_told_53 : decode cX0_told 53 = .ok (.getfield 102, 3) := dk_180 0 102 (dk_at dksX0_told_2 1 rfl rfl)
theorem dX0_told_56 : decode cX0_told 56 = .ok (.ireturn, 1) := dk_172 (dk_at dksX0_told_2 4 rfl rfl)
theorem dX0_told_57 : decode cX0_told 57 = .ok (.aload_n 3, 1) := dk_45 (dk_at dksX0_told_2 5 rfl rfl)
theorem dX0_told_58 : decode cX0_told 58 = .ok (.invokevirtual 184, 3) := dk_182 0 184 (dk_at dksX0_told_2 6 rfl rfl)
theorem dX0_told_61 : decode cX0_told 61 = .ok (.ireturn, 1) := dk_172 (dk_at dksX0_told_2 9 rfl rfl)
theorem dX0_told_62 : decode cX0_told 62 = .ok (.aload_n 0, 1) := dk_42 (dk_at dksX0_told_2 10 rfl rfl)
theorem dX0_told_63 : decode cX0_told 63 = .ok (.getfield 33, 3) := dk_180 0 33 (dk_at dksX0_told_2 11 rfl rfl)
theorem dX0_told_66 : decode cX0_told 66 = .ok (.aload_n 3, 1) := dk_45 (dk_at dksX0_told_2 14 rfl rfl)
theorem dX0_told_67 : decode cX0_told 67 = .ok (.invokevirtual 146, 3) := dk_182 0 146 (dk_at dksX0_told_2 15 rfl rfl)
theorem dX0_told_70 : decode cX0_told 70 = .ok (.getfield 188, 3) := dk_180 0 188 (dk_at dksX0_told_2 18 rfl rfl)
theorem dX0_told_73 : decode cX0_told 73 = .ok (.ireturn, 1) := dk_172 (dk_at dksX0_told_2 21 rfl rfl)
theorem dX0_told_74 : decode cX0_told 74 = .ok (.aload_n 0, 1) := dk_42 (dk_at dksX0_told_2 22 rfl rfl)
theorem dX0_told_75 : decode cX0_told 75 = .ok (.getfield 33, 3) := dk_180 0 33 (dk_at dksX0_told_3 0 rfl rfl)
theorem dX0_told_78 : decode cX0_told 78 = .ok (.aload_n 3, 1) := dk_45 (dk_at dksX0_told_3 3 rfl rfl)
theorem dX0_told_79 : decode cX0_told 79 = .ok (.invokevirtual 146, 3) := dk_182 0 146 (dk_at dksX0_told_3 4 rfl rfl)
theorem dX0_told_82 : decode cX0_told 82 = .ok (.invokevirtual 189, 3) := dk_182 0 189 (dk_at dksX0_told_3 7 rfl rfl)
theorem dX0_told_85 : decode cX0_told 85 = .ok (.ifCond .eq 7, 3) := dk_153 0 7 (dk_at dksX0_told_3 10 rfl rfl)
theorem dX0_told_88 : decode cX0_told 88 = .ok (.iconst 1, 1) := dk_4 (dk_at dksX0_told_3 13 rfl rfl)
theorem dX0_told_89 : decode cX0_told 89 = .ok (.goto 4, 3) := dk_167 0 4 (dk_at dksX0_told_3 14 rfl rfl)
theorem dX0_told_92 : decode cX0_told 92 = .ok (.iconst 0, 1) := dk_3 (dk_at dksX0_told_3 17 rfl rfl)
theorem dX0_told_93 : decode cX0_told 93 = .ok (.ireturn, 1) := dk_172 (dk_at dksX0_told_3 18 rfl rfl)
theorem dX0_told_94 : decode cX0_told 94 = .ok (.aload_n 0, 1) := dk_42 (dk_at dksX0_told_3 19 rfl rfl)
theorem dX0_told_95 : decode cX0_told 95 = .ok (.getfield 33, 3) := dk_180 0 33 (dk_at dksX0_told_3 20 rfl rfl)
theorem dX0_told_98 : decode cX0_told 98 = .ok (.aload_n 3, 1) := dk_45 (dk_at dksX0_told_3 23 rfl rfl)
theorem dX0_told_99 : decode cX0_told 99 = .ok (.invokevirtual 146, 3) := dk_182 0 146 (dk_at dksX0_told_4 0 rfl rfl)
theorem dX0_told_102 : decode cX0_told 102 = .ok (.invokevirtual 193, 3) := dk_182 0 193 (dk_at dksX0_told_4 3 rfl rfl)
theorem dX0_told_105 : decode cX0_told 105 = .ok (.ireturn, 1) := dk_172 (dk_at dksX0_told_4 6 rfl rfl)
theorem dX0_told_106 : decode cX0_told 106 = .ok (.iconst (-1), 1) := dk_2 (dk_at dksX0_told_4 7 rfl rfl)
theorem dX0_told_107 : decode cX0_told 107 = .ok (.ireturn, 1) := dk_172 (dk_at dksX0_told_4 8 rfl rfl)
theorem dX0_told_108 : decode cX0_told 108 = .ok (.astore 4, 2) := dk_58 4 (dk_at dksX0_told_4 9 rfl rfl)
theorem dX0_told_110 : decode cX0_told 110 = .ok (.bipush (-3), 2) := dk_16 253 (dk_at dksX0_told_4 11 rfl rfl)
theorem dX0_told_112 : decode cX0_told 112 = .ok (.ireturn, 1) := dk_172 (dk_at dksX0_told_4 13 rfl rfl)
abbrev cX0_in_2 : ByteArray := prog_1_method_21_code
def yX0_in_2 : MethodName := ⟨RX0, "in", "(IIII)I"⟩
def dkwX0_in_2_3 : List UInt8 := [182, 0, 143, 153, 0, 7, 4, 167, 0, 4, 3, 172, 58, 5, 16, 253, 172]
abbrev dktX0_in_2_3 : List UInt8 := dkwX0_in_2_3 ++ []
def dkwX0_in_2_2 : List UInt8 := [153, 0, 7, 4, 167, 0, 4, 3, 172, 42, 180, 0, 33, 42, 180, 0, 22, 27, 50, 182, 0, 146, 28, 29]
abbrev dktX0_in_2_2 : List UInt8 := dkwX0_in_2_2 ++ dktX0_in_2_3
def dkwX0_in_2_1 : List UInt8 := [154, 0, 6, 16, 254, 172, 21, 4, 154, 0, 23, 42, 180, 0, 22, 27, 50, 28, 29, 182, 0, 196]
abbrev dktX0_in_2_1 : List UInt8 := dkwX0_in_2_1 ++ dktX0_in_2_2
def dkwX0_in_2_0 : List UInt8 := [27, 184, 0, 98, 153, 0, 13, 21, 4, 3, 4, 184, 0, 5, 154, 0, 5, 2, 172, 28, 29, 184, 0, 106]
abbrev dktX0_in_2_0 : List UInt8 := dkwX0_in_2_0 ++ dktX0_in_2_1
theorem dksX0_in_2_0 : cX0_in_2.data.toList.drop 0 = dktX0_in_2_0 := by decide +kernel
theorem dksX0_in_2_1 : cX0_in_2.data.toList.drop 24 = dktX0_in_2_1 := dk_seg dksX0_in_2_0 24 rfl rfl
theorem dksX0_in_2_2 : cX0_in_2.data.toList.drop 46 = dktX0_in_2_2 := dk_seg dksX0_in_2_1 22 rfl rfl
theorem dksX0_in_2_3 : cX0_in_2.data.toList.drop 70 = dktX0_in_2_3 := dk_seg dksX0_in_2_2 24 rfl rfl
theorem dX0_in_2_0 : decode cX0_in_2 0 = .ok (.iload_n 1, 1) := dk_27 (dk_at dksX0_in_2_0 0 rfl rfl)
theorem dX0_in_2_1 : decode cX0_in_2 1 = .ok (.invokestatic 98, 3) := dk_184 0 98 (dk_at dksX0_in_2_0 1 rfl rfl)
theorem dX0_in_2_4 : decode cX0_in_2 4 = .ok (.ifCond .eq 13, 3) := dk_153 0 13 (dk_at dksX0_in_2_0 4 rfl rfl)
theorem dX0_in_2_7 : decode cX0_in_2 7 = .ok (.iload 4, 2) := dk_21 4 (dk_at dksX0_in_2_0 7 rfl rfl)
theorem dX0_in_2_9 : decode cX0_in_2 9 = .ok (.iconst 0, 1) := dk_3 (dk_at dksX0_in_2_0 9 rfl rfl)
theorem dX0_in_2_10 : decode cX0_in_2 10 = .ok (.iconst 1, 1) := dk_4 (dk_at dksX0_in_2_0 10 rfl rfl)
theorem dX0_in_2_11 : decode cX0_in_2 11 = .ok (.invokestatic 5, 3) := dk_184 0 5 (dk_at dksX0_in_2_0 11 rfl rfl)
theorem dX0_in_2_14 : decode cX0_in_2 14 = .ok (.ifCond .ne 5, 3) := dk_154 0 5 (dk_at dksX0_in_2_0 14 rfl rfl)
theorem dX0_in_2_17 : decode cX0_in_2 17 = .ok (.iconst (-1), 1) := dk_2 (dk_at dksX0_in_2_0 17 rfl rfl)
theorem dX0_in_2_18 : decode cX0_in_2 18 = .ok (.ireturn, 1) := dk_172 (dk_at dksX0_in_2_0 18 rfl rfl)
theorem dX0_in_2_19 : decode cX0_in_2 19 = .ok (.iload_n 2, 1) := dk_28 (dk_at dksX0_in_2_0 19 rfl rfl)
theorem dX0_in_2_20 : decode cX0_in_2 20 = .ok (.iload_n 3, 1) := dk_29 (dk_at dksX0_in_2_0 20 rfl rfl)
theorem dX0_in_2_21 : decode cX0_in_2 21 = .ok (.invokestatic 106, 3) := dk_184 0 106 (dk_at dksX0_in_2_0 21 rfl rfl)
theorem dX0_in_2_24 : decode cX0_in_2 24 = .ok (.ifCond .ne 6, 3) := dk_154 0 6 (dk_at dksX0_in_2_1 0 rfl rfl)
theorem dX0_in_2_27 : decode cX0_in_2 27 = .ok (.bipush (-2), 2) := dk_16 254 (dk_at dksX0_in_2_1 3 rfl rfl)
theorem dX0_in_2_29 : decode cX0_in_2 29 = .ok (.ireturn, 1) := dk_172 (dk_at dksX0_in_2_1 5 rfl rfl)
theorem dX0_in_2_30 : decode cX0_in_2 30 = .ok (.iload 4, 2) := dk_21 4 (dk_at dksX0_in_2_1 6 rfl rfl)
theorem dX0_in_2_32 : decode cX0_in_2 32 = .ok (.ifCond .ne 23, 3) := dk_154 0 23 (dk_at dksX0_in_2_1 8 rfl rfl)
theorem dX0_in_2_35 : decode cX0_in_2 35 = .ok (.aload_n 0, 1) := dk_42 (dk_at dksX0_in_2_1 11 rfl rfl)
theorem dX0_in_2_36 : decode cX0_in_2 36 = .ok (.getfield 22, 3) := dk_180 0 22 (dk_at dksX0_in_2_1 12 rfl rfl)
theorem dX0_in_2_39 : decode cX0_in_2 39 = .ok (.iload_n 1, 1) := dk_27 (dk_at dksX0_in_2_1 15 rfl rfl)
theorem dX0_in_2_40 : decode cX0_in_2 40 = .ok (.aaload, 1) := dk_50 (dk_at dksX0_in_2_1 16 rfl rfl)
theorem dX0_in_2_41 : decode cX0_in_2 41 = .ok (.iload_n 2, 1) := dk_28 (dk_at dksX0_in_2_1 17 rfl rfl)
theorem dX0_in_2_42 : decode cX0_in_2 42 = .ok (.iload_n 3, 1) := dk_29 (dk_at dksX0_in_2_1 18 rfl rfl)
theorem dX0_in_2_43 : decode cX0_in_2 43 = .ok (.invokevirtual 196, 3) := dk_182 0 196 (dk_at dksX0_in_2_1 19 rfl rfl)
theorem dX0_in_2_46 : decode cX0_in_2 46 = .ok (.ifCond .eq 7, 3) := dk_153 0 7 (dk_at dksX0_in_2_2 0 rfl rfl)
theorem dX0_in_2_49 : decode cX0_in_2 49 = .ok (.iconst 1, 1) := dk_4 (dk_at dksX0_in_2_2 3 rfl rfl)
theorem dX0_in_2_50 : decode cX0_in_2 50 = .ok (.goto 4, 3) := dk_167 0 4 (dk_at dksX0_in_2_2 4 rfl rfl)
theorem dX0_in_2_53 : decode cX0_in_2 53 = .ok (.iconst 0, 1) := dk_3 (dk_at dksX0_in_2_2 7 rfl rfl)
theorem dX0_in_2_54 : decode cX0_in_2 54 = .ok (.ireturn, 1) := dk_172 (dk_at dksX0_in_2_2 8 rfl rfl)
theorem dX0_in_2_55 : decode cX0_in_2 55 = .ok (.aload_n 0, 1) := dk_42 (dk_at dksX0_in_2_2 9 rfl rfl)
theorem dX0_in_2_56 : decode cX0_in_2 56 = .ok (.getfield 33, 3) := dk_180 0 33 (dk_at dksX0_in_2_2 10 rfl rfl)
theorem dX0_in_2_59 : decode cX0_in_2 59 = .ok (.aload_n 0, 1) := dk_42 (dk_at dksX0_in_2_2 13 rfl rfl)
theorem dX0_in_2_60 : decode cX0_in_2 60 = .ok (.getfield 22, 3) := dk_180 0 22 (dk_at dksX0_in_2_2 14 rfl rfl)
theorem dX0_in_2_63 : decode cX0_in_2 63 = .ok (.iload_n 1, 1) := dk_27 (dk_at dksX0_in_2_2 17 rfl rfl)
theorem dX0_in_2_64 : decode cX0_in_2 64 = .ok (.aaload, 1) := dk_50 (dk_at dksX0_in_2_2 18 rfl rfl)
theorem dX0_in_2_65 : decode cX0_in_2 65 = .ok (.invokevirtual 146, 3) := dk_182 0 146 (dk_at dksX0_in_2_2 19 rfl rfl)
theorem dX0_in_2_68 : decode cX0_in_2 68 = .ok (.iload_n 2, 1) := dk_28 (dk_at dksX0_in_2_2 22 rfl rfl)
theorem dX0_in_2_69 : decode cX0_in_2 69 = .ok (.iload_n 3, 1) := dk_29 (dk_at dksX0_in_2_2 23 rfl rfl)
theorem dX0_in_2_70 : decode cX0_in_2 70 = .ok (.invokevirtual 143, 3) := dk_182 0 143 (dk_at dksX0_in_2_3 0 rfl rfl)
theorem dX0_in_2_73 : decode cX0_in_2 73 = .ok (.ifCond .eq 7, 3) := dk_153 0 7 (dk_at dksX0_in_2_3 3 rfl rfl)
theorem dX0_in_2_76 : decode cX0_in_2 76 = .ok (.iconst 1, 1) := dk_4 (dk_at dksX0_in_2_3 6 rfl rfl)
theorem dX0_in_2_77 : decode cX0_in_2 77 = .ok (.goto 4, 3) := dk_167 0 4 (dk_at dksX0_in_2_3 7 rfl rfl)
theorem dX0_in_2_80 : decode cX0_in_2 80 = .ok (.iconst 0, 1) := dk_3 (dk_at dksX0_in_2_3 10 rfl rfl)
theorem dX0_in_2_81 : decode cX0_in_2 81 = .ok (.ireturn, 1) := dk_172 (dk_at dksX0_in_2_3 11 rfl rfl)
theorem dX0_in_2_82 : decode cX0_in_2 82 = .ok (.astore 5, 2) := dk_58 5 (dk_at dksX0_in_2_3 12 rfl rfl)
theorem dX0_in_2_84 : decode cX0_in_2 84 = .ok (.bipush (-3), 2) := dk_16 253 (dk_at dksX0_in_2_3 14 rfl rfl)
theorem dX0_in_2_86 : decode cX0_in_2 86 = .ok (.ireturn, 1) := dk_172 (dk_at dksX0_in_2_3 16 rfl rfl)
abbrev cX0_face : ByteArray := prog_1_method_22_code
def yX0_face : MethodName := ⟨RX0, "face", "(III)I"⟩
def dkwX0_face_5 : List UInt8 := [180, 0, 205, 28, 46, 172, 2, 172]
abbrev dktX0_face_5 : List UInt8 := dkwX0_face_5 ++ []
def dkwX0_face_4 : List UInt8 := [42, 180, 0, 33, 180, 0, 199, 28, 46, 172, 42, 180, 0, 33, 180, 0, 202, 28, 46, 172, 42, 180, 0, 33]
abbrev dktX0_face_4 : List UInt8 := dkwX0_face_4 ++ dktX0_face_5
def dkwX0_face_3 : List UInt8 := [170, 0, 0, 0, 55, 0, 0, 0, 0, 0, 0, 0, 2, 0, 0, 0, 25, 0, 0, 0, 35, 0, 0, 0, 45]
abbrev dktX0_face_3 : List UInt8 := dkwX0_face_3 ++ dktX0_face_4
def dkwX0_face_2 : List UInt8 := [154, 0, 5, 2, 172, 29]
abbrev dktX0_face_2 : List UInt8 := dkwX0_face_2 ++ dktX0_face_3
def dkwX0_face_1 : List UInt8 := [167, 0, 8, 58, 4, 16, 253, 172, 28, 3, 42, 180, 0, 33, 180, 0, 188, 4, 100, 184, 0, 5]
abbrev dktX0_face_1 : List UInt8 := dkwX0_face_1 ++ dktX0_face_2
def dkwX0_face_0 : List UInt8 := [27, 184, 0, 98, 154, 0, 5, 2, 172, 42, 180, 0, 33, 42, 180, 0, 22, 27, 50, 182, 0, 146, 87]
abbrev dktX0_face_0 : List UInt8 := dkwX0_face_0 ++ dktX0_face_1
theorem dksX0_face_0 : cX0_face.data.toList.drop 0 = dktX0_face_0 := by decide +kernel
theorem dksX0_face_1 : cX0_face.data.toList.drop 23 = dktX0_face_1 := dk_seg dksX0_face_0 23 rfl rfl
theorem dksX0_face_2 : cX0_face.data.toList.drop 45 = dktX0_face_2 := dk_seg dksX0_face_1 22 rfl rfl
theorem dksX0_face_3 : cX0_face.data.toList.drop 51 = dktX0_face_3 := dk_seg dksX0_face_2 6 rfl rfl
theorem dksX0_face_4 : cX0_face.data.toList.drop 76 = dktX0_face_4 := dk_seg dksX0_face_3 25 rfl rfl
theorem dksX0_face_5 : cX0_face.data.toList.drop 100 = dktX0_face_5 := dk_seg dksX0_face_4 24 rfl rfl
theorem dX0_face_0 : decode cX0_face 0 = .ok (.iload_n 1, 1) := dk_27 (dk_at dksX0_face_0 0 rfl rfl)
theorem dX0_face_1 : decode cX0_face 1 = .ok (.invokestatic 98, 3) := dk_184 0 98 (dk_at dksX0_face_0 1 rfl rfl)
theorem dX0_face_4 : decode cX0_face 4 = .ok (.ifCond .ne 5, 3) := dk_154 0 5 (dk_at dksX0_face_0 4 rfl rfl)
theorem dX0_face_7 : decode cX0_face 7 = .ok (.iconst (-1), 1) := dk_2 (dk_at dksX0_face_0 7 rfl rfl)
theorem dX0_face_8 : decode cX0_face 8 = .ok (.ireturn, 1) := dk_172 (dk_at dksX0_face_0 8 rfl rfl)
theorem dX0_face_9 : decode cX0_face 9 = .ok (.aload_n 0, 1) := dk_42 (dk_at dksX0_face_0 9 rfl rfl)
theorem dX0_face_10 : decode cX0_face 10 = .ok (.getfield 33, 3) := dk_180 0 33 (dk_at dksX0_face_0 10 rfl rfl)
theorem dX0_face_13 : decode cX0_face 13 = .ok (.aload_n 0, 1) := dk_42 (dk_at dksX0_face_0 13 rfl rfl)
theorem dX0_face_14 : decode cX0_face 14 = .ok (.getfield 22, 3) := dk_180 0 22 (dk_at dksX0_face_0 14 rfl rfl)
theorem dX0_face_17 : decode cX0_face 17 = .ok (.iload_n 1, 1) := dk_27 (dk_at dksX0_face_0 17 rfl rfl)
theorem dX0_face_18 : decode cX0_face 18 = .ok (.aaload, 1) := dk_50 (dk_at dksX0_face_0 18 rfl rfl)
theorem dX0_face_19 : decode cX0_face 19 = .ok (.invokevirtual 146, 3) := dk_182 0 146 (dk_at dksX0_face_0 19 rfl rfl)
theorem dX0_face_22 : decode cX0_face 22 = .ok (.pop, 1) := dk_87 (dk_at dksX0_face_0 22 rfl rfl)
theorem dX0_face_23 : decode cX0_face 23 = .ok (.goto 8, 3) := dk_167 0 8 (dk_at dksX0_face_1 0 rfl rfl)
theorem dX0_face_26 : decode cX0_face 26 = .ok (.astore 4, 2) := dk_58 4 (dk_at dksX0_face_1 3 rfl rfl)
theorem dX0_face_28 : decode cX0_face 28 = .ok (.bipush (-3), 2) := dk_16 253 (dk_at dksX0_face_1 5 rfl rfl)
theorem dX0_face_30 : decode cX0_face 30 = .ok (.ireturn, 1) := dk_172 (dk_at dksX0_face_1 7 rfl rfl)
theorem dX0_face_31 : decode cX0_face 31 = .ok (.iload_n 2, 1) := dk_28 (dk_at dksX0_face_1 8 rfl rfl)
theorem dX0_face_32 : decode cX0_face 32 = .ok (.iconst 0, 1) := dk_3 (dk_at dksX0_face_1 9 rfl rfl)
theorem dX0_face_33 : decode cX0_face 33 = .ok (.aload_n 0, 1) := dk_42 (dk_at dksX0_face_1 10 rfl rfl)
theorem dX0_face_34 : decode cX0_face 34 = .ok (.getfield 33, 3) := dk_180 0 33 (dk_at dksX0_face_1 11 rfl rfl)
theorem dX0_face_37 : decode cX0_face 37 = .ok (.getfield 188, 3) := dk_180 0 188 (dk_at dksX0_face_1 14 rfl rfl)
theorem dX0_face_40 : decode cX0_face 40 = .ok (.iconst 1, 1) := dk_4 (dk_at dksX0_face_1 17 rfl rfl)
theorem dX0_face_41 : decode cX0_face 41 = .ok (.isub, 1) := dk_100 (dk_at dksX0_face_1 18 rfl rfl)
theorem dX0_face_42 : decode cX0_face 42 = .ok (.invokestatic 5, 3) := dk_184 0 5 (dk_at dksX0_face_1 19 rfl rfl)
theorem dX0_face_45 : decode cX0_face 45 = .ok (.ifCond .ne 5, 3) := dk_154 0 5 (dk_at dksX0_face_2 0 rfl rfl)
theorem dX0_face_48 : decode cX0_face 48 = .ok (.iconst (-1), 1) := dk_2 (dk_at dksX0_face_2 3 rfl rfl)
theorem dX0_face_49 : decode cX0_face 49 = .ok (.ireturn, 1) := dk_172 (dk_at dksX0_face_2 4 rfl rfl)
theorem dX0_face_50 : decode cX0_face 50 = .ok (.iload_n 3, 1) := dk_29 (dk_at dksX0_face_2 5 rfl rfl)
theorem dX0_face_51 : decode cX0_face 51 = .ok (.tableswitch 55 0 2 #[25, 35, 45], 25) := by decide +kernel
theorem dX0_face_76 : decode cX0_face 76 = .ok (.aload_n 0, 1) := dk_42 (dk_at dksX0_face_4 0 rfl rfl)
theorem dX0_face_77 : decode cX0_face 77 = .ok (.getfield 33, 3) := dk_180 0 33 (dk_at dksX0_face_4 1 rfl rfl)
theorem dX0_face_80 : decode cX0_face 80 = .ok (.getfield 199, 3) := dk_180 0 199 (dk_at dksX0_face_4 4 rfl rfl)
theorem dX0_face_83 : decode cX0_face 83 = .ok (.iload_n 2, 1) := dk_28 (dk_at dksX0_face_4 7 rfl rfl)
theorem dX0_face_84 : decode cX0_face 84 = .ok (.iaload, 1) := dk_46 (dk_at dksX0_face_4 8 rfl rfl)
theorem dX0_face_85 : decode cX0_face 85 = .ok (.ireturn, 1) := dk_172 (dk_at dksX0_face_4 9 rfl rfl)
theorem dX0_face_86 : decode cX0_face 86 = .ok (.aload_n 0, 1) := dk_42 (dk_at dksX0_face_4 10 rfl rfl)
theorem dX0_face_87 : decode cX0_face 87 = .ok (.getfield 33, 3) := dk_180 0 33 (dk_at dksX0_face_4 11 rfl rfl)
theorem dX0_face_90 : decode cX0_face 90 = .ok (.getfield 202, 3) := dk_180 0 202 (dk_at dksX0_face_4 14 rfl rfl)
theorem dX0_face_93 : decode cX0_face 93 = .ok (.iload_n 2, 1) := dk_28 (dk_at dksX0_face_4 17 rfl rfl)
theorem dX0_face_94 : decode cX0_face 94 = .ok (.iaload, 1) := dk_46 (dk_at dksX0_face_4 18 rfl rfl)
theorem dX0_face_95 : decode cX0_face 95 = .ok (.ireturn, 1) := dk_172 (dk_at dksX0_face_4 19 rfl rfl)
theorem dX0_face_96 : decode cX0_face 96 = .ok (.aload_n 0, 1) := dk_42 (dk_at dksX0_face_4 20 rfl rfl)
theorem dX0_face_97 : decode cX0_face 97 = .ok (.getfield 33, 3) := dk_180 0 33 (dk_at dksX0_face_4 21 rfl rfl)
theorem dX0_face_100 : decode cX0_face 100 = .ok (.getfield 205, 3) := dk_180 0 205 (dk_at dksX0_face_5 0 rfl rfl)
theorem dX0_face_103 : decode cX0_face 103 = .ok (.iload_n 2, 1) := dk_28 (dk_at dksX0_face_5 3 rfl rfl)
theorem dX0_face_104 : decode cX0_face 104 = .ok (.iaload, 1) := dk_46 (dk_at dksX0_face_5 4 rfl rfl)
theorem dX0_face_105 : decode cX0_face 105 = .ok (.ireturn, 1) := dk_172 (dk_at dksX0_face_5 5 rfl rfl)
theorem dX0_face_106 : decode cX0_face 106 = .ok (.iconst (-1), 1) := dk_2 (dk_at dksX0_face_5 6 rfl rfl)
theorem dX0_face_107 : decode cX0_face 107 = .ok (.ireturn, 1) := dk_172 (dk_at dksX0_face_5 7 rfl rfl)
abbrev cX0_held : ByteArray := prog_1_method_24_code
def yX0_held : MethodName := ⟨RX0, "held", "(IIIII)I"⟩
def dkwX0_held_2 : List UInt8 := [193, 0, 219, 153, 0, 7, 3, 167, 0, 5, 16, 253, 172]
abbrev dktX0_held_2 : List UInt8 := dkwX0_held_2 ++ []
def dkwX0_held_1 : List UInt8 := [154, 0, 6, 16, 254, 172, 42, 27, 28, 29, 21, 4, 21, 5, 182, 0, 215, 4, 172, 58, 6, 25, 6]
abbrev dktX0_held_1 : List UInt8 := dkwX0_held_1 ++ dktX0_held_2
def dkwX0_held_0 : List UInt8 := [27, 184, 0, 98, 154, 0, 5, 2, 172, 28, 29, 184, 0, 106, 153, 0, 13, 21, 4, 21, 5, 184, 0, 212]
abbrev dktX0_held_0 : List UInt8 := dkwX0_held_0 ++ dktX0_held_1
theorem dksX0_held_0 : cX0_held.data.toList.drop 0 = dktX0_held_0 := by decide +kernel
theorem dksX0_held_1 : cX0_held.data.toList.drop 24 = dktX0_held_1 := dk_seg dksX0_held_0 24 rfl rfl
theorem dksX0_held_2 : cX0_held.data.toList.drop 47 = dktX0_held_2 := dk_seg dksX0_held_1 23 rfl rfl
theorem dX0_held_0 : decode cX0_held 0 = .ok (.iload_n 1, 1) := dk_27 (dk_at dksX0_held_0 0 rfl rfl)
theorem dX0_held_1 : decode cX0_held 1 = .ok (.invokestatic 98, 3) := dk_184 0 98 (dk_at dksX0_held_0 1 rfl rfl)
theorem dX0_held_4 : decode cX0_held 4 = .ok (.ifCond .ne 5, 3) := dk_154 0 5 (dk_at dksX0_held_0 4 rfl rfl)
theorem dX0_held_7 : decode cX0_held 7 = .ok (.iconst (-1), 1) := dk_2 (dk_at dksX0_held_0 7 rfl rfl)
theorem dX0_held_8 : decode cX0_held 8 = .ok (.ireturn, 1) := dk_172 (dk_at dksX0_held_0 8 rfl rfl)
theorem dX0_held_9 : decode cX0_held 9 = .ok (.iload_n 2, 1) := dk_28 (dk_at dksX0_held_0 9 rfl rfl)
theorem dX0_held_10 : decode cX0_held 10 = .ok (.iload_n 3, 1) := dk_29 (dk_at dksX0_held_0 10 rfl rfl)
theorem dX0_held_11 : decode cX0_held 11 = .ok (.invokestatic 106, 3) := dk_184 0 106 (dk_at dksX0_held_0 11 rfl rfl)
theorem dX0_held_14 : decode cX0_held 14 = .ok (.ifCond .eq 13, 3) := dk_153 0 13 (dk_at dksX0_held_0 14 rfl rfl)
theorem dX0_held_17 : decode cX0_held 17 = .ok (.iload 4, 2) := dk_21 4 (dk_at dksX0_held_0 17 rfl rfl)
theorem dX0_held_19 : decode cX0_held 19 = .ok (.iload 5, 2) := dk_21 5 (dk_at dksX0_held_0 19 rfl rfl)
theorem dX0_held_21 : decode cX0_held 21 = .ok (.invokestatic 212, 3) := dk_184 0 212 (dk_at dksX0_held_0 21 rfl rfl)
theorem dX0_held_24 : decode cX0_held 24 = .ok (.ifCond .ne 6, 3) := dk_154 0 6 (dk_at dksX0_held_1 0 rfl rfl)
theorem dX0_held_27 : decode cX0_held 27 = .ok (.bipush (-2), 2) := dk_16 254 (dk_at dksX0_held_1 3 rfl rfl)
theorem dX0_held_29 : decode cX0_held 29 = .ok (.ireturn, 1) := dk_172 (dk_at dksX0_held_1 5 rfl rfl)
theorem dX0_held_30 : decode cX0_held 30 = .ok (.aload_n 0, 1) := dk_42 (dk_at dksX0_held_1 6 rfl rfl)
theorem dX0_held_31 : decode cX0_held 31 = .ok (.iload_n 1, 1) := dk_27 (dk_at dksX0_held_1 7 rfl rfl)
theorem dX0_held_32 : decode cX0_held 32 = .ok (.iload_n 2, 1) := dk_28 (dk_at dksX0_held_1 8 rfl rfl)
theorem dX0_held_33 : decode cX0_held 33 = .ok (.iload_n 3, 1) := dk_29 (dk_at dksX0_held_1 9 rfl rfl)
theorem dX0_held_34 : decode cX0_held 34 = .ok (.iload 4, 2) := dk_21 4 (dk_at dksX0_held_1 10 rfl rfl)
theorem dX0_held_36 : decode cX0_held 36 = .ok (.iload 5, 2) := dk_21 5 (dk_at dksX0_held_1 12 rfl rfl)
theorem dX0_held_38 : decode cX0_held 38 = .ok (.invokevirtual 215, 3) := dk_182 0 215 (dk_at dksX0_held_1 14 rfl rfl)
theorem dX0_held_41 : decode cX0_held 41 = .ok (.iconst 1, 1) := dk_4 (dk_at dksX0_held_1 17 rfl rfl)
theorem dX0_held_42 : decode cX0_held 42 = .ok (.ireturn, 1) := dk_172 (dk_at dksX0_held_1 18 rfl rfl)
theorem dX0_held_43 : decode cX0_held 43 = .ok (.astore 6, 2) := dk_58 6 (dk_at dksX0_held_1 19 rfl rfl)
theorem dX0_held_45 : decode cX0_held 45 = .ok (.aload 6, 2) := dk_25 6 (dk_at dksX0_held_1 21 rfl rfl)
theorem dX0_held_47 : decode cX0_held 47 = .ok (.instanceof 219, 3) := dk_193 0 219 (dk_at dksX0_held_2 0 rfl rfl)
theorem dX0_held_50 : decode cX0_held 50 = .ok (.ifCond .eq 7, 3) := dk_153 0 7 (dk_at dksX0_held_2 3 rfl rfl)
theorem dX0_held_53 : decode cX0_held 53 = .ok (.iconst 0, 1) := dk_3 (dk_at dksX0_held_2 6 rfl rfl)
theorem dX0_held_54 : decode cX0_held 54 = .ok (.goto 5, 3) := dk_167 0 5 (dk_at dksX0_held_2 7 rfl rfl)
theorem dX0_held_57 : decode cX0_held 57 = .ok (.bipush (-3), 2) := dk_16 253 (dk_at dksX0_held_2 10 rfl rfl)
theorem dX0_held_59 : decode cX0_held 59 = .ok (.ireturn, 1) := dk_172 (dk_at dksX0_held_2 12 rfl rfl)
abbrev cX0_isFraction : ByteArray := prog_1_method_4_code
def yX0_isFraction : MethodName := ⟨RX0, "isFraction", "(II)Z"⟩
def dkwX0_isFraction_1 : List UInt8 := [3, 172]
abbrev dktX0_isFraction_1 : List UInt8 := dkwX0_isFraction_1 ++ []
def dkwX0_isFraction_0 : List UInt8 := [26, 4, 16, 99, 184, 0, 5, 153, 0, 17, 27, 4, 16, 99, 184, 0, 5, 153, 0, 7, 4, 167, 0, 4]
abbrev dktX0_isFraction_0 : List UInt8 := dkwX0_isFraction_0 ++ dktX0_isFraction_1
theorem dksX0_isFraction_0 : cX0_isFraction.data.toList.drop 0 = dktX0_isFraction_0 := by decide +kernel
theorem dksX0_isFraction_1 : cX0_isFraction.data.toList.drop 24 = dktX0_isFraction_1 := dk_seg dksX0_isFraction_0 24 rfl rfl
theorem dX0_isFraction_0 : decode cX0_isFraction 0 = .ok (.iload_n 0, 1) := dk_26 (dk_at dksX0_isFraction_0 0 rfl rfl)
theorem dX0_isFraction_1 : decode cX0_isFraction 1 = .ok (.iconst 1, 1) := dk_4 (dk_at dksX0_isFraction_0 1 rfl rfl)
theorem dX0_isFraction_2 : decode cX0_isFraction 2 = .ok (.bipush 99, 2) := dk_16 99 (dk_at dksX0_isFraction_0 2 rfl rfl)
theorem dX0_isFraction_4 : decode cX0_isFraction 4 = .ok (.invokestatic 5, 3) := dk_184 0 5 (dk_at dksX0_isFraction_0 4 rfl rfl)
theorem dX0_isFraction_7 : decode cX0_isFraction 7 = .ok (.ifCond .eq 17, 3) := dk_153 0 17 (dk_at dksX0_isFraction_0 7 rfl rfl)
theorem dX0_isFraction_10 : decode cX0_isFraction 10 = .ok (.iload_n 1, 1) := dk_27 (dk_at dksX0_isFraction_0 10 rfl rfl)
theorem dX0_isFraction_11 : decode cX0_isFraction 11 = .ok (.iconst 1, 1) := dk_4 (dk_at dksX0_isFraction_0 11 rfl rfl)
theorem dX0_isFraction_12 : decode cX0_isFraction 12 = .ok (.bipush 99, 2) := dk_16 99 (dk_at dksX0_isFraction_0 12 rfl rfl)
theorem dX0_isFraction_14 : decode cX0_isFraction 14 = .ok (.invokestatic 5, 3) := dk_184 0 5 (dk_at dksX0_isFraction_0 14 rfl rfl)
theorem dX0_isFraction_17 : decode cX0_isFraction 17 = .ok (.ifCond .eq 7, 3) := dk_153 0 7 (dk_at dksX0_isFraction_0 17 rfl rfl)
theorem dX0_isFraction_20 : decode cX0_isFraction 20 = .ok (.iconst 1, 1) := dk_4 (dk_at dksX0_isFraction_0 20 rfl rfl)
theorem dX0_isFraction_21 : decode cX0_isFraction 21 = .ok (.goto 4, 3) := dk_167 0 4 (dk_at dksX0_isFraction_0 21 rfl rfl)
theorem dX0_isFraction_24 : decode cX0_isFraction 24 = .ok (.iconst 0, 1) := dk_3 (dk_at dksX0_isFraction_1 0 rfl rfl)
theorem dX0_isFraction_25 : decode cX0_isFraction 25 = .ok (.ireturn, 1) := dk_172 (dk_at dksX0_isFraction_1 1 rfl rfl)
abbrev cX0_asks : ByteArray := prog_1_method_23_code
def yX0_asks : MethodName := ⟨RX0, "asks", "(IIIII)V"⟩
def dkwX0_asks_0 : List UInt8 := [42, 180, 0, 33, 42, 180, 0, 22, 27, 50, 182, 0, 146, 28, 29, 21, 4, 21, 5, 182, 0, 208, 177]
abbrev dktX0_asks_0 : List UInt8 := dkwX0_asks_0 ++ []
theorem dksX0_asks_0 : cX0_asks.data.toList.drop 0 = dktX0_asks_0 := by decide +kernel
theorem dX0_asks_0 : decode cX0_asks 0 = .ok (.aload_n 0, 1) := dk_42 (dk_at dksX0_asks_0 0 rfl rfl)
theorem dX0_asks_1 : decode cX0_asks 1 = .ok (.getfield 33, 3) := dk_180 0 33 (dk_at dksX0_asks_0 1 rfl rfl)
theorem dX0_asks_4 : decode cX0_asks 4 = .ok (.aload_n 0, 1) := dk_42 (dk_at dksX0_asks_0 4 rfl rfl)
theorem dX0_asks_5 : decode cX0_asks 5 = .ok (.getfield 22, 3) := dk_180 0 22 (dk_at dksX0_asks_0 5 rfl rfl)
theorem dX0_asks_8 : decode cX0_asks 8 = .ok (.iload_n 1, 1) := dk_27 (dk_at dksX0_asks_0 8 rfl rfl)
theorem dX0_asks_9 : decode cX0_asks 9 = .ok (.aaload, 1) := dk_50 (dk_at dksX0_asks_0 9 rfl rfl)
theorem dX0_asks_10 : decode cX0_asks 10 = .ok (.invokevirtual 146, 3) := dk_182 0 146 (dk_at dksX0_asks_0 10 rfl rfl)
theorem dX0_asks_13 : decode cX0_asks 13 = .ok (.iload_n 2, 1) := dk_28 (dk_at dksX0_asks_0 13 rfl rfl)
theorem dX0_asks_14 : decode cX0_asks 14 = .ok (.iload_n 3, 1) := dk_29 (dk_at dksX0_asks_0 14 rfl rfl)
theorem dX0_asks_15 : decode cX0_asks 15 = .ok (.iload 4, 2) := dk_21 4 (dk_at dksX0_asks_0 15 rfl rfl)
theorem dX0_asks_17 : decode cX0_asks 17 = .ok (.iload 5, 2) := dk_21 5 (dk_at dksX0_asks_0 17 rfl rfl)
theorem dX0_asks_19 : decode cX0_asks 19 = .ok (.invokevirtual 208, 3) := dk_182 0 208 (dk_at dksX0_asks_0 19 rfl rfl)
theorem dX0_asks_22 : decode cX0_asks 22 = .ok (.return_, 1) := dk_177 (dk_at dksX0_asks_0 22 rfl rfl)
abbrev cX0_reason : ByteArray := prog_1_method_26_code
def yX0_reason : MethodName := ⟨RX0, "reason", "(IIIIII)I"⟩
def dkwX0_reason_2 : List UInt8 := [182, 0, 215, 16, 251, 172, 58, 7, 25, 7, 21, 6, 184, 0, 232, 172, 58, 7, 16, 253, 172]
abbrev dktX0_reason_2 : List UInt8 := dkwX0_reason_2 ++ []
def dkwX0_reason_1 : List UInt8 := [153, 0, 13, 21, 4, 21, 5, 184, 0, 212, 154, 0, 6, 16, 254, 172, 42, 27, 28, 29, 21, 4, 21, 5]
abbrev dktX0_reason_1 : List UInt8 := dkwX0_reason_1 ++ dktX0_reason_2
def dkwX0_reason_0 : List UInt8 := [27, 184, 0, 98, 153, 0, 13, 21, 6, 3, 7, 184, 0, 5, 154, 0, 5, 2, 172, 28, 29, 184, 0, 106]
abbrev dktX0_reason_0 : List UInt8 := dkwX0_reason_0 ++ dktX0_reason_1
theorem dksX0_reason_0 : cX0_reason.data.toList.drop 0 = dktX0_reason_0 := by decide +kernel
theorem dksX0_reason_1 : cX0_reason.data.toList.drop 24 = dktX0_reason_1 := dk_seg dksX0_reason_0 24 rfl rfl
theorem dksX0_reason_2 : cX0_reason.data.toList.drop 48 = dktX0_reason_2 := dk_seg dksX0_reason_1 24 rfl rfl
theorem dX0_reason_0 : decode cX0_reason 0 = .ok (.iload_n 1, 1) := dk_27 (dk_at dksX0_reason_0 0 rfl rfl)
theorem dX0_reason_1 : decode cX0_reason 1 = .ok (.invokestatic 98, 3) := dk_184 0 98 (dk_at dksX0_reason_0 1 rfl rfl)
theorem dX0_reason_4 : decode cX0_reason 4 = .ok (.ifCond .eq 13, 3) := dk_153 0 13 (dk_at dksX0_reason_0 4 rfl rfl)
theorem dX0_reason_7 : decode cX0_reason 7 = .ok (.iload 6, 2) := dk_21 6 (dk_at dksX0_reason_0 7 rfl rfl)
theorem dX0_reason_9 : decode cX0_reason 9 = .ok (.iconst 0, 1) := dk_3 (dk_at dksX0_reason_0 9 rfl rfl)
theorem dX0_reason_10 : decode cX0_reason 10 = .ok (.iconst 4, 1) := dk_7 (dk_at dksX0_reason_0 10 rfl rfl)
theorem dX0_reason_11 : decode cX0_reason 11 = .ok (.invokestatic 5, 3) := dk_184 0 5 (dk_at dksX0_reason_0 11 rfl rfl)
theorem dX0_reason_14 : decode cX0_reason 14 = .ok (.ifCond .ne 5, 3) := dk_154 0 5 (dk_at dksX0_reason_0 14 rfl rfl)
theorem dX0_reason_17 : decode cX0_reason 17 = .ok (.iconst (-1), 1) := dk_2 (dk_at dksX0_reason_0 17 rfl rfl)
theorem dX0_reason_18 : decode cX0_reason 18 = .ok (.ireturn, 1) := dk_172 (dk_at dksX0_reason_0 18 rfl rfl)
theorem dX0_reason_19 : decode cX0_reason 19 = .ok (.iload_n 2, 1) := dk_28 (dk_at dksX0_reason_0 19 rfl rfl)
theorem dX0_reason_20 : decode cX0_reason 20 = .ok (.iload_n 3, 1) := dk_29 (dk_at dksX0_reason_0 20 rfl rfl)
theorem dX0_reason_21 : decode cX0_reason 21 = .ok (.invokestatic 106, 3) := dk_184 0 106 (dk_at dksX0_reason_0 21 rfl rfl)
theorem dX0_reason_24 : decode cX0_reason 24 = .ok (.ifCond .eq 13, 3) := dk_153 0 13 (dk_at dksX0_reason_1 0 rfl rfl)
theorem dX0_reason_27 : decode cX0_reason 27 = .ok (.iload 4, 2) := dk_21 4 (dk_at dksX0_reason_1 3 rfl rfl)
theorem dX0_reason_29 : decode cX0_reason 29 = .ok (.iload 5, 2) := dk_21 5 (dk_at dksX0_reason_1 5 rfl rfl)
theorem dX0_reason_31 : decode cX0_reason 31 = .ok (.invokestatic 212, 3) := dk_184 0 212 (dk_at dksX0_reason_1 7 rfl rfl)
theorem dX0_reason_34 : decode cX0_reason 34 = .ok (.ifCond .ne 6, 3) := dk_154 0 6 (dk_at dksX0_reason_1 10 rfl rfl)
theorem dX0_reason_37 : decode cX0_reason 37 = .ok (.bipush (-2), 2) := dk_16 254 (dk_at dksX0_reason_1 13 rfl rfl)
theorem dX0_reason_39 : decode cX0_reason 39 = .ok (.ireturn, 1) := dk_172 (dk_at dksX0_reason_1 15 rfl rfl)
theorem dX0_reason_40 : decode cX0_reason 40 = .ok (.aload_n 0, 1) := dk_42 (dk_at dksX0_reason_1 16 rfl rfl)
theorem dX0_reason_41 : decode cX0_reason 41 = .ok (.iload_n 1, 1) := dk_27 (dk_at dksX0_reason_1 17 rfl rfl)
theorem dX0_reason_42 : decode cX0_reason 42 = .ok (.iload_n 2, 1) := dk_28 (dk_at dksX0_reason_1 18 rfl rfl)
theorem dX0_reason_43 : decode cX0_reason 43 = .ok (.iload_n 3, 1) := dk_29 (dk_at dksX0_reason_1 19 rfl rfl)
theorem dX0_reason_44 : decode cX0_reason 44 = .ok (.iload 4, 2) := dk_21 4 (dk_at dksX0_reason_1 20 rfl rfl)
theorem dX0_reason_46 : decode cX0_reason 46 = .ok (.iload 5, 2) := dk_21 5 (dk_at dksX0_reason_1 22 rfl rfl)
theorem dX0_reason_48 : decode cX0_reason 48 = .ok (.invokevirtual 215, 3) := dk_182 0 215 (dk_at dksX0_reason_2 0 rfl rfl)
theorem dX0_reason_51 : decode cX0_reason 51 = .ok (.bipush (-5), 2) := dk_16 251 (dk_at dksX0_reason_2 3 rfl rfl)
theorem dX0_reason_53 : decode cX0_reason 53 = .ok (.ireturn, 1) := dk_172 (dk_at dksX0_reason_2 5 rfl rfl)
theorem dX0_reason_54 : decode cX0_reason 54 = .ok (.astore 7, 2) := dk_58 7 (dk_at dksX0_reason_2 6 rfl rfl)
theorem dX0_reason_56 : decode cX0_reason 56 = .ok (.aload 7, 2) := dk_25 7 (dk_at dksX0_reason_2 8 rfl rfl)
theorem dX0_reason_58 : decode cX0_reason 58 = .ok (.iload 6, 2) := dk_21 6 (dk_at dksX0_reason_2 10 rfl rfl)
theorem dX0_reason_60 : decode cX0_reason 60 = .ok (.invokestatic 232, 3) := dk_184 0 232 (dk_at dksX0_reason_2 12 rfl rfl)
theorem dX0_reason_63 : decode cX0_reason 63 = .ok (.ireturn, 1) := dk_172 (dk_at dksX0_reason_2 15 rfl rfl)
theorem dX0_reason_64 : decode cX0_reason 64 = .ok (.astore 7, 2) := dk_58 7 (dk_at dksX0_reason_2 16 rfl rfl)
theorem dX0_reason_66 : decode cX0_reason 66 = .ok (.bipush (-3), 2) := dk_16 253 (dk_at dksX0_reason_2 18 rfl rfl)
theorem dX0_reason_68 : decode cX0_reason 68 = .ok (.ireturn, 1) := dk_172 (dk_at dksX0_reason_2 20 rfl rfl)
abbrev cX0_behind : ByteArray := prog_1_method_25_code
def yX0_behind : MethodName := ⟨RX0, "behind", "(LTermIdeals$Reason;I)I"⟩
def dkwX0_behind_1 : List UInt8 := [182, 0, 229, 172]
abbrev dktX0_behind_1 : List UInt8 := dkwX0_behind_1 ++ []
def dkwX0_behind_0 : List UInt8 := [42, 77, 3, 62, 29, 27, 162, 0, 14, 44, 182, 0, 221, 77, 132, 3, 1, 167, 255, 243, 44, 192, 0, 227]
abbrev dktX0_behind_0 : List UInt8 := dkwX0_behind_0 ++ dktX0_behind_1
theorem dksX0_behind_0 : cX0_behind.data.toList.drop 0 = dktX0_behind_0 := by decide +kernel
theorem dksX0_behind_1 : cX0_behind.data.toList.drop 24 = dktX0_behind_1 := dk_seg dksX0_behind_0 24 rfl rfl
theorem dX0_behind_0 : decode cX0_behind 0 = .ok (.aload_n 0, 1) := dk_42 (dk_at dksX0_behind_0 0 rfl rfl)
theorem dX0_behind_1 : decode cX0_behind 1 = .ok (.astore_n 2, 1) := dk_77 (dk_at dksX0_behind_0 1 rfl rfl)
theorem dX0_behind_2 : decode cX0_behind 2 = .ok (.iconst 0, 1) := dk_3 (dk_at dksX0_behind_0 2 rfl rfl)
theorem dX0_behind_3 : decode cX0_behind 3 = .ok (.istore_n 3, 1) := dk_62 (dk_at dksX0_behind_0 3 rfl rfl)
theorem dX0_behind_4 : decode cX0_behind 4 = .ok (.iload_n 3, 1) := dk_29 (dk_at dksX0_behind_0 4 rfl rfl)
theorem dX0_behind_5 : decode cX0_behind 5 = .ok (.iload_n 1, 1) := dk_27 (dk_at dksX0_behind_0 5 rfl rfl)
theorem dX0_behind_6 : decode cX0_behind 6 = .ok (.if_icmp .ge 14, 3) := dk_162 0 14 (dk_at dksX0_behind_0 6 rfl rfl)
theorem dX0_behind_9 : decode cX0_behind 9 = .ok (.aload_n 2, 1) := dk_44 (dk_at dksX0_behind_0 9 rfl rfl)
theorem dX0_behind_10 : decode cX0_behind 10 = .ok (.invokevirtual 221, 3) := dk_182 0 221 (dk_at dksX0_behind_0 10 rfl rfl)
theorem dX0_behind_13 : decode cX0_behind 13 = .ok (.astore_n 2, 1) := dk_77 (dk_at dksX0_behind_0 13 rfl rfl)
theorem dX0_behind_14 : decode cX0_behind 14 = .ok (.iinc 3 1, 3) := dk_132 3 1 (dk_at dksX0_behind_0 14 rfl rfl)
theorem dX0_behind_17 : decode cX0_behind 17 = .ok (.goto (-13), 3) := dk_167 255 243 (dk_at dksX0_behind_0 17 rfl rfl)
theorem dX0_behind_20 : decode cX0_behind 20 = .ok (.aload_n 2, 1) := dk_44 (dk_at dksX0_behind_0 20 rfl rfl)
theorem dX0_behind_21 : decode cX0_behind 21 = .ok (.checkcast 227, 3) := dk_192 0 227 (dk_at dksX0_behind_0 21 rfl rfl)
theorem dX0_behind_24 : decode cX0_behind 24 = .ok (.invokevirtual 229, 3) := dk_182 0 229 (dk_at dksX0_behind_1 0 rfl rfl)
theorem dX0_behind_27 : decode cX0_behind 27 = .ok (.ireturn, 1) := dk_172 (dk_at dksX0_behind_1 3 rfl rfl)
abbrev cX0_jump : ByteArray := prog_1_method_27_code
def yX0_jump : MethodName := ⟨RX0, "jump", "(IIII)J"⟩
def dkwX0_jump_3 : List UInt8 := [184, 0, 247, 167, 0, 6, 20, 0, 236, 173, 58, 5, 20, 0, 236, 173]
abbrev dktX0_jump_3 : List UInt8 := dkwX0_jump_3 ++ []
def dkwX0_jump_2 : List UInt8 := [182, 0, 238, 153, 0, 27, 42, 180, 0, 33, 180, 0, 241, 133, 42, 180, 0, 33, 180, 0, 244, 133, 21, 4]
abbrev dktX0_jump_2 : List UInt8 := dkwX0_jump_2 ++ dktX0_jump_3
def dkwX0_jump_1 : List UInt8 := [154, 0, 7, 20, 0, 236, 173, 42, 180, 0, 33, 42, 180, 0, 22, 27, 50, 182, 0, 146, 28, 29]
abbrev dktX0_jump_1 : List UInt8 := dkwX0_jump_1 ++ dktX0_jump_2
def dkwX0_jump_0 : List UInt8 := [27, 184, 0, 98, 153, 0, 21, 28, 29, 184, 0, 106, 153, 0, 13, 21, 4, 3, 4, 184, 0, 5]
abbrev dktX0_jump_0 : List UInt8 := dkwX0_jump_0 ++ dktX0_jump_1
theorem dksX0_jump_0 : cX0_jump.data.toList.drop 0 = dktX0_jump_0 := by decide +kernel
theorem dksX0_jump_1 : cX0_jump.data.toList.drop 22 = dktX0_jump_1 := dk_seg dksX0_jump_0 22 rfl rfl
theorem dksX0_jump_2 : cX0_jump.data.toList.drop 44 = dktX0_jump_2 := dk_seg dksX0_jump_1 22 rfl rfl
theorem dksX0_jump_3 : cX0_jump.data.toList.drop 68 = dktX0_jump_3 := dk_seg dksX0_jump_2 24 rfl rfl
theorem dX0_jump_0 : decode cX0_jump 0 = .ok (.iload_n 1, 1) := dk_27 (dk_at dksX0_jump_0 0 rfl rfl)
theorem dX0_jump_1 : decode cX0_jump 1 = .ok (.invokestatic 98, 3) := dk_184 0 98 (dk_at dksX0_jump_0 1 rfl rfl)
theorem dX0_jump_4 : decode cX0_jump 4 = .ok (.ifCond .eq 21, 3) := dk_153 0 21 (dk_at dksX0_jump_0 4 rfl rfl)
theorem dX0_jump_7 : decode cX0_jump 7 = .ok (.iload_n 2, 1) := dk_28 (dk_at dksX0_jump_0 7 rfl rfl)
theorem dX0_jump_8 : decode cX0_jump 8 = .ok (.iload_n 3, 1) := dk_29 (dk_at dksX0_jump_0 8 rfl rfl)
theorem dX0_jump_9 : decode cX0_jump 9 = .ok (.invokestatic 106, 3) := dk_184 0 106 (dk_at dksX0_jump_0 9 rfl rfl)
theorem dX0_jump_12 : decode cX0_jump 12 = .ok (.ifCond .eq 13, 3) := dk_153 0 13 (dk_at dksX0_jump_0 12 rfl rfl)
theorem dX0_jump_15 : decode cX0_jump 15 = .ok (.iload 4, 2) := dk_21 4 (dk_at dksX0_jump_0 15 rfl rfl)
theorem dX0_jump_17 : decode cX0_jump 17 = .ok (.iconst 0, 1) := dk_3 (dk_at dksX0_jump_0 17 rfl rfl)
theorem dX0_jump_18 : decode cX0_jump 18 = .ok (.iconst 1, 1) := dk_4 (dk_at dksX0_jump_0 18 rfl rfl)
theorem dX0_jump_19 : decode cX0_jump 19 = .ok (.invokestatic 5, 3) := dk_184 0 5 (dk_at dksX0_jump_0 19 rfl rfl)
theorem dX0_jump_22 : decode cX0_jump 22 = .ok (.ifCond .ne 7, 3) := dk_154 0 7 (dk_at dksX0_jump_1 0 rfl rfl)
theorem dX0_jump_25 : decode cX0_jump 25 = .ok (.ldc2_w 236, 3) := dk_20 0 236 (dk_at dksX0_jump_1 3 rfl rfl)
theorem dX0_jump_28 : decode cX0_jump 28 = .ok (.lreturn, 1) := dk_173 (dk_at dksX0_jump_1 6 rfl rfl)
theorem dX0_jump_29 : decode cX0_jump 29 = .ok (.aload_n 0, 1) := dk_42 (dk_at dksX0_jump_1 7 rfl rfl)
theorem dX0_jump_30 : decode cX0_jump 30 = .ok (.getfield 33, 3) := dk_180 0 33 (dk_at dksX0_jump_1 8 rfl rfl)
theorem dX0_jump_33 : decode cX0_jump 33 = .ok (.aload_n 0, 1) := dk_42 (dk_at dksX0_jump_1 11 rfl rfl)
theorem dX0_jump_34 : decode cX0_jump 34 = .ok (.getfield 22, 3) := dk_180 0 22 (dk_at dksX0_jump_1 12 rfl rfl)
theorem dX0_jump_37 : decode cX0_jump 37 = .ok (.iload_n 1, 1) := dk_27 (dk_at dksX0_jump_1 15 rfl rfl)
theorem dX0_jump_38 : decode cX0_jump 38 = .ok (.aaload, 1) := dk_50 (dk_at dksX0_jump_1 16 rfl rfl)
theorem dX0_jump_39 : decode cX0_jump 39 = .ok (.invokevirtual 146, 3) := dk_182 0 146 (dk_at dksX0_jump_1 17 rfl rfl)
theorem dX0_jump_42 : decode cX0_jump 42 = .ok (.iload_n 2, 1) := dk_28 (dk_at dksX0_jump_1 20 rfl rfl)
theorem dX0_jump_43 : decode cX0_jump 43 = .ok (.iload_n 3, 1) := dk_29 (dk_at dksX0_jump_1 21 rfl rfl)
theorem dX0_jump_44 : decode cX0_jump 44 = .ok (.invokevirtual 238, 3) := dk_182 0 238 (dk_at dksX0_jump_2 0 rfl rfl)
theorem dX0_jump_47 : decode cX0_jump 47 = .ok (.ifCond .eq 27, 3) := dk_153 0 27 (dk_at dksX0_jump_2 3 rfl rfl)
theorem dX0_jump_50 : decode cX0_jump 50 = .ok (.aload_n 0, 1) := dk_42 (dk_at dksX0_jump_2 6 rfl rfl)
theorem dX0_jump_51 : decode cX0_jump 51 = .ok (.getfield 33, 3) := dk_180 0 33 (dk_at dksX0_jump_2 7 rfl rfl)
theorem dX0_jump_54 : decode cX0_jump 54 = .ok (.getfield 241, 3) := dk_180 0 241 (dk_at dksX0_jump_2 10 rfl rfl)
theorem dX0_jump_57 : decode cX0_jump 57 = .ok (.i2l, 1) := dk_133 (dk_at dksX0_jump_2 13 rfl rfl)
theorem dX0_jump_58 : decode cX0_jump 58 = .ok (.aload_n 0, 1) := dk_42 (dk_at dksX0_jump_2 14 rfl rfl)
theorem dX0_jump_59 : decode cX0_jump 59 = .ok (.getfield 33, 3) := dk_180 0 33 (dk_at dksX0_jump_2 15 rfl rfl)
theorem dX0_jump_62 : decode cX0_jump 62 = .ok (.getfield 244, 3) := dk_180 0 244 (dk_at dksX0_jump_2 18 rfl rfl)
theorem dX0_jump_65 : decode cX0_jump 65 = .ok (.i2l, 1) := dk_133 (dk_at dksX0_jump_2 21 rfl rfl)
theorem dX0_jump_66 : decode cX0_jump 66 = .ok (.iload 4, 2) := dk_21 4 (dk_at dksX0_jump_2 22 rfl rfl)
theorem dX0_jump_68 : decode cX0_jump 68 = .ok (.invokestatic 247, 3) := dk_184 0 247 (dk_at dksX0_jump_3 0 rfl rfl)
theorem dX0_jump_71 : decode cX0_jump 71 = .ok (.goto 6, 3) := dk_167 0 6 (dk_at dksX0_jump_3 3 rfl rfl)
theorem dX0_jump_74 : decode cX0_jump 74 = .ok (.ldc2_w 236, 3) := dk_20 0 236 (dk_at dksX0_jump_3 6 rfl rfl)
theorem dX0_jump_77 : decode cX0_jump 77 = .ok (.lreturn, 1) := dk_173 (dk_at dksX0_jump_3 9 rfl rfl)
theorem dX0_jump_78 : decode cX0_jump 78 = .ok (.astore 5, 2) := dk_58 5 (dk_at dksX0_jump_3 10 rfl rfl)
theorem dX0_jump_80 : decode cX0_jump 80 = .ok (.ldc2_w 236, 3) := dk_20 0 236 (dk_at dksX0_jump_3 12 rfl rfl)
theorem dX0_jump_83 : decode cX0_jump 83 = .ok (.lreturn, 1) := dk_173 (dk_at dksX0_jump_3 15 rfl rfl)
abbrev cX0_lowest : ByteArray := prog_1_method_6_code
def yX0_lowest : MethodName := ⟨RX0, "lowest", "(JJI)J"⟩
def dkwX0_lowest_0 : List UInt8 := [21, 4, 154, 0, 7, 30, 167, 0, 4, 32, 30, 32, 184, 0, 9, 109, 173]
abbrev dktX0_lowest_0 : List UInt8 := dkwX0_lowest_0 ++ []
theorem dksX0_lowest_0 : cX0_lowest.data.toList.drop 0 = dktX0_lowest_0 := by decide +kernel
theorem dX0_lowest_0 : decode cX0_lowest 0 = .ok (.iload 4, 2) := dk_21 4 (dk_at dksX0_lowest_0 0 rfl rfl)
theorem dX0_lowest_2 : decode cX0_lowest 2 = .ok (.ifCond .ne 7, 3) := dk_154 0 7 (dk_at dksX0_lowest_0 2 rfl rfl)
theorem dX0_lowest_5 : decode cX0_lowest 5 = .ok (.lload_n 0, 1) := dk_30 (dk_at dksX0_lowest_0 5 rfl rfl)
theorem dX0_lowest_6 : decode cX0_lowest 6 = .ok (.goto 4, 3) := dk_167 0 4 (dk_at dksX0_lowest_0 6 rfl rfl)
theorem dX0_lowest_9 : decode cX0_lowest 9 = .ok (.lload_n 2, 1) := dk_32 (dk_at dksX0_lowest_0 9 rfl rfl)
theorem dX0_lowest_10 : decode cX0_lowest 10 = .ok (.lload_n 0, 1) := dk_30 (dk_at dksX0_lowest_0 10 rfl rfl)
theorem dX0_lowest_11 : decode cX0_lowest 11 = .ok (.lload_n 2, 1) := dk_32 (dk_at dksX0_lowest_0 11 rfl rfl)
theorem dX0_lowest_12 : decode cX0_lowest 12 = .ok (.invokestatic 9, 3) := dk_184 0 9 (dk_at dksX0_lowest_0 12 rfl rfl)
theorem dX0_lowest_15 : decode cX0_lowest 15 = .ok (.ldiv, 1) := dk_109 (dk_at dksX0_lowest_0 15 rfl rfl)
theorem dX0_lowest_16 : decode cX0_lowest 16 = .ok (.lreturn, 1) := dk_173 (dk_at dksX0_lowest_0 16 rfl rfl)
abbrev cX0_jumps : ByteArray := prog_1_method_28_code
def yX0_jumps : MethodName := ⟨RX0, "jumps", "(III)J"⟩
def dkwX0_jumps_3 : List UInt8 := [184, 0, 247, 167, 0, 6, 20, 0, 236, 173, 58, 4, 20, 0, 236, 173]
abbrev dktX0_jumps_3 : List UInt8 := dkwX0_jumps_3 ++ []
def dkwX0_jumps_2 : List UInt8 := [153, 0, 30, 42, 180, 0, 33, 180, 0, 251, 28, 46, 133, 42, 180, 0, 33, 180, 0, 254, 28, 46, 133, 29]
abbrev dktX0_jumps_2 : List UInt8 := dkwX0_jumps_2 ++ dktX0_jumps_3
def dkwX0_jumps_1 : List UInt8 := [42, 180, 0, 22, 27, 50, 182, 0, 146, 182, 0, 193, 54, 4, 28, 3, 21, 4, 4, 100, 184, 0, 5]
abbrev dktX0_jumps_1 : List UInt8 := dkwX0_jumps_1 ++ dktX0_jumps_2
def dkwX0_jumps_0 : List UInt8 := [27, 184, 0, 98, 153, 0, 12, 29, 3, 4, 184, 0, 5, 154, 0, 7, 20, 0, 236, 173, 42, 180, 0, 33]
abbrev dktX0_jumps_0 : List UInt8 := dkwX0_jumps_0 ++ dktX0_jumps_1
theorem dksX0_jumps_0 : cX0_jumps.data.toList.drop 0 = dktX0_jumps_0 := by decide +kernel
theorem dksX0_jumps_1 : cX0_jumps.data.toList.drop 24 = dktX0_jumps_1 := dk_seg dksX0_jumps_0 24 rfl rfl
theorem dksX0_jumps_2 : cX0_jumps.data.toList.drop 47 = dktX0_jumps_2 := dk_seg dksX0_jumps_1 23 rfl rfl
theorem dksX0_jumps_3 : cX0_jumps.data.toList.drop 71 = dktX0_jumps_3 := dk_seg dksX0_jumps_2 24 rfl rfl
theorem dX0_jumps_0 : decode cX0_jumps 0 = .ok (.iload_n 1, 1) := dk_27 (dk_at dksX0_jumps_0 0 rfl rfl)
theorem dX0_jumps_1 : decode cX0_jumps 1 = .ok (.invokestatic 98, 3) := dk_184 0 98 (dk_at dksX0_jumps_0 1 rfl rfl)
theorem dX0_jumps_4 : decode cX0_jumps 4 = .ok (.ifCond .eq 12, 3) := dk_153 0 12 (dk_at dksX0_jumps_0 4 rfl rfl)
theorem dX0_jumps_7 : decode cX0_jumps 7 = .ok (.iload_n 3, 1) := dk_29 (dk_at dksX0_jumps_0 7 rfl rfl)
theorem dX0_jumps_8 : decode cX0_jumps 8 = .ok (.iconst 0, 1) := dk_3 (dk_at dksX0_jumps_0 8 rfl rfl)
theorem dX0_jumps_9 : decode cX0_jumps 9 = .ok (.iconst 1, 1) := dk_4 (dk_at dksX0_jumps_0 9 rfl rfl)
theorem dX0_jumps_10 : decode cX0_jumps 10 = .ok (.invokestatic 5, 3) := dk_184 0 5 (dk_at dksX0_jumps_0 10 rfl rfl)
theorem dX0_jumps_13 : decode cX0_jumps 13 = .ok (.ifCond .ne 7, 3) := dk_154 0 7 (dk_at dksX0_jumps_0 13 rfl rfl)
theorem dX0_jumps_16 : decode cX0_jumps 16 = .ok (.ldc2_w 236, 3) := dk_20 0 236 (dk_at dksX0_jumps_0 16 rfl rfl)
theorem dX0_jumps_19 : decode cX0_jumps 19 = .ok (.lreturn, 1) := dk_173 (dk_at dksX0_jumps_0 19 rfl rfl)
theorem dX0_jumps_20 : decode cX0_jumps 20 = .ok (.aload_n 0, 1) := dk_42 (dk_at dksX0_jumps_0 20 rfl rfl)
theorem dX0_jumps_21 : decode cX0_jumps 21 = .ok (.getfield 33, 3) := dk_180 0 33 (dk_at dksX0_jumps_0 21 rfl rfl)
theorem dX0_jumps_24 : decode cX0_jumps 24 = .ok (.aload_n 0, 1) := dk_42 (dk_at dksX0_jumps_1 0 rfl rfl)
theorem dX0_jumps_25 : decode cX0_jumps 25 = .ok (.getfield 22, 3) := dk_180 0 22 (dk_at dksX0_jumps_1 1 rfl rfl)
theorem dX0_jumps_28 : decode cX0_jumps 28 = .ok (.iload_n 1, 1) := dk_27 (dk_at dksX0_jumps_1 4 rfl rfl)
theorem dX0_jumps_29 : decode cX0_jumps 29 = .ok (.aaload, 1) := dk_50 (dk_at dksX0_jumps_1 5 rfl rfl)
theorem dX0_jumps_30 : decode cX0_jumps 30 = .ok (.invokevirtual 146, 3) := dk_182 0 146 (dk_at dksX0_jumps_1 6 rfl rfl)
theorem dX0_jumps_33 : decode cX0_jumps 33 = .ok (.invokevirtual 193, 3) := dk_182 0 193 (dk_at dksX0_jumps_1 9 rfl rfl)
theorem dX0_jumps_36 : decode cX0_jumps 36 = .ok (.istore 4, 2) := dk_54 4 (dk_at dksX0_jumps_1 12 rfl rfl)
theorem dX0_jumps_38 : decode cX0_jumps 38 = .ok (.iload_n 2, 1) := dk_28 (dk_at dksX0_jumps_1 14 rfl rfl)
theorem dX0_jumps_39 : decode cX0_jumps 39 = .ok (.iconst 0, 1) := dk_3 (dk_at dksX0_jumps_1 15 rfl rfl)
theorem dX0_jumps_40 : decode cX0_jumps 40 = .ok (.iload 4, 2) := dk_21 4 (dk_at dksX0_jumps_1 16 rfl rfl)
theorem dX0_jumps_42 : decode cX0_jumps 42 = .ok (.iconst 1, 1) := dk_4 (dk_at dksX0_jumps_1 18 rfl rfl)
theorem dX0_jumps_43 : decode cX0_jumps 43 = .ok (.isub, 1) := dk_100 (dk_at dksX0_jumps_1 19 rfl rfl)
theorem dX0_jumps_44 : decode cX0_jumps 44 = .ok (.invokestatic 5, 3) := dk_184 0 5 (dk_at dksX0_jumps_1 20 rfl rfl)
theorem dX0_jumps_47 : decode cX0_jumps 47 = .ok (.ifCond .eq 30, 3) := dk_153 0 30 (dk_at dksX0_jumps_2 0 rfl rfl)
theorem dX0_jumps_50 : decode cX0_jumps 50 = .ok (.aload_n 0, 1) := dk_42 (dk_at dksX0_jumps_2 3 rfl rfl)
theorem dX0_jumps_51 : decode cX0_jumps 51 = .ok (.getfield 33, 3) := dk_180 0 33 (dk_at dksX0_jumps_2 4 rfl rfl)
theorem dX0_jumps_54 : decode cX0_jumps 54 = .ok (.getfield 251, 3) := dk_180 0 251 (dk_at dksX0_jumps_2 7 rfl rfl)
theorem dX0_jumps_57 : decode cX0_jumps 57 = .ok (.iload_n 2, 1) := dk_28 (dk_at dksX0_jumps_2 10 rfl rfl)
theorem dX0_jumps_58 : decode cX0_jumps 58 = .ok (.iaload, 1) := dk_46 (dk_at dksX0_jumps_2 11 rfl rfl)
theorem dX0_jumps_59 : decode cX0_jumps 59 = .ok (.i2l, 1) := dk_133 (dk_at dksX0_jumps_2 12 rfl rfl)
theorem dX0_jumps_60 : decode cX0_jumps 60 = .ok (.aload_n 0, 1) := dk_42 (dk_at dksX0_jumps_2 13 rfl rfl)
theorem dX0_jumps_61 : decode cX0_jumps 61 = .ok (.getfield 33, 3) := dk_180 0 33 (dk_at dksX0_jumps_2 14 rfl rfl)
theorem dX0_jumps_64 : decode cX0_jumps 64 = .ok (.getfield 254, 3) := dk_180 0 254 (dk_at dksX0_jumps_2 17 rfl rfl)
theorem dX0_jumps_67 : decode cX0_jumps 67 = .ok (.iload_n 2, 1) := dk_28 (dk_at dksX0_jumps_2 20 rfl rfl)
theorem dX0_jumps_68 : decode cX0_jumps 68 = .ok (.iaload, 1) := dk_46 (dk_at dksX0_jumps_2 21 rfl rfl)
theorem dX0_jumps_69 : decode cX0_jumps 69 = .ok (.i2l, 1) := dk_133 (dk_at dksX0_jumps_2 22 rfl rfl)
theorem dX0_jumps_70 : decode cX0_jumps 70 = .ok (.iload_n 3, 1) := dk_29 (dk_at dksX0_jumps_2 23 rfl rfl)
theorem dX0_jumps_71 : decode cX0_jumps 71 = .ok (.invokestatic 247, 3) := dk_184 0 247 (dk_at dksX0_jumps_3 0 rfl rfl)
theorem dX0_jumps_74 : decode cX0_jumps 74 = .ok (.goto 6, 3) := dk_167 0 6 (dk_at dksX0_jumps_3 3 rfl rfl)
theorem dX0_jumps_77 : decode cX0_jumps 77 = .ok (.ldc2_w 236, 3) := dk_20 0 236 (dk_at dksX0_jumps_3 6 rfl rfl)
theorem dX0_jumps_80 : decode cX0_jumps 80 = .ok (.lreturn, 1) := dk_173 (dk_at dksX0_jumps_3 9 rfl rfl)
theorem dX0_jumps_81 : decode cX0_jumps 81 = .ok (.astore 4, 2) := dk_58 4 (dk_at dksX0_jumps_3 10 rfl rfl)
theorem dX0_jumps_83 : decode cX0_jumps 83 = .ok (.ldc2_w 236, 3) := dk_20 0 236 (dk_at dksX0_jumps_3 12 rfl rfl)
theorem dX0_jumps_86 : decode cX0_jumps 86 = .ok (.lreturn, 1) := dk_173 (dk_at dksX0_jumps_3 15 rfl rfl)
abbrev cX0_lacks : ByteArray := prog_1_method_29_code
def yX0_lacks : MethodName := ⟨RX0, "lacks", "(III)I"⟩
def dkwX0_lacks_1 : List UInt8 := [42, 180, 0, 22, 27, 50, 182, 0, 146, 28, 29, 182, 1, 1, 172, 58, 4, 16, 253, 172]
abbrev dktX0_lacks_1 : List UInt8 := dkwX0_lacks_1 ++ []
def dkwX0_lacks_0 : List UInt8 := [27, 184, 0, 98, 154, 0, 5, 2, 172, 28, 29, 184, 0, 212, 154, 0, 6, 16, 254, 172, 42, 180, 0, 33]
abbrev dktX0_lacks_0 : List UInt8 := dkwX0_lacks_0 ++ dktX0_lacks_1
theorem dksX0_lacks_0 : cX0_lacks.data.toList.drop 0 = dktX0_lacks_0 := by decide +kernel
theorem dksX0_lacks_1 : cX0_lacks.data.toList.drop 24 = dktX0_lacks_1 := dk_seg dksX0_lacks_0 24 rfl rfl
theorem dX0_lacks_0 : decode cX0_lacks 0 = .ok (.iload_n 1, 1) := dk_27 (dk_at dksX0_lacks_0 0 rfl rfl)
theorem dX0_lacks_1 : decode cX0_lacks 1 = .ok (.invokestatic 98, 3) := dk_184 0 98 (dk_at dksX0_lacks_0 1 rfl rfl)
theorem dX0_lacks_4 : decode cX0_lacks 4 = .ok (.ifCond .ne 5, 3) := dk_154 0 5 (dk_at dksX0_lacks_0 4 rfl rfl)
theorem dX0_lacks_7 : decode cX0_lacks 7 = .ok (.iconst (-1), 1) := dk_2 (dk_at dksX0_lacks_0 7 rfl rfl)
theorem dX0_lacks_8 : decode cX0_lacks 8 = .ok (.ireturn, 1) := dk_172 (dk_at dksX0_lacks_0 8 rfl rfl)
theorem dX0_lacks_9 : decode cX0_lacks 9 = .ok (.iload_n 2, 1) := dk_28 (dk_at dksX0_lacks_0 9 rfl rfl)
theorem dX0_lacks_10 : decode cX0_lacks 10 = .ok (.iload_n 3, 1) := dk_29 (dk_at dksX0_lacks_0 10 rfl rfl)
theorem dX0_lacks_11 : decode cX0_lacks 11 = .ok (.invokestatic 212, 3) := dk_184 0 212 (dk_at dksX0_lacks_0 11 rfl rfl)
theorem dX0_lacks_14 : decode cX0_lacks 14 = .ok (.ifCond .ne 6, 3) := dk_154 0 6 (dk_at dksX0_lacks_0 14 rfl rfl)
theorem dX0_lacks_17 : decode cX0_lacks 17 = .ok (.bipush (-2), 2) := dk_16 254 (dk_at dksX0_lacks_0 17 rfl rfl)
theorem dX0_lacks_19 : decode cX0_lacks 19 = .ok (.ireturn, 1) := dk_172 (dk_at dksX0_lacks_0 19 rfl rfl)
theorem dX0_lacks_20 : decode cX0_lacks 20 = .ok (.aload_n 0, 1) := dk_42 (dk_at dksX0_lacks_0 20 rfl rfl)
theorem dX0_lacks_21 : decode cX0_lacks 21 = .ok (.getfield 33, 3) := dk_180 0 33 (dk_at dksX0_lacks_0 21 rfl rfl)
theorem dX0_lacks_24 : decode cX0_lacks 24 = .ok (.aload_n 0, 1) := dk_42 (dk_at dksX0_lacks_1 0 rfl rfl)
theorem dX0_lacks_25 : decode cX0_lacks 25 = .ok (.getfield 22, 3) := dk_180 0 22 (dk_at dksX0_lacks_1 1 rfl rfl)
theorem dX0_lacks_28 : decode cX0_lacks 28 = .ok (.iload_n 1, 1) := dk_27 (dk_at dksX0_lacks_1 4 rfl rfl)
theorem dX0_lacks_29 : decode cX0_lacks 29 = .ok (.aaload, 1) := dk_50 (dk_at dksX0_lacks_1 5 rfl rfl)
theorem dX0_lacks_30 : decode cX0_lacks 30 = .ok (.invokevirtual 146, 3) := dk_182 0 146 (dk_at dksX0_lacks_1 6 rfl rfl)
theorem dX0_lacks_33 : decode cX0_lacks 33 = .ok (.iload_n 2, 1) := dk_28 (dk_at dksX0_lacks_1 9 rfl rfl)
theorem dX0_lacks_34 : decode cX0_lacks 34 = .ok (.iload_n 3, 1) := dk_29 (dk_at dksX0_lacks_1 10 rfl rfl)
theorem dX0_lacks_35 : decode cX0_lacks 35 = .ok (.invokevirtual 257, 3) := dk_182 1 1 (dk_at dksX0_lacks_1 11 rfl rfl)
theorem dX0_lacks_38 : decode cX0_lacks 38 = .ok (.ireturn, 1) := dk_172 (dk_at dksX0_lacks_1 14 rfl rfl)
theorem dX0_lacks_39 : decode cX0_lacks 39 = .ok (.astore 4, 2) := dk_58 4 (dk_at dksX0_lacks_1 15 rfl rfl)
theorem dX0_lacks_41 : decode cX0_lacks 41 = .ok (.bipush (-3), 2) := dk_16 253 (dk_at dksX0_lacks_1 17 rfl rfl)
theorem dX0_lacks_43 : decode cX0_lacks 43 = .ok (.ireturn, 1) := dk_172 (dk_at dksX0_lacks_1 19 rfl rfl)
abbrev cX0_height : ByteArray := prog_1_method_31_code
def yX0_height : MethodName := ⟨RX0, "height", "(III)I"⟩
def dkwX0_height_8 : List UInt8 := [161, 0, 8, 16, 251, 167, 0, 12, 42, 180, 0, 54, 180, 1, 25, 29, 46, 172]
abbrev dktX0_height_8 : List UInt8 := dkwX0_height_8 ++ []
def dkwX0_height_7 : List UInt8 := [180, 0, 22, 27, 50, 28, 16, 10, 100, 182, 1, 21, 42, 180, 0, 54, 180, 1, 25, 29, 46, 17, 39, 15]
abbrev dktX0_height_7 : List UInt8 := dkwX0_height_7 ++ dktX0_height_8
def dkwX0_height_6 : List UInt8 := [182, 1, 4, 42, 180, 0, 51, 42, 180, 0, 22, 4, 50, 182, 1, 4, 182, 1, 11, 167, 0, 17, 42, 42]
abbrev dktX0_height_6 : List UInt8 := dkwX0_height_6 ++ dktX0_height_7
def dkwX0_height_5 : List UInt8 := [182, 1, 4, 182, 1, 18, 167, 0, 53, 42, 180, 0, 54, 42, 180, 0, 47, 42, 180, 0, 22, 3, 50]
abbrev dktX0_height_5 : List UInt8 := dkwX0_height_5 ++ dktX0_height_6
def dkwX0_height_4 : List UInt8 := [180, 0, 47, 42, 180, 0, 22, 3, 50, 182, 1, 4, 42, 180, 0, 51, 42, 180, 0, 22, 4, 50]
abbrev dktX0_height_4 : List UInt8 := dkwX0_height_4 ++ dktX0_height_5
def dkwX0_height_3 : List UInt8 := [42, 180, 0, 54, 42, 180, 0, 22, 27, 50, 182, 1, 4, 87, 167, 0, 89, 42, 180, 0, 54, 42]
abbrev dktX0_height_3 : List UInt8 := dkwX0_height_3 ++ dktX0_height_4
def dkwX0_height_2 : List UInt8 := [170, 0, 0, 0, 114, 0, 0, 0, 0, 0, 0, 0, 2, 0, 0, 0, 25, 0, 0, 0, 42, 0, 0, 0, 78]
abbrev dktX0_height_2 : List UInt8 := dkwX0_height_2 ++ dktX0_height_3
def dkwX0_height_1 : List UInt8 := [154, 0, 5, 2, 172, 29, 3, 16, 60, 184, 0, 5, 154, 0, 6, 16, 254, 172, 28]
abbrev dktX0_height_1 : List UInt8 := dkwX0_height_1 ++ dktX0_height_2
def dkwX0_height_0 : List UInt8 := [27, 184, 0, 98, 153, 0, 23, 28, 3, 5, 184, 0, 5, 154, 0, 16, 28, 16, 10, 16, 16, 184, 0, 5]
abbrev dktX0_height_0 : List UInt8 := dkwX0_height_0 ++ dktX0_height_1
theorem dksX0_height_0 : cX0_height.data.toList.drop 0 = dktX0_height_0 := by decide +kernel
theorem dksX0_height_1 : cX0_height.data.toList.drop 24 = dktX0_height_1 := dk_seg dksX0_height_0 24 rfl rfl
theorem dksX0_height_2 : cX0_height.data.toList.drop 43 = dktX0_height_2 := dk_seg dksX0_height_1 19 rfl rfl
theorem dksX0_height_3 : cX0_height.data.toList.drop 68 = dktX0_height_3 := dk_seg dksX0_height_2 25 rfl rfl
theorem dksX0_height_4 : cX0_height.data.toList.drop 90 = dktX0_height_4 := dk_seg dksX0_height_3 22 rfl rfl
theorem dksX0_height_5 : cX0_height.data.toList.drop 112 = dktX0_height_5 := dk_seg dksX0_height_4 22 rfl rfl
theorem dksX0_height_6 : cX0_height.data.toList.drop 135 = dktX0_height_6 := dk_seg dksX0_height_5 23 rfl rfl
theorem dksX0_height_7 : cX0_height.data.toList.drop 159 = dktX0_height_7 := dk_seg dksX0_height_6 24 rfl rfl
theorem dksX0_height_8 : cX0_height.data.toList.drop 183 = dktX0_height_8 := dk_seg dksX0_height_7 24 rfl rfl
theorem dX0_height_0 : decode cX0_height 0 = .ok (.iload_n 1, 1) := dk_27 (dk_at dksX0_height_0 0 rfl rfl)
theorem dX0_height_1 : decode cX0_height 1 = .ok (.invokestatic 98, 3) := dk_184 0 98 (dk_at dksX0_height_0 1 rfl rfl)
theorem dX0_height_4 : decode cX0_height 4 = .ok (.ifCond .eq 23, 3) := dk_153 0 23 (dk_at dksX0_height_0 4 rfl rfl)
theorem dX0_height_7 : decode cX0_height 7 = .ok (.iload_n 2, 1) := dk_28 (dk_at dksX0_height_0 7 rfl rfl)
theorem dX0_height_8 : decode cX0_height 8 = .ok (.iconst 0, 1) := dk_3 (dk_at dksX0_height_0 8 rfl rfl)
theorem dX0_height_9 : decode cX0_height 9 = .ok (.iconst 2, 1) := dk_5 (dk_at dksX0_height_0 9 rfl rfl)
theorem dX0_height_10 : decode cX0_height 10 = .ok (.invokestatic 5, 3) := dk_184 0 5 (dk_at dksX0_height_0 10 rfl rfl)
theorem dX0_height_13 : decode cX0_height 13 = .ok (.ifCond .ne 16, 3) := dk_154 0 16 (dk_at dksX0_height_0 13 rfl rfl)
theorem dX0_height_16 : decode cX0_height 16 = .ok (.iload_n 2, 1) := dk_28 (dk_at dksX0_height_0 16 rfl rfl)
theorem dX0_height_17 : decode cX0_height 17 = .ok (.bipush 10, 2) := dk_16 10 (dk_at dksX0_height_0 17 rfl rfl)
theorem dX0_height_19 : decode cX0_height 19 = .ok (.bipush 16, 2) := dk_16 16 (dk_at dksX0_height_0 19 rfl rfl)
theorem dX0_height_21 : decode cX0_height 21 = .ok (.invokestatic 5, 3) := dk_184 0 5 (dk_at dksX0_height_0 21 rfl rfl)
theorem dX0_height_24 : decode cX0_height 24 = .ok (.ifCond .ne 5, 3) := dk_154 0 5 (dk_at dksX0_height_1 0 rfl rfl)
theorem dX0_height_27 : decode cX0_height 27 = .ok (.iconst (-1), 1) := dk_2 (dk_at dksX0_height_1 3 rfl rfl)
theorem dX0_height_28 : decode cX0_height 28 = .ok (.ireturn, 1) := dk_172 (dk_at dksX0_height_1 4 rfl rfl)
theorem dX0_height_29 : decode cX0_height 29 = .ok (.iload_n 3, 1) := dk_29 (dk_at dksX0_height_1 5 rfl rfl)
theorem dX0_height_30 : decode cX0_height 30 = .ok (.iconst 0, 1) := dk_3 (dk_at dksX0_height_1 6 rfl rfl)
theorem dX0_height_31 : decode cX0_height 31 = .ok (.bipush 60, 2) := dk_16 60 (dk_at dksX0_height_1 7 rfl rfl)
theorem dX0_height_33 : decode cX0_height 33 = .ok (.invokestatic 5, 3) := dk_184 0 5 (dk_at dksX0_height_1 9 rfl rfl)
theorem dX0_height_36 : decode cX0_height 36 = .ok (.ifCond .ne 6, 3) := dk_154 0 6 (dk_at dksX0_height_1 12 rfl rfl)
theorem dX0_height_39 : decode cX0_height 39 = .ok (.bipush (-2), 2) := dk_16 254 (dk_at dksX0_height_1 15 rfl rfl)
theorem dX0_height_41 : decode cX0_height 41 = .ok (.ireturn, 1) := dk_172 (dk_at dksX0_height_1 17 rfl rfl)
theorem dX0_height_42 : decode cX0_height 42 = .ok (.iload_n 2, 1) := dk_28 (dk_at dksX0_height_1 18 rfl rfl)
theorem dX0_height_43 : decode cX0_height 43 = .ok (.tableswitch 114 0 2 #[25, 42, 78], 25) := by decide +kernel
theorem dX0_height_68 : decode cX0_height 68 = .ok (.aload_n 0, 1) := dk_42 (dk_at dksX0_height_3 0 rfl rfl)
theorem dX0_height_69 : decode cX0_height 69 = .ok (.getfield 54, 3) := dk_180 0 54 (dk_at dksX0_height_3 1 rfl rfl)
theorem dX0_height_72 : decode cX0_height 72 = .ok (.aload_n 0, 1) := dk_42 (dk_at dksX0_height_3 4 rfl rfl)
theorem dX0_height_73 : decode cX0_height 73 = .ok (.getfield 22, 3) := dk_180 0 22 (dk_at dksX0_height_3 5 rfl rfl)
theorem dX0_height_76 : decode cX0_height 76 = .ok (.iload_n 1, 1) := dk_27 (dk_at dksX0_height_3 8 rfl rfl)
theorem dX0_height_77 : decode cX0_height 77 = .ok (.aaload, 1) := dk_50 (dk_at dksX0_height_3 9 rfl rfl)
theorem dX0_height_78 : decode cX0_height 78 = .ok (.invokevirtual 260, 3) := dk_182 1 4 (dk_at dksX0_height_3 10 rfl rfl)
theorem dX0_height_81 : decode cX0_height 81 = .ok (.pop, 1) := dk_87 (dk_at dksX0_height_3 13 rfl rfl)
theorem dX0_height_82 : decode cX0_height 82 = .ok (.goto 89, 3) := dk_167 0 89 (dk_at dksX0_height_3 14 rfl rfl)
theorem dX0_height_85 : decode cX0_height 85 = .ok (.aload_n 0, 1) := dk_42 (dk_at dksX0_height_3 17 rfl rfl)
theorem dX0_height_86 : decode cX0_height 86 = .ok (.getfield 54, 3) := dk_180 0 54 (dk_at dksX0_height_3 18 rfl rfl)
theorem dX0_height_89 : decode cX0_height 89 = .ok (.aload_n 0, 1) := dk_42 (dk_at dksX0_height_3 21 rfl rfl)
theorem dX0_height_90 : decode cX0_height 90 = .ok (.getfield 47, 3) := dk_180 0 47 (dk_at dksX0_height_4 0 rfl rfl)
theorem dX0_height_93 : decode cX0_height 93 = .ok (.aload_n 0, 1) := dk_42 (dk_at dksX0_height_4 3 rfl rfl)
theorem dX0_height_94 : decode cX0_height 94 = .ok (.getfield 22, 3) := dk_180 0 22 (dk_at dksX0_height_4 4 rfl rfl)
theorem dX0_height_97 : decode cX0_height 97 = .ok (.iconst 0, 1) := dk_3 (dk_at dksX0_height_4 7 rfl rfl)
theorem dX0_height_98 : decode cX0_height 98 = .ok (.aaload, 1) := dk_50 (dk_at dksX0_height_4 8 rfl rfl)
theorem dX0_height_99 : decode cX0_height 99 = .ok (.invokevirtual 260, 3) := dk_182 1 4 (dk_at dksX0_height_4 9 rfl rfl)
theorem dX0_height_102 : decode cX0_height 102 = .ok (.aload_n 0, 1) := dk_42 (dk_at dksX0_height_4 12 rfl rfl)
theorem dX0_height_103 : decode cX0_height 103 = .ok (.getfield 51, 3) := dk_180 0 51 (dk_at dksX0_height_4 13 rfl rfl)
theorem dX0_height_106 : decode cX0_height 106 = .ok (.aload_n 0, 1) := dk_42 (dk_at dksX0_height_4 16 rfl rfl)
theorem dX0_height_107 : decode cX0_height 107 = .ok (.getfield 22, 3) := dk_180 0 22 (dk_at dksX0_height_4 17 rfl rfl)
theorem dX0_height_110 : decode cX0_height 110 = .ok (.iconst 1, 1) := dk_4 (dk_at dksX0_height_4 20 rfl rfl)
theorem dX0_height_111 : decode cX0_height 111 = .ok (.aaload, 1) := dk_50 (dk_at dksX0_height_4 21 rfl rfl)
theorem dX0_height_112 : decode cX0_height 112 = .ok (.invokevirtual 260, 3) := dk_182 1 4 (dk_at dksX0_height_5 0 rfl rfl)
theorem dX0_height_115 : decode cX0_height 115 = .ok (.invokevirtual 274, 3) := dk_182 1 18 (dk_at dksX0_height_5 3 rfl rfl)
theorem dX0_height_118 : decode cX0_height 118 = .ok (.goto 53, 3) := dk_167 0 53 (dk_at dksX0_height_5 6 rfl rfl)
theorem dX0_height_121 : decode cX0_height 121 = .ok (.aload_n 0, 1) := dk_42 (dk_at dksX0_height_5 9 rfl rfl)
theorem dX0_height_122 : decode cX0_height 122 = .ok (.getfield 54, 3) := dk_180 0 54 (dk_at dksX0_height_5 10 rfl rfl)
theorem dX0_height_125 : decode cX0_height 125 = .ok (.aload_n 0, 1) := dk_42 (dk_at dksX0_height_5 13 rfl rfl)
theorem dX0_height_126 : decode cX0_height 126 = .ok (.getfield 47, 3) := dk_180 0 47 (dk_at dksX0_height_5 14 rfl rfl)
theorem dX0_height_129 : decode cX0_height 129 = .ok (.aload_n 0, 1) := dk_42 (dk_at dksX0_height_5 17 rfl rfl)
theorem dX0_height_130 : decode cX0_height 130 = .ok (.getfield 22, 3) := dk_180 0 22 (dk_at dksX0_height_5 18 rfl rfl)
theorem dX0_height_133 : decode cX0_height 133 = .ok (.iconst 0, 1) := dk_3 (dk_at dksX0_height_5 21 rfl rfl)
theorem dX0_height_134 : decode cX0_height 134 = .ok (.aaload, 1) := dk_50 (dk_at dksX0_height_5 22 rfl rfl)
theorem dX0_height_135 : decode cX0_height 135 = .ok (.invokevirtual 260, 3) := dk_182 1 4 (dk_at dksX0_height_6 0 rfl rfl)
theorem dX0_height_138 : decode cX0_height 138 = .ok (.aload_n 0, 1) := dk_42 (dk_at dksX0_height_6 3 rfl rfl)
theorem dX0_height_139 : decode cX0_height 139 = .ok (.getfield 51, 3) := dk_180 0 51 (dk_at dksX0_height_6 4 rfl rfl)
theorem dX0_height_142 : decode cX0_height 142 = .ok (.aload_n 0, 1) := dk_42 (dk_at dksX0_height_6 7 rfl rfl)
theorem dX0_height_143 : decode cX0_height 143 = .ok (.getfield 22, 3) := dk_180 0 22 (dk_at dksX0_height_6 8 rfl rfl)
theorem dX0_height_146 : decode cX0_height 146 = .ok (.iconst 1, 1) := dk_4 (dk_at dksX0_height_6 11 rfl rfl)
theorem dX0_height_147 : decode cX0_height 147 = .ok (.aaload, 1) := dk_50 (dk_at dksX0_height_6 12 rfl rfl)
theorem dX0_height_148 : decode cX0_height 148 = .ok (.invokevirtual 260, 3) := dk_182 1 4 (dk_at dksX0_height_6 13 rfl rfl)
theorem dX0_height_151 : decode cX0_height 151 = .ok (.invokevirtual 267, 3) := dk_182 1 11 (dk_at dksX0_height_6 16 rfl rfl)
theorem dX0_height_154 : decode cX0_height 154 = .ok (.goto 17, 3) := dk_167 0 17 (dk_at dksX0_height_6 19 rfl rfl)
theorem dX0_height_157 : decode cX0_height 157 = .ok (.aload_n 0, 1) := dk_42 (dk_at dksX0_height_6 22 rfl rfl)
theorem dX0_height_158 : decode cX0_height 158 = .ok (.aload_n 0, 1) := dk_42 (dk_at dksX0_height_6 23 rfl rfl)
theorem dX0_height_159 : decode cX0_height 159 = .ok (.getfield 22, 3) := dk_180 0 22 (dk_at dksX0_height_7 0 rfl rfl)
theorem dX0_height_162 : decode cX0_height 162 = .ok (.iload_n 1, 1) := dk_27 (dk_at dksX0_height_7 3 rfl rfl)
theorem dX0_height_163 : decode cX0_height 163 = .ok (.aaload, 1) := dk_50 (dk_at dksX0_height_7 4 rfl rfl)
theorem dX0_height_164 : decode cX0_height 164 = .ok (.iload_n 2, 1) := dk_28 (dk_at dksX0_height_7 5 rfl rfl)
theorem dX0_height_165 : decode cX0_height 165 = .ok (.bipush 10, 2) := dk_16 10 (dk_at dksX0_height_7 6 rfl rfl)
theorem dX0_height_167 : decode cX0_height 167 = .ok (.isub, 1) := dk_100 (dk_at dksX0_height_7 8 rfl rfl)
theorem dX0_height_168 : decode cX0_height 168 = .ok (.invokevirtual 277, 3) := dk_182 1 21 (dk_at dksX0_height_7 9 rfl rfl)
theorem dX0_height_171 : decode cX0_height 171 = .ok (.aload_n 0, 1) := dk_42 (dk_at dksX0_height_7 12 rfl rfl)
theorem dX0_height_172 : decode cX0_height 172 = .ok (.getfield 54, 3) := dk_180 0 54 (dk_at dksX0_height_7 13 rfl rfl)
theorem dX0_height_175 : decode cX0_height 175 = .ok (.getfield 281, 3) := dk_180 1 25 (dk_at dksX0_height_7 16 rfl rfl)
theorem dX0_height_178 : decode cX0_height 178 = .ok (.iload_n 3, 1) := dk_29 (dk_at dksX0_height_7 19 rfl rfl)
theorem dX0_height_179 : decode cX0_height 179 = .ok (.iaload, 1) := dk_46 (dk_at dksX0_height_7 20 rfl rfl)
theorem dX0_height_180 : decode cX0_height 180 = .ok (.sipush 9999, 3) := dk_17 39 15 (dk_at dksX0_height_7 21 rfl rfl)
theorem dX0_height_183 : decode cX0_height 183 = .ok (.if_icmp .lt 8, 3) := dk_161 0 8 (dk_at dksX0_height_8 0 rfl rfl)
theorem dX0_height_186 : decode cX0_height 186 = .ok (.bipush (-5), 2) := dk_16 251 (dk_at dksX0_height_8 3 rfl rfl)
theorem dX0_height_188 : decode cX0_height 188 = .ok (.goto 12, 3) := dk_167 0 12 (dk_at dksX0_height_8 5 rfl rfl)
theorem dX0_height_191 : decode cX0_height 191 = .ok (.aload_n 0, 1) := dk_42 (dk_at dksX0_height_8 8 rfl rfl)
theorem dX0_height_192 : decode cX0_height 192 = .ok (.getfield 54, 3) := dk_180 0 54 (dk_at dksX0_height_8 9 rfl rfl)
theorem dX0_height_195 : decode cX0_height 195 = .ok (.getfield 281, 3) := dk_180 1 25 (dk_at dksX0_height_8 12 rfl rfl)
theorem dX0_height_198 : decode cX0_height 198 = .ok (.iload_n 3, 1) := dk_29 (dk_at dksX0_height_8 15 rfl rfl)
theorem dX0_height_199 : decode cX0_height 199 = .ok (.iaload, 1) := dk_46 (dk_at dksX0_height_8 16 rfl rfl)
theorem dX0_height_200 : decode cX0_height 200 = .ok (.ireturn, 1) := dk_172 (dk_at dksX0_height_8 17 rfl rfl)
abbrev cX0_powers : ByteArray := prog_1_method_30_code
def yX0_powers : MethodName := ⟨RX0, "powers", "(LTermIdeals$Ideal;I)V"⟩
def dkwX0_powers_2 : List UInt8 := [182, 1, 15, 132, 3, 1, 167, 255, 222, 177]
abbrev dktX0_powers_2 : List UInt8 := dkwX0_powers_2 ++ []
def dkwX0_powers_1 : List UInt8 := [180, 0, 57, 42, 180, 0, 54, 42, 180, 0, 47, 182, 1, 11, 42, 180, 0, 54, 42, 180, 0, 57]
abbrev dktX0_powers_1 : List UInt8 := dkwX0_powers_1 ++ dktX0_powers_2
def dkwX0_powers_0 : List UInt8 := [42, 180, 0, 47, 43, 182, 1, 4, 87, 42, 180, 0, 54, 182, 1, 8, 3, 62, 29, 28, 162, 0, 35, 42]
abbrev dktX0_powers_0 : List UInt8 := dkwX0_powers_0 ++ dktX0_powers_1
theorem dksX0_powers_0 : cX0_powers.data.toList.drop 0 = dktX0_powers_0 := by decide +kernel
theorem dksX0_powers_1 : cX0_powers.data.toList.drop 24 = dktX0_powers_1 := dk_seg dksX0_powers_0 24 rfl rfl
theorem dksX0_powers_2 : cX0_powers.data.toList.drop 46 = dktX0_powers_2 := dk_seg dksX0_powers_1 22 rfl rfl
theorem dX0_powers_0 : decode cX0_powers 0 = .ok (.aload_n 0, 1) := dk_42 (dk_at dksX0_powers_0 0 rfl rfl)
theorem dX0_powers_1 : decode cX0_powers 1 = .ok (.getfield 47, 3) := dk_180 0 47 (dk_at dksX0_powers_0 1 rfl rfl)
theorem dX0_powers_4 : decode cX0_powers 4 = .ok (.aload_n 1, 1) := dk_43 (dk_at dksX0_powers_0 4 rfl rfl)
theorem dX0_powers_5 : decode cX0_powers 5 = .ok (.invokevirtual 260, 3) := dk_182 1 4 (dk_at dksX0_powers_0 5 rfl rfl)
theorem dX0_powers_8 : decode cX0_powers 8 = .ok (.pop, 1) := dk_87 (dk_at dksX0_powers_0 8 rfl rfl)
theorem dX0_powers_9 : decode cX0_powers 9 = .ok (.aload_n 0, 1) := dk_42 (dk_at dksX0_powers_0 9 rfl rfl)
theorem dX0_powers_10 : decode cX0_powers 10 = .ok (.getfield 54, 3) := dk_180 0 54 (dk_at dksX0_powers_0 10 rfl rfl)
theorem dX0_powers_13 : decode cX0_powers 13 = .ok (.invokevirtual 264, 3) := dk_182 1 8 (dk_at dksX0_powers_0 13 rfl rfl)
theorem dX0_powers_16 : decode cX0_powers 16 = .ok (.iconst 0, 1) := dk_3 (dk_at dksX0_powers_0 16 rfl rfl)
theorem dX0_powers_17 : decode cX0_powers 17 = .ok (.istore_n 3, 1) := dk_62 (dk_at dksX0_powers_0 17 rfl rfl)
theorem dX0_powers_18 : decode cX0_powers 18 = .ok (.iload_n 3, 1) := dk_29 (dk_at dksX0_powers_0 18 rfl rfl)
theorem dX0_powers_19 : decode cX0_powers 19 = .ok (.iload_n 2, 1) := dk_28 (dk_at dksX0_powers_0 19 rfl rfl)
theorem dX0_powers_20 : decode cX0_powers 20 = .ok (.if_icmp .ge 35, 3) := dk_162 0 35 (dk_at dksX0_powers_0 20 rfl rfl)
theorem dX0_powers_23 : decode cX0_powers 23 = .ok (.aload_n 0, 1) := dk_42 (dk_at dksX0_powers_0 23 rfl rfl)
theorem dX0_powers_24 : decode cX0_powers 24 = .ok (.getfield 57, 3) := dk_180 0 57 (dk_at dksX0_powers_1 0 rfl rfl)
theorem dX0_powers_27 : decode cX0_powers 27 = .ok (.aload_n 0, 1) := dk_42 (dk_at dksX0_powers_1 3 rfl rfl)
theorem dX0_powers_28 : decode cX0_powers 28 = .ok (.getfield 54, 3) := dk_180 0 54 (dk_at dksX0_powers_1 4 rfl rfl)
theorem dX0_powers_31 : decode cX0_powers 31 = .ok (.aload_n 0, 1) := dk_42 (dk_at dksX0_powers_1 7 rfl rfl)
theorem dX0_powers_32 : decode cX0_powers 32 = .ok (.getfield 47, 3) := dk_180 0 47 (dk_at dksX0_powers_1 8 rfl rfl)
theorem dX0_powers_35 : decode cX0_powers 35 = .ok (.invokevirtual 267, 3) := dk_182 1 11 (dk_at dksX0_powers_1 11 rfl rfl)
theorem dX0_powers_38 : decode cX0_powers 38 = .ok (.aload_n 0, 1) := dk_42 (dk_at dksX0_powers_1 14 rfl rfl)
theorem dX0_powers_39 : decode cX0_powers 39 = .ok (.getfield 54, 3) := dk_180 0 54 (dk_at dksX0_powers_1 15 rfl rfl)
theorem dX0_powers_42 : decode cX0_powers 42 = .ok (.aload_n 0, 1) := dk_42 (dk_at dksX0_powers_1 18 rfl rfl)
theorem dX0_powers_43 : decode cX0_powers 43 = .ok (.getfield 57, 3) := dk_180 0 57 (dk_at dksX0_powers_1 19 rfl rfl)
theorem dX0_powers_46 : decode cX0_powers 46 = .ok (.invokevirtual 271, 3) := dk_182 1 15 (dk_at dksX0_powers_2 0 rfl rfl)
theorem dX0_powers_49 : decode cX0_powers 49 = .ok (.iinc 3 1, 3) := dk_132 3 1 (dk_at dksX0_powers_2 3 rfl rfl)
theorem dX0_powers_52 : decode cX0_powers 52 = .ok (.goto (-34), 3) := dk_167 255 222 (dk_at dksX0_powers_2 6 rfl rfl)
theorem dX0_powers_55 : decode cX0_powers 55 = .ok (.return_, 1) := dk_177 (dk_at dksX0_powers_2 9 rfl rfl)
abbrev cX0_reduces : ByteArray := prog_1_method_35_code
def yX0_reduces : MethodName := ⟨RX0, "reduces", "(I)I"⟩
def dkwX0_reduces_2 : List UInt8 := [42, 182, 1, 40, 153, 0, 7, 4, 167, 0, 4, 3, 172, 42, 182, 1, 43, 172, 2, 172]
abbrev dktX0_reduces_2 : List UInt8 := dkwX0_reduces_2 ++ []
def dkwX0_reduces_1 : List UInt8 := [171, 0, 0, 0, 0, 0, 45, 0, 0, 0, 2, 0, 0, 0, 0, 0, 0, 0, 27, 0, 0, 0, 1, 0, 0, 0, 40]
abbrev dktX0_reduces_1 : List UInt8 := dkwX0_reduces_1 ++ dktX0_reduces_2
def dkwX0_reduces_0 : List UInt8 := [27]
abbrev dktX0_reduces_0 : List UInt8 := dkwX0_reduces_0 ++ dktX0_reduces_1
theorem dksX0_reduces_0 : cX0_reduces.data.toList.drop 0 = dktX0_reduces_0 := by decide +kernel
theorem dksX0_reduces_1 : cX0_reduces.data.toList.drop 1 = dktX0_reduces_1 := dk_seg dksX0_reduces_0 1 rfl rfl
theorem dksX0_reduces_2 : cX0_reduces.data.toList.drop 28 = dktX0_reduces_2 := dk_seg dksX0_reduces_1 27 rfl rfl
theorem dX0_reduces_0 : decode cX0_reduces 0 = .ok (.iload_n 1, 1) := dk_27 (dk_at dksX0_reduces_0 0 rfl rfl)
theorem dX0_reduces_1 : decode cX0_reduces 1 = .ok (.lookupswitch 45 #[(0, 27), (1, 40)], 27) := by decide +kernel
theorem dX0_reduces_28 : decode cX0_reduces 28 = .ok (.aload_n 0, 1) := dk_42 (dk_at dksX0_reduces_2 0 rfl rfl)
theorem dX0_reduces_29 : decode cX0_reduces 29 = .ok (.invokevirtual 296, 3) := dk_182 1 40 (dk_at dksX0_reduces_2 1 rfl rfl)
theorem dX0_reduces_32 : decode cX0_reduces 32 = .ok (.ifCond .eq 7, 3) := dk_153 0 7 (dk_at dksX0_reduces_2 4 rfl rfl)
theorem dX0_reduces_35 : decode cX0_reduces 35 = .ok (.iconst 1, 1) := dk_4 (dk_at dksX0_reduces_2 7 rfl rfl)
theorem dX0_reduces_36 : decode cX0_reduces 36 = .ok (.goto 4, 3) := dk_167 0 4 (dk_at dksX0_reduces_2 8 rfl rfl)
theorem dX0_reduces_39 : decode cX0_reduces 39 = .ok (.iconst 0, 1) := dk_3 (dk_at dksX0_reduces_2 11 rfl rfl)
theorem dX0_reduces_40 : decode cX0_reduces 40 = .ok (.ireturn, 1) := dk_172 (dk_at dksX0_reduces_2 12 rfl rfl)
theorem dX0_reduces_41 : decode cX0_reduces 41 = .ok (.aload_n 0, 1) := dk_42 (dk_at dksX0_reduces_2 13 rfl rfl)
theorem dX0_reduces_42 : decode cX0_reduces 42 = .ok (.invokevirtual 299, 3) := dk_182 1 43 (dk_at dksX0_reduces_2 14 rfl rfl)
theorem dX0_reduces_45 : decode cX0_reduces 45 = .ok (.ireturn, 1) := dk_172 (dk_at dksX0_reduces_2 17 rfl rfl)
theorem dX0_reduces_46 : decode cX0_reduces 46 = .ok (.iconst (-1), 1) := dk_2 (dk_at dksX0_reduces_2 18 rfl rfl)
theorem dX0_reduces_47 : decode cX0_reduces 47 = .ok (.ireturn, 1) := dk_172 (dk_at dksX0_reduces_2 19 rfl rfl)
abbrev cX0_isReduction : ByteArray := prog_1_method_32_code
def yX0_isReduction : MethodName := ⟨RX0, "isReduction", "()Z"⟩
def dkwX0_isReduction_6 : List UInt8 := [167, 255, 221, 4, 172]
abbrev dktX0_isReduction_6 : List UInt8 := dkwX0_isReduction_6 ++ []
def dkwX0_isReduction_5 : List UInt8 := [180, 0, 132, 28, 46, 43, 180, 0, 136, 28, 46, 182, 0, 143, 154, 0, 5, 3, 172, 132, 2, 1]
abbrev dktX0_isReduction_5 : List UInt8 := dkwX0_isReduction_5 ++ dktX0_isReduction_6
def dkwX0_isReduction_4 : List UInt8 := [87, 167, 0, 6, 77, 3, 172, 3, 61, 28, 43, 180, 0, 102, 162, 0, 33, 42, 180, 0, 33, 43]
abbrev dktX0_isReduction_4 : List UInt8 := dkwX0_isReduction_4 ++ dktX0_isReduction_5
def dkwX0_isReduction_3 : List UInt8 := [154, 0, 5, 3, 172, 132, 2, 1, 167, 255, 209, 42, 180, 0, 33, 42, 180, 0, 22, 3, 50, 182, 0, 146]
abbrev dktX0_isReduction_3 : List UInt8 := dkwX0_isReduction_3 ++ dktX0_isReduction_4
def dkwX0_isReduction_2 : List UInt8 := [180, 0, 22, 3, 50, 180, 0, 132, 28, 46, 42, 180, 0, 22, 3, 50, 180, 0, 136, 28, 46, 182, 0, 196]
abbrev dktX0_isReduction_2 : List UInt8 := dkwX0_isReduction_2 ++ dktX0_isReduction_3
def dkwX0_isReduction_1 : List UInt8 := [154, 0, 5, 3, 172, 3, 61, 28, 42, 180, 0, 22, 3, 50, 180, 0, 102, 162, 0, 40, 43, 42]
abbrev dktX0_isReduction_1 : List UInt8 := dkwX0_isReduction_1 ++ dktX0_isReduction_2
def dkwX0_isReduction_0 : List UInt8 := [42, 180, 0, 22, 4, 50, 76, 42, 180, 0, 22, 3, 50, 180, 0, 102, 153, 0, 10, 43, 180, 0, 102]
abbrev dktX0_isReduction_0 : List UInt8 := dkwX0_isReduction_0 ++ dktX0_isReduction_1
theorem dksX0_isReduction_0 : cX0_isReduction.data.toList.drop 0 = dktX0_isReduction_0 := by decide +kernel
theorem dksX0_isReduction_1 : cX0_isReduction.data.toList.drop 23 = dktX0_isReduction_1 := dk_seg dksX0_isReduction_0 23 rfl rfl
theorem dksX0_isReduction_2 : cX0_isReduction.data.toList.drop 45 = dktX0_isReduction_2 := dk_seg dksX0_isReduction_1 22 rfl rfl
theorem dksX0_isReduction_3 : cX0_isReduction.data.toList.drop 69 = dktX0_isReduction_3 := dk_seg dksX0_isReduction_2 24 rfl rfl
theorem dksX0_isReduction_4 : cX0_isReduction.data.toList.drop 93 = dktX0_isReduction_4 := dk_seg dksX0_isReduction_3 24 rfl rfl
theorem dksX0_isReduction_5 : cX0_isReduction.data.toList.drop 115 = dktX0_isReduction_5 := dk_seg dksX0_isReduction_4 22 rfl rfl
theorem dksX0_isReduction_6 : cX0_isReduction.data.toList.drop 137 = dktX0_isReduction_6 := dk_seg dksX0_isReduction_5 22 rfl rfl
theorem dX0_isReduction_0 : decode cX0_isReduction 0 = .ok (.aload_n 0, 1) := dk_42 (dk_at dksX0_isReduction_0 0 rfl rfl)
theorem dX0_isReduction_1 : decode cX0_isReduction 1 = .ok (.getfield 22, 3) := dk_180 0 22 (dk_at dksX0_isReduction_0 1 rfl rfl)
theorem dX0_isReduction_4 : decode cX0_isReduction 4 = .ok (.iconst 1, 1) := dk_4 (dk_at dksX0_isReduction_0 4 rfl rfl)
theorem dX0_isReduction_5 : decode cX0_isReduction 5 = .ok (.aaload, 1) := dk_50 (dk_at dksX0_isReduction_0 5 rfl rfl)
theorem dX0_isReduction_6 : decode cX0_isReduction 6 = .ok (.astore_n 1, 1) := dk_76 (dk_at dksX0_isReduction_0 6 rfl rfl)
theorem dX0_isReduction_7 : decode cX0_isReduction 7 = .ok (.aload_n 0, 1) := dk_42 (dk_at dksX0_isReduction_0 7 rfl rfl)
theorem dX0_isReduction_8 : decode cX0_isReduction 8 = .ok (.getfield 22, 3) := dk_180 0 22 (dk_at dksX0_isReduction_0 8 rfl rfl)
theorem dX0_isReduction_11 : decode cX0_isReduction 11 = .ok (.iconst 0, 1) := dk_3 (dk_at dksX0_isReduction_0 11 rfl rfl)
theorem dX0_isReduction_12 : decode cX0_isReduction 12 = .ok (.aaload, 1) := dk_50 (dk_at dksX0_isReduction_0 12 rfl rfl)
theorem dX0_isReduction_13 : decode cX0_isReduction 13 = .ok (.getfield 102, 3) := dk_180 0 102 (dk_at dksX0_isReduction_0 13 rfl rfl)
theorem dX0_isReduction_16 : decode cX0_isReduction 16 = .ok (.ifCond .eq 10, 3) := dk_153 0 10 (dk_at dksX0_isReduction_0 16 rfl rfl)
theorem dX0_isReduction_19 : decode cX0_isReduction 19 = .ok (.aload_n 1, 1) := dk_43 (dk_at dksX0_isReduction_0 19 rfl rfl)
theorem dX0_isReduction_20 : decode cX0_isReduction 20 = .ok (.getfield 102, 3) := dk_180 0 102 (dk_at dksX0_isReduction_0 20 rfl rfl)
theorem dX0_isReduction_23 : decode cX0_isReduction 23 = .ok (.ifCond .ne 5, 3) := dk_154 0 5 (dk_at dksX0_isReduction_1 0 rfl rfl)
theorem dX0_isReduction_26 : decode cX0_isReduction 26 = .ok (.iconst 0, 1) := dk_3 (dk_at dksX0_isReduction_1 3 rfl rfl)
theorem dX0_isReduction_27 : decode cX0_isReduction 27 = .ok (.ireturn, 1) := dk_172 (dk_at dksX0_isReduction_1 4 rfl rfl)
theorem dX0_isReduction_28 : decode cX0_isReduction 28 = .ok (.iconst 0, 1) := dk_3 (dk_at dksX0_isReduction_1 5 rfl rfl)
theorem dX0_isReduction_29 : decode cX0_isReduction 29 = .ok (.istore_n 2, 1) := dk_61 (dk_at dksX0_isReduction_1 6 rfl rfl)
theorem dX0_isReduction_30 : decode cX0_isReduction 30 = .ok (.iload_n 2, 1) := dk_28 (dk_at dksX0_isReduction_1 7 rfl rfl)
theorem dX0_isReduction_31 : decode cX0_isReduction 31 = .ok (.aload_n 0, 1) := dk_42 (dk_at dksX0_isReduction_1 8 rfl rfl)
theorem dX0_isReduction_32 : decode cX0_isReduction 32 = .ok (.getfield 22, 3) := dk_180 0 22 (dk_at dksX0_isReduction_1 9 rfl rfl)
theorem dX0_isReduction_35 : decode cX0_isReduction 35 = .ok (.iconst 0, 1) := dk_3 (dk_at dksX0_isReduction_1 12 rfl rfl)
theorem dX0_isReduction_36 : decode cX0_isReduction 36 = .ok (.aaload, 1) := dk_50 (dk_at dksX0_isReduction_1 13 rfl rfl)
theorem dX0_isReduction_37 : decode cX0_isReduction 37 = .ok (.getfield 102, 3) := dk_180 0 102 (dk_at dksX0_isReduction_1 14 rfl rfl)
theorem dX0_isReduction_40 : decode cX0_isReduction 40 = .ok (.if_icmp .ge 40, 3) := dk_162 0 40 (dk_at dksX0_isReduction_1 17 rfl rfl)
theorem dX0_isReduction_43 : decode cX0_isReduction 43 = .ok (.aload_n 1, 1) := dk_43 (dk_at dksX0_isReduction_1 20 rfl rfl)
theorem dX0_isReduction_44 : decode cX0_isReduction 44 = .ok (.aload_n 0, 1) := dk_42 (dk_at dksX0_isReduction_1 21 rfl rfl)
theorem dX0_isReduction_45 : decode cX0_isReduction 45 = .ok (.getfield 22, 3) := dk_180 0 22 (dk_at dksX0_isReduction_2 0 rfl rfl)
theorem dX0_isReduction_48 : decode cX0_isReduction 48 = .ok (.iconst 0, 1) := dk_3 (dk_at dksX0_isReduction_2 3 rfl rfl)
theorem dX0_isReduction_49 : decode cX0_isReduction 49 = .ok (.aaload, 1) := dk_50 (dk_at dksX0_isReduction_2 4 rfl rfl)
theorem dX0_isReduction_50 : decode cX0_isReduction 50 = .ok (.getfield 132, 3) := dk_180 0 132 (dk_at dksX0_isReduction_2 5 rfl rfl)
theorem dX0_isReduction_53 : decode cX0_isReduction 53 = .ok (.iload_n 2, 1) := dk_28 (dk_at dksX0_isReduction_2 8 rfl rfl)
theorem dX0_isReduction_54 : decode cX0_isReduction 54 = .ok (.iaload, 1) := dk_46 (dk_at dksX0_isReduction_2 9 rfl rfl)
theorem dX0_isReduction_55 : decode cX0_isReduction 55 = .ok (.aload_n 0, 1) := dk_42 (dk_at dksX0_isReduction_2 10 rfl rfl)
theorem dX0_isReduction_56 : decode cX0_isReduction 56 = .ok (.getfield 22, 3) := dk_180 0 22 (dk_at dksX0_isReduction_2 11 rfl rfl)
theorem dX0_isReduction_59 : decode cX0_isReduction 59 = .ok (.iconst 0, 1) := dk_3 (dk_at dksX0_isReduction_2 14 rfl rfl)
theorem dX0_isReduction_60 : decode cX0_isReduction 60 = .ok (.aaload, 1) := dk_50 (dk_at dksX0_isReduction_2 15 rfl rfl)
theorem dX0_isReduction_61 : decode cX0_isReduction 61 = .ok (.getfield 136, 3) := dk_180 0 136 (dk_at dksX0_isReduction_2 16 rfl rfl)
theorem dX0_isReduction_64 : decode cX0_isReduction 64 = .ok (.iload_n 2, 1) := dk_28 (dk_at dksX0_isReduction_2 19 rfl rfl)
theorem dX0_isReduction_65 : decode cX0_isReduction 65 = .ok (.iaload, 1) := dk_46 (dk_at dksX0_isReduction_2 20 rfl rfl)
theorem dX0_isReduction_66 : decode cX0_isReduction 66 = .ok (.invokevirtual 196, 3) := dk_182 0 196 (dk_at dksX0_isReduction_2 21 rfl rfl)
theorem dX0_isReduction_69 : decode cX0_isReduction 69 = .ok (.ifCond .ne 5, 3) := dk_154 0 5 (dk_at dksX0_isReduction_3 0 rfl rfl)
theorem dX0_isReduction_72 : decode cX0_isReduction 72 = .ok (.iconst 0, 1) := dk_3 (dk_at dksX0_isReduction_3 3 rfl rfl)
theorem dX0_isReduction_73 : decode cX0_isReduction 73 = .ok (.ireturn, 1) := dk_172 (dk_at dksX0_isReduction_3 4 rfl rfl)
theorem dX0_isReduction_74 : decode cX0_isReduction 74 = .ok (.iinc 2 1, 3) := dk_132 2 1 (dk_at dksX0_isReduction_3 5 rfl rfl)
theorem dX0_isReduction_77 : decode cX0_isReduction 77 = .ok (.goto (-47), 3) := dk_167 255 209 (dk_at dksX0_isReduction_3 8 rfl rfl)
theorem dX0_isReduction_80 : decode cX0_isReduction 80 = .ok (.aload_n 0, 1) := dk_42 (dk_at dksX0_isReduction_3 11 rfl rfl)
theorem dX0_isReduction_81 : decode cX0_isReduction 81 = .ok (.getfield 33, 3) := dk_180 0 33 (dk_at dksX0_isReduction_3 12 rfl rfl)
theorem dX0_isReduction_84 : decode cX0_isReduction 84 = .ok (.aload_n 0, 1) := dk_42 (dk_at dksX0_isReduction_3 15 rfl rfl)
theorem dX0_isReduction_85 : decode cX0_isReduction 85 = .ok (.getfield 22, 3) := dk_180 0 22 (dk_at dksX0_isReduction_3 16 rfl rfl)
theorem dX0_isReduction_88 : decode cX0_isReduction 88 = .ok (.iconst 0, 1) := dk_3 (dk_at dksX0_isReduction_3 19 rfl rfl)
theorem dX0_isReduction_89 : decode cX0_isReduction 89 = .ok (.aaload, 1) := dk_50 (dk_at dksX0_isReduction_3 20 rfl rfl)
theorem dX0_isReduction_90 : decode cX0_isReduction 90 = .ok (.invokevirtual 146, 3) := dk_182 0 146 (dk_at dksX0_isReduction_3 21 rfl rfl)
theorem dX0_isReduction_93 : decode cX0_isReduction 93 = .ok (.pop, 1) := dk_87 (dk_at dksX0_isReduction_4 0 rfl rfl)
theorem dX0_isReduction_94 : decode cX0_isReduction 94 = .ok (.goto 6, 3) := dk_167 0 6 (dk_at dksX0_isReduction_4 1 rfl rfl)
theorem dX0_isReduction_97 : decode cX0_isReduction 97 = .ok (.astore_n 2, 1) := dk_77 (dk_at dksX0_isReduction_4 4 rfl rfl)
theorem dX0_isReduction_98 : decode cX0_isReduction 98 = .ok (.iconst 0, 1) := dk_3 (dk_at dksX0_isReduction_4 5 rfl rfl)
theorem dX0_isReduction_99 : decode cX0_isReduction 99 = .ok (.ireturn, 1) := dk_172 (dk_at dksX0_isReduction_4 6 rfl rfl)
theorem dX0_isReduction_100 : decode cX0_isReduction 100 = .ok (.iconst 0, 1) := dk_3 (dk_at dksX0_isReduction_4 7 rfl rfl)
theorem dX0_isReduction_101 : decode cX0_isReduction 101 = .ok (.istore_n 2, 1) := dk_61 (dk_at dksX0_isReduction_4 8 rfl rfl)
theorem dX0_isReduction_102 : decode cX0_isReduction 102 = .ok (.iload_n 2, 1) := dk_28 (dk_at dksX0_isReduction_4 9 rfl rfl)
theorem dX0_isReduction_103 : decode cX0_isReduction 103 = .ok (.aload_n 1, 1) := dk_43 (dk_at dksX0_isReduction_4 10 rfl rfl)
theorem dX0_isReduction_104 : decode cX0_isReduction 104 = .ok (.getfield 102, 3) := dk_180 0 102 (dk_at dksX0_isReduction_4 11 rfl rfl)
theorem dX0_isReduction_107 : decode cX0_isReduction 107 = .ok (.if_icmp .ge 33, 3) := dk_162 0 33 (dk_at dksX0_isReduction_4 14 rfl rfl)
theorem dX0_isReduction_110 : decode cX0_isReduction 110 = .ok (.aload_n 0, 1) := dk_42 (dk_at dksX0_isReduction_4 17 rfl rfl)
theorem dX0_isReduction_111 : decode cX0_isReduction 111 = .ok (.getfield 33, 3) := dk_180 0 33 (dk_at dksX0_isReduction_4 18 rfl rfl)
theorem dX0_isReduction_114 : decode cX0_isReduction 114 = .ok (.aload_n 1, 1) := dk_43 (dk_at dksX0_isReduction_4 21 rfl rfl)
theorem dX0_isReduction_115 : decode cX0_isReduction 115 = .ok (.getfield 132, 3) := dk_180 0 132 (dk_at dksX0_isReduction_5 0 rfl rfl)
theorem dX0_isReduction_118 : decode cX0_isReduction 118 = .ok (.iload_n 2, 1) := dk_28 (dk_at dksX0_isReduction_5 3 rfl rfl)
theorem dX0_isReduction_119 : decode cX0_isReduction 119 = .ok (.iaload, 1) := dk_46 (dk_at dksX0_isReduction_5 4 rfl rfl)
theorem dX0_isReduction_120 : decode cX0_isReduction 120 = .ok (.aload_n 1, 1) := dk_43 (dk_at dksX0_isReduction_5 5 rfl rfl)
theorem dX0_isReduction_121 : decode cX0_isReduction 121 = .ok (.getfield 136, 3) := dk_180 0 136 (dk_at dksX0_isReduction_5 6 rfl rfl)
theorem dX0_isReduction_124 : decode cX0_isReduction 124 = .ok (.iload_n 2, 1) := dk_28 (dk_at dksX0_isReduction_5 9 rfl rfl)
theorem dX0_isReduction_125 : decode cX0_isReduction 125 = .ok (.iaload, 1) := dk_46 (dk_at dksX0_isReduction_5 10 rfl rfl)
theorem dX0_isReduction_126 : decode cX0_isReduction 126 = .ok (.invokevirtual 143, 3) := dk_182 0 143 (dk_at dksX0_isReduction_5 11 rfl rfl)
theorem dX0_isReduction_129 : decode cX0_isReduction 129 = .ok (.ifCond .ne 5, 3) := dk_154 0 5 (dk_at dksX0_isReduction_5 14 rfl rfl)
theorem dX0_isReduction_132 : decode cX0_isReduction 132 = .ok (.iconst 0, 1) := dk_3 (dk_at dksX0_isReduction_5 17 rfl rfl)
theorem dX0_isReduction_133 : decode cX0_isReduction 133 = .ok (.ireturn, 1) := dk_172 (dk_at dksX0_isReduction_5 18 rfl rfl)
theorem dX0_isReduction_134 : decode cX0_isReduction 134 = .ok (.iinc 2 1, 3) := dk_132 2 1 (dk_at dksX0_isReduction_5 19 rfl rfl)
theorem dX0_isReduction_137 : decode cX0_isReduction 137 = .ok (.goto (-35), 3) := dk_167 255 221 (dk_at dksX0_isReduction_6 0 rfl rfl)
theorem dX0_isReduction_140 : decode cX0_isReduction 140 = .ok (.iconst 1, 1) := dk_4 (dk_at dksX0_isReduction_6 3 rfl rfl)
theorem dX0_isReduction_141 : decode cX0_isReduction 141 = .ok (.ireturn, 1) := dk_172 (dk_at dksX0_isReduction_6 4 rfl rfl)
abbrev cX0_met : ByteArray := prog_1_method_34_code
def yX0_met : MethodName := ⟨RX0, "met", "()I"⟩
def dkwX0_met_4 : List UInt8 := [180, 0, 57, 182, 1, 36, 153, 0, 5, 28, 172, 132, 2, 1, 167, 255, 169, 16, 251, 172]
abbrev dktX0_met_4 : List UInt8 := dkwX0_met_4 ++ []
def dkwX0_met_3 : List UInt8 := [182, 1, 11, 42, 180, 0, 57, 184, 1, 33, 42, 180, 0, 51, 184, 1, 33, 42, 180, 0, 51, 42]
abbrev dktX0_met_3 : List UInt8 := dkwX0_met_3 ++ dktX0_met_4
def dkwX0_met_2 : List UInt8 := [180, 0, 51, 42, 180, 0, 57, 182, 1, 15, 42, 180, 0, 57, 42, 180, 0, 54, 42, 180, 0, 47]
abbrev dktX0_met_2 : List UInt8 := dkwX0_met_2 ++ dktX0_met_3
def dkwX0_met_1 : List UInt8 := [42, 42, 180, 0, 22, 4, 50, 28, 182, 1, 21, 42, 180, 0, 57, 43, 42, 180, 0, 54, 182, 1, 11, 42]
abbrev dktX0_met_1 : List UInt8 := dkwX0_met_1 ++ dktX0_met_2
def dkwX0_met_0 : List UInt8 := [187, 0, 44, 89, 183, 0, 46, 42, 180, 0, 22, 3, 50, 182, 1, 4, 76, 3, 61, 28, 8, 163, 0, 88]
abbrev dktX0_met_0 : List UInt8 := dkwX0_met_0 ++ dktX0_met_1
theorem dksX0_met_0 : cX0_met.data.toList.drop 0 = dktX0_met_0 := by decide +kernel
theorem dksX0_met_1 : cX0_met.data.toList.drop 24 = dktX0_met_1 := dk_seg dksX0_met_0 24 rfl rfl
theorem dksX0_met_2 : cX0_met.data.toList.drop 48 = dktX0_met_2 := dk_seg dksX0_met_1 24 rfl rfl
theorem dksX0_met_3 : cX0_met.data.toList.drop 70 = dktX0_met_3 := dk_seg dksX0_met_2 22 rfl rfl
theorem dksX0_met_4 : cX0_met.data.toList.drop 92 = dktX0_met_4 := dk_seg dksX0_met_3 22 rfl rfl
theorem dX0_met_0 : decode cX0_met 0 = .ok (.new 44, 3) := dk_187 0 44 (dk_at dksX0_met_0 0 rfl rfl)
theorem dX0_met_3 : decode cX0_met 3 = .ok (.dup, 1) := dk_89 (dk_at dksX0_met_0 3 rfl rfl)
theorem dX0_met_4 : decode cX0_met 4 = .ok (.invokespecial 46, 3) := dk_183 0 46 (dk_at dksX0_met_0 4 rfl rfl)
theorem dX0_met_7 : decode cX0_met 7 = .ok (.aload_n 0, 1) := dk_42 (dk_at dksX0_met_0 7 rfl rfl)
theorem dX0_met_8 : decode cX0_met 8 = .ok (.getfield 22, 3) := dk_180 0 22 (dk_at dksX0_met_0 8 rfl rfl)
theorem dX0_met_11 : decode cX0_met 11 = .ok (.iconst 0, 1) := dk_3 (dk_at dksX0_met_0 11 rfl rfl)
theorem dX0_met_12 : decode cX0_met 12 = .ok (.aaload, 1) := dk_50 (dk_at dksX0_met_0 12 rfl rfl)
theorem dX0_met_13 : decode cX0_met 13 = .ok (.invokevirtual 260, 3) := dk_182 1 4 (dk_at dksX0_met_0 13 rfl rfl)
theorem dX0_met_16 : decode cX0_met 16 = .ok (.astore_n 1, 1) := dk_76 (dk_at dksX0_met_0 16 rfl rfl)
theorem dX0_met_17 : decode cX0_met 17 = .ok (.iconst 0, 1) := dk_3 (dk_at dksX0_met_0 17 rfl rfl)
theorem dX0_met_18 : decode cX0_met 18 = .ok (.istore_n 2, 1) := dk_61 (dk_at dksX0_met_0 18 rfl rfl)
theorem dX0_met_19 : decode cX0_met 19 = .ok (.iload_n 2, 1) := dk_28 (dk_at dksX0_met_0 19 rfl rfl)
theorem dX0_met_20 : decode cX0_met 20 = .ok (.iconst 5, 1) := dk_8 (dk_at dksX0_met_0 20 rfl rfl)
theorem dX0_met_21 : decode cX0_met 21 = .ok (.if_icmp .gt 88, 3) := dk_163 0 88 (dk_at dksX0_met_0 21 rfl rfl)
theorem dX0_met_24 : decode cX0_met 24 = .ok (.aload_n 0, 1) := dk_42 (dk_at dksX0_met_1 0 rfl rfl)
theorem dX0_met_25 : decode cX0_met 25 = .ok (.aload_n 0, 1) := dk_42 (dk_at dksX0_met_1 1 rfl rfl)
theorem dX0_met_26 : decode cX0_met 26 = .ok (.getfield 22, 3) := dk_180 0 22 (dk_at dksX0_met_1 2 rfl rfl)
theorem dX0_met_29 : decode cX0_met 29 = .ok (.iconst 1, 1) := dk_4 (dk_at dksX0_met_1 5 rfl rfl)
theorem dX0_met_30 : decode cX0_met 30 = .ok (.aaload, 1) := dk_50 (dk_at dksX0_met_1 6 rfl rfl)
theorem dX0_met_31 : decode cX0_met 31 = .ok (.iload_n 2, 1) := dk_28 (dk_at dksX0_met_1 7 rfl rfl)
theorem dX0_met_32 : decode cX0_met 32 = .ok (.invokevirtual 277, 3) := dk_182 1 21 (dk_at dksX0_met_1 8 rfl rfl)
theorem dX0_met_35 : decode cX0_met 35 = .ok (.aload_n 0, 1) := dk_42 (dk_at dksX0_met_1 11 rfl rfl)
theorem dX0_met_36 : decode cX0_met 36 = .ok (.getfield 57, 3) := dk_180 0 57 (dk_at dksX0_met_1 12 rfl rfl)
theorem dX0_met_39 : decode cX0_met 39 = .ok (.aload_n 1, 1) := dk_43 (dk_at dksX0_met_1 15 rfl rfl)
theorem dX0_met_40 : decode cX0_met 40 = .ok (.aload_n 0, 1) := dk_42 (dk_at dksX0_met_1 16 rfl rfl)
theorem dX0_met_41 : decode cX0_met 41 = .ok (.getfield 54, 3) := dk_180 0 54 (dk_at dksX0_met_1 17 rfl rfl)
theorem dX0_met_44 : decode cX0_met 44 = .ok (.invokevirtual 267, 3) := dk_182 1 11 (dk_at dksX0_met_1 20 rfl rfl)
theorem dX0_met_47 : decode cX0_met 47 = .ok (.aload_n 0, 1) := dk_42 (dk_at dksX0_met_1 23 rfl rfl)
theorem dX0_met_48 : decode cX0_met 48 = .ok (.getfield 51, 3) := dk_180 0 51 (dk_at dksX0_met_2 0 rfl rfl)
theorem dX0_met_51 : decode cX0_met 51 = .ok (.aload_n 0, 1) := dk_42 (dk_at dksX0_met_2 3 rfl rfl)
theorem dX0_met_52 : decode cX0_met 52 = .ok (.getfield 57, 3) := dk_180 0 57 (dk_at dksX0_met_2 4 rfl rfl)
theorem dX0_met_55 : decode cX0_met 55 = .ok (.invokevirtual 271, 3) := dk_182 1 15 (dk_at dksX0_met_2 7 rfl rfl)
theorem dX0_met_58 : decode cX0_met 58 = .ok (.aload_n 0, 1) := dk_42 (dk_at dksX0_met_2 10 rfl rfl)
theorem dX0_met_59 : decode cX0_met 59 = .ok (.getfield 57, 3) := dk_180 0 57 (dk_at dksX0_met_2 11 rfl rfl)
theorem dX0_met_62 : decode cX0_met 62 = .ok (.aload_n 0, 1) := dk_42 (dk_at dksX0_met_2 14 rfl rfl)
theorem dX0_met_63 : decode cX0_met 63 = .ok (.getfield 54, 3) := dk_180 0 54 (dk_at dksX0_met_2 15 rfl rfl)
theorem dX0_met_66 : decode cX0_met 66 = .ok (.aload_n 0, 1) := dk_42 (dk_at dksX0_met_2 18 rfl rfl)
theorem dX0_met_67 : decode cX0_met 67 = .ok (.getfield 47, 3) := dk_180 0 47 (dk_at dksX0_met_2 19 rfl rfl)
theorem dX0_met_70 : decode cX0_met 70 = .ok (.invokevirtual 267, 3) := dk_182 1 11 (dk_at dksX0_met_3 0 rfl rfl)
theorem dX0_met_73 : decode cX0_met 73 = .ok (.aload_n 0, 1) := dk_42 (dk_at dksX0_met_3 3 rfl rfl)
theorem dX0_met_74 : decode cX0_met 74 = .ok (.getfield 57, 3) := dk_180 0 57 (dk_at dksX0_met_3 4 rfl rfl)
theorem dX0_met_77 : decode cX0_met 77 = .ok (.invokestatic 289, 3) := dk_184 1 33 (dk_at dksX0_met_3 7 rfl rfl)
theorem dX0_met_80 : decode cX0_met 80 = .ok (.aload_n 0, 1) := dk_42 (dk_at dksX0_met_3 10 rfl rfl)
theorem dX0_met_81 : decode cX0_met 81 = .ok (.getfield 51, 3) := dk_180 0 51 (dk_at dksX0_met_3 11 rfl rfl)
theorem dX0_met_84 : decode cX0_met 84 = .ok (.invokestatic 289, 3) := dk_184 1 33 (dk_at dksX0_met_3 14 rfl rfl)
theorem dX0_met_87 : decode cX0_met 87 = .ok (.aload_n 0, 1) := dk_42 (dk_at dksX0_met_3 17 rfl rfl)
theorem dX0_met_88 : decode cX0_met 88 = .ok (.getfield 51, 3) := dk_180 0 51 (dk_at dksX0_met_3 18 rfl rfl)
theorem dX0_met_91 : decode cX0_met 91 = .ok (.aload_n 0, 1) := dk_42 (dk_at dksX0_met_3 21 rfl rfl)
theorem dX0_met_92 : decode cX0_met 92 = .ok (.getfield 57, 3) := dk_180 0 57 (dk_at dksX0_met_4 0 rfl rfl)
theorem dX0_met_95 : decode cX0_met 95 = .ok (.invokevirtual 292, 3) := dk_182 1 36 (dk_at dksX0_met_4 3 rfl rfl)
theorem dX0_met_98 : decode cX0_met 98 = .ok (.ifCond .eq 5, 3) := dk_153 0 5 (dk_at dksX0_met_4 6 rfl rfl)
theorem dX0_met_101 : decode cX0_met 101 = .ok (.iload_n 2, 1) := dk_28 (dk_at dksX0_met_4 9 rfl rfl)
theorem dX0_met_102 : decode cX0_met 102 = .ok (.ireturn, 1) := dk_172 (dk_at dksX0_met_4 10 rfl rfl)
theorem dX0_met_103 : decode cX0_met 103 = .ok (.iinc 2 1, 3) := dk_132 2 1 (dk_at dksX0_met_4 11 rfl rfl)
theorem dX0_met_106 : decode cX0_met 106 = .ok (.goto (-87), 3) := dk_167 255 169 (dk_at dksX0_met_4 14 rfl rfl)
theorem dX0_met_109 : decode cX0_met 109 = .ok (.bipush (-5), 2) := dk_16 251 (dk_at dksX0_met_4 17 rfl rfl)
theorem dX0_met_111 : decode cX0_met 111 = .ok (.ireturn, 1) := dk_172 (dk_at dksX0_met_4 19 rfl rfl)
abbrev cX0_bounds : ByteArray := prog_1_method_33_code
def yX0_bounds : MethodName := ⟨RX0, "bounds", "(LTermIdeals$Stairs;)V"⟩
def dkwX0_bounds_1 : List UInt8 := [184, 1, 28, 79, 132, 1, 1, 167, 255, 229, 177]
abbrev dktX0_bounds_1 : List UInt8 := dkwX0_bounds_1 ++ []
def dkwX0_bounds_0 : List UInt8 := [3, 60, 27, 16, 61, 162, 0, 27, 42, 180, 1, 25, 27, 17, 39, 15, 42, 180, 1, 25, 27, 46]
abbrev dktX0_bounds_0 : List UInt8 := dkwX0_bounds_0 ++ dktX0_bounds_1
theorem dksX0_bounds_0 : cX0_bounds.data.toList.drop 0 = dktX0_bounds_0 := by decide +kernel
theorem dksX0_bounds_1 : cX0_bounds.data.toList.drop 22 = dktX0_bounds_1 := dk_seg dksX0_bounds_0 22 rfl rfl
theorem dX0_bounds_0 : decode cX0_bounds 0 = .ok (.iconst 0, 1) := dk_3 (dk_at dksX0_bounds_0 0 rfl rfl)
theorem dX0_bounds_1 : decode cX0_bounds 1 = .ok (.istore_n 1, 1) := dk_60 (dk_at dksX0_bounds_0 1 rfl rfl)
theorem dX0_bounds_2 : decode cX0_bounds 2 = .ok (.iload_n 1, 1) := dk_27 (dk_at dksX0_bounds_0 2 rfl rfl)
theorem dX0_bounds_3 : decode cX0_bounds 3 = .ok (.bipush 61, 2) := dk_16 61 (dk_at dksX0_bounds_0 3 rfl rfl)
theorem dX0_bounds_5 : decode cX0_bounds 5 = .ok (.if_icmp .ge 27, 3) := dk_162 0 27 (dk_at dksX0_bounds_0 5 rfl rfl)
theorem dX0_bounds_8 : decode cX0_bounds 8 = .ok (.aload_n 0, 1) := dk_42 (dk_at dksX0_bounds_0 8 rfl rfl)
theorem dX0_bounds_9 : decode cX0_bounds 9 = .ok (.getfield 281, 3) := dk_180 1 25 (dk_at dksX0_bounds_0 9 rfl rfl)
theorem dX0_bounds_12 : decode cX0_bounds 12 = .ok (.iload_n 1, 1) := dk_27 (dk_at dksX0_bounds_0 12 rfl rfl)
theorem dX0_bounds_13 : decode cX0_bounds 13 = .ok (.sipush 9999, 3) := dk_17 39 15 (dk_at dksX0_bounds_0 13 rfl rfl)
theorem dX0_bounds_16 : decode cX0_bounds 16 = .ok (.aload_n 0, 1) := dk_42 (dk_at dksX0_bounds_0 16 rfl rfl)
theorem dX0_bounds_17 : decode cX0_bounds 17 = .ok (.getfield 281, 3) := dk_180 1 25 (dk_at dksX0_bounds_0 17 rfl rfl)
theorem dX0_bounds_20 : decode cX0_bounds 20 = .ok (.iload_n 1, 1) := dk_27 (dk_at dksX0_bounds_0 20 rfl rfl)
theorem dX0_bounds_21 : decode cX0_bounds 21 = .ok (.iaload, 1) := dk_46 (dk_at dksX0_bounds_0 21 rfl rfl)
theorem dX0_bounds_22 : decode cX0_bounds 22 = .ok (.invokestatic 284, 3) := dk_184 1 28 (dk_at dksX0_bounds_1 0 rfl rfl)
theorem dX0_bounds_25 : decode cX0_bounds 25 = .ok (.iastore, 1) := dk_79 (dk_at dksX0_bounds_1 3 rfl rfl)
theorem dX0_bounds_26 : decode cX0_bounds 26 = .ok (.iinc 1 1, 3) := dk_132 1 1 (dk_at dksX0_bounds_1 4 rfl rfl)
theorem dX0_bounds_29 : decode cX0_bounds 29 = .ok (.goto (-27), 3) := dk_167 255 229 (dk_at dksX0_bounds_1 7 rfl rfl)
theorem dX0_bounds_32 : decode cX0_bounds 32 = .ok (.return_, 1) := dk_177 (dk_at dksX0_bounds_1 10 rfl rfl)
abbrev cX0_see : ByteArray := prog_1_method_36_code
def yX0_see : MethodName := ⟨RX0, "see", "(III)I"⟩
def dkwX0_see_2 : List UInt8 := [172]
abbrev dktX0_see_2 : List UInt8 := dkwX0_see_2 ++ []
def dkwX0_see_1 : List UInt8 := [172, 28, 29, 184, 0, 212, 153, 0, 16, 42, 180, 0, 69, 27, 28, 29, 182, 1, 49, 167, 0, 5, 16, 254]
abbrev dktX0_see_1 : List UInt8 := dkwX0_see_1 ++ dktX0_see_2
def dkwX0_see_0 : List UInt8 := [27, 2, 160, 0, 11, 42, 180, 0, 69, 182, 1, 46, 172, 27, 3, 16, 99, 184, 0, 5, 154, 0, 5, 2]
abbrev dktX0_see_0 : List UInt8 := dkwX0_see_0 ++ dktX0_see_1
theorem dksX0_see_0 : cX0_see.data.toList.drop 0 = dktX0_see_0 := by decide +kernel
theorem dksX0_see_1 : cX0_see.data.toList.drop 24 = dktX0_see_1 := dk_seg dksX0_see_0 24 rfl rfl
theorem dksX0_see_2 : cX0_see.data.toList.drop 48 = dktX0_see_2 := dk_seg dksX0_see_1 24 rfl rfl
theorem dX0_see_0 : decode cX0_see 0 = .ok (.iload_n 1, 1) := dk_27 (dk_at dksX0_see_0 0 rfl rfl)
theorem dX0_see_1 : decode cX0_see 1 = .ok (.iconst (-1), 1) := dk_2 (dk_at dksX0_see_0 1 rfl rfl)
theorem dX0_see_2 : decode cX0_see 2 = .ok (.if_icmp .ne 11, 3) := dk_160 0 11 (dk_at dksX0_see_0 2 rfl rfl)
theorem dX0_see_5 : decode cX0_see 5 = .ok (.aload_n 0, 1) := dk_42 (dk_at dksX0_see_0 5 rfl rfl)
theorem dX0_see_6 : decode cX0_see 6 = .ok (.getfield 69, 3) := dk_180 0 69 (dk_at dksX0_see_0 6 rfl rfl)
theorem dX0_see_9 : decode cX0_see 9 = .ok (.invokevirtual 302, 3) := dk_182 1 46 (dk_at dksX0_see_0 9 rfl rfl)
theorem dX0_see_12 : decode cX0_see 12 = .ok (.ireturn, 1) := dk_172 (dk_at dksX0_see_0 12 rfl rfl)
theorem dX0_see_13 : decode cX0_see 13 = .ok (.iload_n 1, 1) := dk_27 (dk_at dksX0_see_0 13 rfl rfl)
theorem dX0_see_14 : decode cX0_see 14 = .ok (.iconst 0, 1) := dk_3 (dk_at dksX0_see_0 14 rfl rfl)
theorem dX0_see_15 : decode cX0_see 15 = .ok (.bipush 99, 2) := dk_16 99 (dk_at dksX0_see_0 15 rfl rfl)
theorem dX0_see_17 : decode cX0_see 17 = .ok (.invokestatic 5, 3) := dk_184 0 5 (dk_at dksX0_see_0 17 rfl rfl)
theorem dX0_see_20 : decode cX0_see 20 = .ok (.ifCond .ne 5, 3) := dk_154 0 5 (dk_at dksX0_see_0 20 rfl rfl)
theorem dX0_see_23 : decode cX0_see 23 = .ok (.iconst (-1), 1) := dk_2 (dk_at dksX0_see_0 23 rfl rfl)
theorem dX0_see_24 : decode cX0_see 24 = .ok (.ireturn, 1) := dk_172 (dk_at dksX0_see_1 0 rfl rfl)
theorem dX0_see_25 : decode cX0_see 25 = .ok (.iload_n 2, 1) := dk_28 (dk_at dksX0_see_1 1 rfl rfl)
theorem dX0_see_26 : decode cX0_see 26 = .ok (.iload_n 3, 1) := dk_29 (dk_at dksX0_see_1 2 rfl rfl)
theorem dX0_see_27 : decode cX0_see 27 = .ok (.invokestatic 212, 3) := dk_184 0 212 (dk_at dksX0_see_1 3 rfl rfl)
theorem dX0_see_30 : decode cX0_see 30 = .ok (.ifCond .eq 16, 3) := dk_153 0 16 (dk_at dksX0_see_1 6 rfl rfl)
theorem dX0_see_33 : decode cX0_see 33 = .ok (.aload_n 0, 1) := dk_42 (dk_at dksX0_see_1 9 rfl rfl)
theorem dX0_see_34 : decode cX0_see 34 = .ok (.getfield 69, 3) := dk_180 0 69 (dk_at dksX0_see_1 10 rfl rfl)
theorem dX0_see_37 : decode cX0_see 37 = .ok (.iload_n 1, 1) := dk_27 (dk_at dksX0_see_1 13 rfl rfl)
theorem dX0_see_38 : decode cX0_see 38 = .ok (.iload_n 2, 1) := dk_28 (dk_at dksX0_see_1 14 rfl rfl)
theorem dX0_see_39 : decode cX0_see 39 = .ok (.iload_n 3, 1) := dk_29 (dk_at dksX0_see_1 15 rfl rfl)
theorem dX0_see_40 : decode cX0_see 40 = .ok (.invokevirtual 305, 3) := dk_182 1 49 (dk_at dksX0_see_1 16 rfl rfl)
theorem dX0_see_43 : decode cX0_see 43 = .ok (.goto 5, 3) := dk_167 0 5 (dk_at dksX0_see_1 19 rfl rfl)
theorem dX0_see_46 : decode cX0_see 46 = .ok (.bipush (-2), 2) := dk_16 254 (dk_at dksX0_see_1 22 rfl rfl)
theorem dX0_see_48 : decode cX0_see 48 = .ok (.ireturn, 1) := dk_172 (dk_at dksX0_see_2 0 rfl rfl)
abbrev cX0_fits : ByteArray := prog_1_method_38_code
def yX0_fits : MethodName := ⟨RX0, "fits", "(IIII)I"⟩
def dkwX0_fits_8 : List UInt8 := [167, 255, 109, 21, 4, 154, 0, 8, 21, 5, 167, 0, 5, 21, 6, 172]
abbrev dktX0_fits_8 : List UInt8 := dkwX0_fits_8 ++ []
def dkwX0_fits_7 : List UInt8 := [180, 0, 22, 3, 50, 182, 1, 63, 154, 0, 6, 167, 0, 10, 132, 5, 1, 21, 7, 54, 6, 132, 7, 255]
abbrev dktX0_fits_7 : List UInt8 := dkwX0_fits_7 ++ dktX0_fits_8
def dkwX0_fits_6 : List UInt8 := [180, 0, 26, 180, 0, 136, 28, 21, 9, 79, 42, 27, 154, 0, 10, 42, 180, 0, 26, 167, 0, 9, 42]
abbrev dktX0_fits_6 : List UInt8 := dkwX0_fits_6 ++ dktX0_fits_7
def dkwX0_fits_5 : List UInt8 := [159, 0, 12, 21, 10, 28, 159, 0, 6, 167, 0, 59, 42, 180, 0, 26, 180, 0, 132, 28, 21, 8, 79, 42]
abbrev dktX0_fits_5 : List UInt8 := dkwX0_fits_5 ++ dktX0_fits_6
def dkwX0_fits_4 : List UInt8 := [180, 0, 136, 28, 46, 54, 9, 42, 180, 0, 26, 21, 8, 21, 9, 182, 0, 110, 54, 10, 21, 10, 16, 251]
abbrev dktX0_fits_4 : List UInt8 := dkwX0_fits_4 ++ dktX0_fits_5
def dkwX0_fits_3 : List UInt8 := [180, 0, 26, 180, 0, 132, 28, 46, 54, 8, 29, 4, 160, 0, 8, 21, 7, 167, 0, 12, 42, 180, 0, 26]
abbrev dktX0_fits_3 : List UInt8 := dkwX0_fits_3 ++ dktX0_fits_4
def dkwX0_fits_2 : List UInt8 := [42, 180, 0, 26, 42, 180, 0, 22, 27, 50, 182, 0, 128, 29, 154, 0, 8, 21, 7, 167, 0, 12, 42]
abbrev dktX0_fits_2 : List UInt8 := dkwX0_fits_2 ++ dktX0_fits_3
def dkwX0_fits_1 : List UInt8 := [184, 0, 5, 154, 0, 5, 2, 172, 3, 54, 5, 16, 251, 54, 6, 16, 9, 54, 7, 21, 7, 155, 0, 148]
abbrev dktX0_fits_1 : List UInt8 := dkwX0_fits_1 ++ dktX0_fits_2
def dkwX0_fits_0 : List UInt8 := [42, 27, 28, 182, 0, 122, 153, 0, 22, 29, 3, 4, 184, 0, 5, 153, 0, 13, 21, 4, 3, 4]
abbrev dktX0_fits_0 : List UInt8 := dkwX0_fits_0 ++ dktX0_fits_1
theorem dksX0_fits_0 : cX0_fits.data.toList.drop 0 = dktX0_fits_0 := by decide +kernel
theorem dksX0_fits_1 : cX0_fits.data.toList.drop 22 = dktX0_fits_1 := dk_seg dksX0_fits_0 22 rfl rfl
theorem dksX0_fits_2 : cX0_fits.data.toList.drop 46 = dktX0_fits_2 := dk_seg dksX0_fits_1 24 rfl rfl
theorem dksX0_fits_3 : cX0_fits.data.toList.drop 69 = dktX0_fits_3 := dk_seg dksX0_fits_2 23 rfl rfl
theorem dksX0_fits_4 : cX0_fits.data.toList.drop 93 = dktX0_fits_4 := dk_seg dksX0_fits_3 24 rfl rfl
theorem dksX0_fits_5 : cX0_fits.data.toList.drop 117 = dktX0_fits_5 := dk_seg dksX0_fits_4 24 rfl rfl
theorem dksX0_fits_6 : cX0_fits.data.toList.drop 141 = dktX0_fits_6 := dk_seg dksX0_fits_5 24 rfl rfl
theorem dksX0_fits_7 : cX0_fits.data.toList.drop 164 = dktX0_fits_7 := dk_seg dksX0_fits_6 23 rfl rfl
theorem dksX0_fits_8 : cX0_fits.data.toList.drop 188 = dktX0_fits_8 := dk_seg dksX0_fits_7 24 rfl rfl
theorem dX0_fits_0 : decode cX0_fits 0 = .ok (.aload_n 0, 1) := dk_42 (dk_at dksX0_fits_0 0 rfl rfl)
theorem dX0_fits_1 : decode cX0_fits 1 = .ok (.iload_n 1, 1) := dk_27 (dk_at dksX0_fits_0 1 rfl rfl)
theorem dX0_fits_2 : decode cX0_fits 2 = .ok (.iload_n 2, 1) := dk_28 (dk_at dksX0_fits_0 2 rfl rfl)
theorem dX0_fits_3 : decode cX0_fits 3 = .ok (.invokevirtual 122, 3) := dk_182 0 122 (dk_at dksX0_fits_0 3 rfl rfl)
theorem dX0_fits_6 : decode cX0_fits 6 = .ok (.ifCond .eq 22, 3) := dk_153 0 22 (dk_at dksX0_fits_0 6 rfl rfl)
theorem dX0_fits_9 : decode cX0_fits 9 = .ok (.iload_n 3, 1) := dk_29 (dk_at dksX0_fits_0 9 rfl rfl)
theorem dX0_fits_10 : decode cX0_fits 10 = .ok (.iconst 0, 1) := dk_3 (dk_at dksX0_fits_0 10 rfl rfl)
theorem dX0_fits_11 : decode cX0_fits 11 = .ok (.iconst 1, 1) := dk_4 (dk_at dksX0_fits_0 11 rfl rfl)
theorem dX0_fits_12 : decode cX0_fits 12 = .ok (.invokestatic 5, 3) := dk_184 0 5 (dk_at dksX0_fits_0 12 rfl rfl)
theorem dX0_fits_15 : decode cX0_fits 15 = .ok (.ifCond .eq 13, 3) := dk_153 0 13 (dk_at dksX0_fits_0 15 rfl rfl)
theorem dX0_fits_18 : decode cX0_fits 18 = .ok (.iload 4, 2) := dk_21 4 (dk_at dksX0_fits_0 18 rfl rfl)
theorem dX0_fits_20 : decode cX0_fits 20 = .ok (.iconst 0, 1) := dk_3 (dk_at dksX0_fits_0 20 rfl rfl)
theorem dX0_fits_21 : decode cX0_fits 21 = .ok (.iconst 1, 1) := dk_4 (dk_at dksX0_fits_0 21 rfl rfl)
theorem dX0_fits_22 : decode cX0_fits 22 = .ok (.invokestatic 5, 3) := dk_184 0 5 (dk_at dksX0_fits_1 0 rfl rfl)
theorem dX0_fits_25 : decode cX0_fits 25 = .ok (.ifCond .ne 5, 3) := dk_154 0 5 (dk_at dksX0_fits_1 3 rfl rfl)
theorem dX0_fits_28 : decode cX0_fits 28 = .ok (.iconst (-1), 1) := dk_2 (dk_at dksX0_fits_1 6 rfl rfl)
theorem dX0_fits_29 : decode cX0_fits 29 = .ok (.ireturn, 1) := dk_172 (dk_at dksX0_fits_1 7 rfl rfl)
theorem dX0_fits_30 : decode cX0_fits 30 = .ok (.iconst 0, 1) := dk_3 (dk_at dksX0_fits_1 8 rfl rfl)
theorem dX0_fits_31 : decode cX0_fits 31 = .ok (.istore 5, 2) := dk_54 5 (dk_at dksX0_fits_1 9 rfl rfl)
theorem dX0_fits_33 : decode cX0_fits 33 = .ok (.bipush (-5), 2) := dk_16 251 (dk_at dksX0_fits_1 11 rfl rfl)
theorem dX0_fits_35 : decode cX0_fits 35 = .ok (.istore 6, 2) := dk_54 6 (dk_at dksX0_fits_1 13 rfl rfl)
theorem dX0_fits_37 : decode cX0_fits 37 = .ok (.bipush 9, 2) := dk_16 9 (dk_at dksX0_fits_1 15 rfl rfl)
theorem dX0_fits_39 : decode cX0_fits 39 = .ok (.istore 7, 2) := dk_54 7 (dk_at dksX0_fits_1 17 rfl rfl)
theorem dX0_fits_41 : decode cX0_fits 41 = .ok (.iload 7, 2) := dk_21 7 (dk_at dksX0_fits_1 19 rfl rfl)
theorem dX0_fits_43 : decode cX0_fits 43 = .ok (.ifCond .lt 148, 3) := dk_155 0 148 (dk_at dksX0_fits_1 21 rfl rfl)
theorem dX0_fits_46 : decode cX0_fits 46 = .ok (.aload_n 0, 1) := dk_42 (dk_at dksX0_fits_2 0 rfl rfl)
theorem dX0_fits_47 : decode cX0_fits 47 = .ok (.getfield 26, 3) := dk_180 0 26 (dk_at dksX0_fits_2 1 rfl rfl)
theorem dX0_fits_50 : decode cX0_fits 50 = .ok (.aload_n 0, 1) := dk_42 (dk_at dksX0_fits_2 4 rfl rfl)
theorem dX0_fits_51 : decode cX0_fits 51 = .ok (.getfield 22, 3) := dk_180 0 22 (dk_at dksX0_fits_2 5 rfl rfl)
theorem dX0_fits_54 : decode cX0_fits 54 = .ok (.iload_n 1, 1) := dk_27 (dk_at dksX0_fits_2 8 rfl rfl)
theorem dX0_fits_55 : decode cX0_fits 55 = .ok (.aaload, 1) := dk_50 (dk_at dksX0_fits_2 9 rfl rfl)
theorem dX0_fits_56 : decode cX0_fits 56 = .ok (.invokevirtual 128, 3) := dk_182 0 128 (dk_at dksX0_fits_2 10 rfl rfl)
theorem dX0_fits_59 : decode cX0_fits 59 = .ok (.iload_n 3, 1) := dk_29 (dk_at dksX0_fits_2 13 rfl rfl)
theorem dX0_fits_60 : decode cX0_fits 60 = .ok (.ifCond .ne 8, 3) := dk_154 0 8 (dk_at dksX0_fits_2 14 rfl rfl)
theorem dX0_fits_63 : decode cX0_fits 63 = .ok (.iload 7, 2) := dk_21 7 (dk_at dksX0_fits_2 17 rfl rfl)
theorem dX0_fits_65 : decode cX0_fits 65 = .ok (.goto 12, 3) := dk_167 0 12 (dk_at dksX0_fits_2 19 rfl rfl)
theorem dX0_fits_68 : decode cX0_fits 68 = .ok (.aload_n 0, 1) := dk_42 (dk_at dksX0_fits_2 22 rfl rfl)
theorem dX0_fits_69 : decode cX0_fits 69 = .ok (.getfield 26, 3) := dk_180 0 26 (dk_at dksX0_fits_3 0 rfl rfl)
theorem dX0_fits_72 : decode cX0_fits 72 = .ok (.getfield 132, 3) := dk_180 0 132 (dk_at dksX0_fits_3 3 rfl rfl)
theorem dX0_fits_75 : decode cX0_fits 75 = .ok (.iload_n 2, 1) := dk_28 (dk_at dksX0_fits_3 6 rfl rfl)
theorem dX0_fits_76 : decode cX0_fits 76 = .ok (.iaload, 1) := dk_46 (dk_at dksX0_fits_3 7 rfl rfl)
theorem dX0_fits_77 : decode cX0_fits 77 = .ok (.istore 8, 2) := dk_54 8 (dk_at dksX0_fits_3 8 rfl rfl)
theorem dX0_fits_79 : decode cX0_fits 79 = .ok (.iload_n 3, 1) := dk_29 (dk_at dksX0_fits_3 10 rfl rfl)
theorem dX0_fits_80 : decode cX0_fits 80 = .ok (.iconst 1, 1) := dk_4 (dk_at dksX0_fits_3 11 rfl rfl)
theorem dX0_fits_81 : decode cX0_fits 81 = .ok (.if_icmp .ne 8, 3) := dk_160 0 8 (dk_at dksX0_fits_3 12 rfl rfl)
theorem dX0_fits_84 : decode cX0_fits 84 = .ok (.iload 7, 2) := dk_21 7 (dk_at dksX0_fits_3 15 rfl rfl)
theorem dX0_fits_86 : decode cX0_fits 86 = .ok (.goto 12, 3) := dk_167 0 12 (dk_at dksX0_fits_3 17 rfl rfl)
theorem dX0_fits_89 : decode cX0_fits 89 = .ok (.aload_n 0, 1) := dk_42 (dk_at dksX0_fits_3 20 rfl rfl)
theorem dX0_fits_90 : decode cX0_fits 90 = .ok (.getfield 26, 3) := dk_180 0 26 (dk_at dksX0_fits_3 21 rfl rfl)
theorem dX0_fits_93 : decode cX0_fits 93 = .ok (.getfield 136, 3) := dk_180 0 136 (dk_at dksX0_fits_4 0 rfl rfl)
theorem dX0_fits_96 : decode cX0_fits 96 = .ok (.iload_n 2, 1) := dk_28 (dk_at dksX0_fits_4 3 rfl rfl)
theorem dX0_fits_97 : decode cX0_fits 97 = .ok (.iaload, 1) := dk_46 (dk_at dksX0_fits_4 4 rfl rfl)
theorem dX0_fits_98 : decode cX0_fits 98 = .ok (.istore 9, 2) := dk_54 9 (dk_at dksX0_fits_4 5 rfl rfl)
theorem dX0_fits_100 : decode cX0_fits 100 = .ok (.aload_n 0, 1) := dk_42 (dk_at dksX0_fits_4 7 rfl rfl)
theorem dX0_fits_101 : decode cX0_fits 101 = .ok (.getfield 26, 3) := dk_180 0 26 (dk_at dksX0_fits_4 8 rfl rfl)
theorem dX0_fits_104 : decode cX0_fits 104 = .ok (.iload 8, 2) := dk_21 8 (dk_at dksX0_fits_4 11 rfl rfl)
theorem dX0_fits_106 : decode cX0_fits 106 = .ok (.iload 9, 2) := dk_21 9 (dk_at dksX0_fits_4 13 rfl rfl)
theorem dX0_fits_108 : decode cX0_fits 108 = .ok (.invokevirtual 110, 3) := dk_182 0 110 (dk_at dksX0_fits_4 15 rfl rfl)
theorem dX0_fits_111 : decode cX0_fits 111 = .ok (.istore 10, 2) := dk_54 10 (dk_at dksX0_fits_4 18 rfl rfl)
theorem dX0_fits_113 : decode cX0_fits 113 = .ok (.iload 10, 2) := dk_21 10 (dk_at dksX0_fits_4 20 rfl rfl)
theorem dX0_fits_115 : decode cX0_fits 115 = .ok (.bipush (-5), 2) := dk_16 251 (dk_at dksX0_fits_4 22 rfl rfl)
theorem dX0_fits_117 : decode cX0_fits 117 = .ok (.if_icmp .eq 12, 3) := dk_159 0 12 (dk_at dksX0_fits_5 0 rfl rfl)
theorem dX0_fits_120 : decode cX0_fits 120 = .ok (.iload 10, 2) := dk_21 10 (dk_at dksX0_fits_5 3 rfl rfl)
theorem dX0_fits_122 : decode cX0_fits 122 = .ok (.iload_n 2, 1) := dk_28 (dk_at dksX0_fits_5 5 rfl rfl)
theorem dX0_fits_123 : decode cX0_fits 123 = .ok (.if_icmp .eq 6, 3) := dk_159 0 6 (dk_at dksX0_fits_5 6 rfl rfl)
theorem dX0_fits_126 : decode cX0_fits 126 = .ok (.goto 59, 3) := dk_167 0 59 (dk_at dksX0_fits_5 9 rfl rfl)
theorem dX0_fits_129 : decode cX0_fits 129 = .ok (.aload_n 0, 1) := dk_42 (dk_at dksX0_fits_5 12 rfl rfl)
theorem dX0_fits_130 : decode cX0_fits 130 = .ok (.getfield 26, 3) := dk_180 0 26 (dk_at dksX0_fits_5 13 rfl rfl)
theorem dX0_fits_133 : decode cX0_fits 133 = .ok (.getfield 132, 3) := dk_180 0 132 (dk_at dksX0_fits_5 16 rfl rfl)
theorem dX0_fits_136 : decode cX0_fits 136 = .ok (.iload_n 2, 1) := dk_28 (dk_at dksX0_fits_5 19 rfl rfl)
theorem dX0_fits_137 : decode cX0_fits 137 = .ok (.iload 8, 2) := dk_21 8 (dk_at dksX0_fits_5 20 rfl rfl)
theorem dX0_fits_139 : decode cX0_fits 139 = .ok (.iastore, 1) := dk_79 (dk_at dksX0_fits_5 22 rfl rfl)
theorem dX0_fits_140 : decode cX0_fits 140 = .ok (.aload_n 0, 1) := dk_42 (dk_at dksX0_fits_5 23 rfl rfl)
theorem dX0_fits_141 : decode cX0_fits 141 = .ok (.getfield 26, 3) := dk_180 0 26 (dk_at dksX0_fits_6 0 rfl rfl)
theorem dX0_fits_144 : decode cX0_fits 144 = .ok (.getfield 136, 3) := dk_180 0 136 (dk_at dksX0_fits_6 3 rfl rfl)
theorem dX0_fits_147 : decode cX0_fits 147 = .ok (.iload_n 2, 1) := dk_28 (dk_at dksX0_fits_6 6 rfl rfl)
theorem dX0_fits_148 : decode cX0_fits 148 = .ok (.iload 9, 2) := dk_21 9 (dk_at dksX0_fits_6 7 rfl rfl)
theorem dX0_fits_150 : decode cX0_fits 150 = .ok (.iastore, 1) := dk_79 (dk_at dksX0_fits_6 9 rfl rfl)
theorem dX0_fits_151 : decode cX0_fits 151 = .ok (.aload_n 0, 1) := dk_42 (dk_at dksX0_fits_6 10 rfl rfl)
theorem dX0_fits_152 : decode cX0_fits 152 = .ok (.iload_n 1, 1) := dk_27 (dk_at dksX0_fits_6 11 rfl rfl)
theorem dX0_fits_153 : decode cX0_fits 153 = .ok (.ifCond .ne 10, 3) := dk_154 0 10 (dk_at dksX0_fits_6 12 rfl rfl)
theorem dX0_fits_156 : decode cX0_fits 156 = .ok (.aload_n 0, 1) := dk_42 (dk_at dksX0_fits_6 15 rfl rfl)
theorem dX0_fits_157 : decode cX0_fits 157 = .ok (.getfield 26, 3) := dk_180 0 26 (dk_at dksX0_fits_6 16 rfl rfl)
theorem dX0_fits_160 : decode cX0_fits 160 = .ok (.goto 9, 3) := dk_167 0 9 (dk_at dksX0_fits_6 19 rfl rfl)
theorem dX0_fits_163 : decode cX0_fits 163 = .ok (.aload_n 0, 1) := dk_42 (dk_at dksX0_fits_6 22 rfl rfl)
theorem dX0_fits_164 : decode cX0_fits 164 = .ok (.getfield 22, 3) := dk_180 0 22 (dk_at dksX0_fits_7 0 rfl rfl)
theorem dX0_fits_167 : decode cX0_fits 167 = .ok (.iconst 0, 1) := dk_3 (dk_at dksX0_fits_7 3 rfl rfl)
theorem dX0_fits_168 : decode cX0_fits 168 = .ok (.aaload, 1) := dk_50 (dk_at dksX0_fits_7 4 rfl rfl)
theorem dX0_fits_169 : decode cX0_fits 169 = .ok (.invokevirtual 319, 3) := dk_182 1 63 (dk_at dksX0_fits_7 5 rfl rfl)
theorem dX0_fits_172 : decode cX0_fits 172 = .ok (.ifCond .ne 6, 3) := dk_154 0 6 (dk_at dksX0_fits_7 8 rfl rfl)
theorem dX0_fits_175 : decode cX0_fits 175 = .ok (.goto 10, 3) := dk_167 0 10 (dk_at dksX0_fits_7 11 rfl rfl)
theorem dX0_fits_178 : decode cX0_fits 178 = .ok (.iinc 5 1, 3) := dk_132 5 1 (dk_at dksX0_fits_7 14 rfl rfl)
theorem dX0_fits_181 : decode cX0_fits 181 = .ok (.iload 7, 2) := dk_21 7 (dk_at dksX0_fits_7 17 rfl rfl)
theorem dX0_fits_183 : decode cX0_fits 183 = .ok (.istore 6, 2) := dk_54 6 (dk_at dksX0_fits_7 19 rfl rfl)
theorem dX0_fits_185 : decode cX0_fits 185 = .ok (.iinc 7 (-1), 3) := dk_132 7 255 (dk_at dksX0_fits_7 21 rfl rfl)
theorem dX0_fits_188 : decode cX0_fits 188 = .ok (.goto (-147), 3) := dk_167 255 109 (dk_at dksX0_fits_8 0 rfl rfl)
theorem dX0_fits_191 : decode cX0_fits 191 = .ok (.iload 4, 2) := dk_21 4 (dk_at dksX0_fits_8 3 rfl rfl)
theorem dX0_fits_193 : decode cX0_fits 193 = .ok (.ifCond .ne 8, 3) := dk_154 0 8 (dk_at dksX0_fits_8 5 rfl rfl)
theorem dX0_fits_196 : decode cX0_fits 196 = .ok (.iload 5, 2) := dk_21 5 (dk_at dksX0_fits_8 8 rfl rfl)
theorem dX0_fits_198 : decode cX0_fits 198 = .ok (.goto 5, 3) := dk_167 0 5 (dk_at dksX0_fits_8 10 rfl rfl)
theorem dX0_fits_201 : decode cX0_fits 201 = .ok (.iload 6, 2) := dk_21 6 (dk_at dksX0_fits_8 13 rfl rfl)
theorem dX0_fits_203 : decode cX0_fits 203 = .ok (.ireturn, 1) := dk_172 (dk_at dksX0_fits_8 15 rfl rfl)
abbrev cX0_areSo : ByteArray := prog_1_method_37_code
def yX0_areSo : MethodName := ⟨RX0, "areSo", "(LTermIdeals$Ideal;)Z"⟩
def dkwX0_areSo_4 : List UInt8 := [159, 0, 5, 3, 172, 132, 3, 1, 167, 255, 180, 4, 172, 77, 3, 172]
abbrev dktX0_areSo_4 : List UInt8 := dkwX0_areSo_4 ++ []
def dkwX0_areSo_3 : List UInt8 := [46, 104, 42, 180, 0, 33, 180, 0, 254, 21, 4, 46, 42, 180, 0, 69, 180, 1, 60, 29, 46, 104]
abbrev dktX0_areSo_3 : List UInt8 := dkwX0_areSo_3 ++ dktX0_areSo_4
def dkwX0_areSo_2 : List UInt8 := [21, 4, 28, 162, 0, 46, 42, 180, 0, 33, 180, 0, 251, 21, 4, 46, 42, 180, 0, 69, 180, 1, 57, 29]
abbrev dktX0_areSo_2 : List UInt8 := dkwX0_areSo_2 ++ dktX0_areSo_3
def dkwX0_areSo_1 : List UInt8 := [3, 62, 29, 42, 180, 0, 69, 180, 1, 53, 162, 0, 71, 42, 180, 0, 69, 180, 1, 54, 29, 46, 54, 4]
abbrev dktX0_areSo_1 : List UInt8 := dkwX0_areSo_1 ++ dktX0_areSo_2
def dkwX0_areSo_0 : List UInt8 := [42, 180, 0, 69, 180, 1, 53, 154, 0, 5, 4, 172, 42, 180, 0, 33, 43, 182, 0, 146, 182, 0, 193, 61]
abbrev dktX0_areSo_0 : List UInt8 := dkwX0_areSo_0 ++ dktX0_areSo_1
theorem dksX0_areSo_0 : cX0_areSo.data.toList.drop 0 = dktX0_areSo_0 := by decide +kernel
theorem dksX0_areSo_1 : cX0_areSo.data.toList.drop 24 = dktX0_areSo_1 := dk_seg dksX0_areSo_0 24 rfl rfl
theorem dksX0_areSo_2 : cX0_areSo.data.toList.drop 48 = dktX0_areSo_2 := dk_seg dksX0_areSo_1 24 rfl rfl
theorem dksX0_areSo_3 : cX0_areSo.data.toList.drop 72 = dktX0_areSo_3 := dk_seg dksX0_areSo_2 24 rfl rfl
theorem dksX0_areSo_4 : cX0_areSo.data.toList.drop 94 = dktX0_areSo_4 := dk_seg dksX0_areSo_3 22 rfl rfl
theorem dX0_areSo_0 : decode cX0_areSo 0 = .ok (.aload_n 0, 1) := dk_42 (dk_at dksX0_areSo_0 0 rfl rfl)
theorem dX0_areSo_1 : decode cX0_areSo 1 = .ok (.getfield 69, 3) := dk_180 0 69 (dk_at dksX0_areSo_0 1 rfl rfl)
theorem dX0_areSo_4 : decode cX0_areSo 4 = .ok (.getfield 309, 3) := dk_180 1 53 (dk_at dksX0_areSo_0 4 rfl rfl)
theorem dX0_areSo_7 : decode cX0_areSo 7 = .ok (.ifCond .ne 5, 3) := dk_154 0 5 (dk_at dksX0_areSo_0 7 rfl rfl)
theorem dX0_areSo_10 : decode cX0_areSo 10 = .ok (.iconst 1, 1) := dk_4 (dk_at dksX0_areSo_0 10 rfl rfl)
theorem dX0_areSo_11 : decode cX0_areSo 11 = .ok (.ireturn, 1) := dk_172 (dk_at dksX0_areSo_0 11 rfl rfl)
theorem dX0_areSo_12 : decode cX0_areSo 12 = .ok (.aload_n 0, 1) := dk_42 (dk_at dksX0_areSo_0 12 rfl rfl)
theorem dX0_areSo_13 : decode cX0_areSo 13 = .ok (.getfield 33, 3) := dk_180 0 33 (dk_at dksX0_areSo_0 13 rfl rfl)
theorem dX0_areSo_16 : decode cX0_areSo 16 = .ok (.aload_n 1, 1) := dk_43 (dk_at dksX0_areSo_0 16 rfl rfl)
theorem dX0_areSo_17 : decode cX0_areSo 17 = .ok (.invokevirtual 146, 3) := dk_182 0 146 (dk_at dksX0_areSo_0 17 rfl rfl)
theorem dX0_areSo_20 : decode cX0_areSo 20 = .ok (.invokevirtual 193, 3) := dk_182 0 193 (dk_at dksX0_areSo_0 20 rfl rfl)
theorem dX0_areSo_23 : decode cX0_areSo 23 = .ok (.istore_n 2, 1) := dk_61 (dk_at dksX0_areSo_0 23 rfl rfl)
theorem dX0_areSo_24 : decode cX0_areSo 24 = .ok (.iconst 0, 1) := dk_3 (dk_at dksX0_areSo_1 0 rfl rfl)
theorem dX0_areSo_25 : decode cX0_areSo 25 = .ok (.istore_n 3, 1) := dk_62 (dk_at dksX0_areSo_1 1 rfl rfl)
theorem dX0_areSo_26 : decode cX0_areSo 26 = .ok (.iload_n 3, 1) := dk_29 (dk_at dksX0_areSo_1 2 rfl rfl)
theorem dX0_areSo_27 : decode cX0_areSo 27 = .ok (.aload_n 0, 1) := dk_42 (dk_at dksX0_areSo_1 3 rfl rfl)
theorem dX0_areSo_28 : decode cX0_areSo 28 = .ok (.getfield 69, 3) := dk_180 0 69 (dk_at dksX0_areSo_1 4 rfl rfl)
theorem dX0_areSo_31 : decode cX0_areSo 31 = .ok (.getfield 309, 3) := dk_180 1 53 (dk_at dksX0_areSo_1 7 rfl rfl)
theorem dX0_areSo_34 : decode cX0_areSo 34 = .ok (.if_icmp .ge 71, 3) := dk_162 0 71 (dk_at dksX0_areSo_1 10 rfl rfl)
theorem dX0_areSo_37 : decode cX0_areSo 37 = .ok (.aload_n 0, 1) := dk_42 (dk_at dksX0_areSo_1 13 rfl rfl)
theorem dX0_areSo_38 : decode cX0_areSo 38 = .ok (.getfield 69, 3) := dk_180 0 69 (dk_at dksX0_areSo_1 14 rfl rfl)
theorem dX0_areSo_41 : decode cX0_areSo 41 = .ok (.getfield 310, 3) := dk_180 1 54 (dk_at dksX0_areSo_1 17 rfl rfl)
theorem dX0_areSo_44 : decode cX0_areSo 44 = .ok (.iload_n 3, 1) := dk_29 (dk_at dksX0_areSo_1 20 rfl rfl)
theorem dX0_areSo_45 : decode cX0_areSo 45 = .ok (.iaload, 1) := dk_46 (dk_at dksX0_areSo_1 21 rfl rfl)
theorem dX0_areSo_46 : decode cX0_areSo 46 = .ok (.istore 4, 2) := dk_54 4 (dk_at dksX0_areSo_1 22 rfl rfl)
theorem dX0_areSo_48 : decode cX0_areSo 48 = .ok (.iload 4, 2) := dk_21 4 (dk_at dksX0_areSo_2 0 rfl rfl)
theorem dX0_areSo_50 : decode cX0_areSo 50 = .ok (.iload_n 2, 1) := dk_28 (dk_at dksX0_areSo_2 2 rfl rfl)
theorem dX0_areSo_51 : decode cX0_areSo 51 = .ok (.if_icmp .ge 46, 3) := dk_162 0 46 (dk_at dksX0_areSo_2 3 rfl rfl)
theorem dX0_areSo_54 : decode cX0_areSo 54 = .ok (.aload_n 0, 1) := dk_42 (dk_at dksX0_areSo_2 6 rfl rfl)
theorem dX0_areSo_55 : decode cX0_areSo 55 = .ok (.getfield 33, 3) := dk_180 0 33 (dk_at dksX0_areSo_2 7 rfl rfl)
theorem dX0_areSo_58 : decode cX0_areSo 58 = .ok (.getfield 251, 3) := dk_180 0 251 (dk_at dksX0_areSo_2 10 rfl rfl)
theorem dX0_areSo_61 : decode cX0_areSo 61 = .ok (.iload 4, 2) := dk_21 4 (dk_at dksX0_areSo_2 13 rfl rfl)
theorem dX0_areSo_63 : decode cX0_areSo 63 = .ok (.iaload, 1) := dk_46 (dk_at dksX0_areSo_2 15 rfl rfl)
theorem dX0_areSo_64 : decode cX0_areSo 64 = .ok (.aload_n 0, 1) := dk_42 (dk_at dksX0_areSo_2 16 rfl rfl)
theorem dX0_areSo_65 : decode cX0_areSo 65 = .ok (.getfield 69, 3) := dk_180 0 69 (dk_at dksX0_areSo_2 17 rfl rfl)
theorem dX0_areSo_68 : decode cX0_areSo 68 = .ok (.getfield 313, 3) := dk_180 1 57 (dk_at dksX0_areSo_2 20 rfl rfl)
theorem dX0_areSo_71 : decode cX0_areSo 71 = .ok (.iload_n 3, 1) := dk_29 (dk_at dksX0_areSo_2 23 rfl rfl)
theorem dX0_areSo_72 : decode cX0_areSo 72 = .ok (.iaload, 1) := dk_46 (dk_at dksX0_areSo_3 0 rfl rfl)
theorem dX0_areSo_73 : decode cX0_areSo 73 = .ok (.imul, 1) := dk_104 (dk_at dksX0_areSo_3 1 rfl rfl)
theorem dX0_areSo_74 : decode cX0_areSo 74 = .ok (.aload_n 0, 1) := dk_42 (dk_at dksX0_areSo_3 2 rfl rfl)
theorem dX0_areSo_75 : decode cX0_areSo 75 = .ok (.getfield 33, 3) := dk_180 0 33 (dk_at dksX0_areSo_3 3 rfl rfl)
theorem dX0_areSo_78 : decode cX0_areSo 78 = .ok (.getfield 254, 3) := dk_180 0 254 (dk_at dksX0_areSo_3 6 rfl rfl)
theorem dX0_areSo_81 : decode cX0_areSo 81 = .ok (.iload 4, 2) := dk_21 4 (dk_at dksX0_areSo_3 9 rfl rfl)
theorem dX0_areSo_83 : decode cX0_areSo 83 = .ok (.iaload, 1) := dk_46 (dk_at dksX0_areSo_3 11 rfl rfl)
theorem dX0_areSo_84 : decode cX0_areSo 84 = .ok (.aload_n 0, 1) := dk_42 (dk_at dksX0_areSo_3 12 rfl rfl)
theorem dX0_areSo_85 : decode cX0_areSo 85 = .ok (.getfield 69, 3) := dk_180 0 69 (dk_at dksX0_areSo_3 13 rfl rfl)
theorem dX0_areSo_88 : decode cX0_areSo 88 = .ok (.getfield 316, 3) := dk_180 1 60 (dk_at dksX0_areSo_3 16 rfl rfl)
theorem dX0_areSo_91 : decode cX0_areSo 91 = .ok (.iload_n 3, 1) := dk_29 (dk_at dksX0_areSo_3 19 rfl rfl)
theorem dX0_areSo_92 : decode cX0_areSo 92 = .ok (.iaload, 1) := dk_46 (dk_at dksX0_areSo_3 20 rfl rfl)
theorem dX0_areSo_93 : decode cX0_areSo 93 = .ok (.imul, 1) := dk_104 (dk_at dksX0_areSo_3 21 rfl rfl)
theorem dX0_areSo_94 : decode cX0_areSo 94 = .ok (.if_icmp .eq 5, 3) := dk_159 0 5 (dk_at dksX0_areSo_4 0 rfl rfl)
theorem dX0_areSo_97 : decode cX0_areSo 97 = .ok (.iconst 0, 1) := dk_3 (dk_at dksX0_areSo_4 3 rfl rfl)
theorem dX0_areSo_98 : decode cX0_areSo 98 = .ok (.ireturn, 1) := dk_172 (dk_at dksX0_areSo_4 4 rfl rfl)
theorem dX0_areSo_99 : decode cX0_areSo 99 = .ok (.iinc 3 1, 3) := dk_132 3 1 (dk_at dksX0_areSo_4 5 rfl rfl)
theorem dX0_areSo_102 : decode cX0_areSo 102 = .ok (.goto (-76), 3) := dk_167 255 180 (dk_at dksX0_areSo_4 8 rfl rfl)
theorem dX0_areSo_105 : decode cX0_areSo 105 = .ok (.iconst 1, 1) := dk_4 (dk_at dksX0_areSo_4 11 rfl rfl)
theorem dX0_areSo_106 : decode cX0_areSo 106 = .ok (.ireturn, 1) := dk_172 (dk_at dksX0_areSo_4 12 rfl rfl)
theorem dX0_areSo_107 : decode cX0_areSo 107 = .ok (.astore_n 2, 1) := dk_77 (dk_at dksX0_areSo_4 13 rfl rfl)
theorem dX0_areSo_108 : decode cX0_areSo 108 = .ok (.iconst 0, 1) := dk_3 (dk_at dksX0_areSo_4 14 rfl rfl)
theorem dX0_areSo_109 : decode cX0_areSo 109 = .ok (.ireturn, 1) := dk_172 (dk_at dksX0_areSo_4 15 rfl rfl)
abbrev cX0_odds : ByteArray := prog_1_method_39_code
def yX0_odds : MethodName := ⟨RX0, "odds", "(IIII)J"⟩
def dkwX0_odds_2 : List UInt8 := [182, 1, 1, 100, 133, 20, 1, 67, 21, 4, 184, 0, 247, 173, 58, 5, 20, 0, 236, 173]
abbrev dktX0_odds_2 : List UInt8 := dkwX0_odds_2 ++ []
def dkwX0_odds_1 : List UInt8 := [154, 0, 7, 20, 0, 236, 173, 16, 100, 42, 180, 0, 33, 42, 180, 0, 22, 27, 50, 182, 0, 146, 28, 29]
abbrev dktX0_odds_1 : List UInt8 := dkwX0_odds_1 ++ dktX0_odds_2
def dkwX0_odds_0 : List UInt8 := [27, 184, 0, 98, 153, 0, 21, 28, 29, 184, 0, 212, 153, 0, 13, 21, 4, 3, 4, 184, 0, 5]
abbrev dktX0_odds_0 : List UInt8 := dkwX0_odds_0 ++ dktX0_odds_1
theorem dksX0_odds_0 : cX0_odds.data.toList.drop 0 = dktX0_odds_0 := by decide +kernel
theorem dksX0_odds_1 : cX0_odds.data.toList.drop 22 = dktX0_odds_1 := dk_seg dksX0_odds_0 22 rfl rfl
theorem dksX0_odds_2 : cX0_odds.data.toList.drop 46 = dktX0_odds_2 := dk_seg dksX0_odds_1 24 rfl rfl
theorem dX0_odds_0 : decode cX0_odds 0 = .ok (.iload_n 1, 1) := dk_27 (dk_at dksX0_odds_0 0 rfl rfl)
theorem dX0_odds_1 : decode cX0_odds 1 = .ok (.invokestatic 98, 3) := dk_184 0 98 (dk_at dksX0_odds_0 1 rfl rfl)
theorem dX0_odds_4 : decode cX0_odds 4 = .ok (.ifCond .eq 21, 3) := dk_153 0 21 (dk_at dksX0_odds_0 4 rfl rfl)
theorem dX0_odds_7 : decode cX0_odds 7 = .ok (.iload_n 2, 1) := dk_28 (dk_at dksX0_odds_0 7 rfl rfl)
theorem dX0_odds_8 : decode cX0_odds 8 = .ok (.iload_n 3, 1) := dk_29 (dk_at dksX0_odds_0 8 rfl rfl)
theorem dX0_odds_9 : decode cX0_odds 9 = .ok (.invokestatic 212, 3) := dk_184 0 212 (dk_at dksX0_odds_0 9 rfl rfl)
theorem dX0_odds_12 : decode cX0_odds 12 = .ok (.ifCond .eq 13, 3) := dk_153 0 13 (dk_at dksX0_odds_0 12 rfl rfl)
theorem dX0_odds_15 : decode cX0_odds 15 = .ok (.iload 4, 2) := dk_21 4 (dk_at dksX0_odds_0 15 rfl rfl)
theorem dX0_odds_17 : decode cX0_odds 17 = .ok (.iconst 0, 1) := dk_3 (dk_at dksX0_odds_0 17 rfl rfl)
theorem dX0_odds_18 : decode cX0_odds 18 = .ok (.iconst 1, 1) := dk_4 (dk_at dksX0_odds_0 18 rfl rfl)
theorem dX0_odds_19 : decode cX0_odds 19 = .ok (.invokestatic 5, 3) := dk_184 0 5 (dk_at dksX0_odds_0 19 rfl rfl)
theorem dX0_odds_22 : decode cX0_odds 22 = .ok (.ifCond .ne 7, 3) := dk_154 0 7 (dk_at dksX0_odds_1 0 rfl rfl)
theorem dX0_odds_25 : decode cX0_odds 25 = .ok (.ldc2_w 236, 3) := dk_20 0 236 (dk_at dksX0_odds_1 3 rfl rfl)
theorem dX0_odds_28 : decode cX0_odds 28 = .ok (.lreturn, 1) := dk_173 (dk_at dksX0_odds_1 6 rfl rfl)
theorem dX0_odds_29 : decode cX0_odds 29 = .ok (.bipush 100, 2) := dk_16 100 (dk_at dksX0_odds_1 7 rfl rfl)
theorem dX0_odds_31 : decode cX0_odds 31 = .ok (.aload_n 0, 1) := dk_42 (dk_at dksX0_odds_1 9 rfl rfl)
theorem dX0_odds_32 : decode cX0_odds 32 = .ok (.getfield 33, 3) := dk_180 0 33 (dk_at dksX0_odds_1 10 rfl rfl)
theorem dX0_odds_35 : decode cX0_odds 35 = .ok (.aload_n 0, 1) := dk_42 (dk_at dksX0_odds_1 13 rfl rfl)
theorem dX0_odds_36 : decode cX0_odds 36 = .ok (.getfield 22, 3) := dk_180 0 22 (dk_at dksX0_odds_1 14 rfl rfl)
theorem dX0_odds_39 : decode cX0_odds 39 = .ok (.iload_n 1, 1) := dk_27 (dk_at dksX0_odds_1 17 rfl rfl)
theorem dX0_odds_40 : decode cX0_odds 40 = .ok (.aaload, 1) := dk_50 (dk_at dksX0_odds_1 18 rfl rfl)
theorem dX0_odds_41 : decode cX0_odds 41 = .ok (.invokevirtual 146, 3) := dk_182 0 146 (dk_at dksX0_odds_1 19 rfl rfl)
theorem dX0_odds_44 : decode cX0_odds 44 = .ok (.iload_n 2, 1) := dk_28 (dk_at dksX0_odds_1 22 rfl rfl)
theorem dX0_odds_45 : decode cX0_odds 45 = .ok (.iload_n 3, 1) := dk_29 (dk_at dksX0_odds_1 23 rfl rfl)
theorem dX0_odds_46 : decode cX0_odds 46 = .ok (.invokevirtual 257, 3) := dk_182 1 1 (dk_at dksX0_odds_2 0 rfl rfl)
theorem dX0_odds_49 : decode cX0_odds 49 = .ok (.isub, 1) := dk_100 (dk_at dksX0_odds_2 3 rfl rfl)
theorem dX0_odds_50 : decode cX0_odds 50 = .ok (.i2l, 1) := dk_133 (dk_at dksX0_odds_2 4 rfl rfl)
theorem dX0_odds_51 : decode cX0_odds 51 = .ok (.ldc2_w 323, 3) := dk_20 1 67 (dk_at dksX0_odds_2 5 rfl rfl)
theorem dX0_odds_54 : decode cX0_odds 54 = .ok (.iload 4, 2) := dk_21 4 (dk_at dksX0_odds_2 8 rfl rfl)
theorem dX0_odds_56 : decode cX0_odds 56 = .ok (.invokestatic 247, 3) := dk_184 0 247 (dk_at dksX0_odds_2 10 rfl rfl)
theorem dX0_odds_59 : decode cX0_odds 59 = .ok (.lreturn, 1) := dk_173 (dk_at dksX0_odds_2 13 rfl rfl)
theorem dX0_odds_60 : decode cX0_odds 60 = .ok (.astore 5, 2) := dk_58 5 (dk_at dksX0_odds_2 14 rfl rfl)
theorem dX0_odds_62 : decode cX0_odds 62 = .ok (.ldc2_w 236, 3) := dk_20 0 236 (dk_at dksX0_odds_2 16 rfl rfl)
theorem dX0_odds_65 : decode cX0_odds 65 = .ok (.lreturn, 1) := dk_173 (dk_at dksX0_odds_2 19 rfl rfl)
abbrev cX0_mean : ByteArray := prog_1_method_40_code
def yX0_mean : MethodName := ⟨RX0, "mean", "(II)J"⟩
def dkwX0_mean_2 : List UInt8 := [27, 50, 180, 0, 102, 133, 28, 184, 0, 247, 173]
abbrev dktX0_mean_2 : List UInt8 := dkwX0_mean_2 ++ []
def dkwX0_mean_1 : List UInt8 := [180, 0, 102, 154, 0, 7, 20, 0, 236, 173, 42, 180, 0, 22, 27, 50, 182, 1, 69, 133, 42, 180, 0, 22]
abbrev dktX0_mean_1 : List UInt8 := dkwX0_mean_1 ++ dktX0_mean_2
def dkwX0_mean_0 : List UInt8 := [27, 184, 0, 98, 153, 0, 24, 28, 3, 4, 184, 0, 5, 153, 0, 15, 42, 180, 0, 22, 27, 50]
abbrev dktX0_mean_0 : List UInt8 := dkwX0_mean_0 ++ dktX0_mean_1
theorem dksX0_mean_0 : cX0_mean.data.toList.drop 0 = dktX0_mean_0 := by decide +kernel
theorem dksX0_mean_1 : cX0_mean.data.toList.drop 22 = dktX0_mean_1 := dk_seg dksX0_mean_0 22 rfl rfl
theorem dksX0_mean_2 : cX0_mean.data.toList.drop 46 = dktX0_mean_2 := dk_seg dksX0_mean_1 24 rfl rfl
theorem dX0_mean_0 : decode cX0_mean 0 = .ok (.iload_n 1, 1) := dk_27 (dk_at dksX0_mean_0 0 rfl rfl)
theorem dX0_mean_1 : decode cX0_mean 1 = .ok (.invokestatic 98, 3) := dk_184 0 98 (dk_at dksX0_mean_0 1 rfl rfl)
theorem dX0_mean_4 : decode cX0_mean 4 = .ok (.ifCond .eq 24, 3) := dk_153 0 24 (dk_at dksX0_mean_0 4 rfl rfl)
theorem dX0_mean_7 : decode cX0_mean 7 = .ok (.iload_n 2, 1) := dk_28 (dk_at dksX0_mean_0 7 rfl rfl)
theorem dX0_mean_8 : decode cX0_mean 8 = .ok (.iconst 0, 1) := dk_3 (dk_at dksX0_mean_0 8 rfl rfl)
theorem dX0_mean_9 : decode cX0_mean 9 = .ok (.iconst 1, 1) := dk_4 (dk_at dksX0_mean_0 9 rfl rfl)
theorem dX0_mean_10 : decode cX0_mean 10 = .ok (.invokestatic 5, 3) := dk_184 0 5 (dk_at dksX0_mean_0 10 rfl rfl)
theorem dX0_mean_13 : decode cX0_mean 13 = .ok (.ifCond .eq 15, 3) := dk_153 0 15 (dk_at dksX0_mean_0 13 rfl rfl)
theorem dX0_mean_16 : decode cX0_mean 16 = .ok (.aload_n 0, 1) := dk_42 (dk_at dksX0_mean_0 16 rfl rfl)
theorem dX0_mean_17 : decode cX0_mean 17 = .ok (.getfield 22, 3) := dk_180 0 22 (dk_at dksX0_mean_0 17 rfl rfl)
theorem dX0_mean_20 : decode cX0_mean 20 = .ok (.iload_n 1, 1) := dk_27 (dk_at dksX0_mean_0 20 rfl rfl)
theorem dX0_mean_21 : decode cX0_mean 21 = .ok (.aaload, 1) := dk_50 (dk_at dksX0_mean_0 21 rfl rfl)
theorem dX0_mean_22 : decode cX0_mean 22 = .ok (.getfield 102, 3) := dk_180 0 102 (dk_at dksX0_mean_1 0 rfl rfl)
theorem dX0_mean_25 : decode cX0_mean 25 = .ok (.ifCond .ne 7, 3) := dk_154 0 7 (dk_at dksX0_mean_1 3 rfl rfl)
theorem dX0_mean_28 : decode cX0_mean 28 = .ok (.ldc2_w 236, 3) := dk_20 0 236 (dk_at dksX0_mean_1 6 rfl rfl)
theorem dX0_mean_31 : decode cX0_mean 31 = .ok (.lreturn, 1) := dk_173 (dk_at dksX0_mean_1 9 rfl rfl)
theorem dX0_mean_32 : decode cX0_mean 32 = .ok (.aload_n 0, 1) := dk_42 (dk_at dksX0_mean_1 10 rfl rfl)
theorem dX0_mean_33 : decode cX0_mean 33 = .ok (.getfield 22, 3) := dk_180 0 22 (dk_at dksX0_mean_1 11 rfl rfl)
theorem dX0_mean_36 : decode cX0_mean 36 = .ok (.iload_n 1, 1) := dk_27 (dk_at dksX0_mean_1 14 rfl rfl)
theorem dX0_mean_37 : decode cX0_mean 37 = .ok (.aaload, 1) := dk_50 (dk_at dksX0_mean_1 15 rfl rfl)
theorem dX0_mean_38 : decode cX0_mean 38 = .ok (.invokevirtual 325, 3) := dk_182 1 69 (dk_at dksX0_mean_1 16 rfl rfl)
theorem dX0_mean_41 : decode cX0_mean 41 = .ok (.i2l, 1) := dk_133 (dk_at dksX0_mean_1 19 rfl rfl)
theorem dX0_mean_42 : decode cX0_mean 42 = .ok (.aload_n 0, 1) := dk_42 (dk_at dksX0_mean_1 20 rfl rfl)
theorem dX0_mean_43 : decode cX0_mean 43 = .ok (.getfield 22, 3) := dk_180 0 22 (dk_at dksX0_mean_1 21 rfl rfl)
theorem dX0_mean_46 : decode cX0_mean 46 = .ok (.iload_n 1, 1) := dk_27 (dk_at dksX0_mean_2 0 rfl rfl)
theorem dX0_mean_47 : decode cX0_mean 47 = .ok (.aaload, 1) := dk_50 (dk_at dksX0_mean_2 1 rfl rfl)
theorem dX0_mean_48 : decode cX0_mean 48 = .ok (.getfield 102, 3) := dk_180 0 102 (dk_at dksX0_mean_2 2 rfl rfl)
theorem dX0_mean_51 : decode cX0_mean 51 = .ok (.i2l, 1) := dk_133 (dk_at dksX0_mean_2 5 rfl rfl)
theorem dX0_mean_52 : decode cX0_mean 52 = .ok (.iload_n 2, 1) := dk_28 (dk_at dksX0_mean_2 6 rfl rfl)
theorem dX0_mean_53 : decode cX0_mean 53 = .ok (.invokestatic 247, 3) := dk_184 0 247 (dk_at dksX0_mean_2 7 rfl rfl)
theorem dX0_mean_56 : decode cX0_mean 56 = .ok (.lreturn, 1) := dk_173 (dk_at dksX0_mean_2 10 rfl rfl)
abbrev cX0_event : ByteArray := prog_1_method_41_code
def yX0_event : MethodName := ⟨RX0, "event", "(II)I"⟩
def dkwX0_event_5 : List UInt8 := [180, 0, 73, 27, 28, 3, 182, 1, 49, 167, 0, 5, 16, 254, 172, 2, 172]
abbrev dktX0_event_5 : List UInt8 := dkwX0_event_5 ++ []
def dkwX0_event_4 : List UInt8 := [28, 3, 182, 1, 49, 167, 0, 5, 16, 254, 172, 28, 4, 16, 9, 184, 0, 5, 153, 0, 16, 42]
abbrev dktX0_event_4 : List UInt8 := dkwX0_event_4 ++ dktX0_event_5
def dkwX0_event_3 : List UInt8 := [3, 182, 1, 49, 167, 0, 5, 16, 254, 172, 28, 3, 8, 184, 0, 5, 153, 0, 16, 42, 180, 0, 73, 27]
abbrev dktX0_event_3 : List UInt8 := dkwX0_event_3 ++ dktX0_event_4
def dkwX0_event_2 : List UInt8 := [42, 180, 0, 73, 182, 1, 46, 172, 28, 3, 16, 99, 184, 0, 5, 153, 0, 16, 42, 180, 0, 73, 27, 28]
abbrev dktX0_event_2 : List UInt8 := dkwX0_event_2 ++ dktX0_event_3
def dkwX0_event_1 : List UInt8 := [170, 0, 0, 0, 0, 0, 116, 255, 255, 255, 255, 0, 0, 0, 2, 0, 0, 0, 31, 0, 0, 0, 39, 0, 0, 0, 65, 0, 0, 0, 90]
abbrev dktX0_event_1 : List UInt8 := dkwX0_event_1 ++ dktX0_event_2
def dkwX0_event_0 : List UInt8 := [27]
abbrev dktX0_event_0 : List UInt8 := dkwX0_event_0 ++ dktX0_event_1
theorem dksX0_event_0 : cX0_event.data.toList.drop 0 = dktX0_event_0 := by decide +kernel
theorem dksX0_event_1 : cX0_event.data.toList.drop 1 = dktX0_event_1 := dk_seg dksX0_event_0 1 rfl rfl
theorem dksX0_event_2 : cX0_event.data.toList.drop 32 = dktX0_event_2 := dk_seg dksX0_event_1 31 rfl rfl
theorem dksX0_event_3 : cX0_event.data.toList.drop 56 = dktX0_event_3 := dk_seg dksX0_event_2 24 rfl rfl
theorem dksX0_event_4 : cX0_event.data.toList.drop 80 = dktX0_event_4 := dk_seg dksX0_event_3 24 rfl rfl
theorem dksX0_event_5 : cX0_event.data.toList.drop 102 = dktX0_event_5 := dk_seg dksX0_event_4 22 rfl rfl
theorem dX0_event_0 : decode cX0_event 0 = .ok (.iload_n 1, 1) := dk_27 (dk_at dksX0_event_0 0 rfl rfl)
theorem dX0_event_1 : decode cX0_event 1 = .ok (.tableswitch 116 (-1) 2 #[31, 39, 65, 90], 31) := by decide +kernel
theorem dX0_event_32 : decode cX0_event 32 = .ok (.aload_n 0, 1) := dk_42 (dk_at dksX0_event_2 0 rfl rfl)
theorem dX0_event_33 : decode cX0_event 33 = .ok (.getfield 73, 3) := dk_180 0 73 (dk_at dksX0_event_2 1 rfl rfl)
theorem dX0_event_36 : decode cX0_event 36 = .ok (.invokevirtual 302, 3) := dk_182 1 46 (dk_at dksX0_event_2 4 rfl rfl)
theorem dX0_event_39 : decode cX0_event 39 = .ok (.ireturn, 1) := dk_172 (dk_at dksX0_event_2 7 rfl rfl)
theorem dX0_event_40 : decode cX0_event 40 = .ok (.iload_n 2, 1) := dk_28 (dk_at dksX0_event_2 8 rfl rfl)
theorem dX0_event_41 : decode cX0_event 41 = .ok (.iconst 0, 1) := dk_3 (dk_at dksX0_event_2 9 rfl rfl)
theorem dX0_event_42 : decode cX0_event 42 = .ok (.bipush 99, 2) := dk_16 99 (dk_at dksX0_event_2 10 rfl rfl)
theorem dX0_event_44 : decode cX0_event 44 = .ok (.invokestatic 5, 3) := dk_184 0 5 (dk_at dksX0_event_2 12 rfl rfl)
theorem dX0_event_47 : decode cX0_event 47 = .ok (.ifCond .eq 16, 3) := dk_153 0 16 (dk_at dksX0_event_2 15 rfl rfl)
theorem dX0_event_50 : decode cX0_event 50 = .ok (.aload_n 0, 1) := dk_42 (dk_at dksX0_event_2 18 rfl rfl)
theorem dX0_event_51 : decode cX0_event 51 = .ok (.getfield 73, 3) := dk_180 0 73 (dk_at dksX0_event_2 19 rfl rfl)
theorem dX0_event_54 : decode cX0_event 54 = .ok (.iload_n 1, 1) := dk_27 (dk_at dksX0_event_2 22 rfl rfl)
theorem dX0_event_55 : decode cX0_event 55 = .ok (.iload_n 2, 1) := dk_28 (dk_at dksX0_event_2 23 rfl rfl)
theorem dX0_event_56 : decode cX0_event 56 = .ok (.iconst 0, 1) := dk_3 (dk_at dksX0_event_3 0 rfl rfl)
theorem dX0_event_57 : decode cX0_event 57 = .ok (.invokevirtual 305, 3) := dk_182 1 49 (dk_at dksX0_event_3 1 rfl rfl)
theorem dX0_event_60 : decode cX0_event 60 = .ok (.goto 5, 3) := dk_167 0 5 (dk_at dksX0_event_3 4 rfl rfl)
theorem dX0_event_63 : decode cX0_event 63 = .ok (.bipush (-2), 2) := dk_16 254 (dk_at dksX0_event_3 7 rfl rfl)
theorem dX0_event_65 : decode cX0_event 65 = .ok (.ireturn, 1) := dk_172 (dk_at dksX0_event_3 9 rfl rfl)
theorem dX0_event_66 : decode cX0_event 66 = .ok (.iload_n 2, 1) := dk_28 (dk_at dksX0_event_3 10 rfl rfl)
theorem dX0_event_67 : decode cX0_event 67 = .ok (.iconst 0, 1) := dk_3 (dk_at dksX0_event_3 11 rfl rfl)
theorem dX0_event_68 : decode cX0_event 68 = .ok (.iconst 5, 1) := dk_8 (dk_at dksX0_event_3 12 rfl rfl)
theorem dX0_event_69 : decode cX0_event 69 = .ok (.invokestatic 5, 3) := dk_184 0 5 (dk_at dksX0_event_3 13 rfl rfl)
theorem dX0_event_72 : decode cX0_event 72 = .ok (.ifCond .eq 16, 3) := dk_153 0 16 (dk_at dksX0_event_3 16 rfl rfl)
theorem dX0_event_75 : decode cX0_event 75 = .ok (.aload_n 0, 1) := dk_42 (dk_at dksX0_event_3 19 rfl rfl)
theorem dX0_event_76 : decode cX0_event 76 = .ok (.getfield 73, 3) := dk_180 0 73 (dk_at dksX0_event_3 20 rfl rfl)
theorem dX0_event_79 : decode cX0_event 79 = .ok (.iload_n 1, 1) := dk_27 (dk_at dksX0_event_3 23 rfl rfl)
theorem dX0_event_80 : decode cX0_event 80 = .ok (.iload_n 2, 1) := dk_28 (dk_at dksX0_event_4 0 rfl rfl)
theorem dX0_event_81 : decode cX0_event 81 = .ok (.iconst 0, 1) := dk_3 (dk_at dksX0_event_4 1 rfl rfl)
theorem dX0_event_82 : decode cX0_event 82 = .ok (.invokevirtual 305, 3) := dk_182 1 49 (dk_at dksX0_event_4 2 rfl rfl)
theorem dX0_event_85 : decode cX0_event 85 = .ok (.goto 5, 3) := dk_167 0 5 (dk_at dksX0_event_4 5 rfl rfl)
theorem dX0_event_88 : decode cX0_event 88 = .ok (.bipush (-2), 2) := dk_16 254 (dk_at dksX0_event_4 8 rfl rfl)
theorem dX0_event_90 : decode cX0_event 90 = .ok (.ireturn, 1) := dk_172 (dk_at dksX0_event_4 10 rfl rfl)
theorem dX0_event_91 : decode cX0_event 91 = .ok (.iload_n 2, 1) := dk_28 (dk_at dksX0_event_4 11 rfl rfl)
theorem dX0_event_92 : decode cX0_event 92 = .ok (.iconst 1, 1) := dk_4 (dk_at dksX0_event_4 12 rfl rfl)
theorem dX0_event_93 : decode cX0_event 93 = .ok (.bipush 9, 2) := dk_16 9 (dk_at dksX0_event_4 13 rfl rfl)
theorem dX0_event_95 : decode cX0_event 95 = .ok (.invokestatic 5, 3) := dk_184 0 5 (dk_at dksX0_event_4 15 rfl rfl)
theorem dX0_event_98 : decode cX0_event 98 = .ok (.ifCond .eq 16, 3) := dk_153 0 16 (dk_at dksX0_event_4 18 rfl rfl)
theorem dX0_event_101 : decode cX0_event 101 = .ok (.aload_n 0, 1) := dk_42 (dk_at dksX0_event_4 21 rfl rfl)
theorem dX0_event_102 : decode cX0_event 102 = .ok (.getfield 73, 3) := dk_180 0 73 (dk_at dksX0_event_5 0 rfl rfl)
theorem dX0_event_105 : decode cX0_event 105 = .ok (.iload_n 1, 1) := dk_27 (dk_at dksX0_event_5 3 rfl rfl)
theorem dX0_event_106 : decode cX0_event 106 = .ok (.iload_n 2, 1) := dk_28 (dk_at dksX0_event_5 4 rfl rfl)
theorem dX0_event_107 : decode cX0_event 107 = .ok (.iconst 0, 1) := dk_3 (dk_at dksX0_event_5 5 rfl rfl)
theorem dX0_event_108 : decode cX0_event 108 = .ok (.invokevirtual 305, 3) := dk_182 1 49 (dk_at dksX0_event_5 6 rfl rfl)
theorem dX0_event_111 : decode cX0_event 111 = .ok (.goto 5, 3) := dk_167 0 5 (dk_at dksX0_event_5 9 rfl rfl)
theorem dX0_event_114 : decode cX0_event 114 = .ok (.bipush (-2), 2) := dk_16 254 (dk_at dksX0_event_5 12 rfl rfl)
theorem dX0_event_116 : decode cX0_event 116 = .ok (.ireturn, 1) := dk_172 (dk_at dksX0_event_5 14 rfl rfl)
theorem dX0_event_117 : decode cX0_event 117 = .ok (.iconst (-1), 1) := dk_2 (dk_at dksX0_event_5 15 rfl rfl)
theorem dX0_event_118 : decode cX0_event 118 = .ok (.ireturn, 1) := dk_172 (dk_at dksX0_event_5 16 rfl rfl)
abbrev cX0_after : ByteArray := prog_1_method_43_code
def yX0_after : MethodName := ⟨RX0, "after", "(I)I"⟩
def dkwX0_after_5 : List UInt8 := [153, 0, 7, 4, 167, 0, 4, 3, 172, 77, 16, 253, 172]
abbrev dktX0_after_5 : List UInt8 := dkwX0_after_5 ++ []
def dkwX0_after_4 : List UInt8 := [182, 0, 146, 182, 0, 193, 167, 0, 25, 42, 180, 0, 33, 42, 180, 0, 26, 182, 0, 146, 182, 0, 189]
abbrev dktX0_after_4 : List UInt8 := dkwX0_after_4 ++ dktX0_after_5
def dkwX0_after_3 : List UInt8 := [180, 0, 26, 180, 0, 102, 167, 0, 47, 27, 4, 160, 0, 20, 42, 180, 0, 33, 42, 180, 0, 26]
abbrev dktX0_after_3 : List UInt8 := dkwX0_after_3 ++ dktX0_after_4
def dkwX0_after_2 : List UInt8 := [180, 0, 73, 180, 1, 60, 28, 46, 182, 1, 74, 132, 2, 1, 167, 255, 220, 27, 154, 0, 13, 42]
abbrev dktX0_after_2 : List UInt8 := dkwX0_after_2 ++ dktX0_after_3
def dkwX0_after_1 : List UInt8 := [3, 61, 28, 42, 180, 0, 73, 180, 1, 53, 162, 0, 31, 42, 42, 180, 0, 73, 180, 1, 54, 28, 46, 42]
abbrev dktX0_after_1 : List UInt8 := dkwX0_after_1 ++ dktX0_after_2
def dkwX0_after_0 : List UInt8 := [27, 3, 5, 184, 0, 5, 154, 0, 5, 2, 172, 42, 180, 0, 26, 42, 180, 0, 22, 3, 50, 182, 0, 128]
abbrev dktX0_after_0 : List UInt8 := dkwX0_after_0 ++ dktX0_after_1
theorem dksX0_after_0 : cX0_after.data.toList.drop 0 = dktX0_after_0 := by decide +kernel
theorem dksX0_after_1 : cX0_after.data.toList.drop 24 = dktX0_after_1 := dk_seg dksX0_after_0 24 rfl rfl
theorem dksX0_after_2 : cX0_after.data.toList.drop 48 = dktX0_after_2 := dk_seg dksX0_after_1 24 rfl rfl
theorem dksX0_after_3 : cX0_after.data.toList.drop 70 = dktX0_after_3 := dk_seg dksX0_after_2 22 rfl rfl
theorem dksX0_after_4 : cX0_after.data.toList.drop 92 = dktX0_after_4 := dk_seg dksX0_after_3 22 rfl rfl
theorem dksX0_after_5 : cX0_after.data.toList.drop 115 = dktX0_after_5 := dk_seg dksX0_after_4 23 rfl rfl
theorem dX0_after_0 : decode cX0_after 0 = .ok (.iload_n 1, 1) := dk_27 (dk_at dksX0_after_0 0 rfl rfl)
theorem dX0_after_1 : decode cX0_after 1 = .ok (.iconst 0, 1) := dk_3 (dk_at dksX0_after_0 1 rfl rfl)
theorem dX0_after_2 : decode cX0_after 2 = .ok (.iconst 2, 1) := dk_5 (dk_at dksX0_after_0 2 rfl rfl)
theorem dX0_after_3 : decode cX0_after 3 = .ok (.invokestatic 5, 3) := dk_184 0 5 (dk_at dksX0_after_0 3 rfl rfl)
theorem dX0_after_6 : decode cX0_after 6 = .ok (.ifCond .ne 5, 3) := dk_154 0 5 (dk_at dksX0_after_0 6 rfl rfl)
theorem dX0_after_9 : decode cX0_after 9 = .ok (.iconst (-1), 1) := dk_2 (dk_at dksX0_after_0 9 rfl rfl)
theorem dX0_after_10 : decode cX0_after 10 = .ok (.ireturn, 1) := dk_172 (dk_at dksX0_after_0 10 rfl rfl)
theorem dX0_after_11 : decode cX0_after 11 = .ok (.aload_n 0, 1) := dk_42 (dk_at dksX0_after_0 11 rfl rfl)
theorem dX0_after_12 : decode cX0_after 12 = .ok (.getfield 26, 3) := dk_180 0 26 (dk_at dksX0_after_0 12 rfl rfl)
theorem dX0_after_15 : decode cX0_after 15 = .ok (.aload_n 0, 1) := dk_42 (dk_at dksX0_after_0 15 rfl rfl)
theorem dX0_after_16 : decode cX0_after 16 = .ok (.getfield 22, 3) := dk_180 0 22 (dk_at dksX0_after_0 16 rfl rfl)
theorem dX0_after_19 : decode cX0_after 19 = .ok (.iconst 0, 1) := dk_3 (dk_at dksX0_after_0 19 rfl rfl)
theorem dX0_after_20 : decode cX0_after 20 = .ok (.aaload, 1) := dk_50 (dk_at dksX0_after_0 20 rfl rfl)
theorem dX0_after_21 : decode cX0_after 21 = .ok (.invokevirtual 128, 3) := dk_182 0 128 (dk_at dksX0_after_0 21 rfl rfl)
theorem dX0_after_24 : decode cX0_after 24 = .ok (.iconst 0, 1) := dk_3 (dk_at dksX0_after_1 0 rfl rfl)
theorem dX0_after_25 : decode cX0_after 25 = .ok (.istore_n 2, 1) := dk_61 (dk_at dksX0_after_1 1 rfl rfl)
theorem dX0_after_26 : decode cX0_after 26 = .ok (.iload_n 2, 1) := dk_28 (dk_at dksX0_after_1 2 rfl rfl)
theorem dX0_after_27 : decode cX0_after 27 = .ok (.aload_n 0, 1) := dk_42 (dk_at dksX0_after_1 3 rfl rfl)
theorem dX0_after_28 : decode cX0_after 28 = .ok (.getfield 73, 3) := dk_180 0 73 (dk_at dksX0_after_1 4 rfl rfl)
theorem dX0_after_31 : decode cX0_after 31 = .ok (.getfield 309, 3) := dk_180 1 53 (dk_at dksX0_after_1 7 rfl rfl)
theorem dX0_after_34 : decode cX0_after 34 = .ok (.if_icmp .ge 31, 3) := dk_162 0 31 (dk_at dksX0_after_1 10 rfl rfl)
theorem dX0_after_37 : decode cX0_after 37 = .ok (.aload_n 0, 1) := dk_42 (dk_at dksX0_after_1 13 rfl rfl)
theorem dX0_after_38 : decode cX0_after 38 = .ok (.aload_n 0, 1) := dk_42 (dk_at dksX0_after_1 14 rfl rfl)
theorem dX0_after_39 : decode cX0_after 39 = .ok (.getfield 73, 3) := dk_180 0 73 (dk_at dksX0_after_1 15 rfl rfl)
theorem dX0_after_42 : decode cX0_after 42 = .ok (.getfield 310, 3) := dk_180 1 54 (dk_at dksX0_after_1 18 rfl rfl)
theorem dX0_after_45 : decode cX0_after 45 = .ok (.iload_n 2, 1) := dk_28 (dk_at dksX0_after_1 21 rfl rfl)
theorem dX0_after_46 : decode cX0_after 46 = .ok (.iaload, 1) := dk_46 (dk_at dksX0_after_1 22 rfl rfl)
theorem dX0_after_47 : decode cX0_after 47 = .ok (.aload_n 0, 1) := dk_42 (dk_at dksX0_after_1 23 rfl rfl)
theorem dX0_after_48 : decode cX0_after 48 = .ok (.getfield 73, 3) := dk_180 0 73 (dk_at dksX0_after_2 0 rfl rfl)
theorem dX0_after_51 : decode cX0_after 51 = .ok (.getfield 316, 3) := dk_180 1 60 (dk_at dksX0_after_2 3 rfl rfl)
theorem dX0_after_54 : decode cX0_after 54 = .ok (.iload_n 2, 1) := dk_28 (dk_at dksX0_after_2 6 rfl rfl)
theorem dX0_after_55 : decode cX0_after 55 = .ok (.iaload, 1) := dk_46 (dk_at dksX0_after_2 7 rfl rfl)
theorem dX0_after_56 : decode cX0_after 56 = .ok (.invokevirtual 330, 3) := dk_182 1 74 (dk_at dksX0_after_2 8 rfl rfl)
theorem dX0_after_59 : decode cX0_after 59 = .ok (.iinc 2 1, 3) := dk_132 2 1 (dk_at dksX0_after_2 11 rfl rfl)
theorem dX0_after_62 : decode cX0_after 62 = .ok (.goto (-36), 3) := dk_167 255 220 (dk_at dksX0_after_2 14 rfl rfl)
theorem dX0_after_65 : decode cX0_after 65 = .ok (.iload_n 1, 1) := dk_27 (dk_at dksX0_after_2 17 rfl rfl)
theorem dX0_after_66 : decode cX0_after 66 = .ok (.ifCond .ne 13, 3) := dk_154 0 13 (dk_at dksX0_after_2 18 rfl rfl)
theorem dX0_after_69 : decode cX0_after 69 = .ok (.aload_n 0, 1) := dk_42 (dk_at dksX0_after_2 21 rfl rfl)
theorem dX0_after_70 : decode cX0_after 70 = .ok (.getfield 26, 3) := dk_180 0 26 (dk_at dksX0_after_3 0 rfl rfl)
theorem dX0_after_73 : decode cX0_after 73 = .ok (.getfield 102, 3) := dk_180 0 102 (dk_at dksX0_after_3 3 rfl rfl)
theorem dX0_after_76 : decode cX0_after 76 = .ok (.goto 47, 3) := dk_167 0 47 (dk_at dksX0_after_3 6 rfl rfl)
theorem dX0_after_79 : decode cX0_after 79 = .ok (.iload_n 1, 1) := dk_27 (dk_at dksX0_after_3 9 rfl rfl)
theorem dX0_after_80 : decode cX0_after 80 = .ok (.iconst 1, 1) := dk_4 (dk_at dksX0_after_3 10 rfl rfl)
theorem dX0_after_81 : decode cX0_after 81 = .ok (.if_icmp .ne 20, 3) := dk_160 0 20 (dk_at dksX0_after_3 11 rfl rfl)
theorem dX0_after_84 : decode cX0_after 84 = .ok (.aload_n 0, 1) := dk_42 (dk_at dksX0_after_3 14 rfl rfl)
theorem dX0_after_85 : decode cX0_after 85 = .ok (.getfield 33, 3) := dk_180 0 33 (dk_at dksX0_after_3 15 rfl rfl)
theorem dX0_after_88 : decode cX0_after 88 = .ok (.aload_n 0, 1) := dk_42 (dk_at dksX0_after_3 18 rfl rfl)
theorem dX0_after_89 : decode cX0_after 89 = .ok (.getfield 26, 3) := dk_180 0 26 (dk_at dksX0_after_3 19 rfl rfl)
theorem dX0_after_92 : decode cX0_after 92 = .ok (.invokevirtual 146, 3) := dk_182 0 146 (dk_at dksX0_after_4 0 rfl rfl)
theorem dX0_after_95 : decode cX0_after 95 = .ok (.invokevirtual 193, 3) := dk_182 0 193 (dk_at dksX0_after_4 3 rfl rfl)
theorem dX0_after_98 : decode cX0_after 98 = .ok (.goto 25, 3) := dk_167 0 25 (dk_at dksX0_after_4 6 rfl rfl)
theorem dX0_after_101 : decode cX0_after 101 = .ok (.aload_n 0, 1) := dk_42 (dk_at dksX0_after_4 9 rfl rfl)
theorem dX0_after_102 : decode cX0_after 102 = .ok (.getfield 33, 3) := dk_180 0 33 (dk_at dksX0_after_4 10 rfl rfl)
theorem dX0_after_105 : decode cX0_after 105 = .ok (.aload_n 0, 1) := dk_42 (dk_at dksX0_after_4 13 rfl rfl)
theorem dX0_after_106 : decode cX0_after 106 = .ok (.getfield 26, 3) := dk_180 0 26 (dk_at dksX0_after_4 14 rfl rfl)
theorem dX0_after_109 : decode cX0_after 109 = .ok (.invokevirtual 146, 3) := dk_182 0 146 (dk_at dksX0_after_4 17 rfl rfl)
theorem dX0_after_112 : decode cX0_after 112 = .ok (.invokevirtual 189, 3) := dk_182 0 189 (dk_at dksX0_after_4 20 rfl rfl)
theorem dX0_after_115 : decode cX0_after 115 = .ok (.ifCond .eq 7, 3) := dk_153 0 7 (dk_at dksX0_after_5 0 rfl rfl)
theorem dX0_after_118 : decode cX0_after 118 = .ok (.iconst 1, 1) := dk_4 (dk_at dksX0_after_5 3 rfl rfl)
theorem dX0_after_119 : decode cX0_after 119 = .ok (.goto 4, 3) := dk_167 0 4 (dk_at dksX0_after_5 4 rfl rfl)
theorem dX0_after_122 : decode cX0_after 122 = .ok (.iconst 0, 1) := dk_3 (dk_at dksX0_after_5 7 rfl rfl)
theorem dX0_after_123 : decode cX0_after 123 = .ok (.ireturn, 1) := dk_172 (dk_at dksX0_after_5 8 rfl rfl)
theorem dX0_after_124 : decode cX0_after 124 = .ok (.astore_n 2, 1) := dk_77 (dk_at dksX0_after_5 9 rfl rfl)
theorem dX0_after_125 : decode cX0_after 125 = .ok (.bipush (-3), 2) := dk_16 253 (dk_at dksX0_after_5 10 rfl rfl)
theorem dX0_after_127 : decode cX0_after 127 = .ok (.ireturn, 1) := dk_172 (dk_at dksX0_after_5 12 rfl rfl)
abbrev cX0_happens : ByteArray := prog_1_method_42_code
def yX0_happens : MethodName := ⟨RX0, "happens", "(II)V"⟩
def dkwX0_happens_5 : List UInt8 := [167, 0, 11, 42, 180, 0, 26, 28, 182, 1, 71, 177]
abbrev dktX0_happens_5 : List UInt8 := dkwX0_happens_5 ++ []
def dkwX0_happens_4 : List UInt8 := [167, 0, 33, 28, 42, 180, 0, 26, 180, 0, 102, 162, 0, 22, 42, 180, 0, 26, 28, 182, 0, 125]
abbrev dktX0_happens_4 : List UInt8 := dkwX0_happens_4 ++ dktX0_happens_5
def dkwX0_happens_3 : List UInt8 := [180, 0, 102, 16, 6, 162, 0, 51, 42, 180, 0, 26, 28, 16, 10, 108, 28, 16, 10, 112, 182, 0, 118]
abbrev dktX0_happens_3 : List UInt8 := dkwX0_happens_3 ++ dktX0_happens_4
def dkwX0_happens_2 : List UInt8 := [42, 180, 0, 26, 28, 16, 10, 108, 28, 16, 10, 112, 182, 0, 110, 16, 251, 160, 0, 63, 42, 180, 0, 26]
abbrev dktX0_happens_2 : List UInt8 := dkwX0_happens_2 ++ dktX0_happens_3
def dkwX0_happens_1 : List UInt8 := [171, 0, 0, 0, 0, 0, 99, 0, 0, 0, 2, 0, 0, 0, 0, 0, 0, 0, 27, 0, 0, 0, 1, 0, 0, 0, 77]
abbrev dktX0_happens_1 : List UInt8 := dkwX0_happens_1 ++ dktX0_happens_2
def dkwX0_happens_0 : List UInt8 := [27]
abbrev dktX0_happens_0 : List UInt8 := dkwX0_happens_0 ++ dktX0_happens_1
theorem dksX0_happens_0 : cX0_happens.data.toList.drop 0 = dktX0_happens_0 := by decide +kernel
theorem dksX0_happens_1 : cX0_happens.data.toList.drop 1 = dktX0_happens_1 := dk_seg dksX0_happens_0 1 rfl rfl
theorem dksX0_happens_2 : cX0_happens.data.toList.drop 28 = dktX0_happens_2 := dk_seg dksX0_happens_1 27 rfl rfl
theorem dksX0_happens_3 : cX0_happens.data.toList.drop 52 = dktX0_happens_3 := dk_seg dksX0_happens_2 24 rfl rfl
theorem dksX0_happens_4 : cX0_happens.data.toList.drop 75 = dktX0_happens_4 := dk_seg dksX0_happens_3 23 rfl rfl
theorem dksX0_happens_5 : cX0_happens.data.toList.drop 97 = dktX0_happens_5 := dk_seg dksX0_happens_4 22 rfl rfl
theorem dX0_happens_0 : decode cX0_happens 0 = .ok (.iload_n 1, 1) := dk_27 (dk_at dksX0_happens_0 0 rfl rfl)
theorem dX0_happens_1 : decode cX0_happens 1 = .ok (.lookupswitch 99 #[(0, 27), (1, 77)], 27) := by decide +kernel
theorem dX0_happens_28 : decode cX0_happens 28 = .ok (.aload_n 0, 1) := dk_42 (dk_at dksX0_happens_2 0 rfl rfl)
theorem dX0_happens_29 : decode cX0_happens 29 = .ok (.getfield 26, 3) := dk_180 0 26 (dk_at dksX0_happens_2 1 rfl rfl)
theorem dX0_happens_32 : decode cX0_happens 32 = .ok (.iload_n 2, 1) := dk_28 (dk_at dksX0_happens_2 4 rfl rfl)
theorem dX0_happens_33 : decode cX0_happens 33 = .ok (.bipush 10, 2) := dk_16 10 (dk_at dksX0_happens_2 5 rfl rfl)
theorem dX0_happens_35 : decode cX0_happens 35 = .ok (.idiv, 1) := dk_108 (dk_at dksX0_happens_2 7 rfl rfl)
theorem dX0_happens_36 : decode cX0_happens 36 = .ok (.iload_n 2, 1) := dk_28 (dk_at dksX0_happens_2 8 rfl rfl)
theorem dX0_happens_37 : decode cX0_happens 37 = .ok (.bipush 10, 2) := dk_16 10 (dk_at dksX0_happens_2 9 rfl rfl)
theorem dX0_happens_39 : decode cX0_happens 39 = .ok (.irem, 1) := dk_112 (dk_at dksX0_happens_2 11 rfl rfl)
theorem dX0_happens_40 : decode cX0_happens 40 = .ok (.invokevirtual 110, 3) := dk_182 0 110 (dk_at dksX0_happens_2 12 rfl rfl)
theorem dX0_happens_43 : decode cX0_happens 43 = .ok (.bipush (-5), 2) := dk_16 251 (dk_at dksX0_happens_2 15 rfl rfl)
theorem dX0_happens_45 : decode cX0_happens 45 = .ok (.if_icmp .ne 63, 3) := dk_160 0 63 (dk_at dksX0_happens_2 17 rfl rfl)
theorem dX0_happens_48 : decode cX0_happens 48 = .ok (.aload_n 0, 1) := dk_42 (dk_at dksX0_happens_2 20 rfl rfl)
theorem dX0_happens_49 : decode cX0_happens 49 = .ok (.getfield 26, 3) := dk_180 0 26 (dk_at dksX0_happens_2 21 rfl rfl)
theorem dX0_happens_52 : decode cX0_happens 52 = .ok (.getfield 102, 3) := dk_180 0 102 (dk_at dksX0_happens_3 0 rfl rfl)
theorem dX0_happens_55 : decode cX0_happens 55 = .ok (.bipush 6, 2) := dk_16 6 (dk_at dksX0_happens_3 3 rfl rfl)
theorem dX0_happens_57 : decode cX0_happens 57 = .ok (.if_icmp .ge 51, 3) := dk_162 0 51 (dk_at dksX0_happens_3 5 rfl rfl)
theorem dX0_happens_60 : decode cX0_happens 60 = .ok (.aload_n 0, 1) := dk_42 (dk_at dksX0_happens_3 8 rfl rfl)
theorem dX0_happens_61 : decode cX0_happens 61 = .ok (.getfield 26, 3) := dk_180 0 26 (dk_at dksX0_happens_3 9 rfl rfl)
theorem dX0_happens_64 : decode cX0_happens 64 = .ok (.iload_n 2, 1) := dk_28 (dk_at dksX0_happens_3 12 rfl rfl)
theorem dX0_happens_65 : decode cX0_happens 65 = .ok (.bipush 10, 2) := dk_16 10 (dk_at dksX0_happens_3 13 rfl rfl)
theorem dX0_happens_67 : decode cX0_happens 67 = .ok (.idiv, 1) := dk_108 (dk_at dksX0_happens_3 15 rfl rfl)
theorem dX0_happens_68 : decode cX0_happens 68 = .ok (.iload_n 2, 1) := dk_28 (dk_at dksX0_happens_3 16 rfl rfl)
theorem dX0_happens_69 : decode cX0_happens 69 = .ok (.bipush 10, 2) := dk_16 10 (dk_at dksX0_happens_3 17 rfl rfl)
theorem dX0_happens_71 : decode cX0_happens 71 = .ok (.irem, 1) := dk_112 (dk_at dksX0_happens_3 19 rfl rfl)
theorem dX0_happens_72 : decode cX0_happens 72 = .ok (.invokevirtual 118, 3) := dk_182 0 118 (dk_at dksX0_happens_3 20 rfl rfl)
theorem dX0_happens_75 : decode cX0_happens 75 = .ok (.goto 33, 3) := dk_167 0 33 (dk_at dksX0_happens_4 0 rfl rfl)
theorem dX0_happens_78 : decode cX0_happens 78 = .ok (.iload_n 2, 1) := dk_28 (dk_at dksX0_happens_4 3 rfl rfl)
theorem dX0_happens_79 : decode cX0_happens 79 = .ok (.aload_n 0, 1) := dk_42 (dk_at dksX0_happens_4 4 rfl rfl)
theorem dX0_happens_80 : decode cX0_happens 80 = .ok (.getfield 26, 3) := dk_180 0 26 (dk_at dksX0_happens_4 5 rfl rfl)
theorem dX0_happens_83 : decode cX0_happens 83 = .ok (.getfield 102, 3) := dk_180 0 102 (dk_at dksX0_happens_4 8 rfl rfl)
theorem dX0_happens_86 : decode cX0_happens 86 = .ok (.if_icmp .ge 22, 3) := dk_162 0 22 (dk_at dksX0_happens_4 11 rfl rfl)
theorem dX0_happens_89 : decode cX0_happens 89 = .ok (.aload_n 0, 1) := dk_42 (dk_at dksX0_happens_4 14 rfl rfl)
theorem dX0_happens_90 : decode cX0_happens 90 = .ok (.getfield 26, 3) := dk_180 0 26 (dk_at dksX0_happens_4 15 rfl rfl)
theorem dX0_happens_93 : decode cX0_happens 93 = .ok (.iload_n 2, 1) := dk_28 (dk_at dksX0_happens_4 18 rfl rfl)
theorem dX0_happens_94 : decode cX0_happens 94 = .ok (.invokevirtual 125, 3) := dk_182 0 125 (dk_at dksX0_happens_4 19 rfl rfl)
theorem dX0_happens_97 : decode cX0_happens 97 = .ok (.goto 11, 3) := dk_167 0 11 (dk_at dksX0_happens_5 0 rfl rfl)
theorem dX0_happens_100 : decode cX0_happens 100 = .ok (.aload_n 0, 1) := dk_42 (dk_at dksX0_happens_5 3 rfl rfl)
theorem dX0_happens_101 : decode cX0_happens 101 = .ok (.getfield 26, 3) := dk_180 0 26 (dk_at dksX0_happens_5 4 rfl rfl)
theorem dX0_happens_104 : decode cX0_happens 104 = .ok (.iload_n 2, 1) := dk_28 (dk_at dksX0_happens_5 7 rfl rfl)
theorem dX0_happens_105 : decode cX0_happens 105 = .ok (.invokevirtual 327, 3) := dk_182 1 71 (dk_at dksX0_happens_5 8 rfl rfl)
theorem dX0_happens_108 : decode cX0_happens 108 = .ok (.return_, 1) := dk_177 (dk_at dksX0_happens_5 11 rfl rfl)
abbrev cX0_book : ByteArray := prog_1_method_44_code
def yX0_book : MethodName := ⟨RX0, "book", "(II)I"⟩
def dkwX0_book_2 : List UInt8 := [16, 254, 172]
abbrev dktX0_book_2 : List UInt8 := dkwX0_book_2 ++ []
def dkwX0_book_1 : List UInt8 := [172, 28, 3, 4, 184, 0, 5, 153, 0, 16, 42, 180, 0, 76, 27, 28, 3, 182, 1, 49, 167, 0, 5]
abbrev dktX0_book_1 : List UInt8 := dkwX0_book_1 ++ dktX0_book_2
def dkwX0_book_0 : List UInt8 := [27, 2, 160, 0, 11, 42, 180, 0, 76, 182, 1, 46, 172, 27, 3, 16, 99, 184, 0, 5, 154, 0, 5, 2]
abbrev dktX0_book_0 : List UInt8 := dkwX0_book_0 ++ dktX0_book_1
theorem dksX0_book_0 : cX0_book.data.toList.drop 0 = dktX0_book_0 := by decide +kernel
theorem dksX0_book_1 : cX0_book.data.toList.drop 24 = dktX0_book_1 := dk_seg dksX0_book_0 24 rfl rfl
theorem dksX0_book_2 : cX0_book.data.toList.drop 47 = dktX0_book_2 := dk_seg dksX0_book_1 23 rfl rfl
theorem dX0_book_0 : decode cX0_book 0 = .ok (.iload_n 1, 1) := dk_27 (dk_at dksX0_book_0 0 rfl rfl)
theorem dX0_book_1 : decode cX0_book 1 = .ok (.iconst (-1), 1) := dk_2 (dk_at dksX0_book_0 1 rfl rfl)
theorem dX0_book_2 : decode cX0_book 2 = .ok (.if_icmp .ne 11, 3) := dk_160 0 11 (dk_at dksX0_book_0 2 rfl rfl)
theorem dX0_book_5 : decode cX0_book 5 = .ok (.aload_n 0, 1) := dk_42 (dk_at dksX0_book_0 5 rfl rfl)
theorem dX0_book_6 : decode cX0_book 6 = .ok (.getfield 76, 3) := dk_180 0 76 (dk_at dksX0_book_0 6 rfl rfl)
theorem dX0_book_9 : decode cX0_book 9 = .ok (.invokevirtual 302, 3) := dk_182 1 46 (dk_at dksX0_book_0 9 rfl rfl)
theorem dX0_book_12 : decode cX0_book 12 = .ok (.ireturn, 1) := dk_172 (dk_at dksX0_book_0 12 rfl rfl)
theorem dX0_book_13 : decode cX0_book 13 = .ok (.iload_n 1, 1) := dk_27 (dk_at dksX0_book_0 13 rfl rfl)
theorem dX0_book_14 : decode cX0_book 14 = .ok (.iconst 0, 1) := dk_3 (dk_at dksX0_book_0 14 rfl rfl)
theorem dX0_book_15 : decode cX0_book 15 = .ok (.bipush 99, 2) := dk_16 99 (dk_at dksX0_book_0 15 rfl rfl)
theorem dX0_book_17 : decode cX0_book 17 = .ok (.invokestatic 5, 3) := dk_184 0 5 (dk_at dksX0_book_0 17 rfl rfl)
theorem dX0_book_20 : decode cX0_book 20 = .ok (.ifCond .ne 5, 3) := dk_154 0 5 (dk_at dksX0_book_0 20 rfl rfl)
theorem dX0_book_23 : decode cX0_book 23 = .ok (.iconst (-1), 1) := dk_2 (dk_at dksX0_book_0 23 rfl rfl)
theorem dX0_book_24 : decode cX0_book 24 = .ok (.ireturn, 1) := dk_172 (dk_at dksX0_book_1 0 rfl rfl)
theorem dX0_book_25 : decode cX0_book 25 = .ok (.iload_n 2, 1) := dk_28 (dk_at dksX0_book_1 1 rfl rfl)
theorem dX0_book_26 : decode cX0_book 26 = .ok (.iconst 0, 1) := dk_3 (dk_at dksX0_book_1 2 rfl rfl)
theorem dX0_book_27 : decode cX0_book 27 = .ok (.iconst 1, 1) := dk_4 (dk_at dksX0_book_1 3 rfl rfl)
theorem dX0_book_28 : decode cX0_book 28 = .ok (.invokestatic 5, 3) := dk_184 0 5 (dk_at dksX0_book_1 4 rfl rfl)
theorem dX0_book_31 : decode cX0_book 31 = .ok (.ifCond .eq 16, 3) := dk_153 0 16 (dk_at dksX0_book_1 7 rfl rfl)
theorem dX0_book_34 : decode cX0_book 34 = .ok (.aload_n 0, 1) := dk_42 (dk_at dksX0_book_1 10 rfl rfl)
theorem dX0_book_35 : decode cX0_book 35 = .ok (.getfield 76, 3) := dk_180 0 76 (dk_at dksX0_book_1 11 rfl rfl)
theorem dX0_book_38 : decode cX0_book 38 = .ok (.iload_n 1, 1) := dk_27 (dk_at dksX0_book_1 14 rfl rfl)
theorem dX0_book_39 : decode cX0_book 39 = .ok (.iload_n 2, 1) := dk_28 (dk_at dksX0_book_1 15 rfl rfl)
theorem dX0_book_40 : decode cX0_book 40 = .ok (.iconst 0, 1) := dk_3 (dk_at dksX0_book_1 16 rfl rfl)
theorem dX0_book_41 : decode cX0_book 41 = .ok (.invokevirtual 305, 3) := dk_182 1 49 (dk_at dksX0_book_1 17 rfl rfl)
theorem dX0_book_44 : decode cX0_book 44 = .ok (.goto 5, 3) := dk_167 0 5 (dk_at dksX0_book_1 20 rfl rfl)
theorem dX0_book_47 : decode cX0_book 47 = .ok (.bipush (-2), 2) := dk_16 254 (dk_at dksX0_book_2 0 rfl rfl)
theorem dX0_book_49 : decode cX0_book 49 = .ok (.ireturn, 1) := dk_172 (dk_at dksX0_book_2 2 rfl rfl)
abbrev cX0_looked : ByteArray := prog_1_method_45_code
def yX0_looked : MethodName := ⟨RX0, "looked", "()I"⟩
def dkwX0_looked_2 : List UInt8 := [46, 4, 160, 0, 7, 4, 167, 0, 4, 3, 159, 0, 5, 27, 172, 132, 1, 1, 167, 255, 192, 16, 251, 172]
abbrev dktX0_looked_2 : List UInt8 := dkwX0_looked_2 ++ []
def dkwX0_looked_1 : List UInt8 := [180, 0, 22, 3, 50, 28, 16, 10, 108, 28, 16, 10, 112, 182, 0, 196, 42, 180, 0, 76, 180, 1, 60, 27]
abbrev dktX0_looked_1 : List UInt8 := dkwX0_looked_1 ++ dktX0_looked_2
def dkwX0_looked_0 : List UInt8 := [3, 60, 27, 42, 180, 0, 76, 180, 1, 53, 162, 0, 59, 42, 180, 0, 76, 180, 1, 54, 27, 46, 61, 42]
abbrev dktX0_looked_0 : List UInt8 := dkwX0_looked_0 ++ dktX0_looked_1
theorem dksX0_looked_0 : cX0_looked.data.toList.drop 0 = dktX0_looked_0 := by decide +kernel
theorem dksX0_looked_1 : cX0_looked.data.toList.drop 24 = dktX0_looked_1 := dk_seg dksX0_looked_0 24 rfl rfl
theorem dksX0_looked_2 : cX0_looked.data.toList.drop 48 = dktX0_looked_2 := dk_seg dksX0_looked_1 24 rfl rfl
theorem dX0_looked_0 : decode cX0_looked 0 = .ok (.iconst 0, 1) := dk_3 (dk_at dksX0_looked_0 0 rfl rfl)
theorem dX0_looked_1 : decode cX0_looked 1 = .ok (.istore_n 1, 1) := dk_60 (dk_at dksX0_looked_0 1 rfl rfl)
theorem dX0_looked_2 : decode cX0_looked 2 = .ok (.iload_n 1, 1) := dk_27 (dk_at dksX0_looked_0 2 rfl rfl)
theorem dX0_looked_3 : decode cX0_looked 3 = .ok (.aload_n 0, 1) := dk_42 (dk_at dksX0_looked_0 3 rfl rfl)
theorem dX0_looked_4 : decode cX0_looked 4 = .ok (.getfield 76, 3) := dk_180 0 76 (dk_at dksX0_looked_0 4 rfl rfl)
theorem dX0_looked_7 : decode cX0_looked 7 = .ok (.getfield 309, 3) := dk_180 1 53 (dk_at dksX0_looked_0 7 rfl rfl)
theorem dX0_looked_10 : decode cX0_looked 10 = .ok (.if_icmp .ge 59, 3) := dk_162 0 59 (dk_at dksX0_looked_0 10 rfl rfl)
theorem dX0_looked_13 : decode cX0_looked 13 = .ok (.aload_n 0, 1) := dk_42 (dk_at dksX0_looked_0 13 rfl rfl)
theorem dX0_looked_14 : decode cX0_looked 14 = .ok (.getfield 76, 3) := dk_180 0 76 (dk_at dksX0_looked_0 14 rfl rfl)
theorem dX0_looked_17 : decode cX0_looked 17 = .ok (.getfield 310, 3) := dk_180 1 54 (dk_at dksX0_looked_0 17 rfl rfl)
theorem dX0_looked_20 : decode cX0_looked 20 = .ok (.iload_n 1, 1) := dk_27 (dk_at dksX0_looked_0 20 rfl rfl)
theorem dX0_looked_21 : decode cX0_looked 21 = .ok (.iaload, 1) := dk_46 (dk_at dksX0_looked_0 21 rfl rfl)
theorem dX0_looked_22 : decode cX0_looked 22 = .ok (.istore_n 2, 1) := dk_61 (dk_at dksX0_looked_0 22 rfl rfl)
theorem dX0_looked_23 : decode cX0_looked 23 = .ok (.aload_n 0, 1) := dk_42 (dk_at dksX0_looked_0 23 rfl rfl)
theorem dX0_looked_24 : decode cX0_looked 24 = .ok (.getfield 22, 3) := dk_180 0 22 (dk_at dksX0_looked_1 0 rfl rfl)
theorem dX0_looked_27 : decode cX0_looked 27 = .ok (.iconst 0, 1) := dk_3 (dk_at dksX0_looked_1 3 rfl rfl)
theorem dX0_looked_28 : decode cX0_looked 28 = .ok (.aaload, 1) := dk_50 (dk_at dksX0_looked_1 4 rfl rfl)
theorem dX0_looked_29 : decode cX0_looked 29 = .ok (.iload_n 2, 1) := dk_28 (dk_at dksX0_looked_1 5 rfl rfl)
theorem dX0_looked_30 : decode cX0_looked 30 = .ok (.bipush 10, 2) := dk_16 10 (dk_at dksX0_looked_1 6 rfl rfl)
theorem dX0_looked_32 : decode cX0_looked 32 = .ok (.idiv, 1) := dk_108 (dk_at dksX0_looked_1 8 rfl rfl)
theorem dX0_looked_33 : decode cX0_looked 33 = .ok (.iload_n 2, 1) := dk_28 (dk_at dksX0_looked_1 9 rfl rfl)
theorem dX0_looked_34 : decode cX0_looked 34 = .ok (.bipush 10, 2) := dk_16 10 (dk_at dksX0_looked_1 10 rfl rfl)
theorem dX0_looked_36 : decode cX0_looked 36 = .ok (.irem, 1) := dk_112 (dk_at dksX0_looked_1 12 rfl rfl)
theorem dX0_looked_37 : decode cX0_looked 37 = .ok (.invokevirtual 196, 3) := dk_182 0 196 (dk_at dksX0_looked_1 13 rfl rfl)
theorem dX0_looked_40 : decode cX0_looked 40 = .ok (.aload_n 0, 1) := dk_42 (dk_at dksX0_looked_1 16 rfl rfl)
theorem dX0_looked_41 : decode cX0_looked 41 = .ok (.getfield 76, 3) := dk_180 0 76 (dk_at dksX0_looked_1 17 rfl rfl)
theorem dX0_looked_44 : decode cX0_looked 44 = .ok (.getfield 316, 3) := dk_180 1 60 (dk_at dksX0_looked_1 20 rfl rfl)
theorem dX0_looked_47 : decode cX0_looked 47 = .ok (.iload_n 1, 1) := dk_27 (dk_at dksX0_looked_1 23 rfl rfl)
theorem dX0_looked_48 : decode cX0_looked 48 = .ok (.iaload, 1) := dk_46 (dk_at dksX0_looked_2 0 rfl rfl)
theorem dX0_looked_49 : decode cX0_looked 49 = .ok (.iconst 1, 1) := dk_4 (dk_at dksX0_looked_2 1 rfl rfl)
theorem dX0_looked_50 : decode cX0_looked 50 = .ok (.if_icmp .ne 7, 3) := dk_160 0 7 (dk_at dksX0_looked_2 2 rfl rfl)
theorem dX0_looked_53 : decode cX0_looked 53 = .ok (.iconst 1, 1) := dk_4 (dk_at dksX0_looked_2 5 rfl rfl)
theorem dX0_looked_54 : decode cX0_looked 54 = .ok (.goto 4, 3) := dk_167 0 4 (dk_at dksX0_looked_2 6 rfl rfl)
theorem dX0_looked_57 : decode cX0_looked 57 = .ok (.iconst 0, 1) := dk_3 (dk_at dksX0_looked_2 9 rfl rfl)
theorem dX0_looked_58 : decode cX0_looked 58 = .ok (.if_icmp .eq 5, 3) := dk_159 0 5 (dk_at dksX0_looked_2 10 rfl rfl)
theorem dX0_looked_61 : decode cX0_looked 61 = .ok (.iload_n 1, 1) := dk_27 (dk_at dksX0_looked_2 13 rfl rfl)
theorem dX0_looked_62 : decode cX0_looked 62 = .ok (.ireturn, 1) := dk_172 (dk_at dksX0_looked_2 14 rfl rfl)
theorem dX0_looked_63 : decode cX0_looked 63 = .ok (.iinc 1 1, 3) := dk_132 1 1 (dk_at dksX0_looked_2 15 rfl rfl)
theorem dX0_looked_66 : decode cX0_looked 66 = .ok (.goto (-64), 3) := dk_167 255 192 (dk_at dksX0_looked_2 18 rfl rfl)
theorem dX0_looked_69 : decode cX0_looked 69 = .ok (.bipush (-5), 2) := dk_16 251 (dk_at dksX0_looked_2 21 rfl rfl)
theorem dX0_looked_71 : decode cX0_looked 71 = .ok (.ireturn, 1) := dk_172 (dk_at dksX0_looked_2 23 rfl rfl)
abbrev cX0_judge : ByteArray := prog_1_method_47_code
def yX0_judge : MethodName := ⟨RX0, "judge", "(III)I"⟩
def dkwX0_judge_1 : List UInt8 := [180, 0, 81, 28, 50, 180, 1, 87, 192, 1, 91, 29, 182, 1, 92, 172, 58, 4, 16, 244, 172]
abbrev dktX0_judge_1 : List UInt8 := dkwX0_judge_1 ++ []
def dkwX0_judge_0 : List UInt8 := [27, 184, 0, 98, 153, 0, 10, 28, 184, 1, 84, 154, 0, 5, 2, 172, 42, 42, 180, 0, 22, 27, 50, 42]
abbrev dktX0_judge_0 : List UInt8 := dkwX0_judge_0 ++ dktX0_judge_1
theorem dksX0_judge_0 : cX0_judge.data.toList.drop 0 = dktX0_judge_0 := by decide +kernel
theorem dksX0_judge_1 : cX0_judge.data.toList.drop 24 = dktX0_judge_1 := dk_seg dksX0_judge_0 24 rfl rfl
theorem dX0_judge_0 : decode cX0_judge 0 = .ok (.iload_n 1, 1) := dk_27 (dk_at dksX0_judge_0 0 rfl rfl)
theorem dX0_judge_1 : decode cX0_judge 1 = .ok (.invokestatic 98, 3) := dk_184 0 98 (dk_at dksX0_judge_0 1 rfl rfl)
theorem dX0_judge_4 : decode cX0_judge 4 = .ok (.ifCond .eq 10, 3) := dk_153 0 10 (dk_at dksX0_judge_0 4 rfl rfl)
theorem dX0_judge_7 : decode cX0_judge 7 = .ok (.iload_n 2, 1) := dk_28 (dk_at dksX0_judge_0 7 rfl rfl)
theorem dX0_judge_8 : decode cX0_judge 8 = .ok (.invokestatic 340, 3) := dk_184 1 84 (dk_at dksX0_judge_0 8 rfl rfl)
theorem dX0_judge_11 : decode cX0_judge 11 = .ok (.ifCond .ne 5, 3) := dk_154 0 5 (dk_at dksX0_judge_0 11 rfl rfl)
theorem dX0_judge_14 : decode cX0_judge 14 = .ok (.iconst (-1), 1) := dk_2 (dk_at dksX0_judge_0 14 rfl rfl)
theorem dX0_judge_15 : decode cX0_judge 15 = .ok (.ireturn, 1) := dk_172 (dk_at dksX0_judge_0 15 rfl rfl)
theorem dX0_judge_16 : decode cX0_judge 16 = .ok (.aload_n 0, 1) := dk_42 (dk_at dksX0_judge_0 16 rfl rfl)
theorem dX0_judge_17 : decode cX0_judge 17 = .ok (.aload_n 0, 1) := dk_42 (dk_at dksX0_judge_0 17 rfl rfl)
theorem dX0_judge_18 : decode cX0_judge 18 = .ok (.getfield 22, 3) := dk_180 0 22 (dk_at dksX0_judge_0 18 rfl rfl)
theorem dX0_judge_21 : decode cX0_judge 21 = .ok (.iload_n 1, 1) := dk_27 (dk_at dksX0_judge_0 21 rfl rfl)
theorem dX0_judge_22 : decode cX0_judge 22 = .ok (.aaload, 1) := dk_50 (dk_at dksX0_judge_0 22 rfl rfl)
theorem dX0_judge_23 : decode cX0_judge 23 = .ok (.aload_n 0, 1) := dk_42 (dk_at dksX0_judge_0 23 rfl rfl)
theorem dX0_judge_24 : decode cX0_judge 24 = .ok (.getfield 81, 3) := dk_180 0 81 (dk_at dksX0_judge_1 0 rfl rfl)
theorem dX0_judge_27 : decode cX0_judge 27 = .ok (.iload_n 2, 1) := dk_28 (dk_at dksX0_judge_1 3 rfl rfl)
theorem dX0_judge_28 : decode cX0_judge 28 = .ok (.aaload, 1) := dk_50 (dk_at dksX0_judge_1 4 rfl rfl)
theorem dX0_judge_29 : decode cX0_judge 29 = .ok (.getfield 343, 3) := dk_180 1 87 (dk_at dksX0_judge_1 5 rfl rfl)
theorem dX0_judge_32 : decode cX0_judge 32 = .ok (.checkcast 347, 3) := dk_192 1 91 (dk_at dksX0_judge_1 8 rfl rfl)
theorem dX0_judge_35 : decode cX0_judge 35 = .ok (.iload_n 3, 1) := dk_29 (dk_at dksX0_judge_1 11 rfl rfl)
theorem dX0_judge_36 : decode cX0_judge 36 = .ok (.invokevirtual 348, 3) := dk_182 1 92 (dk_at dksX0_judge_1 12 rfl rfl)
theorem dX0_judge_39 : decode cX0_judge 39 = .ok (.ireturn, 1) := dk_172 (dk_at dksX0_judge_1 15 rfl rfl)
theorem dX0_judge_40 : decode cX0_judge 40 = .ok (.astore 4, 2) := dk_58 4 (dk_at dksX0_judge_1 16 rfl rfl)
theorem dX0_judge_42 : decode cX0_judge 42 = .ok (.bipush (-12), 2) := dk_16 244 (dk_at dksX0_judge_1 18 rfl rfl)
theorem dX0_judge_44 : decode cX0_judge 44 = .ok (.ireturn, 1) := dk_172 (dk_at dksX0_judge_1 20 rfl rfl)
abbrev cX0_isTape : ByteArray := prog_1_method_53_code
def yX0_isTape : MethodName := ⟨RX0, "isTape", "(I)Z"⟩
def dkwX0_isTape_0 : List UInt8 := [26, 3, 8, 184, 0, 5, 172]
abbrev dktX0_isTape_0 : List UInt8 := dkwX0_isTape_0 ++ []
theorem dksX0_isTape_0 : cX0_isTape.data.toList.drop 0 = dktX0_isTape_0 := by decide +kernel
theorem dX0_isTape_0 : decode cX0_isTape 0 = .ok (.iload_n 0, 1) := dk_26 (dk_at dksX0_isTape_0 0 rfl rfl)
theorem dX0_isTape_1 : decode cX0_isTape 1 = .ok (.iconst 0, 1) := dk_3 (dk_at dksX0_isTape_0 1 rfl rfl)
theorem dX0_isTape_2 : decode cX0_isTape 2 = .ok (.iconst 5, 1) := dk_8 (dk_at dksX0_isTape_0 2 rfl rfl)
theorem dX0_isTape_3 : decode cX0_isTape 3 = .ok (.invokestatic 5, 3) := dk_184 0 5 (dk_at dksX0_isTape_0 3 rfl rfl)
theorem dX0_isTape_6 : decode cX0_isTape 6 = .ok (.ireturn, 1) := dk_172 (dk_at dksX0_isTape_0 6 rfl rfl)
abbrev cX0_firstOther : ByteArray := prog_1_method_46_code
def yX0_firstOther : MethodName := ⟨RX0, "firstOther", "(LTermIdeals$Ideal;[BI)I"⟩
def dkwX0_firstOther_2 : List UInt8 := [167, 255, 211, 16, 251, 172, 58, 5, 16, 100, 21, 4, 96, 172]
abbrev dktX0_firstOther_2 : List UInt8 := dkwX0_firstOther_2 ++ []
def dkwX0_firstOther_1 : List UInt8 := [21, 5, 17, 39, 15, 160, 0, 8, 16, 251, 167, 0, 5, 21, 5, 159, 0, 6, 21, 4, 172, 132, 4, 1]
abbrev dktX0_firstOther_1 : List UInt8 := dkwX0_firstOther_1 ++ dktX0_firstOther_2
def dkwX0_firstOther_0 : List UInt8 := [3, 54, 4, 21, 4, 16, 9, 163, 0, 44, 43, 21, 4, 182, 1, 77, 54, 5, 44, 29, 21, 4, 96, 51]
abbrev dktX0_firstOther_0 : List UInt8 := dkwX0_firstOther_0 ++ dktX0_firstOther_1
theorem dksX0_firstOther_0 : cX0_firstOther.data.toList.drop 0 = dktX0_firstOther_0 := by decide +kernel
theorem dksX0_firstOther_1 : cX0_firstOther.data.toList.drop 24 = dktX0_firstOther_1 := dk_seg dksX0_firstOther_0 24 rfl rfl
theorem dksX0_firstOther_2 : cX0_firstOther.data.toList.drop 48 = dktX0_firstOther_2 := dk_seg dksX0_firstOther_1 24 rfl rfl
theorem dX0_firstOther_0 : decode cX0_firstOther 0 = .ok (.iconst 0, 1) := dk_3 (dk_at dksX0_firstOther_0 0 rfl rfl)
theorem dX0_firstOther_1 : decode cX0_firstOther 1 = .ok (.istore 4, 2) := dk_54 4 (dk_at dksX0_firstOther_0 1 rfl rfl)
theorem dX0_firstOther_3 : decode cX0_firstOther 3 = .ok (.iload 4, 2) := dk_21 4 (dk_at dksX0_firstOther_0 3 rfl rfl)
theorem dX0_firstOther_5 : decode cX0_firstOther 5 = .ok (.bipush 9, 2) := dk_16 9 (dk_at dksX0_firstOther_0 5 rfl rfl)
theorem dX0_firstOther_7 : decode cX0_firstOther 7 = .ok (.if_icmp .gt 44, 3) := dk_163 0 44 (dk_at dksX0_firstOther_0 7 rfl rfl)
theorem dX0_firstOther_10 : decode cX0_firstOther 10 = .ok (.aload_n 1, 1) := dk_43 (dk_at dksX0_firstOther_0 10 rfl rfl)
theorem dX0_firstOther_11 : decode cX0_firstOther 11 = .ok (.iload 4, 2) := dk_21 4 (dk_at dksX0_firstOther_0 11 rfl rfl)
theorem dX0_firstOther_13 : decode cX0_firstOther 13 = .ok (.invokevirtual 333, 3) := dk_182 1 77 (dk_at dksX0_firstOther_0 13 rfl rfl)
theorem dX0_firstOther_16 : decode cX0_firstOther 16 = .ok (.istore 5, 2) := dk_54 5 (dk_at dksX0_firstOther_0 16 rfl rfl)
theorem dX0_firstOther_18 : decode cX0_firstOther 18 = .ok (.aload_n 2, 1) := dk_44 (dk_at dksX0_firstOther_0 18 rfl rfl)
theorem dX0_firstOther_19 : decode cX0_firstOther 19 = .ok (.iload_n 3, 1) := dk_29 (dk_at dksX0_firstOther_0 19 rfl rfl)
theorem dX0_firstOther_20 : decode cX0_firstOther 20 = .ok (.iload 4, 2) := dk_21 4 (dk_at dksX0_firstOther_0 20 rfl rfl)
theorem dX0_firstOther_22 : decode cX0_firstOther 22 = .ok (.iadd, 1) := dk_96 (dk_at dksX0_firstOther_0 22 rfl rfl)
theorem dX0_firstOther_23 : decode cX0_firstOther 23 = .ok (.baload, 1) := dk_51 (dk_at dksX0_firstOther_0 23 rfl rfl)
theorem dX0_firstOther_24 : decode cX0_firstOther 24 = .ok (.iload 5, 2) := dk_21 5 (dk_at dksX0_firstOther_1 0 rfl rfl)
theorem dX0_firstOther_26 : decode cX0_firstOther 26 = .ok (.sipush 9999, 3) := dk_17 39 15 (dk_at dksX0_firstOther_1 2 rfl rfl)
theorem dX0_firstOther_29 : decode cX0_firstOther 29 = .ok (.if_icmp .ne 8, 3) := dk_160 0 8 (dk_at dksX0_firstOther_1 5 rfl rfl)
theorem dX0_firstOther_32 : decode cX0_firstOther 32 = .ok (.bipush (-5), 2) := dk_16 251 (dk_at dksX0_firstOther_1 8 rfl rfl)
theorem dX0_firstOther_34 : decode cX0_firstOther 34 = .ok (.goto 5, 3) := dk_167 0 5 (dk_at dksX0_firstOther_1 10 rfl rfl)
theorem dX0_firstOther_37 : decode cX0_firstOther 37 = .ok (.iload 5, 2) := dk_21 5 (dk_at dksX0_firstOther_1 13 rfl rfl)
theorem dX0_firstOther_39 : decode cX0_firstOther 39 = .ok (.if_icmp .eq 6, 3) := dk_159 0 6 (dk_at dksX0_firstOther_1 15 rfl rfl)
theorem dX0_firstOther_42 : decode cX0_firstOther 42 = .ok (.iload 4, 2) := dk_21 4 (dk_at dksX0_firstOther_1 18 rfl rfl)
theorem dX0_firstOther_44 : decode cX0_firstOther 44 = .ok (.ireturn, 1) := dk_172 (dk_at dksX0_firstOther_1 20 rfl rfl)
theorem dX0_firstOther_45 : decode cX0_firstOther 45 = .ok (.iinc 4 1, 3) := dk_132 4 1 (dk_at dksX0_firstOther_1 21 rfl rfl)
theorem dX0_firstOther_48 : decode cX0_firstOther 48 = .ok (.goto (-45), 3) := dk_167 255 211 (dk_at dksX0_firstOther_2 0 rfl rfl)
theorem dX0_firstOther_51 : decode cX0_firstOther 51 = .ok (.bipush (-5), 2) := dk_16 251 (dk_at dksX0_firstOther_2 3 rfl rfl)
theorem dX0_firstOther_53 : decode cX0_firstOther 53 = .ok (.ireturn, 1) := dk_172 (dk_at dksX0_firstOther_2 5 rfl rfl)
theorem dX0_firstOther_54 : decode cX0_firstOther 54 = .ok (.astore 5, 2) := dk_58 5 (dk_at dksX0_firstOther_2 6 rfl rfl)
theorem dX0_firstOther_56 : decode cX0_firstOther 56 = .ok (.bipush 100, 2) := dk_16 100 (dk_at dksX0_firstOther_2 8 rfl rfl)
theorem dX0_firstOther_58 : decode cX0_firstOther 58 = .ok (.iload 4, 2) := dk_21 4 (dk_at dksX0_firstOther_2 10 rfl rfl)
theorem dX0_firstOther_60 : decode cX0_firstOther 60 = .ok (.iadd, 1) := dk_96 (dk_at dksX0_firstOther_2 12 rfl rfl)
theorem dX0_firstOther_61 : decode cX0_firstOther 61 = .ok (.ireturn, 1) := dk_172 (dk_at dksX0_firstOther_2 13 rfl rfl)
abbrev cX0_image : ByteArray := prog_1_method_49_code
def yX0_image : MethodName := ⟨RX0, "image", "()I"⟩
def dkwX0_image_3 : List UInt8 := [182, 1, 105, 172]
abbrev dktX0_image_3 : List UInt8 := dkwX0_image_3 ++ []
def dkwX0_image_2 : List UInt8 := [180, 0, 73, 182, 1, 98, 42, 180, 0, 94, 42, 180, 0, 76, 182, 1, 98, 42, 4, 181, 1, 101, 42]
abbrev dktX0_image_2 : List UInt8 := dkwX0_image_2 ++ dktX0_image_3
def dkwX0_image_1 : List UInt8 := [132, 1, 1, 167, 255, 233, 42, 180, 0, 88, 42, 180, 0, 69, 182, 1, 98, 42, 180, 0, 91, 42]
abbrev dktX0_image_1 : List UInt8 := dkwX0_image_1 ++ dktX0_image_2
def dkwX0_image_0 : List UInt8 := [3, 60, 27, 5, 162, 0, 24, 42, 180, 0, 85, 27, 50, 42, 180, 0, 22, 27, 50, 182, 0, 128]
abbrev dktX0_image_0 : List UInt8 := dkwX0_image_0 ++ dktX0_image_1
theorem dksX0_image_0 : cX0_image.data.toList.drop 0 = dktX0_image_0 := by decide +kernel
theorem dksX0_image_1 : cX0_image.data.toList.drop 22 = dktX0_image_1 := dk_seg dksX0_image_0 22 rfl rfl
theorem dksX0_image_2 : cX0_image.data.toList.drop 44 = dktX0_image_2 := dk_seg dksX0_image_1 22 rfl rfl
theorem dksX0_image_3 : cX0_image.data.toList.drop 67 = dktX0_image_3 := dk_seg dksX0_image_2 23 rfl rfl
theorem dX0_image_0 : decode cX0_image 0 = .ok (.iconst 0, 1) := dk_3 (dk_at dksX0_image_0 0 rfl rfl)
theorem dX0_image_1 : decode cX0_image 1 = .ok (.istore_n 1, 1) := dk_60 (dk_at dksX0_image_0 1 rfl rfl)
theorem dX0_image_2 : decode cX0_image 2 = .ok (.iload_n 1, 1) := dk_27 (dk_at dksX0_image_0 2 rfl rfl)
theorem dX0_image_3 : decode cX0_image 3 = .ok (.iconst 2, 1) := dk_5 (dk_at dksX0_image_0 3 rfl rfl)
theorem dX0_image_4 : decode cX0_image 4 = .ok (.if_icmp .ge 24, 3) := dk_162 0 24 (dk_at dksX0_image_0 4 rfl rfl)
theorem dX0_image_7 : decode cX0_image 7 = .ok (.aload_n 0, 1) := dk_42 (dk_at dksX0_image_0 7 rfl rfl)
theorem dX0_image_8 : decode cX0_image 8 = .ok (.getfield 85, 3) := dk_180 0 85 (dk_at dksX0_image_0 8 rfl rfl)
theorem dX0_image_11 : decode cX0_image 11 = .ok (.iload_n 1, 1) := dk_27 (dk_at dksX0_image_0 11 rfl rfl)
theorem dX0_image_12 : decode cX0_image 12 = .ok (.aaload, 1) := dk_50 (dk_at dksX0_image_0 12 rfl rfl)
theorem dX0_image_13 : decode cX0_image 13 = .ok (.aload_n 0, 1) := dk_42 (dk_at dksX0_image_0 13 rfl rfl)
theorem dX0_image_14 : decode cX0_image 14 = .ok (.getfield 22, 3) := dk_180 0 22 (dk_at dksX0_image_0 14 rfl rfl)
theorem dX0_image_17 : decode cX0_image 17 = .ok (.iload_n 1, 1) := dk_27 (dk_at dksX0_image_0 17 rfl rfl)
theorem dX0_image_18 : decode cX0_image 18 = .ok (.aaload, 1) := dk_50 (dk_at dksX0_image_0 18 rfl rfl)
theorem dX0_image_19 : decode cX0_image 19 = .ok (.invokevirtual 128, 3) := dk_182 0 128 (dk_at dksX0_image_0 19 rfl rfl)
theorem dX0_image_22 : decode cX0_image 22 = .ok (.iinc 1 1, 3) := dk_132 1 1 (dk_at dksX0_image_1 0 rfl rfl)
theorem dX0_image_25 : decode cX0_image 25 = .ok (.goto (-23), 3) := dk_167 255 233 (dk_at dksX0_image_1 3 rfl rfl)
theorem dX0_image_28 : decode cX0_image 28 = .ok (.aload_n 0, 1) := dk_42 (dk_at dksX0_image_1 6 rfl rfl)
theorem dX0_image_29 : decode cX0_image 29 = .ok (.getfield 88, 3) := dk_180 0 88 (dk_at dksX0_image_1 7 rfl rfl)
theorem dX0_image_32 : decode cX0_image 32 = .ok (.aload_n 0, 1) := dk_42 (dk_at dksX0_image_1 10 rfl rfl)
theorem dX0_image_33 : decode cX0_image 33 = .ok (.getfield 69, 3) := dk_180 0 69 (dk_at dksX0_image_1 11 rfl rfl)
theorem dX0_image_36 : decode cX0_image 36 = .ok (.invokevirtual 354, 3) := dk_182 1 98 (dk_at dksX0_image_1 14 rfl rfl)
theorem dX0_image_39 : decode cX0_image 39 = .ok (.aload_n 0, 1) := dk_42 (dk_at dksX0_image_1 17 rfl rfl)
theorem dX0_image_40 : decode cX0_image 40 = .ok (.getfield 91, 3) := dk_180 0 91 (dk_at dksX0_image_1 18 rfl rfl)
theorem dX0_image_43 : decode cX0_image 43 = .ok (.aload_n 0, 1) := dk_42 (dk_at dksX0_image_1 21 rfl rfl)
theorem dX0_image_44 : decode cX0_image 44 = .ok (.getfield 73, 3) := dk_180 0 73 (dk_at dksX0_image_2 0 rfl rfl)
theorem dX0_image_47 : decode cX0_image 47 = .ok (.invokevirtual 354, 3) := dk_182 1 98 (dk_at dksX0_image_2 3 rfl rfl)
theorem dX0_image_50 : decode cX0_image 50 = .ok (.aload_n 0, 1) := dk_42 (dk_at dksX0_image_2 6 rfl rfl)
theorem dX0_image_51 : decode cX0_image 51 = .ok (.getfield 94, 3) := dk_180 0 94 (dk_at dksX0_image_2 7 rfl rfl)
theorem dX0_image_54 : decode cX0_image 54 = .ok (.aload_n 0, 1) := dk_42 (dk_at dksX0_image_2 10 rfl rfl)
theorem dX0_image_55 : decode cX0_image 55 = .ok (.getfield 76, 3) := dk_180 0 76 (dk_at dksX0_image_2 11 rfl rfl)
theorem dX0_image_58 : decode cX0_image 58 = .ok (.invokevirtual 354, 3) := dk_182 1 98 (dk_at dksX0_image_2 14 rfl rfl)
theorem dX0_image_61 : decode cX0_image 61 = .ok (.aload_n 0, 1) := dk_42 (dk_at dksX0_image_2 17 rfl rfl)
theorem dX0_image_62 : decode cX0_image 62 = .ok (.iconst 1, 1) := dk_4 (dk_at dksX0_image_2 18 rfl rfl)
theorem dX0_image_63 : decode cX0_image 63 = .ok (.putfield 357, 3) := dk_181 1 101 (dk_at dksX0_image_2 19 rfl rfl)
theorem dX0_image_66 : decode cX0_image 66 = .ok (.aload_n 0, 1) := dk_42 (dk_at dksX0_image_2 22 rfl rfl)
theorem dX0_image_67 : decode cX0_image 67 = .ok (.invokevirtual 361, 3) := dk_182 1 105 (dk_at dksX0_image_3 0 rfl rfl)
theorem dX0_image_70 : decode cX0_image 70 = .ok (.ireturn, 1) := dk_172 (dk_at dksX0_image_3 3 rfl rfl)
abbrev cX0_both : ByteArray := prog_1_method_48_code
def yX0_both : MethodName := ⟨RX0, "both", "()I"⟩
def dkwX0_both_0 : List UInt8 := [42, 180, 0, 22, 3, 50, 180, 0, 102, 42, 180, 0, 22, 4, 50, 180, 0, 102, 96, 172]
abbrev dktX0_both_0 : List UInt8 := dkwX0_both_0 ++ []
theorem dksX0_both_0 : cX0_both.data.toList.drop 0 = dktX0_both_0 := by decide +kernel
theorem dX0_both_0 : decode cX0_both 0 = .ok (.aload_n 0, 1) := dk_42 (dk_at dksX0_both_0 0 rfl rfl)
theorem dX0_both_1 : decode cX0_both 1 = .ok (.getfield 22, 3) := dk_180 0 22 (dk_at dksX0_both_0 1 rfl rfl)
theorem dX0_both_4 : decode cX0_both 4 = .ok (.iconst 0, 1) := dk_3 (dk_at dksX0_both_0 4 rfl rfl)
theorem dX0_both_5 : decode cX0_both 5 = .ok (.aaload, 1) := dk_50 (dk_at dksX0_both_0 5 rfl rfl)
theorem dX0_both_6 : decode cX0_both 6 = .ok (.getfield 102, 3) := dk_180 0 102 (dk_at dksX0_both_0 6 rfl rfl)
theorem dX0_both_9 : decode cX0_both 9 = .ok (.aload_n 0, 1) := dk_42 (dk_at dksX0_both_0 9 rfl rfl)
theorem dX0_both_10 : decode cX0_both 10 = .ok (.getfield 22, 3) := dk_180 0 22 (dk_at dksX0_both_0 10 rfl rfl)
theorem dX0_both_13 : decode cX0_both 13 = .ok (.iconst 1, 1) := dk_4 (dk_at dksX0_both_0 13 rfl rfl)
theorem dX0_both_14 : decode cX0_both 14 = .ok (.aaload, 1) := dk_50 (dk_at dksX0_both_0 14 rfl rfl)
theorem dX0_both_15 : decode cX0_both 15 = .ok (.getfield 102, 3) := dk_180 0 102 (dk_at dksX0_both_0 15 rfl rfl)
theorem dX0_both_18 : decode cX0_both 18 = .ok (.iadd, 1) := dk_96 (dk_at dksX0_both_0 18 rfl rfl)
theorem dX0_both_19 : decode cX0_both 19 = .ok (.ireturn, 1) := dk_172 (dk_at dksX0_both_0 19 rfl rfl)
abbrev cX0_undo : ByteArray := prog_1_method_50_code
def yX0_undo : MethodName := ⟨RX0, "undo", "()I"⟩
def dkwX0_undo_3 : List UInt8 := [180, 0, 76, 42, 180, 0, 94, 182, 1, 98, 42, 182, 1, 105, 172]
abbrev dktX0_undo_3 : List UInt8 := dkwX0_undo_3 ++ []
def dkwX0_undo_2 : List UInt8 := [180, 0, 69, 42, 180, 0, 88, 182, 1, 98, 42, 180, 0, 73, 42, 180, 0, 91, 182, 1, 98, 42]
abbrev dktX0_undo_2 : List UInt8 := dkwX0_undo_2 ++ dktX0_undo_3
def dkwX0_undo_1 : List UInt8 := [180, 0, 85, 27, 50, 182, 0, 128, 132, 1, 1, 167, 255, 233, 42, 180, 0, 40, 3, 181, 0, 155, 42]
abbrev dktX0_undo_1 : List UInt8 := dkwX0_undo_1 ++ dktX0_undo_2
def dkwX0_undo_0 : List UInt8 := [42, 180, 1, 101, 154, 0, 6, 16, 253, 172, 3, 60, 27, 5, 162, 0, 24, 42, 180, 0, 22, 27, 50, 42]
abbrev dktX0_undo_0 : List UInt8 := dkwX0_undo_0 ++ dktX0_undo_1
theorem dksX0_undo_0 : cX0_undo.data.toList.drop 0 = dktX0_undo_0 := by decide +kernel
theorem dksX0_undo_1 : cX0_undo.data.toList.drop 24 = dktX0_undo_1 := dk_seg dksX0_undo_0 24 rfl rfl
theorem dksX0_undo_2 : cX0_undo.data.toList.drop 47 = dktX0_undo_2 := dk_seg dksX0_undo_1 23 rfl rfl
theorem dksX0_undo_3 : cX0_undo.data.toList.drop 69 = dktX0_undo_3 := dk_seg dksX0_undo_2 22 rfl rfl
theorem dX0_undo_0 : decode cX0_undo 0 = .ok (.aload_n 0, 1) := dk_42 (dk_at dksX0_undo_0 0 rfl rfl)
theorem dX0_undo_1 : decode cX0_undo 1 = .ok (.getfield 357, 3) := dk_180 1 101 (dk_at dksX0_undo_0 1 rfl rfl)
theorem dX0_undo_4 : decode cX0_undo 4 = .ok (.ifCond .ne 6, 3) := dk_154 0 6 (dk_at dksX0_undo_0 4 rfl rfl)
theorem dX0_undo_7 : decode cX0_undo 7 = .ok (.bipush (-3), 2) := dk_16 253 (dk_at dksX0_undo_0 7 rfl rfl)
theorem dX0_undo_9 : decode cX0_undo 9 = .ok (.ireturn, 1) := dk_172 (dk_at dksX0_undo_0 9 rfl rfl)
theorem dX0_undo_10 : decode cX0_undo 10 = .ok (.iconst 0, 1) := dk_3 (dk_at dksX0_undo_0 10 rfl rfl)
theorem dX0_undo_11 : decode cX0_undo 11 = .ok (.istore_n 1, 1) := dk_60 (dk_at dksX0_undo_0 11 rfl rfl)
theorem dX0_undo_12 : decode cX0_undo 12 = .ok (.iload_n 1, 1) := dk_27 (dk_at dksX0_undo_0 12 rfl rfl)
theorem dX0_undo_13 : decode cX0_undo 13 = .ok (.iconst 2, 1) := dk_5 (dk_at dksX0_undo_0 13 rfl rfl)
theorem dX0_undo_14 : decode cX0_undo 14 = .ok (.if_icmp .ge 24, 3) := dk_162 0 24 (dk_at dksX0_undo_0 14 rfl rfl)
theorem dX0_undo_17 : decode cX0_undo 17 = .ok (.aload_n 0, 1) := dk_42 (dk_at dksX0_undo_0 17 rfl rfl)
theorem dX0_undo_18 : decode cX0_undo 18 = .ok (.getfield 22, 3) := dk_180 0 22 (dk_at dksX0_undo_0 18 rfl rfl)
theorem dX0_undo_21 : decode cX0_undo 21 = .ok (.iload_n 1, 1) := dk_27 (dk_at dksX0_undo_0 21 rfl rfl)
theorem dX0_undo_22 : decode cX0_undo 22 = .ok (.aaload, 1) := dk_50 (dk_at dksX0_undo_0 22 rfl rfl)
theorem dX0_undo_23 : decode cX0_undo 23 = .ok (.aload_n 0, 1) := dk_42 (dk_at dksX0_undo_0 23 rfl rfl)
theorem dX0_undo_24 : decode cX0_undo 24 = .ok (.getfield 85, 3) := dk_180 0 85 (dk_at dksX0_undo_1 0 rfl rfl)
theorem dX0_undo_27 : decode cX0_undo 27 = .ok (.iload_n 1, 1) := dk_27 (dk_at dksX0_undo_1 3 rfl rfl)
theorem dX0_undo_28 : decode cX0_undo 28 = .ok (.aaload, 1) := dk_50 (dk_at dksX0_undo_1 4 rfl rfl)
theorem dX0_undo_29 : decode cX0_undo 29 = .ok (.invokevirtual 128, 3) := dk_182 0 128 (dk_at dksX0_undo_1 5 rfl rfl)
theorem dX0_undo_32 : decode cX0_undo 32 = .ok (.iinc 1 1, 3) := dk_132 1 1 (dk_at dksX0_undo_1 8 rfl rfl)
theorem dX0_undo_35 : decode cX0_undo 35 = .ok (.goto (-23), 3) := dk_167 255 233 (dk_at dksX0_undo_1 11 rfl rfl)
theorem dX0_undo_38 : decode cX0_undo 38 = .ok (.aload_n 0, 1) := dk_42 (dk_at dksX0_undo_1 14 rfl rfl)
theorem dX0_undo_39 : decode cX0_undo 39 = .ok (.getfield 40, 3) := dk_180 0 40 (dk_at dksX0_undo_1 15 rfl rfl)
theorem dX0_undo_42 : decode cX0_undo 42 = .ok (.iconst 0, 1) := dk_3 (dk_at dksX0_undo_1 18 rfl rfl)
theorem dX0_undo_43 : decode cX0_undo 43 = .ok (.putfield 155, 3) := dk_181 0 155 (dk_at dksX0_undo_1 19 rfl rfl)
theorem dX0_undo_46 : decode cX0_undo 46 = .ok (.aload_n 0, 1) := dk_42 (dk_at dksX0_undo_1 22 rfl rfl)
theorem dX0_undo_47 : decode cX0_undo 47 = .ok (.getfield 69, 3) := dk_180 0 69 (dk_at dksX0_undo_2 0 rfl rfl)
theorem dX0_undo_50 : decode cX0_undo 50 = .ok (.aload_n 0, 1) := dk_42 (dk_at dksX0_undo_2 3 rfl rfl)
theorem dX0_undo_51 : decode cX0_undo 51 = .ok (.getfield 88, 3) := dk_180 0 88 (dk_at dksX0_undo_2 4 rfl rfl)
theorem dX0_undo_54 : decode cX0_undo 54 = .ok (.invokevirtual 354, 3) := dk_182 1 98 (dk_at dksX0_undo_2 7 rfl rfl)
theorem dX0_undo_57 : decode cX0_undo 57 = .ok (.aload_n 0, 1) := dk_42 (dk_at dksX0_undo_2 10 rfl rfl)
theorem dX0_undo_58 : decode cX0_undo 58 = .ok (.getfield 73, 3) := dk_180 0 73 (dk_at dksX0_undo_2 11 rfl rfl)
theorem dX0_undo_61 : decode cX0_undo 61 = .ok (.aload_n 0, 1) := dk_42 (dk_at dksX0_undo_2 14 rfl rfl)
theorem dX0_undo_62 : decode cX0_undo 62 = .ok (.getfield 91, 3) := dk_180 0 91 (dk_at dksX0_undo_2 15 rfl rfl)
theorem dX0_undo_65 : decode cX0_undo 65 = .ok (.invokevirtual 354, 3) := dk_182 1 98 (dk_at dksX0_undo_2 18 rfl rfl)
theorem dX0_undo_68 : decode cX0_undo 68 = .ok (.aload_n 0, 1) := dk_42 (dk_at dksX0_undo_2 21 rfl rfl)
theorem dX0_undo_69 : decode cX0_undo 69 = .ok (.getfield 76, 3) := dk_180 0 76 (dk_at dksX0_undo_3 0 rfl rfl)
theorem dX0_undo_72 : decode cX0_undo 72 = .ok (.aload_n 0, 1) := dk_42 (dk_at dksX0_undo_3 3 rfl rfl)
theorem dX0_undo_73 : decode cX0_undo 73 = .ok (.getfield 94, 3) := dk_180 0 94 (dk_at dksX0_undo_3 4 rfl rfl)
theorem dX0_undo_76 : decode cX0_undo 76 = .ok (.invokevirtual 354, 3) := dk_182 1 98 (dk_at dksX0_undo_3 7 rfl rfl)
theorem dX0_undo_79 : decode cX0_undo 79 = .ok (.aload_n 0, 1) := dk_42 (dk_at dksX0_undo_3 10 rfl rfl)
theorem dX0_undo_80 : decode cX0_undo 80 = .ok (.invokevirtual 361, 3) := dk_182 1 105 (dk_at dksX0_undo_3 11 rfl rfl)
theorem dX0_undo_83 : decode cX0_undo 83 = .ok (.ireturn, 1) := dk_172 (dk_at dksX0_undo_3 14 rfl rfl)
abbrev cX0_count : ByteArray := prog_1_method_51_code
def yX0_count : MethodName := ⟨RX0, "count", "(I)I"⟩
def dkwX0_count_3 : List UInt8 := [42, 180, 0, 160, 172, 42, 180, 0, 40, 180, 0, 155, 172, 16, 254, 172]
abbrev dktX0_count_3 : List UInt8 := dkwX0_count_3 ++ []
def dkwX0_count_2 : List UInt8 := [42, 180, 0, 69, 180, 1, 53, 172, 42, 180, 0, 73, 180, 1, 53, 172, 42, 180, 0, 76, 180, 1, 53, 172]
abbrev dktX0_count_2 : List UInt8 := dkwX0_count_2 ++ dktX0_count_3
def dkwX0_count_1 : List UInt8 := [170, 0, 0, 0, 0, 0, 72, 0, 0, 0, 0, 0, 0, 0, 4, 0, 0, 0, 35, 0, 0, 0, 43, 0, 0, 0, 51, 0, 0, 0, 59, 0, 0, 0, 64]
abbrev dktX0_count_1 : List UInt8 := dkwX0_count_1 ++ dktX0_count_2
def dkwX0_count_0 : List UInt8 := [27]
abbrev dktX0_count_0 : List UInt8 := dkwX0_count_0 ++ dktX0_count_1
theorem dksX0_count_0 : cX0_count.data.toList.drop 0 = dktX0_count_0 := by decide +kernel
theorem dksX0_count_1 : cX0_count.data.toList.drop 1 = dktX0_count_1 := dk_seg dksX0_count_0 1 rfl rfl
theorem dksX0_count_2 : cX0_count.data.toList.drop 36 = dktX0_count_2 := dk_seg dksX0_count_1 35 rfl rfl
theorem dksX0_count_3 : cX0_count.data.toList.drop 60 = dktX0_count_3 := dk_seg dksX0_count_2 24 rfl rfl
theorem dX0_count_0 : decode cX0_count 0 = .ok (.iload_n 1, 1) := dk_27 (dk_at dksX0_count_0 0 rfl rfl)
theorem dX0_count_1 : decode cX0_count 1 = .ok (.tableswitch 72 0 4 #[35, 43, 51, 59, 64], 35) := by decide +kernel
theorem dX0_count_36 : decode cX0_count 36 = .ok (.aload_n 0, 1) := dk_42 (dk_at dksX0_count_2 0 rfl rfl)
theorem dX0_count_37 : decode cX0_count 37 = .ok (.getfield 69, 3) := dk_180 0 69 (dk_at dksX0_count_2 1 rfl rfl)
theorem dX0_count_40 : decode cX0_count 40 = .ok (.getfield 309, 3) := dk_180 1 53 (dk_at dksX0_count_2 4 rfl rfl)
theorem dX0_count_43 : decode cX0_count 43 = .ok (.ireturn, 1) := dk_172 (dk_at dksX0_count_2 7 rfl rfl)
theorem dX0_count_44 : decode cX0_count 44 = .ok (.aload_n 0, 1) := dk_42 (dk_at dksX0_count_2 8 rfl rfl)
theorem dX0_count_45 : decode cX0_count 45 = .ok (.getfield 73, 3) := dk_180 0 73 (dk_at dksX0_count_2 9 rfl rfl)
theorem dX0_count_48 : decode cX0_count 48 = .ok (.getfield 309, 3) := dk_180 1 53 (dk_at dksX0_count_2 12 rfl rfl)
theorem dX0_count_51 : decode cX0_count 51 = .ok (.ireturn, 1) := dk_172 (dk_at dksX0_count_2 15 rfl rfl)
theorem dX0_count_52 : decode cX0_count 52 = .ok (.aload_n 0, 1) := dk_42 (dk_at dksX0_count_2 16 rfl rfl)
theorem dX0_count_53 : decode cX0_count 53 = .ok (.getfield 76, 3) := dk_180 0 76 (dk_at dksX0_count_2 17 rfl rfl)
theorem dX0_count_56 : decode cX0_count 56 = .ok (.getfield 309, 3) := dk_180 1 53 (dk_at dksX0_count_2 20 rfl rfl)
theorem dX0_count_59 : decode cX0_count 59 = .ok (.ireturn, 1) := dk_172 (dk_at dksX0_count_2 23 rfl rfl)
theorem dX0_count_60 : decode cX0_count 60 = .ok (.aload_n 0, 1) := dk_42 (dk_at dksX0_count_3 0 rfl rfl)
theorem dX0_count_61 : decode cX0_count 61 = .ok (.getfield 160, 3) := dk_180 0 160 (dk_at dksX0_count_3 1 rfl rfl)
theorem dX0_count_64 : decode cX0_count 64 = .ok (.ireturn, 1) := dk_172 (dk_at dksX0_count_3 4 rfl rfl)
theorem dX0_count_65 : decode cX0_count 65 = .ok (.aload_n 0, 1) := dk_42 (dk_at dksX0_count_3 5 rfl rfl)
theorem dX0_count_66 : decode cX0_count 66 = .ok (.getfield 40, 3) := dk_180 0 40 (dk_at dksX0_count_3 6 rfl rfl)
theorem dX0_count_69 : decode cX0_count 69 = .ok (.getfield 155, 3) := dk_180 0 155 (dk_at dksX0_count_3 9 rfl rfl)
theorem dX0_count_72 : decode cX0_count 72 = .ok (.ireturn, 1) := dk_172 (dk_at dksX0_count_3 12 rfl rfl)
theorem dX0_count_73 : decode cX0_count 73 = .ok (.bipush (-2), 2) := dk_16 254 (dk_at dksX0_count_3 13 rfl rfl)
theorem dX0_count_75 : decode cX0_count 75 = .ok (.ireturn, 1) := dk_172 (dk_at dksX0_count_3 15 rfl rfl)
abbrev cX0_tape : ByteArray := prog_1_method_54_code
def yX0_tape : MethodName := ⟨RX0, "tape", "(III)I"⟩
def dkwX0_tape_2 : List UInt8 := [29, 184, 1, 108, 181, 1, 87, 4, 172, 58, 4, 16, 242, 172]
abbrev dktX0_tape_2 : List UInt8 := dkwX0_tape_2 ++ []
def dkwX0_tape_1 : List UInt8 := [16, 60, 164, 0, 6, 16, 254, 172, 42, 180, 0, 81, 27, 50, 28, 2, 160, 0, 7, 1, 167, 0, 8, 28]
abbrev dktX0_tape_1 : List UInt8 := dkwX0_tape_1 ++ dktX0_tape_2
def dkwX0_tape_0 : List UInt8 := [27, 184, 1, 84, 154, 0, 5, 2, 172, 28, 2, 7, 184, 0, 5, 153, 0, 14, 28, 2, 159, 0, 12, 29]
abbrev dktX0_tape_0 : List UInt8 := dkwX0_tape_0 ++ dktX0_tape_1
theorem dksX0_tape_0 : cX0_tape.data.toList.drop 0 = dktX0_tape_0 := by decide +kernel
theorem dksX0_tape_1 : cX0_tape.data.toList.drop 24 = dktX0_tape_1 := dk_seg dksX0_tape_0 24 rfl rfl
theorem dksX0_tape_2 : cX0_tape.data.toList.drop 48 = dktX0_tape_2 := dk_seg dksX0_tape_1 24 rfl rfl
theorem dX0_tape_0 : decode cX0_tape 0 = .ok (.iload_n 1, 1) := dk_27 (dk_at dksX0_tape_0 0 rfl rfl)
theorem dX0_tape_1 : decode cX0_tape 1 = .ok (.invokestatic 340, 3) := dk_184 1 84 (dk_at dksX0_tape_0 1 rfl rfl)
theorem dX0_tape_4 : decode cX0_tape 4 = .ok (.ifCond .ne 5, 3) := dk_154 0 5 (dk_at dksX0_tape_0 4 rfl rfl)
theorem dX0_tape_7 : decode cX0_tape 7 = .ok (.iconst (-1), 1) := dk_2 (dk_at dksX0_tape_0 7 rfl rfl)
theorem dX0_tape_8 : decode cX0_tape 8 = .ok (.ireturn, 1) := dk_172 (dk_at dksX0_tape_0 8 rfl rfl)
theorem dX0_tape_9 : decode cX0_tape 9 = .ok (.iload_n 2, 1) := dk_28 (dk_at dksX0_tape_0 9 rfl rfl)
theorem dX0_tape_10 : decode cX0_tape 10 = .ok (.iconst (-1), 1) := dk_2 (dk_at dksX0_tape_0 10 rfl rfl)
theorem dX0_tape_11 : decode cX0_tape 11 = .ok (.iconst 4, 1) := dk_7 (dk_at dksX0_tape_0 11 rfl rfl)
theorem dX0_tape_12 : decode cX0_tape 12 = .ok (.invokestatic 5, 3) := dk_184 0 5 (dk_at dksX0_tape_0 12 rfl rfl)
theorem dX0_tape_15 : decode cX0_tape 15 = .ok (.ifCond .eq 14, 3) := dk_153 0 14 (dk_at dksX0_tape_0 15 rfl rfl)
theorem dX0_tape_18 : decode cX0_tape 18 = .ok (.iload_n 2, 1) := dk_28 (dk_at dksX0_tape_0 18 rfl rfl)
theorem dX0_tape_19 : decode cX0_tape 19 = .ok (.iconst (-1), 1) := dk_2 (dk_at dksX0_tape_0 19 rfl rfl)
theorem dX0_tape_20 : decode cX0_tape 20 = .ok (.if_icmp .eq 12, 3) := dk_159 0 12 (dk_at dksX0_tape_0 20 rfl rfl)
theorem dX0_tape_23 : decode cX0_tape 23 = .ok (.iload_n 3, 1) := dk_29 (dk_at dksX0_tape_0 23 rfl rfl)
theorem dX0_tape_24 : decode cX0_tape 24 = .ok (.bipush 60, 2) := dk_16 60 (dk_at dksX0_tape_1 0 rfl rfl)
theorem dX0_tape_26 : decode cX0_tape 26 = .ok (.if_icmp .le 6, 3) := dk_164 0 6 (dk_at dksX0_tape_1 2 rfl rfl)
theorem dX0_tape_29 : decode cX0_tape 29 = .ok (.bipush (-2), 2) := dk_16 254 (dk_at dksX0_tape_1 5 rfl rfl)
theorem dX0_tape_31 : decode cX0_tape 31 = .ok (.ireturn, 1) := dk_172 (dk_at dksX0_tape_1 7 rfl rfl)
theorem dX0_tape_32 : decode cX0_tape 32 = .ok (.aload_n 0, 1) := dk_42 (dk_at dksX0_tape_1 8 rfl rfl)
theorem dX0_tape_33 : decode cX0_tape 33 = .ok (.getfield 81, 3) := dk_180 0 81 (dk_at dksX0_tape_1 9 rfl rfl)
theorem dX0_tape_36 : decode cX0_tape 36 = .ok (.iload_n 1, 1) := dk_27 (dk_at dksX0_tape_1 12 rfl rfl)
theorem dX0_tape_37 : decode cX0_tape 37 = .ok (.aaload, 1) := dk_50 (dk_at dksX0_tape_1 13 rfl rfl)
theorem dX0_tape_38 : decode cX0_tape 38 = .ok (.iload_n 2, 1) := dk_28 (dk_at dksX0_tape_1 14 rfl rfl)
theorem dX0_tape_39 : decode cX0_tape 39 = .ok (.iconst (-1), 1) := dk_2 (dk_at dksX0_tape_1 15 rfl rfl)
theorem dX0_tape_40 : decode cX0_tape 40 = .ok (.if_icmp .ne 7, 3) := dk_160 0 7 (dk_at dksX0_tape_1 16 rfl rfl)
theorem dX0_tape_43 : decode cX0_tape 43 = .ok (.aconst_null, 1) := dk_1 (dk_at dksX0_tape_1 19 rfl rfl)
theorem dX0_tape_44 : decode cX0_tape 44 = .ok (.goto 8, 3) := dk_167 0 8 (dk_at dksX0_tape_1 20 rfl rfl)
theorem dX0_tape_47 : decode cX0_tape 47 = .ok (.iload_n 2, 1) := dk_28 (dk_at dksX0_tape_1 23 rfl rfl)
theorem dX0_tape_48 : decode cX0_tape 48 = .ok (.iload_n 3, 1) := dk_29 (dk_at dksX0_tape_2 0 rfl rfl)
theorem dX0_tape_49 : decode cX0_tape 49 = .ok (.invokestatic 364, 3) := dk_184 1 108 (dk_at dksX0_tape_2 1 rfl rfl)
theorem dX0_tape_52 : decode cX0_tape 52 = .ok (.putfield 343, 3) := dk_181 1 87 (dk_at dksX0_tape_2 4 rfl rfl)
theorem dX0_tape_55 : decode cX0_tape 55 = .ok (.iconst 1, 1) := dk_4 (dk_at dksX0_tape_2 7 rfl rfl)
theorem dX0_tape_56 : decode cX0_tape 56 = .ok (.ireturn, 1) := dk_172 (dk_at dksX0_tape_2 8 rfl rfl)
theorem dX0_tape_57 : decode cX0_tape 57 = .ok (.astore 4, 2) := dk_58 4 (dk_at dksX0_tape_2 9 rfl rfl)
theorem dX0_tape_59 : decode cX0_tape 59 = .ok (.bipush (-14), 2) := dk_16 242 (dk_at dksX0_tape_2 11 rfl rfl)
theorem dX0_tape_61 : decode cX0_tape 61 = .ok (.ireturn, 1) := dk_172 (dk_at dksX0_tape_2 13 rfl rfl)
abbrev cX0_rowOf : ByteArray := prog_1_method_52_code
def yX0_rowOf : MethodName := ⟨RX0, "rowOf", "(II)Ljava/lang/Object;"⟩
def dkwX0_rowOf_2 : List UInt8 := [27, 188, 8, 176, 27, 188, 9, 176, 27, 188, 10, 176, 27, 188, 11, 176, 27, 188, 4, 176]
abbrev dktX0_rowOf_2 : List UInt8 := dkwX0_rowOf_2 ++ []
def dkwX0_rowOf_1 : List UInt8 := [170, 0, 0, 0, 0, 0, 47, 0, 0, 0, 0, 0, 0, 0, 3, 0, 0, 0, 31, 0, 0, 0, 35, 0, 0, 0, 39, 0, 0, 0, 43]
abbrev dktX0_rowOf_1 : List UInt8 := dkwX0_rowOf_1 ++ dktX0_rowOf_2
def dkwX0_rowOf_0 : List UInt8 := [26]
abbrev dktX0_rowOf_0 : List UInt8 := dkwX0_rowOf_0 ++ dktX0_rowOf_1
theorem dksX0_rowOf_0 : cX0_rowOf.data.toList.drop 0 = dktX0_rowOf_0 := by decide +kernel
theorem dksX0_rowOf_1 : cX0_rowOf.data.toList.drop 1 = dktX0_rowOf_1 := dk_seg dksX0_rowOf_0 1 rfl rfl
theorem dksX0_rowOf_2 : cX0_rowOf.data.toList.drop 32 = dktX0_rowOf_2 := dk_seg dksX0_rowOf_1 31 rfl rfl
theorem dX0_rowOf_0 : decode cX0_rowOf 0 = .ok (.iload_n 0, 1) := dk_26 (dk_at dksX0_rowOf_0 0 rfl rfl)
theorem dX0_rowOf_1 : decode cX0_rowOf 1 = .ok (.tableswitch 47 0 3 #[31, 35, 39, 43], 31) := by decide +kernel
theorem dX0_rowOf_32 : decode cX0_rowOf 32 = .ok (.iload_n 1, 1) := dk_27 (dk_at dksX0_rowOf_2 0 rfl rfl)
theorem dX0_rowOf_33 : decode cX0_rowOf 33 = .ok (.newarray .byte, 2) := dk_188_8 (dk_at dksX0_rowOf_2 1 rfl rfl)
theorem dX0_rowOf_35 : decode cX0_rowOf 35 = .ok (.areturn, 1) := dk_176 (dk_at dksX0_rowOf_2 3 rfl rfl)
theorem dX0_rowOf_36 : decode cX0_rowOf 36 = .ok (.iload_n 1, 1) := dk_27 (dk_at dksX0_rowOf_2 4 rfl rfl)
theorem dX0_rowOf_37 : decode cX0_rowOf 37 = .ok (.newarray .short, 2) := dk_188_9 (dk_at dksX0_rowOf_2 5 rfl rfl)
theorem dX0_rowOf_39 : decode cX0_rowOf 39 = .ok (.areturn, 1) := dk_176 (dk_at dksX0_rowOf_2 7 rfl rfl)
theorem dX0_rowOf_40 : decode cX0_rowOf 40 = .ok (.iload_n 1, 1) := dk_27 (dk_at dksX0_rowOf_2 8 rfl rfl)
theorem dX0_rowOf_41 : decode cX0_rowOf 41 = .ok (.newarray .int, 2) := dk_188_10 (dk_at dksX0_rowOf_2 9 rfl rfl)
theorem dX0_rowOf_43 : decode cX0_rowOf 43 = .ok (.areturn, 1) := dk_176 (dk_at dksX0_rowOf_2 11 rfl rfl)
theorem dX0_rowOf_44 : decode cX0_rowOf 44 = .ok (.iload_n 1, 1) := dk_27 (dk_at dksX0_rowOf_2 12 rfl rfl)
theorem dX0_rowOf_45 : decode cX0_rowOf 45 = .ok (.newarray .long, 2) := dk_188_11 (dk_at dksX0_rowOf_2 13 rfl rfl)
theorem dX0_rowOf_47 : decode cX0_rowOf 47 = .ok (.areturn, 1) := dk_176 (dk_at dksX0_rowOf_2 15 rfl rfl)
theorem dX0_rowOf_48 : decode cX0_rowOf 48 = .ok (.iload_n 1, 1) := dk_27 (dk_at dksX0_rowOf_2 16 rfl rfl)
theorem dX0_rowOf_49 : decode cX0_rowOf 49 = .ok (.newarray .boolean, 2) := dk_188_4 (dk_at dksX0_rowOf_2 17 rfl rfl)
theorem dX0_rowOf_51 : decode cX0_rowOf 51 = .ok (.areturn, 1) := dk_176 (dk_at dksX0_rowOf_2 19 rfl rfl)
abbrev cX0_item : ByteArray := prog_1_method_55_code
def yX0_item : MethodName := ⟨RX0, "item", "(IIJ)I"⟩
def dkwX0_item_7 : List UInt8 := [180, 1, 87, 192, 1, 125, 28, 33, 9, 148, 153, 0, 7, 4, 167, 0, 4, 3, 84, 4, 172]
abbrev dktX0_item_7 : List UInt8 := dkwX0_item_7 ++ []
def dkwX0_item_6 : List UInt8 := [193, 1, 123, 153, 0, 18, 25, 10, 192, 1, 123, 58, 9, 25, 9, 28, 33, 80, 167, 0, 24, 25, 5]
abbrev dktX0_item_6 : List UInt8 := dkwX0_item_6 ++ dktX0_item_7
def dkwX0_item_5 : List UInt8 := [192, 1, 122, 58, 8, 25, 8, 28, 33, 136, 79, 167, 0, 54, 25, 5, 180, 1, 87, 58, 10, 25, 10]
abbrev dktX0_item_5 : List UInt8 := dkwX0_item_5 ++ dktX0_item_6
def dkwX0_item_4 : List UInt8 := [136, 147, 86, 167, 0, 85, 25, 5, 180, 1, 87, 58, 10, 25, 10, 193, 1, 122, 153, 0, 19, 25, 10]
abbrev dktX0_item_4 : List UInt8 := dkwX0_item_4 ++ dktX0_item_5
def dkwX0_item_3 : List UInt8 := [180, 1, 87, 58, 10, 25, 10, 193, 1, 120, 153, 0, 20, 25, 10, 192, 1, 120, 58, 7, 25, 7, 28, 33]
abbrev dktX0_item_3 : List UInt8 := dkwX0_item_3 ++ dktX0_item_4
def dkwX0_item_2 : List UInt8 := [153, 0, 20, 25, 10, 192, 1, 91, 58, 6, 25, 6, 28, 33, 136, 145, 84, 167, 0, 117, 25, 5]
abbrev dktX0_item_2 : List UInt8 := dkwX0_item_2 ++ dktX0_item_3
def dkwX0_item_1 : List UInt8 := [167, 0, 11, 58, 6, 25, 6, 180, 1, 119, 172, 25, 5, 180, 1, 87, 58, 10, 25, 10, 193, 1, 91]
abbrev dktX0_item_1 : List UInt8 := dkwX0_item_1 ++ dktX0_item_2
def dkwX0_item_0 : List UInt8 := [27, 184, 1, 84, 154, 0, 5, 2, 172, 42, 180, 0, 81, 27, 50, 58, 5, 25, 5, 28, 182, 1, 114]
abbrev dktX0_item_0 : List UInt8 := dkwX0_item_0 ++ dktX0_item_1
theorem dksX0_item_0 : cX0_item.data.toList.drop 0 = dktX0_item_0 := by decide +kernel
theorem dksX0_item_1 : cX0_item.data.toList.drop 23 = dktX0_item_1 := dk_seg dksX0_item_0 23 rfl rfl
theorem dksX0_item_2 : cX0_item.data.toList.drop 46 = dktX0_item_2 := dk_seg dksX0_item_1 23 rfl rfl
theorem dksX0_item_3 : cX0_item.data.toList.drop 68 = dktX0_item_3 := dk_seg dksX0_item_2 22 rfl rfl
theorem dksX0_item_4 : cX0_item.data.toList.drop 92 = dktX0_item_4 := dk_seg dksX0_item_3 24 rfl rfl
theorem dksX0_item_5 : cX0_item.data.toList.drop 115 = dktX0_item_5 := dk_seg dksX0_item_4 23 rfl rfl
theorem dksX0_item_6 : cX0_item.data.toList.drop 138 = dktX0_item_6 := dk_seg dksX0_item_5 23 rfl rfl
theorem dksX0_item_7 : cX0_item.data.toList.drop 161 = dktX0_item_7 := dk_seg dksX0_item_6 23 rfl rfl
theorem dX0_item_0 : decode cX0_item 0 = .ok (.iload_n 1, 1) := dk_27 (dk_at dksX0_item_0 0 rfl rfl)
theorem dX0_item_1 : decode cX0_item 1 = .ok (.invokestatic 340, 3) := dk_184 1 84 (dk_at dksX0_item_0 1 rfl rfl)
theorem dX0_item_4 : decode cX0_item 4 = .ok (.ifCond .ne 5, 3) := dk_154 0 5 (dk_at dksX0_item_0 4 rfl rfl)
theorem dX0_item_7 : decode cX0_item 7 = .ok (.iconst (-1), 1) := dk_2 (dk_at dksX0_item_0 7 rfl rfl)
theorem dX0_item_8 : decode cX0_item 8 = .ok (.ireturn, 1) := dk_172 (dk_at dksX0_item_0 8 rfl rfl)
theorem dX0_item_9 : decode cX0_item 9 = .ok (.aload_n 0, 1) := dk_42 (dk_at dksX0_item_0 9 rfl rfl)
theorem dX0_item_10 : decode cX0_item 10 = .ok (.getfield 81, 3) := dk_180 0 81 (dk_at dksX0_item_0 10 rfl rfl)
theorem dX0_item_13 : decode cX0_item 13 = .ok (.iload_n 1, 1) := dk_27 (dk_at dksX0_item_0 13 rfl rfl)
theorem dX0_item_14 : decode cX0_item 14 = .ok (.aaload, 1) := dk_50 (dk_at dksX0_item_0 14 rfl rfl)
theorem dX0_item_15 : decode cX0_item 15 = .ok (.astore 5, 2) := dk_58 5 (dk_at dksX0_item_0 15 rfl rfl)
theorem dX0_item_17 : decode cX0_item 17 = .ok (.aload 5, 2) := dk_25 5 (dk_at dksX0_item_0 17 rfl rfl)
theorem dX0_item_19 : decode cX0_item 19 = .ok (.iload_n 2, 1) := dk_28 (dk_at dksX0_item_0 19 rfl rfl)
theorem dX0_item_20 : decode cX0_item 20 = .ok (.invokevirtual 370, 3) := dk_182 1 114 (dk_at dksX0_item_0 20 rfl rfl)
theorem dX0_item_23 : decode cX0_item 23 = .ok (.goto 11, 3) := dk_167 0 11 (dk_at dksX0_item_1 0 rfl rfl)
theorem dX0_item_26 : decode cX0_item 26 = .ok (.astore 6, 2) := dk_58 6 (dk_at dksX0_item_1 3 rfl rfl)
theorem dX0_item_28 : decode cX0_item 28 = .ok (.aload 6, 2) := dk_25 6 (dk_at dksX0_item_1 5 rfl rfl)
theorem dX0_item_30 : decode cX0_item 30 = .ok (.getfield 375, 3) := dk_180 1 119 (dk_at dksX0_item_1 7 rfl rfl)
theorem dX0_item_33 : decode cX0_item 33 = .ok (.ireturn, 1) := dk_172 (dk_at dksX0_item_1 10 rfl rfl)
theorem dX0_item_34 : decode cX0_item 34 = .ok (.aload 5, 2) := dk_25 5 (dk_at dksX0_item_1 11 rfl rfl)
theorem dX0_item_36 : decode cX0_item 36 = .ok (.getfield 343, 3) := dk_180 1 87 (dk_at dksX0_item_1 13 rfl rfl)
theorem dX0_item_39 : decode cX0_item 39 = .ok (.astore 10, 2) := dk_58 10 (dk_at dksX0_item_1 16 rfl rfl)
theorem dX0_item_41 : decode cX0_item 41 = .ok (.aload 10, 2) := dk_25 10 (dk_at dksX0_item_1 18 rfl rfl)
theorem dX0_item_43 : decode cX0_item 43 = .ok (.instanceof 347, 3) := dk_193 1 91 (dk_at dksX0_item_1 20 rfl rfl)
theorem dX0_item_46 : decode cX0_item 46 = .ok (.ifCond .eq 20, 3) := dk_153 0 20 (dk_at dksX0_item_2 0 rfl rfl)
theorem dX0_item_49 : decode cX0_item 49 = .ok (.aload 10, 2) := dk_25 10 (dk_at dksX0_item_2 3 rfl rfl)
theorem dX0_item_51 : decode cX0_item 51 = .ok (.checkcast 347, 3) := dk_192 1 91 (dk_at dksX0_item_2 5 rfl rfl)
theorem dX0_item_54 : decode cX0_item 54 = .ok (.astore 6, 2) := dk_58 6 (dk_at dksX0_item_2 8 rfl rfl)
theorem dX0_item_56 : decode cX0_item 56 = .ok (.aload 6, 2) := dk_25 6 (dk_at dksX0_item_2 10 rfl rfl)
theorem dX0_item_58 : decode cX0_item 58 = .ok (.iload_n 2, 1) := dk_28 (dk_at dksX0_item_2 12 rfl rfl)
theorem dX0_item_59 : decode cX0_item 59 = .ok (.lload_n 3, 1) := dk_33 (dk_at dksX0_item_2 13 rfl rfl)
theorem dX0_item_60 : decode cX0_item 60 = .ok (.l2i, 1) := dk_136 (dk_at dksX0_item_2 14 rfl rfl)
theorem dX0_item_61 : decode cX0_item 61 = .ok (.i2b, 1) := dk_145 (dk_at dksX0_item_2 15 rfl rfl)
theorem dX0_item_62 : decode cX0_item 62 = .ok (.bastore, 1) := dk_84 (dk_at dksX0_item_2 16 rfl rfl)
theorem dX0_item_63 : decode cX0_item 63 = .ok (.goto 117, 3) := dk_167 0 117 (dk_at dksX0_item_2 17 rfl rfl)
theorem dX0_item_66 : decode cX0_item 66 = .ok (.aload 5, 2) := dk_25 5 (dk_at dksX0_item_2 20 rfl rfl)
theorem dX0_item_68 : decode cX0_item 68 = .ok (.getfield 343, 3) := dk_180 1 87 (dk_at dksX0_item_3 0 rfl rfl)
theorem dX0_item_71 : decode cX0_item 71 = .ok (.astore 10, 2) := dk_58 10 (dk_at dksX0_item_3 3 rfl rfl)
theorem dX0_item_73 : decode cX0_item 73 = .ok (.aload 10, 2) := dk_25 10 (dk_at dksX0_item_3 5 rfl rfl)
theorem dX0_item_75 : decode cX0_item 75 = .ok (.instanceof 376, 3) := dk_193 1 120 (dk_at dksX0_item_3 7 rfl rfl)
theorem dX0_item_78 : decode cX0_item 78 = .ok (.ifCond .eq 20, 3) := dk_153 0 20 (dk_at dksX0_item_3 10 rfl rfl)
theorem dX0_item_81 : decode cX0_item 81 = .ok (.aload 10, 2) := dk_25 10 (dk_at dksX0_item_3 13 rfl rfl)
theorem dX0_item_83 : decode cX0_item 83 = .ok (.checkcast 376, 3) := dk_192 1 120 (dk_at dksX0_item_3 15 rfl rfl)
theorem dX0_item_86 : decode cX0_item 86 = .ok (.astore 7, 2) := dk_58 7 (dk_at dksX0_item_3 18 rfl rfl)
theorem dX0_item_88 : decode cX0_item 88 = .ok (.aload 7, 2) := dk_25 7 (dk_at dksX0_item_3 20 rfl rfl)
theorem dX0_item_90 : decode cX0_item 90 = .ok (.iload_n 2, 1) := dk_28 (dk_at dksX0_item_3 22 rfl rfl)
theorem dX0_item_91 : decode cX0_item 91 = .ok (.lload_n 3, 1) := dk_33 (dk_at dksX0_item_3 23 rfl rfl)
theorem dX0_item_92 : decode cX0_item 92 = .ok (.l2i, 1) := dk_136 (dk_at dksX0_item_4 0 rfl rfl)
theorem dX0_item_93 : decode cX0_item 93 = .ok (.i2s, 1) := dk_147 (dk_at dksX0_item_4 1 rfl rfl)
theorem dX0_item_94 : decode cX0_item 94 = .ok (.sastore, 1) := dk_86 (dk_at dksX0_item_4 2 rfl rfl)
theorem dX0_item_95 : decode cX0_item 95 = .ok (.goto 85, 3) := dk_167 0 85 (dk_at dksX0_item_4 3 rfl rfl)
theorem dX0_item_98 : decode cX0_item 98 = .ok (.aload 5, 2) := dk_25 5 (dk_at dksX0_item_4 6 rfl rfl)
theorem dX0_item_100 : decode cX0_item 100 = .ok (.getfield 343, 3) := dk_180 1 87 (dk_at dksX0_item_4 8 rfl rfl)
theorem dX0_item_103 : decode cX0_item 103 = .ok (.astore 10, 2) := dk_58 10 (dk_at dksX0_item_4 11 rfl rfl)
theorem dX0_item_105 : decode cX0_item 105 = .ok (.aload 10, 2) := dk_25 10 (dk_at dksX0_item_4 13 rfl rfl)
theorem dX0_item_107 : decode cX0_item 107 = .ok (.instanceof 378, 3) := dk_193 1 122 (dk_at dksX0_item_4 15 rfl rfl)
theorem dX0_item_110 : decode cX0_item 110 = .ok (.ifCond .eq 19, 3) := dk_153 0 19 (dk_at dksX0_item_4 18 rfl rfl)
theorem dX0_item_113 : decode cX0_item 113 = .ok (.aload 10, 2) := dk_25 10 (dk_at dksX0_item_4 21 rfl rfl)
theorem dX0_item_115 : decode cX0_item 115 = .ok (.checkcast 378, 3) := dk_192 1 122 (dk_at dksX0_item_5 0 rfl rfl)
theorem dX0_item_118 : decode cX0_item 118 = .ok (.astore 8, 2) := dk_58 8 (dk_at dksX0_item_5 3 rfl rfl)
theorem dX0_item_120 : decode cX0_item 120 = .ok (.aload 8, 2) := dk_25 8 (dk_at dksX0_item_5 5 rfl rfl)
theorem dX0_item_122 : decode cX0_item 122 = .ok (.iload_n 2, 1) := dk_28 (dk_at dksX0_item_5 7 rfl rfl)
theorem dX0_item_123 : decode cX0_item 123 = .ok (.lload_n 3, 1) := dk_33 (dk_at dksX0_item_5 8 rfl rfl)
theorem dX0_item_124 : decode cX0_item 124 = .ok (.l2i, 1) := dk_136 (dk_at dksX0_item_5 9 rfl rfl)
theorem dX0_item_125 : decode cX0_item 125 = .ok (.iastore, 1) := dk_79 (dk_at dksX0_item_5 10 rfl rfl)
theorem dX0_item_126 : decode cX0_item 126 = .ok (.goto 54, 3) := dk_167 0 54 (dk_at dksX0_item_5 11 rfl rfl)
theorem dX0_item_129 : decode cX0_item 129 = .ok (.aload 5, 2) := dk_25 5 (dk_at dksX0_item_5 14 rfl rfl)
theorem dX0_item_131 : decode cX0_item 131 = .ok (.getfield 343, 3) := dk_180 1 87 (dk_at dksX0_item_5 16 rfl rfl)
theorem dX0_item_134 : decode cX0_item 134 = .ok (.astore 10, 2) := dk_58 10 (dk_at dksX0_item_5 19 rfl rfl)
theorem dX0_item_136 : decode cX0_item 136 = .ok (.aload 10, 2) := dk_25 10 (dk_at dksX0_item_5 21 rfl rfl)
theorem dX0_item_138 : decode cX0_item 138 = .ok (.instanceof 379, 3) := dk_193 1 123 (dk_at dksX0_item_6 0 rfl rfl)
theorem dX0_item_141 : decode cX0_item 141 = .ok (.ifCond .eq 18, 3) := dk_153 0 18 (dk_at dksX0_item_6 3 rfl rfl)
theorem dX0_item_144 : decode cX0_item 144 = .ok (.aload 10, 2) := dk_25 10 (dk_at dksX0_item_6 6 rfl rfl)
theorem dX0_item_146 : decode cX0_item 146 = .ok (.checkcast 379, 3) := dk_192 1 123 (dk_at dksX0_item_6 8 rfl rfl)
theorem dX0_item_149 : decode cX0_item 149 = .ok (.astore 9, 2) := dk_58 9 (dk_at dksX0_item_6 11 rfl rfl)
theorem dX0_item_151 : decode cX0_item 151 = .ok (.aload 9, 2) := dk_25 9 (dk_at dksX0_item_6 13 rfl rfl)
theorem dX0_item_153 : decode cX0_item 153 = .ok (.iload_n 2, 1) := dk_28 (dk_at dksX0_item_6 15 rfl rfl)
theorem dX0_item_154 : decode cX0_item 154 = .ok (.lload_n 3, 1) := dk_33 (dk_at dksX0_item_6 16 rfl rfl)
theorem dX0_item_155 : decode cX0_item 155 = .ok (.lastore, 1) := dk_80 (dk_at dksX0_item_6 17 rfl rfl)
theorem dX0_item_156 : decode cX0_item 156 = .ok (.goto 24, 3) := dk_167 0 24 (dk_at dksX0_item_6 18 rfl rfl)
theorem dX0_item_159 : decode cX0_item 159 = .ok (.aload 5, 2) := dk_25 5 (dk_at dksX0_item_6 21 rfl rfl)
theorem dX0_item_161 : decode cX0_item 161 = .ok (.getfield 343, 3) := dk_180 1 87 (dk_at dksX0_item_7 0 rfl rfl)
theorem dX0_item_164 : decode cX0_item 164 = .ok (.checkcast 381, 3) := dk_192 1 125 (dk_at dksX0_item_7 3 rfl rfl)
theorem dX0_item_167 : decode cX0_item 167 = .ok (.iload_n 2, 1) := dk_28 (dk_at dksX0_item_7 6 rfl rfl)
theorem dX0_item_168 : decode cX0_item 168 = .ok (.lload_n 3, 1) := dk_33 (dk_at dksX0_item_7 7 rfl rfl)
theorem dX0_item_169 : decode cX0_item 169 = .ok (.lconst 0, 1) := dk_9 (dk_at dksX0_item_7 8 rfl rfl)
theorem dX0_item_170 : decode cX0_item 170 = .ok (.lcmp, 1) := dk_148 (dk_at dksX0_item_7 9 rfl rfl)
theorem dX0_item_171 : decode cX0_item 171 = .ok (.ifCond .eq 7, 3) := dk_153 0 7 (dk_at dksX0_item_7 10 rfl rfl)
theorem dX0_item_174 : decode cX0_item 174 = .ok (.iconst 1, 1) := dk_4 (dk_at dksX0_item_7 13 rfl rfl)
theorem dX0_item_175 : decode cX0_item 175 = .ok (.goto 4, 3) := dk_167 0 4 (dk_at dksX0_item_7 14 rfl rfl)
theorem dX0_item_178 : decode cX0_item 178 = .ok (.iconst 0, 1) := dk_3 (dk_at dksX0_item_7 17 rfl rfl)
theorem dX0_item_179 : decode cX0_item 179 = .ok (.bastore, 1) := dk_84 (dk_at dksX0_item_7 18 rfl rfl)
theorem dX0_item_180 : decode cX0_item 180 = .ok (.iconst 1, 1) := dk_4 (dk_at dksX0_item_7 19 rfl rfl)
theorem dX0_item_181 : decode cX0_item 181 = .ok (.ireturn, 1) := dk_172 (dk_at dksX0_item_7 20 rfl rfl)
abbrev cX0_peek : ByteArray := prog_1_method_56_code
def yX0_peek : MethodName := ⟨RX0, "peek", "(II)J"⟩
def dkwX0_peek_7 : List UInt8 := [192, 1, 125, 28, 51, 153, 0, 7, 10, 167, 0, 4, 9, 173]
abbrev dktX0_peek_7 : List UInt8 := dkwX0_peek_7 ++ []
def dkwX0_peek_6 : List UInt8 := [193, 1, 123, 153, 0, 17, 25, 5, 192, 1, 123, 58, 4, 25, 4, 28, 47, 167, 0, 20, 45, 180, 1, 87]
abbrev dktX0_peek_6 : List UInt8 := dkwX0_peek_6 ++ dktX0_peek_7
def dkwX0_peek_5 : List UInt8 := [153, 0, 16, 25, 5, 192, 1, 122, 58, 4, 25, 4, 28, 46, 133, 173, 45, 180, 1, 87, 58, 5, 25, 5]
abbrev dktX0_peek_5 : List UInt8 := dkwX0_peek_5 ++ dktX0_peek_6
def dkwX0_peek_4 : List UInt8 := [192, 1, 120, 58, 4, 25, 4, 28, 53, 133, 173, 45, 180, 1, 87, 58, 5, 25, 5, 193, 1, 122]
abbrev dktX0_peek_4 : List UInt8 := dkwX0_peek_4 ++ dktX0_peek_5
def dkwX0_peek_3 : List UInt8 := [25, 4, 28, 51, 133, 173, 45, 180, 1, 87, 58, 5, 25, 5, 193, 1, 120, 153, 0, 16, 25, 5]
abbrev dktX0_peek_3 : List UInt8 := dkwX0_peek_3 ++ dktX0_peek_4
def dkwX0_peek_2 : List UInt8 := [27, 50, 78, 45, 180, 1, 87, 58, 5, 25, 5, 193, 1, 91, 153, 0, 16, 25, 5, 192, 1, 91, 58, 4]
abbrev dktX0_peek_2 : List UInt8 := dkwX0_peek_2 ++ dktX0_peek_3
def dkwX0_peek_1 : List UInt8 := [180, 0, 81, 27, 50, 182, 1, 127, 4, 100, 184, 0, 5, 154, 0, 7, 20, 0, 236, 173, 42, 180, 0, 81]
abbrev dktX0_peek_1 : List UInt8 := dkwX0_peek_1 ++ dktX0_peek_2
def dkwX0_peek_0 : List UInt8 := [27, 184, 1, 84, 153, 0, 34, 42, 180, 0, 81, 27, 50, 180, 1, 87, 198, 0, 22, 28, 3, 42]
abbrev dktX0_peek_0 : List UInt8 := dkwX0_peek_0 ++ dktX0_peek_1
theorem dksX0_peek_0 : cX0_peek.data.toList.drop 0 = dktX0_peek_0 := by decide +kernel
theorem dksX0_peek_1 : cX0_peek.data.toList.drop 22 = dktX0_peek_1 := dk_seg dksX0_peek_0 22 rfl rfl
theorem dksX0_peek_2 : cX0_peek.data.toList.drop 46 = dktX0_peek_2 := dk_seg dksX0_peek_1 24 rfl rfl
theorem dksX0_peek_3 : cX0_peek.data.toList.drop 70 = dktX0_peek_3 := dk_seg dksX0_peek_2 24 rfl rfl
theorem dksX0_peek_4 : cX0_peek.data.toList.drop 92 = dktX0_peek_4 := dk_seg dksX0_peek_3 22 rfl rfl
theorem dksX0_peek_5 : cX0_peek.data.toList.drop 114 = dktX0_peek_5 := dk_seg dksX0_peek_4 22 rfl rfl
theorem dksX0_peek_6 : cX0_peek.data.toList.drop 138 = dktX0_peek_6 := dk_seg dksX0_peek_5 24 rfl rfl
theorem dksX0_peek_7 : cX0_peek.data.toList.drop 162 = dktX0_peek_7 := dk_seg dksX0_peek_6 24 rfl rfl
theorem dX0_peek_0 : decode cX0_peek 0 = .ok (.iload_n 1, 1) := dk_27 (dk_at dksX0_peek_0 0 rfl rfl)
theorem dX0_peek_1 : decode cX0_peek 1 = .ok (.invokestatic 340, 3) := dk_184 1 84 (dk_at dksX0_peek_0 1 rfl rfl)
theorem dX0_peek_4 : decode cX0_peek 4 = .ok (.ifCond .eq 34, 3) := dk_153 0 34 (dk_at dksX0_peek_0 4 rfl rfl)
theorem dX0_peek_7 : decode cX0_peek 7 = .ok (.aload_n 0, 1) := dk_42 (dk_at dksX0_peek_0 7 rfl rfl)
theorem dX0_peek_8 : decode cX0_peek 8 = .ok (.getfield 81, 3) := dk_180 0 81 (dk_at dksX0_peek_0 8 rfl rfl)
theorem dX0_peek_11 : decode cX0_peek 11 = .ok (.iload_n 1, 1) := dk_27 (dk_at dksX0_peek_0 11 rfl rfl)
theorem dX0_peek_12 : decode cX0_peek 12 = .ok (.aaload, 1) := dk_50 (dk_at dksX0_peek_0 12 rfl rfl)
theorem dX0_peek_13 : decode cX0_peek 13 = .ok (.getfield 343, 3) := dk_180 1 87 (dk_at dksX0_peek_0 13 rfl rfl)
theorem dX0_peek_16 : decode cX0_peek 16 = .ok (.ifnull 22, 3) := dk_198 0 22 (dk_at dksX0_peek_0 16 rfl rfl)
theorem dX0_peek_19 : decode cX0_peek 19 = .ok (.iload_n 2, 1) := dk_28 (dk_at dksX0_peek_0 19 rfl rfl)
theorem dX0_peek_20 : decode cX0_peek 20 = .ok (.iconst 0, 1) := dk_3 (dk_at dksX0_peek_0 20 rfl rfl)
theorem dX0_peek_21 : decode cX0_peek 21 = .ok (.aload_n 0, 1) := dk_42 (dk_at dksX0_peek_0 21 rfl rfl)
theorem dX0_peek_22 : decode cX0_peek 22 = .ok (.getfield 81, 3) := dk_180 0 81 (dk_at dksX0_peek_1 0 rfl rfl)
theorem dX0_peek_25 : decode cX0_peek 25 = .ok (.iload_n 1, 1) := dk_27 (dk_at dksX0_peek_1 3 rfl rfl)
theorem dX0_peek_26 : decode cX0_peek 26 = .ok (.aaload, 1) := dk_50 (dk_at dksX0_peek_1 4 rfl rfl)
theorem dX0_peek_27 : decode cX0_peek 27 = .ok (.invokevirtual 383, 3) := dk_182 1 127 (dk_at dksX0_peek_1 5 rfl rfl)
theorem dX0_peek_30 : decode cX0_peek 30 = .ok (.iconst 1, 1) := dk_4 (dk_at dksX0_peek_1 8 rfl rfl)
theorem dX0_peek_31 : decode cX0_peek 31 = .ok (.isub, 1) := dk_100 (dk_at dksX0_peek_1 9 rfl rfl)
theorem dX0_peek_32 : decode cX0_peek 32 = .ok (.invokestatic 5, 3) := dk_184 0 5 (dk_at dksX0_peek_1 10 rfl rfl)
theorem dX0_peek_35 : decode cX0_peek 35 = .ok (.ifCond .ne 7, 3) := dk_154 0 7 (dk_at dksX0_peek_1 13 rfl rfl)
theorem dX0_peek_38 : decode cX0_peek 38 = .ok (.ldc2_w 236, 3) := dk_20 0 236 (dk_at dksX0_peek_1 16 rfl rfl)
theorem dX0_peek_41 : decode cX0_peek 41 = .ok (.lreturn, 1) := dk_173 (dk_at dksX0_peek_1 19 rfl rfl)
theorem dX0_peek_42 : decode cX0_peek 42 = .ok (.aload_n 0, 1) := dk_42 (dk_at dksX0_peek_1 20 rfl rfl)
theorem dX0_peek_43 : decode cX0_peek 43 = .ok (.getfield 81, 3) := dk_180 0 81 (dk_at dksX0_peek_1 21 rfl rfl)
theorem dX0_peek_46 : decode cX0_peek 46 = .ok (.iload_n 1, 1) := dk_27 (dk_at dksX0_peek_2 0 rfl rfl)
theorem dX0_peek_47 : decode cX0_peek 47 = .ok (.aaload, 1) := dk_50 (dk_at dksX0_peek_2 1 rfl rfl)
theorem dX0_peek_48 : decode cX0_peek 48 = .ok (.astore_n 3, 1) := dk_78 (dk_at dksX0_peek_2 2 rfl rfl)
theorem dX0_peek_49 : decode cX0_peek 49 = .ok (.aload_n 3, 1) := dk_45 (dk_at dksX0_peek_2 3 rfl rfl)
theorem dX0_peek_50 : decode cX0_peek 50 = .ok (.getfield 343, 3) := dk_180 1 87 (dk_at dksX0_peek_2 4 rfl rfl)
theorem dX0_peek_53 : decode cX0_peek 53 = .ok (.astore 5, 2) := dk_58 5 (dk_at dksX0_peek_2 7 rfl rfl)
theorem dX0_peek_55 : decode cX0_peek 55 = .ok (.aload 5, 2) := dk_25 5 (dk_at dksX0_peek_2 9 rfl rfl)
theorem dX0_peek_57 : decode cX0_peek 57 = .ok (.instanceof 347, 3) := dk_193 1 91 (dk_at dksX0_peek_2 11 rfl rfl)
theorem dX0_peek_60 : decode cX0_peek 60 = .ok (.ifCond .eq 16, 3) := dk_153 0 16 (dk_at dksX0_peek_2 14 rfl rfl)
theorem dX0_peek_63 : decode cX0_peek 63 = .ok (.aload 5, 2) := dk_25 5 (dk_at dksX0_peek_2 17 rfl rfl)
theorem dX0_peek_65 : decode cX0_peek 65 = .ok (.checkcast 347, 3) := dk_192 1 91 (dk_at dksX0_peek_2 19 rfl rfl)
theorem dX0_peek_68 : decode cX0_peek 68 = .ok (.astore 4, 2) := dk_58 4 (dk_at dksX0_peek_2 22 rfl rfl)
theorem dX0_peek_70 : decode cX0_peek 70 = .ok (.aload 4, 2) := dk_25 4 (dk_at dksX0_peek_3 0 rfl rfl)
theorem dX0_peek_72 : decode cX0_peek 72 = .ok (.iload_n 2, 1) := dk_28 (dk_at dksX0_peek_3 2 rfl rfl)
theorem dX0_peek_73 : decode cX0_peek 73 = .ok (.baload, 1) := dk_51 (dk_at dksX0_peek_3 3 rfl rfl)
theorem dX0_peek_74 : decode cX0_peek 74 = .ok (.i2l, 1) := dk_133 (dk_at dksX0_peek_3 4 rfl rfl)
theorem dX0_peek_75 : decode cX0_peek 75 = .ok (.lreturn, 1) := dk_173 (dk_at dksX0_peek_3 5 rfl rfl)
theorem dX0_peek_76 : decode cX0_peek 76 = .ok (.aload_n 3, 1) := dk_45 (dk_at dksX0_peek_3 6 rfl rfl)
theorem dX0_peek_77 : decode cX0_peek 77 = .ok (.getfield 343, 3) := dk_180 1 87 (dk_at dksX0_peek_3 7 rfl rfl)
theorem dX0_peek_80 : decode cX0_peek 80 = .ok (.astore 5, 2) := dk_58 5 (dk_at dksX0_peek_3 10 rfl rfl)
theorem dX0_peek_82 : decode cX0_peek 82 = .ok (.aload 5, 2) := dk_25 5 (dk_at dksX0_peek_3 12 rfl rfl)
theorem dX0_peek_84 : decode cX0_peek 84 = .ok (.instanceof 376, 3) := dk_193 1 120 (dk_at dksX0_peek_3 14 rfl rfl)
theorem dX0_peek_87 : decode cX0_peek 87 = .ok (.ifCond .eq 16, 3) := dk_153 0 16 (dk_at dksX0_peek_3 17 rfl rfl)
theorem dX0_peek_90 : decode cX0_peek 90 = .ok (.aload 5, 2) := dk_25 5 (dk_at dksX0_peek_3 20 rfl rfl)
theorem dX0_peek_92 : decode cX0_peek 92 = .ok (.checkcast 376, 3) := dk_192 1 120 (dk_at dksX0_peek_4 0 rfl rfl)
theorem dX0_peek_95 : decode cX0_peek 95 = .ok (.astore 4, 2) := dk_58 4 (dk_at dksX0_peek_4 3 rfl rfl)
theorem dX0_peek_97 : decode cX0_peek 97 = .ok (.aload 4, 2) := dk_25 4 (dk_at dksX0_peek_4 5 rfl rfl)
theorem dX0_peek_99 : decode cX0_peek 99 = .ok (.iload_n 2, 1) := dk_28 (dk_at dksX0_peek_4 7 rfl rfl)
theorem dX0_peek_100 : decode cX0_peek 100 = .ok (.saload, 1) := dk_53 (dk_at dksX0_peek_4 8 rfl rfl)
theorem dX0_peek_101 : decode cX0_peek 101 = .ok (.i2l, 1) := dk_133 (dk_at dksX0_peek_4 9 rfl rfl)
theorem dX0_peek_102 : decode cX0_peek 102 = .ok (.lreturn, 1) := dk_173 (dk_at dksX0_peek_4 10 rfl rfl)
theorem dX0_peek_103 : decode cX0_peek 103 = .ok (.aload_n 3, 1) := dk_45 (dk_at dksX0_peek_4 11 rfl rfl)
theorem dX0_peek_104 : decode cX0_peek 104 = .ok (.getfield 343, 3) := dk_180 1 87 (dk_at dksX0_peek_4 12 rfl rfl)
theorem dX0_peek_107 : decode cX0_peek 107 = .ok (.astore 5, 2) := dk_58 5 (dk_at dksX0_peek_4 15 rfl rfl)
theorem dX0_peek_109 : decode cX0_peek 109 = .ok (.aload 5, 2) := dk_25 5 (dk_at dksX0_peek_4 17 rfl rfl)
theorem dX0_peek_111 : decode cX0_peek 111 = .ok (.instanceof 378, 3) := dk_193 1 122 (dk_at dksX0_peek_4 19 rfl rfl)
theorem dX0_peek_114 : decode cX0_peek 114 = .ok (.ifCond .eq 16, 3) := dk_153 0 16 (dk_at dksX0_peek_5 0 rfl rfl)
theorem dX0_peek_117 : decode cX0_peek 117 = .ok (.aload 5, 2) := dk_25 5 (dk_at dksX0_peek_5 3 rfl rfl)
theorem dX0_peek_119 : decode cX0_peek 119 = .ok (.checkcast 378, 3) := dk_192 1 122 (dk_at dksX0_peek_5 5 rfl rfl)
theorem dX0_peek_122 : decode cX0_peek 122 = .ok (.astore 4, 2) := dk_58 4 (dk_at dksX0_peek_5 8 rfl rfl)
theorem dX0_peek_124 : decode cX0_peek 124 = .ok (.aload 4, 2) := dk_25 4 (dk_at dksX0_peek_5 10 rfl rfl)
theorem dX0_peek_126 : decode cX0_peek 126 = .ok (.iload_n 2, 1) := dk_28 (dk_at dksX0_peek_5 12 rfl rfl)
theorem dX0_peek_127 : decode cX0_peek 127 = .ok (.iaload, 1) := dk_46 (dk_at dksX0_peek_5 13 rfl rfl)
theorem dX0_peek_128 : decode cX0_peek 128 = .ok (.i2l, 1) := dk_133 (dk_at dksX0_peek_5 14 rfl rfl)
theorem dX0_peek_129 : decode cX0_peek 129 = .ok (.lreturn, 1) := dk_173 (dk_at dksX0_peek_5 15 rfl rfl)
theorem dX0_peek_130 : decode cX0_peek 130 = .ok (.aload_n 3, 1) := dk_45 (dk_at dksX0_peek_5 16 rfl rfl)
theorem dX0_peek_131 : decode cX0_peek 131 = .ok (.getfield 343, 3) := dk_180 1 87 (dk_at dksX0_peek_5 17 rfl rfl)
theorem dX0_peek_134 : decode cX0_peek 134 = .ok (.astore 5, 2) := dk_58 5 (dk_at dksX0_peek_5 20 rfl rfl)
theorem dX0_peek_136 : decode cX0_peek 136 = .ok (.aload 5, 2) := dk_25 5 (dk_at dksX0_peek_5 22 rfl rfl)
theorem dX0_peek_138 : decode cX0_peek 138 = .ok (.instanceof 379, 3) := dk_193 1 123 (dk_at dksX0_peek_6 0 rfl rfl)
theorem dX0_peek_141 : decode cX0_peek 141 = .ok (.ifCond .eq 17, 3) := dk_153 0 17 (dk_at dksX0_peek_6 3 rfl rfl)
theorem dX0_peek_144 : decode cX0_peek 144 = .ok (.aload 5, 2) := dk_25 5 (dk_at dksX0_peek_6 6 rfl rfl)
theorem dX0_peek_146 : decode cX0_peek 146 = .ok (.checkcast 379, 3) := dk_192 1 123 (dk_at dksX0_peek_6 8 rfl rfl)
theorem dX0_peek_149 : decode cX0_peek 149 = .ok (.astore 4, 2) := dk_58 4 (dk_at dksX0_peek_6 11 rfl rfl)
theorem dX0_peek_151 : decode cX0_peek 151 = .ok (.aload 4, 2) := dk_25 4 (dk_at dksX0_peek_6 13 rfl rfl)
theorem dX0_peek_153 : decode cX0_peek 153 = .ok (.iload_n 2, 1) := dk_28 (dk_at dksX0_peek_6 15 rfl rfl)
theorem dX0_peek_154 : decode cX0_peek 154 = .ok (.laload, 1) := dk_47 (dk_at dksX0_peek_6 16 rfl rfl)
theorem dX0_peek_155 : decode cX0_peek 155 = .ok (.goto 20, 3) := dk_167 0 20 (dk_at dksX0_peek_6 17 rfl rfl)
theorem dX0_peek_158 : decode cX0_peek 158 = .ok (.aload_n 3, 1) := dk_45 (dk_at dksX0_peek_6 20 rfl rfl)
theorem dX0_peek_159 : decode cX0_peek 159 = .ok (.getfield 343, 3) := dk_180 1 87 (dk_at dksX0_peek_6 21 rfl rfl)
theorem dX0_peek_162 : decode cX0_peek 162 = .ok (.checkcast 381, 3) := dk_192 1 125 (dk_at dksX0_peek_7 0 rfl rfl)
theorem dX0_peek_165 : decode cX0_peek 165 = .ok (.iload_n 2, 1) := dk_28 (dk_at dksX0_peek_7 3 rfl rfl)
theorem dX0_peek_166 : decode cX0_peek 166 = .ok (.baload, 1) := dk_51 (dk_at dksX0_peek_7 4 rfl rfl)
theorem dX0_peek_167 : decode cX0_peek 167 = .ok (.ifCond .eq 7, 3) := dk_153 0 7 (dk_at dksX0_peek_7 5 rfl rfl)
theorem dX0_peek_170 : decode cX0_peek 170 = .ok (.lconst 1, 1) := dk_10 (dk_at dksX0_peek_7 8 rfl rfl)
theorem dX0_peek_171 : decode cX0_peek 171 = .ok (.goto 4, 3) := dk_167 0 4 (dk_at dksX0_peek_7 9 rfl rfl)
theorem dX0_peek_174 : decode cX0_peek 174 = .ok (.lconst 0, 1) := dk_9 (dk_at dksX0_peek_7 12 rfl rfl)
theorem dX0_peek_175 : decode cX0_peek 175 = .ok (.lreturn, 1) := dk_173 (dk_at dksX0_peek_7 13 rfl rfl)
abbrev cX0_shift : ByteArray := prog_1_method_57_code
def yX0_shift : MethodName := ⟨RX0, "shift", "(IIIII)I"⟩
def dkwX0_shift_2 : List UInt8 := [58, 6, 16, 245, 172, 58, 6, 16, 244, 172, 58, 6, 16, 243, 172]
abbrev dktX0_shift_2 : List UInt8 := dkwX0_shift_2 ++ []
def dkwX0_shift_1 : List UInt8 := [180, 1, 87, 28, 42, 180, 0, 81, 29, 50, 180, 1, 87, 21, 4, 21, 5, 184, 1, 130, 21, 5, 172]
abbrev dktX0_shift_1 : List UInt8 := dkwX0_shift_1 ++ dktX0_shift_2
def dkwX0_shift_0 : List UInt8 := [27, 184, 1, 84, 153, 0, 10, 29, 184, 1, 84, 154, 0, 5, 2, 172, 42, 180, 0, 81, 27, 50]
abbrev dktX0_shift_0 : List UInt8 := dkwX0_shift_0 ++ dktX0_shift_1
theorem dksX0_shift_0 : cX0_shift.data.toList.drop 0 = dktX0_shift_0 := by decide +kernel
theorem dksX0_shift_1 : cX0_shift.data.toList.drop 22 = dktX0_shift_1 := dk_seg dksX0_shift_0 22 rfl rfl
theorem dksX0_shift_2 : cX0_shift.data.toList.drop 45 = dktX0_shift_2 := dk_seg dksX0_shift_1 23 rfl rfl
theorem dX0_shift_0 : decode cX0_shift 0 = .ok (.iload_n 1, 1) := dk_27 (dk_at dksX0_shift_0 0 rfl rfl)
theorem dX0_shift_1 : decode cX0_shift 1 = .ok (.invokestatic 340, 3) := dk_184 1 84 (dk_at dksX0_shift_0 1 rfl rfl)
theorem dX0_shift_4 : decode cX0_shift 4 = .ok (.ifCond .eq 10, 3) := dk_153 0 10 (dk_at dksX0_shift_0 4 rfl rfl)
theorem dX0_shift_7 : decode cX0_shift 7 = .ok (.iload_n 3, 1) := dk_29 (dk_at dksX0_shift_0 7 rfl rfl)
theorem dX0_shift_8 : decode cX0_shift 8 = .ok (.invokestatic 340, 3) := dk_184 1 84 (dk_at dksX0_shift_0 8 rfl rfl)
theorem dX0_shift_11 : decode cX0_shift 11 = .ok (.ifCond .ne 5, 3) := dk_154 0 5 (dk_at dksX0_shift_0 11 rfl rfl)
theorem dX0_shift_14 : decode cX0_shift 14 = .ok (.iconst (-1), 1) := dk_2 (dk_at dksX0_shift_0 14 rfl rfl)
theorem dX0_shift_15 : decode cX0_shift 15 = .ok (.ireturn, 1) := dk_172 (dk_at dksX0_shift_0 15 rfl rfl)
theorem dX0_shift_16 : decode cX0_shift 16 = .ok (.aload_n 0, 1) := dk_42 (dk_at dksX0_shift_0 16 rfl rfl)
theorem dX0_shift_17 : decode cX0_shift 17 = .ok (.getfield 81, 3) := dk_180 0 81 (dk_at dksX0_shift_0 17 rfl rfl)
theorem dX0_shift_20 : decode cX0_shift 20 = .ok (.iload_n 1, 1) := dk_27 (dk_at dksX0_shift_0 20 rfl rfl)
theorem dX0_shift_21 : decode cX0_shift 21 = .ok (.aaload, 1) := dk_50 (dk_at dksX0_shift_0 21 rfl rfl)
theorem dX0_shift_22 : decode cX0_shift 22 = .ok (.getfield 343, 3) := dk_180 1 87 (dk_at dksX0_shift_1 0 rfl rfl)
theorem dX0_shift_25 : decode cX0_shift 25 = .ok (.iload_n 2, 1) := dk_28 (dk_at dksX0_shift_1 3 rfl rfl)
theorem dX0_shift_26 : decode cX0_shift 26 = .ok (.aload_n 0, 1) := dk_42 (dk_at dksX0_shift_1 4 rfl rfl)
theorem dX0_shift_27 : decode cX0_shift 27 = .ok (.getfield 81, 3) := dk_180 0 81 (dk_at dksX0_shift_1 5 rfl rfl)
theorem dX0_shift_30 : decode cX0_shift 30 = .ok (.iload_n 3, 1) := dk_29 (dk_at dksX0_shift_1 8 rfl rfl)
theorem dX0_shift_31 : decode cX0_shift 31 = .ok (.aaload, 1) := dk_50 (dk_at dksX0_shift_1 9 rfl rfl)
theorem dX0_shift_32 : decode cX0_shift 32 = .ok (.getfield 343, 3) := dk_180 1 87 (dk_at dksX0_shift_1 10 rfl rfl)
theorem dX0_shift_35 : decode cX0_shift 35 = .ok (.iload 4, 2) := dk_21 4 (dk_at dksX0_shift_1 13 rfl rfl)
theorem dX0_shift_37 : decode cX0_shift 37 = .ok (.iload 5, 2) := dk_21 5 (dk_at dksX0_shift_1 15 rfl rfl)
theorem dX0_shift_39 : decode cX0_shift 39 = .ok (.invokestatic 386, 3) := dk_184 1 130 (dk_at dksX0_shift_1 17 rfl rfl)
theorem dX0_shift_42 : decode cX0_shift 42 = .ok (.iload 5, 2) := dk_21 5 (dk_at dksX0_shift_1 20 rfl rfl)
theorem dX0_shift_44 : decode cX0_shift 44 = .ok (.ireturn, 1) := dk_172 (dk_at dksX0_shift_1 22 rfl rfl)
theorem dX0_shift_45 : decode cX0_shift 45 = .ok (.astore 6, 2) := dk_58 6 (dk_at dksX0_shift_2 0 rfl rfl)
theorem dX0_shift_47 : decode cX0_shift 47 = .ok (.bipush (-11), 2) := dk_16 245 (dk_at dksX0_shift_2 2 rfl rfl)
theorem dX0_shift_49 : decode cX0_shift 49 = .ok (.ireturn, 1) := dk_172 (dk_at dksX0_shift_2 4 rfl rfl)
theorem dX0_shift_50 : decode cX0_shift 50 = .ok (.astore 6, 2) := dk_58 6 (dk_at dksX0_shift_2 5 rfl rfl)
theorem dX0_shift_52 : decode cX0_shift 52 = .ok (.bipush (-12), 2) := dk_16 244 (dk_at dksX0_shift_2 7 rfl rfl)
theorem dX0_shift_54 : decode cX0_shift 54 = .ok (.ireturn, 1) := dk_172 (dk_at dksX0_shift_2 9 rfl rfl)
theorem dX0_shift_55 : decode cX0_shift 55 = .ok (.astore 6, 2) := dk_58 6 (dk_at dksX0_shift_2 10 rfl rfl)
theorem dX0_shift_57 : decode cX0_shift 57 = .ok (.bipush (-13), 2) := dk_16 243 (dk_at dksX0_shift_2 12 rfl rfl)
theorem dX0_shift_59 : decode cX0_shift 59 = .ok (.ireturn, 1) := dk_172 (dk_at dksX0_shift_2 14 rfl rfl)
theorem q66 : (Jvm.Cond.initialized "TermIdeals") ∈ lw_all := lw_g (lw_at lw_m1 1 rfl) rfl
theorem q95 : (Jvm.Cond.instantiable "TermIdeals" (19 : Nat)) ∈ lw_all := lw_g (lw_at lw_m1 30 rfl) rfl
theorem q97 : (Jvm.Cond.instanceMethod ({ cls := "TermIdeals", name := "<init>", desc := "()V" } : Jvm.MethodName)) ∈ lw_all := lw_g (lw_at lw_m1 32 rfl) rfl
theorem q98 : (Jvm.Cond.code ({ cls := "TermIdeals", name := "<init>", desc := "()V" } : Jvm.MethodName) prog_1_method_7_code (2 : Nat) (Option.none : Option Jvm.ClassFile.FieldType)) ∈ lw_all := lw_g (lw_at lw_m1 33 rfl) rfl
theorem q99 : (Jvm.Cond.methodLink "TermIdeals" (13 : Nat) ({ cls := "java/lang/Object", name := "<init>", desc := "()V" } : Jvm.MethodName)) ∈ lw_all := lw_g (lw_at lw_m1 34 rfl) rfl
theorem q102 : (Jvm.Cond.classLink "TermIdeals" (19 : Nat) "TermIdeals$Ideal") ∈ lw_all := lw_g (lw_at lw_m1 37 rfl) rfl
theorem q105 : (Jvm.Cond.methodLinkNest "TermIdeals" (21 : Nat) ({ cls := "TermIdeals$Ideal", name := "<init>", desc := "()V" } : Jvm.MethodName) "TermIdeals") ∈ lw_tbl := lw_at lw_m1 40 rfl
theorem q111 : (Jvm.Cond.fieldLinkNest "TermIdeals" (132 : Nat) "TermIdeals$Ideal" "as" "[I" "TermIdeals") ∈ lw_tbl := lw_at lw_m1 46 rfl
theorem q114 : (Jvm.Cond.fieldLinkNest "TermIdeals" (136 : Nat) "TermIdeals$Ideal" "bs" "[I" "TermIdeals") ∈ lw_tbl := lw_at lw_m1 49 rfl
theorem q117 : (Jvm.Cond.fieldLinkNest "TermIdeals" (102 : Nat) "TermIdeals$Ideal" "many" "I" "TermIdeals") ∈ lw_tbl := lw_at lw_m1 52 rfl
theorem q126 : (Jvm.Cond.classLink "TermIdeals" (30 : Nat) "TermIdeals$Faces") ∈ lw_all := lw_g (lw_at lw_m1 61 rfl) rfl
theorem q128 : (Jvm.Cond.methodLinkNest "TermIdeals" (32 : Nat) ({ cls := "TermIdeals$Faces", name := "<init>", desc := "()V" } : Jvm.MethodName) "TermIdeals") ∈ lw_tbl := lw_at lw_m1 63 rfl
theorem q134 : (Jvm.Cond.fieldLinkNest "TermIdeals" (199 : Nat) "TermIdeals$Faces" "ss" "[I" "TermIdeals") ∈ lw_tbl := lw_at lw_m1 69 rfl
theorem q136 : (Jvm.Cond.fieldLinkNest "TermIdeals" (202 : Nat) "TermIdeals$Faces" "ts" "[I" "TermIdeals") ∈ lw_tbl := lw_at lw_m1 71 rfl
theorem q138 : (Jvm.Cond.fieldLinkNest "TermIdeals" (205 : Nat) "TermIdeals$Faces" "levels" "[I" "TermIdeals") ∈ lw_tbl := lw_at lw_m1 73 rfl
theorem q140 : (Jvm.Cond.fieldLinkNest "TermIdeals" (188 : Nat) "TermIdeals$Faces" "many" "I" "TermIdeals") ∈ lw_tbl := lw_at lw_m1 75 rfl
theorem q142 : (Jvm.Cond.fieldLinkNest "TermIdeals" (241 : Nat) "TermIdeals$Faces" "up" "I" "TermIdeals") ∈ lw_tbl := lw_at lw_m1 77 rfl
theorem q144 : (Jvm.Cond.fieldLinkNest "TermIdeals" (244 : Nat) "TermIdeals$Faces" "low" "I" "TermIdeals") ∈ lw_tbl := lw_at lw_m1 79 rfl
theorem q146 : (Jvm.Cond.fieldLinkNest "TermIdeals" (251 : Nat) "TermIdeals$Faces" "ups" "[I" "TermIdeals") ∈ lw_tbl := lw_at lw_m1 81 rfl
theorem q148 : (Jvm.Cond.fieldLinkNest "TermIdeals" (254 : Nat) "TermIdeals$Faces" "lows" "[I" "TermIdeals") ∈ lw_tbl := lw_at lw_m1 83 rfl
theorem q171 : (Jvm.Cond.classLink "TermIdeals" (37 : Nat) "TermIdeals$Deeds") ∈ lw_all := lw_g (lw_at lw_m1 106 rfl) rfl
theorem q173 : (Jvm.Cond.methodLink "TermIdeals" (39 : Nat) ({ cls := "TermIdeals$Deeds", name := "<init>", desc := "()V" } : Jvm.MethodName)) ∈ lw_all := lw_g (lw_at lw_m1 108 rfl) rfl
theorem q182 : (Jvm.Cond.fieldLinkNest "TermIdeals" (155 : Nat) "TermIdeals$Deeds" "many" "I" "TermIdeals") ∈ lw_tbl := lw_at lw_m1 117 rfl
theorem q190 : (Jvm.Cond.classLink "TermIdeals" (44 : Nat) "TermIdeals$Stairs") ∈ lw_all := lw_g (lw_at lw_m1 125 rfl) rfl
theorem q192 : (Jvm.Cond.methodLinkNest "TermIdeals" (46 : Nat) ({ cls := "TermIdeals$Stairs", name := "<init>", desc := "()V" } : Jvm.MethodName) "TermIdeals") ∈ lw_tbl := lw_at lw_m1 127 rfl
theorem q197 : (Jvm.Cond.fieldLinkNest "TermIdeals" (281 : Nat) "TermIdeals$Stairs" "at" "[I" "TermIdeals") ∈ lw_tbl := lw_at lw_m1 132 rfl
theorem q201 : (Jvm.Cond.classLink "TermIdeals" (64 : Nat) "TermIdeals$Rows") ∈ lw_all := lw_g (lw_at lw_m1 136 rfl) rfl
theorem q203 : (Jvm.Cond.methodLink "TermIdeals" (66 : Nat) ({ cls := "TermIdeals$Rows", name := "<init>", desc := "(I)V" } : Jvm.MethodName)) ∈ lw_all := lw_g (lw_at lw_m1 138 rfl) rfl
theorem q208 : (Jvm.Cond.fieldLinkNest "TermIdeals" (310 : Nat) "TermIdeals$Rows" "firsts" "[I" "TermIdeals") ∈ lw_tbl := lw_at lw_m1 143 rfl
theorem q210 : (Jvm.Cond.fieldLinkNest "TermIdeals" (316 : Nat) "TermIdeals$Rows" "seconds" "[I" "TermIdeals") ∈ lw_tbl := lw_at lw_m1 145 rfl
theorem q212 : (Jvm.Cond.fieldLinkNest "TermIdeals" (313 : Nat) "TermIdeals$Rows" "thirds" "[I" "TermIdeals") ∈ lw_tbl := lw_at lw_m1 147 rfl
theorem q214 : (Jvm.Cond.fieldLinkNest "TermIdeals" (309 : Nat) "TermIdeals$Rows" "many" "I" "TermIdeals") ∈ lw_tbl := lw_at lw_m1 149 rfl
theorem q225 : (Jvm.Cond.classLink "TermIdeals" (79 : Nat) "TermIdeals$Tape") ∈ lw_all := lw_g (lw_at lw_m1 160 rfl) rfl
theorem q228 : (Jvm.Cond.methodLinkNest "TermIdeals" (97 : Nat) ({ cls := "TermIdeals$Tape", name := "<init>", desc := "()V" } : Jvm.MethodName) "TermIdeals") ∈ lw_tbl := lw_at lw_m1 163 rfl
theorem q233 : (Jvm.Cond.fieldLinkNest "TermIdeals" (343 : Nat) "TermIdeals$Tape" "row" "Ljava/lang/Object;" "TermIdeals") ∈ lw_tbl := lw_at lw_m1 168 rfl
theorem q237 : (Jvm.Cond.fieldLink "TermIdeals" (22 : Nat) "TermIdeals" "ideals" "[LTermIdeals$Ideal;") ∈ lw_all := lw_g (lw_at lw_m1 172 rfl) rfl
theorem q238 : (Jvm.Cond.fieldLink "TermIdeals" (26 : Nat) "TermIdeals" "tried" "LTermIdeals$Ideal;") ∈ lw_all := lw_g (lw_at lw_m1 173 rfl) rfl
theorem q239 : (Jvm.Cond.fieldLink "TermIdeals" (33 : Nat) "TermIdeals" "faces" "LTermIdeals$Faces;") ∈ lw_all := lw_g (lw_at lw_m1 174 rfl) rfl
theorem q240 : (Jvm.Cond.fieldLink "TermIdeals" (40 : Nat) "TermIdeals" "deeds" "LTermIdeals$Deeds;") ∈ lw_all := lw_g (lw_at lw_m1 175 rfl) rfl
theorem q241 : (Jvm.Cond.fieldLink "TermIdeals" (47 : Nat) "TermIdeals" "one" "LTermIdeals$Stairs;") ∈ lw_all := lw_g (lw_at lw_m1 176 rfl) rfl
theorem q242 : (Jvm.Cond.fieldLink "TermIdeals" (51 : Nat) "TermIdeals" "other" "LTermIdeals$Stairs;") ∈ lw_all := lw_g (lw_at lw_m1 177 rfl) rfl
theorem q243 : (Jvm.Cond.fieldLink "TermIdeals" (54 : Nat) "TermIdeals" "power" "LTermIdeals$Stairs;") ∈ lw_all := lw_g (lw_at lw_m1 178 rfl) rfl
theorem q244 : (Jvm.Cond.fieldLink "TermIdeals" (57 : Nat) "TermIdeals" "next" "LTermIdeals$Stairs;") ∈ lw_all := lw_g (lw_at lw_m1 179 rfl) rfl
theorem q245 : (Jvm.Cond.fieldLink "TermIdeals" (60 : Nat) "TermIdeals" "text" "[B") ∈ lw_all := lw_g (lw_at lw_m1 180 rfl) rfl
theorem q246 : (Jvm.Cond.fieldLink "TermIdeals" (160 : Nat) "TermIdeals" "texted" "I") ∈ lw_all := lw_g (lw_at lw_m1 181 rfl) rfl
theorem q247 : (Jvm.Cond.fieldLink "TermIdeals" (69 : Nat) "TermIdeals" "seen" "LTermIdeals$Rows;") ∈ lw_all := lw_g (lw_at lw_m1 182 rfl) rfl
theorem q248 : (Jvm.Cond.fieldLink "TermIdeals" (73 : Nat) "TermIdeals" "events" "LTermIdeals$Rows;") ∈ lw_all := lw_g (lw_at lw_m1 183 rfl) rfl
theorem q249 : (Jvm.Cond.fieldLink "TermIdeals" (76 : Nat) "TermIdeals" "book" "LTermIdeals$Rows;") ∈ lw_all := lw_g (lw_at lw_m1 184 rfl) rfl
theorem q250 : (Jvm.Cond.fieldLink "TermIdeals" (81 : Nat) "TermIdeals" "tapes" "[LTermIdeals$Tape;") ∈ lw_all := lw_g (lw_at lw_m1 185 rfl) rfl
theorem q251 : (Jvm.Cond.fieldLink "TermIdeals" (85 : Nat) "TermIdeals" "imageIdeals" "[LTermIdeals$Ideal;") ∈ lw_all := lw_g (lw_at lw_m1 186 rfl) rfl
theorem q252 : (Jvm.Cond.fieldLink "TermIdeals" (88 : Nat) "TermIdeals" "imageSeen" "LTermIdeals$Rows;") ∈ lw_all := lw_g (lw_at lw_m1 187 rfl) rfl
theorem q253 : (Jvm.Cond.fieldLink "TermIdeals" (91 : Nat) "TermIdeals" "imageEvents" "LTermIdeals$Rows;") ∈ lw_all := lw_g (lw_at lw_m1 188 rfl) rfl
theorem q254 : (Jvm.Cond.fieldLink "TermIdeals" (94 : Nat) "TermIdeals" "imageBook" "LTermIdeals$Rows;") ∈ lw_all := lw_g (lw_at lw_m1 189 rfl) rfl
theorem q255 : (Jvm.Cond.fieldLink "TermIdeals" (357 : Nat) "TermIdeals" "hasImage" "Z") ∈ lw_all := lw_g (lw_at lw_m1 190 rfl) rfl
theorem q256 : (Jvm.Cond.laysFinal "TermIdeals" "TermIdeals" "ideals" "[LTermIdeals$Ideal;") ∈ lw_all := lw_g (lw_at lw_m1 191 rfl) rfl
theorem q257 : (Jvm.Cond.soleField "TermIdeals" "ideals") ∈ lw_all := lw_g (lw_at lw_m1 192 rfl) rfl
theorem q258 : (Jvm.Cond.laysFinal "TermIdeals" "TermIdeals" "tried" "LTermIdeals$Ideal;") ∈ lw_all := lw_g (lw_at lw_m1 193 rfl) rfl
theorem q259 : (Jvm.Cond.soleField "TermIdeals" "tried") ∈ lw_all := lw_g (lw_at lw_m1 194 rfl) rfl
theorem q260 : (Jvm.Cond.laysFinal "TermIdeals" "TermIdeals" "faces" "LTermIdeals$Faces;") ∈ lw_all := lw_g (lw_at lw_m1 195 rfl) rfl
theorem q261 : (Jvm.Cond.soleField "TermIdeals" "faces") ∈ lw_all := lw_g (lw_at lw_m1 196 rfl) rfl
theorem q262 : (Jvm.Cond.laysFinal "TermIdeals" "TermIdeals" "deeds" "LTermIdeals$Deeds;") ∈ lw_all := lw_g (lw_at lw_m1 197 rfl) rfl
theorem q263 : (Jvm.Cond.soleField "TermIdeals" "deeds") ∈ lw_all := lw_g (lw_at lw_m1 198 rfl) rfl
theorem q264 : (Jvm.Cond.laysFinal "TermIdeals" "TermIdeals" "one" "LTermIdeals$Stairs;") ∈ lw_all := lw_g (lw_at lw_m1 199 rfl) rfl
theorem q265 : (Jvm.Cond.soleField "TermIdeals" "one") ∈ lw_all := lw_g (lw_at lw_m1 200 rfl) rfl
theorem q266 : (Jvm.Cond.laysFinal "TermIdeals" "TermIdeals" "other" "LTermIdeals$Stairs;") ∈ lw_all := lw_g (lw_at lw_m1 201 rfl) rfl
theorem q267 : (Jvm.Cond.soleField "TermIdeals" "other") ∈ lw_all := lw_g (lw_at lw_m1 202 rfl) rfl
theorem q268 : (Jvm.Cond.laysFinal "TermIdeals" "TermIdeals" "power" "LTermIdeals$Stairs;") ∈ lw_all := lw_g (lw_at lw_m1 203 rfl) rfl
theorem q269 : (Jvm.Cond.soleField "TermIdeals" "power") ∈ lw_all := lw_g (lw_at lw_m1 204 rfl) rfl
theorem q270 : (Jvm.Cond.laysFinal "TermIdeals" "TermIdeals" "next" "LTermIdeals$Stairs;") ∈ lw_all := lw_g (lw_at lw_m1 205 rfl) rfl
theorem q271 : (Jvm.Cond.soleField "TermIdeals" "next") ∈ lw_all := lw_g (lw_at lw_m1 206 rfl) rfl
theorem q272 : (Jvm.Cond.laysFinal "TermIdeals" "TermIdeals" "text" "[B") ∈ lw_all := lw_g (lw_at lw_m1 207 rfl) rfl
theorem q273 : (Jvm.Cond.soleField "TermIdeals" "text") ∈ lw_all := lw_g (lw_at lw_m1 208 rfl) rfl
theorem q274 : (Jvm.Cond.lays "TermIdeals" "TermIdeals" "texted" "I") ∈ lw_all := lw_g (lw_at lw_m1 209 rfl) rfl
theorem q275 : (Jvm.Cond.soleField "TermIdeals" "texted") ∈ lw_all := lw_g (lw_at lw_m1 210 rfl) rfl
theorem q276 : (Jvm.Cond.laysFinal "TermIdeals" "TermIdeals" "seen" "LTermIdeals$Rows;") ∈ lw_all := lw_g (lw_at lw_m1 211 rfl) rfl
theorem q277 : (Jvm.Cond.soleField "TermIdeals" "seen") ∈ lw_all := lw_g (lw_at lw_m1 212 rfl) rfl
theorem q278 : (Jvm.Cond.laysFinal "TermIdeals" "TermIdeals" "events" "LTermIdeals$Rows;") ∈ lw_all := lw_g (lw_at lw_m1 213 rfl) rfl
theorem q279 : (Jvm.Cond.soleField "TermIdeals" "events") ∈ lw_all := lw_g (lw_at lw_m1 214 rfl) rfl
theorem q280 : (Jvm.Cond.laysFinal "TermIdeals" "TermIdeals" "book" "LTermIdeals$Rows;") ∈ lw_all := lw_g (lw_at lw_m1 215 rfl) rfl
theorem q281 : (Jvm.Cond.soleField "TermIdeals" "book") ∈ lw_all := lw_g (lw_at lw_m1 216 rfl) rfl
theorem q282 : (Jvm.Cond.laysFinal "TermIdeals" "TermIdeals" "tapes" "[LTermIdeals$Tape;") ∈ lw_all := lw_g (lw_at lw_m1 217 rfl) rfl
theorem q283 : (Jvm.Cond.soleField "TermIdeals" "tapes") ∈ lw_all := lw_g (lw_at lw_m1 218 rfl) rfl
theorem q284 : (Jvm.Cond.laysFinal "TermIdeals" "TermIdeals" "imageIdeals" "[LTermIdeals$Ideal;") ∈ lw_all := lw_g (lw_at lw_m1 219 rfl) rfl
theorem q285 : (Jvm.Cond.soleField "TermIdeals" "imageIdeals") ∈ lw_all := lw_g (lw_at lw_m1 220 rfl) rfl
theorem q286 : (Jvm.Cond.laysFinal "TermIdeals" "TermIdeals" "imageSeen" "LTermIdeals$Rows;") ∈ lw_all := lw_g (lw_at lw_m1 221 rfl) rfl
theorem q287 : (Jvm.Cond.soleField "TermIdeals" "imageSeen") ∈ lw_all := lw_g (lw_at lw_m1 222 rfl) rfl
theorem q288 : (Jvm.Cond.laysFinal "TermIdeals" "TermIdeals" "imageEvents" "LTermIdeals$Rows;") ∈ lw_all := lw_g (lw_at lw_m1 223 rfl) rfl
theorem q289 : (Jvm.Cond.soleField "TermIdeals" "imageEvents") ∈ lw_all := lw_g (lw_at lw_m1 224 rfl) rfl
theorem q290 : (Jvm.Cond.laysFinal "TermIdeals" "TermIdeals" "imageBook" "LTermIdeals$Rows;") ∈ lw_all := lw_g (lw_at lw_m1 225 rfl) rfl
theorem q291 : (Jvm.Cond.soleField "TermIdeals" "imageBook") ∈ lw_all := lw_g (lw_at lw_m1 226 rfl) rfl
theorem q292 : (Jvm.Cond.lays "TermIdeals" "TermIdeals" "hasImage" "Z") ∈ lw_all := lw_g (lw_at lw_m1 227 rfl) rfl
theorem q293 : (Jvm.Cond.soleField "TermIdeals" "hasImage") ∈ lw_all := lw_g (lw_at lw_m1 228 rfl) rfl
theorem q294 : (Jvm.Cond.superclass "TermIdeals" "java/lang/Object") ∈ lw_all := lw_g (lw_at lw_m1 229 rfl) rfl
theorem q296 : (Jvm.Cond.instanceMethod ({ cls := "TermIdeals", name := "generate", desc := "(III)I" } : Jvm.MethodName)) ∈ lw_all := lw_g (lw_at lw_m1 231 rfl) rfl
theorem q297 : (Jvm.Cond.selects "TermIdeals" ({ cls := "TermIdeals", name := "generate", desc := "(III)I" } : Jvm.MethodName) ({ cls := "TermIdeals", name := "generate", desc := "(III)I" } : Jvm.MethodName)) ∈ lw_all := lw_g (lw_at lw_m1 232 rfl) rfl
theorem q298 : (Jvm.Cond.code ({ cls := "TermIdeals", name := "generate", desc := "(III)I" } : Jvm.MethodName) prog_1_method_9_code (5 : Nat) (Option.some Jvm.ClassFile.FieldType.int)) ∈ lw_all := lw_g (lw_at lw_m1 233 rfl) rfl
theorem q299 : (Jvm.Cond.methodLink "TermIdeals" (98 : Nat) ({ cls := "TermIdeals", name := "isIdeal", desc := "(I)Z" } : Jvm.MethodName)) ∈ lw_all := lw_g (lw_at lw_m1 234 rfl) rfl
theorem q300 : (Jvm.Cond.static ({ cls := "TermIdeals", name := "isIdeal", desc := "(I)Z" } : Jvm.MethodName)) ∈ lw_all := lw_g (lw_at lw_m1 235 rfl) rfl
theorem q301 : (Jvm.Cond.code ({ cls := "TermIdeals", name := "isIdeal", desc := "(I)Z" } : Jvm.MethodName) prog_1_method_2_code (1 : Nat) (Option.some Jvm.ClassFile.FieldType.boolean)) ∈ lw_all := lw_g (lw_at lw_m1 236 rfl) rfl
theorem q302 : (Jvm.Cond.methodLink "TermIdeals" (5 : Nat) ({ cls := "TermIdeals", name := "in", desc := "(III)Z" } : Jvm.MethodName)) ∈ lw_all := lw_g (lw_at lw_m1 237 rfl) rfl
theorem q303 : (Jvm.Cond.static ({ cls := "TermIdeals", name := "in", desc := "(III)Z" } : Jvm.MethodName)) ∈ lw_all := lw_g (lw_at lw_m1 238 rfl) rfl
theorem q304 : (Jvm.Cond.code ({ cls := "TermIdeals", name := "in", desc := "(III)Z" } : Jvm.MethodName) prog_1_method_1_code (3 : Nat) (Option.some Jvm.ClassFile.FieldType.boolean)) ∈ lw_all := lw_g (lw_at lw_m1 239 rfl) rfl
theorem q305 : (Jvm.Cond.methodLink "TermIdeals" (106 : Nat) ({ cls := "TermIdeals", name := "isTerm", desc := "(II)Z" } : Jvm.MethodName)) ∈ lw_all := lw_g (lw_at lw_m2 0 rfl) rfl
theorem q306 : (Jvm.Cond.static ({ cls := "TermIdeals", name := "isTerm", desc := "(II)Z" } : Jvm.MethodName)) ∈ lw_all := lw_g (lw_at lw_m2 1 rfl) rfl
theorem q307 : (Jvm.Cond.code ({ cls := "TermIdeals", name := "isTerm", desc := "(II)Z" } : Jvm.MethodName) prog_1_method_3_code (2 : Nat) (Option.some Jvm.ClassFile.FieldType.boolean)) ∈ lw_all := lw_g (lw_at lw_m2 2 rfl) rfl
theorem q308 : (Jvm.Cond.methodLink "TermIdeals" (110 : Nat) ({ cls := "TermIdeals$Ideal", name := "placeOf", desc := "(II)I" } : Jvm.MethodName)) ∈ lw_all := lw_g (lw_at lw_m2 3 rfl) rfl
theorem q312 : (Jvm.Cond.methodLink "TermIdeals" (114 : Nat) ({ cls := "TermIdeals$Deeds", name := "keeps", desc := "(ILTermIdeals$Ideal;)V" } : Jvm.MethodName)) ∈ lw_all := lw_g (lw_at lw_m2 7 rfl) rfl
theorem q323 : (Jvm.Cond.methodLink "TermIdeals" (118 : Nat) ({ cls := "TermIdeals$Ideal", name := "comes", desc := "(II)V" } : Jvm.MethodName)) ∈ lw_all := lw_g (lw_at lw_m2 18 rfl) rfl
theorem q328 : (Jvm.Cond.instanceMethod ({ cls := "TermIdeals", name := "drop", desc := "(II)I" } : Jvm.MethodName)) ∈ lw_all := lw_g (lw_at lw_m2 23 rfl) rfl
theorem q329 : (Jvm.Cond.selects "TermIdeals" ({ cls := "TermIdeals", name := "drop", desc := "(II)I" } : Jvm.MethodName) ({ cls := "TermIdeals", name := "drop", desc := "(II)I" } : Jvm.MethodName)) ∈ lw_all := lw_g (lw_at lw_m2 24 rfl) rfl
theorem q330 : (Jvm.Cond.code ({ cls := "TermIdeals", name := "drop", desc := "(II)I" } : Jvm.MethodName) prog_1_method_10_code (3 : Nat) (Option.some Jvm.ClassFile.FieldType.int)) ∈ lw_all := lw_g (lw_at lw_m2 25 rfl) rfl
theorem q331 : (Jvm.Cond.methodLink "TermIdeals" (122 : Nat) ({ cls := "TermIdeals", name := "isGenerator", desc := "(II)Z" } : Jvm.MethodName)) ∈ lw_all := lw_g (lw_at lw_m2 26 rfl) rfl
theorem q332 : (Jvm.Cond.privateMethod ({ cls := "TermIdeals", name := "isGenerator", desc := "(II)Z" } : Jvm.MethodName)) ∈ lw_tbl := lw_at lw_m2 27 rfl
theorem q333 : (Jvm.Cond.instanceMethod ({ cls := "TermIdeals", name := "isGenerator", desc := "(II)Z" } : Jvm.MethodName)) ∈ lw_all := lw_g (lw_at lw_m2 28 rfl) rfl
theorem q334 : (Jvm.Cond.code ({ cls := "TermIdeals", name := "isGenerator", desc := "(II)Z" } : Jvm.MethodName) prog_1_method_8_code (3 : Nat) (Option.some Jvm.ClassFile.FieldType.boolean)) ∈ lw_all := lw_g (lw_at lw_m2 29 rfl) rfl
theorem q335 : (Jvm.Cond.methodLink "TermIdeals" (125 : Nat) ({ cls := "TermIdeals$Ideal", name := "goes", desc := "(I)V" } : Jvm.MethodName)) ∈ lw_all := lw_g (lw_at lw_m2 30 rfl) rfl
theorem q340 : (Jvm.Cond.instanceMethod ({ cls := "TermIdeals", name := "clear", desc := "(I)I" } : Jvm.MethodName)) ∈ lw_all := lw_g (lw_at lw_m2 35 rfl) rfl
theorem q341 : (Jvm.Cond.selects "TermIdeals" ({ cls := "TermIdeals", name := "clear", desc := "(I)I" } : Jvm.MethodName) ({ cls := "TermIdeals", name := "clear", desc := "(I)I" } : Jvm.MethodName)) ∈ lw_all := lw_g (lw_at lw_m2 36 rfl) rfl
theorem q342 : (Jvm.Cond.code ({ cls := "TermIdeals", name := "clear", desc := "(I)I" } : Jvm.MethodName) prog_1_method_11_code (3 : Nat) (Option.some Jvm.ClassFile.FieldType.int)) ∈ lw_all := lw_g (lw_at lw_m2 37 rfl) rfl
theorem q344 : (Jvm.Cond.instanceMethod ({ cls := "TermIdeals", name := "merge", desc := "(I)I" } : Jvm.MethodName)) ∈ lw_all := lw_g (lw_at lw_m2 39 rfl) rfl
theorem q345 : (Jvm.Cond.selects "TermIdeals" ({ cls := "TermIdeals", name := "merge", desc := "(I)I" } : Jvm.MethodName) ({ cls := "TermIdeals", name := "merge", desc := "(I)I" } : Jvm.MethodName)) ∈ lw_all := lw_g (lw_at lw_m2 40 rfl) rfl
theorem q346 : (Jvm.Cond.code ({ cls := "TermIdeals", name := "merge", desc := "(I)I" } : Jvm.MethodName) prog_1_method_13_code (4 : Nat) (Option.some Jvm.ClassFile.FieldType.int)) ∈ lw_all := lw_g (lw_at lw_m2 41 rfl) rfl
theorem q347 : (Jvm.Cond.methodLink "TermIdeals" (128 : Nat) ({ cls := "TermIdeals$Ideal", name := "takes", desc := "(LTermIdeals$Ideal;)V" } : Jvm.MethodName)) ∈ lw_all := lw_g (lw_at lw_m2 42 rfl) rfl
theorem q348 : (Jvm.Cond.methodLink "TermIdeals" (139 : Nat) ({ cls := "TermIdeals", name := "becomes", desc := "(I)I" } : Jvm.MethodName)) ∈ lw_all := lw_g (lw_at lw_m2 43 rfl) rfl
theorem q349 : (Jvm.Cond.privateMethod ({ cls := "TermIdeals", name := "becomes", desc := "(I)I" } : Jvm.MethodName)) ∈ lw_tbl := lw_at lw_m2 44 rfl
theorem q350 : (Jvm.Cond.instanceMethod ({ cls := "TermIdeals", name := "becomes", desc := "(I)I" } : Jvm.MethodName)) ∈ lw_all := lw_g (lw_at lw_m2 45 rfl) rfl
theorem q351 : (Jvm.Cond.code ({ cls := "TermIdeals", name := "becomes", desc := "(I)I" } : Jvm.MethodName) prog_1_method_12_code (2 : Nat) (Option.some Jvm.ClassFile.FieldType.int)) ∈ lw_all := lw_g (lw_at lw_m2 46 rfl) rfl
theorem q353 : (Jvm.Cond.instanceMethod ({ cls := "TermIdeals", name := "close", desc := "(I)I" } : Jvm.MethodName)) ∈ lw_all := lw_g (lw_at lw_m2 48 rfl) rfl
theorem q354 : (Jvm.Cond.selects "TermIdeals" ({ cls := "TermIdeals", name := "close", desc := "(I)I" } : Jvm.MethodName) ({ cls := "TermIdeals", name := "close", desc := "(I)I" } : Jvm.MethodName)) ∈ lw_all := lw_g (lw_at lw_m2 49 rfl) rfl
theorem q355 : (Jvm.Cond.codeWith ({ cls := "TermIdeals", name := "close", desc := "(I)I" } : Jvm.MethodName) prog_1_method_15_code (3 : Nat) (Option.some Jvm.ClassFile.FieldType.int) [((9 : Nat), (23 : Nat), (26 : Nat), (150 : Nat))]) ∈ lw_all := lw_g (lw_at lw_m2 50 rfl) rfl
theorem q356 : (Jvm.Cond.classLink "TermIdeals" (150 : Nat) "TermIdeals$Empty") ∈ lw_all := lw_g (lw_at lw_m2 51 rfl) rfl
theorem q357 : (Jvm.Cond.methodLink "TermIdeals" (146 : Nat) ({ cls := "TermIdeals$Faces", name := "looks", desc := "(LTermIdeals$Ideal;)LTermIdeals$Faces;" } : Jvm.MethodName)) ∈ lw_all := lw_g (lw_at lw_m2 52 rfl) rfl
theorem q453 : (Jvm.Cond.static ({ cls := "TermIdeals", name := "divisor", desc := "(JJ)J" } : Jvm.MethodName)) ∈ lw_all := lw_g (lw_at lw_m2 148 rfl) rfl
theorem q454 : (Jvm.Cond.code ({ cls := "TermIdeals", name := "divisor", desc := "(JJ)J" } : Jvm.MethodName) prog_1_method_5_code (8 : Nat) (Option.some Jvm.ClassFile.FieldType.long)) ∈ lw_all := lw_g (lw_at lw_m2 149 rfl) rfl
theorem q459 : (Jvm.Cond.methodLink "TermIdeals" (152 : Nat) ({ cls := "TermIdeals", name := "isCorner", desc := "(II)Z" } : Jvm.MethodName)) ∈ lw_all := lw_g (lw_at lw_m2 154 rfl) rfl
theorem q460 : (Jvm.Cond.privateMethod ({ cls := "TermIdeals", name := "isCorner", desc := "(II)Z" } : Jvm.MethodName)) ∈ lw_tbl := lw_at lw_m2 155 rfl
theorem q461 : (Jvm.Cond.instanceMethod ({ cls := "TermIdeals", name := "isCorner", desc := "(II)Z" } : Jvm.MethodName)) ∈ lw_all := lw_g (lw_at lw_m2 156 rfl) rfl
theorem q462 : (Jvm.Cond.code ({ cls := "TermIdeals", name := "isCorner", desc := "(II)Z" } : Jvm.MethodName) prog_1_method_14_code (3 : Nat) (Option.some Jvm.ClassFile.FieldType.boolean)) ∈ lw_all := lw_g (lw_at lw_m2 157 rfl) rfl
theorem q463 : (Jvm.Cond.methodLink "TermIdeals" (143 : Nat) ({ cls := "TermIdeals$Faces", name := "hasInHull", desc := "(II)Z" } : Jvm.MethodName)) ∈ lw_all := lw_g (lw_at lw_m2 158 rfl) rfl
theorem q468 : (Jvm.Cond.instanceMethod ({ cls := "TermIdeals", name := "back", desc := "()I" } : Jvm.MethodName)) ∈ lw_all := lw_g (lw_at lw_m2 163 rfl) rfl
theorem q469 : (Jvm.Cond.selects "TermIdeals" ({ cls := "TermIdeals", name := "back", desc := "()I" } : Jvm.MethodName) ({ cls := "TermIdeals", name := "back", desc := "()I" } : Jvm.MethodName)) ∈ lw_all := lw_g (lw_at lw_m2 164 rfl) rfl
theorem q470 : (Jvm.Cond.code ({ cls := "TermIdeals", name := "back", desc := "()I" } : Jvm.MethodName) prog_1_method_16_code (1 : Nat) (Option.some Jvm.ClassFile.FieldType.int)) ∈ lw_all := lw_g (lw_at lw_m2 165 rfl) rfl
theorem q471 : (Jvm.Cond.methodLink "TermIdeals" (156 : Nat) ({ cls := "TermIdeals$Deeds", name := "back", desc := "([LTermIdeals$Ideal;)V" } : Jvm.MethodName)) ∈ lw_all := lw_g (lw_at lw_m2 166 rfl) rfl
theorem q476 : (Jvm.Cond.instanceMethod ({ cls := "TermIdeals", name := "feed", desc := "(I)I" } : Jvm.MethodName)) ∈ lw_all := lw_g (lw_at lw_m2 171 rfl) rfl
theorem q477 : (Jvm.Cond.selects "TermIdeals" ({ cls := "TermIdeals", name := "feed", desc := "(I)I" } : Jvm.MethodName) ({ cls := "TermIdeals", name := "feed", desc := "(I)I" } : Jvm.MethodName)) ∈ lw_all := lw_g (lw_at lw_m2 172 rfl) rfl
theorem q478 : (Jvm.Cond.code ({ cls := "TermIdeals", name := "feed", desc := "(I)I" } : Jvm.MethodName) prog_1_method_17_code (2 : Nat) (Option.some Jvm.ClassFile.FieldType.int)) ∈ lw_all := lw_g (lw_at lw_m2 173 rfl) rfl
theorem q480 : (Jvm.Cond.instanceMethod ({ cls := "TermIdeals", name := "read", desc := "()I" } : Jvm.MethodName)) ∈ lw_all := lw_g (lw_at lw_m2 175 rfl) rfl
theorem q481 : (Jvm.Cond.selects "TermIdeals" ({ cls := "TermIdeals", name := "read", desc := "()I" } : Jvm.MethodName) ({ cls := "TermIdeals", name := "read", desc := "()I" } : Jvm.MethodName)) ∈ lw_all := lw_g (lw_at lw_m2 176 rfl) rfl
theorem q482 : (Jvm.Cond.codeWith ({ cls := "TermIdeals", name := "read", desc := "()I" } : Jvm.MethodName) prog_1_method_18_code (3 : Nat) (Option.some Jvm.ClassFile.FieldType.int) [((10 : Nat), (29 : Nat), (30 : Nat), (176 : Nat))]) ∈ lw_all := lw_g (lw_at lw_m2 177 rfl) rfl
theorem q483 : (Jvm.Cond.classLink "TermIdeals" (176 : Nat) "TermIdeals$Misread") ∈ lw_all := lw_g (lw_at lw_m2 178 rfl) rfl
theorem q484 : (Jvm.Cond.classLink "TermIdeals" (163 : Nat) "TermIdeals$Reader") ∈ lw_all := lw_g (lw_at lw_m2 179 rfl) rfl
theorem q486 : (Jvm.Cond.methodLink "TermIdeals" (165 : Nat) ({ cls := "TermIdeals$Reader", name := "<init>", desc := "([BI)V" } : Jvm.MethodName)) ∈ lw_all := lw_g (lw_at lw_m2 181 rfl) rfl
theorem q508 : (Jvm.Cond.methodLink "TermIdeals" (168 : Nat) ({ cls := "TermIdeals$Reader", name := "whole", desc := "()LTermIdeals$Reader;" } : Jvm.MethodName)) ∈ lw_all := lw_g (lw_at lw_m2 203 rfl) rfl
theorem q539 : (Jvm.Cond.fieldLinkNest "TermIdeals" (178 : Nat) "TermIdeals$Misread" "place" "I" "TermIdeals") ∈ lw_tbl := lw_at lw_m2 234 rfl
theorem q562 : (Jvm.Cond.methodLink "TermIdeals" (172 : Nat) ({ cls := "TermIdeals$Reader", name := "does", desc := "(LTermIdeals;)I" } : Jvm.MethodName)) ∈ lw_all := lw_g (lw_at lw_m3 17 rfl) rfl
theorem q577 : (Jvm.Cond.instanceMethod ({ cls := "TermIdeals", name := "of", desc := "(III)I" } : Jvm.MethodName)) ∈ lw_all := lw_g (lw_at lw_m3 32 rfl) rfl
theorem q578 : (Jvm.Cond.selects "TermIdeals" ({ cls := "TermIdeals", name := "of", desc := "(III)I" } : Jvm.MethodName) ({ cls := "TermIdeals", name := "of", desc := "(III)I" } : Jvm.MethodName)) ∈ lw_all := lw_g (lw_at lw_m3 33 rfl) rfl
theorem q579 : (Jvm.Cond.code ({ cls := "TermIdeals", name := "of", desc := "(III)I" } : Jvm.MethodName) prog_1_method_19_code (4 : Nat) (Option.some Jvm.ClassFile.FieldType.int)) ∈ lw_all := lw_g (lw_at lw_m3 34 rfl) rfl
theorem q580 : (Jvm.Cond.methodLink "TermIdeals" (181 : Nat) ({ cls := "TermIdeals$Ideal", name := "isLeast", desc := "(I)Z" } : Jvm.MethodName)) ∈ lw_all := lw_g (lw_at lw_m3 35 rfl) rfl
theorem q589 : (Jvm.Cond.instanceMethod ({ cls := "TermIdeals", name := "told", desc := "(II)I" } : Jvm.MethodName)) ∈ lw_all := lw_g (lw_at lw_m3 44 rfl) rfl
theorem q590 : (Jvm.Cond.selects "TermIdeals" ({ cls := "TermIdeals", name := "told", desc := "(II)I" } : Jvm.MethodName) ({ cls := "TermIdeals", name := "told", desc := "(II)I" } : Jvm.MethodName)) ∈ lw_all := lw_g (lw_at lw_m3 45 rfl) rfl
theorem q591 : (Jvm.Cond.codeWith ({ cls := "TermIdeals", name := "told", desc := "(II)I" } : Jvm.MethodName) prog_1_method_20_code (5 : Nat) (Option.some Jvm.ClassFile.FieldType.int) [((16 : Nat), (56 : Nat), (108 : Nat), (150 : Nat)), ((57 : Nat), (61 : Nat), (108 : Nat), (150 : Nat)), ((62 : Nat), (73 : Nat), (108 : Nat), (150 : Nat)), ((74 : Nat), (93 : Nat), (108 : Nat), (150 : Nat)), ((94 : Nat), (105 : Nat), (108 : Nat), (150 : Nat)), ((106 : Nat), (107 : Nat), (108 : Nat), (150 : Nat))]) ∈ lw_all := lw_g (lw_at lw_m3 46 rfl) rfl
theorem q592 : (Jvm.Cond.methodLink "TermIdeals" (184 : Nat) ({ cls := "TermIdeals$Ideal", name := "least", desc := "()I" } : Jvm.MethodName)) ∈ lw_all := lw_g (lw_at lw_m3 47 rfl) rfl
theorem q597 : (Jvm.Cond.methodLink "TermIdeals" (189 : Nat) ({ cls := "TermIdeals$Faces", name := "isClosed", desc := "()Z" } : Jvm.MethodName)) ∈ lw_all := lw_g (lw_at lw_m3 52 rfl) rfl
theorem q606 : (Jvm.Cond.methodLink "TermIdeals" (193 : Nat) ({ cls := "TermIdeals$Faces", name := "lists", desc := "()I" } : Jvm.MethodName)) ∈ lw_all := lw_g (lw_at lw_m3 61 rfl) rfl
theorem q623 : (Jvm.Cond.instanceMethod ({ cls := "TermIdeals", name := "in", desc := "(IIII)I" } : Jvm.MethodName)) ∈ lw_all := lw_g (lw_at lw_m3 78 rfl) rfl
theorem q624 : (Jvm.Cond.selects "TermIdeals" ({ cls := "TermIdeals", name := "in", desc := "(IIII)I" } : Jvm.MethodName) ({ cls := "TermIdeals", name := "in", desc := "(IIII)I" } : Jvm.MethodName)) ∈ lw_all := lw_g (lw_at lw_m3 79 rfl) rfl
theorem q625 : (Jvm.Cond.codeWith ({ cls := "TermIdeals", name := "in", desc := "(IIII)I" } : Jvm.MethodName) prog_1_method_21_code (6 : Nat) (Option.some Jvm.ClassFile.FieldType.int) [((55 : Nat), (81 : Nat), (82 : Nat), (150 : Nat))]) ∈ lw_all := lw_g (lw_at lw_m3 80 rfl) rfl
theorem q626 : (Jvm.Cond.methodLink "TermIdeals" (196 : Nat) ({ cls := "TermIdeals$Ideal", name := "holds", desc := "(II)Z" } : Jvm.MethodName)) ∈ lw_all := lw_g (lw_at lw_m3 81 rfl) rfl
theorem q628 : (Jvm.Cond.instanceMethod ({ cls := "TermIdeals", name := "face", desc := "(III)I" } : Jvm.MethodName)) ∈ lw_all := lw_g (lw_at lw_m3 83 rfl) rfl
theorem q629 : (Jvm.Cond.selects "TermIdeals" ({ cls := "TermIdeals", name := "face", desc := "(III)I" } : Jvm.MethodName) ({ cls := "TermIdeals", name := "face", desc := "(III)I" } : Jvm.MethodName)) ∈ lw_all := lw_g (lw_at lw_m3 84 rfl) rfl
theorem q630 : (Jvm.Cond.codeWith ({ cls := "TermIdeals", name := "face", desc := "(III)I" } : Jvm.MethodName) prog_1_method_22_code (5 : Nat) (Option.some Jvm.ClassFile.FieldType.int) [((9 : Nat), (23 : Nat), (26 : Nat), (150 : Nat))]) ∈ lw_all := lw_g (lw_at lw_m3 85 rfl) rfl
theorem q632 : (Jvm.Cond.instanceMethod ({ cls := "TermIdeals", name := "held", desc := "(IIIII)I" } : Jvm.MethodName)) ∈ lw_all := lw_g (lw_at lw_m3 87 rfl) rfl
theorem q633 : (Jvm.Cond.selects "TermIdeals" ({ cls := "TermIdeals", name := "held", desc := "(IIIII)I" } : Jvm.MethodName) ({ cls := "TermIdeals", name := "held", desc := "(IIIII)I" } : Jvm.MethodName)) ∈ lw_all := lw_g (lw_at lw_m3 88 rfl) rfl
theorem q634 : (Jvm.Cond.codeWith ({ cls := "TermIdeals", name := "held", desc := "(IIIII)I" } : Jvm.MethodName) prog_1_method_24_code (7 : Nat) (Option.some Jvm.ClassFile.FieldType.int) [((30 : Nat), (42 : Nat), (43 : Nat), (219 : Nat)), ((30 : Nat), (42 : Nat), (43 : Nat), (150 : Nat))]) ∈ lw_all := lw_g (lw_at lw_m3 89 rfl) rfl
theorem q635 : (Jvm.Cond.classLink "TermIdeals" (219 : Nat) "TermIdeals$Barred") ∈ lw_all := lw_g (lw_at lw_m3 90 rfl) rfl
theorem q636 : (Jvm.Cond.methodLink "TermIdeals" (212 : Nat) ({ cls := "TermIdeals", name := "isFraction", desc := "(II)Z" } : Jvm.MethodName)) ∈ lw_all := lw_g (lw_at lw_m3 91 rfl) rfl
theorem q637 : (Jvm.Cond.static ({ cls := "TermIdeals", name := "isFraction", desc := "(II)Z" } : Jvm.MethodName)) ∈ lw_all := lw_g (lw_at lw_m3 92 rfl) rfl
theorem q638 : (Jvm.Cond.code ({ cls := "TermIdeals", name := "isFraction", desc := "(II)Z" } : Jvm.MethodName) prog_1_method_4_code (2 : Nat) (Option.some Jvm.ClassFile.FieldType.boolean)) ∈ lw_all := lw_g (lw_at lw_m3 93 rfl) rfl
theorem q639 : (Jvm.Cond.methodLink "TermIdeals" (215 : Nat) ({ cls := "TermIdeals", name := "asks", desc := "(IIIII)V" } : Jvm.MethodName)) ∈ lw_all := lw_g (lw_at lw_m3 94 rfl) rfl
theorem q640 : (Jvm.Cond.privateMethod ({ cls := "TermIdeals", name := "asks", desc := "(IIIII)V" } : Jvm.MethodName)) ∈ lw_tbl := lw_at lw_m3 95 rfl
theorem q641 : (Jvm.Cond.instanceMethod ({ cls := "TermIdeals", name := "asks", desc := "(IIIII)V" } : Jvm.MethodName)) ∈ lw_all := lw_g (lw_at lw_m3 96 rfl) rfl
theorem q642 : (Jvm.Cond.code ({ cls := "TermIdeals", name := "asks", desc := "(IIIII)V" } : Jvm.MethodName) prog_1_method_23_code (6 : Nat) (Option.none : Option Jvm.ClassFile.FieldType)) ∈ lw_all := lw_g (lw_at lw_m3 97 rfl) rfl
theorem q643 : (Jvm.Cond.methodLink "TermIdeals" (208 : Nat) ({ cls := "TermIdeals$Faces", name := "bars", desc := "(IIII)V" } : Jvm.MethodName)) ∈ lw_all := lw_g (lw_at lw_m3 98 rfl) rfl
theorem q715 : (Jvm.Cond.instanceMethod ({ cls := "TermIdeals", name := "reason", desc := "(IIIIII)I" } : Jvm.MethodName)) ∈ lw_all := lw_g (lw_at lw_m3 170 rfl) rfl
theorem q716 : (Jvm.Cond.selects "TermIdeals" ({ cls := "TermIdeals", name := "reason", desc := "(IIIIII)I" } : Jvm.MethodName) ({ cls := "TermIdeals", name := "reason", desc := "(IIIIII)I" } : Jvm.MethodName)) ∈ lw_all := lw_g (lw_at lw_m3 171 rfl) rfl
theorem q717 : (Jvm.Cond.codeWith ({ cls := "TermIdeals", name := "reason", desc := "(IIIIII)I" } : Jvm.MethodName) prog_1_method_26_code (8 : Nat) (Option.some Jvm.ClassFile.FieldType.int) [((40 : Nat), (53 : Nat), (54 : Nat), (219 : Nat)), ((40 : Nat), (53 : Nat), (64 : Nat), (150 : Nat))]) ∈ lw_all := lw_g (lw_at lw_m3 172 rfl) rfl
theorem q718 : (Jvm.Cond.methodLink "TermIdeals" (232 : Nat) ({ cls := "TermIdeals", name := "behind", desc := "(LTermIdeals$Reason;I)I" } : Jvm.MethodName)) ∈ lw_all := lw_g (lw_at lw_m3 173 rfl) rfl
theorem q719 : (Jvm.Cond.static ({ cls := "TermIdeals", name := "behind", desc := "(LTermIdeals$Reason;I)I" } : Jvm.MethodName)) ∈ lw_all := lw_g (lw_at lw_m3 174 rfl) rfl
theorem q720 : (Jvm.Cond.code ({ cls := "TermIdeals", name := "behind", desc := "(LTermIdeals$Reason;I)I" } : Jvm.MethodName) prog_1_method_25_code (4 : Nat) (Option.some Jvm.ClassFile.FieldType.int)) ∈ lw_all := lw_g (lw_at lw_m3 175 rfl) rfl
theorem q721 : (Jvm.Cond.methodLink "TermIdeals" (221 : Nat) ({ cls := "java/lang/Throwable", name := "getCause", desc := "()Ljava/lang/Throwable;" } : Jvm.MethodName)) ∈ lw_all := lw_g (lw_at lw_m3 176 rfl) rfl
theorem q736 : (Jvm.Cond.classLink "TermIdeals" (227 : Nat) "TermIdeals$Reason") ∈ lw_all := lw_g (lw_at lw_m3 191 rfl) rfl
theorem q737 : (Jvm.Cond.methodLink "TermIdeals" (229 : Nat) ({ cls := "TermIdeals$Reason", name := "code", desc := "()I" } : Jvm.MethodName)) ∈ lw_all := lw_g (lw_at lw_m3 192 rfl) rfl
theorem q745 : (Jvm.Cond.instanceMethod ({ cls := "TermIdeals", name := "jump", desc := "(IIII)J" } : Jvm.MethodName)) ∈ lw_all := lw_g (lw_at lw_m3 200 rfl) rfl
theorem q746 : (Jvm.Cond.selects "TermIdeals" ({ cls := "TermIdeals", name := "jump", desc := "(IIII)J" } : Jvm.MethodName) ({ cls := "TermIdeals", name := "jump", desc := "(IIII)J" } : Jvm.MethodName)) ∈ lw_all := lw_g (lw_at lw_m3 201 rfl) rfl
theorem q747 : (Jvm.Cond.codeWith ({ cls := "TermIdeals", name := "jump", desc := "(IIII)J" } : Jvm.MethodName) prog_1_method_27_code (6 : Nat) (Option.some Jvm.ClassFile.FieldType.long) [((29 : Nat), (77 : Nat), (78 : Nat), (150 : Nat))]) ∈ lw_all := lw_g (lw_at lw_m3 202 rfl) rfl
theorem q748 : (Jvm.Cond.constantLong "TermIdeals" (236 : Nat) (-9223372036854775808 : Int64)) ∈ lw_all := lw_g (lw_at lw_m3 203 rfl) rfl
theorem q749 : (Jvm.Cond.methodLink "TermIdeals" (238 : Nat) ({ cls := "TermIdeals$Faces", name := "jumps", desc := "(II)Z" } : Jvm.MethodName)) ∈ lw_all := lw_g (lw_at lw_m3 204 rfl) rfl
theorem q750 : (Jvm.Cond.methodLink "TermIdeals" (247 : Nat) ({ cls := "TermIdeals", name := "lowest", desc := "(JJI)J" } : Jvm.MethodName)) ∈ lw_all := lw_g (lw_at lw_m3 205 rfl) rfl
theorem q751 : (Jvm.Cond.static ({ cls := "TermIdeals", name := "lowest", desc := "(JJI)J" } : Jvm.MethodName)) ∈ lw_all := lw_g (lw_at lw_m3 206 rfl) rfl
theorem q752 : (Jvm.Cond.code ({ cls := "TermIdeals", name := "lowest", desc := "(JJI)J" } : Jvm.MethodName) prog_1_method_6_code (5 : Nat) (Option.some Jvm.ClassFile.FieldType.long)) ∈ lw_all := lw_g (lw_at lw_m3 207 rfl) rfl
theorem q753 : (Jvm.Cond.methodLink "TermIdeals" (9 : Nat) ({ cls := "TermIdeals", name := "divisor", desc := "(JJ)J" } : Jvm.MethodName)) ∈ lw_all := lw_g (lw_at lw_m3 208 rfl) rfl
theorem q755 : (Jvm.Cond.instanceMethod ({ cls := "TermIdeals", name := "jumps", desc := "(III)J" } : Jvm.MethodName)) ∈ lw_all := lw_g (lw_at lw_m3 210 rfl) rfl
theorem q756 : (Jvm.Cond.selects "TermIdeals" ({ cls := "TermIdeals", name := "jumps", desc := "(III)J" } : Jvm.MethodName) ({ cls := "TermIdeals", name := "jumps", desc := "(III)J" } : Jvm.MethodName)) ∈ lw_all := lw_g (lw_at lw_m3 211 rfl) rfl
theorem q757 : (Jvm.Cond.codeWith ({ cls := "TermIdeals", name := "jumps", desc := "(III)J" } : Jvm.MethodName) prog_1_method_28_code (5 : Nat) (Option.some Jvm.ClassFile.FieldType.long) [((20 : Nat), (80 : Nat), (81 : Nat), (150 : Nat))]) ∈ lw_all := lw_g (lw_at lw_m3 212 rfl) rfl
theorem q759 : (Jvm.Cond.instanceMethod ({ cls := "TermIdeals", name := "lacks", desc := "(III)I" } : Jvm.MethodName)) ∈ lw_all := lw_g (lw_at lw_m3 214 rfl) rfl
theorem q760 : (Jvm.Cond.selects "TermIdeals" ({ cls := "TermIdeals", name := "lacks", desc := "(III)I" } : Jvm.MethodName) ({ cls := "TermIdeals", name := "lacks", desc := "(III)I" } : Jvm.MethodName)) ∈ lw_all := lw_g (lw_at lw_m3 215 rfl) rfl
theorem q761 : (Jvm.Cond.codeWith ({ cls := "TermIdeals", name := "lacks", desc := "(III)I" } : Jvm.MethodName) prog_1_method_29_code (5 : Nat) (Option.some Jvm.ClassFile.FieldType.int) [((20 : Nat), (38 : Nat), (39 : Nat), (150 : Nat))]) ∈ lw_all := lw_g (lw_at lw_m3 216 rfl) rfl
theorem q762 : (Jvm.Cond.methodLink "TermIdeals" (257 : Nat) ({ cls := "TermIdeals$Faces", name := "lacks", desc := "(II)I" } : Jvm.MethodName)) ∈ lw_all := lw_g (lw_at lw_m3 217 rfl) rfl
theorem q771 : (Jvm.Cond.instanceMethod ({ cls := "TermIdeals", name := "height", desc := "(III)I" } : Jvm.MethodName)) ∈ lw_all := lw_g (lw_at lw_m3 226 rfl) rfl
theorem q772 : (Jvm.Cond.selects "TermIdeals" ({ cls := "TermIdeals", name := "height", desc := "(III)I" } : Jvm.MethodName) ({ cls := "TermIdeals", name := "height", desc := "(III)I" } : Jvm.MethodName)) ∈ lw_all := lw_g (lw_at lw_m3 227 rfl) rfl
theorem q773 : (Jvm.Cond.code ({ cls := "TermIdeals", name := "height", desc := "(III)I" } : Jvm.MethodName) prog_1_method_31_code (4 : Nat) (Option.some Jvm.ClassFile.FieldType.int)) ∈ lw_all := lw_g (lw_at lw_m3 228 rfl) rfl
theorem q774 : (Jvm.Cond.methodLink "TermIdeals" (260 : Nat) ({ cls := "TermIdeals$Stairs", name := "of", desc := "(LTermIdeals$Ideal;)LTermIdeals$Stairs;" } : Jvm.MethodName)) ∈ lw_all := lw_g (lw_at lw_m3 229 rfl) rfl
theorem q783 : (Jvm.Cond.methodLink "TermIdeals" (274 : Nat) ({ cls := "TermIdeals$Stairs", name := "sum", desc := "(LTermIdeals$Stairs;LTermIdeals$Stairs;)V" } : Jvm.MethodName)) ∈ lw_all := lw_g (lw_at lw_m3 238 rfl) rfl
theorem q788 : (Jvm.Cond.methodLink "TermIdeals" (267 : Nat) ({ cls := "TermIdeals$Stairs", name := "product", desc := "(LTermIdeals$Stairs;LTermIdeals$Stairs;)V" } : Jvm.MethodName)) ∈ lw_all := lw_g (lw_at lw_m4 3 rfl) rfl
theorem q792 : (Jvm.Cond.methodLink "TermIdeals" (277 : Nat) ({ cls := "TermIdeals", name := "powers", desc := "(LTermIdeals$Ideal;I)V" } : Jvm.MethodName)) ∈ lw_all := lw_g (lw_at lw_m4 7 rfl) rfl
theorem q793 : (Jvm.Cond.privateMethod ({ cls := "TermIdeals", name := "powers", desc := "(LTermIdeals$Ideal;I)V" } : Jvm.MethodName)) ∈ lw_tbl := lw_at lw_m4 8 rfl
theorem q794 : (Jvm.Cond.instanceMethod ({ cls := "TermIdeals", name := "powers", desc := "(LTermIdeals$Ideal;I)V" } : Jvm.MethodName)) ∈ lw_all := lw_g (lw_at lw_m4 9 rfl) rfl
theorem q795 : (Jvm.Cond.code ({ cls := "TermIdeals", name := "powers", desc := "(LTermIdeals$Ideal;I)V" } : Jvm.MethodName) prog_1_method_30_code (4 : Nat) (Option.none : Option Jvm.ClassFile.FieldType)) ∈ lw_all := lw_g (lw_at lw_m4 10 rfl) rfl
theorem q796 : (Jvm.Cond.methodLink "TermIdeals" (264 : Nat) ({ cls := "TermIdeals$Stairs", name := "all", desc := "()V" } : Jvm.MethodName)) ∈ lw_all := lw_g (lw_at lw_m4 11 rfl) rfl
theorem q800 : (Jvm.Cond.methodLink "TermIdeals" (271 : Nat) ({ cls := "TermIdeals$Stairs", name := "takes", desc := "(LTermIdeals$Stairs;)V" } : Jvm.MethodName)) ∈ lw_all := lw_g (lw_at lw_m4 15 rfl) rfl
theorem q806 : (Jvm.Cond.instanceMethod ({ cls := "TermIdeals", name := "reduces", desc := "(I)I" } : Jvm.MethodName)) ∈ lw_all := lw_g (lw_at lw_m4 21 rfl) rfl
theorem q807 : (Jvm.Cond.selects "TermIdeals" ({ cls := "TermIdeals", name := "reduces", desc := "(I)I" } : Jvm.MethodName) ({ cls := "TermIdeals", name := "reduces", desc := "(I)I" } : Jvm.MethodName)) ∈ lw_all := lw_g (lw_at lw_m4 22 rfl) rfl
theorem q808 : (Jvm.Cond.code ({ cls := "TermIdeals", name := "reduces", desc := "(I)I" } : Jvm.MethodName) prog_1_method_35_code (2 : Nat) (Option.some Jvm.ClassFile.FieldType.int)) ∈ lw_all := lw_g (lw_at lw_m4 23 rfl) rfl
theorem q809 : (Jvm.Cond.methodLink "TermIdeals" (296 : Nat) ({ cls := "TermIdeals", name := "isReduction", desc := "()Z" } : Jvm.MethodName)) ∈ lw_all := lw_g (lw_at lw_m4 24 rfl) rfl
theorem q810 : (Jvm.Cond.privateMethod ({ cls := "TermIdeals", name := "isReduction", desc := "()Z" } : Jvm.MethodName)) ∈ lw_tbl := lw_at lw_m4 25 rfl
theorem q811 : (Jvm.Cond.instanceMethod ({ cls := "TermIdeals", name := "isReduction", desc := "()Z" } : Jvm.MethodName)) ∈ lw_all := lw_g (lw_at lw_m4 26 rfl) rfl
theorem q812 : (Jvm.Cond.codeWith ({ cls := "TermIdeals", name := "isReduction", desc := "()Z" } : Jvm.MethodName) prog_1_method_32_code (3 : Nat) (Option.some Jvm.ClassFile.FieldType.boolean) [((80 : Nat), (94 : Nat), (97 : Nat), (150 : Nat))]) ∈ lw_all := lw_g (lw_at lw_m4 27 rfl) rfl
theorem q813 : (Jvm.Cond.methodLink "TermIdeals" (299 : Nat) ({ cls := "TermIdeals", name := "met", desc := "()I" } : Jvm.MethodName)) ∈ lw_all := lw_g (lw_at lw_m4 28 rfl) rfl
theorem q814 : (Jvm.Cond.privateMethod ({ cls := "TermIdeals", name := "met", desc := "()I" } : Jvm.MethodName)) ∈ lw_tbl := lw_at lw_m4 29 rfl
theorem q815 : (Jvm.Cond.instanceMethod ({ cls := "TermIdeals", name := "met", desc := "()I" } : Jvm.MethodName)) ∈ lw_all := lw_g (lw_at lw_m4 30 rfl) rfl
theorem q816 : (Jvm.Cond.code ({ cls := "TermIdeals", name := "met", desc := "()I" } : Jvm.MethodName) prog_1_method_34_code (3 : Nat) (Option.some Jvm.ClassFile.FieldType.int)) ∈ lw_all := lw_g (lw_at lw_m4 31 rfl) rfl
theorem q817 : (Jvm.Cond.methodLink "TermIdeals" (289 : Nat) ({ cls := "TermIdeals", name := "bounds", desc := "(LTermIdeals$Stairs;)V" } : Jvm.MethodName)) ∈ lw_all := lw_g (lw_at lw_m4 32 rfl) rfl
theorem q818 : (Jvm.Cond.static ({ cls := "TermIdeals", name := "bounds", desc := "(LTermIdeals$Stairs;)V" } : Jvm.MethodName)) ∈ lw_all := lw_g (lw_at lw_m4 33 rfl) rfl
theorem q819 : (Jvm.Cond.code ({ cls := "TermIdeals", name := "bounds", desc := "(LTermIdeals$Stairs;)V" } : Jvm.MethodName) prog_1_method_33_code (2 : Nat) (Option.none : Option Jvm.ClassFile.FieldType)) ∈ lw_all := lw_g (lw_at lw_m4 34 rfl) rfl
theorem q820 : (Jvm.Cond.methodLink "TermIdeals" (284 : Nat) ({ cls := "java/lang/Math", name := "min", desc := "(II)I" } : Jvm.MethodName)) ∈ lw_all := lw_g (lw_at lw_m4 35 rfl) rfl
theorem q821 : (Jvm.Cond.methodLink "TermIdeals" (292 : Nat) ({ cls := "TermIdeals$Stairs", name := "isAs", desc := "(LTermIdeals$Stairs;)Z" } : Jvm.MethodName)) ∈ lw_all := lw_g (lw_at lw_m4 36 rfl) rfl
theorem q826 : (Jvm.Cond.instanceMethod ({ cls := "TermIdeals", name := "see", desc := "(III)I" } : Jvm.MethodName)) ∈ lw_all := lw_g (lw_at lw_m4 41 rfl) rfl
theorem q827 : (Jvm.Cond.selects "TermIdeals" ({ cls := "TermIdeals", name := "see", desc := "(III)I" } : Jvm.MethodName) ({ cls := "TermIdeals", name := "see", desc := "(III)I" } : Jvm.MethodName)) ∈ lw_all := lw_g (lw_at lw_m4 42 rfl) rfl
theorem q828 : (Jvm.Cond.code ({ cls := "TermIdeals", name := "see", desc := "(III)I" } : Jvm.MethodName) prog_1_method_36_code (4 : Nat) (Option.some Jvm.ClassFile.FieldType.int)) ∈ lw_all := lw_g (lw_at lw_m4 43 rfl) rfl
theorem q829 : (Jvm.Cond.methodLink "TermIdeals" (302 : Nat) ({ cls := "TermIdeals$Rows", name := "none", desc := "()I" } : Jvm.MethodName)) ∈ lw_all := lw_g (lw_at lw_m4 44 rfl) rfl
theorem q833 : (Jvm.Cond.methodLink "TermIdeals" (305 : Nat) ({ cls := "TermIdeals$Rows", name := "adds", desc := "(III)I" } : Jvm.MethodName)) ∈ lw_all := lw_g (lw_at lw_m4 48 rfl) rfl
theorem q838 : (Jvm.Cond.instanceMethod ({ cls := "TermIdeals", name := "fits", desc := "(IIII)I" } : Jvm.MethodName)) ∈ lw_all := lw_g (lw_at lw_m4 53 rfl) rfl
theorem q839 : (Jvm.Cond.selects "TermIdeals" ({ cls := "TermIdeals", name := "fits", desc := "(IIII)I" } : Jvm.MethodName) ({ cls := "TermIdeals", name := "fits", desc := "(IIII)I" } : Jvm.MethodName)) ∈ lw_all := lw_g (lw_at lw_m4 54 rfl) rfl
theorem q840 : (Jvm.Cond.code ({ cls := "TermIdeals", name := "fits", desc := "(IIII)I" } : Jvm.MethodName) prog_1_method_38_code (11 : Nat) (Option.some Jvm.ClassFile.FieldType.int)) ∈ lw_all := lw_g (lw_at lw_m4 55 rfl) rfl
theorem q841 : (Jvm.Cond.methodLink "TermIdeals" (319 : Nat) ({ cls := "TermIdeals", name := "areSo", desc := "(LTermIdeals$Ideal;)Z" } : Jvm.MethodName)) ∈ lw_all := lw_g (lw_at lw_m4 56 rfl) rfl
theorem q842 : (Jvm.Cond.privateMethod ({ cls := "TermIdeals", name := "areSo", desc := "(LTermIdeals$Ideal;)Z" } : Jvm.MethodName)) ∈ lw_tbl := lw_at lw_m4 57 rfl
theorem q843 : (Jvm.Cond.instanceMethod ({ cls := "TermIdeals", name := "areSo", desc := "(LTermIdeals$Ideal;)Z" } : Jvm.MethodName)) ∈ lw_all := lw_g (lw_at lw_m4 58 rfl) rfl
theorem q844 : (Jvm.Cond.codeWith ({ cls := "TermIdeals", name := "areSo", desc := "(LTermIdeals$Ideal;)Z" } : Jvm.MethodName) prog_1_method_37_code (5 : Nat) (Option.some Jvm.ClassFile.FieldType.boolean) [((12 : Nat), (98 : Nat), (107 : Nat), (150 : Nat)), ((99 : Nat), (106 : Nat), (107 : Nat), (150 : Nat))]) ∈ lw_all := lw_g (lw_at lw_m4 59 rfl) rfl
theorem q846 : (Jvm.Cond.instanceMethod ({ cls := "TermIdeals", name := "odds", desc := "(IIII)J" } : Jvm.MethodName)) ∈ lw_all := lw_g (lw_at lw_m4 61 rfl) rfl
theorem q847 : (Jvm.Cond.selects "TermIdeals" ({ cls := "TermIdeals", name := "odds", desc := "(IIII)J" } : Jvm.MethodName) ({ cls := "TermIdeals", name := "odds", desc := "(IIII)J" } : Jvm.MethodName)) ∈ lw_all := lw_g (lw_at lw_m4 62 rfl) rfl
theorem q848 : (Jvm.Cond.codeWith ({ cls := "TermIdeals", name := "odds", desc := "(IIII)J" } : Jvm.MethodName) prog_1_method_39_code (6 : Nat) (Option.some Jvm.ClassFile.FieldType.long) [((29 : Nat), (59 : Nat), (60 : Nat), (150 : Nat))]) ∈ lw_all := lw_g (lw_at lw_m4 63 rfl) rfl
theorem q849 : (Jvm.Cond.constantLong "TermIdeals" (323 : Nat) (100 : Int64)) ∈ lw_all := lw_g (lw_at lw_m4 64 rfl) rfl
theorem q851 : (Jvm.Cond.instanceMethod ({ cls := "TermIdeals", name := "mean", desc := "(II)J" } : Jvm.MethodName)) ∈ lw_all := lw_g (lw_at lw_m4 66 rfl) rfl
theorem q852 : (Jvm.Cond.selects "TermIdeals" ({ cls := "TermIdeals", name := "mean", desc := "(II)J" } : Jvm.MethodName) ({ cls := "TermIdeals", name := "mean", desc := "(II)J" } : Jvm.MethodName)) ∈ lw_all := lw_g (lw_at lw_m4 67 rfl) rfl
theorem q853 : (Jvm.Cond.code ({ cls := "TermIdeals", name := "mean", desc := "(II)J" } : Jvm.MethodName) prog_1_method_40_code (3 : Nat) (Option.some Jvm.ClassFile.FieldType.long)) ∈ lw_all := lw_g (lw_at lw_m4 68 rfl) rfl
theorem q854 : (Jvm.Cond.methodLink "TermIdeals" (325 : Nat) ({ cls := "TermIdeals$Ideal", name := "powers", desc := "()I" } : Jvm.MethodName)) ∈ lw_all := lw_g (lw_at lw_m4 69 rfl) rfl
theorem q859 : (Jvm.Cond.instanceMethod ({ cls := "TermIdeals", name := "event", desc := "(II)I" } : Jvm.MethodName)) ∈ lw_all := lw_g (lw_at lw_m4 74 rfl) rfl
theorem q860 : (Jvm.Cond.selects "TermIdeals" ({ cls := "TermIdeals", name := "event", desc := "(II)I" } : Jvm.MethodName) ({ cls := "TermIdeals", name := "event", desc := "(II)I" } : Jvm.MethodName)) ∈ lw_all := lw_g (lw_at lw_m4 75 rfl) rfl
theorem q861 : (Jvm.Cond.code ({ cls := "TermIdeals", name := "event", desc := "(II)I" } : Jvm.MethodName) prog_1_method_41_code (3 : Nat) (Option.some Jvm.ClassFile.FieldType.int)) ∈ lw_all := lw_g (lw_at lw_m4 76 rfl) rfl
theorem q863 : (Jvm.Cond.instanceMethod ({ cls := "TermIdeals", name := "after", desc := "(I)I" } : Jvm.MethodName)) ∈ lw_all := lw_g (lw_at lw_m4 78 rfl) rfl
theorem q864 : (Jvm.Cond.selects "TermIdeals" ({ cls := "TermIdeals", name := "after", desc := "(I)I" } : Jvm.MethodName) ({ cls := "TermIdeals", name := "after", desc := "(I)I" } : Jvm.MethodName)) ∈ lw_all := lw_g (lw_at lw_m4 79 rfl) rfl
theorem q865 : (Jvm.Cond.codeWith ({ cls := "TermIdeals", name := "after", desc := "(I)I" } : Jvm.MethodName) prog_1_method_43_code (3 : Nat) (Option.some Jvm.ClassFile.FieldType.int) [((65 : Nat), (123 : Nat), (124 : Nat), (150 : Nat))]) ∈ lw_all := lw_g (lw_at lw_m4 80 rfl) rfl
theorem q866 : (Jvm.Cond.methodLink "TermIdeals" (330 : Nat) ({ cls := "TermIdeals", name := "happens", desc := "(II)V" } : Jvm.MethodName)) ∈ lw_all := lw_g (lw_at lw_m4 81 rfl) rfl
theorem q867 : (Jvm.Cond.privateMethod ({ cls := "TermIdeals", name := "happens", desc := "(II)V" } : Jvm.MethodName)) ∈ lw_tbl := lw_at lw_m4 82 rfl
theorem q868 : (Jvm.Cond.instanceMethod ({ cls := "TermIdeals", name := "happens", desc := "(II)V" } : Jvm.MethodName)) ∈ lw_all := lw_g (lw_at lw_m4 83 rfl) rfl
theorem q869 : (Jvm.Cond.code ({ cls := "TermIdeals", name := "happens", desc := "(II)V" } : Jvm.MethodName) prog_1_method_42_code (3 : Nat) (Option.none : Option Jvm.ClassFile.FieldType)) ∈ lw_all := lw_g (lw_at lw_m4 84 rfl) rfl
theorem q870 : (Jvm.Cond.methodLink "TermIdeals" (327 : Nat) ({ cls := "TermIdeals$Ideal", name := "lessens", desc := "(I)V" } : Jvm.MethodName)) ∈ lw_all := lw_g (lw_at lw_m4 85 rfl) rfl
theorem q880 : (Jvm.Cond.instanceMethod ({ cls := "TermIdeals", name := "book", desc := "(II)I" } : Jvm.MethodName)) ∈ lw_all := lw_g (lw_at lw_m4 95 rfl) rfl
theorem q881 : (Jvm.Cond.selects "TermIdeals" ({ cls := "TermIdeals", name := "book", desc := "(II)I" } : Jvm.MethodName) ({ cls := "TermIdeals", name := "book", desc := "(II)I" } : Jvm.MethodName)) ∈ lw_all := lw_g (lw_at lw_m4 96 rfl) rfl
theorem q882 : (Jvm.Cond.code ({ cls := "TermIdeals", name := "book", desc := "(II)I" } : Jvm.MethodName) prog_1_method_44_code (3 : Nat) (Option.some Jvm.ClassFile.FieldType.int)) ∈ lw_all := lw_g (lw_at lw_m4 97 rfl) rfl
theorem q884 : (Jvm.Cond.instanceMethod ({ cls := "TermIdeals", name := "looked", desc := "()I" } : Jvm.MethodName)) ∈ lw_all := lw_g (lw_at lw_m4 99 rfl) rfl
theorem q885 : (Jvm.Cond.selects "TermIdeals" ({ cls := "TermIdeals", name := "looked", desc := "()I" } : Jvm.MethodName) ({ cls := "TermIdeals", name := "looked", desc := "()I" } : Jvm.MethodName)) ∈ lw_all := lw_g (lw_at lw_m4 100 rfl) rfl
theorem q886 : (Jvm.Cond.code ({ cls := "TermIdeals", name := "looked", desc := "()I" } : Jvm.MethodName) prog_1_method_45_code (3 : Nat) (Option.some Jvm.ClassFile.FieldType.int)) ∈ lw_all := lw_g (lw_at lw_m4 101 rfl) rfl
theorem q888 : (Jvm.Cond.instanceMethod ({ cls := "TermIdeals", name := "judge", desc := "(III)I" } : Jvm.MethodName)) ∈ lw_all := lw_g (lw_at lw_m4 103 rfl) rfl
theorem q889 : (Jvm.Cond.selects "TermIdeals" ({ cls := "TermIdeals", name := "judge", desc := "(III)I" } : Jvm.MethodName) ({ cls := "TermIdeals", name := "judge", desc := "(III)I" } : Jvm.MethodName)) ∈ lw_all := lw_g (lw_at lw_m4 104 rfl) rfl
theorem q890 : (Jvm.Cond.codeWith ({ cls := "TermIdeals", name := "judge", desc := "(III)I" } : Jvm.MethodName) prog_1_method_47_code (5 : Nat) (Option.some Jvm.ClassFile.FieldType.int) [((16 : Nat), (39 : Nat), (40 : Nat), (352 : Nat))]) ∈ lw_all := lw_g (lw_at lw_m4 105 rfl) rfl
theorem q891 : (Jvm.Cond.classLink "TermIdeals" (352 : Nat) "java/lang/ClassCastException") ∈ lw_all := lw_g (lw_at lw_m4 106 rfl) rfl
theorem q920 : (Jvm.Cond.methodLink "TermIdeals" (340 : Nat) ({ cls := "TermIdeals", name := "isTape", desc := "(I)Z" } : Jvm.MethodName)) ∈ lw_all := lw_g (lw_at lw_m4 135 rfl) rfl
theorem q921 : (Jvm.Cond.static ({ cls := "TermIdeals", name := "isTape", desc := "(I)Z" } : Jvm.MethodName)) ∈ lw_all := lw_g (lw_at lw_m4 136 rfl) rfl
theorem q922 : (Jvm.Cond.code ({ cls := "TermIdeals", name := "isTape", desc := "(I)Z" } : Jvm.MethodName) prog_1_method_53_code (1 : Nat) (Option.some Jvm.ClassFile.FieldType.boolean)) ∈ lw_all := lw_g (lw_at lw_m4 137 rfl) rfl
theorem q923 : (Jvm.Cond.classLink "TermIdeals" (347 : Nat) "[B") ∈ lw_all := lw_g (lw_at lw_m4 138 rfl) rfl
theorem q924 : (Jvm.Cond.methodLink "TermIdeals" (348 : Nat) ({ cls := "TermIdeals", name := "firstOther", desc := "(LTermIdeals$Ideal;[BI)I" } : Jvm.MethodName)) ∈ lw_all := lw_g (lw_at lw_m4 139 rfl) rfl
theorem q925 : (Jvm.Cond.privateMethod ({ cls := "TermIdeals", name := "firstOther", desc := "(LTermIdeals$Ideal;[BI)I" } : Jvm.MethodName)) ∈ lw_tbl := lw_at lw_m4 140 rfl
theorem q926 : (Jvm.Cond.instanceMethod ({ cls := "TermIdeals", name := "firstOther", desc := "(LTermIdeals$Ideal;[BI)I" } : Jvm.MethodName)) ∈ lw_all := lw_g (lw_at lw_m4 141 rfl) rfl
theorem q927 : (Jvm.Cond.codeWith ({ cls := "TermIdeals", name := "firstOther", desc := "(LTermIdeals$Ideal;[BI)I" } : Jvm.MethodName) prog_1_method_46_code (6 : Nat) (Option.some Jvm.ClassFile.FieldType.int) [((3 : Nat), (44 : Nat), (54 : Nat), (336 : Nat)), ((3 : Nat), (44 : Nat), (54 : Nat), (338 : Nat)), ((45 : Nat), (53 : Nat), (54 : Nat), (336 : Nat)), ((45 : Nat), (53 : Nat), (54 : Nat), (338 : Nat))]) ∈ lw_all := lw_g (lw_at lw_m4 142 rfl) rfl
theorem q928 : (Jvm.Cond.classLink "TermIdeals" (336 : Nat) "java/lang/ArrayIndexOutOfBoundsException") ∈ lw_all := lw_g (lw_at lw_m4 143 rfl) rfl
theorem q947 : (Jvm.Cond.classLink "TermIdeals" (338 : Nat) "java/lang/NullPointerException") ∈ lw_all := lw_g (lw_at lw_m4 162 rfl) rfl
theorem q969 : (Jvm.Cond.methodLink "TermIdeals" (333 : Nat) ({ cls := "TermIdeals$Ideal", name := "height", desc := "(I)I" } : Jvm.MethodName)) ∈ lw_all := lw_g (lw_at lw_m4 184 rfl) rfl
theorem q971 : (Jvm.Cond.instanceMethod ({ cls := "TermIdeals", name := "image", desc := "()I" } : Jvm.MethodName)) ∈ lw_all := lw_g (lw_at lw_m4 186 rfl) rfl
theorem q972 : (Jvm.Cond.selects "TermIdeals" ({ cls := "TermIdeals", name := "image", desc := "()I" } : Jvm.MethodName) ({ cls := "TermIdeals", name := "image", desc := "()I" } : Jvm.MethodName)) ∈ lw_all := lw_g (lw_at lw_m4 187 rfl) rfl
theorem q973 : (Jvm.Cond.code ({ cls := "TermIdeals", name := "image", desc := "()I" } : Jvm.MethodName) prog_1_method_49_code (2 : Nat) (Option.some Jvm.ClassFile.FieldType.int)) ∈ lw_all := lw_g (lw_at lw_m4 188 rfl) rfl
theorem q974 : (Jvm.Cond.methodLink "TermIdeals" (354 : Nat) ({ cls := "TermIdeals$Rows", name := "takes", desc := "(LTermIdeals$Rows;)V" } : Jvm.MethodName)) ∈ lw_all := lw_g (lw_at lw_m4 189 rfl) rfl
theorem q979 : (Jvm.Cond.methodLink "TermIdeals" (361 : Nat) ({ cls := "TermIdeals", name := "both", desc := "()I" } : Jvm.MethodName)) ∈ lw_all := lw_g (lw_at lw_m4 194 rfl) rfl
theorem q980 : (Jvm.Cond.privateMethod ({ cls := "TermIdeals", name := "both", desc := "()I" } : Jvm.MethodName)) ∈ lw_tbl := lw_at lw_m4 195 rfl
theorem q981 : (Jvm.Cond.instanceMethod ({ cls := "TermIdeals", name := "both", desc := "()I" } : Jvm.MethodName)) ∈ lw_all := lw_g (lw_at lw_m4 196 rfl) rfl
theorem q982 : (Jvm.Cond.code ({ cls := "TermIdeals", name := "both", desc := "()I" } : Jvm.MethodName) prog_1_method_48_code (1 : Nat) (Option.some Jvm.ClassFile.FieldType.int)) ∈ lw_all := lw_g (lw_at lw_m4 197 rfl) rfl
theorem q984 : (Jvm.Cond.instanceMethod ({ cls := "TermIdeals", name := "undo", desc := "()I" } : Jvm.MethodName)) ∈ lw_all := lw_g (lw_at lw_m4 199 rfl) rfl
theorem q985 : (Jvm.Cond.selects "TermIdeals" ({ cls := "TermIdeals", name := "undo", desc := "()I" } : Jvm.MethodName) ({ cls := "TermIdeals", name := "undo", desc := "()I" } : Jvm.MethodName)) ∈ lw_all := lw_g (lw_at lw_m4 200 rfl) rfl
theorem q986 : (Jvm.Cond.code ({ cls := "TermIdeals", name := "undo", desc := "()I" } : Jvm.MethodName) prog_1_method_50_code (2 : Nat) (Option.some Jvm.ClassFile.FieldType.int)) ∈ lw_all := lw_g (lw_at lw_m4 201 rfl) rfl
theorem q988 : (Jvm.Cond.instanceMethod ({ cls := "TermIdeals", name := "count", desc := "(I)I" } : Jvm.MethodName)) ∈ lw_all := lw_g (lw_at lw_m4 203 rfl) rfl
theorem q989 : (Jvm.Cond.selects "TermIdeals" ({ cls := "TermIdeals", name := "count", desc := "(I)I" } : Jvm.MethodName) ({ cls := "TermIdeals", name := "count", desc := "(I)I" } : Jvm.MethodName)) ∈ lw_all := lw_g (lw_at lw_m4 204 rfl) rfl
theorem q990 : (Jvm.Cond.code ({ cls := "TermIdeals", name := "count", desc := "(I)I" } : Jvm.MethodName) prog_1_method_51_code (2 : Nat) (Option.some Jvm.ClassFile.FieldType.int)) ∈ lw_all := lw_g (lw_at lw_m4 205 rfl) rfl
theorem q992 : (Jvm.Cond.instanceMethod ({ cls := "TermIdeals", name := "tape", desc := "(III)I" } : Jvm.MethodName)) ∈ lw_all := lw_g (lw_at lw_m4 207 rfl) rfl
theorem q993 : (Jvm.Cond.selects "TermIdeals" ({ cls := "TermIdeals", name := "tape", desc := "(III)I" } : Jvm.MethodName) ({ cls := "TermIdeals", name := "tape", desc := "(III)I" } : Jvm.MethodName)) ∈ lw_all := lw_g (lw_at lw_m4 208 rfl) rfl
theorem q994 : (Jvm.Cond.codeWith ({ cls := "TermIdeals", name := "tape", desc := "(III)I" } : Jvm.MethodName) prog_1_method_54_code (5 : Nat) (Option.some Jvm.ClassFile.FieldType.int) [((32 : Nat), (56 : Nat), (57 : Nat), (368 : Nat))]) ∈ lw_all := lw_g (lw_at lw_m4 209 rfl) rfl
theorem q995 : (Jvm.Cond.classLink "TermIdeals" (368 : Nat) "java/lang/NegativeArraySizeException") ∈ lw_all := lw_g (lw_at lw_m4 210 rfl) rfl
theorem q1009 : (Jvm.Cond.methodLink "TermIdeals" (364 : Nat) ({ cls := "TermIdeals", name := "rowOf", desc := "(II)Ljava/lang/Object;" } : Jvm.MethodName)) ∈ lw_all := lw_g (lw_at lw_m4 224 rfl) rfl
theorem q1010 : (Jvm.Cond.static ({ cls := "TermIdeals", name := "rowOf", desc := "(II)Ljava/lang/Object;" } : Jvm.MethodName)) ∈ lw_all := lw_g (lw_at lw_m4 225 rfl) rfl
theorem q1011 : (Jvm.Cond.code ({ cls := "TermIdeals", name := "rowOf", desc := "(II)Ljava/lang/Object;" } : Jvm.MethodName) prog_1_method_52_code (2 : Nat) (Option.some (Jvm.ClassFile.FieldType.object "java/lang/Object"))) ∈ lw_all := lw_g (lw_at lw_m4 226 rfl) rfl
theorem q1016 : (Jvm.Cond.instanceMethod ({ cls := "TermIdeals", name := "item", desc := "(IIJ)I" } : Jvm.MethodName)) ∈ lw_all := lw_g (lw_at lw_m4 231 rfl) rfl
theorem q1017 : (Jvm.Cond.selects "TermIdeals" ({ cls := "TermIdeals", name := "item", desc := "(IIJ)I" } : Jvm.MethodName) ({ cls := "TermIdeals", name := "item", desc := "(IIJ)I" } : Jvm.MethodName)) ∈ lw_all := lw_g (lw_at lw_m4 232 rfl) rfl
theorem q1018 : (Jvm.Cond.codeWith ({ cls := "TermIdeals", name := "item", desc := "(IIJ)I" } : Jvm.MethodName) prog_1_method_55_code (11 : Nat) (Option.some Jvm.ClassFile.FieldType.int) [((17 : Nat), (23 : Nat), (26 : Nat), (373 : Nat))]) ∈ lw_all := lw_g (lw_at lw_m4 233 rfl) rfl
theorem q1019 : (Jvm.Cond.classLink "TermIdeals" (373 : Nat) "TermIdeals$Off") ∈ lw_all := lw_g (lw_at lw_m4 234 rfl) rfl
theorem q1020 : (Jvm.Cond.methodLinkNest "TermIdeals" (370 : Nat) ({ cls := "TermIdeals$Tape", name := "has", desc := "(I)V" } : Jvm.MethodName) "TermIdeals") ∈ lw_tbl := lw_at lw_m4 235 rfl
theorem q1038 : (Jvm.Cond.fieldLinkNest "TermIdeals" (375 : Nat) "TermIdeals$Off" "place" "I" "TermIdeals") ∈ lw_tbl := lw_at lw_m5 13 rfl
theorem q1053 : (Jvm.Cond.classLink "TermIdeals" (376 : Nat) "[S") ∈ lw_all := lw_g (lw_at lw_m5 28 rfl) rfl
theorem q1054 : (Jvm.Cond.classLink "TermIdeals" (378 : Nat) "[I") ∈ lw_all := lw_g (lw_at lw_m5 29 rfl) rfl
theorem q1055 : (Jvm.Cond.classLink "TermIdeals" (379 : Nat) "[J") ∈ lw_all := lw_g (lw_at lw_m5 30 rfl) rfl
theorem q1056 : (Jvm.Cond.classLink "TermIdeals" (381 : Nat) "[Z") ∈ lw_all := lw_g (lw_at lw_m5 31 rfl) rfl
theorem q1058 : (Jvm.Cond.instanceMethod ({ cls := "TermIdeals", name := "peek", desc := "(II)J" } : Jvm.MethodName)) ∈ lw_all := lw_g (lw_at lw_m5 33 rfl) rfl
theorem q1059 : (Jvm.Cond.selects "TermIdeals" ({ cls := "TermIdeals", name := "peek", desc := "(II)J" } : Jvm.MethodName) ({ cls := "TermIdeals", name := "peek", desc := "(II)J" } : Jvm.MethodName)) ∈ lw_all := lw_g (lw_at lw_m5 34 rfl) rfl
theorem q1060 : (Jvm.Cond.code ({ cls := "TermIdeals", name := "peek", desc := "(II)J" } : Jvm.MethodName) prog_1_method_56_code (6 : Nat) (Option.some Jvm.ClassFile.FieldType.long)) ∈ lw_all := lw_g (lw_at lw_m5 35 rfl) rfl
theorem q1061 : (Jvm.Cond.methodLinkNest "TermIdeals" (383 : Nat) ({ cls := "TermIdeals$Tape", name := "size", desc := "()I" } : Jvm.MethodName) "TermIdeals") ∈ lw_tbl := lw_at lw_m5 36 rfl
theorem q1063 : (Jvm.Cond.instanceMethod ({ cls := "TermIdeals", name := "shift", desc := "(IIIII)I" } : Jvm.MethodName)) ∈ lw_all := lw_g (lw_at lw_m5 38 rfl) rfl
theorem q1064 : (Jvm.Cond.selects "TermIdeals" ({ cls := "TermIdeals", name := "shift", desc := "(IIIII)I" } : Jvm.MethodName) ({ cls := "TermIdeals", name := "shift", desc := "(IIIII)I" } : Jvm.MethodName)) ∈ lw_all := lw_g (lw_at lw_m5 39 rfl) rfl
theorem q1065 : (Jvm.Cond.codeWith ({ cls := "TermIdeals", name := "shift", desc := "(IIIII)I" } : Jvm.MethodName) prog_1_method_57_code (7 : Nat) (Option.some Jvm.ClassFile.FieldType.int) [((16 : Nat), (44 : Nat), (45 : Nat), (338 : Nat)), ((16 : Nat), (44 : Nat), (50 : Nat), (392 : Nat)), ((16 : Nat), (44 : Nat), (55 : Nat), (394 : Nat))]) ∈ lw_all := lw_g (lw_at lw_m5 40 rfl) rfl
theorem q1066 : (Jvm.Cond.classLink "TermIdeals" (392 : Nat) "java/lang/ArrayStoreException") ∈ lw_all := lw_g (lw_at lw_m5 41 rfl) rfl
theorem q1080 : (Jvm.Cond.classLink "TermIdeals" (394 : Nat) "java/lang/IndexOutOfBoundsException") ∈ lw_all := lw_g (lw_at lw_m5 55 rfl) rfl
theorem q1081 : (Jvm.Cond.methodLink "TermIdeals" (386 : Nat) ({ cls := "java/lang/System", name := "arraycopy", desc := "(Ljava/lang/Object;ILjava/lang/Object;II)V" } : Jvm.MethodName)) ∈ lw_all := lw_g (lw_at lw_m5 56 rfl) rfl
theorem in_X0 : ∀ w ∈ wsX00, w ∈ lw_all := lw_in wsX00 [256, 258, 260, 262, 264, 266, 268, 270, 272, 274, 276, 278, 280, 282, 284, 286, 288, 290, 292] (by decide +kernel) (by decide +kernel)
