/-! TermIdealsModel -/
set_option maxRecDepth 100000
def RX7 : String := "TermIdealsModel"
def TX7 : u_T := fun k => match k with
  | 0 => ("TermIdealsModel", "sizes", "[I", true)
  | 1 => ("TermIdealsModel", "as", "[I", true)
  | 2 => ("TermIdealsModel", "bs", "[I", true)
  | 3 => ("TermIdealsModel", "deeds", "I", false)
  | 4 => ("TermIdealsModel", "deedOf", "[I", true)
  | 5 => ("TermIdealsModel", "deedSizes", "[I", true)
  | 6 => ("TermIdealsModel", "deedAs", "[I", true)
  | 7 => ("TermIdealsModel", "deedBs", "[I", true)
  | 8 => ("TermIdealsModel", "text", "[I", true)
  | 9 => ("TermIdealsModel", "size", "I", false)
  | 10 => ("TermIdealsModel", "at", "I", false)
  | 11 => ("TermIdealsModel", "told", "[I", true)
  | 12 => ("TermIdealsModel", "faces", "I", false)
  | 13 => ("TermIdealsModel", "ss", "[I", true)
  | 14 => ("TermIdealsModel", "ts", "[I", true)
  | 15 => ("TermIdealsModel", "levels", "[I", true)
  | 16 => ("TermIdealsModel", "jumpMany", "I", false)
  | 17 => ("TermIdealsModel", "tops", "[I", true)
  | 18 => ("TermIdealsModel", "unders", "[I", true)
  | 19 => ("TermIdealsModel", "heights", "[I", true)
  | 20 => ("TermIdealsModel", "next", "[I", true)
  | 21 => ("TermIdealsModel", "kept", "[I", true)
  | 22 => ("TermIdealsModel", "seen", "I", false)
  | 23 => ("TermIdealsModel", "seenAt", "[I", true)
  | 24 => ("TermIdealsModel", "seenTop", "[I", true)
  | 25 => ("TermIdealsModel", "seenUnder", "[I", true)
  | 26 => ("TermIdealsModel", "events", "I", false)
  | 27 => ("TermIdealsModel", "eventWhats", "[I", true)
  | 28 => ("TermIdealsModel", "eventNs", "[I", true)
  | 29 => ("TermIdealsModel", "books", "I", false)
  | 30 => ("TermIdealsModel", "bookTerms", "[I", true)
  | 31 => ("TermIdealsModel", "bookIs", "[I", true)
  | 32 => ("TermIdealsModel", "sorts", "[I", true)
  | 33 => ("TermIdealsModel", "lengths", "[I", true)
  | 34 => ("TermIdealsModel", "items", "[J", true)
  | 35 => ("TermIdealsModel", "moved", "[J", true)
  | 36 => ("TermIdealsModel", "isKept", "Z", false)
  | 37 => ("TermIdealsModel", "keptSizes", "[I", true)
  | 38 => ("TermIdealsModel", "keptAs", "[I", true)
  | 39 => ("TermIdealsModel", "keptBs", "[I", true)
  | 40 => ("TermIdealsModel", "keptSeen", "I", false)
  | 41 => ("TermIdealsModel", "keptSeenRows", "[I", true)
  | 42 => ("TermIdealsModel", "keptEvents", "I", false)
  | 43 => ("TermIdealsModel", "keptEventRows", "[I", true)
  | 44 => ("TermIdealsModel", "keptBooks", "I", false)
  | _ => ("TermIdealsModel", "keptBookRows", "[I", true)
def tyX7 : Nat → FieldType := fun k => match k with
  | 0 => .array .int
  | 1 => .array .int
  | 2 => .array .int
  | 3 => .int
  | 4 => .array .int
  | 5 => .array .int
  | 6 => .array .int
  | 7 => .array .int
  | 8 => .array .int
  | 9 => .int
  | 10 => .int
  | 11 => .array .int
  | 12 => .int
  | 13 => .array .int
  | 14 => .array .int
  | 15 => .array .int
  | 16 => .int
  | 17 => .array .int
  | 18 => .array .int
  | 19 => .array .int
  | 20 => .array .int
  | 21 => .array .int
  | 22 => .int
  | 23 => .array .int
  | 24 => .array .int
  | 25 => .array .int
  | 26 => .int
  | 27 => .array .int
  | 28 => .array .int
  | 29 => .int
  | 30 => .array .int
  | 31 => .array .int
  | 32 => .array .int
  | 33 => .array .int
  | 34 => .array .long
  | 35 => .array .long
  | 36 => .boolean
  | 37 => .array .int
  | 38 => .array .int
  | 39 => .array .int
  | 40 => .int
  | 41 => .array .int
  | 42 => .int
  | 43 => .array .int
  | 44 => .int
  | _ => .array .int
abbrev wsX70 : List Cond := u_ws RX7 TX7 46
set_option maxRecDepth 100000 in
theorem nmX7 : ∀ a, a < 46 → ∀ b, b < 46 → a ≠ b → (TX7 a).2.1 ≠ (TX7 b).2.1 := by decide +kernel
set_option maxRecDepth 100000 in
theorem tyX7_ok : ∀ k, k < 46 → parseFieldDescriptor (TX7 k).2.2.1 = some (tyX7 k) := by decide +kernel
abbrev cX7_init : ByteArray := prog_17_method_1_code
def yX7_init : MethodName := ⟨RX7, "<init>", "()V"⟩
def dkwX7_init_12 : List UInt8 := [188, 10, 181, 0, 109, 42, 16, 16, 188, 10, 181, 0, 112, 177]
abbrev dktX7_init_12 : List UInt8 := dkwX7_init_12 ++ []
def dkwX7_init_11 : List UInt8 := [188, 10, 181, 0, 100, 42, 16, 12, 188, 10, 181, 0, 103, 42, 16, 12, 188, 10, 181, 0, 106, 42, 16, 16]
abbrev dktX7_init_11 : List UInt8 := dkwX7_init_11 ++ dktX7_init_12
def dkwX7_init_10 : List UInt8 := [188, 11, 181, 0, 90, 42, 16, 60, 188, 11, 181, 0, 94, 42, 5, 188, 10, 181, 0, 97, 42, 16, 12]
abbrev dktX7_init_10 : List UInt8 := dkwX7_init_10 ++ dktX7_init_11
def dkwX7_init_9 : List UInt8 := [89, 7, 2, 79, 89, 8, 2, 79, 181, 0, 84, 42, 16, 6, 188, 10, 181, 0, 87, 42, 17, 1, 104]
abbrev dktX7_init_9 : List UInt8 := dkwX7_init_9 ++ dktX7_init_10
def dkwX7_init_8 : List UInt8 := [181, 0, 81, 42, 16, 6, 188, 10, 89, 3, 2, 79, 89, 4, 2, 79, 89, 5, 2, 79, 89, 6, 2, 79]
abbrev dktX7_init_8 : List UInt8 := dkwX7_init_8 ++ dktX7_init_9
def dkwX7_init_7 : List UInt8 := [181, 0, 72, 42, 16, 8, 188, 10, 181, 0, 75, 42, 16, 8, 188, 10, 181, 0, 78, 42, 16, 8, 188, 10]
abbrev dktX7_init_7 : List UInt8 := dkwX7_init_7 ++ dktX7_init_8
def dkwX7_init_6 : List UInt8 := [181, 0, 63, 42, 7, 188, 10, 181, 0, 66, 42, 7, 188, 10, 181, 0, 69, 42, 16, 8, 188, 10]
abbrev dktX7_init_6 : List UInt8 := dkwX7_init_6 ++ dktX7_init_7
def dkwX7_init_5 : List UInt8 := [181, 0, 54, 42, 16, 72, 188, 10, 181, 0, 57, 42, 16, 72, 188, 10, 181, 0, 60, 42, 7, 188, 10]
abbrev dktX7_init_5 : List UInt8 := dkwX7_init_5 ++ dktX7_init_6
def dkwX7_init_4 : List UInt8 := [181, 0, 45, 42, 16, 100, 188, 10, 181, 0, 48, 42, 16, 100, 188, 10, 181, 0, 51, 42, 16, 72, 188, 10]
abbrev dktX7_init_4 : List UInt8 := dkwX7_init_4 ++ dktX7_init_5
def dkwX7_init_3 : List UInt8 := [181, 0, 36, 42, 16, 64, 188, 10, 181, 0, 39, 42, 16, 64, 188, 10, 181, 0, 42, 42, 16, 64, 188, 10]
abbrev dktX7_init_3 : List UInt8 := dkwX7_init_3 ++ dktX7_init_4
def dkwX7_init_2 : List UInt8 := [181, 0, 27, 42, 16, 60, 188, 10, 181, 0, 30, 42, 16, 100, 188, 10, 181, 0, 33, 42, 6, 188, 10]
abbrev dktX7_init_2 : List UInt8 := dkwX7_init_2 ++ dktX7_init_3
def dkwX7_init_1 : List UInt8 := [181, 0, 18, 42, 16, 10, 188, 10, 181, 0, 21, 42, 16, 10, 188, 10, 181, 0, 24, 42, 16, 60, 188, 10]
abbrev dktX7_init_1 : List UInt8 := dkwX7_init_1 ++ dktX7_init_2
def dkwX7_init_0 : List UInt8 := [42, 183, 0, 3, 42, 6, 188, 10, 181, 0, 11, 42, 16, 18, 188, 10, 181, 0, 15, 42, 16, 18, 188, 10]
abbrev dktX7_init_0 : List UInt8 := dkwX7_init_0 ++ dktX7_init_1
theorem dksX7_init_0 : cX7_init.data.toList.drop 0 = dktX7_init_0 := by decide +kernel
theorem dksX7_init_1 : cX7_init.data.toList.drop 24 = dktX7_init_1 := dk_seg dksX7_init_0 24 rfl rfl
theorem dksX7_init_2 : cX7_init.data.toList.drop 48 = dktX7_init_2 := dk_seg dksX7_init_1 24 rfl rfl
theorem dksX7_init_3 : cX7_init.data.toList.drop 71 = dktX7_init_3 := dk_seg dksX7_init_2 23 rfl rfl
theorem dksX7_init_4 : cX7_init.data.toList.drop 95 = dktX7_init_4 := dk_seg dksX7_init_3 24 rfl rfl
theorem dksX7_init_5 : cX7_init.data.toList.drop 119 = dktX7_init_5 := dk_seg dksX7_init_4 24 rfl rfl
theorem dksX7_init_6 : cX7_init.data.toList.drop 142 = dktX7_init_6 := dk_seg dksX7_init_5 23 rfl rfl
theorem dksX7_init_7 : cX7_init.data.toList.drop 164 = dktX7_init_7 := dk_seg dksX7_init_6 22 rfl rfl
theorem dksX7_init_8 : cX7_init.data.toList.drop 188 = dktX7_init_8 := dk_seg dksX7_init_7 24 rfl rfl
theorem dksX7_init_9 : cX7_init.data.toList.drop 212 = dktX7_init_9 := dk_seg dksX7_init_8 24 rfl rfl
theorem dksX7_init_10 : cX7_init.data.toList.drop 235 = dktX7_init_10 := dk_seg dksX7_init_9 23 rfl rfl
theorem dksX7_init_11 : cX7_init.data.toList.drop 258 = dktX7_init_11 := dk_seg dksX7_init_10 23 rfl rfl
theorem dksX7_init_12 : cX7_init.data.toList.drop 282 = dktX7_init_12 := dk_seg dksX7_init_11 24 rfl rfl
theorem dX7_init_0 : decode cX7_init 0 = .ok (.aload_n 0, 1) := dk_42 (dk_at dksX7_init_0 0 rfl rfl)
theorem dX7_init_1 : decode cX7_init 1 = .ok (.invokespecial 3, 3) := dk_183 0 3 (dk_at dksX7_init_0 1 rfl rfl)
theorem dX7_init_4 : decode cX7_init 4 = .ok (.aload_n 0, 1) := dk_42 (dk_at dksX7_init_0 4 rfl rfl)
theorem dX7_init_5 : decode cX7_init 5 = .ok (.iconst 3, 1) := dk_6 (dk_at dksX7_init_0 5 rfl rfl)
theorem dX7_init_6 : decode cX7_init 6 = .ok (.newarray .int, 2) := dk_188_10 (dk_at dksX7_init_0 6 rfl rfl)
theorem dX7_init_8 : decode cX7_init 8 = .ok (.putfield 11, 3) := dk_181 0 11 (dk_at dksX7_init_0 8 rfl rfl)
theorem dX7_init_11 : decode cX7_init 11 = .ok (.aload_n 0, 1) := dk_42 (dk_at dksX7_init_0 11 rfl rfl)
theorem dX7_init_12 : decode cX7_init 12 = .ok (.bipush 18, 2) := dk_16 18 (dk_at dksX7_init_0 12 rfl rfl)
theorem dX7_init_14 : decode cX7_init 14 = .ok (.newarray .int, 2) := dk_188_10 (dk_at dksX7_init_0 14 rfl rfl)
theorem dX7_init_16 : decode cX7_init 16 = .ok (.putfield 15, 3) := dk_181 0 15 (dk_at dksX7_init_0 16 rfl rfl)
theorem dX7_init_19 : decode cX7_init 19 = .ok (.aload_n 0, 1) := dk_42 (dk_at dksX7_init_0 19 rfl rfl)
theorem dX7_init_20 : decode cX7_init 20 = .ok (.bipush 18, 2) := dk_16 18 (dk_at dksX7_init_0 20 rfl rfl)
theorem dX7_init_22 : decode cX7_init 22 = .ok (.newarray .int, 2) := dk_188_10 (dk_at dksX7_init_0 22 rfl rfl)
theorem dX7_init_24 : decode cX7_init 24 = .ok (.putfield 18, 3) := dk_181 0 18 (dk_at dksX7_init_1 0 rfl rfl)
theorem dX7_init_27 : decode cX7_init 27 = .ok (.aload_n 0, 1) := dk_42 (dk_at dksX7_init_1 3 rfl rfl)
theorem dX7_init_28 : decode cX7_init 28 = .ok (.bipush 10, 2) := dk_16 10 (dk_at dksX7_init_1 4 rfl rfl)
theorem dX7_init_30 : decode cX7_init 30 = .ok (.newarray .int, 2) := dk_188_10 (dk_at dksX7_init_1 6 rfl rfl)
theorem dX7_init_32 : decode cX7_init 32 = .ok (.putfield 21, 3) := dk_181 0 21 (dk_at dksX7_init_1 8 rfl rfl)
theorem dX7_init_35 : decode cX7_init 35 = .ok (.aload_n 0, 1) := dk_42 (dk_at dksX7_init_1 11 rfl rfl)
theorem dX7_init_36 : decode cX7_init 36 = .ok (.bipush 10, 2) := dk_16 10 (dk_at dksX7_init_1 12 rfl rfl)
theorem dX7_init_38 : decode cX7_init 38 = .ok (.newarray .int, 2) := dk_188_10 (dk_at dksX7_init_1 14 rfl rfl)
theorem dX7_init_40 : decode cX7_init 40 = .ok (.putfield 24, 3) := dk_181 0 24 (dk_at dksX7_init_1 16 rfl rfl)
theorem dX7_init_43 : decode cX7_init 43 = .ok (.aload_n 0, 1) := dk_42 (dk_at dksX7_init_1 19 rfl rfl)
theorem dX7_init_44 : decode cX7_init 44 = .ok (.bipush 60, 2) := dk_16 60 (dk_at dksX7_init_1 20 rfl rfl)
theorem dX7_init_46 : decode cX7_init 46 = .ok (.newarray .int, 2) := dk_188_10 (dk_at dksX7_init_1 22 rfl rfl)
theorem dX7_init_48 : decode cX7_init 48 = .ok (.putfield 27, 3) := dk_181 0 27 (dk_at dksX7_init_2 0 rfl rfl)
theorem dX7_init_51 : decode cX7_init 51 = .ok (.aload_n 0, 1) := dk_42 (dk_at dksX7_init_2 3 rfl rfl)
theorem dX7_init_52 : decode cX7_init 52 = .ok (.bipush 60, 2) := dk_16 60 (dk_at dksX7_init_2 4 rfl rfl)
theorem dX7_init_54 : decode cX7_init 54 = .ok (.newarray .int, 2) := dk_188_10 (dk_at dksX7_init_2 6 rfl rfl)
theorem dX7_init_56 : decode cX7_init 56 = .ok (.putfield 30, 3) := dk_181 0 30 (dk_at dksX7_init_2 8 rfl rfl)
theorem dX7_init_59 : decode cX7_init 59 = .ok (.aload_n 0, 1) := dk_42 (dk_at dksX7_init_2 11 rfl rfl)
theorem dX7_init_60 : decode cX7_init 60 = .ok (.bipush 100, 2) := dk_16 100 (dk_at dksX7_init_2 12 rfl rfl)
theorem dX7_init_62 : decode cX7_init 62 = .ok (.newarray .int, 2) := dk_188_10 (dk_at dksX7_init_2 14 rfl rfl)
theorem dX7_init_64 : decode cX7_init 64 = .ok (.putfield 33, 3) := dk_181 0 33 (dk_at dksX7_init_2 16 rfl rfl)
theorem dX7_init_67 : decode cX7_init 67 = .ok (.aload_n 0, 1) := dk_42 (dk_at dksX7_init_2 19 rfl rfl)
theorem dX7_init_68 : decode cX7_init 68 = .ok (.iconst 3, 1) := dk_6 (dk_at dksX7_init_2 20 rfl rfl)
theorem dX7_init_69 : decode cX7_init 69 = .ok (.newarray .int, 2) := dk_188_10 (dk_at dksX7_init_2 21 rfl rfl)
theorem dX7_init_71 : decode cX7_init 71 = .ok (.putfield 36, 3) := dk_181 0 36 (dk_at dksX7_init_3 0 rfl rfl)
theorem dX7_init_74 : decode cX7_init 74 = .ok (.aload_n 0, 1) := dk_42 (dk_at dksX7_init_3 3 rfl rfl)
theorem dX7_init_75 : decode cX7_init 75 = .ok (.bipush 64, 2) := dk_16 64 (dk_at dksX7_init_3 4 rfl rfl)
theorem dX7_init_77 : decode cX7_init 77 = .ok (.newarray .int, 2) := dk_188_10 (dk_at dksX7_init_3 6 rfl rfl)
theorem dX7_init_79 : decode cX7_init 79 = .ok (.putfield 39, 3) := dk_181 0 39 (dk_at dksX7_init_3 8 rfl rfl)
theorem dX7_init_82 : decode cX7_init 82 = .ok (.aload_n 0, 1) := dk_42 (dk_at dksX7_init_3 11 rfl rfl)
theorem dX7_init_83 : decode cX7_init 83 = .ok (.bipush 64, 2) := dk_16 64 (dk_at dksX7_init_3 12 rfl rfl)
theorem dX7_init_85 : decode cX7_init 85 = .ok (.newarray .int, 2) := dk_188_10 (dk_at dksX7_init_3 14 rfl rfl)
theorem dX7_init_87 : decode cX7_init 87 = .ok (.putfield 42, 3) := dk_181 0 42 (dk_at dksX7_init_3 16 rfl rfl)
theorem dX7_init_90 : decode cX7_init 90 = .ok (.aload_n 0, 1) := dk_42 (dk_at dksX7_init_3 19 rfl rfl)
theorem dX7_init_91 : decode cX7_init 91 = .ok (.bipush 64, 2) := dk_16 64 (dk_at dksX7_init_3 20 rfl rfl)
theorem dX7_init_93 : decode cX7_init 93 = .ok (.newarray .int, 2) := dk_188_10 (dk_at dksX7_init_3 22 rfl rfl)
theorem dX7_init_95 : decode cX7_init 95 = .ok (.putfield 45, 3) := dk_181 0 45 (dk_at dksX7_init_4 0 rfl rfl)
theorem dX7_init_98 : decode cX7_init 98 = .ok (.aload_n 0, 1) := dk_42 (dk_at dksX7_init_4 3 rfl rfl)
theorem dX7_init_99 : decode cX7_init 99 = .ok (.bipush 100, 2) := dk_16 100 (dk_at dksX7_init_4 4 rfl rfl)
theorem dX7_init_101 : decode cX7_init 101 = .ok (.newarray .int, 2) := dk_188_10 (dk_at dksX7_init_4 6 rfl rfl)
theorem dX7_init_103 : decode cX7_init 103 = .ok (.putfield 48, 3) := dk_181 0 48 (dk_at dksX7_init_4 8 rfl rfl)
theorem dX7_init_106 : decode cX7_init 106 = .ok (.aload_n 0, 1) := dk_42 (dk_at dksX7_init_4 11 rfl rfl)
theorem dX7_init_107 : decode cX7_init 107 = .ok (.bipush 100, 2) := dk_16 100 (dk_at dksX7_init_4 12 rfl rfl)
theorem dX7_init_109 : decode cX7_init 109 = .ok (.newarray .int, 2) := dk_188_10 (dk_at dksX7_init_4 14 rfl rfl)
theorem dX7_init_111 : decode cX7_init 111 = .ok (.putfield 51, 3) := dk_181 0 51 (dk_at dksX7_init_4 16 rfl rfl)
theorem dX7_init_114 : decode cX7_init 114 = .ok (.aload_n 0, 1) := dk_42 (dk_at dksX7_init_4 19 rfl rfl)
theorem dX7_init_115 : decode cX7_init 115 = .ok (.bipush 72, 2) := dk_16 72 (dk_at dksX7_init_4 20 rfl rfl)
theorem dX7_init_117 : decode cX7_init 117 = .ok (.newarray .int, 2) := dk_188_10 (dk_at dksX7_init_4 22 rfl rfl)
theorem dX7_init_119 : decode cX7_init 119 = .ok (.putfield 54, 3) := dk_181 0 54 (dk_at dksX7_init_5 0 rfl rfl)
theorem dX7_init_122 : decode cX7_init 122 = .ok (.aload_n 0, 1) := dk_42 (dk_at dksX7_init_5 3 rfl rfl)
theorem dX7_init_123 : decode cX7_init 123 = .ok (.bipush 72, 2) := dk_16 72 (dk_at dksX7_init_5 4 rfl rfl)
theorem dX7_init_125 : decode cX7_init 125 = .ok (.newarray .int, 2) := dk_188_10 (dk_at dksX7_init_5 6 rfl rfl)
theorem dX7_init_127 : decode cX7_init 127 = .ok (.putfield 57, 3) := dk_181 0 57 (dk_at dksX7_init_5 8 rfl rfl)
theorem dX7_init_130 : decode cX7_init 130 = .ok (.aload_n 0, 1) := dk_42 (dk_at dksX7_init_5 11 rfl rfl)
theorem dX7_init_131 : decode cX7_init 131 = .ok (.bipush 72, 2) := dk_16 72 (dk_at dksX7_init_5 12 rfl rfl)
theorem dX7_init_133 : decode cX7_init 133 = .ok (.newarray .int, 2) := dk_188_10 (dk_at dksX7_init_5 14 rfl rfl)
theorem dX7_init_135 : decode cX7_init 135 = .ok (.putfield 60, 3) := dk_181 0 60 (dk_at dksX7_init_5 16 rfl rfl)
theorem dX7_init_138 : decode cX7_init 138 = .ok (.aload_n 0, 1) := dk_42 (dk_at dksX7_init_5 19 rfl rfl)
theorem dX7_init_139 : decode cX7_init 139 = .ok (.iconst 4, 1) := dk_7 (dk_at dksX7_init_5 20 rfl rfl)
theorem dX7_init_140 : decode cX7_init 140 = .ok (.newarray .int, 2) := dk_188_10 (dk_at dksX7_init_5 21 rfl rfl)
theorem dX7_init_142 : decode cX7_init 142 = .ok (.putfield 63, 3) := dk_181 0 63 (dk_at dksX7_init_6 0 rfl rfl)
theorem dX7_init_145 : decode cX7_init 145 = .ok (.aload_n 0, 1) := dk_42 (dk_at dksX7_init_6 3 rfl rfl)
theorem dX7_init_146 : decode cX7_init 146 = .ok (.iconst 4, 1) := dk_7 (dk_at dksX7_init_6 4 rfl rfl)
theorem dX7_init_147 : decode cX7_init 147 = .ok (.newarray .int, 2) := dk_188_10 (dk_at dksX7_init_6 5 rfl rfl)
theorem dX7_init_149 : decode cX7_init 149 = .ok (.putfield 66, 3) := dk_181 0 66 (dk_at dksX7_init_6 7 rfl rfl)
theorem dX7_init_152 : decode cX7_init 152 = .ok (.aload_n 0, 1) := dk_42 (dk_at dksX7_init_6 10 rfl rfl)
theorem dX7_init_153 : decode cX7_init 153 = .ok (.iconst 4, 1) := dk_7 (dk_at dksX7_init_6 11 rfl rfl)
theorem dX7_init_154 : decode cX7_init 154 = .ok (.newarray .int, 2) := dk_188_10 (dk_at dksX7_init_6 12 rfl rfl)
theorem dX7_init_156 : decode cX7_init 156 = .ok (.putfield 69, 3) := dk_181 0 69 (dk_at dksX7_init_6 14 rfl rfl)
theorem dX7_init_159 : decode cX7_init 159 = .ok (.aload_n 0, 1) := dk_42 (dk_at dksX7_init_6 17 rfl rfl)
theorem dX7_init_160 : decode cX7_init 160 = .ok (.bipush 8, 2) := dk_16 8 (dk_at dksX7_init_6 18 rfl rfl)
theorem dX7_init_162 : decode cX7_init 162 = .ok (.newarray .int, 2) := dk_188_10 (dk_at dksX7_init_6 20 rfl rfl)
theorem dX7_init_164 : decode cX7_init 164 = .ok (.putfield 72, 3) := dk_181 0 72 (dk_at dksX7_init_7 0 rfl rfl)
theorem dX7_init_167 : decode cX7_init 167 = .ok (.aload_n 0, 1) := dk_42 (dk_at dksX7_init_7 3 rfl rfl)
theorem dX7_init_168 : decode cX7_init 168 = .ok (.bipush 8, 2) := dk_16 8 (dk_at dksX7_init_7 4 rfl rfl)
theorem dX7_init_170 : decode cX7_init 170 = .ok (.newarray .int, 2) := dk_188_10 (dk_at dksX7_init_7 6 rfl rfl)
theorem dX7_init_172 : decode cX7_init 172 = .ok (.putfield 75, 3) := dk_181 0 75 (dk_at dksX7_init_7 8 rfl rfl)
theorem dX7_init_175 : decode cX7_init 175 = .ok (.aload_n 0, 1) := dk_42 (dk_at dksX7_init_7 11 rfl rfl)
theorem dX7_init_176 : decode cX7_init 176 = .ok (.bipush 8, 2) := dk_16 8 (dk_at dksX7_init_7 12 rfl rfl)
theorem dX7_init_178 : decode cX7_init 178 = .ok (.newarray .int, 2) := dk_188_10 (dk_at dksX7_init_7 14 rfl rfl)
theorem dX7_init_180 : decode cX7_init 180 = .ok (.putfield 78, 3) := dk_181 0 78 (dk_at dksX7_init_7 16 rfl rfl)
theorem dX7_init_183 : decode cX7_init 183 = .ok (.aload_n 0, 1) := dk_42 (dk_at dksX7_init_7 19 rfl rfl)
theorem dX7_init_184 : decode cX7_init 184 = .ok (.bipush 8, 2) := dk_16 8 (dk_at dksX7_init_7 20 rfl rfl)
theorem dX7_init_186 : decode cX7_init 186 = .ok (.newarray .int, 2) := dk_188_10 (dk_at dksX7_init_7 22 rfl rfl)
theorem dX7_init_188 : decode cX7_init 188 = .ok (.putfield 81, 3) := dk_181 0 81 (dk_at dksX7_init_8 0 rfl rfl)
theorem dX7_init_191 : decode cX7_init 191 = .ok (.aload_n 0, 1) := dk_42 (dk_at dksX7_init_8 3 rfl rfl)
theorem dX7_init_192 : decode cX7_init 192 = .ok (.bipush 6, 2) := dk_16 6 (dk_at dksX7_init_8 4 rfl rfl)
theorem dX7_init_194 : decode cX7_init 194 = .ok (.newarray .int, 2) := dk_188_10 (dk_at dksX7_init_8 6 rfl rfl)
theorem dX7_init_196 : decode cX7_init 196 = .ok (.dup, 1) := dk_89 (dk_at dksX7_init_8 8 rfl rfl)
theorem dX7_init_197 : decode cX7_init 197 = .ok (.iconst 0, 1) := dk_3 (dk_at dksX7_init_8 9 rfl rfl)
theorem dX7_init_198 : decode cX7_init 198 = .ok (.iconst (-1), 1) := dk_2 (dk_at dksX7_init_8 10 rfl rfl)
theorem dX7_init_199 : decode cX7_init 199 = .ok (.iastore, 1) := dk_79 (dk_at dksX7_init_8 11 rfl rfl)
theorem dX7_init_200 : decode cX7_init 200 = .ok (.dup, 1) := dk_89 (dk_at dksX7_init_8 12 rfl rfl)
theorem dX7_init_201 : decode cX7_init 201 = .ok (.iconst 1, 1) := dk_4 (dk_at dksX7_init_8 13 rfl rfl)
theorem dX7_init_202 : decode cX7_init 202 = .ok (.iconst (-1), 1) := dk_2 (dk_at dksX7_init_8 14 rfl rfl)
theorem dX7_init_203 : decode cX7_init 203 = .ok (.iastore, 1) := dk_79 (dk_at dksX7_init_8 15 rfl rfl)
theorem dX7_init_204 : decode cX7_init 204 = .ok (.dup, 1) := dk_89 (dk_at dksX7_init_8 16 rfl rfl)
theorem dX7_init_205 : decode cX7_init 205 = .ok (.iconst 2, 1) := dk_5 (dk_at dksX7_init_8 17 rfl rfl)
theorem dX7_init_206 : decode cX7_init 206 = .ok (.iconst (-1), 1) := dk_2 (dk_at dksX7_init_8 18 rfl rfl)
theorem dX7_init_207 : decode cX7_init 207 = .ok (.iastore, 1) := dk_79 (dk_at dksX7_init_8 19 rfl rfl)
theorem dX7_init_208 : decode cX7_init 208 = .ok (.dup, 1) := dk_89 (dk_at dksX7_init_8 20 rfl rfl)
theorem dX7_init_209 : decode cX7_init 209 = .ok (.iconst 3, 1) := dk_6 (dk_at dksX7_init_8 21 rfl rfl)
theorem dX7_init_210 : decode cX7_init 210 = .ok (.iconst (-1), 1) := dk_2 (dk_at dksX7_init_8 22 rfl rfl)
theorem dX7_init_211 : decode cX7_init 211 = .ok (.iastore, 1) := dk_79 (dk_at dksX7_init_8 23 rfl rfl)
theorem dX7_init_212 : decode cX7_init 212 = .ok (.dup, 1) := dk_89 (dk_at dksX7_init_9 0 rfl rfl)
theorem dX7_init_213 : decode cX7_init 213 = .ok (.iconst 4, 1) := dk_7 (dk_at dksX7_init_9 1 rfl rfl)
theorem dX7_init_214 : decode cX7_init 214 = .ok (.iconst (-1), 1) := dk_2 (dk_at dksX7_init_9 2 rfl rfl)
theorem dX7_init_215 : decode cX7_init 215 = .ok (.iastore, 1) := dk_79 (dk_at dksX7_init_9 3 rfl rfl)
theorem dX7_init_216 : decode cX7_init 216 = .ok (.dup, 1) := dk_89 (dk_at dksX7_init_9 4 rfl rfl)
theorem dX7_init_217 : decode cX7_init 217 = .ok (.iconst 5, 1) := dk_8 (dk_at dksX7_init_9 5 rfl rfl)
theorem dX7_init_218 : decode cX7_init 218 = .ok (.iconst (-1), 1) := dk_2 (dk_at dksX7_init_9 6 rfl rfl)
theorem dX7_init_219 : decode cX7_init 219 = .ok (.iastore, 1) := dk_79 (dk_at dksX7_init_9 7 rfl rfl)
theorem dX7_init_220 : decode cX7_init 220 = .ok (.putfield 84, 3) := dk_181 0 84 (dk_at dksX7_init_9 8 rfl rfl)
theorem dX7_init_223 : decode cX7_init 223 = .ok (.aload_n 0, 1) := dk_42 (dk_at dksX7_init_9 11 rfl rfl)
theorem dX7_init_224 : decode cX7_init 224 = .ok (.bipush 6, 2) := dk_16 6 (dk_at dksX7_init_9 12 rfl rfl)
theorem dX7_init_226 : decode cX7_init 226 = .ok (.newarray .int, 2) := dk_188_10 (dk_at dksX7_init_9 14 rfl rfl)
theorem dX7_init_228 : decode cX7_init 228 = .ok (.putfield 87, 3) := dk_181 0 87 (dk_at dksX7_init_9 16 rfl rfl)
theorem dX7_init_231 : decode cX7_init 231 = .ok (.aload_n 0, 1) := dk_42 (dk_at dksX7_init_9 19 rfl rfl)
theorem dX7_init_232 : decode cX7_init 232 = .ok (.sipush 360, 3) := dk_17 1 104 (dk_at dksX7_init_9 20 rfl rfl)
theorem dX7_init_235 : decode cX7_init 235 = .ok (.newarray .long, 2) := dk_188_11 (dk_at dksX7_init_10 0 rfl rfl)
theorem dX7_init_237 : decode cX7_init 237 = .ok (.putfield 90, 3) := dk_181 0 90 (dk_at dksX7_init_10 2 rfl rfl)
theorem dX7_init_240 : decode cX7_init 240 = .ok (.aload_n 0, 1) := dk_42 (dk_at dksX7_init_10 5 rfl rfl)
theorem dX7_init_241 : decode cX7_init 241 = .ok (.bipush 60, 2) := dk_16 60 (dk_at dksX7_init_10 6 rfl rfl)
theorem dX7_init_243 : decode cX7_init 243 = .ok (.newarray .long, 2) := dk_188_11 (dk_at dksX7_init_10 8 rfl rfl)
theorem dX7_init_245 : decode cX7_init 245 = .ok (.putfield 94, 3) := dk_181 0 94 (dk_at dksX7_init_10 10 rfl rfl)
theorem dX7_init_248 : decode cX7_init 248 = .ok (.aload_n 0, 1) := dk_42 (dk_at dksX7_init_10 13 rfl rfl)
theorem dX7_init_249 : decode cX7_init 249 = .ok (.iconst 2, 1) := dk_5 (dk_at dksX7_init_10 14 rfl rfl)
theorem dX7_init_250 : decode cX7_init 250 = .ok (.newarray .int, 2) := dk_188_10 (dk_at dksX7_init_10 15 rfl rfl)
theorem dX7_init_252 : decode cX7_init 252 = .ok (.putfield 97, 3) := dk_181 0 97 (dk_at dksX7_init_10 17 rfl rfl)
theorem dX7_init_255 : decode cX7_init 255 = .ok (.aload_n 0, 1) := dk_42 (dk_at dksX7_init_10 20 rfl rfl)
theorem dX7_init_256 : decode cX7_init 256 = .ok (.bipush 12, 2) := dk_16 12 (dk_at dksX7_init_10 21 rfl rfl)
theorem dX7_init_258 : decode cX7_init 258 = .ok (.newarray .int, 2) := dk_188_10 (dk_at dksX7_init_11 0 rfl rfl)
theorem dX7_init_260 : decode cX7_init 260 = .ok (.putfield 100, 3) := dk_181 0 100 (dk_at dksX7_init_11 2 rfl rfl)
theorem dX7_init_263 : decode cX7_init 263 = .ok (.aload_n 0, 1) := dk_42 (dk_at dksX7_init_11 5 rfl rfl)
theorem dX7_init_264 : decode cX7_init 264 = .ok (.bipush 12, 2) := dk_16 12 (dk_at dksX7_init_11 6 rfl rfl)
theorem dX7_init_266 : decode cX7_init 266 = .ok (.newarray .int, 2) := dk_188_10 (dk_at dksX7_init_11 8 rfl rfl)
theorem dX7_init_268 : decode cX7_init 268 = .ok (.putfield 103, 3) := dk_181 0 103 (dk_at dksX7_init_11 10 rfl rfl)
theorem dX7_init_271 : decode cX7_init 271 = .ok (.aload_n 0, 1) := dk_42 (dk_at dksX7_init_11 13 rfl rfl)
theorem dX7_init_272 : decode cX7_init 272 = .ok (.bipush 12, 2) := dk_16 12 (dk_at dksX7_init_11 14 rfl rfl)
theorem dX7_init_274 : decode cX7_init 274 = .ok (.newarray .int, 2) := dk_188_10 (dk_at dksX7_init_11 16 rfl rfl)
theorem dX7_init_276 : decode cX7_init 276 = .ok (.putfield 106, 3) := dk_181 0 106 (dk_at dksX7_init_11 18 rfl rfl)
theorem dX7_init_279 : decode cX7_init 279 = .ok (.aload_n 0, 1) := dk_42 (dk_at dksX7_init_11 21 rfl rfl)
theorem dX7_init_280 : decode cX7_init 280 = .ok (.bipush 16, 2) := dk_16 16 (dk_at dksX7_init_11 22 rfl rfl)
theorem dX7_init_282 : decode cX7_init 282 = .ok (.newarray .int, 2) := dk_188_10 (dk_at dksX7_init_12 0 rfl rfl)
theorem dX7_init_284 : decode cX7_init 284 = .ok (.putfield 109, 3) := dk_181 0 109 (dk_at dksX7_init_12 2 rfl rfl)
theorem dX7_init_287 : decode cX7_init 287 = .ok (.aload_n 0, 1) := dk_42 (dk_at dksX7_init_12 5 rfl rfl)
theorem dX7_init_288 : decode cX7_init 288 = .ok (.bipush 16, 2) := dk_16 16 (dk_at dksX7_init_12 6 rfl rfl)
theorem dX7_init_290 : decode cX7_init 290 = .ok (.newarray .int, 2) := dk_188_10 (dk_at dksX7_init_12 8 rfl rfl)
theorem dX7_init_292 : decode cX7_init 292 = .ok (.putfield 112, 3) := dk_181 0 112 (dk_at dksX7_init_12 10 rfl rfl)
theorem dX7_init_295 : decode cX7_init 295 = .ok (.return_, 1) := dk_177 (dk_at dksX7_init_12 13 rfl rfl)
abbrev cX7_generate : ByteArray := prog_17_method_14_code
def yX7_generate : MethodName := ⟨RX7, "generate", "(III)I"⟩
def dkwX7_generate_3 : List UInt8 := [27, 46, 172]
abbrev dktX7_generate_3 : List UInt8 := dkwX7_generate_3 ++ []
def dkwX7_generate_2 : List UInt8 := [16, 6, 160, 0, 6, 16, 252, 172, 42, 27, 182, 0, 147, 42, 27, 28, 29, 182, 0, 151, 42, 180, 0, 11]
abbrev dktX7_generate_2 : List UInt8 := dkwX7_generate_2 ++ dktX7_generate_3
def dkwX7_generate_1 : List UInt8 := [16, 254, 172, 42, 27, 28, 29, 182, 0, 143, 2, 159, 0, 6, 16, 253, 172, 42, 180, 0, 11, 27, 46]
abbrev dktX7_generate_1 : List UInt8 := dkwX7_generate_1 ++ dktX7_generate_2
def dkwX7_generate_0 : List UInt8 := [27, 184, 0, 136, 154, 0, 5, 2, 172, 28, 184, 0, 140, 153, 0, 10, 29, 184, 0, 140, 154, 0, 6]
abbrev dktX7_generate_0 : List UInt8 := dkwX7_generate_0 ++ dktX7_generate_1
theorem dksX7_generate_0 : cX7_generate.data.toList.drop 0 = dktX7_generate_0 := by decide +kernel
theorem dksX7_generate_1 : cX7_generate.data.toList.drop 23 = dktX7_generate_1 := dk_seg dksX7_generate_0 23 rfl rfl
theorem dksX7_generate_2 : cX7_generate.data.toList.drop 46 = dktX7_generate_2 := dk_seg dksX7_generate_1 23 rfl rfl
theorem dksX7_generate_3 : cX7_generate.data.toList.drop 70 = dktX7_generate_3 := dk_seg dksX7_generate_2 24 rfl rfl
theorem dX7_generate_0 : decode cX7_generate 0 = .ok (.iload_n 1, 1) := dk_27 (dk_at dksX7_generate_0 0 rfl rfl)
theorem dX7_generate_1 : decode cX7_generate 1 = .ok (.invokestatic 136, 3) := dk_184 0 136 (dk_at dksX7_generate_0 1 rfl rfl)
theorem dX7_generate_4 : decode cX7_generate 4 = .ok (.ifCond .ne 5, 3) := dk_154 0 5 (dk_at dksX7_generate_0 4 rfl rfl)
theorem dX7_generate_7 : decode cX7_generate 7 = .ok (.iconst (-1), 1) := dk_2 (dk_at dksX7_generate_0 7 rfl rfl)
theorem dX7_generate_8 : decode cX7_generate 8 = .ok (.ireturn, 1) := dk_172 (dk_at dksX7_generate_0 8 rfl rfl)
theorem dX7_generate_9 : decode cX7_generate 9 = .ok (.iload_n 2, 1) := dk_28 (dk_at dksX7_generate_0 9 rfl rfl)
theorem dX7_generate_10 : decode cX7_generate 10 = .ok (.invokestatic 140, 3) := dk_184 0 140 (dk_at dksX7_generate_0 10 rfl rfl)
theorem dX7_generate_13 : decode cX7_generate 13 = .ok (.ifCond .eq 10, 3) := dk_153 0 10 (dk_at dksX7_generate_0 13 rfl rfl)
theorem dX7_generate_16 : decode cX7_generate 16 = .ok (.iload_n 3, 1) := dk_29 (dk_at dksX7_generate_0 16 rfl rfl)
theorem dX7_generate_17 : decode cX7_generate 17 = .ok (.invokestatic 140, 3) := dk_184 0 140 (dk_at dksX7_generate_0 17 rfl rfl)
theorem dX7_generate_20 : decode cX7_generate 20 = .ok (.ifCond .ne 6, 3) := dk_154 0 6 (dk_at dksX7_generate_0 20 rfl rfl)
theorem dX7_generate_23 : decode cX7_generate 23 = .ok (.bipush (-2), 2) := dk_16 254 (dk_at dksX7_generate_1 0 rfl rfl)
theorem dX7_generate_25 : decode cX7_generate 25 = .ok (.ireturn, 1) := dk_172 (dk_at dksX7_generate_1 2 rfl rfl)
theorem dX7_generate_26 : decode cX7_generate 26 = .ok (.aload_n 0, 1) := dk_42 (dk_at dksX7_generate_1 3 rfl rfl)
theorem dX7_generate_27 : decode cX7_generate 27 = .ok (.iload_n 1, 1) := dk_27 (dk_at dksX7_generate_1 4 rfl rfl)
theorem dX7_generate_28 : decode cX7_generate 28 = .ok (.iload_n 2, 1) := dk_28 (dk_at dksX7_generate_1 5 rfl rfl)
theorem dX7_generate_29 : decode cX7_generate 29 = .ok (.iload_n 3, 1) := dk_29 (dk_at dksX7_generate_1 6 rfl rfl)
theorem dX7_generate_30 : decode cX7_generate 30 = .ok (.invokevirtual 143, 3) := dk_182 0 143 (dk_at dksX7_generate_1 7 rfl rfl)
theorem dX7_generate_33 : decode cX7_generate 33 = .ok (.iconst (-1), 1) := dk_2 (dk_at dksX7_generate_1 10 rfl rfl)
theorem dX7_generate_34 : decode cX7_generate 34 = .ok (.if_icmp .eq 6, 3) := dk_159 0 6 (dk_at dksX7_generate_1 11 rfl rfl)
theorem dX7_generate_37 : decode cX7_generate 37 = .ok (.bipush (-3), 2) := dk_16 253 (dk_at dksX7_generate_1 14 rfl rfl)
theorem dX7_generate_39 : decode cX7_generate 39 = .ok (.ireturn, 1) := dk_172 (dk_at dksX7_generate_1 16 rfl rfl)
theorem dX7_generate_40 : decode cX7_generate 40 = .ok (.aload_n 0, 1) := dk_42 (dk_at dksX7_generate_1 17 rfl rfl)
theorem dX7_generate_41 : decode cX7_generate 41 = .ok (.getfield 11, 3) := dk_180 0 11 (dk_at dksX7_generate_1 18 rfl rfl)
theorem dX7_generate_44 : decode cX7_generate 44 = .ok (.iload_n 1, 1) := dk_27 (dk_at dksX7_generate_1 21 rfl rfl)
theorem dX7_generate_45 : decode cX7_generate 45 = .ok (.iaload, 1) := dk_46 (dk_at dksX7_generate_1 22 rfl rfl)
theorem dX7_generate_46 : decode cX7_generate 46 = .ok (.bipush 6, 2) := dk_16 6 (dk_at dksX7_generate_2 0 rfl rfl)
theorem dX7_generate_48 : decode cX7_generate 48 = .ok (.if_icmp .ne 6, 3) := dk_160 0 6 (dk_at dksX7_generate_2 2 rfl rfl)
theorem dX7_generate_51 : decode cX7_generate 51 = .ok (.bipush (-4), 2) := dk_16 252 (dk_at dksX7_generate_2 5 rfl rfl)
theorem dX7_generate_53 : decode cX7_generate 53 = .ok (.ireturn, 1) := dk_172 (dk_at dksX7_generate_2 7 rfl rfl)
theorem dX7_generate_54 : decode cX7_generate 54 = .ok (.aload_n 0, 1) := dk_42 (dk_at dksX7_generate_2 8 rfl rfl)
theorem dX7_generate_55 : decode cX7_generate 55 = .ok (.iload_n 1, 1) := dk_27 (dk_at dksX7_generate_2 9 rfl rfl)
theorem dX7_generate_56 : decode cX7_generate 56 = .ok (.invokevirtual 147, 3) := dk_182 0 147 (dk_at dksX7_generate_2 10 rfl rfl)
theorem dX7_generate_59 : decode cX7_generate 59 = .ok (.aload_n 0, 1) := dk_42 (dk_at dksX7_generate_2 13 rfl rfl)
theorem dX7_generate_60 : decode cX7_generate 60 = .ok (.iload_n 1, 1) := dk_27 (dk_at dksX7_generate_2 14 rfl rfl)
theorem dX7_generate_61 : decode cX7_generate 61 = .ok (.iload_n 2, 1) := dk_28 (dk_at dksX7_generate_2 15 rfl rfl)
theorem dX7_generate_62 : decode cX7_generate 62 = .ok (.iload_n 3, 1) := dk_29 (dk_at dksX7_generate_2 16 rfl rfl)
theorem dX7_generate_63 : decode cX7_generate 63 = .ok (.invokevirtual 151, 3) := dk_182 0 151 (dk_at dksX7_generate_2 17 rfl rfl)
theorem dX7_generate_66 : decode cX7_generate 66 = .ok (.aload_n 0, 1) := dk_42 (dk_at dksX7_generate_2 20 rfl rfl)
theorem dX7_generate_67 : decode cX7_generate 67 = .ok (.getfield 11, 3) := dk_180 0 11 (dk_at dksX7_generate_2 21 rfl rfl)
theorem dX7_generate_70 : decode cX7_generate 70 = .ok (.iload_n 1, 1) := dk_27 (dk_at dksX7_generate_3 0 rfl rfl)
theorem dX7_generate_71 : decode cX7_generate 71 = .ok (.iaload, 1) := dk_46 (dk_at dksX7_generate_3 1 rfl rfl)
theorem dX7_generate_72 : decode cX7_generate 72 = .ok (.ireturn, 1) := dk_172 (dk_at dksX7_generate_3 2 rfl rfl)
abbrev cX7_isIdeal : ByteArray := prog_17_method_3_code
def yX7_isIdeal : MethodName := ⟨RX7, "isIdeal", "(I)Z"⟩
def dkwX7_isIdeal_0 : List UInt8 := [26, 133, 9, 10, 184, 0, 115, 172]
abbrev dktX7_isIdeal_0 : List UInt8 := dkwX7_isIdeal_0 ++ []
theorem dksX7_isIdeal_0 : cX7_isIdeal.data.toList.drop 0 = dktX7_isIdeal_0 := by decide +kernel
theorem dX7_isIdeal_0 : decode cX7_isIdeal 0 = .ok (.iload_n 0, 1) := dk_26 (dk_at dksX7_isIdeal_0 0 rfl rfl)
theorem dX7_isIdeal_1 : decode cX7_isIdeal 1 = .ok (.i2l, 1) := dk_133 (dk_at dksX7_isIdeal_0 1 rfl rfl)
theorem dX7_isIdeal_2 : decode cX7_isIdeal 2 = .ok (.lconst 0, 1) := dk_9 (dk_at dksX7_isIdeal_0 2 rfl rfl)
theorem dX7_isIdeal_3 : decode cX7_isIdeal 3 = .ok (.lconst 1, 1) := dk_10 (dk_at dksX7_isIdeal_0 3 rfl rfl)
theorem dX7_isIdeal_4 : decode cX7_isIdeal 4 = .ok (.invokestatic 115, 3) := dk_184 0 115 (dk_at dksX7_isIdeal_0 4 rfl rfl)
theorem dX7_isIdeal_7 : decode cX7_isIdeal 7 = .ok (.ireturn, 1) := dk_172 (dk_at dksX7_isIdeal_0 7 rfl rfl)
abbrev cX7_isFrom : ByteArray := prog_17_method_2_code
def yX7_isFrom : MethodName := ⟨RX7, "isFrom", "(JJJ)Z"⟩
def dkwX7_isFrom_0 : List UInt8 := [30, 32, 148, 155, 0, 14, 30, 22, 4, 148, 157, 0, 7, 4, 167, 0, 4, 3, 172]
abbrev dktX7_isFrom_0 : List UInt8 := dkwX7_isFrom_0 ++ []
theorem dksX7_isFrom_0 : cX7_isFrom.data.toList.drop 0 = dktX7_isFrom_0 := by decide +kernel
theorem dX7_isFrom_0 : decode cX7_isFrom 0 = .ok (.lload_n 0, 1) := dk_30 (dk_at dksX7_isFrom_0 0 rfl rfl)
theorem dX7_isFrom_1 : decode cX7_isFrom 1 = .ok (.lload_n 2, 1) := dk_32 (dk_at dksX7_isFrom_0 1 rfl rfl)
theorem dX7_isFrom_2 : decode cX7_isFrom 2 = .ok (.lcmp, 1) := dk_148 (dk_at dksX7_isFrom_0 2 rfl rfl)
theorem dX7_isFrom_3 : decode cX7_isFrom 3 = .ok (.ifCond .lt 14, 3) := dk_155 0 14 (dk_at dksX7_isFrom_0 3 rfl rfl)
theorem dX7_isFrom_6 : decode cX7_isFrom 6 = .ok (.lload_n 0, 1) := dk_30 (dk_at dksX7_isFrom_0 6 rfl rfl)
theorem dX7_isFrom_7 : decode cX7_isFrom 7 = .ok (.lload 4, 2) := dk_22 4 (dk_at dksX7_isFrom_0 7 rfl rfl)
theorem dX7_isFrom_9 : decode cX7_isFrom 9 = .ok (.lcmp, 1) := dk_148 (dk_at dksX7_isFrom_0 9 rfl rfl)
theorem dX7_isFrom_10 : decode cX7_isFrom 10 = .ok (.ifCond .gt 7, 3) := dk_157 0 7 (dk_at dksX7_isFrom_0 10 rfl rfl)
theorem dX7_isFrom_13 : decode cX7_isFrom 13 = .ok (.iconst 1, 1) := dk_4 (dk_at dksX7_isFrom_0 13 rfl rfl)
theorem dX7_isFrom_14 : decode cX7_isFrom 14 = .ok (.goto 4, 3) := dk_167 0 4 (dk_at dksX7_isFrom_0 14 rfl rfl)
theorem dX7_isFrom_17 : decode cX7_isFrom 17 = .ok (.iconst 0, 1) := dk_3 (dk_at dksX7_isFrom_0 17 rfl rfl)
theorem dX7_isFrom_18 : decode cX7_isFrom 18 = .ok (.ireturn, 1) := dk_172 (dk_at dksX7_isFrom_0 18 rfl rfl)
abbrev cX7_isPower : ByteArray := prog_17_method_4_code
def yX7_isPower : MethodName := ⟨RX7, "isPower", "(I)Z"⟩
def dkwX7_isPower_0 : List UInt8 := [26, 133, 9, 20, 0, 119, 184, 0, 115, 172]
abbrev dktX7_isPower_0 : List UInt8 := dkwX7_isPower_0 ++ []
theorem dksX7_isPower_0 : cX7_isPower.data.toList.drop 0 = dktX7_isPower_0 := by decide +kernel
theorem dX7_isPower_0 : decode cX7_isPower 0 = .ok (.iload_n 0, 1) := dk_26 (dk_at dksX7_isPower_0 0 rfl rfl)
theorem dX7_isPower_1 : decode cX7_isPower 1 = .ok (.i2l, 1) := dk_133 (dk_at dksX7_isPower_0 1 rfl rfl)
theorem dX7_isPower_2 : decode cX7_isPower 2 = .ok (.lconst 0, 1) := dk_9 (dk_at dksX7_isPower_0 2 rfl rfl)
theorem dX7_isPower_3 : decode cX7_isPower 3 = .ok (.ldc2_w 119, 3) := dk_20 0 119 (dk_at dksX7_isPower_0 3 rfl rfl)
theorem dX7_isPower_6 : decode cX7_isPower 6 = .ok (.invokestatic 115, 3) := dk_184 0 115 (dk_at dksX7_isPower_0 6 rfl rfl)
theorem dX7_isPower_9 : decode cX7_isPower 9 = .ok (.ireturn, 1) := dk_172 (dk_at dksX7_isPower_0 9 rfl rfl)
abbrev cX7_which : ByteArray := prog_17_method_9_code
def yX7_which : MethodName := ⟨RX7, "which", "(III)I"⟩
def dkwX7_which_2 : List UInt8 := [172]
abbrev dktX7_which_2 : List UInt8 := dkwX7_which_2 ++ []
def dkwX7_which_1 : List UInt8 := [160, 0, 17, 42, 27, 21, 4, 182, 0, 129, 29, 160, 0, 6, 21, 4, 172, 132, 4, 1, 167, 255, 217, 2]
abbrev dktX7_which_1 : List UInt8 := dkwX7_which_1 ++ dktX7_which_2
def dkwX7_which_0 : List UInt8 := [3, 54, 4, 21, 4, 42, 180, 0, 11, 27, 46, 162, 0, 34, 42, 27, 21, 4, 182, 0, 125, 28]
abbrev dktX7_which_0 : List UInt8 := dkwX7_which_0 ++ dktX7_which_1
theorem dksX7_which_0 : cX7_which.data.toList.drop 0 = dktX7_which_0 := by decide +kernel
theorem dksX7_which_1 : cX7_which.data.toList.drop 22 = dktX7_which_1 := dk_seg dksX7_which_0 22 rfl rfl
theorem dksX7_which_2 : cX7_which.data.toList.drop 46 = dktX7_which_2 := dk_seg dksX7_which_1 24 rfl rfl
theorem dX7_which_0 : decode cX7_which 0 = .ok (.iconst 0, 1) := dk_3 (dk_at dksX7_which_0 0 rfl rfl)
theorem dX7_which_1 : decode cX7_which 1 = .ok (.istore 4, 2) := dk_54 4 (dk_at dksX7_which_0 1 rfl rfl)
theorem dX7_which_3 : decode cX7_which 3 = .ok (.iload 4, 2) := dk_21 4 (dk_at dksX7_which_0 3 rfl rfl)
theorem dX7_which_5 : decode cX7_which 5 = .ok (.aload_n 0, 1) := dk_42 (dk_at dksX7_which_0 5 rfl rfl)
theorem dX7_which_6 : decode cX7_which 6 = .ok (.getfield 11, 3) := dk_180 0 11 (dk_at dksX7_which_0 6 rfl rfl)
theorem dX7_which_9 : decode cX7_which 9 = .ok (.iload_n 1, 1) := dk_27 (dk_at dksX7_which_0 9 rfl rfl)
theorem dX7_which_10 : decode cX7_which 10 = .ok (.iaload, 1) := dk_46 (dk_at dksX7_which_0 10 rfl rfl)
theorem dX7_which_11 : decode cX7_which 11 = .ok (.if_icmp .ge 34, 3) := dk_162 0 34 (dk_at dksX7_which_0 11 rfl rfl)
theorem dX7_which_14 : decode cX7_which 14 = .ok (.aload_n 0, 1) := dk_42 (dk_at dksX7_which_0 14 rfl rfl)
theorem dX7_which_15 : decode cX7_which 15 = .ok (.iload_n 1, 1) := dk_27 (dk_at dksX7_which_0 15 rfl rfl)
theorem dX7_which_16 : decode cX7_which 16 = .ok (.iload 4, 2) := dk_21 4 (dk_at dksX7_which_0 16 rfl rfl)
theorem dX7_which_18 : decode cX7_which 18 = .ok (.invokevirtual 125, 3) := dk_182 0 125 (dk_at dksX7_which_0 18 rfl rfl)
theorem dX7_which_21 : decode cX7_which 21 = .ok (.iload_n 2, 1) := dk_28 (dk_at dksX7_which_0 21 rfl rfl)
theorem dX7_which_22 : decode cX7_which 22 = .ok (.if_icmp .ne 17, 3) := dk_160 0 17 (dk_at dksX7_which_1 0 rfl rfl)
theorem dX7_which_25 : decode cX7_which 25 = .ok (.aload_n 0, 1) := dk_42 (dk_at dksX7_which_1 3 rfl rfl)
theorem dX7_which_26 : decode cX7_which 26 = .ok (.iload_n 1, 1) := dk_27 (dk_at dksX7_which_1 4 rfl rfl)
theorem dX7_which_27 : decode cX7_which 27 = .ok (.iload 4, 2) := dk_21 4 (dk_at dksX7_which_1 5 rfl rfl)
theorem dX7_which_29 : decode cX7_which 29 = .ok (.invokevirtual 129, 3) := dk_182 0 129 (dk_at dksX7_which_1 7 rfl rfl)
theorem dX7_which_32 : decode cX7_which 32 = .ok (.iload_n 3, 1) := dk_29 (dk_at dksX7_which_1 10 rfl rfl)
theorem dX7_which_33 : decode cX7_which 33 = .ok (.if_icmp .ne 6, 3) := dk_160 0 6 (dk_at dksX7_which_1 11 rfl rfl)
theorem dX7_which_36 : decode cX7_which 36 = .ok (.iload 4, 2) := dk_21 4 (dk_at dksX7_which_1 14 rfl rfl)
theorem dX7_which_38 : decode cX7_which 38 = .ok (.ireturn, 1) := dk_172 (dk_at dksX7_which_1 16 rfl rfl)
theorem dX7_which_39 : decode cX7_which 39 = .ok (.iinc 4 1, 3) := dk_132 4 1 (dk_at dksX7_which_1 17 rfl rfl)
theorem dX7_which_42 : decode cX7_which 42 = .ok (.goto (-39), 3) := dk_167 255 217 (dk_at dksX7_which_1 20 rfl rfl)
theorem dX7_which_45 : decode cX7_which 45 = .ok (.iconst (-1), 1) := dk_2 (dk_at dksX7_which_1 23 rfl rfl)
theorem dX7_which_46 : decode cX7_which 46 = .ok (.ireturn, 1) := dk_172 (dk_at dksX7_which_2 0 rfl rfl)
abbrev cX7_a : ByteArray := prog_17_method_7_code
def yX7_a : MethodName := ⟨RX7, "a", "(II)I"⟩
def dkwX7_a_0 : List UInt8 := [42, 180, 0, 15, 16, 6, 27, 104, 28, 96, 46, 172]
abbrev dktX7_a_0 : List UInt8 := dkwX7_a_0 ++ []
theorem dksX7_a_0 : cX7_a.data.toList.drop 0 = dktX7_a_0 := by decide +kernel
theorem dX7_a_0 : decode cX7_a 0 = .ok (.aload_n 0, 1) := dk_42 (dk_at dksX7_a_0 0 rfl rfl)
theorem dX7_a_1 : decode cX7_a 1 = .ok (.getfield 15, 3) := dk_180 0 15 (dk_at dksX7_a_0 1 rfl rfl)
theorem dX7_a_4 : decode cX7_a 4 = .ok (.bipush 6, 2) := dk_16 6 (dk_at dksX7_a_0 4 rfl rfl)
theorem dX7_a_6 : decode cX7_a 6 = .ok (.iload_n 1, 1) := dk_27 (dk_at dksX7_a_0 6 rfl rfl)
theorem dX7_a_7 : decode cX7_a 7 = .ok (.imul, 1) := dk_104 (dk_at dksX7_a_0 7 rfl rfl)
theorem dX7_a_8 : decode cX7_a 8 = .ok (.iload_n 2, 1) := dk_28 (dk_at dksX7_a_0 8 rfl rfl)
theorem dX7_a_9 : decode cX7_a 9 = .ok (.iadd, 1) := dk_96 (dk_at dksX7_a_0 9 rfl rfl)
theorem dX7_a_10 : decode cX7_a 10 = .ok (.iaload, 1) := dk_46 (dk_at dksX7_a_0 10 rfl rfl)
theorem dX7_a_11 : decode cX7_a 11 = .ok (.ireturn, 1) := dk_172 (dk_at dksX7_a_0 11 rfl rfl)
abbrev cX7_b : ByteArray := prog_17_method_8_code
def yX7_b : MethodName := ⟨RX7, "b", "(II)I"⟩
def dkwX7_b_0 : List UInt8 := [42, 180, 0, 18, 16, 6, 27, 104, 28, 96, 46, 172]
abbrev dktX7_b_0 : List UInt8 := dkwX7_b_0 ++ []
theorem dksX7_b_0 : cX7_b.data.toList.drop 0 = dktX7_b_0 := by decide +kernel
theorem dX7_b_0 : decode cX7_b 0 = .ok (.aload_n 0, 1) := dk_42 (dk_at dksX7_b_0 0 rfl rfl)
theorem dX7_b_1 : decode cX7_b 1 = .ok (.getfield 18, 3) := dk_180 0 18 (dk_at dksX7_b_0 1 rfl rfl)
theorem dX7_b_4 : decode cX7_b 4 = .ok (.bipush 6, 2) := dk_16 6 (dk_at dksX7_b_0 4 rfl rfl)
theorem dX7_b_6 : decode cX7_b 6 = .ok (.iload_n 1, 1) := dk_27 (dk_at dksX7_b_0 6 rfl rfl)
theorem dX7_b_7 : decode cX7_b 7 = .ok (.imul, 1) := dk_104 (dk_at dksX7_b_0 7 rfl rfl)
theorem dX7_b_8 : decode cX7_b 8 = .ok (.iload_n 2, 1) := dk_28 (dk_at dksX7_b_0 8 rfl rfl)
theorem dX7_b_9 : decode cX7_b 9 = .ok (.iadd, 1) := dk_96 (dk_at dksX7_b_0 9 rfl rfl)
theorem dX7_b_10 : decode cX7_b 10 = .ok (.iaload, 1) := dk_46 (dk_at dksX7_b_0 10 rfl rfl)
theorem dX7_b_11 : decode cX7_b 11 = .ok (.ireturn, 1) := dk_172 (dk_at dksX7_b_0 11 rfl rfl)
abbrev cX7_deed : ByteArray := prog_17_method_13_code
def yX7_deed : MethodName := ⟨RX7, "deed", "(I)V"⟩
def dkwX7_deed_8 : List UInt8 := [4, 96, 181, 0, 132, 177]
abbrev dktX7_deed_8 : List UInt8 := dkwX7_deed_8 ++ []
def dkwX7_deed_7 : List UInt8 := [180, 0, 132, 104, 28, 96, 42, 27, 28, 182, 0, 129, 79, 132, 2, 1, 167, 255, 207, 42, 89, 180, 0, 132]
abbrev dktX7_deed_7 : List UInt8 := dkwX7_deed_7 ++ dktX7_deed_8
def dkwX7_deed_6 : List UInt8 := [16, 6, 42, 180, 0, 132, 104, 28, 96, 42, 27, 28, 182, 0, 125, 79, 42, 180, 0, 30, 16, 6, 42]
abbrev dktX7_deed_6 : List UInt8 := dkwX7_deed_6 ++ dktX7_deed_7
def dkwX7_deed_5 : List UInt8 := [42, 180, 0, 132, 42, 180, 0, 11, 27, 46, 79, 3, 61, 28, 16, 6, 162, 0, 49, 42, 180, 0, 27]
abbrev dktX7_deed_5 : List UInt8 := dkwX7_deed_5 ++ dktX7_deed_6
def dkwX7_deed_4 : List UInt8 := [42, 89, 180, 0, 132, 4, 100, 181, 0, 132, 42, 180, 0, 21, 42, 180, 0, 132, 27, 79, 42, 180, 0, 24]
abbrev dktX7_deed_4 : List UInt8 := dkwX7_deed_4 ++ dktX7_deed_5
def dkwX7_deed_3 : List UInt8 := [28, 46, 79, 42, 180, 0, 30, 28, 16, 6, 100, 42, 180, 0, 30, 28, 46, 79, 132, 2, 1, 167, 255, 217]
abbrev dktX7_deed_3 : List UInt8 := dkwX7_deed_3 ++ dktX7_deed_4
def dkwX7_deed_2 : List UInt8 := [167, 255, 219, 16, 6, 61, 28, 16, 60, 162, 0, 39, 42, 180, 0, 27, 28, 16, 6, 100, 42, 180, 0, 27]
abbrev dktX7_deed_2 : List UInt8 := dkwX7_deed_2 ++ dktX7_deed_3
def dkwX7_deed_1 : List UInt8 := [42, 180, 0, 21, 28, 46, 79, 42, 180, 0, 24, 28, 4, 100, 42, 180, 0, 24, 28, 46, 79, 132, 2, 1]
abbrev dktX7_deed_1 : List UInt8 := dkwX7_deed_1 ++ dktX7_deed_2
def dkwX7_deed_0 : List UInt8 := [42, 180, 0, 132, 16, 10, 160, 0, 100, 4, 61, 28, 16, 10, 162, 0, 37, 42, 180, 0, 21, 28, 4, 100]
abbrev dktX7_deed_0 : List UInt8 := dkwX7_deed_0 ++ dktX7_deed_1
theorem dksX7_deed_0 : cX7_deed.data.toList.drop 0 = dktX7_deed_0 := by decide +kernel
theorem dksX7_deed_1 : cX7_deed.data.toList.drop 24 = dktX7_deed_1 := dk_seg dksX7_deed_0 24 rfl rfl
theorem dksX7_deed_2 : cX7_deed.data.toList.drop 48 = dktX7_deed_2 := dk_seg dksX7_deed_1 24 rfl rfl
theorem dksX7_deed_3 : cX7_deed.data.toList.drop 72 = dktX7_deed_3 := dk_seg dksX7_deed_2 24 rfl rfl
theorem dksX7_deed_4 : cX7_deed.data.toList.drop 96 = dktX7_deed_4 := dk_seg dksX7_deed_3 24 rfl rfl
theorem dksX7_deed_5 : cX7_deed.data.toList.drop 120 = dktX7_deed_5 := dk_seg dksX7_deed_4 24 rfl rfl
theorem dksX7_deed_6 : cX7_deed.data.toList.drop 143 = dktX7_deed_6 := dk_seg dksX7_deed_5 23 rfl rfl
theorem dksX7_deed_7 : cX7_deed.data.toList.drop 166 = dktX7_deed_7 := dk_seg dksX7_deed_6 23 rfl rfl
theorem dksX7_deed_8 : cX7_deed.data.toList.drop 190 = dktX7_deed_8 := dk_seg dksX7_deed_7 24 rfl rfl
theorem dX7_deed_0 : decode cX7_deed 0 = .ok (.aload_n 0, 1) := dk_42 (dk_at dksX7_deed_0 0 rfl rfl)
theorem dX7_deed_1 : decode cX7_deed 1 = .ok (.getfield 132, 3) := dk_180 0 132 (dk_at dksX7_deed_0 1 rfl rfl)
theorem dX7_deed_4 : decode cX7_deed 4 = .ok (.bipush 10, 2) := dk_16 10 (dk_at dksX7_deed_0 4 rfl rfl)
theorem dX7_deed_6 : decode cX7_deed 6 = .ok (.if_icmp .ne 100, 3) := dk_160 0 100 (dk_at dksX7_deed_0 6 rfl rfl)
theorem dX7_deed_9 : decode cX7_deed 9 = .ok (.iconst 1, 1) := dk_4 (dk_at dksX7_deed_0 9 rfl rfl)
theorem dX7_deed_10 : decode cX7_deed 10 = .ok (.istore_n 2, 1) := dk_61 (dk_at dksX7_deed_0 10 rfl rfl)
theorem dX7_deed_11 : decode cX7_deed 11 = .ok (.iload_n 2, 1) := dk_28 (dk_at dksX7_deed_0 11 rfl rfl)
theorem dX7_deed_12 : decode cX7_deed 12 = .ok (.bipush 10, 2) := dk_16 10 (dk_at dksX7_deed_0 12 rfl rfl)
theorem dX7_deed_14 : decode cX7_deed 14 = .ok (.if_icmp .ge 37, 3) := dk_162 0 37 (dk_at dksX7_deed_0 14 rfl rfl)
theorem dX7_deed_17 : decode cX7_deed 17 = .ok (.aload_n 0, 1) := dk_42 (dk_at dksX7_deed_0 17 rfl rfl)
theorem dX7_deed_18 : decode cX7_deed 18 = .ok (.getfield 21, 3) := dk_180 0 21 (dk_at dksX7_deed_0 18 rfl rfl)
theorem dX7_deed_21 : decode cX7_deed 21 = .ok (.iload_n 2, 1) := dk_28 (dk_at dksX7_deed_0 21 rfl rfl)
theorem dX7_deed_22 : decode cX7_deed 22 = .ok (.iconst 1, 1) := dk_4 (dk_at dksX7_deed_0 22 rfl rfl)
theorem dX7_deed_23 : decode cX7_deed 23 = .ok (.isub, 1) := dk_100 (dk_at dksX7_deed_0 23 rfl rfl)
theorem dX7_deed_24 : decode cX7_deed 24 = .ok (.aload_n 0, 1) := dk_42 (dk_at dksX7_deed_1 0 rfl rfl)
theorem dX7_deed_25 : decode cX7_deed 25 = .ok (.getfield 21, 3) := dk_180 0 21 (dk_at dksX7_deed_1 1 rfl rfl)
theorem dX7_deed_28 : decode cX7_deed 28 = .ok (.iload_n 2, 1) := dk_28 (dk_at dksX7_deed_1 4 rfl rfl)
theorem dX7_deed_29 : decode cX7_deed 29 = .ok (.iaload, 1) := dk_46 (dk_at dksX7_deed_1 5 rfl rfl)
theorem dX7_deed_30 : decode cX7_deed 30 = .ok (.iastore, 1) := dk_79 (dk_at dksX7_deed_1 6 rfl rfl)
theorem dX7_deed_31 : decode cX7_deed 31 = .ok (.aload_n 0, 1) := dk_42 (dk_at dksX7_deed_1 7 rfl rfl)
theorem dX7_deed_32 : decode cX7_deed 32 = .ok (.getfield 24, 3) := dk_180 0 24 (dk_at dksX7_deed_1 8 rfl rfl)
theorem dX7_deed_35 : decode cX7_deed 35 = .ok (.iload_n 2, 1) := dk_28 (dk_at dksX7_deed_1 11 rfl rfl)
theorem dX7_deed_36 : decode cX7_deed 36 = .ok (.iconst 1, 1) := dk_4 (dk_at dksX7_deed_1 12 rfl rfl)
theorem dX7_deed_37 : decode cX7_deed 37 = .ok (.isub, 1) := dk_100 (dk_at dksX7_deed_1 13 rfl rfl)
theorem dX7_deed_38 : decode cX7_deed 38 = .ok (.aload_n 0, 1) := dk_42 (dk_at dksX7_deed_1 14 rfl rfl)
theorem dX7_deed_39 : decode cX7_deed 39 = .ok (.getfield 24, 3) := dk_180 0 24 (dk_at dksX7_deed_1 15 rfl rfl)
theorem dX7_deed_42 : decode cX7_deed 42 = .ok (.iload_n 2, 1) := dk_28 (dk_at dksX7_deed_1 18 rfl rfl)
theorem dX7_deed_43 : decode cX7_deed 43 = .ok (.iaload, 1) := dk_46 (dk_at dksX7_deed_1 19 rfl rfl)
theorem dX7_deed_44 : decode cX7_deed 44 = .ok (.iastore, 1) := dk_79 (dk_at dksX7_deed_1 20 rfl rfl)
theorem dX7_deed_45 : decode cX7_deed 45 = .ok (.iinc 2 1, 3) := dk_132 2 1 (dk_at dksX7_deed_1 21 rfl rfl)
theorem dX7_deed_48 : decode cX7_deed 48 = .ok (.goto (-37), 3) := dk_167 255 219 (dk_at dksX7_deed_2 0 rfl rfl)
theorem dX7_deed_51 : decode cX7_deed 51 = .ok (.bipush 6, 2) := dk_16 6 (dk_at dksX7_deed_2 3 rfl rfl)
theorem dX7_deed_53 : decode cX7_deed 53 = .ok (.istore_n 2, 1) := dk_61 (dk_at dksX7_deed_2 5 rfl rfl)
theorem dX7_deed_54 : decode cX7_deed 54 = .ok (.iload_n 2, 1) := dk_28 (dk_at dksX7_deed_2 6 rfl rfl)
theorem dX7_deed_55 : decode cX7_deed 55 = .ok (.bipush 60, 2) := dk_16 60 (dk_at dksX7_deed_2 7 rfl rfl)
theorem dX7_deed_57 : decode cX7_deed 57 = .ok (.if_icmp .ge 39, 3) := dk_162 0 39 (dk_at dksX7_deed_2 9 rfl rfl)
theorem dX7_deed_60 : decode cX7_deed 60 = .ok (.aload_n 0, 1) := dk_42 (dk_at dksX7_deed_2 12 rfl rfl)
theorem dX7_deed_61 : decode cX7_deed 61 = .ok (.getfield 27, 3) := dk_180 0 27 (dk_at dksX7_deed_2 13 rfl rfl)
theorem dX7_deed_64 : decode cX7_deed 64 = .ok (.iload_n 2, 1) := dk_28 (dk_at dksX7_deed_2 16 rfl rfl)
theorem dX7_deed_65 : decode cX7_deed 65 = .ok (.bipush 6, 2) := dk_16 6 (dk_at dksX7_deed_2 17 rfl rfl)
theorem dX7_deed_67 : decode cX7_deed 67 = .ok (.isub, 1) := dk_100 (dk_at dksX7_deed_2 19 rfl rfl)
theorem dX7_deed_68 : decode cX7_deed 68 = .ok (.aload_n 0, 1) := dk_42 (dk_at dksX7_deed_2 20 rfl rfl)
theorem dX7_deed_69 : decode cX7_deed 69 = .ok (.getfield 27, 3) := dk_180 0 27 (dk_at dksX7_deed_2 21 rfl rfl)
theorem dX7_deed_72 : decode cX7_deed 72 = .ok (.iload_n 2, 1) := dk_28 (dk_at dksX7_deed_3 0 rfl rfl)
theorem dX7_deed_73 : decode cX7_deed 73 = .ok (.iaload, 1) := dk_46 (dk_at dksX7_deed_3 1 rfl rfl)
theorem dX7_deed_74 : decode cX7_deed 74 = .ok (.iastore, 1) := dk_79 (dk_at dksX7_deed_3 2 rfl rfl)
theorem dX7_deed_75 : decode cX7_deed 75 = .ok (.aload_n 0, 1) := dk_42 (dk_at dksX7_deed_3 3 rfl rfl)
theorem dX7_deed_76 : decode cX7_deed 76 = .ok (.getfield 30, 3) := dk_180 0 30 (dk_at dksX7_deed_3 4 rfl rfl)
theorem dX7_deed_79 : decode cX7_deed 79 = .ok (.iload_n 2, 1) := dk_28 (dk_at dksX7_deed_3 7 rfl rfl)
theorem dX7_deed_80 : decode cX7_deed 80 = .ok (.bipush 6, 2) := dk_16 6 (dk_at dksX7_deed_3 8 rfl rfl)
theorem dX7_deed_82 : decode cX7_deed 82 = .ok (.isub, 1) := dk_100 (dk_at dksX7_deed_3 10 rfl rfl)
theorem dX7_deed_83 : decode cX7_deed 83 = .ok (.aload_n 0, 1) := dk_42 (dk_at dksX7_deed_3 11 rfl rfl)
theorem dX7_deed_84 : decode cX7_deed 84 = .ok (.getfield 30, 3) := dk_180 0 30 (dk_at dksX7_deed_3 12 rfl rfl)
theorem dX7_deed_87 : decode cX7_deed 87 = .ok (.iload_n 2, 1) := dk_28 (dk_at dksX7_deed_3 15 rfl rfl)
theorem dX7_deed_88 : decode cX7_deed 88 = .ok (.iaload, 1) := dk_46 (dk_at dksX7_deed_3 16 rfl rfl)
theorem dX7_deed_89 : decode cX7_deed 89 = .ok (.iastore, 1) := dk_79 (dk_at dksX7_deed_3 17 rfl rfl)
theorem dX7_deed_90 : decode cX7_deed 90 = .ok (.iinc 2 1, 3) := dk_132 2 1 (dk_at dksX7_deed_3 18 rfl rfl)
theorem dX7_deed_93 : decode cX7_deed 93 = .ok (.goto (-39), 3) := dk_167 255 217 (dk_at dksX7_deed_3 21 rfl rfl)
theorem dX7_deed_96 : decode cX7_deed 96 = .ok (.aload_n 0, 1) := dk_42 (dk_at dksX7_deed_4 0 rfl rfl)
theorem dX7_deed_97 : decode cX7_deed 97 = .ok (.dup, 1) := dk_89 (dk_at dksX7_deed_4 1 rfl rfl)
theorem dX7_deed_98 : decode cX7_deed 98 = .ok (.getfield 132, 3) := dk_180 0 132 (dk_at dksX7_deed_4 2 rfl rfl)
theorem dX7_deed_101 : decode cX7_deed 101 = .ok (.iconst 1, 1) := dk_4 (dk_at dksX7_deed_4 5 rfl rfl)
theorem dX7_deed_102 : decode cX7_deed 102 = .ok (.isub, 1) := dk_100 (dk_at dksX7_deed_4 6 rfl rfl)
theorem dX7_deed_103 : decode cX7_deed 103 = .ok (.putfield 132, 3) := dk_181 0 132 (dk_at dksX7_deed_4 7 rfl rfl)
theorem dX7_deed_106 : decode cX7_deed 106 = .ok (.aload_n 0, 1) := dk_42 (dk_at dksX7_deed_4 10 rfl rfl)
theorem dX7_deed_107 : decode cX7_deed 107 = .ok (.getfield 21, 3) := dk_180 0 21 (dk_at dksX7_deed_4 11 rfl rfl)
theorem dX7_deed_110 : decode cX7_deed 110 = .ok (.aload_n 0, 1) := dk_42 (dk_at dksX7_deed_4 14 rfl rfl)
theorem dX7_deed_111 : decode cX7_deed 111 = .ok (.getfield 132, 3) := dk_180 0 132 (dk_at dksX7_deed_4 15 rfl rfl)
theorem dX7_deed_114 : decode cX7_deed 114 = .ok (.iload_n 1, 1) := dk_27 (dk_at dksX7_deed_4 18 rfl rfl)
theorem dX7_deed_115 : decode cX7_deed 115 = .ok (.iastore, 1) := dk_79 (dk_at dksX7_deed_4 19 rfl rfl)
theorem dX7_deed_116 : decode cX7_deed 116 = .ok (.aload_n 0, 1) := dk_42 (dk_at dksX7_deed_4 20 rfl rfl)
theorem dX7_deed_117 : decode cX7_deed 117 = .ok (.getfield 24, 3) := dk_180 0 24 (dk_at dksX7_deed_4 21 rfl rfl)
theorem dX7_deed_120 : decode cX7_deed 120 = .ok (.aload_n 0, 1) := dk_42 (dk_at dksX7_deed_5 0 rfl rfl)
theorem dX7_deed_121 : decode cX7_deed 121 = .ok (.getfield 132, 3) := dk_180 0 132 (dk_at dksX7_deed_5 1 rfl rfl)
theorem dX7_deed_124 : decode cX7_deed 124 = .ok (.aload_n 0, 1) := dk_42 (dk_at dksX7_deed_5 4 rfl rfl)
theorem dX7_deed_125 : decode cX7_deed 125 = .ok (.getfield 11, 3) := dk_180 0 11 (dk_at dksX7_deed_5 5 rfl rfl)
theorem dX7_deed_128 : decode cX7_deed 128 = .ok (.iload_n 1, 1) := dk_27 (dk_at dksX7_deed_5 8 rfl rfl)
theorem dX7_deed_129 : decode cX7_deed 129 = .ok (.iaload, 1) := dk_46 (dk_at dksX7_deed_5 9 rfl rfl)
theorem dX7_deed_130 : decode cX7_deed 130 = .ok (.iastore, 1) := dk_79 (dk_at dksX7_deed_5 10 rfl rfl)
theorem dX7_deed_131 : decode cX7_deed 131 = .ok (.iconst 0, 1) := dk_3 (dk_at dksX7_deed_5 11 rfl rfl)
theorem dX7_deed_132 : decode cX7_deed 132 = .ok (.istore_n 2, 1) := dk_61 (dk_at dksX7_deed_5 12 rfl rfl)
theorem dX7_deed_133 : decode cX7_deed 133 = .ok (.iload_n 2, 1) := dk_28 (dk_at dksX7_deed_5 13 rfl rfl)
theorem dX7_deed_134 : decode cX7_deed 134 = .ok (.bipush 6, 2) := dk_16 6 (dk_at dksX7_deed_5 14 rfl rfl)
theorem dX7_deed_136 : decode cX7_deed 136 = .ok (.if_icmp .ge 49, 3) := dk_162 0 49 (dk_at dksX7_deed_5 16 rfl rfl)
theorem dX7_deed_139 : decode cX7_deed 139 = .ok (.aload_n 0, 1) := dk_42 (dk_at dksX7_deed_5 19 rfl rfl)
theorem dX7_deed_140 : decode cX7_deed 140 = .ok (.getfield 27, 3) := dk_180 0 27 (dk_at dksX7_deed_5 20 rfl rfl)
theorem dX7_deed_143 : decode cX7_deed 143 = .ok (.bipush 6, 2) := dk_16 6 (dk_at dksX7_deed_6 0 rfl rfl)
theorem dX7_deed_145 : decode cX7_deed 145 = .ok (.aload_n 0, 1) := dk_42 (dk_at dksX7_deed_6 2 rfl rfl)
theorem dX7_deed_146 : decode cX7_deed 146 = .ok (.getfield 132, 3) := dk_180 0 132 (dk_at dksX7_deed_6 3 rfl rfl)
theorem dX7_deed_149 : decode cX7_deed 149 = .ok (.imul, 1) := dk_104 (dk_at dksX7_deed_6 6 rfl rfl)
theorem dX7_deed_150 : decode cX7_deed 150 = .ok (.iload_n 2, 1) := dk_28 (dk_at dksX7_deed_6 7 rfl rfl)
theorem dX7_deed_151 : decode cX7_deed 151 = .ok (.iadd, 1) := dk_96 (dk_at dksX7_deed_6 8 rfl rfl)
theorem dX7_deed_152 : decode cX7_deed 152 = .ok (.aload_n 0, 1) := dk_42 (dk_at dksX7_deed_6 9 rfl rfl)
theorem dX7_deed_153 : decode cX7_deed 153 = .ok (.iload_n 1, 1) := dk_27 (dk_at dksX7_deed_6 10 rfl rfl)
theorem dX7_deed_154 : decode cX7_deed 154 = .ok (.iload_n 2, 1) := dk_28 (dk_at dksX7_deed_6 11 rfl rfl)
theorem dX7_deed_155 : decode cX7_deed 155 = .ok (.invokevirtual 125, 3) := dk_182 0 125 (dk_at dksX7_deed_6 12 rfl rfl)
theorem dX7_deed_158 : decode cX7_deed 158 = .ok (.iastore, 1) := dk_79 (dk_at dksX7_deed_6 15 rfl rfl)
theorem dX7_deed_159 : decode cX7_deed 159 = .ok (.aload_n 0, 1) := dk_42 (dk_at dksX7_deed_6 16 rfl rfl)
theorem dX7_deed_160 : decode cX7_deed 160 = .ok (.getfield 30, 3) := dk_180 0 30 (dk_at dksX7_deed_6 17 rfl rfl)
theorem dX7_deed_163 : decode cX7_deed 163 = .ok (.bipush 6, 2) := dk_16 6 (dk_at dksX7_deed_6 20 rfl rfl)
theorem dX7_deed_165 : decode cX7_deed 165 = .ok (.aload_n 0, 1) := dk_42 (dk_at dksX7_deed_6 22 rfl rfl)
theorem dX7_deed_166 : decode cX7_deed 166 = .ok (.getfield 132, 3) := dk_180 0 132 (dk_at dksX7_deed_7 0 rfl rfl)
theorem dX7_deed_169 : decode cX7_deed 169 = .ok (.imul, 1) := dk_104 (dk_at dksX7_deed_7 3 rfl rfl)
theorem dX7_deed_170 : decode cX7_deed 170 = .ok (.iload_n 2, 1) := dk_28 (dk_at dksX7_deed_7 4 rfl rfl)
theorem dX7_deed_171 : decode cX7_deed 171 = .ok (.iadd, 1) := dk_96 (dk_at dksX7_deed_7 5 rfl rfl)
theorem dX7_deed_172 : decode cX7_deed 172 = .ok (.aload_n 0, 1) := dk_42 (dk_at dksX7_deed_7 6 rfl rfl)
theorem dX7_deed_173 : decode cX7_deed 173 = .ok (.iload_n 1, 1) := dk_27 (dk_at dksX7_deed_7 7 rfl rfl)
theorem dX7_deed_174 : decode cX7_deed 174 = .ok (.iload_n 2, 1) := dk_28 (dk_at dksX7_deed_7 8 rfl rfl)
theorem dX7_deed_175 : decode cX7_deed 175 = .ok (.invokevirtual 129, 3) := dk_182 0 129 (dk_at dksX7_deed_7 9 rfl rfl)
theorem dX7_deed_178 : decode cX7_deed 178 = .ok (.iastore, 1) := dk_79 (dk_at dksX7_deed_7 12 rfl rfl)
theorem dX7_deed_179 : decode cX7_deed 179 = .ok (.iinc 2 1, 3) := dk_132 2 1 (dk_at dksX7_deed_7 13 rfl rfl)
theorem dX7_deed_182 : decode cX7_deed 182 = .ok (.goto (-49), 3) := dk_167 255 207 (dk_at dksX7_deed_7 16 rfl rfl)
theorem dX7_deed_185 : decode cX7_deed 185 = .ok (.aload_n 0, 1) := dk_42 (dk_at dksX7_deed_7 19 rfl rfl)
theorem dX7_deed_186 : decode cX7_deed 186 = .ok (.dup, 1) := dk_89 (dk_at dksX7_deed_7 20 rfl rfl)
theorem dX7_deed_187 : decode cX7_deed 187 = .ok (.getfield 132, 3) := dk_180 0 132 (dk_at dksX7_deed_7 21 rfl rfl)
theorem dX7_deed_190 : decode cX7_deed 190 = .ok (.iconst 1, 1) := dk_4 (dk_at dksX7_deed_8 0 rfl rfl)
theorem dX7_deed_191 : decode cX7_deed 191 = .ok (.iadd, 1) := dk_96 (dk_at dksX7_deed_8 1 rfl rfl)
theorem dX7_deed_192 : decode cX7_deed 192 = .ok (.putfield 132, 3) := dk_181 0 132 (dk_at dksX7_deed_8 2 rfl rfl)
theorem dX7_deed_195 : decode cX7_deed 195 = .ok (.return_, 1) := dk_177 (dk_at dksX7_deed_8 5 rfl rfl)
abbrev cX7_comes : ByteArray := prog_17_method_10_code
def yX7_comes : MethodName := ⟨RX7, "comes", "(III)V"⟩
def dkwX7_comes_1 : List UInt8 := [104, 42, 180, 0, 11, 27, 46, 96, 29, 79, 42, 180, 0, 11, 27, 92, 46, 4, 96, 79, 177]
abbrev dktX7_comes_1 : List UInt8 := dkwX7_comes_1 ++ []
def dkwX7_comes_0 : List UInt8 := [42, 180, 0, 15, 16, 6, 27, 104, 42, 180, 0, 11, 27, 46, 96, 28, 79, 42, 180, 0, 18, 16, 6, 27]
abbrev dktX7_comes_0 : List UInt8 := dkwX7_comes_0 ++ dktX7_comes_1
theorem dksX7_comes_0 : cX7_comes.data.toList.drop 0 = dktX7_comes_0 := by decide +kernel
theorem dksX7_comes_1 : cX7_comes.data.toList.drop 24 = dktX7_comes_1 := dk_seg dksX7_comes_0 24 rfl rfl
theorem dX7_comes_0 : decode cX7_comes 0 = .ok (.aload_n 0, 1) := dk_42 (dk_at dksX7_comes_0 0 rfl rfl)
theorem dX7_comes_1 : decode cX7_comes 1 = .ok (.getfield 15, 3) := dk_180 0 15 (dk_at dksX7_comes_0 1 rfl rfl)
theorem dX7_comes_4 : decode cX7_comes 4 = .ok (.bipush 6, 2) := dk_16 6 (dk_at dksX7_comes_0 4 rfl rfl)
theorem dX7_comes_6 : decode cX7_comes 6 = .ok (.iload_n 1, 1) := dk_27 (dk_at dksX7_comes_0 6 rfl rfl)
theorem dX7_comes_7 : decode cX7_comes 7 = .ok (.imul, 1) := dk_104 (dk_at dksX7_comes_0 7 rfl rfl)
theorem dX7_comes_8 : decode cX7_comes 8 = .ok (.aload_n 0, 1) := dk_42 (dk_at dksX7_comes_0 8 rfl rfl)
theorem dX7_comes_9 : decode cX7_comes 9 = .ok (.getfield 11, 3) := dk_180 0 11 (dk_at dksX7_comes_0 9 rfl rfl)
theorem dX7_comes_12 : decode cX7_comes 12 = .ok (.iload_n 1, 1) := dk_27 (dk_at dksX7_comes_0 12 rfl rfl)
theorem dX7_comes_13 : decode cX7_comes 13 = .ok (.iaload, 1) := dk_46 (dk_at dksX7_comes_0 13 rfl rfl)
theorem dX7_comes_14 : decode cX7_comes 14 = .ok (.iadd, 1) := dk_96 (dk_at dksX7_comes_0 14 rfl rfl)
theorem dX7_comes_15 : decode cX7_comes 15 = .ok (.iload_n 2, 1) := dk_28 (dk_at dksX7_comes_0 15 rfl rfl)
theorem dX7_comes_16 : decode cX7_comes 16 = .ok (.iastore, 1) := dk_79 (dk_at dksX7_comes_0 16 rfl rfl)
theorem dX7_comes_17 : decode cX7_comes 17 = .ok (.aload_n 0, 1) := dk_42 (dk_at dksX7_comes_0 17 rfl rfl)
theorem dX7_comes_18 : decode cX7_comes 18 = .ok (.getfield 18, 3) := dk_180 0 18 (dk_at dksX7_comes_0 18 rfl rfl)
theorem dX7_comes_21 : decode cX7_comes 21 = .ok (.bipush 6, 2) := dk_16 6 (dk_at dksX7_comes_0 21 rfl rfl)
theorem dX7_comes_23 : decode cX7_comes 23 = .ok (.iload_n 1, 1) := dk_27 (dk_at dksX7_comes_0 23 rfl rfl)
theorem dX7_comes_24 : decode cX7_comes 24 = .ok (.imul, 1) := dk_104 (dk_at dksX7_comes_1 0 rfl rfl)
theorem dX7_comes_25 : decode cX7_comes 25 = .ok (.aload_n 0, 1) := dk_42 (dk_at dksX7_comes_1 1 rfl rfl)
theorem dX7_comes_26 : decode cX7_comes 26 = .ok (.getfield 11, 3) := dk_180 0 11 (dk_at dksX7_comes_1 2 rfl rfl)
theorem dX7_comes_29 : decode cX7_comes 29 = .ok (.iload_n 1, 1) := dk_27 (dk_at dksX7_comes_1 5 rfl rfl)
theorem dX7_comes_30 : decode cX7_comes 30 = .ok (.iaload, 1) := dk_46 (dk_at dksX7_comes_1 6 rfl rfl)
theorem dX7_comes_31 : decode cX7_comes 31 = .ok (.iadd, 1) := dk_96 (dk_at dksX7_comes_1 7 rfl rfl)
theorem dX7_comes_32 : decode cX7_comes 32 = .ok (.iload_n 3, 1) := dk_29 (dk_at dksX7_comes_1 8 rfl rfl)
theorem dX7_comes_33 : decode cX7_comes 33 = .ok (.iastore, 1) := dk_79 (dk_at dksX7_comes_1 9 rfl rfl)
theorem dX7_comes_34 : decode cX7_comes 34 = .ok (.aload_n 0, 1) := dk_42 (dk_at dksX7_comes_1 10 rfl rfl)
theorem dX7_comes_35 : decode cX7_comes 35 = .ok (.getfield 11, 3) := dk_180 0 11 (dk_at dksX7_comes_1 11 rfl rfl)
theorem dX7_comes_38 : decode cX7_comes 38 = .ok (.iload_n 1, 1) := dk_27 (dk_at dksX7_comes_1 14 rfl rfl)
theorem dX7_comes_39 : decode cX7_comes 39 = .ok (.dup2, 1) := dk_92 (dk_at dksX7_comes_1 15 rfl rfl)
theorem dX7_comes_40 : decode cX7_comes 40 = .ok (.iaload, 1) := dk_46 (dk_at dksX7_comes_1 16 rfl rfl)
theorem dX7_comes_41 : decode cX7_comes 41 = .ok (.iconst 1, 1) := dk_4 (dk_at dksX7_comes_1 17 rfl rfl)
theorem dX7_comes_42 : decode cX7_comes 42 = .ok (.iadd, 1) := dk_96 (dk_at dksX7_comes_1 18 rfl rfl)
theorem dX7_comes_43 : decode cX7_comes 43 = .ok (.iastore, 1) := dk_79 (dk_at dksX7_comes_1 19 rfl rfl)
theorem dX7_comes_44 : decode cX7_comes 44 = .ok (.return_, 1) := dk_177 (dk_at dksX7_comes_1 20 rfl rfl)
abbrev cX7_drop : ByteArray := prog_17_method_16_code
def yX7_drop : MethodName := ⟨RX7, "drop", "(II)I"⟩
def dkwX7_drop_1 : List UInt8 := [180, 0, 11, 27, 46, 172]
abbrev dktX7_drop_1 : List UInt8 := dkwX7_drop_1 ++ []
def dkwX7_drop_0 : List UInt8 := [42, 27, 28, 182, 0, 155, 154, 0, 5, 2, 172, 42, 27, 182, 0, 147, 42, 27, 28, 182, 0, 159, 42]
abbrev dktX7_drop_0 : List UInt8 := dkwX7_drop_0 ++ dktX7_drop_1
theorem dksX7_drop_0 : cX7_drop.data.toList.drop 0 = dktX7_drop_0 := by decide +kernel
theorem dksX7_drop_1 : cX7_drop.data.toList.drop 23 = dktX7_drop_1 := dk_seg dksX7_drop_0 23 rfl rfl
theorem dX7_drop_0 : decode cX7_drop 0 = .ok (.aload_n 0, 1) := dk_42 (dk_at dksX7_drop_0 0 rfl rfl)
theorem dX7_drop_1 : decode cX7_drop 1 = .ok (.iload_n 1, 1) := dk_27 (dk_at dksX7_drop_0 1 rfl rfl)
theorem dX7_drop_2 : decode cX7_drop 2 = .ok (.iload_n 2, 1) := dk_28 (dk_at dksX7_drop_0 2 rfl rfl)
theorem dX7_drop_3 : decode cX7_drop 3 = .ok (.invokevirtual 155, 3) := dk_182 0 155 (dk_at dksX7_drop_0 3 rfl rfl)
theorem dX7_drop_6 : decode cX7_drop 6 = .ok (.ifCond .ne 5, 3) := dk_154 0 5 (dk_at dksX7_drop_0 6 rfl rfl)
theorem dX7_drop_9 : decode cX7_drop 9 = .ok (.iconst (-1), 1) := dk_2 (dk_at dksX7_drop_0 9 rfl rfl)
theorem dX7_drop_10 : decode cX7_drop 10 = .ok (.ireturn, 1) := dk_172 (dk_at dksX7_drop_0 10 rfl rfl)
theorem dX7_drop_11 : decode cX7_drop 11 = .ok (.aload_n 0, 1) := dk_42 (dk_at dksX7_drop_0 11 rfl rfl)
theorem dX7_drop_12 : decode cX7_drop 12 = .ok (.iload_n 1, 1) := dk_27 (dk_at dksX7_drop_0 12 rfl rfl)
theorem dX7_drop_13 : decode cX7_drop 13 = .ok (.invokevirtual 147, 3) := dk_182 0 147 (dk_at dksX7_drop_0 13 rfl rfl)
theorem dX7_drop_16 : decode cX7_drop 16 = .ok (.aload_n 0, 1) := dk_42 (dk_at dksX7_drop_0 16 rfl rfl)
theorem dX7_drop_17 : decode cX7_drop 17 = .ok (.iload_n 1, 1) := dk_27 (dk_at dksX7_drop_0 17 rfl rfl)
theorem dX7_drop_18 : decode cX7_drop 18 = .ok (.iload_n 2, 1) := dk_28 (dk_at dksX7_drop_0 18 rfl rfl)
theorem dX7_drop_19 : decode cX7_drop 19 = .ok (.invokevirtual 159, 3) := dk_182 0 159 (dk_at dksX7_drop_0 19 rfl rfl)
theorem dX7_drop_22 : decode cX7_drop 22 = .ok (.aload_n 0, 1) := dk_42 (dk_at dksX7_drop_0 22 rfl rfl)
theorem dX7_drop_23 : decode cX7_drop 23 = .ok (.getfield 11, 3) := dk_180 0 11 (dk_at dksX7_drop_1 0 rfl rfl)
theorem dX7_drop_26 : decode cX7_drop 26 = .ok (.iload_n 1, 1) := dk_27 (dk_at dksX7_drop_1 3 rfl rfl)
theorem dX7_drop_27 : decode cX7_drop 27 = .ok (.iaload, 1) := dk_46 (dk_at dksX7_drop_1 4 rfl rfl)
theorem dX7_drop_28 : decode cX7_drop 28 = .ok (.ireturn, 1) := dk_172 (dk_at dksX7_drop_1 5 rfl rfl)
abbrev cX7_isGenerator : ByteArray := prog_17_method_15_code
def yX7_isGenerator : MethodName := ⟨RX7, "isGenerator", "(II)Z"⟩
def dkwX7_isGenerator_1 : List UInt8 := [153, 0, 7, 4, 167, 0, 4, 3, 172]
abbrev dktX7_isGenerator_1 : List UInt8 := dkwX7_isGenerator_1 ++ []
def dkwX7_isGenerator_0 : List UInt8 := [27, 184, 0, 136, 153, 0, 25, 28, 133, 9, 42, 180, 0, 11, 27, 46, 4, 100, 133, 184, 0, 115]
abbrev dktX7_isGenerator_0 : List UInt8 := dkwX7_isGenerator_0 ++ dktX7_isGenerator_1
theorem dksX7_isGenerator_0 : cX7_isGenerator.data.toList.drop 0 = dktX7_isGenerator_0 := by decide +kernel
theorem dksX7_isGenerator_1 : cX7_isGenerator.data.toList.drop 22 = dktX7_isGenerator_1 := dk_seg dksX7_isGenerator_0 22 rfl rfl
theorem dX7_isGenerator_0 : decode cX7_isGenerator 0 = .ok (.iload_n 1, 1) := dk_27 (dk_at dksX7_isGenerator_0 0 rfl rfl)
theorem dX7_isGenerator_1 : decode cX7_isGenerator 1 = .ok (.invokestatic 136, 3) := dk_184 0 136 (dk_at dksX7_isGenerator_0 1 rfl rfl)
theorem dX7_isGenerator_4 : decode cX7_isGenerator 4 = .ok (.ifCond .eq 25, 3) := dk_153 0 25 (dk_at dksX7_isGenerator_0 4 rfl rfl)
theorem dX7_isGenerator_7 : decode cX7_isGenerator 7 = .ok (.iload_n 2, 1) := dk_28 (dk_at dksX7_isGenerator_0 7 rfl rfl)
theorem dX7_isGenerator_8 : decode cX7_isGenerator 8 = .ok (.i2l, 1) := dk_133 (dk_at dksX7_isGenerator_0 8 rfl rfl)
theorem dX7_isGenerator_9 : decode cX7_isGenerator 9 = .ok (.lconst 0, 1) := dk_9 (dk_at dksX7_isGenerator_0 9 rfl rfl)
theorem dX7_isGenerator_10 : decode cX7_isGenerator 10 = .ok (.aload_n 0, 1) := dk_42 (dk_at dksX7_isGenerator_0 10 rfl rfl)
theorem dX7_isGenerator_11 : decode cX7_isGenerator 11 = .ok (.getfield 11, 3) := dk_180 0 11 (dk_at dksX7_isGenerator_0 11 rfl rfl)
theorem dX7_isGenerator_14 : decode cX7_isGenerator 14 = .ok (.iload_n 1, 1) := dk_27 (dk_at dksX7_isGenerator_0 14 rfl rfl)
theorem dX7_isGenerator_15 : decode cX7_isGenerator 15 = .ok (.iaload, 1) := dk_46 (dk_at dksX7_isGenerator_0 15 rfl rfl)
theorem dX7_isGenerator_16 : decode cX7_isGenerator 16 = .ok (.iconst 1, 1) := dk_4 (dk_at dksX7_isGenerator_0 16 rfl rfl)
theorem dX7_isGenerator_17 : decode cX7_isGenerator 17 = .ok (.isub, 1) := dk_100 (dk_at dksX7_isGenerator_0 17 rfl rfl)
theorem dX7_isGenerator_18 : decode cX7_isGenerator 18 = .ok (.i2l, 1) := dk_133 (dk_at dksX7_isGenerator_0 18 rfl rfl)
theorem dX7_isGenerator_19 : decode cX7_isGenerator 19 = .ok (.invokestatic 115, 3) := dk_184 0 115 (dk_at dksX7_isGenerator_0 19 rfl rfl)
theorem dX7_isGenerator_22 : decode cX7_isGenerator 22 = .ok (.ifCond .eq 7, 3) := dk_153 0 7 (dk_at dksX7_isGenerator_1 0 rfl rfl)
theorem dX7_isGenerator_25 : decode cX7_isGenerator 25 = .ok (.iconst 1, 1) := dk_4 (dk_at dksX7_isGenerator_1 3 rfl rfl)
theorem dX7_isGenerator_26 : decode cX7_isGenerator 26 = .ok (.goto 4, 3) := dk_167 0 4 (dk_at dksX7_isGenerator_1 4 rfl rfl)
theorem dX7_isGenerator_29 : decode cX7_isGenerator 29 = .ok (.iconst 0, 1) := dk_3 (dk_at dksX7_isGenerator_1 7 rfl rfl)
theorem dX7_isGenerator_30 : decode cX7_isGenerator 30 = .ok (.ireturn, 1) := dk_172 (dk_at dksX7_isGenerator_1 8 rfl rfl)
abbrev cX7_goes : ByteArray := prog_17_method_11_code
def yX7_goes : MethodName := ⟨RX7, "goes", "(II)V"⟩
def dkwX7_goes_2 : List UInt8 := [4, 96, 46, 79, 132, 3, 1, 167, 255, 208, 42, 180, 0, 11, 27, 92, 46, 4, 100, 79, 177]
abbrev dktX7_goes_2 : List UInt8 := dkwX7_goes_2 ++ []
def dkwX7_goes_1 : List UInt8 := [42, 180, 0, 15, 29, 42, 180, 0, 15, 29, 4, 96, 46, 79, 42, 180, 0, 18, 29, 42, 180, 0, 18, 29]
abbrev dktX7_goes_1 : List UInt8 := dkwX7_goes_1 ++ dktX7_goes_2
def dkwX7_goes_0 : List UInt8 := [16, 6, 27, 104, 28, 96, 62, 29, 16, 6, 27, 104, 42, 180, 0, 11, 27, 46, 96, 4, 100, 162, 0, 37]
abbrev dktX7_goes_0 : List UInt8 := dkwX7_goes_0 ++ dktX7_goes_1
theorem dksX7_goes_0 : cX7_goes.data.toList.drop 0 = dktX7_goes_0 := by decide +kernel
theorem dksX7_goes_1 : cX7_goes.data.toList.drop 24 = dktX7_goes_1 := dk_seg dksX7_goes_0 24 rfl rfl
theorem dksX7_goes_2 : cX7_goes.data.toList.drop 48 = dktX7_goes_2 := dk_seg dksX7_goes_1 24 rfl rfl
theorem dX7_goes_0 : decode cX7_goes 0 = .ok (.bipush 6, 2) := dk_16 6 (dk_at dksX7_goes_0 0 rfl rfl)
theorem dX7_goes_2 : decode cX7_goes 2 = .ok (.iload_n 1, 1) := dk_27 (dk_at dksX7_goes_0 2 rfl rfl)
theorem dX7_goes_3 : decode cX7_goes 3 = .ok (.imul, 1) := dk_104 (dk_at dksX7_goes_0 3 rfl rfl)
theorem dX7_goes_4 : decode cX7_goes 4 = .ok (.iload_n 2, 1) := dk_28 (dk_at dksX7_goes_0 4 rfl rfl)
theorem dX7_goes_5 : decode cX7_goes 5 = .ok (.iadd, 1) := dk_96 (dk_at dksX7_goes_0 5 rfl rfl)
theorem dX7_goes_6 : decode cX7_goes 6 = .ok (.istore_n 3, 1) := dk_62 (dk_at dksX7_goes_0 6 rfl rfl)
theorem dX7_goes_7 : decode cX7_goes 7 = .ok (.iload_n 3, 1) := dk_29 (dk_at dksX7_goes_0 7 rfl rfl)
theorem dX7_goes_8 : decode cX7_goes 8 = .ok (.bipush 6, 2) := dk_16 6 (dk_at dksX7_goes_0 8 rfl rfl)
theorem dX7_goes_10 : decode cX7_goes 10 = .ok (.iload_n 1, 1) := dk_27 (dk_at dksX7_goes_0 10 rfl rfl)
theorem dX7_goes_11 : decode cX7_goes 11 = .ok (.imul, 1) := dk_104 (dk_at dksX7_goes_0 11 rfl rfl)
theorem dX7_goes_12 : decode cX7_goes 12 = .ok (.aload_n 0, 1) := dk_42 (dk_at dksX7_goes_0 12 rfl rfl)
theorem dX7_goes_13 : decode cX7_goes 13 = .ok (.getfield 11, 3) := dk_180 0 11 (dk_at dksX7_goes_0 13 rfl rfl)
theorem dX7_goes_16 : decode cX7_goes 16 = .ok (.iload_n 1, 1) := dk_27 (dk_at dksX7_goes_0 16 rfl rfl)
theorem dX7_goes_17 : decode cX7_goes 17 = .ok (.iaload, 1) := dk_46 (dk_at dksX7_goes_0 17 rfl rfl)
theorem dX7_goes_18 : decode cX7_goes 18 = .ok (.iadd, 1) := dk_96 (dk_at dksX7_goes_0 18 rfl rfl)
theorem dX7_goes_19 : decode cX7_goes 19 = .ok (.iconst 1, 1) := dk_4 (dk_at dksX7_goes_0 19 rfl rfl)
theorem dX7_goes_20 : decode cX7_goes 20 = .ok (.isub, 1) := dk_100 (dk_at dksX7_goes_0 20 rfl rfl)
theorem dX7_goes_21 : decode cX7_goes 21 = .ok (.if_icmp .ge 37, 3) := dk_162 0 37 (dk_at dksX7_goes_0 21 rfl rfl)
theorem dX7_goes_24 : decode cX7_goes 24 = .ok (.aload_n 0, 1) := dk_42 (dk_at dksX7_goes_1 0 rfl rfl)
theorem dX7_goes_25 : decode cX7_goes 25 = .ok (.getfield 15, 3) := dk_180 0 15 (dk_at dksX7_goes_1 1 rfl rfl)
theorem dX7_goes_28 : decode cX7_goes 28 = .ok (.iload_n 3, 1) := dk_29 (dk_at dksX7_goes_1 4 rfl rfl)
theorem dX7_goes_29 : decode cX7_goes 29 = .ok (.aload_n 0, 1) := dk_42 (dk_at dksX7_goes_1 5 rfl rfl)
theorem dX7_goes_30 : decode cX7_goes 30 = .ok (.getfield 15, 3) := dk_180 0 15 (dk_at dksX7_goes_1 6 rfl rfl)
theorem dX7_goes_33 : decode cX7_goes 33 = .ok (.iload_n 3, 1) := dk_29 (dk_at dksX7_goes_1 9 rfl rfl)
theorem dX7_goes_34 : decode cX7_goes 34 = .ok (.iconst 1, 1) := dk_4 (dk_at dksX7_goes_1 10 rfl rfl)
theorem dX7_goes_35 : decode cX7_goes 35 = .ok (.iadd, 1) := dk_96 (dk_at dksX7_goes_1 11 rfl rfl)
theorem dX7_goes_36 : decode cX7_goes 36 = .ok (.iaload, 1) := dk_46 (dk_at dksX7_goes_1 12 rfl rfl)
theorem dX7_goes_37 : decode cX7_goes 37 = .ok (.iastore, 1) := dk_79 (dk_at dksX7_goes_1 13 rfl rfl)
theorem dX7_goes_38 : decode cX7_goes 38 = .ok (.aload_n 0, 1) := dk_42 (dk_at dksX7_goes_1 14 rfl rfl)
theorem dX7_goes_39 : decode cX7_goes 39 = .ok (.getfield 18, 3) := dk_180 0 18 (dk_at dksX7_goes_1 15 rfl rfl)
theorem dX7_goes_42 : decode cX7_goes 42 = .ok (.iload_n 3, 1) := dk_29 (dk_at dksX7_goes_1 18 rfl rfl)
theorem dX7_goes_43 : decode cX7_goes 43 = .ok (.aload_n 0, 1) := dk_42 (dk_at dksX7_goes_1 19 rfl rfl)
theorem dX7_goes_44 : decode cX7_goes 44 = .ok (.getfield 18, 3) := dk_180 0 18 (dk_at dksX7_goes_1 20 rfl rfl)
theorem dX7_goes_47 : decode cX7_goes 47 = .ok (.iload_n 3, 1) := dk_29 (dk_at dksX7_goes_1 23 rfl rfl)
theorem dX7_goes_48 : decode cX7_goes 48 = .ok (.iconst 1, 1) := dk_4 (dk_at dksX7_goes_2 0 rfl rfl)
theorem dX7_goes_49 : decode cX7_goes 49 = .ok (.iadd, 1) := dk_96 (dk_at dksX7_goes_2 1 rfl rfl)
theorem dX7_goes_50 : decode cX7_goes 50 = .ok (.iaload, 1) := dk_46 (dk_at dksX7_goes_2 2 rfl rfl)
theorem dX7_goes_51 : decode cX7_goes 51 = .ok (.iastore, 1) := dk_79 (dk_at dksX7_goes_2 3 rfl rfl)
theorem dX7_goes_52 : decode cX7_goes 52 = .ok (.iinc 3 1, 3) := dk_132 3 1 (dk_at dksX7_goes_2 4 rfl rfl)
theorem dX7_goes_55 : decode cX7_goes 55 = .ok (.goto (-48), 3) := dk_167 255 208 (dk_at dksX7_goes_2 7 rfl rfl)
theorem dX7_goes_58 : decode cX7_goes 58 = .ok (.aload_n 0, 1) := dk_42 (dk_at dksX7_goes_2 10 rfl rfl)
theorem dX7_goes_59 : decode cX7_goes 59 = .ok (.getfield 11, 3) := dk_180 0 11 (dk_at dksX7_goes_2 11 rfl rfl)
theorem dX7_goes_62 : decode cX7_goes 62 = .ok (.iload_n 1, 1) := dk_27 (dk_at dksX7_goes_2 14 rfl rfl)
theorem dX7_goes_63 : decode cX7_goes 63 = .ok (.dup2, 1) := dk_92 (dk_at dksX7_goes_2 15 rfl rfl)
theorem dX7_goes_64 : decode cX7_goes 64 = .ok (.iaload, 1) := dk_46 (dk_at dksX7_goes_2 16 rfl rfl)
theorem dX7_goes_65 : decode cX7_goes 65 = .ok (.iconst 1, 1) := dk_4 (dk_at dksX7_goes_2 17 rfl rfl)
theorem dX7_goes_66 : decode cX7_goes 66 = .ok (.isub, 1) := dk_100 (dk_at dksX7_goes_2 18 rfl rfl)
theorem dX7_goes_67 : decode cX7_goes 67 = .ok (.iastore, 1) := dk_79 (dk_at dksX7_goes_2 19 rfl rfl)
theorem dX7_goes_68 : decode cX7_goes 68 = .ok (.return_, 1) := dk_177 (dk_at dksX7_goes_2 20 rfl rfl)
abbrev cX7_clear : ByteArray := prog_17_method_17_code
def yX7_clear : MethodName := ⟨RX7, "clear", "(I)I"⟩
def dkwX7_clear_1 : List UInt8 := [182, 0, 147, 42, 180, 0, 11, 27, 46, 61, 42, 180, 0, 11, 27, 3, 79, 28, 172]
abbrev dktX7_clear_1 : List UInt8 := dkwX7_clear_1 ++ []
def dkwX7_clear_0 : List UInt8 := [27, 184, 0, 136, 154, 0, 5, 2, 172, 42, 180, 0, 11, 27, 46, 154, 0, 6, 16, 253, 172, 42, 27]
abbrev dktX7_clear_0 : List UInt8 := dkwX7_clear_0 ++ dktX7_clear_1
theorem dksX7_clear_0 : cX7_clear.data.toList.drop 0 = dktX7_clear_0 := by decide +kernel
theorem dksX7_clear_1 : cX7_clear.data.toList.drop 23 = dktX7_clear_1 := dk_seg dksX7_clear_0 23 rfl rfl
theorem dX7_clear_0 : decode cX7_clear 0 = .ok (.iload_n 1, 1) := dk_27 (dk_at dksX7_clear_0 0 rfl rfl)
theorem dX7_clear_1 : decode cX7_clear 1 = .ok (.invokestatic 136, 3) := dk_184 0 136 (dk_at dksX7_clear_0 1 rfl rfl)
theorem dX7_clear_4 : decode cX7_clear 4 = .ok (.ifCond .ne 5, 3) := dk_154 0 5 (dk_at dksX7_clear_0 4 rfl rfl)
theorem dX7_clear_7 : decode cX7_clear 7 = .ok (.iconst (-1), 1) := dk_2 (dk_at dksX7_clear_0 7 rfl rfl)
theorem dX7_clear_8 : decode cX7_clear 8 = .ok (.ireturn, 1) := dk_172 (dk_at dksX7_clear_0 8 rfl rfl)
theorem dX7_clear_9 : decode cX7_clear 9 = .ok (.aload_n 0, 1) := dk_42 (dk_at dksX7_clear_0 9 rfl rfl)
theorem dX7_clear_10 : decode cX7_clear 10 = .ok (.getfield 11, 3) := dk_180 0 11 (dk_at dksX7_clear_0 10 rfl rfl)
theorem dX7_clear_13 : decode cX7_clear 13 = .ok (.iload_n 1, 1) := dk_27 (dk_at dksX7_clear_0 13 rfl rfl)
theorem dX7_clear_14 : decode cX7_clear 14 = .ok (.iaload, 1) := dk_46 (dk_at dksX7_clear_0 14 rfl rfl)
theorem dX7_clear_15 : decode cX7_clear 15 = .ok (.ifCond .ne 6, 3) := dk_154 0 6 (dk_at dksX7_clear_0 15 rfl rfl)
theorem dX7_clear_18 : decode cX7_clear 18 = .ok (.bipush (-3), 2) := dk_16 253 (dk_at dksX7_clear_0 18 rfl rfl)
theorem dX7_clear_20 : decode cX7_clear 20 = .ok (.ireturn, 1) := dk_172 (dk_at dksX7_clear_0 20 rfl rfl)
theorem dX7_clear_21 : decode cX7_clear 21 = .ok (.aload_n 0, 1) := dk_42 (dk_at dksX7_clear_0 21 rfl rfl)
theorem dX7_clear_22 : decode cX7_clear 22 = .ok (.iload_n 1, 1) := dk_27 (dk_at dksX7_clear_0 22 rfl rfl)
theorem dX7_clear_23 : decode cX7_clear 23 = .ok (.invokevirtual 147, 3) := dk_182 0 147 (dk_at dksX7_clear_1 0 rfl rfl)
theorem dX7_clear_26 : decode cX7_clear 26 = .ok (.aload_n 0, 1) := dk_42 (dk_at dksX7_clear_1 3 rfl rfl)
theorem dX7_clear_27 : decode cX7_clear 27 = .ok (.getfield 11, 3) := dk_180 0 11 (dk_at dksX7_clear_1 4 rfl rfl)
theorem dX7_clear_30 : decode cX7_clear 30 = .ok (.iload_n 1, 1) := dk_27 (dk_at dksX7_clear_1 7 rfl rfl)
theorem dX7_clear_31 : decode cX7_clear 31 = .ok (.iaload, 1) := dk_46 (dk_at dksX7_clear_1 8 rfl rfl)
theorem dX7_clear_32 : decode cX7_clear 32 = .ok (.istore_n 2, 1) := dk_61 (dk_at dksX7_clear_1 9 rfl rfl)
theorem dX7_clear_33 : decode cX7_clear 33 = .ok (.aload_n 0, 1) := dk_42 (dk_at dksX7_clear_1 10 rfl rfl)
theorem dX7_clear_34 : decode cX7_clear 34 = .ok (.getfield 11, 3) := dk_180 0 11 (dk_at dksX7_clear_1 11 rfl rfl)
theorem dX7_clear_37 : decode cX7_clear 37 = .ok (.iload_n 1, 1) := dk_27 (dk_at dksX7_clear_1 14 rfl rfl)
theorem dX7_clear_38 : decode cX7_clear 38 = .ok (.iconst 0, 1) := dk_3 (dk_at dksX7_clear_1 15 rfl rfl)
theorem dX7_clear_39 : decode cX7_clear 39 = .ok (.iastore, 1) := dk_79 (dk_at dksX7_clear_1 16 rfl rfl)
theorem dX7_clear_40 : decode cX7_clear 40 = .ok (.iload_n 2, 1) := dk_28 (dk_at dksX7_clear_1 17 rfl rfl)
theorem dX7_clear_41 : decode cX7_clear 41 = .ok (.ireturn, 1) := dk_172 (dk_at dksX7_clear_1 18 rfl rfl)
abbrev cX7_merge : ByteArray := prog_17_method_18_code
def yX7_merge : MethodName := ⟨RX7, "merge", "(I)I"⟩
def dkwX7_merge_6 : List UInt8 := [182, 0, 151, 132, 4, 1, 167, 255, 200, 42, 180, 0, 11, 27, 46, 172]
abbrev dktX7_merge_6 : List UInt8 := dkwX7_merge_6 ++ []
def dkwX7_merge_5 : List UInt8 := [182, 0, 143, 2, 160, 0, 22, 42, 27, 42, 28, 21, 4, 182, 0, 125, 42, 28, 21, 4, 182, 0, 129]
abbrev dktX7_merge_5 : List UInt8 := dkwX7_merge_5 ++ dktX7_merge_6
def dkwX7_merge_4 : List UInt8 := [180, 0, 11, 28, 46, 162, 0, 51, 42, 27, 42, 28, 21, 4, 182, 0, 125, 42, 28, 21, 4, 182, 0, 129]
abbrev dktX7_merge_4 : List UInt8 := dkwX7_merge_4 ++ dktX7_merge_5
def dkwX7_merge_3 : List UInt8 := [27, 46, 29, 96, 16, 6, 164, 0, 6, 16, 252, 172, 42, 27, 182, 0, 147, 3, 54, 4, 21, 4, 42]
abbrev dktX7_merge_3 : List UInt8 := dkwX7_merge_3 ++ dktX7_merge_4
def dkwX7_merge_2 : List UInt8 := [182, 0, 143, 2, 160, 0, 7, 4, 167, 0, 4, 3, 96, 62, 132, 4, 1, 167, 255, 211, 42, 180, 0, 11]
abbrev dktX7_merge_2 : List UInt8 := dkwX7_merge_2 ++ dktX7_merge_3
def dkwX7_merge_1 : List UInt8 := [28, 46, 162, 0, 40, 29, 42, 27, 42, 28, 21, 4, 182, 0, 125, 42, 28, 21, 4, 182, 0, 129]
abbrev dktX7_merge_1 : List UInt8 := dkwX7_merge_1 ++ dktX7_merge_2
def dkwX7_merge_0 : List UInt8 := [27, 184, 0, 136, 154, 0, 5, 2, 172, 4, 27, 100, 61, 3, 62, 3, 54, 4, 21, 4, 42, 180, 0, 11]
abbrev dktX7_merge_0 : List UInt8 := dkwX7_merge_0 ++ dktX7_merge_1
theorem dksX7_merge_0 : cX7_merge.data.toList.drop 0 = dktX7_merge_0 := by decide +kernel
theorem dksX7_merge_1 : cX7_merge.data.toList.drop 24 = dktX7_merge_1 := dk_seg dksX7_merge_0 24 rfl rfl
theorem dksX7_merge_2 : cX7_merge.data.toList.drop 46 = dktX7_merge_2 := dk_seg dksX7_merge_1 22 rfl rfl
theorem dksX7_merge_3 : cX7_merge.data.toList.drop 70 = dktX7_merge_3 := dk_seg dksX7_merge_2 24 rfl rfl
theorem dksX7_merge_4 : cX7_merge.data.toList.drop 93 = dktX7_merge_4 := dk_seg dksX7_merge_3 23 rfl rfl
theorem dksX7_merge_5 : cX7_merge.data.toList.drop 117 = dktX7_merge_5 := dk_seg dksX7_merge_4 24 rfl rfl
theorem dksX7_merge_6 : cX7_merge.data.toList.drop 140 = dktX7_merge_6 := dk_seg dksX7_merge_5 23 rfl rfl
theorem dX7_merge_0 : decode cX7_merge 0 = .ok (.iload_n 1, 1) := dk_27 (dk_at dksX7_merge_0 0 rfl rfl)
theorem dX7_merge_1 : decode cX7_merge 1 = .ok (.invokestatic 136, 3) := dk_184 0 136 (dk_at dksX7_merge_0 1 rfl rfl)
theorem dX7_merge_4 : decode cX7_merge 4 = .ok (.ifCond .ne 5, 3) := dk_154 0 5 (dk_at dksX7_merge_0 4 rfl rfl)
theorem dX7_merge_7 : decode cX7_merge 7 = .ok (.iconst (-1), 1) := dk_2 (dk_at dksX7_merge_0 7 rfl rfl)
theorem dX7_merge_8 : decode cX7_merge 8 = .ok (.ireturn, 1) := dk_172 (dk_at dksX7_merge_0 8 rfl rfl)
theorem dX7_merge_9 : decode cX7_merge 9 = .ok (.iconst 1, 1) := dk_4 (dk_at dksX7_merge_0 9 rfl rfl)
theorem dX7_merge_10 : decode cX7_merge 10 = .ok (.iload_n 1, 1) := dk_27 (dk_at dksX7_merge_0 10 rfl rfl)
theorem dX7_merge_11 : decode cX7_merge 11 = .ok (.isub, 1) := dk_100 (dk_at dksX7_merge_0 11 rfl rfl)
theorem dX7_merge_12 : decode cX7_merge 12 = .ok (.istore_n 2, 1) := dk_61 (dk_at dksX7_merge_0 12 rfl rfl)
theorem dX7_merge_13 : decode cX7_merge 13 = .ok (.iconst 0, 1) := dk_3 (dk_at dksX7_merge_0 13 rfl rfl)
theorem dX7_merge_14 : decode cX7_merge 14 = .ok (.istore_n 3, 1) := dk_62 (dk_at dksX7_merge_0 14 rfl rfl)
theorem dX7_merge_15 : decode cX7_merge 15 = .ok (.iconst 0, 1) := dk_3 (dk_at dksX7_merge_0 15 rfl rfl)
theorem dX7_merge_16 : decode cX7_merge 16 = .ok (.istore 4, 2) := dk_54 4 (dk_at dksX7_merge_0 16 rfl rfl)
theorem dX7_merge_18 : decode cX7_merge 18 = .ok (.iload 4, 2) := dk_21 4 (dk_at dksX7_merge_0 18 rfl rfl)
theorem dX7_merge_20 : decode cX7_merge 20 = .ok (.aload_n 0, 1) := dk_42 (dk_at dksX7_merge_0 20 rfl rfl)
theorem dX7_merge_21 : decode cX7_merge 21 = .ok (.getfield 11, 3) := dk_180 0 11 (dk_at dksX7_merge_0 21 rfl rfl)
theorem dX7_merge_24 : decode cX7_merge 24 = .ok (.iload_n 2, 1) := dk_28 (dk_at dksX7_merge_1 0 rfl rfl)
theorem dX7_merge_25 : decode cX7_merge 25 = .ok (.iaload, 1) := dk_46 (dk_at dksX7_merge_1 1 rfl rfl)
theorem dX7_merge_26 : decode cX7_merge 26 = .ok (.if_icmp .ge 40, 3) := dk_162 0 40 (dk_at dksX7_merge_1 2 rfl rfl)
theorem dX7_merge_29 : decode cX7_merge 29 = .ok (.iload_n 3, 1) := dk_29 (dk_at dksX7_merge_1 5 rfl rfl)
theorem dX7_merge_30 : decode cX7_merge 30 = .ok (.aload_n 0, 1) := dk_42 (dk_at dksX7_merge_1 6 rfl rfl)
theorem dX7_merge_31 : decode cX7_merge 31 = .ok (.iload_n 1, 1) := dk_27 (dk_at dksX7_merge_1 7 rfl rfl)
theorem dX7_merge_32 : decode cX7_merge 32 = .ok (.aload_n 0, 1) := dk_42 (dk_at dksX7_merge_1 8 rfl rfl)
theorem dX7_merge_33 : decode cX7_merge 33 = .ok (.iload_n 2, 1) := dk_28 (dk_at dksX7_merge_1 9 rfl rfl)
theorem dX7_merge_34 : decode cX7_merge 34 = .ok (.iload 4, 2) := dk_21 4 (dk_at dksX7_merge_1 10 rfl rfl)
theorem dX7_merge_36 : decode cX7_merge 36 = .ok (.invokevirtual 125, 3) := dk_182 0 125 (dk_at dksX7_merge_1 12 rfl rfl)
theorem dX7_merge_39 : decode cX7_merge 39 = .ok (.aload_n 0, 1) := dk_42 (dk_at dksX7_merge_1 15 rfl rfl)
theorem dX7_merge_40 : decode cX7_merge 40 = .ok (.iload_n 2, 1) := dk_28 (dk_at dksX7_merge_1 16 rfl rfl)
theorem dX7_merge_41 : decode cX7_merge 41 = .ok (.iload 4, 2) := dk_21 4 (dk_at dksX7_merge_1 17 rfl rfl)
theorem dX7_merge_43 : decode cX7_merge 43 = .ok (.invokevirtual 129, 3) := dk_182 0 129 (dk_at dksX7_merge_1 19 rfl rfl)
theorem dX7_merge_46 : decode cX7_merge 46 = .ok (.invokevirtual 143, 3) := dk_182 0 143 (dk_at dksX7_merge_2 0 rfl rfl)
theorem dX7_merge_49 : decode cX7_merge 49 = .ok (.iconst (-1), 1) := dk_2 (dk_at dksX7_merge_2 3 rfl rfl)
theorem dX7_merge_50 : decode cX7_merge 50 = .ok (.if_icmp .ne 7, 3) := dk_160 0 7 (dk_at dksX7_merge_2 4 rfl rfl)
theorem dX7_merge_53 : decode cX7_merge 53 = .ok (.iconst 1, 1) := dk_4 (dk_at dksX7_merge_2 7 rfl rfl)
theorem dX7_merge_54 : decode cX7_merge 54 = .ok (.goto 4, 3) := dk_167 0 4 (dk_at dksX7_merge_2 8 rfl rfl)
theorem dX7_merge_57 : decode cX7_merge 57 = .ok (.iconst 0, 1) := dk_3 (dk_at dksX7_merge_2 11 rfl rfl)
theorem dX7_merge_58 : decode cX7_merge 58 = .ok (.iadd, 1) := dk_96 (dk_at dksX7_merge_2 12 rfl rfl)
theorem dX7_merge_59 : decode cX7_merge 59 = .ok (.istore_n 3, 1) := dk_62 (dk_at dksX7_merge_2 13 rfl rfl)
theorem dX7_merge_60 : decode cX7_merge 60 = .ok (.iinc 4 1, 3) := dk_132 4 1 (dk_at dksX7_merge_2 14 rfl rfl)
theorem dX7_merge_63 : decode cX7_merge 63 = .ok (.goto (-45), 3) := dk_167 255 211 (dk_at dksX7_merge_2 17 rfl rfl)
theorem dX7_merge_66 : decode cX7_merge 66 = .ok (.aload_n 0, 1) := dk_42 (dk_at dksX7_merge_2 20 rfl rfl)
theorem dX7_merge_67 : decode cX7_merge 67 = .ok (.getfield 11, 3) := dk_180 0 11 (dk_at dksX7_merge_2 21 rfl rfl)
theorem dX7_merge_70 : decode cX7_merge 70 = .ok (.iload_n 1, 1) := dk_27 (dk_at dksX7_merge_3 0 rfl rfl)
theorem dX7_merge_71 : decode cX7_merge 71 = .ok (.iaload, 1) := dk_46 (dk_at dksX7_merge_3 1 rfl rfl)
theorem dX7_merge_72 : decode cX7_merge 72 = .ok (.iload_n 3, 1) := dk_29 (dk_at dksX7_merge_3 2 rfl rfl)
theorem dX7_merge_73 : decode cX7_merge 73 = .ok (.iadd, 1) := dk_96 (dk_at dksX7_merge_3 3 rfl rfl)
theorem dX7_merge_74 : decode cX7_merge 74 = .ok (.bipush 6, 2) := dk_16 6 (dk_at dksX7_merge_3 4 rfl rfl)
theorem dX7_merge_76 : decode cX7_merge 76 = .ok (.if_icmp .le 6, 3) := dk_164 0 6 (dk_at dksX7_merge_3 6 rfl rfl)
theorem dX7_merge_79 : decode cX7_merge 79 = .ok (.bipush (-4), 2) := dk_16 252 (dk_at dksX7_merge_3 9 rfl rfl)
theorem dX7_merge_81 : decode cX7_merge 81 = .ok (.ireturn, 1) := dk_172 (dk_at dksX7_merge_3 11 rfl rfl)
theorem dX7_merge_82 : decode cX7_merge 82 = .ok (.aload_n 0, 1) := dk_42 (dk_at dksX7_merge_3 12 rfl rfl)
theorem dX7_merge_83 : decode cX7_merge 83 = .ok (.iload_n 1, 1) := dk_27 (dk_at dksX7_merge_3 13 rfl rfl)
theorem dX7_merge_84 : decode cX7_merge 84 = .ok (.invokevirtual 147, 3) := dk_182 0 147 (dk_at dksX7_merge_3 14 rfl rfl)
theorem dX7_merge_87 : decode cX7_merge 87 = .ok (.iconst 0, 1) := dk_3 (dk_at dksX7_merge_3 17 rfl rfl)
theorem dX7_merge_88 : decode cX7_merge 88 = .ok (.istore 4, 2) := dk_54 4 (dk_at dksX7_merge_3 18 rfl rfl)
theorem dX7_merge_90 : decode cX7_merge 90 = .ok (.iload 4, 2) := dk_21 4 (dk_at dksX7_merge_3 20 rfl rfl)
theorem dX7_merge_92 : decode cX7_merge 92 = .ok (.aload_n 0, 1) := dk_42 (dk_at dksX7_merge_3 22 rfl rfl)
theorem dX7_merge_93 : decode cX7_merge 93 = .ok (.getfield 11, 3) := dk_180 0 11 (dk_at dksX7_merge_4 0 rfl rfl)
theorem dX7_merge_96 : decode cX7_merge 96 = .ok (.iload_n 2, 1) := dk_28 (dk_at dksX7_merge_4 3 rfl rfl)
theorem dX7_merge_97 : decode cX7_merge 97 = .ok (.iaload, 1) := dk_46 (dk_at dksX7_merge_4 4 rfl rfl)
theorem dX7_merge_98 : decode cX7_merge 98 = .ok (.if_icmp .ge 51, 3) := dk_162 0 51 (dk_at dksX7_merge_4 5 rfl rfl)
theorem dX7_merge_101 : decode cX7_merge 101 = .ok (.aload_n 0, 1) := dk_42 (dk_at dksX7_merge_4 8 rfl rfl)
theorem dX7_merge_102 : decode cX7_merge 102 = .ok (.iload_n 1, 1) := dk_27 (dk_at dksX7_merge_4 9 rfl rfl)
theorem dX7_merge_103 : decode cX7_merge 103 = .ok (.aload_n 0, 1) := dk_42 (dk_at dksX7_merge_4 10 rfl rfl)
theorem dX7_merge_104 : decode cX7_merge 104 = .ok (.iload_n 2, 1) := dk_28 (dk_at dksX7_merge_4 11 rfl rfl)
theorem dX7_merge_105 : decode cX7_merge 105 = .ok (.iload 4, 2) := dk_21 4 (dk_at dksX7_merge_4 12 rfl rfl)
theorem dX7_merge_107 : decode cX7_merge 107 = .ok (.invokevirtual 125, 3) := dk_182 0 125 (dk_at dksX7_merge_4 14 rfl rfl)
theorem dX7_merge_110 : decode cX7_merge 110 = .ok (.aload_n 0, 1) := dk_42 (dk_at dksX7_merge_4 17 rfl rfl)
theorem dX7_merge_111 : decode cX7_merge 111 = .ok (.iload_n 2, 1) := dk_28 (dk_at dksX7_merge_4 18 rfl rfl)
theorem dX7_merge_112 : decode cX7_merge 112 = .ok (.iload 4, 2) := dk_21 4 (dk_at dksX7_merge_4 19 rfl rfl)
theorem dX7_merge_114 : decode cX7_merge 114 = .ok (.invokevirtual 129, 3) := dk_182 0 129 (dk_at dksX7_merge_4 21 rfl rfl)
theorem dX7_merge_117 : decode cX7_merge 117 = .ok (.invokevirtual 143, 3) := dk_182 0 143 (dk_at dksX7_merge_5 0 rfl rfl)
theorem dX7_merge_120 : decode cX7_merge 120 = .ok (.iconst (-1), 1) := dk_2 (dk_at dksX7_merge_5 3 rfl rfl)
theorem dX7_merge_121 : decode cX7_merge 121 = .ok (.if_icmp .ne 22, 3) := dk_160 0 22 (dk_at dksX7_merge_5 4 rfl rfl)
theorem dX7_merge_124 : decode cX7_merge 124 = .ok (.aload_n 0, 1) := dk_42 (dk_at dksX7_merge_5 7 rfl rfl)
theorem dX7_merge_125 : decode cX7_merge 125 = .ok (.iload_n 1, 1) := dk_27 (dk_at dksX7_merge_5 8 rfl rfl)
theorem dX7_merge_126 : decode cX7_merge 126 = .ok (.aload_n 0, 1) := dk_42 (dk_at dksX7_merge_5 9 rfl rfl)
theorem dX7_merge_127 : decode cX7_merge 127 = .ok (.iload_n 2, 1) := dk_28 (dk_at dksX7_merge_5 10 rfl rfl)
theorem dX7_merge_128 : decode cX7_merge 128 = .ok (.iload 4, 2) := dk_21 4 (dk_at dksX7_merge_5 11 rfl rfl)
theorem dX7_merge_130 : decode cX7_merge 130 = .ok (.invokevirtual 125, 3) := dk_182 0 125 (dk_at dksX7_merge_5 13 rfl rfl)
theorem dX7_merge_133 : decode cX7_merge 133 = .ok (.aload_n 0, 1) := dk_42 (dk_at dksX7_merge_5 16 rfl rfl)
theorem dX7_merge_134 : decode cX7_merge 134 = .ok (.iload_n 2, 1) := dk_28 (dk_at dksX7_merge_5 17 rfl rfl)
theorem dX7_merge_135 : decode cX7_merge 135 = .ok (.iload 4, 2) := dk_21 4 (dk_at dksX7_merge_5 18 rfl rfl)
theorem dX7_merge_137 : decode cX7_merge 137 = .ok (.invokevirtual 129, 3) := dk_182 0 129 (dk_at dksX7_merge_5 20 rfl rfl)
theorem dX7_merge_140 : decode cX7_merge 140 = .ok (.invokevirtual 151, 3) := dk_182 0 151 (dk_at dksX7_merge_6 0 rfl rfl)
theorem dX7_merge_143 : decode cX7_merge 143 = .ok (.iinc 4 1, 3) := dk_132 4 1 (dk_at dksX7_merge_6 3 rfl rfl)
theorem dX7_merge_146 : decode cX7_merge 146 = .ok (.goto (-56), 3) := dk_167 255 200 (dk_at dksX7_merge_6 6 rfl rfl)
theorem dX7_merge_149 : decode cX7_merge 149 = .ok (.aload_n 0, 1) := dk_42 (dk_at dksX7_merge_6 9 rfl rfl)
theorem dX7_merge_150 : decode cX7_merge 150 = .ok (.getfield 11, 3) := dk_180 0 11 (dk_at dksX7_merge_6 10 rfl rfl)
theorem dX7_merge_153 : decode cX7_merge 153 = .ok (.iload_n 1, 1) := dk_27 (dk_at dksX7_merge_6 13 rfl rfl)
theorem dX7_merge_154 : decode cX7_merge 154 = .ok (.iaload, 1) := dk_46 (dk_at dksX7_merge_6 14 rfl rfl)
theorem dX7_merge_155 : decode cX7_merge 155 = .ok (.ireturn, 1) := dk_172 (dk_at dksX7_merge_6 15 rfl rfl)
abbrev cX7_close : ByteArray := prog_17_method_20_code
def yX7_close : MethodName := ⟨RX7, "close", "(I)I"⟩
def dkwX7_close_5 : List UInt8 := [29, 16, 10, 112, 182, 0, 151, 132, 3, 1, 167, 255, 219, 42, 180, 0, 11, 27, 46, 172]
abbrev dktX7_close_5 : List UInt8 := dkwX7_close_5 ++ []
def dkwX7_close_4 : List UInt8 := [162, 0, 37, 42, 29, 16, 10, 108, 29, 16, 10, 112, 182, 0, 169, 153, 0, 16, 42, 27, 29, 16, 10, 108]
abbrev dktX7_close_4 : List UInt8 := dkwX7_close_4 ++ dktX7_close_5
def dkwX7_close_3 : List UInt8 := [164, 0, 6, 16, 252, 172, 42, 27, 182, 0, 147, 42, 180, 0, 11, 27, 3, 79, 3, 62, 29, 16, 100]
abbrev dktX7_close_3 : List UInt8 := dkwX7_close_3 ++ dktX7_close_4
def dkwX7_close_2 : List UInt8 := [182, 0, 169, 153, 0, 7, 4, 167, 0, 4, 3, 96, 61, 132, 3, 1, 167, 255, 224, 28, 16, 6]
abbrev dktX7_close_2 : List UInt8 := dkwX7_close_2 ++ dktX7_close_3
def dkwX7_close_1 : List UInt8 := [182, 0, 166, 3, 61, 3, 62, 29, 16, 100, 162, 0, 32, 28, 42, 29, 16, 10, 108, 29, 16, 10, 112]
abbrev dktX7_close_1 : List UInt8 := dkwX7_close_1 ++ dktX7_close_2
def dkwX7_close_0 : List UInt8 := [27, 184, 0, 136, 154, 0, 5, 2, 172, 42, 180, 0, 11, 27, 46, 154, 0, 6, 16, 253, 172, 42, 27]
abbrev dktX7_close_0 : List UInt8 := dkwX7_close_0 ++ dktX7_close_1
theorem dksX7_close_0 : cX7_close.data.toList.drop 0 = dktX7_close_0 := by decide +kernel
theorem dksX7_close_1 : cX7_close.data.toList.drop 23 = dktX7_close_1 := dk_seg dksX7_close_0 23 rfl rfl
theorem dksX7_close_2 : cX7_close.data.toList.drop 46 = dktX7_close_2 := dk_seg dksX7_close_1 23 rfl rfl
theorem dksX7_close_3 : cX7_close.data.toList.drop 68 = dktX7_close_3 := dk_seg dksX7_close_2 22 rfl rfl
theorem dksX7_close_4 : cX7_close.data.toList.drop 91 = dktX7_close_4 := dk_seg dksX7_close_3 23 rfl rfl
theorem dksX7_close_5 : cX7_close.data.toList.drop 115 = dktX7_close_5 := dk_seg dksX7_close_4 24 rfl rfl
theorem dX7_close_0 : decode cX7_close 0 = .ok (.iload_n 1, 1) := dk_27 (dk_at dksX7_close_0 0 rfl rfl)
theorem dX7_close_1 : decode cX7_close 1 = .ok (.invokestatic 136, 3) := dk_184 0 136 (dk_at dksX7_close_0 1 rfl rfl)
theorem dX7_close_4 : decode cX7_close 4 = .ok (.ifCond .ne 5, 3) := dk_154 0 5 (dk_at dksX7_close_0 4 rfl rfl)
theorem dX7_close_7 : decode cX7_close 7 = .ok (.iconst (-1), 1) := dk_2 (dk_at dksX7_close_0 7 rfl rfl)
theorem dX7_close_8 : decode cX7_close 8 = .ok (.ireturn, 1) := dk_172 (dk_at dksX7_close_0 8 rfl rfl)
theorem dX7_close_9 : decode cX7_close 9 = .ok (.aload_n 0, 1) := dk_42 (dk_at dksX7_close_0 9 rfl rfl)
theorem dX7_close_10 : decode cX7_close 10 = .ok (.getfield 11, 3) := dk_180 0 11 (dk_at dksX7_close_0 10 rfl rfl)
theorem dX7_close_13 : decode cX7_close 13 = .ok (.iload_n 1, 1) := dk_27 (dk_at dksX7_close_0 13 rfl rfl)
theorem dX7_close_14 : decode cX7_close 14 = .ok (.iaload, 1) := dk_46 (dk_at dksX7_close_0 14 rfl rfl)
theorem dX7_close_15 : decode cX7_close 15 = .ok (.ifCond .ne 6, 3) := dk_154 0 6 (dk_at dksX7_close_0 15 rfl rfl)
theorem dX7_close_18 : decode cX7_close 18 = .ok (.bipush (-3), 2) := dk_16 253 (dk_at dksX7_close_0 18 rfl rfl)
theorem dX7_close_20 : decode cX7_close 20 = .ok (.ireturn, 1) := dk_172 (dk_at dksX7_close_0 20 rfl rfl)
theorem dX7_close_21 : decode cX7_close 21 = .ok (.aload_n 0, 1) := dk_42 (dk_at dksX7_close_0 21 rfl rfl)
theorem dX7_close_22 : decode cX7_close 22 = .ok (.iload_n 1, 1) := dk_27 (dk_at dksX7_close_0 22 rfl rfl)
theorem dX7_close_23 : decode cX7_close 23 = .ok (.invokevirtual 166, 3) := dk_182 0 166 (dk_at dksX7_close_1 0 rfl rfl)
theorem dX7_close_26 : decode cX7_close 26 = .ok (.iconst 0, 1) := dk_3 (dk_at dksX7_close_1 3 rfl rfl)
theorem dX7_close_27 : decode cX7_close 27 = .ok (.istore_n 2, 1) := dk_61 (dk_at dksX7_close_1 4 rfl rfl)
theorem dX7_close_28 : decode cX7_close 28 = .ok (.iconst 0, 1) := dk_3 (dk_at dksX7_close_1 5 rfl rfl)
theorem dX7_close_29 : decode cX7_close 29 = .ok (.istore_n 3, 1) := dk_62 (dk_at dksX7_close_1 6 rfl rfl)
theorem dX7_close_30 : decode cX7_close 30 = .ok (.iload_n 3, 1) := dk_29 (dk_at dksX7_close_1 7 rfl rfl)
theorem dX7_close_31 : decode cX7_close 31 = .ok (.bipush 100, 2) := dk_16 100 (dk_at dksX7_close_1 8 rfl rfl)
theorem dX7_close_33 : decode cX7_close 33 = .ok (.if_icmp .ge 32, 3) := dk_162 0 32 (dk_at dksX7_close_1 10 rfl rfl)
theorem dX7_close_36 : decode cX7_close 36 = .ok (.iload_n 2, 1) := dk_28 (dk_at dksX7_close_1 13 rfl rfl)
theorem dX7_close_37 : decode cX7_close 37 = .ok (.aload_n 0, 1) := dk_42 (dk_at dksX7_close_1 14 rfl rfl)
theorem dX7_close_38 : decode cX7_close 38 = .ok (.iload_n 3, 1) := dk_29 (dk_at dksX7_close_1 15 rfl rfl)
theorem dX7_close_39 : decode cX7_close 39 = .ok (.bipush 10, 2) := dk_16 10 (dk_at dksX7_close_1 16 rfl rfl)
theorem dX7_close_41 : decode cX7_close 41 = .ok (.idiv, 1) := dk_108 (dk_at dksX7_close_1 18 rfl rfl)
theorem dX7_close_42 : decode cX7_close 42 = .ok (.iload_n 3, 1) := dk_29 (dk_at dksX7_close_1 19 rfl rfl)
theorem dX7_close_43 : decode cX7_close 43 = .ok (.bipush 10, 2) := dk_16 10 (dk_at dksX7_close_1 20 rfl rfl)
theorem dX7_close_45 : decode cX7_close 45 = .ok (.irem, 1) := dk_112 (dk_at dksX7_close_1 22 rfl rfl)
theorem dX7_close_46 : decode cX7_close 46 = .ok (.invokevirtual 169, 3) := dk_182 0 169 (dk_at dksX7_close_2 0 rfl rfl)
theorem dX7_close_49 : decode cX7_close 49 = .ok (.ifCond .eq 7, 3) := dk_153 0 7 (dk_at dksX7_close_2 3 rfl rfl)
theorem dX7_close_52 : decode cX7_close 52 = .ok (.iconst 1, 1) := dk_4 (dk_at dksX7_close_2 6 rfl rfl)
theorem dX7_close_53 : decode cX7_close 53 = .ok (.goto 4, 3) := dk_167 0 4 (dk_at dksX7_close_2 7 rfl rfl)
theorem dX7_close_56 : decode cX7_close 56 = .ok (.iconst 0, 1) := dk_3 (dk_at dksX7_close_2 10 rfl rfl)
theorem dX7_close_57 : decode cX7_close 57 = .ok (.iadd, 1) := dk_96 (dk_at dksX7_close_2 11 rfl rfl)
theorem dX7_close_58 : decode cX7_close 58 = .ok (.istore_n 2, 1) := dk_61 (dk_at dksX7_close_2 12 rfl rfl)
theorem dX7_close_59 : decode cX7_close 59 = .ok (.iinc 3 1, 3) := dk_132 3 1 (dk_at dksX7_close_2 13 rfl rfl)
theorem dX7_close_62 : decode cX7_close 62 = .ok (.goto (-32), 3) := dk_167 255 224 (dk_at dksX7_close_2 16 rfl rfl)
theorem dX7_close_65 : decode cX7_close 65 = .ok (.iload_n 2, 1) := dk_28 (dk_at dksX7_close_2 19 rfl rfl)
theorem dX7_close_66 : decode cX7_close 66 = .ok (.bipush 6, 2) := dk_16 6 (dk_at dksX7_close_2 20 rfl rfl)
theorem dX7_close_68 : decode cX7_close 68 = .ok (.if_icmp .le 6, 3) := dk_164 0 6 (dk_at dksX7_close_3 0 rfl rfl)
theorem dX7_close_71 : decode cX7_close 71 = .ok (.bipush (-4), 2) := dk_16 252 (dk_at dksX7_close_3 3 rfl rfl)
theorem dX7_close_73 : decode cX7_close 73 = .ok (.ireturn, 1) := dk_172 (dk_at dksX7_close_3 5 rfl rfl)
theorem dX7_close_74 : decode cX7_close 74 = .ok (.aload_n 0, 1) := dk_42 (dk_at dksX7_close_3 6 rfl rfl)
theorem dX7_close_75 : decode cX7_close 75 = .ok (.iload_n 1, 1) := dk_27 (dk_at dksX7_close_3 7 rfl rfl)
theorem dX7_close_76 : decode cX7_close 76 = .ok (.invokevirtual 147, 3) := dk_182 0 147 (dk_at dksX7_close_3 8 rfl rfl)
theorem dX7_close_79 : decode cX7_close 79 = .ok (.aload_n 0, 1) := dk_42 (dk_at dksX7_close_3 11 rfl rfl)
theorem dX7_close_80 : decode cX7_close 80 = .ok (.getfield 11, 3) := dk_180 0 11 (dk_at dksX7_close_3 12 rfl rfl)
theorem dX7_close_83 : decode cX7_close 83 = .ok (.iload_n 1, 1) := dk_27 (dk_at dksX7_close_3 15 rfl rfl)
theorem dX7_close_84 : decode cX7_close 84 = .ok (.iconst 0, 1) := dk_3 (dk_at dksX7_close_3 16 rfl rfl)
theorem dX7_close_85 : decode cX7_close 85 = .ok (.iastore, 1) := dk_79 (dk_at dksX7_close_3 17 rfl rfl)
theorem dX7_close_86 : decode cX7_close 86 = .ok (.iconst 0, 1) := dk_3 (dk_at dksX7_close_3 18 rfl rfl)
theorem dX7_close_87 : decode cX7_close 87 = .ok (.istore_n 3, 1) := dk_62 (dk_at dksX7_close_3 19 rfl rfl)
theorem dX7_close_88 : decode cX7_close 88 = .ok (.iload_n 3, 1) := dk_29 (dk_at dksX7_close_3 20 rfl rfl)
theorem dX7_close_89 : decode cX7_close 89 = .ok (.bipush 100, 2) := dk_16 100 (dk_at dksX7_close_3 21 rfl rfl)
theorem dX7_close_91 : decode cX7_close 91 = .ok (.if_icmp .ge 37, 3) := dk_162 0 37 (dk_at dksX7_close_4 0 rfl rfl)
theorem dX7_close_94 : decode cX7_close 94 = .ok (.aload_n 0, 1) := dk_42 (dk_at dksX7_close_4 3 rfl rfl)
theorem dX7_close_95 : decode cX7_close 95 = .ok (.iload_n 3, 1) := dk_29 (dk_at dksX7_close_4 4 rfl rfl)
theorem dX7_close_96 : decode cX7_close 96 = .ok (.bipush 10, 2) := dk_16 10 (dk_at dksX7_close_4 5 rfl rfl)
theorem dX7_close_98 : decode cX7_close 98 = .ok (.idiv, 1) := dk_108 (dk_at dksX7_close_4 7 rfl rfl)
theorem dX7_close_99 : decode cX7_close 99 = .ok (.iload_n 3, 1) := dk_29 (dk_at dksX7_close_4 8 rfl rfl)
theorem dX7_close_100 : decode cX7_close 100 = .ok (.bipush 10, 2) := dk_16 10 (dk_at dksX7_close_4 9 rfl rfl)
theorem dX7_close_102 : decode cX7_close 102 = .ok (.irem, 1) := dk_112 (dk_at dksX7_close_4 11 rfl rfl)
theorem dX7_close_103 : decode cX7_close 103 = .ok (.invokevirtual 169, 3) := dk_182 0 169 (dk_at dksX7_close_4 12 rfl rfl)
theorem dX7_close_106 : decode cX7_close 106 = .ok (.ifCond .eq 16, 3) := dk_153 0 16 (dk_at dksX7_close_4 15 rfl rfl)
theorem dX7_close_109 : decode cX7_close 109 = .ok (.aload_n 0, 1) := dk_42 (dk_at dksX7_close_4 18 rfl rfl)
theorem dX7_close_110 : decode cX7_close 110 = .ok (.iload_n 1, 1) := dk_27 (dk_at dksX7_close_4 19 rfl rfl)
theorem dX7_close_111 : decode cX7_close 111 = .ok (.iload_n 3, 1) := dk_29 (dk_at dksX7_close_4 20 rfl rfl)
theorem dX7_close_112 : decode cX7_close 112 = .ok (.bipush 10, 2) := dk_16 10 (dk_at dksX7_close_4 21 rfl rfl)
theorem dX7_close_114 : decode cX7_close 114 = .ok (.idiv, 1) := dk_108 (dk_at dksX7_close_4 23 rfl rfl)
theorem dX7_close_115 : decode cX7_close 115 = .ok (.iload_n 3, 1) := dk_29 (dk_at dksX7_close_5 0 rfl rfl)
theorem dX7_close_116 : decode cX7_close 116 = .ok (.bipush 10, 2) := dk_16 10 (dk_at dksX7_close_5 1 rfl rfl)
theorem dX7_close_118 : decode cX7_close 118 = .ok (.irem, 1) := dk_112 (dk_at dksX7_close_5 3 rfl rfl)
theorem dX7_close_119 : decode cX7_close 119 = .ok (.invokevirtual 151, 3) := dk_182 0 151 (dk_at dksX7_close_5 4 rfl rfl)
theorem dX7_close_122 : decode cX7_close 122 = .ok (.iinc 3 1, 3) := dk_132 3 1 (dk_at dksX7_close_5 7 rfl rfl)
theorem dX7_close_125 : decode cX7_close 125 = .ok (.goto (-37), 3) := dk_167 255 219 (dk_at dksX7_close_5 10 rfl rfl)
theorem dX7_close_128 : decode cX7_close 128 = .ok (.aload_n 0, 1) := dk_42 (dk_at dksX7_close_5 13 rfl rfl)
theorem dX7_close_129 : decode cX7_close 129 = .ok (.getfield 11, 3) := dk_180 0 11 (dk_at dksX7_close_5 14 rfl rfl)
theorem dX7_close_132 : decode cX7_close 132 = .ok (.iload_n 1, 1) := dk_27 (dk_at dksX7_close_5 17 rfl rfl)
theorem dX7_close_133 : decode cX7_close 133 = .ok (.iaload, 1) := dk_46 (dk_at dksX7_close_5 18 rfl rfl)
theorem dX7_close_134 : decode cX7_close 134 = .ok (.ireturn, 1) := dk_172 (dk_at dksX7_close_5 19 rfl rfl)
abbrev cX7_tellsFaces : ByteArray := prog_17_method_31_code
def yX7_tellsFaces : MethodName := ⟨RX7, "tellsFaces", "(I)V"⟩
def dkwX7_tellsFaces_3 : List UInt8 := [132, 2, 1, 167, 255, 196, 42, 27, 3, 4, 182, 0, 227, 177]
abbrev dktX7_tellsFaces_3 : List UInt8 := dkwX7_tellsFaces_3 ++ []
def dkwX7_tellsFaces_2 : List UInt8 := [29, 182, 0, 224, 182, 0, 230, 4, 164, 0, 10, 42, 27, 28, 29, 182, 0, 227, 132, 3, 1, 167, 255, 210]
abbrev dktX7_tellsFaces_2 : List UInt8 := dkwX7_tellsFaces_2 ++ dktX7_tellsFaces_3
def dkwX7_tellsFaces_1 : List UInt8 := [16, 10, 162, 0, 46, 28, 133, 29, 133, 184, 0, 121, 10, 148, 154, 0, 28, 42, 27, 28, 29, 42, 27, 28]
abbrev dktX7_tellsFaces_1 : List UInt8 := dkwX7_tellsFaces_1 ++ dktX7_tellsFaces_2
def dkwX7_tellsFaces_0 : List UInt8 := [42, 3, 181, 0, 221, 42, 27, 4, 3, 182, 0, 227, 4, 61, 28, 16, 10, 162, 0, 60, 4, 62, 29]
abbrev dktX7_tellsFaces_0 : List UInt8 := dkwX7_tellsFaces_0 ++ dktX7_tellsFaces_1
theorem dksX7_tellsFaces_0 : cX7_tellsFaces.data.toList.drop 0 = dktX7_tellsFaces_0 := by decide +kernel
theorem dksX7_tellsFaces_1 : cX7_tellsFaces.data.toList.drop 23 = dktX7_tellsFaces_1 := dk_seg dksX7_tellsFaces_0 23 rfl rfl
theorem dksX7_tellsFaces_2 : cX7_tellsFaces.data.toList.drop 47 = dktX7_tellsFaces_2 := dk_seg dksX7_tellsFaces_1 24 rfl rfl
theorem dksX7_tellsFaces_3 : cX7_tellsFaces.data.toList.drop 71 = dktX7_tellsFaces_3 := dk_seg dksX7_tellsFaces_2 24 rfl rfl
theorem dX7_tellsFaces_0 : decode cX7_tellsFaces 0 = .ok (.aload_n 0, 1) := dk_42 (dk_at dksX7_tellsFaces_0 0 rfl rfl)
theorem dX7_tellsFaces_1 : decode cX7_tellsFaces 1 = .ok (.iconst 0, 1) := dk_3 (dk_at dksX7_tellsFaces_0 1 rfl rfl)
theorem dX7_tellsFaces_2 : decode cX7_tellsFaces 2 = .ok (.putfield 221, 3) := dk_181 0 221 (dk_at dksX7_tellsFaces_0 2 rfl rfl)
theorem dX7_tellsFaces_5 : decode cX7_tellsFaces 5 = .ok (.aload_n 0, 1) := dk_42 (dk_at dksX7_tellsFaces_0 5 rfl rfl)
theorem dX7_tellsFaces_6 : decode cX7_tellsFaces 6 = .ok (.iload_n 1, 1) := dk_27 (dk_at dksX7_tellsFaces_0 6 rfl rfl)
theorem dX7_tellsFaces_7 : decode cX7_tellsFaces 7 = .ok (.iconst 1, 1) := dk_4 (dk_at dksX7_tellsFaces_0 7 rfl rfl)
theorem dX7_tellsFaces_8 : decode cX7_tellsFaces 8 = .ok (.iconst 0, 1) := dk_3 (dk_at dksX7_tellsFaces_0 8 rfl rfl)
theorem dX7_tellsFaces_9 : decode cX7_tellsFaces 9 = .ok (.invokevirtual 227, 3) := dk_182 0 227 (dk_at dksX7_tellsFaces_0 9 rfl rfl)
theorem dX7_tellsFaces_12 : decode cX7_tellsFaces 12 = .ok (.iconst 1, 1) := dk_4 (dk_at dksX7_tellsFaces_0 12 rfl rfl)
theorem dX7_tellsFaces_13 : decode cX7_tellsFaces 13 = .ok (.istore_n 2, 1) := dk_61 (dk_at dksX7_tellsFaces_0 13 rfl rfl)
theorem dX7_tellsFaces_14 : decode cX7_tellsFaces 14 = .ok (.iload_n 2, 1) := dk_28 (dk_at dksX7_tellsFaces_0 14 rfl rfl)
theorem dX7_tellsFaces_15 : decode cX7_tellsFaces 15 = .ok (.bipush 10, 2) := dk_16 10 (dk_at dksX7_tellsFaces_0 15 rfl rfl)
theorem dX7_tellsFaces_17 : decode cX7_tellsFaces 17 = .ok (.if_icmp .ge 60, 3) := dk_162 0 60 (dk_at dksX7_tellsFaces_0 17 rfl rfl)
theorem dX7_tellsFaces_20 : decode cX7_tellsFaces 20 = .ok (.iconst 1, 1) := dk_4 (dk_at dksX7_tellsFaces_0 20 rfl rfl)
theorem dX7_tellsFaces_21 : decode cX7_tellsFaces 21 = .ok (.istore_n 3, 1) := dk_62 (dk_at dksX7_tellsFaces_0 21 rfl rfl)
theorem dX7_tellsFaces_22 : decode cX7_tellsFaces 22 = .ok (.iload_n 3, 1) := dk_29 (dk_at dksX7_tellsFaces_0 22 rfl rfl)
theorem dX7_tellsFaces_23 : decode cX7_tellsFaces 23 = .ok (.bipush 10, 2) := dk_16 10 (dk_at dksX7_tellsFaces_1 0 rfl rfl)
theorem dX7_tellsFaces_25 : decode cX7_tellsFaces 25 = .ok (.if_icmp .ge 46, 3) := dk_162 0 46 (dk_at dksX7_tellsFaces_1 2 rfl rfl)
theorem dX7_tellsFaces_28 : decode cX7_tellsFaces 28 = .ok (.iload_n 2, 1) := dk_28 (dk_at dksX7_tellsFaces_1 5 rfl rfl)
theorem dX7_tellsFaces_29 : decode cX7_tellsFaces 29 = .ok (.i2l, 1) := dk_133 (dk_at dksX7_tellsFaces_1 6 rfl rfl)
theorem dX7_tellsFaces_30 : decode cX7_tellsFaces 30 = .ok (.iload_n 3, 1) := dk_29 (dk_at dksX7_tellsFaces_1 7 rfl rfl)
theorem dX7_tellsFaces_31 : decode cX7_tellsFaces 31 = .ok (.i2l, 1) := dk_133 (dk_at dksX7_tellsFaces_1 8 rfl rfl)
theorem dX7_tellsFaces_32 : decode cX7_tellsFaces 32 = .ok (.invokestatic 121, 3) := dk_184 0 121 (dk_at dksX7_tellsFaces_1 9 rfl rfl)
theorem dX7_tellsFaces_35 : decode cX7_tellsFaces 35 = .ok (.lconst 1, 1) := dk_10 (dk_at dksX7_tellsFaces_1 12 rfl rfl)
theorem dX7_tellsFaces_36 : decode cX7_tellsFaces 36 = .ok (.lcmp, 1) := dk_148 (dk_at dksX7_tellsFaces_1 13 rfl rfl)
theorem dX7_tellsFaces_37 : decode cX7_tellsFaces 37 = .ok (.ifCond .ne 28, 3) := dk_154 0 28 (dk_at dksX7_tellsFaces_1 14 rfl rfl)
theorem dX7_tellsFaces_40 : decode cX7_tellsFaces 40 = .ok (.aload_n 0, 1) := dk_42 (dk_at dksX7_tellsFaces_1 17 rfl rfl)
theorem dX7_tellsFaces_41 : decode cX7_tellsFaces 41 = .ok (.iload_n 1, 1) := dk_27 (dk_at dksX7_tellsFaces_1 18 rfl rfl)
theorem dX7_tellsFaces_42 : decode cX7_tellsFaces 42 = .ok (.iload_n 2, 1) := dk_28 (dk_at dksX7_tellsFaces_1 19 rfl rfl)
theorem dX7_tellsFaces_43 : decode cX7_tellsFaces 43 = .ok (.iload_n 3, 1) := dk_29 (dk_at dksX7_tellsFaces_1 20 rfl rfl)
theorem dX7_tellsFaces_44 : decode cX7_tellsFaces 44 = .ok (.aload_n 0, 1) := dk_42 (dk_at dksX7_tellsFaces_1 21 rfl rfl)
theorem dX7_tellsFaces_45 : decode cX7_tellsFaces 45 = .ok (.iload_n 1, 1) := dk_27 (dk_at dksX7_tellsFaces_1 22 rfl rfl)
theorem dX7_tellsFaces_46 : decode cX7_tellsFaces 46 = .ok (.iload_n 2, 1) := dk_28 (dk_at dksX7_tellsFaces_1 23 rfl rfl)
theorem dX7_tellsFaces_47 : decode cX7_tellsFaces 47 = .ok (.iload_n 3, 1) := dk_29 (dk_at dksX7_tellsFaces_2 0 rfl rfl)
theorem dX7_tellsFaces_48 : decode cX7_tellsFaces 48 = .ok (.invokevirtual 224, 3) := dk_182 0 224 (dk_at dksX7_tellsFaces_2 1 rfl rfl)
theorem dX7_tellsFaces_51 : decode cX7_tellsFaces 51 = .ok (.invokevirtual 230, 3) := dk_182 0 230 (dk_at dksX7_tellsFaces_2 4 rfl rfl)
theorem dX7_tellsFaces_54 : decode cX7_tellsFaces 54 = .ok (.iconst 1, 1) := dk_4 (dk_at dksX7_tellsFaces_2 7 rfl rfl)
theorem dX7_tellsFaces_55 : decode cX7_tellsFaces 55 = .ok (.if_icmp .le 10, 3) := dk_164 0 10 (dk_at dksX7_tellsFaces_2 8 rfl rfl)
theorem dX7_tellsFaces_58 : decode cX7_tellsFaces 58 = .ok (.aload_n 0, 1) := dk_42 (dk_at dksX7_tellsFaces_2 11 rfl rfl)
theorem dX7_tellsFaces_59 : decode cX7_tellsFaces 59 = .ok (.iload_n 1, 1) := dk_27 (dk_at dksX7_tellsFaces_2 12 rfl rfl)
theorem dX7_tellsFaces_60 : decode cX7_tellsFaces 60 = .ok (.iload_n 2, 1) := dk_28 (dk_at dksX7_tellsFaces_2 13 rfl rfl)
theorem dX7_tellsFaces_61 : decode cX7_tellsFaces 61 = .ok (.iload_n 3, 1) := dk_29 (dk_at dksX7_tellsFaces_2 14 rfl rfl)
theorem dX7_tellsFaces_62 : decode cX7_tellsFaces 62 = .ok (.invokevirtual 227, 3) := dk_182 0 227 (dk_at dksX7_tellsFaces_2 15 rfl rfl)
theorem dX7_tellsFaces_65 : decode cX7_tellsFaces 65 = .ok (.iinc 3 1, 3) := dk_132 3 1 (dk_at dksX7_tellsFaces_2 18 rfl rfl)
theorem dX7_tellsFaces_68 : decode cX7_tellsFaces 68 = .ok (.goto (-46), 3) := dk_167 255 210 (dk_at dksX7_tellsFaces_2 21 rfl rfl)
theorem dX7_tellsFaces_71 : decode cX7_tellsFaces 71 = .ok (.iinc 2 1, 3) := dk_132 2 1 (dk_at dksX7_tellsFaces_3 0 rfl rfl)
theorem dX7_tellsFaces_74 : decode cX7_tellsFaces 74 = .ok (.goto (-60), 3) := dk_167 255 196 (dk_at dksX7_tellsFaces_3 3 rfl rfl)
theorem dX7_tellsFaces_77 : decode cX7_tellsFaces 77 = .ok (.aload_n 0, 1) := dk_42 (dk_at dksX7_tellsFaces_3 6 rfl rfl)
theorem dX7_tellsFaces_78 : decode cX7_tellsFaces 78 = .ok (.iload_n 1, 1) := dk_27 (dk_at dksX7_tellsFaces_3 7 rfl rfl)
theorem dX7_tellsFaces_79 : decode cX7_tellsFaces 79 = .ok (.iconst 0, 1) := dk_3 (dk_at dksX7_tellsFaces_3 8 rfl rfl)
theorem dX7_tellsFaces_80 : decode cX7_tellsFaces 80 = .ok (.iconst 1, 1) := dk_4 (dk_at dksX7_tellsFaces_3 9 rfl rfl)
theorem dX7_tellsFaces_81 : decode cX7_tellsFaces 81 = .ok (.invokevirtual 227, 3) := dk_182 0 227 (dk_at dksX7_tellsFaces_3 10 rfl rfl)
theorem dX7_tellsFaces_84 : decode cX7_tellsFaces 84 = .ok (.return_, 1) := dk_177 (dk_at dksX7_tellsFaces_3 13 rfl rfl)
abbrev cX7_comesFace : ByteArray := prog_17_method_30_code
def yX7_comesFace : MethodName := ⟨RX7, "comesFace", "(III)V"⟩
def dkwX7_comesFace_5 : List UInt8 := [29, 182, 0, 224, 79, 42, 89, 180, 0, 221, 4, 96, 181, 0, 221, 177]
abbrev dktX7_comesFace_5 : List UInt8 := dkwX7_comesFace_5 ++ []
def dkwX7_comesFace_4 : List UInt8 := [180, 0, 39, 21, 4, 28, 79, 42, 180, 0, 42, 21, 4, 29, 79, 42, 180, 0, 45, 21, 4, 42, 27, 28]
abbrev dktX7_comesFace_4 : List UInt8 := dkwX7_comesFace_4 ++ dktX7_comesFace_5
def dkwX7_comesFace_3 : List UInt8 := [180, 0, 45, 21, 4, 42, 180, 0, 45, 21, 4, 4, 100, 46, 79, 132, 4, 255, 167, 255, 175, 42]
abbrev dktX7_comesFace_3 : List UInt8 := dkwX7_comesFace_3 ++ dktX7_comesFace_4
def dkwX7_comesFace_2 : List UInt8 := [21, 4, 4, 100, 46, 79, 42, 180, 0, 42, 21, 4, 42, 180, 0, 42, 21, 4, 4, 100, 46, 79, 42]
abbrev dktX7_comesFace_2 : List UInt8 := dkwX7_comesFace_2 ++ dktX7_comesFace_3
def dkwX7_comesFace_1 : List UInt8 := [180, 0, 39, 21, 4, 4, 100, 46, 29, 104, 164, 0, 57, 42, 180, 0, 39, 21, 4, 42, 180, 0, 39]
abbrev dktX7_comesFace_1 : List UInt8 := dkwX7_comesFace_1 ++ dktX7_comesFace_2
def dkwX7_comesFace_0 : List UInt8 := [42, 180, 0, 221, 54, 4, 21, 4, 158, 0, 82, 28, 42, 180, 0, 42, 21, 4, 4, 100, 46, 104, 42]
abbrev dktX7_comesFace_0 : List UInt8 := dkwX7_comesFace_0 ++ dktX7_comesFace_1
theorem dksX7_comesFace_0 : cX7_comesFace.data.toList.drop 0 = dktX7_comesFace_0 := by decide +kernel
theorem dksX7_comesFace_1 : cX7_comesFace.data.toList.drop 23 = dktX7_comesFace_1 := dk_seg dksX7_comesFace_0 23 rfl rfl
theorem dksX7_comesFace_2 : cX7_comesFace.data.toList.drop 46 = dktX7_comesFace_2 := dk_seg dksX7_comesFace_1 23 rfl rfl
theorem dksX7_comesFace_3 : cX7_comesFace.data.toList.drop 69 = dktX7_comesFace_3 := dk_seg dksX7_comesFace_2 23 rfl rfl
theorem dksX7_comesFace_4 : cX7_comesFace.data.toList.drop 91 = dktX7_comesFace_4 := dk_seg dksX7_comesFace_3 22 rfl rfl
theorem dksX7_comesFace_5 : cX7_comesFace.data.toList.drop 115 = dktX7_comesFace_5 := dk_seg dksX7_comesFace_4 24 rfl rfl
theorem dX7_comesFace_0 : decode cX7_comesFace 0 = .ok (.aload_n 0, 1) := dk_42 (dk_at dksX7_comesFace_0 0 rfl rfl)
theorem dX7_comesFace_1 : decode cX7_comesFace 1 = .ok (.getfield 221, 3) := dk_180 0 221 (dk_at dksX7_comesFace_0 1 rfl rfl)
theorem dX7_comesFace_4 : decode cX7_comesFace 4 = .ok (.istore 4, 2) := dk_54 4 (dk_at dksX7_comesFace_0 4 rfl rfl)
theorem dX7_comesFace_6 : decode cX7_comesFace 6 = .ok (.iload 4, 2) := dk_21 4 (dk_at dksX7_comesFace_0 6 rfl rfl)
theorem dX7_comesFace_8 : decode cX7_comesFace 8 = .ok (.ifCond .le 82, 3) := dk_158 0 82 (dk_at dksX7_comesFace_0 8 rfl rfl)
theorem dX7_comesFace_11 : decode cX7_comesFace 11 = .ok (.iload_n 2, 1) := dk_28 (dk_at dksX7_comesFace_0 11 rfl rfl)
theorem dX7_comesFace_12 : decode cX7_comesFace 12 = .ok (.aload_n 0, 1) := dk_42 (dk_at dksX7_comesFace_0 12 rfl rfl)
theorem dX7_comesFace_13 : decode cX7_comesFace 13 = .ok (.getfield 42, 3) := dk_180 0 42 (dk_at dksX7_comesFace_0 13 rfl rfl)
theorem dX7_comesFace_16 : decode cX7_comesFace 16 = .ok (.iload 4, 2) := dk_21 4 (dk_at dksX7_comesFace_0 16 rfl rfl)
theorem dX7_comesFace_18 : decode cX7_comesFace 18 = .ok (.iconst 1, 1) := dk_4 (dk_at dksX7_comesFace_0 18 rfl rfl)
theorem dX7_comesFace_19 : decode cX7_comesFace 19 = .ok (.isub, 1) := dk_100 (dk_at dksX7_comesFace_0 19 rfl rfl)
theorem dX7_comesFace_20 : decode cX7_comesFace 20 = .ok (.iaload, 1) := dk_46 (dk_at dksX7_comesFace_0 20 rfl rfl)
theorem dX7_comesFace_21 : decode cX7_comesFace 21 = .ok (.imul, 1) := dk_104 (dk_at dksX7_comesFace_0 21 rfl rfl)
theorem dX7_comesFace_22 : decode cX7_comesFace 22 = .ok (.aload_n 0, 1) := dk_42 (dk_at dksX7_comesFace_0 22 rfl rfl)
theorem dX7_comesFace_23 : decode cX7_comesFace 23 = .ok (.getfield 39, 3) := dk_180 0 39 (dk_at dksX7_comesFace_1 0 rfl rfl)
theorem dX7_comesFace_26 : decode cX7_comesFace 26 = .ok (.iload 4, 2) := dk_21 4 (dk_at dksX7_comesFace_1 3 rfl rfl)
theorem dX7_comesFace_28 : decode cX7_comesFace 28 = .ok (.iconst 1, 1) := dk_4 (dk_at dksX7_comesFace_1 5 rfl rfl)
theorem dX7_comesFace_29 : decode cX7_comesFace 29 = .ok (.isub, 1) := dk_100 (dk_at dksX7_comesFace_1 6 rfl rfl)
theorem dX7_comesFace_30 : decode cX7_comesFace 30 = .ok (.iaload, 1) := dk_46 (dk_at dksX7_comesFace_1 7 rfl rfl)
theorem dX7_comesFace_31 : decode cX7_comesFace 31 = .ok (.iload_n 3, 1) := dk_29 (dk_at dksX7_comesFace_1 8 rfl rfl)
theorem dX7_comesFace_32 : decode cX7_comesFace 32 = .ok (.imul, 1) := dk_104 (dk_at dksX7_comesFace_1 9 rfl rfl)
theorem dX7_comesFace_33 : decode cX7_comesFace 33 = .ok (.if_icmp .le 57, 3) := dk_164 0 57 (dk_at dksX7_comesFace_1 10 rfl rfl)
theorem dX7_comesFace_36 : decode cX7_comesFace 36 = .ok (.aload_n 0, 1) := dk_42 (dk_at dksX7_comesFace_1 13 rfl rfl)
theorem dX7_comesFace_37 : decode cX7_comesFace 37 = .ok (.getfield 39, 3) := dk_180 0 39 (dk_at dksX7_comesFace_1 14 rfl rfl)
theorem dX7_comesFace_40 : decode cX7_comesFace 40 = .ok (.iload 4, 2) := dk_21 4 (dk_at dksX7_comesFace_1 17 rfl rfl)
theorem dX7_comesFace_42 : decode cX7_comesFace 42 = .ok (.aload_n 0, 1) := dk_42 (dk_at dksX7_comesFace_1 19 rfl rfl)
theorem dX7_comesFace_43 : decode cX7_comesFace 43 = .ok (.getfield 39, 3) := dk_180 0 39 (dk_at dksX7_comesFace_1 20 rfl rfl)
theorem dX7_comesFace_46 : decode cX7_comesFace 46 = .ok (.iload 4, 2) := dk_21 4 (dk_at dksX7_comesFace_2 0 rfl rfl)
theorem dX7_comesFace_48 : decode cX7_comesFace 48 = .ok (.iconst 1, 1) := dk_4 (dk_at dksX7_comesFace_2 2 rfl rfl)
theorem dX7_comesFace_49 : decode cX7_comesFace 49 = .ok (.isub, 1) := dk_100 (dk_at dksX7_comesFace_2 3 rfl rfl)
theorem dX7_comesFace_50 : decode cX7_comesFace 50 = .ok (.iaload, 1) := dk_46 (dk_at dksX7_comesFace_2 4 rfl rfl)
theorem dX7_comesFace_51 : decode cX7_comesFace 51 = .ok (.iastore, 1) := dk_79 (dk_at dksX7_comesFace_2 5 rfl rfl)
theorem dX7_comesFace_52 : decode cX7_comesFace 52 = .ok (.aload_n 0, 1) := dk_42 (dk_at dksX7_comesFace_2 6 rfl rfl)
theorem dX7_comesFace_53 : decode cX7_comesFace 53 = .ok (.getfield 42, 3) := dk_180 0 42 (dk_at dksX7_comesFace_2 7 rfl rfl)
theorem dX7_comesFace_56 : decode cX7_comesFace 56 = .ok (.iload 4, 2) := dk_21 4 (dk_at dksX7_comesFace_2 10 rfl rfl)
theorem dX7_comesFace_58 : decode cX7_comesFace 58 = .ok (.aload_n 0, 1) := dk_42 (dk_at dksX7_comesFace_2 12 rfl rfl)
theorem dX7_comesFace_59 : decode cX7_comesFace 59 = .ok (.getfield 42, 3) := dk_180 0 42 (dk_at dksX7_comesFace_2 13 rfl rfl)
theorem dX7_comesFace_62 : decode cX7_comesFace 62 = .ok (.iload 4, 2) := dk_21 4 (dk_at dksX7_comesFace_2 16 rfl rfl)
theorem dX7_comesFace_64 : decode cX7_comesFace 64 = .ok (.iconst 1, 1) := dk_4 (dk_at dksX7_comesFace_2 18 rfl rfl)
theorem dX7_comesFace_65 : decode cX7_comesFace 65 = .ok (.isub, 1) := dk_100 (dk_at dksX7_comesFace_2 19 rfl rfl)
theorem dX7_comesFace_66 : decode cX7_comesFace 66 = .ok (.iaload, 1) := dk_46 (dk_at dksX7_comesFace_2 20 rfl rfl)
theorem dX7_comesFace_67 : decode cX7_comesFace 67 = .ok (.iastore, 1) := dk_79 (dk_at dksX7_comesFace_2 21 rfl rfl)
theorem dX7_comesFace_68 : decode cX7_comesFace 68 = .ok (.aload_n 0, 1) := dk_42 (dk_at dksX7_comesFace_2 22 rfl rfl)
theorem dX7_comesFace_69 : decode cX7_comesFace 69 = .ok (.getfield 45, 3) := dk_180 0 45 (dk_at dksX7_comesFace_3 0 rfl rfl)
theorem dX7_comesFace_72 : decode cX7_comesFace 72 = .ok (.iload 4, 2) := dk_21 4 (dk_at dksX7_comesFace_3 3 rfl rfl)
theorem dX7_comesFace_74 : decode cX7_comesFace 74 = .ok (.aload_n 0, 1) := dk_42 (dk_at dksX7_comesFace_3 5 rfl rfl)
theorem dX7_comesFace_75 : decode cX7_comesFace 75 = .ok (.getfield 45, 3) := dk_180 0 45 (dk_at dksX7_comesFace_3 6 rfl rfl)
theorem dX7_comesFace_78 : decode cX7_comesFace 78 = .ok (.iload 4, 2) := dk_21 4 (dk_at dksX7_comesFace_3 9 rfl rfl)
theorem dX7_comesFace_80 : decode cX7_comesFace 80 = .ok (.iconst 1, 1) := dk_4 (dk_at dksX7_comesFace_3 11 rfl rfl)
theorem dX7_comesFace_81 : decode cX7_comesFace 81 = .ok (.isub, 1) := dk_100 (dk_at dksX7_comesFace_3 12 rfl rfl)
theorem dX7_comesFace_82 : decode cX7_comesFace 82 = .ok (.iaload, 1) := dk_46 (dk_at dksX7_comesFace_3 13 rfl rfl)
theorem dX7_comesFace_83 : decode cX7_comesFace 83 = .ok (.iastore, 1) := dk_79 (dk_at dksX7_comesFace_3 14 rfl rfl)
theorem dX7_comesFace_84 : decode cX7_comesFace 84 = .ok (.iinc 4 (-1), 3) := dk_132 4 255 (dk_at dksX7_comesFace_3 15 rfl rfl)
theorem dX7_comesFace_87 : decode cX7_comesFace 87 = .ok (.goto (-81), 3) := dk_167 255 175 (dk_at dksX7_comesFace_3 18 rfl rfl)
theorem dX7_comesFace_90 : decode cX7_comesFace 90 = .ok (.aload_n 0, 1) := dk_42 (dk_at dksX7_comesFace_3 21 rfl rfl)
theorem dX7_comesFace_91 : decode cX7_comesFace 91 = .ok (.getfield 39, 3) := dk_180 0 39 (dk_at dksX7_comesFace_4 0 rfl rfl)
theorem dX7_comesFace_94 : decode cX7_comesFace 94 = .ok (.iload 4, 2) := dk_21 4 (dk_at dksX7_comesFace_4 3 rfl rfl)
theorem dX7_comesFace_96 : decode cX7_comesFace 96 = .ok (.iload_n 2, 1) := dk_28 (dk_at dksX7_comesFace_4 5 rfl rfl)
theorem dX7_comesFace_97 : decode cX7_comesFace 97 = .ok (.iastore, 1) := dk_79 (dk_at dksX7_comesFace_4 6 rfl rfl)
theorem dX7_comesFace_98 : decode cX7_comesFace 98 = .ok (.aload_n 0, 1) := dk_42 (dk_at dksX7_comesFace_4 7 rfl rfl)
theorem dX7_comesFace_99 : decode cX7_comesFace 99 = .ok (.getfield 42, 3) := dk_180 0 42 (dk_at dksX7_comesFace_4 8 rfl rfl)
theorem dX7_comesFace_102 : decode cX7_comesFace 102 = .ok (.iload 4, 2) := dk_21 4 (dk_at dksX7_comesFace_4 11 rfl rfl)
theorem dX7_comesFace_104 : decode cX7_comesFace 104 = .ok (.iload_n 3, 1) := dk_29 (dk_at dksX7_comesFace_4 13 rfl rfl)
theorem dX7_comesFace_105 : decode cX7_comesFace 105 = .ok (.iastore, 1) := dk_79 (dk_at dksX7_comesFace_4 14 rfl rfl)
theorem dX7_comesFace_106 : decode cX7_comesFace 106 = .ok (.aload_n 0, 1) := dk_42 (dk_at dksX7_comesFace_4 15 rfl rfl)
theorem dX7_comesFace_107 : decode cX7_comesFace 107 = .ok (.getfield 45, 3) := dk_180 0 45 (dk_at dksX7_comesFace_4 16 rfl rfl)
theorem dX7_comesFace_110 : decode cX7_comesFace 110 = .ok (.iload 4, 2) := dk_21 4 (dk_at dksX7_comesFace_4 19 rfl rfl)
theorem dX7_comesFace_112 : decode cX7_comesFace 112 = .ok (.aload_n 0, 1) := dk_42 (dk_at dksX7_comesFace_4 21 rfl rfl)
theorem dX7_comesFace_113 : decode cX7_comesFace 113 = .ok (.iload_n 1, 1) := dk_27 (dk_at dksX7_comesFace_4 22 rfl rfl)
theorem dX7_comesFace_114 : decode cX7_comesFace 114 = .ok (.iload_n 2, 1) := dk_28 (dk_at dksX7_comesFace_4 23 rfl rfl)
theorem dX7_comesFace_115 : decode cX7_comesFace 115 = .ok (.iload_n 3, 1) := dk_29 (dk_at dksX7_comesFace_5 0 rfl rfl)
theorem dX7_comesFace_116 : decode cX7_comesFace 116 = .ok (.invokevirtual 224, 3) := dk_182 0 224 (dk_at dksX7_comesFace_5 1 rfl rfl)
theorem dX7_comesFace_119 : decode cX7_comesFace 119 = .ok (.iastore, 1) := dk_79 (dk_at dksX7_comesFace_5 4 rfl rfl)
theorem dX7_comesFace_120 : decode cX7_comesFace 120 = .ok (.aload_n 0, 1) := dk_42 (dk_at dksX7_comesFace_5 5 rfl rfl)
theorem dX7_comesFace_121 : decode cX7_comesFace 121 = .ok (.dup, 1) := dk_89 (dk_at dksX7_comesFace_5 6 rfl rfl)
theorem dX7_comesFace_122 : decode cX7_comesFace 122 = .ok (.getfield 221, 3) := dk_180 0 221 (dk_at dksX7_comesFace_5 7 rfl rfl)
theorem dX7_comesFace_125 : decode cX7_comesFace 125 = .ok (.iconst 1, 1) := dk_4 (dk_at dksX7_comesFace_5 10 rfl rfl)
theorem dX7_comesFace_126 : decode cX7_comesFace 126 = .ok (.iadd, 1) := dk_96 (dk_at dksX7_comesFace_5 11 rfl rfl)
theorem dX7_comesFace_127 : decode cX7_comesFace 127 = .ok (.putfield 221, 3) := dk_181 0 221 (dk_at dksX7_comesFace_5 12 rfl rfl)
theorem dX7_comesFace_130 : decode cX7_comesFace 130 = .ok (.return_, 1) := dk_177 (dk_at dksX7_comesFace_5 15 rfl rfl)
abbrev cX7_levelOf : ByteArray := prog_17_method_28_code
def yX7_levelOf : MethodName := ⟨RX7, "levelOf", "(III)I"⟩
def dkwX7_levelOf_2 : List UInt8 := [167, 255, 216, 21, 4, 172]
abbrev dktX7_levelOf_2 : List UInt8 := dkwX7_levelOf_2 ++ []
def dkwX7_levelOf_1 : List UInt8 := [21, 5, 182, 0, 125, 104, 29, 42, 27, 21, 5, 182, 0, 129, 104, 96, 184, 0, 216, 54, 4, 132, 5, 1]
abbrev dktX7_levelOf_1 : List UInt8 := dkwX7_levelOf_1 ++ dktX7_levelOf_2
def dkwX7_levelOf_0 : List UInt8 := [17, 3, 232, 54, 4, 3, 54, 5, 21, 5, 42, 180, 0, 11, 27, 46, 162, 0, 35, 21, 4, 28, 42, 27]
abbrev dktX7_levelOf_0 : List UInt8 := dkwX7_levelOf_0 ++ dktX7_levelOf_1
theorem dksX7_levelOf_0 : cX7_levelOf.data.toList.drop 0 = dktX7_levelOf_0 := by decide +kernel
theorem dksX7_levelOf_1 : cX7_levelOf.data.toList.drop 24 = dktX7_levelOf_1 := dk_seg dksX7_levelOf_0 24 rfl rfl
theorem dksX7_levelOf_2 : cX7_levelOf.data.toList.drop 48 = dktX7_levelOf_2 := dk_seg dksX7_levelOf_1 24 rfl rfl
theorem dX7_levelOf_0 : decode cX7_levelOf 0 = .ok (.sipush 1000, 3) := dk_17 3 232 (dk_at dksX7_levelOf_0 0 rfl rfl)
theorem dX7_levelOf_3 : decode cX7_levelOf 3 = .ok (.istore 4, 2) := dk_54 4 (dk_at dksX7_levelOf_0 3 rfl rfl)
theorem dX7_levelOf_5 : decode cX7_levelOf 5 = .ok (.iconst 0, 1) := dk_3 (dk_at dksX7_levelOf_0 5 rfl rfl)
theorem dX7_levelOf_6 : decode cX7_levelOf 6 = .ok (.istore 5, 2) := dk_54 5 (dk_at dksX7_levelOf_0 6 rfl rfl)
theorem dX7_levelOf_8 : decode cX7_levelOf 8 = .ok (.iload 5, 2) := dk_21 5 (dk_at dksX7_levelOf_0 8 rfl rfl)
theorem dX7_levelOf_10 : decode cX7_levelOf 10 = .ok (.aload_n 0, 1) := dk_42 (dk_at dksX7_levelOf_0 10 rfl rfl)
theorem dX7_levelOf_11 : decode cX7_levelOf 11 = .ok (.getfield 11, 3) := dk_180 0 11 (dk_at dksX7_levelOf_0 11 rfl rfl)
theorem dX7_levelOf_14 : decode cX7_levelOf 14 = .ok (.iload_n 1, 1) := dk_27 (dk_at dksX7_levelOf_0 14 rfl rfl)
theorem dX7_levelOf_15 : decode cX7_levelOf 15 = .ok (.iaload, 1) := dk_46 (dk_at dksX7_levelOf_0 15 rfl rfl)
theorem dX7_levelOf_16 : decode cX7_levelOf 16 = .ok (.if_icmp .ge 35, 3) := dk_162 0 35 (dk_at dksX7_levelOf_0 16 rfl rfl)
theorem dX7_levelOf_19 : decode cX7_levelOf 19 = .ok (.iload 4, 2) := dk_21 4 (dk_at dksX7_levelOf_0 19 rfl rfl)
theorem dX7_levelOf_21 : decode cX7_levelOf 21 = .ok (.iload_n 2, 1) := dk_28 (dk_at dksX7_levelOf_0 21 rfl rfl)
theorem dX7_levelOf_22 : decode cX7_levelOf 22 = .ok (.aload_n 0, 1) := dk_42 (dk_at dksX7_levelOf_0 22 rfl rfl)
theorem dX7_levelOf_23 : decode cX7_levelOf 23 = .ok (.iload_n 1, 1) := dk_27 (dk_at dksX7_levelOf_0 23 rfl rfl)
theorem dX7_levelOf_24 : decode cX7_levelOf 24 = .ok (.iload 5, 2) := dk_21 5 (dk_at dksX7_levelOf_1 0 rfl rfl)
theorem dX7_levelOf_26 : decode cX7_levelOf 26 = .ok (.invokevirtual 125, 3) := dk_182 0 125 (dk_at dksX7_levelOf_1 2 rfl rfl)
theorem dX7_levelOf_29 : decode cX7_levelOf 29 = .ok (.imul, 1) := dk_104 (dk_at dksX7_levelOf_1 5 rfl rfl)
theorem dX7_levelOf_30 : decode cX7_levelOf 30 = .ok (.iload_n 3, 1) := dk_29 (dk_at dksX7_levelOf_1 6 rfl rfl)
theorem dX7_levelOf_31 : decode cX7_levelOf 31 = .ok (.aload_n 0, 1) := dk_42 (dk_at dksX7_levelOf_1 7 rfl rfl)
theorem dX7_levelOf_32 : decode cX7_levelOf 32 = .ok (.iload_n 1, 1) := dk_27 (dk_at dksX7_levelOf_1 8 rfl rfl)
theorem dX7_levelOf_33 : decode cX7_levelOf 33 = .ok (.iload 5, 2) := dk_21 5 (dk_at dksX7_levelOf_1 9 rfl rfl)
theorem dX7_levelOf_35 : decode cX7_levelOf 35 = .ok (.invokevirtual 129, 3) := dk_182 0 129 (dk_at dksX7_levelOf_1 11 rfl rfl)
theorem dX7_levelOf_38 : decode cX7_levelOf 38 = .ok (.imul, 1) := dk_104 (dk_at dksX7_levelOf_1 14 rfl rfl)
theorem dX7_levelOf_39 : decode cX7_levelOf 39 = .ok (.iadd, 1) := dk_96 (dk_at dksX7_levelOf_1 15 rfl rfl)
theorem dX7_levelOf_40 : decode cX7_levelOf 40 = .ok (.invokestatic 216, 3) := dk_184 0 216 (dk_at dksX7_levelOf_1 16 rfl rfl)
theorem dX7_levelOf_43 : decode cX7_levelOf 43 = .ok (.istore 4, 2) := dk_54 4 (dk_at dksX7_levelOf_1 19 rfl rfl)
theorem dX7_levelOf_45 : decode cX7_levelOf 45 = .ok (.iinc 5 1, 3) := dk_132 5 1 (dk_at dksX7_levelOf_1 21 rfl rfl)
theorem dX7_levelOf_48 : decode cX7_levelOf 48 = .ok (.goto (-40), 3) := dk_167 255 216 (dk_at dksX7_levelOf_2 0 rfl rfl)
theorem dX7_levelOf_51 : decode cX7_levelOf 51 = .ok (.iload 4, 2) := dk_21 4 (dk_at dksX7_levelOf_2 3 rfl rfl)
theorem dX7_levelOf_53 : decode cX7_levelOf 53 = .ok (.ireturn, 1) := dk_172 (dk_at dksX7_levelOf_2 5 rfl rfl)
abbrev cX7_divisor : ByteArray := prog_17_method_5_code
def yX7_divisor : MethodName := ⟨RX7, "divisor", "(JJ)J"⟩
def dkwX7_divisor_1 : List UInt8 := [22, 8, 55, 6, 167, 255, 234, 22, 4, 173]
abbrev dktX7_divisor_1 : List UInt8 := dkwX7_divisor_1 ++ []
def dkwX7_divisor_0 : List UInt8 := [30, 55, 4, 32, 55, 6, 22, 6, 9, 148, 153, 0, 21, 22, 4, 22, 6, 113, 55, 8, 22, 6, 55, 4]
abbrev dktX7_divisor_0 : List UInt8 := dkwX7_divisor_0 ++ dktX7_divisor_1
theorem dksX7_divisor_0 : cX7_divisor.data.toList.drop 0 = dktX7_divisor_0 := by decide +kernel
theorem dksX7_divisor_1 : cX7_divisor.data.toList.drop 24 = dktX7_divisor_1 := dk_seg dksX7_divisor_0 24 rfl rfl
theorem dX7_divisor_0 : decode cX7_divisor 0 = .ok (.lload_n 0, 1) := dk_30 (dk_at dksX7_divisor_0 0 rfl rfl)
theorem dX7_divisor_1 : decode cX7_divisor 1 = .ok (.lstore 4, 2) := dk_55 4 (dk_at dksX7_divisor_0 1 rfl rfl)
theorem dX7_divisor_3 : decode cX7_divisor 3 = .ok (.lload_n 2, 1) := dk_32 (dk_at dksX7_divisor_0 3 rfl rfl)
theorem dX7_divisor_4 : decode cX7_divisor 4 = .ok (.lstore 6, 2) := dk_55 6 (dk_at dksX7_divisor_0 4 rfl rfl)
theorem dX7_divisor_6 : decode cX7_divisor 6 = .ok (.lload 6, 2) := dk_22 6 (dk_at dksX7_divisor_0 6 rfl rfl)
theorem dX7_divisor_8 : decode cX7_divisor 8 = .ok (.lconst 0, 1) := dk_9 (dk_at dksX7_divisor_0 8 rfl rfl)
theorem dX7_divisor_9 : decode cX7_divisor 9 = .ok (.lcmp, 1) := dk_148 (dk_at dksX7_divisor_0 9 rfl rfl)
theorem dX7_divisor_10 : decode cX7_divisor 10 = .ok (.ifCond .eq 21, 3) := dk_153 0 21 (dk_at dksX7_divisor_0 10 rfl rfl)
theorem dX7_divisor_13 : decode cX7_divisor 13 = .ok (.lload 4, 2) := dk_22 4 (dk_at dksX7_divisor_0 13 rfl rfl)
theorem dX7_divisor_15 : decode cX7_divisor 15 = .ok (.lload 6, 2) := dk_22 6 (dk_at dksX7_divisor_0 15 rfl rfl)
theorem dX7_divisor_17 : decode cX7_divisor 17 = .ok (.lrem, 1) := dk_113 (dk_at dksX7_divisor_0 17 rfl rfl)
theorem dX7_divisor_18 : decode cX7_divisor 18 = .ok (.lstore 8, 2) := dk_55 8 (dk_at dksX7_divisor_0 18 rfl rfl)
theorem dX7_divisor_20 : decode cX7_divisor 20 = .ok (.lload 6, 2) := dk_22 6 (dk_at dksX7_divisor_0 20 rfl rfl)
theorem dX7_divisor_22 : decode cX7_divisor 22 = .ok (.lstore 4, 2) := dk_55 4 (dk_at dksX7_divisor_0 22 rfl rfl)
theorem dX7_divisor_24 : decode cX7_divisor 24 = .ok (.lload 8, 2) := dk_22 8 (dk_at dksX7_divisor_1 0 rfl rfl)
theorem dX7_divisor_26 : decode cX7_divisor 26 = .ok (.lstore 6, 2) := dk_55 6 (dk_at dksX7_divisor_1 2 rfl rfl)
theorem dX7_divisor_28 : decode cX7_divisor 28 = .ok (.goto (-22), 3) := dk_167 255 234 (dk_at dksX7_divisor_1 4 rfl rfl)
theorem dX7_divisor_31 : decode cX7_divisor 31 = .ok (.lload 4, 2) := dk_22 4 (dk_at dksX7_divisor_1 7 rfl rfl)
theorem dX7_divisor_33 : decode cX7_divisor 33 = .ok (.lreturn, 1) := dk_173 (dk_at dksX7_divisor_1 9 rfl rfl)
abbrev cX7_metBy : ByteArray := prog_17_method_29_code
def yX7_metBy : MethodName := ⟨RX7, "metBy", "(IIII)I"⟩
def dkwX7_metBy_2 : List UInt8 := [96, 54, 5, 132, 6, 1, 167, 255, 208, 21, 5, 172]
abbrev dktX7_metBy_2 : List UInt8 := dkwX7_metBy_2 ++ []
def dkwX7_metBy_1 : List UInt8 := [182, 0, 125, 104, 29, 42, 27, 21, 6, 182, 0, 129, 104, 96, 21, 4, 160, 0, 7, 4, 167, 0, 4, 3]
abbrev dktX7_metBy_1 : List UInt8 := dkwX7_metBy_1 ++ dktX7_metBy_2
def dkwX7_metBy_0 : List UInt8 := [3, 54, 5, 3, 54, 6, 21, 6, 42, 180, 0, 11, 27, 46, 162, 0, 43, 21, 5, 28, 42, 27, 21, 6]
abbrev dktX7_metBy_0 : List UInt8 := dkwX7_metBy_0 ++ dktX7_metBy_1
theorem dksX7_metBy_0 : cX7_metBy.data.toList.drop 0 = dktX7_metBy_0 := by decide +kernel
theorem dksX7_metBy_1 : cX7_metBy.data.toList.drop 24 = dktX7_metBy_1 := dk_seg dksX7_metBy_0 24 rfl rfl
theorem dksX7_metBy_2 : cX7_metBy.data.toList.drop 48 = dktX7_metBy_2 := dk_seg dksX7_metBy_1 24 rfl rfl
theorem dX7_metBy_0 : decode cX7_metBy 0 = .ok (.iconst 0, 1) := dk_3 (dk_at dksX7_metBy_0 0 rfl rfl)
theorem dX7_metBy_1 : decode cX7_metBy 1 = .ok (.istore 5, 2) := dk_54 5 (dk_at dksX7_metBy_0 1 rfl rfl)
theorem dX7_metBy_3 : decode cX7_metBy 3 = .ok (.iconst 0, 1) := dk_3 (dk_at dksX7_metBy_0 3 rfl rfl)
theorem dX7_metBy_4 : decode cX7_metBy 4 = .ok (.istore 6, 2) := dk_54 6 (dk_at dksX7_metBy_0 4 rfl rfl)
theorem dX7_metBy_6 : decode cX7_metBy 6 = .ok (.iload 6, 2) := dk_21 6 (dk_at dksX7_metBy_0 6 rfl rfl)
theorem dX7_metBy_8 : decode cX7_metBy 8 = .ok (.aload_n 0, 1) := dk_42 (dk_at dksX7_metBy_0 8 rfl rfl)
theorem dX7_metBy_9 : decode cX7_metBy 9 = .ok (.getfield 11, 3) := dk_180 0 11 (dk_at dksX7_metBy_0 9 rfl rfl)
theorem dX7_metBy_12 : decode cX7_metBy 12 = .ok (.iload_n 1, 1) := dk_27 (dk_at dksX7_metBy_0 12 rfl rfl)
theorem dX7_metBy_13 : decode cX7_metBy 13 = .ok (.iaload, 1) := dk_46 (dk_at dksX7_metBy_0 13 rfl rfl)
theorem dX7_metBy_14 : decode cX7_metBy 14 = .ok (.if_icmp .ge 43, 3) := dk_162 0 43 (dk_at dksX7_metBy_0 14 rfl rfl)
theorem dX7_metBy_17 : decode cX7_metBy 17 = .ok (.iload 5, 2) := dk_21 5 (dk_at dksX7_metBy_0 17 rfl rfl)
theorem dX7_metBy_19 : decode cX7_metBy 19 = .ok (.iload_n 2, 1) := dk_28 (dk_at dksX7_metBy_0 19 rfl rfl)
theorem dX7_metBy_20 : decode cX7_metBy 20 = .ok (.aload_n 0, 1) := dk_42 (dk_at dksX7_metBy_0 20 rfl rfl)
theorem dX7_metBy_21 : decode cX7_metBy 21 = .ok (.iload_n 1, 1) := dk_27 (dk_at dksX7_metBy_0 21 rfl rfl)
theorem dX7_metBy_22 : decode cX7_metBy 22 = .ok (.iload 6, 2) := dk_21 6 (dk_at dksX7_metBy_0 22 rfl rfl)
theorem dX7_metBy_24 : decode cX7_metBy 24 = .ok (.invokevirtual 125, 3) := dk_182 0 125 (dk_at dksX7_metBy_1 0 rfl rfl)
theorem dX7_metBy_27 : decode cX7_metBy 27 = .ok (.imul, 1) := dk_104 (dk_at dksX7_metBy_1 3 rfl rfl)
theorem dX7_metBy_28 : decode cX7_metBy 28 = .ok (.iload_n 3, 1) := dk_29 (dk_at dksX7_metBy_1 4 rfl rfl)
theorem dX7_metBy_29 : decode cX7_metBy 29 = .ok (.aload_n 0, 1) := dk_42 (dk_at dksX7_metBy_1 5 rfl rfl)
theorem dX7_metBy_30 : decode cX7_metBy 30 = .ok (.iload_n 1, 1) := dk_27 (dk_at dksX7_metBy_1 6 rfl rfl)
theorem dX7_metBy_31 : decode cX7_metBy 31 = .ok (.iload 6, 2) := dk_21 6 (dk_at dksX7_metBy_1 7 rfl rfl)
theorem dX7_metBy_33 : decode cX7_metBy 33 = .ok (.invokevirtual 129, 3) := dk_182 0 129 (dk_at dksX7_metBy_1 9 rfl rfl)
theorem dX7_metBy_36 : decode cX7_metBy 36 = .ok (.imul, 1) := dk_104 (dk_at dksX7_metBy_1 12 rfl rfl)
theorem dX7_metBy_37 : decode cX7_metBy 37 = .ok (.iadd, 1) := dk_96 (dk_at dksX7_metBy_1 13 rfl rfl)
theorem dX7_metBy_38 : decode cX7_metBy 38 = .ok (.iload 4, 2) := dk_21 4 (dk_at dksX7_metBy_1 14 rfl rfl)
theorem dX7_metBy_40 : decode cX7_metBy 40 = .ok (.if_icmp .ne 7, 3) := dk_160 0 7 (dk_at dksX7_metBy_1 16 rfl rfl)
theorem dX7_metBy_43 : decode cX7_metBy 43 = .ok (.iconst 1, 1) := dk_4 (dk_at dksX7_metBy_1 19 rfl rfl)
theorem dX7_metBy_44 : decode cX7_metBy 44 = .ok (.goto 4, 3) := dk_167 0 4 (dk_at dksX7_metBy_1 20 rfl rfl)
theorem dX7_metBy_47 : decode cX7_metBy 47 = .ok (.iconst 0, 1) := dk_3 (dk_at dksX7_metBy_1 23 rfl rfl)
theorem dX7_metBy_48 : decode cX7_metBy 48 = .ok (.iadd, 1) := dk_96 (dk_at dksX7_metBy_2 0 rfl rfl)
theorem dX7_metBy_49 : decode cX7_metBy 49 = .ok (.istore 5, 2) := dk_54 5 (dk_at dksX7_metBy_2 1 rfl rfl)
theorem dX7_metBy_51 : decode cX7_metBy 51 = .ok (.iinc 6 1, 3) := dk_132 6 1 (dk_at dksX7_metBy_2 3 rfl rfl)
theorem dX7_metBy_54 : decode cX7_metBy 54 = .ok (.goto (-48), 3) := dk_167 255 208 (dk_at dksX7_metBy_2 6 rfl rfl)
theorem dX7_metBy_57 : decode cX7_metBy 57 = .ok (.iload 5, 2) := dk_21 5 (dk_at dksX7_metBy_2 9 rfl rfl)
theorem dX7_metBy_59 : decode cX7_metBy 59 = .ok (.ireturn, 1) := dk_172 (dk_at dksX7_metBy_2 11 rfl rfl)
abbrev cX7_isCorner : ByteArray := prog_17_method_19_code
def yX7_isCorner : MethodName := ⟨RX7, "isCorner", "(II)Z"⟩
def dkwX7_isCorner_1 : List UInt8 := [28, 153, 0, 14, 42, 27, 28, 4, 100, 182, 0, 163, 154, 0, 7, 4, 167, 0, 4, 3, 172]
abbrev dktX7_isCorner_1 : List UInt8 := dkwX7_isCorner_1 ++ []
def dkwX7_isCorner_0 : List UInt8 := [42, 27, 28, 182, 0, 163, 153, 0, 37, 27, 153, 0, 14, 42, 27, 4, 100, 28, 182, 0, 163, 154, 0, 22]
abbrev dktX7_isCorner_0 : List UInt8 := dkwX7_isCorner_0 ++ dktX7_isCorner_1
theorem dksX7_isCorner_0 : cX7_isCorner.data.toList.drop 0 = dktX7_isCorner_0 := by decide +kernel
theorem dksX7_isCorner_1 : cX7_isCorner.data.toList.drop 24 = dktX7_isCorner_1 := dk_seg dksX7_isCorner_0 24 rfl rfl
theorem dX7_isCorner_0 : decode cX7_isCorner 0 = .ok (.aload_n 0, 1) := dk_42 (dk_at dksX7_isCorner_0 0 rfl rfl)
theorem dX7_isCorner_1 : decode cX7_isCorner 1 = .ok (.iload_n 1, 1) := dk_27 (dk_at dksX7_isCorner_0 1 rfl rfl)
theorem dX7_isCorner_2 : decode cX7_isCorner 2 = .ok (.iload_n 2, 1) := dk_28 (dk_at dksX7_isCorner_0 2 rfl rfl)
theorem dX7_isCorner_3 : decode cX7_isCorner 3 = .ok (.invokevirtual 163, 3) := dk_182 0 163 (dk_at dksX7_isCorner_0 3 rfl rfl)
theorem dX7_isCorner_6 : decode cX7_isCorner 6 = .ok (.ifCond .eq 37, 3) := dk_153 0 37 (dk_at dksX7_isCorner_0 6 rfl rfl)
theorem dX7_isCorner_9 : decode cX7_isCorner 9 = .ok (.iload_n 1, 1) := dk_27 (dk_at dksX7_isCorner_0 9 rfl rfl)
theorem dX7_isCorner_10 : decode cX7_isCorner 10 = .ok (.ifCond .eq 14, 3) := dk_153 0 14 (dk_at dksX7_isCorner_0 10 rfl rfl)
theorem dX7_isCorner_13 : decode cX7_isCorner 13 = .ok (.aload_n 0, 1) := dk_42 (dk_at dksX7_isCorner_0 13 rfl rfl)
theorem dX7_isCorner_14 : decode cX7_isCorner 14 = .ok (.iload_n 1, 1) := dk_27 (dk_at dksX7_isCorner_0 14 rfl rfl)
theorem dX7_isCorner_15 : decode cX7_isCorner 15 = .ok (.iconst 1, 1) := dk_4 (dk_at dksX7_isCorner_0 15 rfl rfl)
theorem dX7_isCorner_16 : decode cX7_isCorner 16 = .ok (.isub, 1) := dk_100 (dk_at dksX7_isCorner_0 16 rfl rfl)
theorem dX7_isCorner_17 : decode cX7_isCorner 17 = .ok (.iload_n 2, 1) := dk_28 (dk_at dksX7_isCorner_0 17 rfl rfl)
theorem dX7_isCorner_18 : decode cX7_isCorner 18 = .ok (.invokevirtual 163, 3) := dk_182 0 163 (dk_at dksX7_isCorner_0 18 rfl rfl)
theorem dX7_isCorner_21 : decode cX7_isCorner 21 = .ok (.ifCond .ne 22, 3) := dk_154 0 22 (dk_at dksX7_isCorner_0 21 rfl rfl)
theorem dX7_isCorner_24 : decode cX7_isCorner 24 = .ok (.iload_n 2, 1) := dk_28 (dk_at dksX7_isCorner_1 0 rfl rfl)
theorem dX7_isCorner_25 : decode cX7_isCorner 25 = .ok (.ifCond .eq 14, 3) := dk_153 0 14 (dk_at dksX7_isCorner_1 1 rfl rfl)
theorem dX7_isCorner_28 : decode cX7_isCorner 28 = .ok (.aload_n 0, 1) := dk_42 (dk_at dksX7_isCorner_1 4 rfl rfl)
theorem dX7_isCorner_29 : decode cX7_isCorner 29 = .ok (.iload_n 1, 1) := dk_27 (dk_at dksX7_isCorner_1 5 rfl rfl)
theorem dX7_isCorner_30 : decode cX7_isCorner 30 = .ok (.iload_n 2, 1) := dk_28 (dk_at dksX7_isCorner_1 6 rfl rfl)
theorem dX7_isCorner_31 : decode cX7_isCorner 31 = .ok (.iconst 1, 1) := dk_4 (dk_at dksX7_isCorner_1 7 rfl rfl)
theorem dX7_isCorner_32 : decode cX7_isCorner 32 = .ok (.isub, 1) := dk_100 (dk_at dksX7_isCorner_1 8 rfl rfl)
theorem dX7_isCorner_33 : decode cX7_isCorner 33 = .ok (.invokevirtual 163, 3) := dk_182 0 163 (dk_at dksX7_isCorner_1 9 rfl rfl)
theorem dX7_isCorner_36 : decode cX7_isCorner 36 = .ok (.ifCond .ne 7, 3) := dk_154 0 7 (dk_at dksX7_isCorner_1 12 rfl rfl)
theorem dX7_isCorner_39 : decode cX7_isCorner 39 = .ok (.iconst 1, 1) := dk_4 (dk_at dksX7_isCorner_1 15 rfl rfl)
theorem dX7_isCorner_40 : decode cX7_isCorner 40 = .ok (.goto 4, 3) := dk_167 0 4 (dk_at dksX7_isCorner_1 16 rfl rfl)
theorem dX7_isCorner_43 : decode cX7_isCorner 43 = .ok (.iconst 0, 1) := dk_3 (dk_at dksX7_isCorner_1 19 rfl rfl)
theorem dX7_isCorner_44 : decode cX7_isCorner 44 = .ok (.ireturn, 1) := dk_172 (dk_at dksX7_isCorner_1 20 rfl rfl)
abbrev cX7_isInHull : ByteArray := prog_17_method_32_code
def yX7_isInHull : MethodName := ⟨RX7, "isInHull", "(II)Z"⟩
def dkwX7_isInHull_2 : List UInt8 := [167, 0, 4, 3, 62, 132, 4, 1, 167, 255, 205, 29, 172]
abbrev dktX7_isInHull_2 : List UInt8 := dkwX7_isInHull_2 ++ []
def dkwX7_isInHull_1 : List UInt8 := [46, 27, 104, 42, 180, 0, 42, 21, 4, 46, 28, 104, 96, 42, 180, 0, 45, 21, 4, 46, 161, 0, 7, 4]
abbrev dktX7_isInHull_1 : List UInt8 := dkwX7_isInHull_1 ++ dktX7_isInHull_2
def dkwX7_isInHull_0 : List UInt8 := [4, 62, 3, 54, 4, 21, 4, 42, 180, 0, 221, 162, 0, 48, 29, 153, 0, 36, 42, 180, 0, 39, 21, 4]
abbrev dktX7_isInHull_0 : List UInt8 := dkwX7_isInHull_0 ++ dktX7_isInHull_1
theorem dksX7_isInHull_0 : cX7_isInHull.data.toList.drop 0 = dktX7_isInHull_0 := by decide +kernel
theorem dksX7_isInHull_1 : cX7_isInHull.data.toList.drop 24 = dktX7_isInHull_1 := dk_seg dksX7_isInHull_0 24 rfl rfl
theorem dksX7_isInHull_2 : cX7_isInHull.data.toList.drop 48 = dktX7_isInHull_2 := dk_seg dksX7_isInHull_1 24 rfl rfl
theorem dX7_isInHull_0 : decode cX7_isInHull 0 = .ok (.iconst 1, 1) := dk_4 (dk_at dksX7_isInHull_0 0 rfl rfl)
theorem dX7_isInHull_1 : decode cX7_isInHull 1 = .ok (.istore_n 3, 1) := dk_62 (dk_at dksX7_isInHull_0 1 rfl rfl)
theorem dX7_isInHull_2 : decode cX7_isInHull 2 = .ok (.iconst 0, 1) := dk_3 (dk_at dksX7_isInHull_0 2 rfl rfl)
theorem dX7_isInHull_3 : decode cX7_isInHull 3 = .ok (.istore 4, 2) := dk_54 4 (dk_at dksX7_isInHull_0 3 rfl rfl)
theorem dX7_isInHull_5 : decode cX7_isInHull 5 = .ok (.iload 4, 2) := dk_21 4 (dk_at dksX7_isInHull_0 5 rfl rfl)
theorem dX7_isInHull_7 : decode cX7_isInHull 7 = .ok (.aload_n 0, 1) := dk_42 (dk_at dksX7_isInHull_0 7 rfl rfl)
theorem dX7_isInHull_8 : decode cX7_isInHull 8 = .ok (.getfield 221, 3) := dk_180 0 221 (dk_at dksX7_isInHull_0 8 rfl rfl)
theorem dX7_isInHull_11 : decode cX7_isInHull 11 = .ok (.if_icmp .ge 48, 3) := dk_162 0 48 (dk_at dksX7_isInHull_0 11 rfl rfl)
theorem dX7_isInHull_14 : decode cX7_isInHull 14 = .ok (.iload_n 3, 1) := dk_29 (dk_at dksX7_isInHull_0 14 rfl rfl)
theorem dX7_isInHull_15 : decode cX7_isInHull 15 = .ok (.ifCond .eq 36, 3) := dk_153 0 36 (dk_at dksX7_isInHull_0 15 rfl rfl)
theorem dX7_isInHull_18 : decode cX7_isInHull 18 = .ok (.aload_n 0, 1) := dk_42 (dk_at dksX7_isInHull_0 18 rfl rfl)
theorem dX7_isInHull_19 : decode cX7_isInHull 19 = .ok (.getfield 39, 3) := dk_180 0 39 (dk_at dksX7_isInHull_0 19 rfl rfl)
theorem dX7_isInHull_22 : decode cX7_isInHull 22 = .ok (.iload 4, 2) := dk_21 4 (dk_at dksX7_isInHull_0 22 rfl rfl)
theorem dX7_isInHull_24 : decode cX7_isInHull 24 = .ok (.iaload, 1) := dk_46 (dk_at dksX7_isInHull_1 0 rfl rfl)
theorem dX7_isInHull_25 : decode cX7_isInHull 25 = .ok (.iload_n 1, 1) := dk_27 (dk_at dksX7_isInHull_1 1 rfl rfl)
theorem dX7_isInHull_26 : decode cX7_isInHull 26 = .ok (.imul, 1) := dk_104 (dk_at dksX7_isInHull_1 2 rfl rfl)
theorem dX7_isInHull_27 : decode cX7_isInHull 27 = .ok (.aload_n 0, 1) := dk_42 (dk_at dksX7_isInHull_1 3 rfl rfl)
theorem dX7_isInHull_28 : decode cX7_isInHull 28 = .ok (.getfield 42, 3) := dk_180 0 42 (dk_at dksX7_isInHull_1 4 rfl rfl)
theorem dX7_isInHull_31 : decode cX7_isInHull 31 = .ok (.iload 4, 2) := dk_21 4 (dk_at dksX7_isInHull_1 7 rfl rfl)
theorem dX7_isInHull_33 : decode cX7_isInHull 33 = .ok (.iaload, 1) := dk_46 (dk_at dksX7_isInHull_1 9 rfl rfl)
theorem dX7_isInHull_34 : decode cX7_isInHull 34 = .ok (.iload_n 2, 1) := dk_28 (dk_at dksX7_isInHull_1 10 rfl rfl)
theorem dX7_isInHull_35 : decode cX7_isInHull 35 = .ok (.imul, 1) := dk_104 (dk_at dksX7_isInHull_1 11 rfl rfl)
theorem dX7_isInHull_36 : decode cX7_isInHull 36 = .ok (.iadd, 1) := dk_96 (dk_at dksX7_isInHull_1 12 rfl rfl)
theorem dX7_isInHull_37 : decode cX7_isInHull 37 = .ok (.aload_n 0, 1) := dk_42 (dk_at dksX7_isInHull_1 13 rfl rfl)
theorem dX7_isInHull_38 : decode cX7_isInHull 38 = .ok (.getfield 45, 3) := dk_180 0 45 (dk_at dksX7_isInHull_1 14 rfl rfl)
theorem dX7_isInHull_41 : decode cX7_isInHull 41 = .ok (.iload 4, 2) := dk_21 4 (dk_at dksX7_isInHull_1 17 rfl rfl)
theorem dX7_isInHull_43 : decode cX7_isInHull 43 = .ok (.iaload, 1) := dk_46 (dk_at dksX7_isInHull_1 19 rfl rfl)
theorem dX7_isInHull_44 : decode cX7_isInHull 44 = .ok (.if_icmp .lt 7, 3) := dk_161 0 7 (dk_at dksX7_isInHull_1 20 rfl rfl)
theorem dX7_isInHull_47 : decode cX7_isInHull 47 = .ok (.iconst 1, 1) := dk_4 (dk_at dksX7_isInHull_1 23 rfl rfl)
theorem dX7_isInHull_48 : decode cX7_isInHull 48 = .ok (.goto 4, 3) := dk_167 0 4 (dk_at dksX7_isInHull_2 0 rfl rfl)
theorem dX7_isInHull_51 : decode cX7_isInHull 51 = .ok (.iconst 0, 1) := dk_3 (dk_at dksX7_isInHull_2 3 rfl rfl)
theorem dX7_isInHull_52 : decode cX7_isInHull 52 = .ok (.istore_n 3, 1) := dk_62 (dk_at dksX7_isInHull_2 4 rfl rfl)
theorem dX7_isInHull_53 : decode cX7_isInHull 53 = .ok (.iinc 4 1, 3) := dk_132 4 1 (dk_at dksX7_isInHull_2 5 rfl rfl)
theorem dX7_isInHull_56 : decode cX7_isInHull 56 = .ok (.goto (-51), 3) := dk_167 255 205 (dk_at dksX7_isInHull_2 8 rfl rfl)
theorem dX7_isInHull_59 : decode cX7_isInHull 59 = .ok (.iload_n 3, 1) := dk_29 (dk_at dksX7_isInHull_2 11 rfl rfl)
theorem dX7_isInHull_60 : decode cX7_isInHull 60 = .ok (.ireturn, 1) := dk_172 (dk_at dksX7_isInHull_2 12 rfl rfl)
abbrev cX7_back : ByteArray := prog_17_method_21_code
def yX7_back : MethodName := ⟨RX7, "back", "()I"⟩
def dkwX7_back_4 : List UInt8 := [42, 180, 0, 132, 104, 28, 96, 46, 79, 132, 2, 1, 167, 255, 197, 42, 180, 0, 132, 172]
abbrev dktX7_back_4 : List UInt8 := dkwX7_back_4 ++ []
def dkwX7_back_3 : List UInt8 := [180, 0, 132, 104, 28, 96, 46, 79, 42, 180, 0, 18, 16, 6, 27, 104, 28, 96, 42, 180, 0, 30, 16, 6]
abbrev dktX7_back_3 : List UInt8 := dkwX7_back_3 ++ dktX7_back_4
def dkwX7_back_2 : List UInt8 := [16, 6, 162, 0, 59, 42, 180, 0, 15, 16, 6, 27, 104, 28, 96, 42, 180, 0, 27, 16, 6, 42]
abbrev dktX7_back_2 : List UInt8 := dkwX7_back_2 ++ dktX7_back_3
def dkwX7_back_1 : List UInt8 := [42, 180, 0, 132, 46, 60, 42, 180, 0, 11, 27, 42, 180, 0, 24, 42, 180, 0, 132, 46, 79, 3, 61, 28]
abbrev dktX7_back_1 : List UInt8 := dkwX7_back_1 ++ dktX7_back_2
def dkwX7_back_0 : List UInt8 := [42, 180, 0, 132, 154, 0, 6, 16, 253, 172, 42, 89, 180, 0, 132, 4, 100, 181, 0, 132, 42, 180, 0, 21]
abbrev dktX7_back_0 : List UInt8 := dkwX7_back_0 ++ dktX7_back_1
theorem dksX7_back_0 : cX7_back.data.toList.drop 0 = dktX7_back_0 := by decide +kernel
theorem dksX7_back_1 : cX7_back.data.toList.drop 24 = dktX7_back_1 := dk_seg dksX7_back_0 24 rfl rfl
theorem dksX7_back_2 : cX7_back.data.toList.drop 48 = dktX7_back_2 := dk_seg dksX7_back_1 24 rfl rfl
theorem dksX7_back_3 : cX7_back.data.toList.drop 70 = dktX7_back_3 := dk_seg dksX7_back_2 22 rfl rfl
theorem dksX7_back_4 : cX7_back.data.toList.drop 94 = dktX7_back_4 := dk_seg dksX7_back_3 24 rfl rfl
theorem dX7_back_0 : decode cX7_back 0 = .ok (.aload_n 0, 1) := dk_42 (dk_at dksX7_back_0 0 rfl rfl)
theorem dX7_back_1 : decode cX7_back 1 = .ok (.getfield 132, 3) := dk_180 0 132 (dk_at dksX7_back_0 1 rfl rfl)
theorem dX7_back_4 : decode cX7_back 4 = .ok (.ifCond .ne 6, 3) := dk_154 0 6 (dk_at dksX7_back_0 4 rfl rfl)
theorem dX7_back_7 : decode cX7_back 7 = .ok (.bipush (-3), 2) := dk_16 253 (dk_at dksX7_back_0 7 rfl rfl)
theorem dX7_back_9 : decode cX7_back 9 = .ok (.ireturn, 1) := dk_172 (dk_at dksX7_back_0 9 rfl rfl)
theorem dX7_back_10 : decode cX7_back 10 = .ok (.aload_n 0, 1) := dk_42 (dk_at dksX7_back_0 10 rfl rfl)
theorem dX7_back_11 : decode cX7_back 11 = .ok (.dup, 1) := dk_89 (dk_at dksX7_back_0 11 rfl rfl)
theorem dX7_back_12 : decode cX7_back 12 = .ok (.getfield 132, 3) := dk_180 0 132 (dk_at dksX7_back_0 12 rfl rfl)
theorem dX7_back_15 : decode cX7_back 15 = .ok (.iconst 1, 1) := dk_4 (dk_at dksX7_back_0 15 rfl rfl)
theorem dX7_back_16 : decode cX7_back 16 = .ok (.isub, 1) := dk_100 (dk_at dksX7_back_0 16 rfl rfl)
theorem dX7_back_17 : decode cX7_back 17 = .ok (.putfield 132, 3) := dk_181 0 132 (dk_at dksX7_back_0 17 rfl rfl)
theorem dX7_back_20 : decode cX7_back 20 = .ok (.aload_n 0, 1) := dk_42 (dk_at dksX7_back_0 20 rfl rfl)
theorem dX7_back_21 : decode cX7_back 21 = .ok (.getfield 21, 3) := dk_180 0 21 (dk_at dksX7_back_0 21 rfl rfl)
theorem dX7_back_24 : decode cX7_back 24 = .ok (.aload_n 0, 1) := dk_42 (dk_at dksX7_back_1 0 rfl rfl)
theorem dX7_back_25 : decode cX7_back 25 = .ok (.getfield 132, 3) := dk_180 0 132 (dk_at dksX7_back_1 1 rfl rfl)
theorem dX7_back_28 : decode cX7_back 28 = .ok (.iaload, 1) := dk_46 (dk_at dksX7_back_1 4 rfl rfl)
theorem dX7_back_29 : decode cX7_back 29 = .ok (.istore_n 1, 1) := dk_60 (dk_at dksX7_back_1 5 rfl rfl)
theorem dX7_back_30 : decode cX7_back 30 = .ok (.aload_n 0, 1) := dk_42 (dk_at dksX7_back_1 6 rfl rfl)
theorem dX7_back_31 : decode cX7_back 31 = .ok (.getfield 11, 3) := dk_180 0 11 (dk_at dksX7_back_1 7 rfl rfl)
theorem dX7_back_34 : decode cX7_back 34 = .ok (.iload_n 1, 1) := dk_27 (dk_at dksX7_back_1 10 rfl rfl)
theorem dX7_back_35 : decode cX7_back 35 = .ok (.aload_n 0, 1) := dk_42 (dk_at dksX7_back_1 11 rfl rfl)
theorem dX7_back_36 : decode cX7_back 36 = .ok (.getfield 24, 3) := dk_180 0 24 (dk_at dksX7_back_1 12 rfl rfl)
theorem dX7_back_39 : decode cX7_back 39 = .ok (.aload_n 0, 1) := dk_42 (dk_at dksX7_back_1 15 rfl rfl)
theorem dX7_back_40 : decode cX7_back 40 = .ok (.getfield 132, 3) := dk_180 0 132 (dk_at dksX7_back_1 16 rfl rfl)
theorem dX7_back_43 : decode cX7_back 43 = .ok (.iaload, 1) := dk_46 (dk_at dksX7_back_1 19 rfl rfl)
theorem dX7_back_44 : decode cX7_back 44 = .ok (.iastore, 1) := dk_79 (dk_at dksX7_back_1 20 rfl rfl)
theorem dX7_back_45 : decode cX7_back 45 = .ok (.iconst 0, 1) := dk_3 (dk_at dksX7_back_1 21 rfl rfl)
theorem dX7_back_46 : decode cX7_back 46 = .ok (.istore_n 2, 1) := dk_61 (dk_at dksX7_back_1 22 rfl rfl)
theorem dX7_back_47 : decode cX7_back 47 = .ok (.iload_n 2, 1) := dk_28 (dk_at dksX7_back_1 23 rfl rfl)
theorem dX7_back_48 : decode cX7_back 48 = .ok (.bipush 6, 2) := dk_16 6 (dk_at dksX7_back_2 0 rfl rfl)
theorem dX7_back_50 : decode cX7_back 50 = .ok (.if_icmp .ge 59, 3) := dk_162 0 59 (dk_at dksX7_back_2 2 rfl rfl)
theorem dX7_back_53 : decode cX7_back 53 = .ok (.aload_n 0, 1) := dk_42 (dk_at dksX7_back_2 5 rfl rfl)
theorem dX7_back_54 : decode cX7_back 54 = .ok (.getfield 15, 3) := dk_180 0 15 (dk_at dksX7_back_2 6 rfl rfl)
theorem dX7_back_57 : decode cX7_back 57 = .ok (.bipush 6, 2) := dk_16 6 (dk_at dksX7_back_2 9 rfl rfl)
theorem dX7_back_59 : decode cX7_back 59 = .ok (.iload_n 1, 1) := dk_27 (dk_at dksX7_back_2 11 rfl rfl)
theorem dX7_back_60 : decode cX7_back 60 = .ok (.imul, 1) := dk_104 (dk_at dksX7_back_2 12 rfl rfl)
theorem dX7_back_61 : decode cX7_back 61 = .ok (.iload_n 2, 1) := dk_28 (dk_at dksX7_back_2 13 rfl rfl)
theorem dX7_back_62 : decode cX7_back 62 = .ok (.iadd, 1) := dk_96 (dk_at dksX7_back_2 14 rfl rfl)
theorem dX7_back_63 : decode cX7_back 63 = .ok (.aload_n 0, 1) := dk_42 (dk_at dksX7_back_2 15 rfl rfl)
theorem dX7_back_64 : decode cX7_back 64 = .ok (.getfield 27, 3) := dk_180 0 27 (dk_at dksX7_back_2 16 rfl rfl)
theorem dX7_back_67 : decode cX7_back 67 = .ok (.bipush 6, 2) := dk_16 6 (dk_at dksX7_back_2 19 rfl rfl)
theorem dX7_back_69 : decode cX7_back 69 = .ok (.aload_n 0, 1) := dk_42 (dk_at dksX7_back_2 21 rfl rfl)
theorem dX7_back_70 : decode cX7_back 70 = .ok (.getfield 132, 3) := dk_180 0 132 (dk_at dksX7_back_3 0 rfl rfl)
theorem dX7_back_73 : decode cX7_back 73 = .ok (.imul, 1) := dk_104 (dk_at dksX7_back_3 3 rfl rfl)
theorem dX7_back_74 : decode cX7_back 74 = .ok (.iload_n 2, 1) := dk_28 (dk_at dksX7_back_3 4 rfl rfl)
theorem dX7_back_75 : decode cX7_back 75 = .ok (.iadd, 1) := dk_96 (dk_at dksX7_back_3 5 rfl rfl)
theorem dX7_back_76 : decode cX7_back 76 = .ok (.iaload, 1) := dk_46 (dk_at dksX7_back_3 6 rfl rfl)
theorem dX7_back_77 : decode cX7_back 77 = .ok (.iastore, 1) := dk_79 (dk_at dksX7_back_3 7 rfl rfl)
theorem dX7_back_78 : decode cX7_back 78 = .ok (.aload_n 0, 1) := dk_42 (dk_at dksX7_back_3 8 rfl rfl)
theorem dX7_back_79 : decode cX7_back 79 = .ok (.getfield 18, 3) := dk_180 0 18 (dk_at dksX7_back_3 9 rfl rfl)
theorem dX7_back_82 : decode cX7_back 82 = .ok (.bipush 6, 2) := dk_16 6 (dk_at dksX7_back_3 12 rfl rfl)
theorem dX7_back_84 : decode cX7_back 84 = .ok (.iload_n 1, 1) := dk_27 (dk_at dksX7_back_3 14 rfl rfl)
theorem dX7_back_85 : decode cX7_back 85 = .ok (.imul, 1) := dk_104 (dk_at dksX7_back_3 15 rfl rfl)
theorem dX7_back_86 : decode cX7_back 86 = .ok (.iload_n 2, 1) := dk_28 (dk_at dksX7_back_3 16 rfl rfl)
theorem dX7_back_87 : decode cX7_back 87 = .ok (.iadd, 1) := dk_96 (dk_at dksX7_back_3 17 rfl rfl)
theorem dX7_back_88 : decode cX7_back 88 = .ok (.aload_n 0, 1) := dk_42 (dk_at dksX7_back_3 18 rfl rfl)
theorem dX7_back_89 : decode cX7_back 89 = .ok (.getfield 30, 3) := dk_180 0 30 (dk_at dksX7_back_3 19 rfl rfl)
theorem dX7_back_92 : decode cX7_back 92 = .ok (.bipush 6, 2) := dk_16 6 (dk_at dksX7_back_3 22 rfl rfl)
theorem dX7_back_94 : decode cX7_back 94 = .ok (.aload_n 0, 1) := dk_42 (dk_at dksX7_back_4 0 rfl rfl)
theorem dX7_back_95 : decode cX7_back 95 = .ok (.getfield 132, 3) := dk_180 0 132 (dk_at dksX7_back_4 1 rfl rfl)
theorem dX7_back_98 : decode cX7_back 98 = .ok (.imul, 1) := dk_104 (dk_at dksX7_back_4 4 rfl rfl)
theorem dX7_back_99 : decode cX7_back 99 = .ok (.iload_n 2, 1) := dk_28 (dk_at dksX7_back_4 5 rfl rfl)
theorem dX7_back_100 : decode cX7_back 100 = .ok (.iadd, 1) := dk_96 (dk_at dksX7_back_4 6 rfl rfl)
theorem dX7_back_101 : decode cX7_back 101 = .ok (.iaload, 1) := dk_46 (dk_at dksX7_back_4 7 rfl rfl)
theorem dX7_back_102 : decode cX7_back 102 = .ok (.iastore, 1) := dk_79 (dk_at dksX7_back_4 8 rfl rfl)
theorem dX7_back_103 : decode cX7_back 103 = .ok (.iinc 2 1, 3) := dk_132 2 1 (dk_at dksX7_back_4 9 rfl rfl)
theorem dX7_back_106 : decode cX7_back 106 = .ok (.goto (-59), 3) := dk_167 255 197 (dk_at dksX7_back_4 12 rfl rfl)
theorem dX7_back_109 : decode cX7_back 109 = .ok (.aload_n 0, 1) := dk_42 (dk_at dksX7_back_4 15 rfl rfl)
theorem dX7_back_110 : decode cX7_back 110 = .ok (.getfield 132, 3) := dk_180 0 132 (dk_at dksX7_back_4 16 rfl rfl)
theorem dX7_back_113 : decode cX7_back 113 = .ok (.ireturn, 1) := dk_172 (dk_at dksX7_back_4 19 rfl rfl)
abbrev cX7_feed : ByteArray := prog_17_method_22_code
def yX7_feed : MethodName := ⟨RX7, "feed", "(I)I"⟩
def dkwX7_feed_2 : List UInt8 := [180, 0, 174, 172]
abbrev dktX7_feed_2 : List UInt8 := dkwX7_feed_2 ++ []
def dkwX7_feed_1 : List UInt8 := [16, 252, 172, 42, 180, 0, 33, 42, 180, 0, 174, 27, 79, 42, 89, 180, 0, 174, 4, 96, 181, 0, 174, 42]
abbrev dktX7_feed_1 : List UInt8 := dkwX7_feed_1 ++ dktX7_feed_2
def dkwX7_feed_0 : List UInt8 := [27, 133, 9, 20, 0, 172, 184, 0, 115, 154, 0, 6, 16, 254, 172, 42, 180, 0, 174, 16, 100, 160, 0, 6]
abbrev dktX7_feed_0 : List UInt8 := dkwX7_feed_0 ++ dktX7_feed_1
theorem dksX7_feed_0 : cX7_feed.data.toList.drop 0 = dktX7_feed_0 := by decide +kernel
theorem dksX7_feed_1 : cX7_feed.data.toList.drop 24 = dktX7_feed_1 := dk_seg dksX7_feed_0 24 rfl rfl
theorem dksX7_feed_2 : cX7_feed.data.toList.drop 48 = dktX7_feed_2 := dk_seg dksX7_feed_1 24 rfl rfl
theorem dX7_feed_0 : decode cX7_feed 0 = .ok (.iload_n 1, 1) := dk_27 (dk_at dksX7_feed_0 0 rfl rfl)
theorem dX7_feed_1 : decode cX7_feed 1 = .ok (.i2l, 1) := dk_133 (dk_at dksX7_feed_0 1 rfl rfl)
theorem dX7_feed_2 : decode cX7_feed 2 = .ok (.lconst 0, 1) := dk_9 (dk_at dksX7_feed_0 2 rfl rfl)
theorem dX7_feed_3 : decode cX7_feed 3 = .ok (.ldc2_w 172, 3) := dk_20 0 172 (dk_at dksX7_feed_0 3 rfl rfl)
theorem dX7_feed_6 : decode cX7_feed 6 = .ok (.invokestatic 115, 3) := dk_184 0 115 (dk_at dksX7_feed_0 6 rfl rfl)
theorem dX7_feed_9 : decode cX7_feed 9 = .ok (.ifCond .ne 6, 3) := dk_154 0 6 (dk_at dksX7_feed_0 9 rfl rfl)
theorem dX7_feed_12 : decode cX7_feed 12 = .ok (.bipush (-2), 2) := dk_16 254 (dk_at dksX7_feed_0 12 rfl rfl)
theorem dX7_feed_14 : decode cX7_feed 14 = .ok (.ireturn, 1) := dk_172 (dk_at dksX7_feed_0 14 rfl rfl)
theorem dX7_feed_15 : decode cX7_feed 15 = .ok (.aload_n 0, 1) := dk_42 (dk_at dksX7_feed_0 15 rfl rfl)
theorem dX7_feed_16 : decode cX7_feed 16 = .ok (.getfield 174, 3) := dk_180 0 174 (dk_at dksX7_feed_0 16 rfl rfl)
theorem dX7_feed_19 : decode cX7_feed 19 = .ok (.bipush 100, 2) := dk_16 100 (dk_at dksX7_feed_0 19 rfl rfl)
theorem dX7_feed_21 : decode cX7_feed 21 = .ok (.if_icmp .ne 6, 3) := dk_160 0 6 (dk_at dksX7_feed_0 21 rfl rfl)
theorem dX7_feed_24 : decode cX7_feed 24 = .ok (.bipush (-4), 2) := dk_16 252 (dk_at dksX7_feed_1 0 rfl rfl)
theorem dX7_feed_26 : decode cX7_feed 26 = .ok (.ireturn, 1) := dk_172 (dk_at dksX7_feed_1 2 rfl rfl)
theorem dX7_feed_27 : decode cX7_feed 27 = .ok (.aload_n 0, 1) := dk_42 (dk_at dksX7_feed_1 3 rfl rfl)
theorem dX7_feed_28 : decode cX7_feed 28 = .ok (.getfield 33, 3) := dk_180 0 33 (dk_at dksX7_feed_1 4 rfl rfl)
theorem dX7_feed_31 : decode cX7_feed 31 = .ok (.aload_n 0, 1) := dk_42 (dk_at dksX7_feed_1 7 rfl rfl)
theorem dX7_feed_32 : decode cX7_feed 32 = .ok (.getfield 174, 3) := dk_180 0 174 (dk_at dksX7_feed_1 8 rfl rfl)
theorem dX7_feed_35 : decode cX7_feed 35 = .ok (.iload_n 1, 1) := dk_27 (dk_at dksX7_feed_1 11 rfl rfl)
theorem dX7_feed_36 : decode cX7_feed 36 = .ok (.iastore, 1) := dk_79 (dk_at dksX7_feed_1 12 rfl rfl)
theorem dX7_feed_37 : decode cX7_feed 37 = .ok (.aload_n 0, 1) := dk_42 (dk_at dksX7_feed_1 13 rfl rfl)
theorem dX7_feed_38 : decode cX7_feed 38 = .ok (.dup, 1) := dk_89 (dk_at dksX7_feed_1 14 rfl rfl)
theorem dX7_feed_39 : decode cX7_feed 39 = .ok (.getfield 174, 3) := dk_180 0 174 (dk_at dksX7_feed_1 15 rfl rfl)
theorem dX7_feed_42 : decode cX7_feed 42 = .ok (.iconst 1, 1) := dk_4 (dk_at dksX7_feed_1 18 rfl rfl)
theorem dX7_feed_43 : decode cX7_feed 43 = .ok (.iadd, 1) := dk_96 (dk_at dksX7_feed_1 19 rfl rfl)
theorem dX7_feed_44 : decode cX7_feed 44 = .ok (.putfield 174, 3) := dk_181 0 174 (dk_at dksX7_feed_1 20 rfl rfl)
theorem dX7_feed_47 : decode cX7_feed 47 = .ok (.aload_n 0, 1) := dk_42 (dk_at dksX7_feed_1 23 rfl rfl)
theorem dX7_feed_48 : decode cX7_feed 48 = .ok (.getfield 174, 3) := dk_180 0 174 (dk_at dksX7_feed_2 0 rfl rfl)
theorem dX7_feed_51 : decode cX7_feed 51 = .ok (.ireturn, 1) := dk_172 (dk_at dksX7_feed_2 3 rfl rfl)
abbrev cX7_read : ByteArray := prog_17_method_27_code
def yX7_read : MethodName := ⟨RX7, "read", "()I"⟩
def dkwX7_read_3 : List UInt8 := [167, 255, 219, 42, 3, 181, 0, 174, 28, 172]
abbrev dktX7_read_3 : List UInt8 := dkwX7_read_3 ++ []
def dkwX7_read_2 : List UInt8 := [153, 0, 7, 4, 167, 0, 4, 3, 96, 61, 42, 89, 180, 0, 177, 4, 96, 181, 0, 177, 132, 3, 1]
abbrev dktX7_read_2 : List UInt8 := dkwX7_read_2 ++ dktX7_read_3
def dkwX7_read_1 : List UInt8 := [3, 181, 0, 177, 3, 61, 3, 62, 29, 27, 162, 0, 38, 28, 42, 42, 182, 0, 207, 182, 0, 213]
abbrev dktX7_read_1 : List UInt8 := dkwX7_read_1 ++ dktX7_read_2
def dkwX7_read_0 : List UInt8 := [42, 182, 0, 210, 60, 27, 2, 160, 0, 16, 42, 3, 181, 0, 174, 16, 246, 42, 180, 0, 177, 100, 172, 42]
abbrev dktX7_read_0 : List UInt8 := dkwX7_read_0 ++ dktX7_read_1
theorem dksX7_read_0 : cX7_read.data.toList.drop 0 = dktX7_read_0 := by decide +kernel
theorem dksX7_read_1 : cX7_read.data.toList.drop 24 = dktX7_read_1 := dk_seg dksX7_read_0 24 rfl rfl
theorem dksX7_read_2 : cX7_read.data.toList.drop 46 = dktX7_read_2 := dk_seg dksX7_read_1 22 rfl rfl
theorem dksX7_read_3 : cX7_read.data.toList.drop 69 = dktX7_read_3 := dk_seg dksX7_read_2 23 rfl rfl
theorem dX7_read_0 : decode cX7_read 0 = .ok (.aload_n 0, 1) := dk_42 (dk_at dksX7_read_0 0 rfl rfl)
theorem dX7_read_1 : decode cX7_read 1 = .ok (.invokevirtual 210, 3) := dk_182 0 210 (dk_at dksX7_read_0 1 rfl rfl)
theorem dX7_read_4 : decode cX7_read 4 = .ok (.istore_n 1, 1) := dk_60 (dk_at dksX7_read_0 4 rfl rfl)
theorem dX7_read_5 : decode cX7_read 5 = .ok (.iload_n 1, 1) := dk_27 (dk_at dksX7_read_0 5 rfl rfl)
theorem dX7_read_6 : decode cX7_read 6 = .ok (.iconst (-1), 1) := dk_2 (dk_at dksX7_read_0 6 rfl rfl)
theorem dX7_read_7 : decode cX7_read 7 = .ok (.if_icmp .ne 16, 3) := dk_160 0 16 (dk_at dksX7_read_0 7 rfl rfl)
theorem dX7_read_10 : decode cX7_read 10 = .ok (.aload_n 0, 1) := dk_42 (dk_at dksX7_read_0 10 rfl rfl)
theorem dX7_read_11 : decode cX7_read 11 = .ok (.iconst 0, 1) := dk_3 (dk_at dksX7_read_0 11 rfl rfl)
theorem dX7_read_12 : decode cX7_read 12 = .ok (.putfield 174, 3) := dk_181 0 174 (dk_at dksX7_read_0 12 rfl rfl)
theorem dX7_read_15 : decode cX7_read 15 = .ok (.bipush (-10), 2) := dk_16 246 (dk_at dksX7_read_0 15 rfl rfl)
theorem dX7_read_17 : decode cX7_read 17 = .ok (.aload_n 0, 1) := dk_42 (dk_at dksX7_read_0 17 rfl rfl)
theorem dX7_read_18 : decode cX7_read 18 = .ok (.getfield 177, 3) := dk_180 0 177 (dk_at dksX7_read_0 18 rfl rfl)
theorem dX7_read_21 : decode cX7_read 21 = .ok (.isub, 1) := dk_100 (dk_at dksX7_read_0 21 rfl rfl)
theorem dX7_read_22 : decode cX7_read 22 = .ok (.ireturn, 1) := dk_172 (dk_at dksX7_read_0 22 rfl rfl)
theorem dX7_read_23 : decode cX7_read 23 = .ok (.aload_n 0, 1) := dk_42 (dk_at dksX7_read_0 23 rfl rfl)
theorem dX7_read_24 : decode cX7_read 24 = .ok (.iconst 0, 1) := dk_3 (dk_at dksX7_read_1 0 rfl rfl)
theorem dX7_read_25 : decode cX7_read 25 = .ok (.putfield 177, 3) := dk_181 0 177 (dk_at dksX7_read_1 1 rfl rfl)
theorem dX7_read_28 : decode cX7_read 28 = .ok (.iconst 0, 1) := dk_3 (dk_at dksX7_read_1 4 rfl rfl)
theorem dX7_read_29 : decode cX7_read 29 = .ok (.istore_n 2, 1) := dk_61 (dk_at dksX7_read_1 5 rfl rfl)
theorem dX7_read_30 : decode cX7_read 30 = .ok (.iconst 0, 1) := dk_3 (dk_at dksX7_read_1 6 rfl rfl)
theorem dX7_read_31 : decode cX7_read 31 = .ok (.istore_n 3, 1) := dk_62 (dk_at dksX7_read_1 7 rfl rfl)
theorem dX7_read_32 : decode cX7_read 32 = .ok (.iload_n 3, 1) := dk_29 (dk_at dksX7_read_1 8 rfl rfl)
theorem dX7_read_33 : decode cX7_read 33 = .ok (.iload_n 1, 1) := dk_27 (dk_at dksX7_read_1 9 rfl rfl)
theorem dX7_read_34 : decode cX7_read 34 = .ok (.if_icmp .ge 38, 3) := dk_162 0 38 (dk_at dksX7_read_1 10 rfl rfl)
theorem dX7_read_37 : decode cX7_read 37 = .ok (.iload_n 2, 1) := dk_28 (dk_at dksX7_read_1 13 rfl rfl)
theorem dX7_read_38 : decode cX7_read 38 = .ok (.aload_n 0, 1) := dk_42 (dk_at dksX7_read_1 14 rfl rfl)
theorem dX7_read_39 : decode cX7_read 39 = .ok (.aload_n 0, 1) := dk_42 (dk_at dksX7_read_1 15 rfl rfl)
theorem dX7_read_40 : decode cX7_read 40 = .ok (.invokevirtual 207, 3) := dk_182 0 207 (dk_at dksX7_read_1 16 rfl rfl)
theorem dX7_read_43 : decode cX7_read 43 = .ok (.invokevirtual 213, 3) := dk_182 0 213 (dk_at dksX7_read_1 19 rfl rfl)
theorem dX7_read_46 : decode cX7_read 46 = .ok (.ifCond .eq 7, 3) := dk_153 0 7 (dk_at dksX7_read_2 0 rfl rfl)
theorem dX7_read_49 : decode cX7_read 49 = .ok (.iconst 1, 1) := dk_4 (dk_at dksX7_read_2 3 rfl rfl)
theorem dX7_read_50 : decode cX7_read 50 = .ok (.goto 4, 3) := dk_167 0 4 (dk_at dksX7_read_2 4 rfl rfl)
theorem dX7_read_53 : decode cX7_read 53 = .ok (.iconst 0, 1) := dk_3 (dk_at dksX7_read_2 7 rfl rfl)
theorem dX7_read_54 : decode cX7_read 54 = .ok (.iadd, 1) := dk_96 (dk_at dksX7_read_2 8 rfl rfl)
theorem dX7_read_55 : decode cX7_read 55 = .ok (.istore_n 2, 1) := dk_61 (dk_at dksX7_read_2 9 rfl rfl)
theorem dX7_read_56 : decode cX7_read 56 = .ok (.aload_n 0, 1) := dk_42 (dk_at dksX7_read_2 10 rfl rfl)
theorem dX7_read_57 : decode cX7_read 57 = .ok (.dup, 1) := dk_89 (dk_at dksX7_read_2 11 rfl rfl)
theorem dX7_read_58 : decode cX7_read 58 = .ok (.getfield 177, 3) := dk_180 0 177 (dk_at dksX7_read_2 12 rfl rfl)
theorem dX7_read_61 : decode cX7_read 61 = .ok (.iconst 1, 1) := dk_4 (dk_at dksX7_read_2 15 rfl rfl)
theorem dX7_read_62 : decode cX7_read 62 = .ok (.iadd, 1) := dk_96 (dk_at dksX7_read_2 16 rfl rfl)
theorem dX7_read_63 : decode cX7_read 63 = .ok (.putfield 177, 3) := dk_181 0 177 (dk_at dksX7_read_2 17 rfl rfl)
theorem dX7_read_66 : decode cX7_read 66 = .ok (.iinc 3 1, 3) := dk_132 3 1 (dk_at dksX7_read_2 20 rfl rfl)
theorem dX7_read_69 : decode cX7_read 69 = .ok (.goto (-37), 3) := dk_167 255 219 (dk_at dksX7_read_3 0 rfl rfl)
theorem dX7_read_72 : decode cX7_read 72 = .ok (.aload_n 0, 1) := dk_42 (dk_at dksX7_read_3 3 rfl rfl)
theorem dX7_read_73 : decode cX7_read 73 = .ok (.iconst 0, 1) := dk_3 (dk_at dksX7_read_3 4 rfl rfl)
theorem dX7_read_74 : decode cX7_read 74 = .ok (.putfield 174, 3) := dk_181 0 174 (dk_at dksX7_read_3 5 rfl rfl)
theorem dX7_read_77 : decode cX7_read 77 = .ok (.iload_n 2, 1) := dk_28 (dk_at dksX7_read_3 8 rfl rfl)
theorem dX7_read_78 : decode cX7_read 78 = .ok (.ireturn, 1) := dk_172 (dk_at dksX7_read_3 9 rfl rfl)
abbrev cX7_clauses : ByteArray := prog_17_method_26_code
def yX7_clauses : MethodName := ⟨RX7, "clauses", "()I"⟩
def dkwX7_clauses_4 : List UInt8 := [160, 0, 7, 27, 167, 0, 4, 2, 172]
abbrev dktX7_clauses_4 : List UInt8 := dkwX7_clauses_4 ++ []
def dkwX7_clauses_3 : List UInt8 := [153, 0, 7, 4, 167, 0, 4, 3, 96, 181, 0, 177, 167, 255, 184, 42, 180, 0, 177, 42, 180, 0, 174]
abbrev dktX7_clauses_3 : List UInt8 := dkwX7_clauses_3 ++ dktX7_clauses_4
def dkwX7_clauses_2 : List UInt8 := [16, 59, 160, 0, 13, 27, 16, 12, 162, 0, 7, 4, 167, 0, 4, 3, 61, 42, 89, 180, 0, 177, 28]
abbrev dktX7_clauses_2 : List UInt8 := dkwX7_clauses_2 ++ dktX7_clauses_3
def dkwX7_clauses_1 : List UInt8 := [132, 1, 1, 42, 180, 0, 177, 42, 180, 0, 174, 162, 0, 27, 42, 180, 0, 33, 42, 180, 0, 177, 46]
abbrev dktX7_clauses_1 : List UInt8 := dkwX7_clauses_1 ++ dktX7_clauses_2
def dkwX7_clauses_0 : List UInt8 := [42, 3, 181, 0, 177, 3, 60, 4, 61, 28, 153, 0, 74, 42, 182, 0, 207, 2, 160, 0, 5, 2, 172]
abbrev dktX7_clauses_0 : List UInt8 := dkwX7_clauses_0 ++ dktX7_clauses_1
theorem dksX7_clauses_0 : cX7_clauses.data.toList.drop 0 = dktX7_clauses_0 := by decide +kernel
theorem dksX7_clauses_1 : cX7_clauses.data.toList.drop 23 = dktX7_clauses_1 := dk_seg dksX7_clauses_0 23 rfl rfl
theorem dksX7_clauses_2 : cX7_clauses.data.toList.drop 46 = dktX7_clauses_2 := dk_seg dksX7_clauses_1 23 rfl rfl
theorem dksX7_clauses_3 : cX7_clauses.data.toList.drop 69 = dktX7_clauses_3 := dk_seg dksX7_clauses_2 23 rfl rfl
theorem dksX7_clauses_4 : cX7_clauses.data.toList.drop 92 = dktX7_clauses_4 := dk_seg dksX7_clauses_3 23 rfl rfl
theorem dX7_clauses_0 : decode cX7_clauses 0 = .ok (.aload_n 0, 1) := dk_42 (dk_at dksX7_clauses_0 0 rfl rfl)
theorem dX7_clauses_1 : decode cX7_clauses 1 = .ok (.iconst 0, 1) := dk_3 (dk_at dksX7_clauses_0 1 rfl rfl)
theorem dX7_clauses_2 : decode cX7_clauses 2 = .ok (.putfield 177, 3) := dk_181 0 177 (dk_at dksX7_clauses_0 2 rfl rfl)
theorem dX7_clauses_5 : decode cX7_clauses 5 = .ok (.iconst 0, 1) := dk_3 (dk_at dksX7_clauses_0 5 rfl rfl)
theorem dX7_clauses_6 : decode cX7_clauses 6 = .ok (.istore_n 1, 1) := dk_60 (dk_at dksX7_clauses_0 6 rfl rfl)
theorem dX7_clauses_7 : decode cX7_clauses 7 = .ok (.iconst 1, 1) := dk_4 (dk_at dksX7_clauses_0 7 rfl rfl)
theorem dX7_clauses_8 : decode cX7_clauses 8 = .ok (.istore_n 2, 1) := dk_61 (dk_at dksX7_clauses_0 8 rfl rfl)
theorem dX7_clauses_9 : decode cX7_clauses 9 = .ok (.iload_n 2, 1) := dk_28 (dk_at dksX7_clauses_0 9 rfl rfl)
theorem dX7_clauses_10 : decode cX7_clauses 10 = .ok (.ifCond .eq 74, 3) := dk_153 0 74 (dk_at dksX7_clauses_0 10 rfl rfl)
theorem dX7_clauses_13 : decode cX7_clauses 13 = .ok (.aload_n 0, 1) := dk_42 (dk_at dksX7_clauses_0 13 rfl rfl)
theorem dX7_clauses_14 : decode cX7_clauses 14 = .ok (.invokevirtual 207, 3) := dk_182 0 207 (dk_at dksX7_clauses_0 14 rfl rfl)
theorem dX7_clauses_17 : decode cX7_clauses 17 = .ok (.iconst (-1), 1) := dk_2 (dk_at dksX7_clauses_0 17 rfl rfl)
theorem dX7_clauses_18 : decode cX7_clauses 18 = .ok (.if_icmp .ne 5, 3) := dk_160 0 5 (dk_at dksX7_clauses_0 18 rfl rfl)
theorem dX7_clauses_21 : decode cX7_clauses 21 = .ok (.iconst (-1), 1) := dk_2 (dk_at dksX7_clauses_0 21 rfl rfl)
theorem dX7_clauses_22 : decode cX7_clauses 22 = .ok (.ireturn, 1) := dk_172 (dk_at dksX7_clauses_0 22 rfl rfl)
theorem dX7_clauses_23 : decode cX7_clauses 23 = .ok (.iinc 1 1, 3) := dk_132 1 1 (dk_at dksX7_clauses_1 0 rfl rfl)
theorem dX7_clauses_26 : decode cX7_clauses 26 = .ok (.aload_n 0, 1) := dk_42 (dk_at dksX7_clauses_1 3 rfl rfl)
theorem dX7_clauses_27 : decode cX7_clauses 27 = .ok (.getfield 177, 3) := dk_180 0 177 (dk_at dksX7_clauses_1 4 rfl rfl)
theorem dX7_clauses_30 : decode cX7_clauses 30 = .ok (.aload_n 0, 1) := dk_42 (dk_at dksX7_clauses_1 7 rfl rfl)
theorem dX7_clauses_31 : decode cX7_clauses 31 = .ok (.getfield 174, 3) := dk_180 0 174 (dk_at dksX7_clauses_1 8 rfl rfl)
theorem dX7_clauses_34 : decode cX7_clauses 34 = .ok (.if_icmp .ge 27, 3) := dk_162 0 27 (dk_at dksX7_clauses_1 11 rfl rfl)
theorem dX7_clauses_37 : decode cX7_clauses 37 = .ok (.aload_n 0, 1) := dk_42 (dk_at dksX7_clauses_1 14 rfl rfl)
theorem dX7_clauses_38 : decode cX7_clauses 38 = .ok (.getfield 33, 3) := dk_180 0 33 (dk_at dksX7_clauses_1 15 rfl rfl)
theorem dX7_clauses_41 : decode cX7_clauses 41 = .ok (.aload_n 0, 1) := dk_42 (dk_at dksX7_clauses_1 18 rfl rfl)
theorem dX7_clauses_42 : decode cX7_clauses 42 = .ok (.getfield 177, 3) := dk_180 0 177 (dk_at dksX7_clauses_1 19 rfl rfl)
theorem dX7_clauses_45 : decode cX7_clauses 45 = .ok (.iaload, 1) := dk_46 (dk_at dksX7_clauses_1 22 rfl rfl)
theorem dX7_clauses_46 : decode cX7_clauses 46 = .ok (.bipush 59, 2) := dk_16 59 (dk_at dksX7_clauses_2 0 rfl rfl)
theorem dX7_clauses_48 : decode cX7_clauses 48 = .ok (.if_icmp .ne 13, 3) := dk_160 0 13 (dk_at dksX7_clauses_2 2 rfl rfl)
theorem dX7_clauses_51 : decode cX7_clauses 51 = .ok (.iload_n 1, 1) := dk_27 (dk_at dksX7_clauses_2 5 rfl rfl)
theorem dX7_clauses_52 : decode cX7_clauses 52 = .ok (.bipush 12, 2) := dk_16 12 (dk_at dksX7_clauses_2 6 rfl rfl)
theorem dX7_clauses_54 : decode cX7_clauses 54 = .ok (.if_icmp .ge 7, 3) := dk_162 0 7 (dk_at dksX7_clauses_2 8 rfl rfl)
theorem dX7_clauses_57 : decode cX7_clauses 57 = .ok (.iconst 1, 1) := dk_4 (dk_at dksX7_clauses_2 11 rfl rfl)
theorem dX7_clauses_58 : decode cX7_clauses 58 = .ok (.goto 4, 3) := dk_167 0 4 (dk_at dksX7_clauses_2 12 rfl rfl)
theorem dX7_clauses_61 : decode cX7_clauses 61 = .ok (.iconst 0, 1) := dk_3 (dk_at dksX7_clauses_2 15 rfl rfl)
theorem dX7_clauses_62 : decode cX7_clauses 62 = .ok (.istore_n 2, 1) := dk_61 (dk_at dksX7_clauses_2 16 rfl rfl)
theorem dX7_clauses_63 : decode cX7_clauses 63 = .ok (.aload_n 0, 1) := dk_42 (dk_at dksX7_clauses_2 17 rfl rfl)
theorem dX7_clauses_64 : decode cX7_clauses 64 = .ok (.dup, 1) := dk_89 (dk_at dksX7_clauses_2 18 rfl rfl)
theorem dX7_clauses_65 : decode cX7_clauses 65 = .ok (.getfield 177, 3) := dk_180 0 177 (dk_at dksX7_clauses_2 19 rfl rfl)
theorem dX7_clauses_68 : decode cX7_clauses 68 = .ok (.iload_n 2, 1) := dk_28 (dk_at dksX7_clauses_2 22 rfl rfl)
theorem dX7_clauses_69 : decode cX7_clauses 69 = .ok (.ifCond .eq 7, 3) := dk_153 0 7 (dk_at dksX7_clauses_3 0 rfl rfl)
theorem dX7_clauses_72 : decode cX7_clauses 72 = .ok (.iconst 1, 1) := dk_4 (dk_at dksX7_clauses_3 3 rfl rfl)
theorem dX7_clauses_73 : decode cX7_clauses 73 = .ok (.goto 4, 3) := dk_167 0 4 (dk_at dksX7_clauses_3 4 rfl rfl)
theorem dX7_clauses_76 : decode cX7_clauses 76 = .ok (.iconst 0, 1) := dk_3 (dk_at dksX7_clauses_3 7 rfl rfl)
theorem dX7_clauses_77 : decode cX7_clauses 77 = .ok (.iadd, 1) := dk_96 (dk_at dksX7_clauses_3 8 rfl rfl)
theorem dX7_clauses_78 : decode cX7_clauses 78 = .ok (.putfield 177, 3) := dk_181 0 177 (dk_at dksX7_clauses_3 9 rfl rfl)
theorem dX7_clauses_81 : decode cX7_clauses 81 = .ok (.goto (-72), 3) := dk_167 255 184 (dk_at dksX7_clauses_3 12 rfl rfl)
theorem dX7_clauses_84 : decode cX7_clauses 84 = .ok (.aload_n 0, 1) := dk_42 (dk_at dksX7_clauses_3 15 rfl rfl)
theorem dX7_clauses_85 : decode cX7_clauses 85 = .ok (.getfield 177, 3) := dk_180 0 177 (dk_at dksX7_clauses_3 16 rfl rfl)
theorem dX7_clauses_88 : decode cX7_clauses 88 = .ok (.aload_n 0, 1) := dk_42 (dk_at dksX7_clauses_3 19 rfl rfl)
theorem dX7_clauses_89 : decode cX7_clauses 89 = .ok (.getfield 174, 3) := dk_180 0 174 (dk_at dksX7_clauses_3 20 rfl rfl)
theorem dX7_clauses_92 : decode cX7_clauses 92 = .ok (.if_icmp .ne 7, 3) := dk_160 0 7 (dk_at dksX7_clauses_4 0 rfl rfl)
theorem dX7_clauses_95 : decode cX7_clauses 95 = .ok (.iload_n 1, 1) := dk_27 (dk_at dksX7_clauses_4 3 rfl rfl)
theorem dX7_clauses_96 : decode cX7_clauses 96 = .ok (.goto 4, 3) := dk_167 0 4 (dk_at dksX7_clauses_4 4 rfl rfl)
theorem dX7_clauses_99 : decode cX7_clauses 99 = .ok (.iconst (-1), 1) := dk_2 (dk_at dksX7_clauses_4 7 rfl rfl)
theorem dX7_clauses_100 : decode cX7_clauses 100 = .ok (.ireturn, 1) := dk_172 (dk_at dksX7_clauses_4 8 rfl rfl)
abbrev cX7_clause : ByteArray := prog_17_method_24_code
def yX7_clause : MethodName := ⟨RX7, "clause", "()I"⟩
def dkwX7_clause_5 : List UInt8 := [132, 3, 1, 167, 255, 185, 27, 172]
abbrev dktX7_clause_5 : List UInt8 := dkwX7_clause_5 ++ []
def dkwX7_clause_4 : List UInt8 := [42, 180, 0, 33, 42, 180, 0, 177, 46, 16, 48, 100, 79, 42, 89, 180, 0, 177, 4, 96, 181, 0, 177]
abbrev dktX7_clause_4 : List UInt8 := dkwX7_clause_4 ++ dktX7_clause_5
def dkwX7_clause_3 : List UInt8 := [180, 0, 177, 46, 133, 20, 0, 184, 20, 0, 186, 184, 0, 115, 154, 0, 5, 2, 172, 42, 180, 0, 36, 29]
abbrev dktX7_clause_3 : List UInt8 := dkwX7_clause_3 ++ dktX7_clause_4
def dkwX7_clause_2 : List UInt8 := [62, 29, 28, 162, 0, 72, 42, 180, 0, 177, 42, 180, 0, 174, 159, 0, 25, 42, 180, 0, 33, 42]
abbrev dktX7_clause_2 : List UInt8 := dkwX7_clause_2 ++ dktX7_clause_3
def dkwX7_clause_1 : List UInt8 := [60, 27, 184, 0, 180, 61, 28, 2, 160, 0, 5, 2, 172, 42, 89, 180, 0, 177, 4, 96, 181, 0, 177, 3]
abbrev dktX7_clause_1 : List UInt8 := dkwX7_clause_1 ++ dktX7_clause_2
def dkwX7_clause_0 : List UInt8 := [42, 180, 0, 177, 42, 180, 0, 174, 162, 0, 15, 42, 180, 0, 33, 42, 180, 0, 177, 46, 167, 0, 4, 2]
abbrev dktX7_clause_0 : List UInt8 := dkwX7_clause_0 ++ dktX7_clause_1
theorem dksX7_clause_0 : cX7_clause.data.toList.drop 0 = dktX7_clause_0 := by decide +kernel
theorem dksX7_clause_1 : cX7_clause.data.toList.drop 24 = dktX7_clause_1 := dk_seg dksX7_clause_0 24 rfl rfl
theorem dksX7_clause_2 : cX7_clause.data.toList.drop 48 = dktX7_clause_2 := dk_seg dksX7_clause_1 24 rfl rfl
theorem dksX7_clause_3 : cX7_clause.data.toList.drop 70 = dktX7_clause_3 := dk_seg dksX7_clause_2 22 rfl rfl
theorem dksX7_clause_4 : cX7_clause.data.toList.drop 94 = dktX7_clause_4 := dk_seg dksX7_clause_3 24 rfl rfl
theorem dksX7_clause_5 : cX7_clause.data.toList.drop 117 = dktX7_clause_5 := dk_seg dksX7_clause_4 23 rfl rfl
theorem dX7_clause_0 : decode cX7_clause 0 = .ok (.aload_n 0, 1) := dk_42 (dk_at dksX7_clause_0 0 rfl rfl)
theorem dX7_clause_1 : decode cX7_clause 1 = .ok (.getfield 177, 3) := dk_180 0 177 (dk_at dksX7_clause_0 1 rfl rfl)
theorem dX7_clause_4 : decode cX7_clause 4 = .ok (.aload_n 0, 1) := dk_42 (dk_at dksX7_clause_0 4 rfl rfl)
theorem dX7_clause_5 : decode cX7_clause 5 = .ok (.getfield 174, 3) := dk_180 0 174 (dk_at dksX7_clause_0 5 rfl rfl)
theorem dX7_clause_8 : decode cX7_clause 8 = .ok (.if_icmp .ge 15, 3) := dk_162 0 15 (dk_at dksX7_clause_0 8 rfl rfl)
theorem dX7_clause_11 : decode cX7_clause 11 = .ok (.aload_n 0, 1) := dk_42 (dk_at dksX7_clause_0 11 rfl rfl)
theorem dX7_clause_12 : decode cX7_clause 12 = .ok (.getfield 33, 3) := dk_180 0 33 (dk_at dksX7_clause_0 12 rfl rfl)
theorem dX7_clause_15 : decode cX7_clause 15 = .ok (.aload_n 0, 1) := dk_42 (dk_at dksX7_clause_0 15 rfl rfl)
theorem dX7_clause_16 : decode cX7_clause 16 = .ok (.getfield 177, 3) := dk_180 0 177 (dk_at dksX7_clause_0 16 rfl rfl)
theorem dX7_clause_19 : decode cX7_clause 19 = .ok (.iaload, 1) := dk_46 (dk_at dksX7_clause_0 19 rfl rfl)
theorem dX7_clause_20 : decode cX7_clause 20 = .ok (.goto 4, 3) := dk_167 0 4 (dk_at dksX7_clause_0 20 rfl rfl)
theorem dX7_clause_23 : decode cX7_clause 23 = .ok (.iconst (-1), 1) := dk_2 (dk_at dksX7_clause_0 23 rfl rfl)
theorem dX7_clause_24 : decode cX7_clause 24 = .ok (.istore_n 1, 1) := dk_60 (dk_at dksX7_clause_1 0 rfl rfl)
theorem dX7_clause_25 : decode cX7_clause 25 = .ok (.iload_n 1, 1) := dk_27 (dk_at dksX7_clause_1 1 rfl rfl)
theorem dX7_clause_26 : decode cX7_clause 26 = .ok (.invokestatic 180, 3) := dk_184 0 180 (dk_at dksX7_clause_1 2 rfl rfl)
theorem dX7_clause_29 : decode cX7_clause 29 = .ok (.istore_n 2, 1) := dk_61 (dk_at dksX7_clause_1 5 rfl rfl)
theorem dX7_clause_30 : decode cX7_clause 30 = .ok (.iload_n 2, 1) := dk_28 (dk_at dksX7_clause_1 6 rfl rfl)
theorem dX7_clause_31 : decode cX7_clause 31 = .ok (.iconst (-1), 1) := dk_2 (dk_at dksX7_clause_1 7 rfl rfl)
theorem dX7_clause_32 : decode cX7_clause 32 = .ok (.if_icmp .ne 5, 3) := dk_160 0 5 (dk_at dksX7_clause_1 8 rfl rfl)
theorem dX7_clause_35 : decode cX7_clause 35 = .ok (.iconst (-1), 1) := dk_2 (dk_at dksX7_clause_1 11 rfl rfl)
theorem dX7_clause_36 : decode cX7_clause 36 = .ok (.ireturn, 1) := dk_172 (dk_at dksX7_clause_1 12 rfl rfl)
theorem dX7_clause_37 : decode cX7_clause 37 = .ok (.aload_n 0, 1) := dk_42 (dk_at dksX7_clause_1 13 rfl rfl)
theorem dX7_clause_38 : decode cX7_clause 38 = .ok (.dup, 1) := dk_89 (dk_at dksX7_clause_1 14 rfl rfl)
theorem dX7_clause_39 : decode cX7_clause 39 = .ok (.getfield 177, 3) := dk_180 0 177 (dk_at dksX7_clause_1 15 rfl rfl)
theorem dX7_clause_42 : decode cX7_clause 42 = .ok (.iconst 1, 1) := dk_4 (dk_at dksX7_clause_1 18 rfl rfl)
theorem dX7_clause_43 : decode cX7_clause 43 = .ok (.iadd, 1) := dk_96 (dk_at dksX7_clause_1 19 rfl rfl)
theorem dX7_clause_44 : decode cX7_clause 44 = .ok (.putfield 177, 3) := dk_181 0 177 (dk_at dksX7_clause_1 20 rfl rfl)
theorem dX7_clause_47 : decode cX7_clause 47 = .ok (.iconst 0, 1) := dk_3 (dk_at dksX7_clause_1 23 rfl rfl)
theorem dX7_clause_48 : decode cX7_clause 48 = .ok (.istore_n 3, 1) := dk_62 (dk_at dksX7_clause_2 0 rfl rfl)
theorem dX7_clause_49 : decode cX7_clause 49 = .ok (.iload_n 3, 1) := dk_29 (dk_at dksX7_clause_2 1 rfl rfl)
theorem dX7_clause_50 : decode cX7_clause 50 = .ok (.iload_n 2, 1) := dk_28 (dk_at dksX7_clause_2 2 rfl rfl)
theorem dX7_clause_51 : decode cX7_clause 51 = .ok (.if_icmp .ge 72, 3) := dk_162 0 72 (dk_at dksX7_clause_2 3 rfl rfl)
theorem dX7_clause_54 : decode cX7_clause 54 = .ok (.aload_n 0, 1) := dk_42 (dk_at dksX7_clause_2 6 rfl rfl)
theorem dX7_clause_55 : decode cX7_clause 55 = .ok (.getfield 177, 3) := dk_180 0 177 (dk_at dksX7_clause_2 7 rfl rfl)
theorem dX7_clause_58 : decode cX7_clause 58 = .ok (.aload_n 0, 1) := dk_42 (dk_at dksX7_clause_2 10 rfl rfl)
theorem dX7_clause_59 : decode cX7_clause 59 = .ok (.getfield 174, 3) := dk_180 0 174 (dk_at dksX7_clause_2 11 rfl rfl)
theorem dX7_clause_62 : decode cX7_clause 62 = .ok (.if_icmp .eq 25, 3) := dk_159 0 25 (dk_at dksX7_clause_2 14 rfl rfl)
theorem dX7_clause_65 : decode cX7_clause 65 = .ok (.aload_n 0, 1) := dk_42 (dk_at dksX7_clause_2 17 rfl rfl)
theorem dX7_clause_66 : decode cX7_clause 66 = .ok (.getfield 33, 3) := dk_180 0 33 (dk_at dksX7_clause_2 18 rfl rfl)
theorem dX7_clause_69 : decode cX7_clause 69 = .ok (.aload_n 0, 1) := dk_42 (dk_at dksX7_clause_2 21 rfl rfl)
theorem dX7_clause_70 : decode cX7_clause 70 = .ok (.getfield 177, 3) := dk_180 0 177 (dk_at dksX7_clause_3 0 rfl rfl)
theorem dX7_clause_73 : decode cX7_clause 73 = .ok (.iaload, 1) := dk_46 (dk_at dksX7_clause_3 3 rfl rfl)
theorem dX7_clause_74 : decode cX7_clause 74 = .ok (.i2l, 1) := dk_133 (dk_at dksX7_clause_3 4 rfl rfl)
theorem dX7_clause_75 : decode cX7_clause 75 = .ok (.ldc2_w 184, 3) := dk_20 0 184 (dk_at dksX7_clause_3 5 rfl rfl)
theorem dX7_clause_78 : decode cX7_clause 78 = .ok (.ldc2_w 186, 3) := dk_20 0 186 (dk_at dksX7_clause_3 8 rfl rfl)
theorem dX7_clause_81 : decode cX7_clause 81 = .ok (.invokestatic 115, 3) := dk_184 0 115 (dk_at dksX7_clause_3 11 rfl rfl)
theorem dX7_clause_84 : decode cX7_clause 84 = .ok (.ifCond .ne 5, 3) := dk_154 0 5 (dk_at dksX7_clause_3 14 rfl rfl)
theorem dX7_clause_87 : decode cX7_clause 87 = .ok (.iconst (-1), 1) := dk_2 (dk_at dksX7_clause_3 17 rfl rfl)
theorem dX7_clause_88 : decode cX7_clause 88 = .ok (.ireturn, 1) := dk_172 (dk_at dksX7_clause_3 18 rfl rfl)
theorem dX7_clause_89 : decode cX7_clause 89 = .ok (.aload_n 0, 1) := dk_42 (dk_at dksX7_clause_3 19 rfl rfl)
theorem dX7_clause_90 : decode cX7_clause 90 = .ok (.getfield 36, 3) := dk_180 0 36 (dk_at dksX7_clause_3 20 rfl rfl)
theorem dX7_clause_93 : decode cX7_clause 93 = .ok (.iload_n 3, 1) := dk_29 (dk_at dksX7_clause_3 23 rfl rfl)
theorem dX7_clause_94 : decode cX7_clause 94 = .ok (.aload_n 0, 1) := dk_42 (dk_at dksX7_clause_4 0 rfl rfl)
theorem dX7_clause_95 : decode cX7_clause 95 = .ok (.getfield 33, 3) := dk_180 0 33 (dk_at dksX7_clause_4 1 rfl rfl)
theorem dX7_clause_98 : decode cX7_clause 98 = .ok (.aload_n 0, 1) := dk_42 (dk_at dksX7_clause_4 4 rfl rfl)
theorem dX7_clause_99 : decode cX7_clause 99 = .ok (.getfield 177, 3) := dk_180 0 177 (dk_at dksX7_clause_4 5 rfl rfl)
theorem dX7_clause_102 : decode cX7_clause 102 = .ok (.iaload, 1) := dk_46 (dk_at dksX7_clause_4 8 rfl rfl)
theorem dX7_clause_103 : decode cX7_clause 103 = .ok (.bipush 48, 2) := dk_16 48 (dk_at dksX7_clause_4 9 rfl rfl)
theorem dX7_clause_105 : decode cX7_clause 105 = .ok (.isub, 1) := dk_100 (dk_at dksX7_clause_4 11 rfl rfl)
theorem dX7_clause_106 : decode cX7_clause 106 = .ok (.iastore, 1) := dk_79 (dk_at dksX7_clause_4 12 rfl rfl)
theorem dX7_clause_107 : decode cX7_clause 107 = .ok (.aload_n 0, 1) := dk_42 (dk_at dksX7_clause_4 13 rfl rfl)
theorem dX7_clause_108 : decode cX7_clause 108 = .ok (.dup, 1) := dk_89 (dk_at dksX7_clause_4 14 rfl rfl)
theorem dX7_clause_109 : decode cX7_clause 109 = .ok (.getfield 177, 3) := dk_180 0 177 (dk_at dksX7_clause_4 15 rfl rfl)
theorem dX7_clause_112 : decode cX7_clause 112 = .ok (.iconst 1, 1) := dk_4 (dk_at dksX7_clause_4 18 rfl rfl)
theorem dX7_clause_113 : decode cX7_clause 113 = .ok (.iadd, 1) := dk_96 (dk_at dksX7_clause_4 19 rfl rfl)
theorem dX7_clause_114 : decode cX7_clause 114 = .ok (.putfield 177, 3) := dk_181 0 177 (dk_at dksX7_clause_4 20 rfl rfl)
theorem dX7_clause_117 : decode cX7_clause 117 = .ok (.iinc 3 1, 3) := dk_132 3 1 (dk_at dksX7_clause_5 0 rfl rfl)
theorem dX7_clause_120 : decode cX7_clause 120 = .ok (.goto (-71), 3) := dk_167 255 185 (dk_at dksX7_clause_5 3 rfl rfl)
theorem dX7_clause_123 : decode cX7_clause 123 = .ok (.iload_n 1, 1) := dk_27 (dk_at dksX7_clause_5 6 rfl rfl)
theorem dX7_clause_124 : decode cX7_clause 124 = .ok (.ireturn, 1) := dk_172 (dk_at dksX7_clause_5 7 rfl rfl)
abbrev cX7_digitsOf : ByteArray := prog_17_method_23_code
def yX7_digitsOf : MethodName := ⟨RX7, "digitsOf", "(I)I"⟩
def dkwX7_digitsOf_2 : List UInt8 := [6, 172, 5, 172, 4, 172, 3, 172, 2, 172]
abbrev dktX7_digitsOf_2 : List UInt8 := dkwX7_digitsOf_2 ++ []
def dkwX7_digitsOf_1 : List UInt8 := [171, 0, 0, 0, 0, 0, 67, 0, 0, 0, 6, 0, 0, 0, 43, 0, 0, 0, 59, 0, 0, 0, 45, 0, 0, 0, 61, 0, 0, 0, 99, 0, 0, 0, 63, 0, 0, 0, 109, 0, 0, 0, 63, 0, 0, 0, 117, 0, 0, 0, 65, 0, 0, 0, 122, 0, 0, 0, 63]
abbrev dktX7_digitsOf_1 : List UInt8 := dkwX7_digitsOf_1 ++ dktX7_digitsOf_2
def dkwX7_digitsOf_0 : List UInt8 := [26]
abbrev dktX7_digitsOf_0 : List UInt8 := dkwX7_digitsOf_0 ++ dktX7_digitsOf_1
theorem dksX7_digitsOf_0 : cX7_digitsOf.data.toList.drop 0 = dktX7_digitsOf_0 := by decide +kernel
theorem dksX7_digitsOf_1 : cX7_digitsOf.data.toList.drop 1 = dktX7_digitsOf_1 := dk_seg dksX7_digitsOf_0 1 rfl rfl
theorem dksX7_digitsOf_2 : cX7_digitsOf.data.toList.drop 60 = dktX7_digitsOf_2 := dk_seg dksX7_digitsOf_1 59 rfl rfl
theorem dX7_digitsOf_0 : decode cX7_digitsOf 0 = .ok (.iload_n 0, 1) := dk_26 (dk_at dksX7_digitsOf_0 0 rfl rfl)
theorem dX7_digitsOf_1 : decode cX7_digitsOf 1 = .ok (.lookupswitch 67 #[(43, 59), (45, 61), (99, 63), (109, 63), (117, 65), (122, 63)], 59) := by decide +kernel
theorem dX7_digitsOf_60 : decode cX7_digitsOf 60 = .ok (.iconst 3, 1) := dk_6 (dk_at dksX7_digitsOf_2 0 rfl rfl)
theorem dX7_digitsOf_61 : decode cX7_digitsOf 61 = .ok (.ireturn, 1) := dk_172 (dk_at dksX7_digitsOf_2 1 rfl rfl)
theorem dX7_digitsOf_62 : decode cX7_digitsOf 62 = .ok (.iconst 2, 1) := dk_5 (dk_at dksX7_digitsOf_2 2 rfl rfl)
theorem dX7_digitsOf_63 : decode cX7_digitsOf 63 = .ok (.ireturn, 1) := dk_172 (dk_at dksX7_digitsOf_2 3 rfl rfl)
theorem dX7_digitsOf_64 : decode cX7_digitsOf 64 = .ok (.iconst 1, 1) := dk_4 (dk_at dksX7_digitsOf_2 4 rfl rfl)
theorem dX7_digitsOf_65 : decode cX7_digitsOf 65 = .ok (.ireturn, 1) := dk_172 (dk_at dksX7_digitsOf_2 5 rfl rfl)
theorem dX7_digitsOf_66 : decode cX7_digitsOf 66 = .ok (.iconst 0, 1) := dk_3 (dk_at dksX7_digitsOf_2 6 rfl rfl)
theorem dX7_digitsOf_67 : decode cX7_digitsOf 67 = .ok (.ireturn, 1) := dk_172 (dk_at dksX7_digitsOf_2 7 rfl rfl)
theorem dX7_digitsOf_68 : decode cX7_digitsOf 68 = .ok (.iconst (-1), 1) := dk_2 (dk_at dksX7_digitsOf_2 8 rfl rfl)
theorem dX7_digitsOf_69 : decode cX7_digitsOf 69 = .ok (.ireturn, 1) := dk_172 (dk_at dksX7_digitsOf_2 9 rfl rfl)
abbrev cX7_isDone : ByteArray := prog_17_method_25_code
def yX7_isDone : MethodName := ⟨RX7, "isDone", "(I)Z"⟩
def dkwX7_isDone_7 : List UInt8 := [42, 182, 0, 203, 155, 0, 7, 4, 167, 0, 4, 3, 172]
abbrev dktX7_isDone_7 : List UInt8 := dkwX7_isDone_7 ++ []
def dkwX7_isDone_6 : List UInt8 := [167, 0, 4, 3, 172, 42, 42, 180, 0, 36, 3, 46, 182, 0, 200, 155, 0, 7, 4, 167, 0, 4, 3, 172]
abbrev dktX7_isDone_6 : List UInt8 := dkwX7_isDone_6 ++ dktX7_isDone_7
def dkwX7_isDone_5 : List UInt8 := [155, 0, 7, 4, 167, 0, 4, 3, 172, 42, 42, 180, 0, 36, 3, 46, 182, 0, 197, 155, 0, 7, 4]
abbrev dktX7_isDone_5 : List UInt8 := dkwX7_isDone_5 ++ dktX7_isDone_6
def dkwX7_isDone_4 : List UInt8 := [182, 0, 191, 155, 0, 7, 4, 167, 0, 4, 3, 172, 42, 42, 180, 0, 36, 3, 46, 182, 0, 194]
abbrev dktX7_isDone_4 : List UInt8 := dkwX7_isDone_4 ++ dktX7_isDone_5
def dkwX7_isDone_3 : List UInt8 := [155, 0, 7, 4, 167, 0, 4, 3, 172, 42, 42, 180, 0, 36, 3, 46, 42, 180, 0, 36, 4, 46]
abbrev dktX7_isDone_3 : List UInt8 := dkwX7_isDone_3 ++ dktX7_isDone_4
def dkwX7_isDone_2 : List UInt8 := [42, 42, 180, 0, 36, 3, 46, 42, 180, 0, 36, 4, 46, 42, 180, 0, 36, 5, 46, 182, 0, 188]
abbrev dktX7_isDone_2 : List UInt8 := dkwX7_isDone_2 ++ dktX7_isDone_3
def dkwX7_isDone_1 : List UInt8 := [171, 0, 0, 0, 0, 0, 164, 0, 0, 0, 5, 0, 0, 0, 43, 0, 0, 0, 51, 0, 0, 0, 45, 0, 0, 0, 82, 0, 0, 0, 99, 0, 0, 0, 126, 0, 0, 0, 109, 0, 0, 0, 145, 0, 0, 0, 122, 0, 0, 0, 107]
abbrev dktX7_isDone_1 : List UInt8 := dkwX7_isDone_1 ++ dktX7_isDone_2
def dkwX7_isDone_0 : List UInt8 := [27]
abbrev dktX7_isDone_0 : List UInt8 := dkwX7_isDone_0 ++ dktX7_isDone_1
theorem dksX7_isDone_0 : cX7_isDone.data.toList.drop 0 = dktX7_isDone_0 := by decide +kernel
theorem dksX7_isDone_1 : cX7_isDone.data.toList.drop 1 = dktX7_isDone_1 := dk_seg dksX7_isDone_0 1 rfl rfl
theorem dksX7_isDone_2 : cX7_isDone.data.toList.drop 52 = dktX7_isDone_2 := dk_seg dksX7_isDone_1 51 rfl rfl
theorem dksX7_isDone_3 : cX7_isDone.data.toList.drop 74 = dktX7_isDone_3 := dk_seg dksX7_isDone_2 22 rfl rfl
theorem dksX7_isDone_4 : cX7_isDone.data.toList.drop 96 = dktX7_isDone_4 := dk_seg dksX7_isDone_3 22 rfl rfl
theorem dksX7_isDone_5 : cX7_isDone.data.toList.drop 118 = dktX7_isDone_5 := dk_seg dksX7_isDone_4 22 rfl rfl
theorem dksX7_isDone_6 : cX7_isDone.data.toList.drop 141 = dktX7_isDone_6 := dk_seg dksX7_isDone_5 23 rfl rfl
theorem dksX7_isDone_7 : cX7_isDone.data.toList.drop 165 = dktX7_isDone_7 := dk_seg dksX7_isDone_6 24 rfl rfl
theorem dX7_isDone_0 : decode cX7_isDone 0 = .ok (.iload_n 1, 1) := dk_27 (dk_at dksX7_isDone_0 0 rfl rfl)
theorem dX7_isDone_1 : decode cX7_isDone 1 = .ok (.lookupswitch 164 #[(43, 51), (45, 82), (99, 126), (109, 145), (122, 107)], 51) := by decide +kernel
theorem dX7_isDone_52 : decode cX7_isDone 52 = .ok (.aload_n 0, 1) := dk_42 (dk_at dksX7_isDone_2 0 rfl rfl)
theorem dX7_isDone_53 : decode cX7_isDone 53 = .ok (.aload_n 0, 1) := dk_42 (dk_at dksX7_isDone_2 1 rfl rfl)
theorem dX7_isDone_54 : decode cX7_isDone 54 = .ok (.getfield 36, 3) := dk_180 0 36 (dk_at dksX7_isDone_2 2 rfl rfl)
theorem dX7_isDone_57 : decode cX7_isDone 57 = .ok (.iconst 0, 1) := dk_3 (dk_at dksX7_isDone_2 5 rfl rfl)
theorem dX7_isDone_58 : decode cX7_isDone 58 = .ok (.iaload, 1) := dk_46 (dk_at dksX7_isDone_2 6 rfl rfl)
theorem dX7_isDone_59 : decode cX7_isDone 59 = .ok (.aload_n 0, 1) := dk_42 (dk_at dksX7_isDone_2 7 rfl rfl)
theorem dX7_isDone_60 : decode cX7_isDone 60 = .ok (.getfield 36, 3) := dk_180 0 36 (dk_at dksX7_isDone_2 8 rfl rfl)
theorem dX7_isDone_63 : decode cX7_isDone 63 = .ok (.iconst 1, 1) := dk_4 (dk_at dksX7_isDone_2 11 rfl rfl)
theorem dX7_isDone_64 : decode cX7_isDone 64 = .ok (.iaload, 1) := dk_46 (dk_at dksX7_isDone_2 12 rfl rfl)
theorem dX7_isDone_65 : decode cX7_isDone 65 = .ok (.aload_n 0, 1) := dk_42 (dk_at dksX7_isDone_2 13 rfl rfl)
theorem dX7_isDone_66 : decode cX7_isDone 66 = .ok (.getfield 36, 3) := dk_180 0 36 (dk_at dksX7_isDone_2 14 rfl rfl)
theorem dX7_isDone_69 : decode cX7_isDone 69 = .ok (.iconst 2, 1) := dk_5 (dk_at dksX7_isDone_2 17 rfl rfl)
theorem dX7_isDone_70 : decode cX7_isDone 70 = .ok (.iaload, 1) := dk_46 (dk_at dksX7_isDone_2 18 rfl rfl)
theorem dX7_isDone_71 : decode cX7_isDone 71 = .ok (.invokevirtual 188, 3) := dk_182 0 188 (dk_at dksX7_isDone_2 19 rfl rfl)
theorem dX7_isDone_74 : decode cX7_isDone 74 = .ok (.ifCond .lt 7, 3) := dk_155 0 7 (dk_at dksX7_isDone_3 0 rfl rfl)
theorem dX7_isDone_77 : decode cX7_isDone 77 = .ok (.iconst 1, 1) := dk_4 (dk_at dksX7_isDone_3 3 rfl rfl)
theorem dX7_isDone_78 : decode cX7_isDone 78 = .ok (.goto 4, 3) := dk_167 0 4 (dk_at dksX7_isDone_3 4 rfl rfl)
theorem dX7_isDone_81 : decode cX7_isDone 81 = .ok (.iconst 0, 1) := dk_3 (dk_at dksX7_isDone_3 7 rfl rfl)
theorem dX7_isDone_82 : decode cX7_isDone 82 = .ok (.ireturn, 1) := dk_172 (dk_at dksX7_isDone_3 8 rfl rfl)
theorem dX7_isDone_83 : decode cX7_isDone 83 = .ok (.aload_n 0, 1) := dk_42 (dk_at dksX7_isDone_3 9 rfl rfl)
theorem dX7_isDone_84 : decode cX7_isDone 84 = .ok (.aload_n 0, 1) := dk_42 (dk_at dksX7_isDone_3 10 rfl rfl)
theorem dX7_isDone_85 : decode cX7_isDone 85 = .ok (.getfield 36, 3) := dk_180 0 36 (dk_at dksX7_isDone_3 11 rfl rfl)
theorem dX7_isDone_88 : decode cX7_isDone 88 = .ok (.iconst 0, 1) := dk_3 (dk_at dksX7_isDone_3 14 rfl rfl)
theorem dX7_isDone_89 : decode cX7_isDone 89 = .ok (.iaload, 1) := dk_46 (dk_at dksX7_isDone_3 15 rfl rfl)
theorem dX7_isDone_90 : decode cX7_isDone 90 = .ok (.aload_n 0, 1) := dk_42 (dk_at dksX7_isDone_3 16 rfl rfl)
theorem dX7_isDone_91 : decode cX7_isDone 91 = .ok (.getfield 36, 3) := dk_180 0 36 (dk_at dksX7_isDone_3 17 rfl rfl)
theorem dX7_isDone_94 : decode cX7_isDone 94 = .ok (.iconst 1, 1) := dk_4 (dk_at dksX7_isDone_3 20 rfl rfl)
theorem dX7_isDone_95 : decode cX7_isDone 95 = .ok (.iaload, 1) := dk_46 (dk_at dksX7_isDone_3 21 rfl rfl)
theorem dX7_isDone_96 : decode cX7_isDone 96 = .ok (.invokevirtual 191, 3) := dk_182 0 191 (dk_at dksX7_isDone_4 0 rfl rfl)
theorem dX7_isDone_99 : decode cX7_isDone 99 = .ok (.ifCond .lt 7, 3) := dk_155 0 7 (dk_at dksX7_isDone_4 3 rfl rfl)
theorem dX7_isDone_102 : decode cX7_isDone 102 = .ok (.iconst 1, 1) := dk_4 (dk_at dksX7_isDone_4 6 rfl rfl)
theorem dX7_isDone_103 : decode cX7_isDone 103 = .ok (.goto 4, 3) := dk_167 0 4 (dk_at dksX7_isDone_4 7 rfl rfl)
theorem dX7_isDone_106 : decode cX7_isDone 106 = .ok (.iconst 0, 1) := dk_3 (dk_at dksX7_isDone_4 10 rfl rfl)
theorem dX7_isDone_107 : decode cX7_isDone 107 = .ok (.ireturn, 1) := dk_172 (dk_at dksX7_isDone_4 11 rfl rfl)
theorem dX7_isDone_108 : decode cX7_isDone 108 = .ok (.aload_n 0, 1) := dk_42 (dk_at dksX7_isDone_4 12 rfl rfl)
theorem dX7_isDone_109 : decode cX7_isDone 109 = .ok (.aload_n 0, 1) := dk_42 (dk_at dksX7_isDone_4 13 rfl rfl)
theorem dX7_isDone_110 : decode cX7_isDone 110 = .ok (.getfield 36, 3) := dk_180 0 36 (dk_at dksX7_isDone_4 14 rfl rfl)
theorem dX7_isDone_113 : decode cX7_isDone 113 = .ok (.iconst 0, 1) := dk_3 (dk_at dksX7_isDone_4 17 rfl rfl)
theorem dX7_isDone_114 : decode cX7_isDone 114 = .ok (.iaload, 1) := dk_46 (dk_at dksX7_isDone_4 18 rfl rfl)
theorem dX7_isDone_115 : decode cX7_isDone 115 = .ok (.invokevirtual 194, 3) := dk_182 0 194 (dk_at dksX7_isDone_4 19 rfl rfl)
theorem dX7_isDone_118 : decode cX7_isDone 118 = .ok (.ifCond .lt 7, 3) := dk_155 0 7 (dk_at dksX7_isDone_5 0 rfl rfl)
theorem dX7_isDone_121 : decode cX7_isDone 121 = .ok (.iconst 1, 1) := dk_4 (dk_at dksX7_isDone_5 3 rfl rfl)
theorem dX7_isDone_122 : decode cX7_isDone 122 = .ok (.goto 4, 3) := dk_167 0 4 (dk_at dksX7_isDone_5 4 rfl rfl)
theorem dX7_isDone_125 : decode cX7_isDone 125 = .ok (.iconst 0, 1) := dk_3 (dk_at dksX7_isDone_5 7 rfl rfl)
theorem dX7_isDone_126 : decode cX7_isDone 126 = .ok (.ireturn, 1) := dk_172 (dk_at dksX7_isDone_5 8 rfl rfl)
theorem dX7_isDone_127 : decode cX7_isDone 127 = .ok (.aload_n 0, 1) := dk_42 (dk_at dksX7_isDone_5 9 rfl rfl)
theorem dX7_isDone_128 : decode cX7_isDone 128 = .ok (.aload_n 0, 1) := dk_42 (dk_at dksX7_isDone_5 10 rfl rfl)
theorem dX7_isDone_129 : decode cX7_isDone 129 = .ok (.getfield 36, 3) := dk_180 0 36 (dk_at dksX7_isDone_5 11 rfl rfl)
theorem dX7_isDone_132 : decode cX7_isDone 132 = .ok (.iconst 0, 1) := dk_3 (dk_at dksX7_isDone_5 14 rfl rfl)
theorem dX7_isDone_133 : decode cX7_isDone 133 = .ok (.iaload, 1) := dk_46 (dk_at dksX7_isDone_5 15 rfl rfl)
theorem dX7_isDone_134 : decode cX7_isDone 134 = .ok (.invokevirtual 197, 3) := dk_182 0 197 (dk_at dksX7_isDone_5 16 rfl rfl)
theorem dX7_isDone_137 : decode cX7_isDone 137 = .ok (.ifCond .lt 7, 3) := dk_155 0 7 (dk_at dksX7_isDone_5 19 rfl rfl)
theorem dX7_isDone_140 : decode cX7_isDone 140 = .ok (.iconst 1, 1) := dk_4 (dk_at dksX7_isDone_5 22 rfl rfl)
theorem dX7_isDone_141 : decode cX7_isDone 141 = .ok (.goto 4, 3) := dk_167 0 4 (dk_at dksX7_isDone_6 0 rfl rfl)
theorem dX7_isDone_144 : decode cX7_isDone 144 = .ok (.iconst 0, 1) := dk_3 (dk_at dksX7_isDone_6 3 rfl rfl)
theorem dX7_isDone_145 : decode cX7_isDone 145 = .ok (.ireturn, 1) := dk_172 (dk_at dksX7_isDone_6 4 rfl rfl)
theorem dX7_isDone_146 : decode cX7_isDone 146 = .ok (.aload_n 0, 1) := dk_42 (dk_at dksX7_isDone_6 5 rfl rfl)
theorem dX7_isDone_147 : decode cX7_isDone 147 = .ok (.aload_n 0, 1) := dk_42 (dk_at dksX7_isDone_6 6 rfl rfl)
theorem dX7_isDone_148 : decode cX7_isDone 148 = .ok (.getfield 36, 3) := dk_180 0 36 (dk_at dksX7_isDone_6 7 rfl rfl)
theorem dX7_isDone_151 : decode cX7_isDone 151 = .ok (.iconst 0, 1) := dk_3 (dk_at dksX7_isDone_6 10 rfl rfl)
theorem dX7_isDone_152 : decode cX7_isDone 152 = .ok (.iaload, 1) := dk_46 (dk_at dksX7_isDone_6 11 rfl rfl)
theorem dX7_isDone_153 : decode cX7_isDone 153 = .ok (.invokevirtual 200, 3) := dk_182 0 200 (dk_at dksX7_isDone_6 12 rfl rfl)
theorem dX7_isDone_156 : decode cX7_isDone 156 = .ok (.ifCond .lt 7, 3) := dk_155 0 7 (dk_at dksX7_isDone_6 15 rfl rfl)
theorem dX7_isDone_159 : decode cX7_isDone 159 = .ok (.iconst 1, 1) := dk_4 (dk_at dksX7_isDone_6 18 rfl rfl)
theorem dX7_isDone_160 : decode cX7_isDone 160 = .ok (.goto 4, 3) := dk_167 0 4 (dk_at dksX7_isDone_6 19 rfl rfl)
theorem dX7_isDone_163 : decode cX7_isDone 163 = .ok (.iconst 0, 1) := dk_3 (dk_at dksX7_isDone_6 22 rfl rfl)
theorem dX7_isDone_164 : decode cX7_isDone 164 = .ok (.ireturn, 1) := dk_172 (dk_at dksX7_isDone_6 23 rfl rfl)
theorem dX7_isDone_165 : decode cX7_isDone 165 = .ok (.aload_n 0, 1) := dk_42 (dk_at dksX7_isDone_7 0 rfl rfl)
theorem dX7_isDone_166 : decode cX7_isDone 166 = .ok (.invokevirtual 203, 3) := dk_182 0 203 (dk_at dksX7_isDone_7 1 rfl rfl)
theorem dX7_isDone_169 : decode cX7_isDone 169 = .ok (.ifCond .lt 7, 3) := dk_155 0 7 (dk_at dksX7_isDone_7 4 rfl rfl)
theorem dX7_isDone_172 : decode cX7_isDone 172 = .ok (.iconst 1, 1) := dk_4 (dk_at dksX7_isDone_7 7 rfl rfl)
theorem dX7_isDone_173 : decode cX7_isDone 173 = .ok (.goto 4, 3) := dk_167 0 4 (dk_at dksX7_isDone_7 8 rfl rfl)
theorem dX7_isDone_176 : decode cX7_isDone 176 = .ok (.iconst 0, 1) := dk_3 (dk_at dksX7_isDone_7 11 rfl rfl)
theorem dX7_isDone_177 : decode cX7_isDone 177 = .ok (.ireturn, 1) := dk_172 (dk_at dksX7_isDone_7 12 rfl rfl)
abbrev cX7_of : ByteArray := prog_17_method_37_code
def yX7_of : MethodName := ⟨RX7, "of", "(III)I"⟩
def dkwX7_of_2 : List UInt8 := [167, 0, 17, 42, 27, 28, 182, 0, 238, 153, 0, 7, 4, 167, 0, 4, 3, 172]
abbrev dktX7_of_2 : List UInt8 := dkwX7_of_2 ++ []
def dkwX7_of_1 : List UInt8 := [154, 0, 12, 42, 27, 28, 182, 0, 125, 167, 0, 31, 29, 4, 160, 0, 12, 42, 27, 28, 182, 0, 129]
abbrev dktX7_of_1 : List UInt8 := dkwX7_of_1 ++ dktX7_of_2
def dkwX7_of_0 : List UInt8 := [42, 27, 28, 182, 0, 155, 153, 0, 15, 29, 133, 9, 20, 0, 241, 184, 0, 115, 154, 0, 5, 2, 172, 29]
abbrev dktX7_of_0 : List UInt8 := dkwX7_of_0 ++ dktX7_of_1
theorem dksX7_of_0 : cX7_of.data.toList.drop 0 = dktX7_of_0 := by decide +kernel
theorem dksX7_of_1 : cX7_of.data.toList.drop 24 = dktX7_of_1 := dk_seg dksX7_of_0 24 rfl rfl
theorem dksX7_of_2 : cX7_of.data.toList.drop 47 = dktX7_of_2 := dk_seg dksX7_of_1 23 rfl rfl
theorem dX7_of_0 : decode cX7_of 0 = .ok (.aload_n 0, 1) := dk_42 (dk_at dksX7_of_0 0 rfl rfl)
theorem dX7_of_1 : decode cX7_of 1 = .ok (.iload_n 1, 1) := dk_27 (dk_at dksX7_of_0 1 rfl rfl)
theorem dX7_of_2 : decode cX7_of 2 = .ok (.iload_n 2, 1) := dk_28 (dk_at dksX7_of_0 2 rfl rfl)
theorem dX7_of_3 : decode cX7_of 3 = .ok (.invokevirtual 155, 3) := dk_182 0 155 (dk_at dksX7_of_0 3 rfl rfl)
theorem dX7_of_6 : decode cX7_of 6 = .ok (.ifCond .eq 15, 3) := dk_153 0 15 (dk_at dksX7_of_0 6 rfl rfl)
theorem dX7_of_9 : decode cX7_of 9 = .ok (.iload_n 3, 1) := dk_29 (dk_at dksX7_of_0 9 rfl rfl)
theorem dX7_of_10 : decode cX7_of 10 = .ok (.i2l, 1) := dk_133 (dk_at dksX7_of_0 10 rfl rfl)
theorem dX7_of_11 : decode cX7_of 11 = .ok (.lconst 0, 1) := dk_9 (dk_at dksX7_of_0 11 rfl rfl)
theorem dX7_of_12 : decode cX7_of 12 = .ok (.ldc2_w 241, 3) := dk_20 0 241 (dk_at dksX7_of_0 12 rfl rfl)
theorem dX7_of_15 : decode cX7_of 15 = .ok (.invokestatic 115, 3) := dk_184 0 115 (dk_at dksX7_of_0 15 rfl rfl)
theorem dX7_of_18 : decode cX7_of 18 = .ok (.ifCond .ne 5, 3) := dk_154 0 5 (dk_at dksX7_of_0 18 rfl rfl)
theorem dX7_of_21 : decode cX7_of 21 = .ok (.iconst (-1), 1) := dk_2 (dk_at dksX7_of_0 21 rfl rfl)
theorem dX7_of_22 : decode cX7_of 22 = .ok (.ireturn, 1) := dk_172 (dk_at dksX7_of_0 22 rfl rfl)
theorem dX7_of_23 : decode cX7_of 23 = .ok (.iload_n 3, 1) := dk_29 (dk_at dksX7_of_0 23 rfl rfl)
theorem dX7_of_24 : decode cX7_of 24 = .ok (.ifCond .ne 12, 3) := dk_154 0 12 (dk_at dksX7_of_1 0 rfl rfl)
theorem dX7_of_27 : decode cX7_of 27 = .ok (.aload_n 0, 1) := dk_42 (dk_at dksX7_of_1 3 rfl rfl)
theorem dX7_of_28 : decode cX7_of 28 = .ok (.iload_n 1, 1) := dk_27 (dk_at dksX7_of_1 4 rfl rfl)
theorem dX7_of_29 : decode cX7_of 29 = .ok (.iload_n 2, 1) := dk_28 (dk_at dksX7_of_1 5 rfl rfl)
theorem dX7_of_30 : decode cX7_of 30 = .ok (.invokevirtual 125, 3) := dk_182 0 125 (dk_at dksX7_of_1 6 rfl rfl)
theorem dX7_of_33 : decode cX7_of 33 = .ok (.goto 31, 3) := dk_167 0 31 (dk_at dksX7_of_1 9 rfl rfl)
theorem dX7_of_36 : decode cX7_of 36 = .ok (.iload_n 3, 1) := dk_29 (dk_at dksX7_of_1 12 rfl rfl)
theorem dX7_of_37 : decode cX7_of 37 = .ok (.iconst 1, 1) := dk_4 (dk_at dksX7_of_1 13 rfl rfl)
theorem dX7_of_38 : decode cX7_of 38 = .ok (.if_icmp .ne 12, 3) := dk_160 0 12 (dk_at dksX7_of_1 14 rfl rfl)
theorem dX7_of_41 : decode cX7_of 41 = .ok (.aload_n 0, 1) := dk_42 (dk_at dksX7_of_1 17 rfl rfl)
theorem dX7_of_42 : decode cX7_of 42 = .ok (.iload_n 1, 1) := dk_27 (dk_at dksX7_of_1 18 rfl rfl)
theorem dX7_of_43 : decode cX7_of 43 = .ok (.iload_n 2, 1) := dk_28 (dk_at dksX7_of_1 19 rfl rfl)
theorem dX7_of_44 : decode cX7_of 44 = .ok (.invokevirtual 129, 3) := dk_182 0 129 (dk_at dksX7_of_1 20 rfl rfl)
theorem dX7_of_47 : decode cX7_of 47 = .ok (.goto 17, 3) := dk_167 0 17 (dk_at dksX7_of_2 0 rfl rfl)
theorem dX7_of_50 : decode cX7_of 50 = .ok (.aload_n 0, 1) := dk_42 (dk_at dksX7_of_2 3 rfl rfl)
theorem dX7_of_51 : decode cX7_of 51 = .ok (.iload_n 1, 1) := dk_27 (dk_at dksX7_of_2 4 rfl rfl)
theorem dX7_of_52 : decode cX7_of 52 = .ok (.iload_n 2, 1) := dk_28 (dk_at dksX7_of_2 5 rfl rfl)
theorem dX7_of_53 : decode cX7_of 53 = .ok (.invokevirtual 238, 3) := dk_182 0 238 (dk_at dksX7_of_2 6 rfl rfl)
theorem dX7_of_56 : decode cX7_of 56 = .ok (.ifCond .eq 7, 3) := dk_153 0 7 (dk_at dksX7_of_2 9 rfl rfl)
theorem dX7_of_59 : decode cX7_of 59 = .ok (.iconst 1, 1) := dk_4 (dk_at dksX7_of_2 12 rfl rfl)
theorem dX7_of_60 : decode cX7_of 60 = .ok (.goto 4, 3) := dk_167 0 4 (dk_at dksX7_of_2 13 rfl rfl)
theorem dX7_of_63 : decode cX7_of 63 = .ok (.iconst 0, 1) := dk_3 (dk_at dksX7_of_2 16 rfl rfl)
theorem dX7_of_64 : decode cX7_of 64 = .ok (.ireturn, 1) := dk_172 (dk_at dksX7_of_2 17 rfl rfl)
abbrev cX7_isLeast : ByteArray := prog_17_method_35_code
def yX7_isLeast : MethodName := ⟨RX7, "isLeast", "(II)Z"⟩
def dkwX7_isLeast_3 : List UInt8 := [29, 172]
abbrev dktX7_isLeast_3 : List UInt8 := dkwX7_isLeast_3 ++ []
def dkwX7_isLeast_2 : List UInt8 := [182, 0, 129, 42, 27, 28, 182, 0, 129, 164, 0, 7, 4, 167, 0, 4, 3, 62, 132, 4, 1, 167, 255, 194]
abbrev dktX7_isLeast_2 : List UInt8 := dkwX7_isLeast_2 ++ dktX7_isLeast_3
def dkwX7_isLeast_1 : List UInt8 := [159, 0, 35, 42, 27, 21, 4, 182, 0, 125, 42, 27, 28, 182, 0, 125, 163, 0, 19, 42, 27, 21, 4]
abbrev dktX7_isLeast_1 : List UInt8 := dkwX7_isLeast_1 ++ dktX7_isLeast_2
def dkwX7_isLeast_0 : List UInt8 := [4, 62, 3, 54, 4, 21, 4, 42, 180, 0, 11, 27, 46, 162, 0, 57, 29, 153, 0, 45, 21, 4, 28]
abbrev dktX7_isLeast_0 : List UInt8 := dkwX7_isLeast_0 ++ dktX7_isLeast_1
theorem dksX7_isLeast_0 : cX7_isLeast.data.toList.drop 0 = dktX7_isLeast_0 := by decide +kernel
theorem dksX7_isLeast_1 : cX7_isLeast.data.toList.drop 23 = dktX7_isLeast_1 := dk_seg dksX7_isLeast_0 23 rfl rfl
theorem dksX7_isLeast_2 : cX7_isLeast.data.toList.drop 46 = dktX7_isLeast_2 := dk_seg dksX7_isLeast_1 23 rfl rfl
theorem dksX7_isLeast_3 : cX7_isLeast.data.toList.drop 70 = dktX7_isLeast_3 := dk_seg dksX7_isLeast_2 24 rfl rfl
theorem dX7_isLeast_0 : decode cX7_isLeast 0 = .ok (.iconst 1, 1) := dk_4 (dk_at dksX7_isLeast_0 0 rfl rfl)
theorem dX7_isLeast_1 : decode cX7_isLeast 1 = .ok (.istore_n 3, 1) := dk_62 (dk_at dksX7_isLeast_0 1 rfl rfl)
theorem dX7_isLeast_2 : decode cX7_isLeast 2 = .ok (.iconst 0, 1) := dk_3 (dk_at dksX7_isLeast_0 2 rfl rfl)
theorem dX7_isLeast_3 : decode cX7_isLeast 3 = .ok (.istore 4, 2) := dk_54 4 (dk_at dksX7_isLeast_0 3 rfl rfl)
theorem dX7_isLeast_5 : decode cX7_isLeast 5 = .ok (.iload 4, 2) := dk_21 4 (dk_at dksX7_isLeast_0 5 rfl rfl)
theorem dX7_isLeast_7 : decode cX7_isLeast 7 = .ok (.aload_n 0, 1) := dk_42 (dk_at dksX7_isLeast_0 7 rfl rfl)
theorem dX7_isLeast_8 : decode cX7_isLeast 8 = .ok (.getfield 11, 3) := dk_180 0 11 (dk_at dksX7_isLeast_0 8 rfl rfl)
theorem dX7_isLeast_11 : decode cX7_isLeast 11 = .ok (.iload_n 1, 1) := dk_27 (dk_at dksX7_isLeast_0 11 rfl rfl)
theorem dX7_isLeast_12 : decode cX7_isLeast 12 = .ok (.iaload, 1) := dk_46 (dk_at dksX7_isLeast_0 12 rfl rfl)
theorem dX7_isLeast_13 : decode cX7_isLeast 13 = .ok (.if_icmp .ge 57, 3) := dk_162 0 57 (dk_at dksX7_isLeast_0 13 rfl rfl)
theorem dX7_isLeast_16 : decode cX7_isLeast 16 = .ok (.iload_n 3, 1) := dk_29 (dk_at dksX7_isLeast_0 16 rfl rfl)
theorem dX7_isLeast_17 : decode cX7_isLeast 17 = .ok (.ifCond .eq 45, 3) := dk_153 0 45 (dk_at dksX7_isLeast_0 17 rfl rfl)
theorem dX7_isLeast_20 : decode cX7_isLeast 20 = .ok (.iload 4, 2) := dk_21 4 (dk_at dksX7_isLeast_0 20 rfl rfl)
theorem dX7_isLeast_22 : decode cX7_isLeast 22 = .ok (.iload_n 2, 1) := dk_28 (dk_at dksX7_isLeast_0 22 rfl rfl)
theorem dX7_isLeast_23 : decode cX7_isLeast 23 = .ok (.if_icmp .eq 35, 3) := dk_159 0 35 (dk_at dksX7_isLeast_1 0 rfl rfl)
theorem dX7_isLeast_26 : decode cX7_isLeast 26 = .ok (.aload_n 0, 1) := dk_42 (dk_at dksX7_isLeast_1 3 rfl rfl)
theorem dX7_isLeast_27 : decode cX7_isLeast 27 = .ok (.iload_n 1, 1) := dk_27 (dk_at dksX7_isLeast_1 4 rfl rfl)
theorem dX7_isLeast_28 : decode cX7_isLeast 28 = .ok (.iload 4, 2) := dk_21 4 (dk_at dksX7_isLeast_1 5 rfl rfl)
theorem dX7_isLeast_30 : decode cX7_isLeast 30 = .ok (.invokevirtual 125, 3) := dk_182 0 125 (dk_at dksX7_isLeast_1 7 rfl rfl)
theorem dX7_isLeast_33 : decode cX7_isLeast 33 = .ok (.aload_n 0, 1) := dk_42 (dk_at dksX7_isLeast_1 10 rfl rfl)
theorem dX7_isLeast_34 : decode cX7_isLeast 34 = .ok (.iload_n 1, 1) := dk_27 (dk_at dksX7_isLeast_1 11 rfl rfl)
theorem dX7_isLeast_35 : decode cX7_isLeast 35 = .ok (.iload_n 2, 1) := dk_28 (dk_at dksX7_isLeast_1 12 rfl rfl)
theorem dX7_isLeast_36 : decode cX7_isLeast 36 = .ok (.invokevirtual 125, 3) := dk_182 0 125 (dk_at dksX7_isLeast_1 13 rfl rfl)
theorem dX7_isLeast_39 : decode cX7_isLeast 39 = .ok (.if_icmp .gt 19, 3) := dk_163 0 19 (dk_at dksX7_isLeast_1 16 rfl rfl)
theorem dX7_isLeast_42 : decode cX7_isLeast 42 = .ok (.aload_n 0, 1) := dk_42 (dk_at dksX7_isLeast_1 19 rfl rfl)
theorem dX7_isLeast_43 : decode cX7_isLeast 43 = .ok (.iload_n 1, 1) := dk_27 (dk_at dksX7_isLeast_1 20 rfl rfl)
theorem dX7_isLeast_44 : decode cX7_isLeast 44 = .ok (.iload 4, 2) := dk_21 4 (dk_at dksX7_isLeast_1 21 rfl rfl)
theorem dX7_isLeast_46 : decode cX7_isLeast 46 = .ok (.invokevirtual 129, 3) := dk_182 0 129 (dk_at dksX7_isLeast_2 0 rfl rfl)
theorem dX7_isLeast_49 : decode cX7_isLeast 49 = .ok (.aload_n 0, 1) := dk_42 (dk_at dksX7_isLeast_2 3 rfl rfl)
theorem dX7_isLeast_50 : decode cX7_isLeast 50 = .ok (.iload_n 1, 1) := dk_27 (dk_at dksX7_isLeast_2 4 rfl rfl)
theorem dX7_isLeast_51 : decode cX7_isLeast 51 = .ok (.iload_n 2, 1) := dk_28 (dk_at dksX7_isLeast_2 5 rfl rfl)
theorem dX7_isLeast_52 : decode cX7_isLeast 52 = .ok (.invokevirtual 129, 3) := dk_182 0 129 (dk_at dksX7_isLeast_2 6 rfl rfl)
theorem dX7_isLeast_55 : decode cX7_isLeast 55 = .ok (.if_icmp .le 7, 3) := dk_164 0 7 (dk_at dksX7_isLeast_2 9 rfl rfl)
theorem dX7_isLeast_58 : decode cX7_isLeast 58 = .ok (.iconst 1, 1) := dk_4 (dk_at dksX7_isLeast_2 12 rfl rfl)
theorem dX7_isLeast_59 : decode cX7_isLeast 59 = .ok (.goto 4, 3) := dk_167 0 4 (dk_at dksX7_isLeast_2 13 rfl rfl)
theorem dX7_isLeast_62 : decode cX7_isLeast 62 = .ok (.iconst 0, 1) := dk_3 (dk_at dksX7_isLeast_2 16 rfl rfl)
theorem dX7_isLeast_63 : decode cX7_isLeast 63 = .ok (.istore_n 3, 1) := dk_62 (dk_at dksX7_isLeast_2 17 rfl rfl)
theorem dX7_isLeast_64 : decode cX7_isLeast 64 = .ok (.iinc 4 1, 3) := dk_132 4 1 (dk_at dksX7_isLeast_2 18 rfl rfl)
theorem dX7_isLeast_67 : decode cX7_isLeast 67 = .ok (.goto (-62), 3) := dk_167 255 194 (dk_at dksX7_isLeast_2 21 rfl rfl)
theorem dX7_isLeast_70 : decode cX7_isLeast 70 = .ok (.iload_n 3, 1) := dk_29 (dk_at dksX7_isLeast_3 0 rfl rfl)
theorem dX7_isLeast_71 : decode cX7_isLeast 71 = .ok (.ireturn, 1) := dk_172 (dk_at dksX7_isLeast_3 1 rfl rfl)
abbrev cX7_told : ByteArray := prog_17_method_38_code
def yX7_told : MethodName := ⟨RX7, "told", "(II)I"⟩
def dkwX7_told_2 : List UInt8 := [180, 0, 11, 27, 46, 154, 0, 6, 16, 253, 172, 42, 27, 28, 182, 0, 248, 172]
abbrev dktX7_told_2 : List UInt8 := dkwX7_told_2 ++ []
def dkwX7_told_1 : List UInt8 := [162, 0, 22, 28, 154, 0, 12, 42, 180, 0, 11, 27, 46, 167, 0, 8, 42, 27, 182, 0, 245, 172, 42]
abbrev dktX7_told_1 : List UInt8 := dkwX7_told_1 ++ dktX7_told_2
def dkwX7_told_0 : List UInt8 := [27, 184, 0, 136, 153, 0, 15, 28, 133, 9, 20, 0, 243, 184, 0, 115, 154, 0, 5, 2, 172, 28, 5]
abbrev dktX7_told_0 : List UInt8 := dkwX7_told_0 ++ dktX7_told_1
theorem dksX7_told_0 : cX7_told.data.toList.drop 0 = dktX7_told_0 := by decide +kernel
theorem dksX7_told_1 : cX7_told.data.toList.drop 23 = dktX7_told_1 := dk_seg dksX7_told_0 23 rfl rfl
theorem dksX7_told_2 : cX7_told.data.toList.drop 46 = dktX7_told_2 := dk_seg dksX7_told_1 23 rfl rfl
theorem dX7_told_0 : decode cX7_told 0 = .ok (.iload_n 1, 1) := dk_27 (dk_at dksX7_told_0 0 rfl rfl)
theorem dX7_told_1 : decode cX7_told 1 = .ok (.invokestatic 136, 3) := dk_184 0 136 (dk_at dksX7_told_0 1 rfl rfl)
theorem dX7_told_4 : decode cX7_told 4 = .ok (.ifCond .eq 15, 3) := dk_153 0 15 (dk_at dksX7_told_0 4 rfl rfl)
theorem dX7_told_7 : decode cX7_told 7 = .ok (.iload_n 2, 1) := dk_28 (dk_at dksX7_told_0 7 rfl rfl)
theorem dX7_told_8 : decode cX7_told 8 = .ok (.i2l, 1) := dk_133 (dk_at dksX7_told_0 8 rfl rfl)
theorem dX7_told_9 : decode cX7_told 9 = .ok (.lconst 0, 1) := dk_9 (dk_at dksX7_told_0 9 rfl rfl)
theorem dX7_told_10 : decode cX7_told 10 = .ok (.ldc2_w 243, 3) := dk_20 0 243 (dk_at dksX7_told_0 10 rfl rfl)
theorem dX7_told_13 : decode cX7_told 13 = .ok (.invokestatic 115, 3) := dk_184 0 115 (dk_at dksX7_told_0 13 rfl rfl)
theorem dX7_told_16 : decode cX7_told 16 = .ok (.ifCond .ne 5, 3) := dk_154 0 5 (dk_at dksX7_told_0 16 rfl rfl)
theorem dX7_told_19 : decode cX7_told 19 = .ok (.iconst (-1), 1) := dk_2 (dk_at dksX7_told_0 19 rfl rfl)
theorem dX7_told_20 : decode cX7_told 20 = .ok (.ireturn, 1) := dk_172 (dk_at dksX7_told_0 20 rfl rfl)
theorem dX7_told_21 : decode cX7_told 21 = .ok (.iload_n 2, 1) := dk_28 (dk_at dksX7_told_0 21 rfl rfl)
theorem dX7_told_22 : decode cX7_told 22 = .ok (.iconst 2, 1) := dk_5 (dk_at dksX7_told_0 22 rfl rfl)
theorem dX7_told_23 : decode cX7_told 23 = .ok (.if_icmp .ge 22, 3) := dk_162 0 22 (dk_at dksX7_told_1 0 rfl rfl)
theorem dX7_told_26 : decode cX7_told 26 = .ok (.iload_n 2, 1) := dk_28 (dk_at dksX7_told_1 3 rfl rfl)
theorem dX7_told_27 : decode cX7_told 27 = .ok (.ifCond .ne 12, 3) := dk_154 0 12 (dk_at dksX7_told_1 4 rfl rfl)
theorem dX7_told_30 : decode cX7_told 30 = .ok (.aload_n 0, 1) := dk_42 (dk_at dksX7_told_1 7 rfl rfl)
theorem dX7_told_31 : decode cX7_told 31 = .ok (.getfield 11, 3) := dk_180 0 11 (dk_at dksX7_told_1 8 rfl rfl)
theorem dX7_told_34 : decode cX7_told 34 = .ok (.iload_n 1, 1) := dk_27 (dk_at dksX7_told_1 11 rfl rfl)
theorem dX7_told_35 : decode cX7_told 35 = .ok (.iaload, 1) := dk_46 (dk_at dksX7_told_1 12 rfl rfl)
theorem dX7_told_36 : decode cX7_told 36 = .ok (.goto 8, 3) := dk_167 0 8 (dk_at dksX7_told_1 13 rfl rfl)
theorem dX7_told_39 : decode cX7_told 39 = .ok (.aload_n 0, 1) := dk_42 (dk_at dksX7_told_1 16 rfl rfl)
theorem dX7_told_40 : decode cX7_told 40 = .ok (.iload_n 1, 1) := dk_27 (dk_at dksX7_told_1 17 rfl rfl)
theorem dX7_told_41 : decode cX7_told 41 = .ok (.invokevirtual 245, 3) := dk_182 0 245 (dk_at dksX7_told_1 18 rfl rfl)
theorem dX7_told_44 : decode cX7_told 44 = .ok (.ireturn, 1) := dk_172 (dk_at dksX7_told_1 21 rfl rfl)
theorem dX7_told_45 : decode cX7_told 45 = .ok (.aload_n 0, 1) := dk_42 (dk_at dksX7_told_1 22 rfl rfl)
theorem dX7_told_46 : decode cX7_told 46 = .ok (.getfield 11, 3) := dk_180 0 11 (dk_at dksX7_told_2 0 rfl rfl)
theorem dX7_told_49 : decode cX7_told 49 = .ok (.iload_n 1, 1) := dk_27 (dk_at dksX7_told_2 3 rfl rfl)
theorem dX7_told_50 : decode cX7_told 50 = .ok (.iaload, 1) := dk_46 (dk_at dksX7_told_2 4 rfl rfl)
theorem dX7_told_51 : decode cX7_told 51 = .ok (.ifCond .ne 6, 3) := dk_154 0 6 (dk_at dksX7_told_2 5 rfl rfl)
theorem dX7_told_54 : decode cX7_told 54 = .ok (.bipush (-3), 2) := dk_16 253 (dk_at dksX7_told_2 8 rfl rfl)
theorem dX7_told_56 : decode cX7_told 56 = .ok (.ireturn, 1) := dk_172 (dk_at dksX7_told_2 10 rfl rfl)
theorem dX7_told_57 : decode cX7_told 57 = .ok (.aload_n 0, 1) := dk_42 (dk_at dksX7_told_2 11 rfl rfl)
theorem dX7_told_58 : decode cX7_told 58 = .ok (.iload_n 1, 1) := dk_27 (dk_at dksX7_told_2 12 rfl rfl)
theorem dX7_told_59 : decode cX7_told 59 = .ok (.iload_n 2, 1) := dk_28 (dk_at dksX7_told_2 13 rfl rfl)
theorem dX7_told_60 : decode cX7_told 60 = .ok (.invokevirtual 248, 3) := dk_182 0 248 (dk_at dksX7_told_2 14 rfl rfl)
theorem dX7_told_63 : decode cX7_told 63 = .ok (.ireturn, 1) := dk_172 (dk_at dksX7_told_2 17 rfl rfl)
abbrev cX7_leastMany : ByteArray := prog_17_method_36_code
def yX7_leastMany : MethodName := ⟨RX7, "leastMany", "(I)I"⟩
def dkwX7_leastMany_1 : List UInt8 := [4, 167, 0, 4, 3, 96, 61, 132, 3, 1, 167, 255, 226, 28, 172]
abbrev dktX7_leastMany_1 : List UInt8 := dkwX7_leastMany_1 ++ []
def dkwX7_leastMany_0 : List UInt8 := [3, 61, 3, 62, 29, 42, 180, 0, 11, 27, 46, 162, 0, 26, 28, 42, 27, 29, 182, 0, 238, 153, 0, 7]
abbrev dktX7_leastMany_0 : List UInt8 := dkwX7_leastMany_0 ++ dktX7_leastMany_1
theorem dksX7_leastMany_0 : cX7_leastMany.data.toList.drop 0 = dktX7_leastMany_0 := by decide +kernel
theorem dksX7_leastMany_1 : cX7_leastMany.data.toList.drop 24 = dktX7_leastMany_1 := dk_seg dksX7_leastMany_0 24 rfl rfl
theorem dX7_leastMany_0 : decode cX7_leastMany 0 = .ok (.iconst 0, 1) := dk_3 (dk_at dksX7_leastMany_0 0 rfl rfl)
theorem dX7_leastMany_1 : decode cX7_leastMany 1 = .ok (.istore_n 2, 1) := dk_61 (dk_at dksX7_leastMany_0 1 rfl rfl)
theorem dX7_leastMany_2 : decode cX7_leastMany 2 = .ok (.iconst 0, 1) := dk_3 (dk_at dksX7_leastMany_0 2 rfl rfl)
theorem dX7_leastMany_3 : decode cX7_leastMany 3 = .ok (.istore_n 3, 1) := dk_62 (dk_at dksX7_leastMany_0 3 rfl rfl)
theorem dX7_leastMany_4 : decode cX7_leastMany 4 = .ok (.iload_n 3, 1) := dk_29 (dk_at dksX7_leastMany_0 4 rfl rfl)
theorem dX7_leastMany_5 : decode cX7_leastMany 5 = .ok (.aload_n 0, 1) := dk_42 (dk_at dksX7_leastMany_0 5 rfl rfl)
theorem dX7_leastMany_6 : decode cX7_leastMany 6 = .ok (.getfield 11, 3) := dk_180 0 11 (dk_at dksX7_leastMany_0 6 rfl rfl)
theorem dX7_leastMany_9 : decode cX7_leastMany 9 = .ok (.iload_n 1, 1) := dk_27 (dk_at dksX7_leastMany_0 9 rfl rfl)
theorem dX7_leastMany_10 : decode cX7_leastMany 10 = .ok (.iaload, 1) := dk_46 (dk_at dksX7_leastMany_0 10 rfl rfl)
theorem dX7_leastMany_11 : decode cX7_leastMany 11 = .ok (.if_icmp .ge 26, 3) := dk_162 0 26 (dk_at dksX7_leastMany_0 11 rfl rfl)
theorem dX7_leastMany_14 : decode cX7_leastMany 14 = .ok (.iload_n 2, 1) := dk_28 (dk_at dksX7_leastMany_0 14 rfl rfl)
theorem dX7_leastMany_15 : decode cX7_leastMany 15 = .ok (.aload_n 0, 1) := dk_42 (dk_at dksX7_leastMany_0 15 rfl rfl)
theorem dX7_leastMany_16 : decode cX7_leastMany 16 = .ok (.iload_n 1, 1) := dk_27 (dk_at dksX7_leastMany_0 16 rfl rfl)
theorem dX7_leastMany_17 : decode cX7_leastMany 17 = .ok (.iload_n 3, 1) := dk_29 (dk_at dksX7_leastMany_0 17 rfl rfl)
theorem dX7_leastMany_18 : decode cX7_leastMany 18 = .ok (.invokevirtual 238, 3) := dk_182 0 238 (dk_at dksX7_leastMany_0 18 rfl rfl)
theorem dX7_leastMany_21 : decode cX7_leastMany 21 = .ok (.ifCond .eq 7, 3) := dk_153 0 7 (dk_at dksX7_leastMany_0 21 rfl rfl)
theorem dX7_leastMany_24 : decode cX7_leastMany 24 = .ok (.iconst 1, 1) := dk_4 (dk_at dksX7_leastMany_1 0 rfl rfl)
theorem dX7_leastMany_25 : decode cX7_leastMany 25 = .ok (.goto 4, 3) := dk_167 0 4 (dk_at dksX7_leastMany_1 1 rfl rfl)
theorem dX7_leastMany_28 : decode cX7_leastMany 28 = .ok (.iconst 0, 1) := dk_3 (dk_at dksX7_leastMany_1 4 rfl rfl)
theorem dX7_leastMany_29 : decode cX7_leastMany 29 = .ok (.iadd, 1) := dk_96 (dk_at dksX7_leastMany_1 5 rfl rfl)
theorem dX7_leastMany_30 : decode cX7_leastMany 30 = .ok (.istore_n 2, 1) := dk_61 (dk_at dksX7_leastMany_1 6 rfl rfl)
theorem dX7_leastMany_31 : decode cX7_leastMany 31 = .ok (.iinc 3 1, 3) := dk_132 3 1 (dk_at dksX7_leastMany_1 7 rfl rfl)
theorem dX7_leastMany_34 : decode cX7_leastMany 34 = .ok (.goto (-30), 3) := dk_167 255 226 (dk_at dksX7_leastMany_1 10 rfl rfl)
theorem dX7_leastMany_37 : decode cX7_leastMany 37 = .ok (.iload_n 2, 1) := dk_28 (dk_at dksX7_leastMany_1 13 rfl rfl)
theorem dX7_leastMany_38 : decode cX7_leastMany 38 = .ok (.ireturn, 1) := dk_172 (dk_at dksX7_leastMany_1 14 rfl rfl)
abbrev cX7_asked : ByteArray := prog_17_method_39_code
def yX7_asked : MethodName := ⟨RX7, "asked", "(II)I"⟩
def dkwX7_asked_1 : List UInt8 := [28, 5, 160, 0, 8, 42, 180, 0, 221, 172, 42, 182, 0, 254, 42, 180, 1, 1, 172]
abbrev dktX7_asked_1 : List UInt8 := dkwX7_asked_1 ++ []
def dkwX7_asked_0 : List UInt8 := [28, 6, 160, 0, 17, 42, 27, 182, 0, 251, 153, 0, 7, 4, 167, 0, 4, 3, 172, 42, 27, 182, 0, 166]
abbrev dktX7_asked_0 : List UInt8 := dkwX7_asked_0 ++ dktX7_asked_1
theorem dksX7_asked_0 : cX7_asked.data.toList.drop 0 = dktX7_asked_0 := by decide +kernel
theorem dksX7_asked_1 : cX7_asked.data.toList.drop 24 = dktX7_asked_1 := dk_seg dksX7_asked_0 24 rfl rfl
theorem dX7_asked_0 : decode cX7_asked 0 = .ok (.iload_n 2, 1) := dk_28 (dk_at dksX7_asked_0 0 rfl rfl)
theorem dX7_asked_1 : decode cX7_asked 1 = .ok (.iconst 3, 1) := dk_6 (dk_at dksX7_asked_0 1 rfl rfl)
theorem dX7_asked_2 : decode cX7_asked 2 = .ok (.if_icmp .ne 17, 3) := dk_160 0 17 (dk_at dksX7_asked_0 2 rfl rfl)
theorem dX7_asked_5 : decode cX7_asked 5 = .ok (.aload_n 0, 1) := dk_42 (dk_at dksX7_asked_0 5 rfl rfl)
theorem dX7_asked_6 : decode cX7_asked 6 = .ok (.iload_n 1, 1) := dk_27 (dk_at dksX7_asked_0 6 rfl rfl)
theorem dX7_asked_7 : decode cX7_asked 7 = .ok (.invokevirtual 251, 3) := dk_182 0 251 (dk_at dksX7_asked_0 7 rfl rfl)
theorem dX7_asked_10 : decode cX7_asked 10 = .ok (.ifCond .eq 7, 3) := dk_153 0 7 (dk_at dksX7_asked_0 10 rfl rfl)
theorem dX7_asked_13 : decode cX7_asked 13 = .ok (.iconst 1, 1) := dk_4 (dk_at dksX7_asked_0 13 rfl rfl)
theorem dX7_asked_14 : decode cX7_asked 14 = .ok (.goto 4, 3) := dk_167 0 4 (dk_at dksX7_asked_0 14 rfl rfl)
theorem dX7_asked_17 : decode cX7_asked 17 = .ok (.iconst 0, 1) := dk_3 (dk_at dksX7_asked_0 17 rfl rfl)
theorem dX7_asked_18 : decode cX7_asked 18 = .ok (.ireturn, 1) := dk_172 (dk_at dksX7_asked_0 18 rfl rfl)
theorem dX7_asked_19 : decode cX7_asked 19 = .ok (.aload_n 0, 1) := dk_42 (dk_at dksX7_asked_0 19 rfl rfl)
theorem dX7_asked_20 : decode cX7_asked 20 = .ok (.iload_n 1, 1) := dk_27 (dk_at dksX7_asked_0 20 rfl rfl)
theorem dX7_asked_21 : decode cX7_asked 21 = .ok (.invokevirtual 166, 3) := dk_182 0 166 (dk_at dksX7_asked_0 21 rfl rfl)
theorem dX7_asked_24 : decode cX7_asked 24 = .ok (.iload_n 2, 1) := dk_28 (dk_at dksX7_asked_1 0 rfl rfl)
theorem dX7_asked_25 : decode cX7_asked 25 = .ok (.iconst 2, 1) := dk_5 (dk_at dksX7_asked_1 1 rfl rfl)
theorem dX7_asked_26 : decode cX7_asked 26 = .ok (.if_icmp .ne 8, 3) := dk_160 0 8 (dk_at dksX7_asked_1 2 rfl rfl)
theorem dX7_asked_29 : decode cX7_asked 29 = .ok (.aload_n 0, 1) := dk_42 (dk_at dksX7_asked_1 5 rfl rfl)
theorem dX7_asked_30 : decode cX7_asked 30 = .ok (.getfield 221, 3) := dk_180 0 221 (dk_at dksX7_asked_1 6 rfl rfl)
theorem dX7_asked_33 : decode cX7_asked 33 = .ok (.ireturn, 1) := dk_172 (dk_at dksX7_asked_1 9 rfl rfl)
theorem dX7_asked_34 : decode cX7_asked 34 = .ok (.aload_n 0, 1) := dk_42 (dk_at dksX7_asked_1 10 rfl rfl)
theorem dX7_asked_35 : decode cX7_asked 35 = .ok (.invokevirtual 254, 3) := dk_182 0 254 (dk_at dksX7_asked_1 11 rfl rfl)
theorem dX7_asked_38 : decode cX7_asked 38 = .ok (.aload_n 0, 1) := dk_42 (dk_at dksX7_asked_1 14 rfl rfl)
theorem dX7_asked_39 : decode cX7_asked 39 = .ok (.getfield 257, 3) := dk_180 1 1 (dk_at dksX7_asked_1 15 rfl rfl)
theorem dX7_asked_42 : decode cX7_asked 42 = .ok (.ireturn, 1) := dk_172 (dk_at dksX7_asked_1 18 rfl rfl)
abbrev cX7_isClosed : ByteArray := prog_17_method_34_code
def yX7_isClosed : MethodName := ⟨RX7, "isClosed", "(I)Z"⟩
def dkwX7_isClosed_2 : List UInt8 := [153, 0, 7, 4, 167, 0, 4, 3, 61, 132, 3, 1, 167, 255, 206, 28, 172]
abbrev dktX7_isClosed_2 : List UInt8 := dkwX7_isClosed_2 ++ []
def dkwX7_isClosed_1 : List UInt8 := [29, 16, 10, 112, 182, 0, 163, 153, 0, 19, 42, 27, 29, 16, 10, 108, 29, 16, 10, 112, 182, 0, 234]
abbrev dktX7_isClosed_1 : List UInt8 := dkwX7_isClosed_1 ++ dktX7_isClosed_2
def dkwX7_isClosed_0 : List UInt8 := [42, 27, 182, 0, 166, 4, 61, 3, 62, 29, 16, 100, 162, 0, 50, 28, 153, 0, 38, 42, 29, 16, 10, 108]
abbrev dktX7_isClosed_0 : List UInt8 := dkwX7_isClosed_0 ++ dktX7_isClosed_1
theorem dksX7_isClosed_0 : cX7_isClosed.data.toList.drop 0 = dktX7_isClosed_0 := by decide +kernel
theorem dksX7_isClosed_1 : cX7_isClosed.data.toList.drop 24 = dktX7_isClosed_1 := dk_seg dksX7_isClosed_0 24 rfl rfl
theorem dksX7_isClosed_2 : cX7_isClosed.data.toList.drop 47 = dktX7_isClosed_2 := dk_seg dksX7_isClosed_1 23 rfl rfl
theorem dX7_isClosed_0 : decode cX7_isClosed 0 = .ok (.aload_n 0, 1) := dk_42 (dk_at dksX7_isClosed_0 0 rfl rfl)
theorem dX7_isClosed_1 : decode cX7_isClosed 1 = .ok (.iload_n 1, 1) := dk_27 (dk_at dksX7_isClosed_0 1 rfl rfl)
theorem dX7_isClosed_2 : decode cX7_isClosed 2 = .ok (.invokevirtual 166, 3) := dk_182 0 166 (dk_at dksX7_isClosed_0 2 rfl rfl)
theorem dX7_isClosed_5 : decode cX7_isClosed 5 = .ok (.iconst 1, 1) := dk_4 (dk_at dksX7_isClosed_0 5 rfl rfl)
theorem dX7_isClosed_6 : decode cX7_isClosed 6 = .ok (.istore_n 2, 1) := dk_61 (dk_at dksX7_isClosed_0 6 rfl rfl)
theorem dX7_isClosed_7 : decode cX7_isClosed 7 = .ok (.iconst 0, 1) := dk_3 (dk_at dksX7_isClosed_0 7 rfl rfl)
theorem dX7_isClosed_8 : decode cX7_isClosed 8 = .ok (.istore_n 3, 1) := dk_62 (dk_at dksX7_isClosed_0 8 rfl rfl)
theorem dX7_isClosed_9 : decode cX7_isClosed 9 = .ok (.iload_n 3, 1) := dk_29 (dk_at dksX7_isClosed_0 9 rfl rfl)
theorem dX7_isClosed_10 : decode cX7_isClosed 10 = .ok (.bipush 100, 2) := dk_16 100 (dk_at dksX7_isClosed_0 10 rfl rfl)
theorem dX7_isClosed_12 : decode cX7_isClosed 12 = .ok (.if_icmp .ge 50, 3) := dk_162 0 50 (dk_at dksX7_isClosed_0 12 rfl rfl)
theorem dX7_isClosed_15 : decode cX7_isClosed 15 = .ok (.iload_n 2, 1) := dk_28 (dk_at dksX7_isClosed_0 15 rfl rfl)
theorem dX7_isClosed_16 : decode cX7_isClosed 16 = .ok (.ifCond .eq 38, 3) := dk_153 0 38 (dk_at dksX7_isClosed_0 16 rfl rfl)
theorem dX7_isClosed_19 : decode cX7_isClosed 19 = .ok (.aload_n 0, 1) := dk_42 (dk_at dksX7_isClosed_0 19 rfl rfl)
theorem dX7_isClosed_20 : decode cX7_isClosed 20 = .ok (.iload_n 3, 1) := dk_29 (dk_at dksX7_isClosed_0 20 rfl rfl)
theorem dX7_isClosed_21 : decode cX7_isClosed 21 = .ok (.bipush 10, 2) := dk_16 10 (dk_at dksX7_isClosed_0 21 rfl rfl)
theorem dX7_isClosed_23 : decode cX7_isClosed 23 = .ok (.idiv, 1) := dk_108 (dk_at dksX7_isClosed_0 23 rfl rfl)
theorem dX7_isClosed_24 : decode cX7_isClosed 24 = .ok (.iload_n 3, 1) := dk_29 (dk_at dksX7_isClosed_1 0 rfl rfl)
theorem dX7_isClosed_25 : decode cX7_isClosed 25 = .ok (.bipush 10, 2) := dk_16 10 (dk_at dksX7_isClosed_1 1 rfl rfl)
theorem dX7_isClosed_27 : decode cX7_isClosed 27 = .ok (.irem, 1) := dk_112 (dk_at dksX7_isClosed_1 3 rfl rfl)
theorem dX7_isClosed_28 : decode cX7_isClosed 28 = .ok (.invokevirtual 163, 3) := dk_182 0 163 (dk_at dksX7_isClosed_1 4 rfl rfl)
theorem dX7_isClosed_31 : decode cX7_isClosed 31 = .ok (.ifCond .eq 19, 3) := dk_153 0 19 (dk_at dksX7_isClosed_1 7 rfl rfl)
theorem dX7_isClosed_34 : decode cX7_isClosed 34 = .ok (.aload_n 0, 1) := dk_42 (dk_at dksX7_isClosed_1 10 rfl rfl)
theorem dX7_isClosed_35 : decode cX7_isClosed 35 = .ok (.iload_n 1, 1) := dk_27 (dk_at dksX7_isClosed_1 11 rfl rfl)
theorem dX7_isClosed_36 : decode cX7_isClosed 36 = .ok (.iload_n 3, 1) := dk_29 (dk_at dksX7_isClosed_1 12 rfl rfl)
theorem dX7_isClosed_37 : decode cX7_isClosed 37 = .ok (.bipush 10, 2) := dk_16 10 (dk_at dksX7_isClosed_1 13 rfl rfl)
theorem dX7_isClosed_39 : decode cX7_isClosed 39 = .ok (.idiv, 1) := dk_108 (dk_at dksX7_isClosed_1 15 rfl rfl)
theorem dX7_isClosed_40 : decode cX7_isClosed 40 = .ok (.iload_n 3, 1) := dk_29 (dk_at dksX7_isClosed_1 16 rfl rfl)
theorem dX7_isClosed_41 : decode cX7_isClosed 41 = .ok (.bipush 10, 2) := dk_16 10 (dk_at dksX7_isClosed_1 17 rfl rfl)
theorem dX7_isClosed_43 : decode cX7_isClosed 43 = .ok (.irem, 1) := dk_112 (dk_at dksX7_isClosed_1 19 rfl rfl)
theorem dX7_isClosed_44 : decode cX7_isClosed 44 = .ok (.invokevirtual 234, 3) := dk_182 0 234 (dk_at dksX7_isClosed_1 20 rfl rfl)
theorem dX7_isClosed_47 : decode cX7_isClosed 47 = .ok (.ifCond .eq 7, 3) := dk_153 0 7 (dk_at dksX7_isClosed_2 0 rfl rfl)
theorem dX7_isClosed_50 : decode cX7_isClosed 50 = .ok (.iconst 1, 1) := dk_4 (dk_at dksX7_isClosed_2 3 rfl rfl)
theorem dX7_isClosed_51 : decode cX7_isClosed 51 = .ok (.goto 4, 3) := dk_167 0 4 (dk_at dksX7_isClosed_2 4 rfl rfl)
theorem dX7_isClosed_54 : decode cX7_isClosed 54 = .ok (.iconst 0, 1) := dk_3 (dk_at dksX7_isClosed_2 7 rfl rfl)
theorem dX7_isClosed_55 : decode cX7_isClosed 55 = .ok (.istore_n 2, 1) := dk_61 (dk_at dksX7_isClosed_2 8 rfl rfl)
theorem dX7_isClosed_56 : decode cX7_isClosed 56 = .ok (.iinc 3 1, 3) := dk_132 3 1 (dk_at dksX7_isClosed_2 9 rfl rfl)
theorem dX7_isClosed_59 : decode cX7_isClosed 59 = .ok (.goto (-50), 3) := dk_167 255 206 (dk_at dksX7_isClosed_2 12 rfl rfl)
theorem dX7_isClosed_62 : decode cX7_isClosed 62 = .ok (.iload_n 2, 1) := dk_28 (dk_at dksX7_isClosed_2 15 rfl rfl)
theorem dX7_isClosed_63 : decode cX7_isClosed 63 = .ok (.ireturn, 1) := dk_172 (dk_at dksX7_isClosed_2 16 rfl rfl)
abbrev cX7_isWithin : ByteArray := prog_17_method_33_code
def yX7_isWithin : MethodName := ⟨RX7, "isWithin", "(III)Z"⟩
def dkwX7_isWithin_2 : List UInt8 := [3, 54, 4, 132, 5, 1, 167, 255, 208, 21, 4, 172]
abbrev dktX7_isWithin_2 : List UInt8 := dkwX7_isWithin_2 ++ []
def dkwX7_isWithin_1 : List UInt8 := [21, 5, 182, 0, 125, 28, 163, 0, 18, 42, 27, 21, 5, 182, 0, 129, 29, 163, 0, 7, 4, 167, 0, 4]
abbrev dktX7_isWithin_1 : List UInt8 := dkwX7_isWithin_1 ++ dktX7_isWithin_2
def dkwX7_isWithin_0 : List UInt8 := [3, 54, 4, 3, 54, 5, 21, 5, 42, 180, 0, 11, 27, 46, 162, 0, 43, 21, 4, 154, 0, 25, 42, 27]
abbrev dktX7_isWithin_0 : List UInt8 := dkwX7_isWithin_0 ++ dktX7_isWithin_1
theorem dksX7_isWithin_0 : cX7_isWithin.data.toList.drop 0 = dktX7_isWithin_0 := by decide +kernel
theorem dksX7_isWithin_1 : cX7_isWithin.data.toList.drop 24 = dktX7_isWithin_1 := dk_seg dksX7_isWithin_0 24 rfl rfl
theorem dksX7_isWithin_2 : cX7_isWithin.data.toList.drop 48 = dktX7_isWithin_2 := dk_seg dksX7_isWithin_1 24 rfl rfl
theorem dX7_isWithin_0 : decode cX7_isWithin 0 = .ok (.iconst 0, 1) := dk_3 (dk_at dksX7_isWithin_0 0 rfl rfl)
theorem dX7_isWithin_1 : decode cX7_isWithin 1 = .ok (.istore 4, 2) := dk_54 4 (dk_at dksX7_isWithin_0 1 rfl rfl)
theorem dX7_isWithin_3 : decode cX7_isWithin 3 = .ok (.iconst 0, 1) := dk_3 (dk_at dksX7_isWithin_0 3 rfl rfl)
theorem dX7_isWithin_4 : decode cX7_isWithin 4 = .ok (.istore 5, 2) := dk_54 5 (dk_at dksX7_isWithin_0 4 rfl rfl)
theorem dX7_isWithin_6 : decode cX7_isWithin 6 = .ok (.iload 5, 2) := dk_21 5 (dk_at dksX7_isWithin_0 6 rfl rfl)
theorem dX7_isWithin_8 : decode cX7_isWithin 8 = .ok (.aload_n 0, 1) := dk_42 (dk_at dksX7_isWithin_0 8 rfl rfl)
theorem dX7_isWithin_9 : decode cX7_isWithin 9 = .ok (.getfield 11, 3) := dk_180 0 11 (dk_at dksX7_isWithin_0 9 rfl rfl)
theorem dX7_isWithin_12 : decode cX7_isWithin 12 = .ok (.iload_n 1, 1) := dk_27 (dk_at dksX7_isWithin_0 12 rfl rfl)
theorem dX7_isWithin_13 : decode cX7_isWithin 13 = .ok (.iaload, 1) := dk_46 (dk_at dksX7_isWithin_0 13 rfl rfl)
theorem dX7_isWithin_14 : decode cX7_isWithin 14 = .ok (.if_icmp .ge 43, 3) := dk_162 0 43 (dk_at dksX7_isWithin_0 14 rfl rfl)
theorem dX7_isWithin_17 : decode cX7_isWithin 17 = .ok (.iload 4, 2) := dk_21 4 (dk_at dksX7_isWithin_0 17 rfl rfl)
theorem dX7_isWithin_19 : decode cX7_isWithin 19 = .ok (.ifCond .ne 25, 3) := dk_154 0 25 (dk_at dksX7_isWithin_0 19 rfl rfl)
theorem dX7_isWithin_22 : decode cX7_isWithin 22 = .ok (.aload_n 0, 1) := dk_42 (dk_at dksX7_isWithin_0 22 rfl rfl)
theorem dX7_isWithin_23 : decode cX7_isWithin 23 = .ok (.iload_n 1, 1) := dk_27 (dk_at dksX7_isWithin_0 23 rfl rfl)
theorem dX7_isWithin_24 : decode cX7_isWithin 24 = .ok (.iload 5, 2) := dk_21 5 (dk_at dksX7_isWithin_1 0 rfl rfl)
theorem dX7_isWithin_26 : decode cX7_isWithin 26 = .ok (.invokevirtual 125, 3) := dk_182 0 125 (dk_at dksX7_isWithin_1 2 rfl rfl)
theorem dX7_isWithin_29 : decode cX7_isWithin 29 = .ok (.iload_n 2, 1) := dk_28 (dk_at dksX7_isWithin_1 5 rfl rfl)
theorem dX7_isWithin_30 : decode cX7_isWithin 30 = .ok (.if_icmp .gt 18, 3) := dk_163 0 18 (dk_at dksX7_isWithin_1 6 rfl rfl)
theorem dX7_isWithin_33 : decode cX7_isWithin 33 = .ok (.aload_n 0, 1) := dk_42 (dk_at dksX7_isWithin_1 9 rfl rfl)
theorem dX7_isWithin_34 : decode cX7_isWithin 34 = .ok (.iload_n 1, 1) := dk_27 (dk_at dksX7_isWithin_1 10 rfl rfl)
theorem dX7_isWithin_35 : decode cX7_isWithin 35 = .ok (.iload 5, 2) := dk_21 5 (dk_at dksX7_isWithin_1 11 rfl rfl)
theorem dX7_isWithin_37 : decode cX7_isWithin 37 = .ok (.invokevirtual 129, 3) := dk_182 0 129 (dk_at dksX7_isWithin_1 13 rfl rfl)
theorem dX7_isWithin_40 : decode cX7_isWithin 40 = .ok (.iload_n 3, 1) := dk_29 (dk_at dksX7_isWithin_1 16 rfl rfl)
theorem dX7_isWithin_41 : decode cX7_isWithin 41 = .ok (.if_icmp .gt 7, 3) := dk_163 0 7 (dk_at dksX7_isWithin_1 17 rfl rfl)
theorem dX7_isWithin_44 : decode cX7_isWithin 44 = .ok (.iconst 1, 1) := dk_4 (dk_at dksX7_isWithin_1 20 rfl rfl)
theorem dX7_isWithin_45 : decode cX7_isWithin 45 = .ok (.goto 4, 3) := dk_167 0 4 (dk_at dksX7_isWithin_1 21 rfl rfl)
theorem dX7_isWithin_48 : decode cX7_isWithin 48 = .ok (.iconst 0, 1) := dk_3 (dk_at dksX7_isWithin_2 0 rfl rfl)
theorem dX7_isWithin_49 : decode cX7_isWithin 49 = .ok (.istore 4, 2) := dk_54 4 (dk_at dksX7_isWithin_2 1 rfl rfl)
theorem dX7_isWithin_51 : decode cX7_isWithin 51 = .ok (.iinc 5 1, 3) := dk_132 5 1 (dk_at dksX7_isWithin_2 3 rfl rfl)
theorem dX7_isWithin_54 : decode cX7_isWithin 54 = .ok (.goto (-48), 3) := dk_167 255 208 (dk_at dksX7_isWithin_2 6 rfl rfl)
theorem dX7_isWithin_57 : decode cX7_isWithin 57 = .ok (.iload 4, 2) := dk_21 4 (dk_at dksX7_isWithin_2 9 rfl rfl)
theorem dX7_isWithin_59 : decode cX7_isWithin 59 = .ok (.ireturn, 1) := dk_172 (dk_at dksX7_isWithin_2 11 rfl rfl)
abbrev cX7_tellsJumps : ByteArray := prog_17_method_50_code
def yX7_tellsJumps : MethodName := ⟨RX7, "tellsJumps", "()V"⟩
def dkwX7_tellsJumps_3 : List UInt8 := [184, 1, 20, 136, 182, 1, 24, 132, 1, 1, 167, 255, 183, 177]
abbrev dktX7_tellsJumps_3 : List UInt8 := dkwX7_tellsJumps_3 ++ []
def dkwX7_tellsJumps_2 : List UInt8 := [29, 133, 42, 180, 0, 45, 28, 46, 133, 3, 184, 1, 20, 136, 29, 133, 42, 180, 0, 45, 28, 46, 133, 4]
abbrev dktX7_tellsJumps_2 : List UInt8 := dkwX7_tellsJumps_2 ++ dktX7_tellsJumps_3
def dkwX7_tellsJumps_1 : List UInt8 := [182, 1, 17, 61, 28, 2, 159, 0, 49, 42, 28, 27, 16, 10, 108, 27, 16, 10, 112, 182, 1, 4, 62, 42]
abbrev dktX7_tellsJumps_1 : List UInt8 := dkwX7_tellsJumps_1 ++ dktX7_tellsJumps_2
def dkwX7_tellsJumps_0 : List UInt8 := [42, 3, 181, 1, 1, 3, 60, 27, 16, 100, 162, 0, 73, 42, 27, 16, 10, 108, 27, 16, 10, 112]
abbrev dktX7_tellsJumps_0 : List UInt8 := dkwX7_tellsJumps_0 ++ dktX7_tellsJumps_1
theorem dksX7_tellsJumps_0 : cX7_tellsJumps.data.toList.drop 0 = dktX7_tellsJumps_0 := by decide +kernel
theorem dksX7_tellsJumps_1 : cX7_tellsJumps.data.toList.drop 22 = dktX7_tellsJumps_1 := dk_seg dksX7_tellsJumps_0 22 rfl rfl
theorem dksX7_tellsJumps_2 : cX7_tellsJumps.data.toList.drop 46 = dktX7_tellsJumps_2 := dk_seg dksX7_tellsJumps_1 24 rfl rfl
theorem dksX7_tellsJumps_3 : cX7_tellsJumps.data.toList.drop 70 = dktX7_tellsJumps_3 := dk_seg dksX7_tellsJumps_2 24 rfl rfl
theorem dX7_tellsJumps_0 : decode cX7_tellsJumps 0 = .ok (.aload_n 0, 1) := dk_42 (dk_at dksX7_tellsJumps_0 0 rfl rfl)
theorem dX7_tellsJumps_1 : decode cX7_tellsJumps 1 = .ok (.iconst 0, 1) := dk_3 (dk_at dksX7_tellsJumps_0 1 rfl rfl)
theorem dX7_tellsJumps_2 : decode cX7_tellsJumps 2 = .ok (.putfield 257, 3) := dk_181 1 1 (dk_at dksX7_tellsJumps_0 2 rfl rfl)
theorem dX7_tellsJumps_5 : decode cX7_tellsJumps 5 = .ok (.iconst 0, 1) := dk_3 (dk_at dksX7_tellsJumps_0 5 rfl rfl)
theorem dX7_tellsJumps_6 : decode cX7_tellsJumps 6 = .ok (.istore_n 1, 1) := dk_60 (dk_at dksX7_tellsJumps_0 6 rfl rfl)
theorem dX7_tellsJumps_7 : decode cX7_tellsJumps 7 = .ok (.iload_n 1, 1) := dk_27 (dk_at dksX7_tellsJumps_0 7 rfl rfl)
theorem dX7_tellsJumps_8 : decode cX7_tellsJumps 8 = .ok (.bipush 100, 2) := dk_16 100 (dk_at dksX7_tellsJumps_0 8 rfl rfl)
theorem dX7_tellsJumps_10 : decode cX7_tellsJumps 10 = .ok (.if_icmp .ge 73, 3) := dk_162 0 73 (dk_at dksX7_tellsJumps_0 10 rfl rfl)
theorem dX7_tellsJumps_13 : decode cX7_tellsJumps 13 = .ok (.aload_n 0, 1) := dk_42 (dk_at dksX7_tellsJumps_0 13 rfl rfl)
theorem dX7_tellsJumps_14 : decode cX7_tellsJumps 14 = .ok (.iload_n 1, 1) := dk_27 (dk_at dksX7_tellsJumps_0 14 rfl rfl)
theorem dX7_tellsJumps_15 : decode cX7_tellsJumps 15 = .ok (.bipush 10, 2) := dk_16 10 (dk_at dksX7_tellsJumps_0 15 rfl rfl)
theorem dX7_tellsJumps_17 : decode cX7_tellsJumps 17 = .ok (.idiv, 1) := dk_108 (dk_at dksX7_tellsJumps_0 17 rfl rfl)
theorem dX7_tellsJumps_18 : decode cX7_tellsJumps 18 = .ok (.iload_n 1, 1) := dk_27 (dk_at dksX7_tellsJumps_0 18 rfl rfl)
theorem dX7_tellsJumps_19 : decode cX7_tellsJumps 19 = .ok (.bipush 10, 2) := dk_16 10 (dk_at dksX7_tellsJumps_0 19 rfl rfl)
theorem dX7_tellsJumps_21 : decode cX7_tellsJumps 21 = .ok (.irem, 1) := dk_112 (dk_at dksX7_tellsJumps_0 21 rfl rfl)
theorem dX7_tellsJumps_22 : decode cX7_tellsJumps 22 = .ok (.invokevirtual 273, 3) := dk_182 1 17 (dk_at dksX7_tellsJumps_1 0 rfl rfl)
theorem dX7_tellsJumps_25 : decode cX7_tellsJumps 25 = .ok (.istore_n 2, 1) := dk_61 (dk_at dksX7_tellsJumps_1 3 rfl rfl)
theorem dX7_tellsJumps_26 : decode cX7_tellsJumps 26 = .ok (.iload_n 2, 1) := dk_28 (dk_at dksX7_tellsJumps_1 4 rfl rfl)
theorem dX7_tellsJumps_27 : decode cX7_tellsJumps 27 = .ok (.iconst (-1), 1) := dk_2 (dk_at dksX7_tellsJumps_1 5 rfl rfl)
theorem dX7_tellsJumps_28 : decode cX7_tellsJumps 28 = .ok (.if_icmp .eq 49, 3) := dk_159 0 49 (dk_at dksX7_tellsJumps_1 6 rfl rfl)
theorem dX7_tellsJumps_31 : decode cX7_tellsJumps 31 = .ok (.aload_n 0, 1) := dk_42 (dk_at dksX7_tellsJumps_1 9 rfl rfl)
theorem dX7_tellsJumps_32 : decode cX7_tellsJumps 32 = .ok (.iload_n 2, 1) := dk_28 (dk_at dksX7_tellsJumps_1 10 rfl rfl)
theorem dX7_tellsJumps_33 : decode cX7_tellsJumps 33 = .ok (.iload_n 1, 1) := dk_27 (dk_at dksX7_tellsJumps_1 11 rfl rfl)
theorem dX7_tellsJumps_34 : decode cX7_tellsJumps 34 = .ok (.bipush 10, 2) := dk_16 10 (dk_at dksX7_tellsJumps_1 12 rfl rfl)
theorem dX7_tellsJumps_36 : decode cX7_tellsJumps 36 = .ok (.idiv, 1) := dk_108 (dk_at dksX7_tellsJumps_1 14 rfl rfl)
theorem dX7_tellsJumps_37 : decode cX7_tellsJumps 37 = .ok (.iload_n 1, 1) := dk_27 (dk_at dksX7_tellsJumps_1 15 rfl rfl)
theorem dX7_tellsJumps_38 : decode cX7_tellsJumps 38 = .ok (.bipush 10, 2) := dk_16 10 (dk_at dksX7_tellsJumps_1 16 rfl rfl)
theorem dX7_tellsJumps_40 : decode cX7_tellsJumps 40 = .ok (.irem, 1) := dk_112 (dk_at dksX7_tellsJumps_1 18 rfl rfl)
theorem dX7_tellsJumps_41 : decode cX7_tellsJumps 41 = .ok (.invokevirtual 260, 3) := dk_182 1 4 (dk_at dksX7_tellsJumps_1 19 rfl rfl)
theorem dX7_tellsJumps_44 : decode cX7_tellsJumps 44 = .ok (.istore_n 3, 1) := dk_62 (dk_at dksX7_tellsJumps_1 22 rfl rfl)
theorem dX7_tellsJumps_45 : decode cX7_tellsJumps 45 = .ok (.aload_n 0, 1) := dk_42 (dk_at dksX7_tellsJumps_1 23 rfl rfl)
theorem dX7_tellsJumps_46 : decode cX7_tellsJumps 46 = .ok (.iload_n 3, 1) := dk_29 (dk_at dksX7_tellsJumps_2 0 rfl rfl)
theorem dX7_tellsJumps_47 : decode cX7_tellsJumps 47 = .ok (.i2l, 1) := dk_133 (dk_at dksX7_tellsJumps_2 1 rfl rfl)
theorem dX7_tellsJumps_48 : decode cX7_tellsJumps 48 = .ok (.aload_n 0, 1) := dk_42 (dk_at dksX7_tellsJumps_2 2 rfl rfl)
theorem dX7_tellsJumps_49 : decode cX7_tellsJumps 49 = .ok (.getfield 45, 3) := dk_180 0 45 (dk_at dksX7_tellsJumps_2 3 rfl rfl)
theorem dX7_tellsJumps_52 : decode cX7_tellsJumps 52 = .ok (.iload_n 2, 1) := dk_28 (dk_at dksX7_tellsJumps_2 6 rfl rfl)
theorem dX7_tellsJumps_53 : decode cX7_tellsJumps 53 = .ok (.iaload, 1) := dk_46 (dk_at dksX7_tellsJumps_2 7 rfl rfl)
theorem dX7_tellsJumps_54 : decode cX7_tellsJumps 54 = .ok (.i2l, 1) := dk_133 (dk_at dksX7_tellsJumps_2 8 rfl rfl)
theorem dX7_tellsJumps_55 : decode cX7_tellsJumps 55 = .ok (.iconst 0, 1) := dk_3 (dk_at dksX7_tellsJumps_2 9 rfl rfl)
theorem dX7_tellsJumps_56 : decode cX7_tellsJumps 56 = .ok (.invokestatic 276, 3) := dk_184 1 20 (dk_at dksX7_tellsJumps_2 10 rfl rfl)
theorem dX7_tellsJumps_59 : decode cX7_tellsJumps 59 = .ok (.l2i, 1) := dk_136 (dk_at dksX7_tellsJumps_2 13 rfl rfl)
theorem dX7_tellsJumps_60 : decode cX7_tellsJumps 60 = .ok (.iload_n 3, 1) := dk_29 (dk_at dksX7_tellsJumps_2 14 rfl rfl)
theorem dX7_tellsJumps_61 : decode cX7_tellsJumps 61 = .ok (.i2l, 1) := dk_133 (dk_at dksX7_tellsJumps_2 15 rfl rfl)
theorem dX7_tellsJumps_62 : decode cX7_tellsJumps 62 = .ok (.aload_n 0, 1) := dk_42 (dk_at dksX7_tellsJumps_2 16 rfl rfl)
theorem dX7_tellsJumps_63 : decode cX7_tellsJumps 63 = .ok (.getfield 45, 3) := dk_180 0 45 (dk_at dksX7_tellsJumps_2 17 rfl rfl)
theorem dX7_tellsJumps_66 : decode cX7_tellsJumps 66 = .ok (.iload_n 2, 1) := dk_28 (dk_at dksX7_tellsJumps_2 20 rfl rfl)
theorem dX7_tellsJumps_67 : decode cX7_tellsJumps 67 = .ok (.iaload, 1) := dk_46 (dk_at dksX7_tellsJumps_2 21 rfl rfl)
theorem dX7_tellsJumps_68 : decode cX7_tellsJumps 68 = .ok (.i2l, 1) := dk_133 (dk_at dksX7_tellsJumps_2 22 rfl rfl)
theorem dX7_tellsJumps_69 : decode cX7_tellsJumps 69 = .ok (.iconst 1, 1) := dk_4 (dk_at dksX7_tellsJumps_2 23 rfl rfl)
theorem dX7_tellsJumps_70 : decode cX7_tellsJumps 70 = .ok (.invokestatic 276, 3) := dk_184 1 20 (dk_at dksX7_tellsJumps_3 0 rfl rfl)
theorem dX7_tellsJumps_73 : decode cX7_tellsJumps 73 = .ok (.l2i, 1) := dk_136 (dk_at dksX7_tellsJumps_3 3 rfl rfl)
theorem dX7_tellsJumps_74 : decode cX7_tellsJumps 74 = .ok (.invokevirtual 280, 3) := dk_182 1 24 (dk_at dksX7_tellsJumps_3 4 rfl rfl)
theorem dX7_tellsJumps_77 : decode cX7_tellsJumps 77 = .ok (.iinc 1 1, 3) := dk_132 1 1 (dk_at dksX7_tellsJumps_3 7 rfl rfl)
theorem dX7_tellsJumps_80 : decode cX7_tellsJumps 80 = .ok (.goto (-73), 3) := dk_167 255 183 (dk_at dksX7_tellsJumps_3 10 rfl rfl)
theorem dX7_tellsJumps_83 : decode cX7_tellsJumps 83 = .ok (.return_, 1) := dk_177 (dk_at dksX7_tellsJumps_3 13 rfl rfl)
abbrev cX7_jumpFace : ByteArray := prog_17_method_47_code
def yX7_jumpFace : MethodName := ⟨RX7, "jumpFace", "(II)I"⟩
def dkwX7_jumpFace_3 : List UInt8 := [172]
abbrev dktX7_jumpFace_3 : List UInt8 := dkwX7_jumpFace_3 ++ []
def dkwX7_jumpFace_2 : List UInt8 := [182, 1, 4, 42, 180, 0, 45, 21, 4, 46, 104, 162, 0, 6, 21, 4, 62, 132, 4, 1, 167, 255, 193, 29]
abbrev dktX7_jumpFace_2 : List UInt8 := dkwX7_jumpFace_2 ++ dktX7_jumpFace_3
def dkwX7_jumpFace_1 : List UInt8 := [29, 2, 159, 0, 36, 42, 21, 4, 27, 28, 182, 1, 4, 42, 180, 0, 45, 29, 46, 104, 42, 29, 27, 28]
abbrev dktX7_jumpFace_1 : List UInt8 := dkwX7_jumpFace_1 ++ dktX7_jumpFace_2
def dkwX7_jumpFace_0 : List UInt8 := [2, 62, 3, 54, 4, 21, 4, 42, 180, 0, 221, 162, 0, 60, 42, 180, 0, 45, 21, 4, 46, 158, 0, 44]
abbrev dktX7_jumpFace_0 : List UInt8 := dkwX7_jumpFace_0 ++ dktX7_jumpFace_1
theorem dksX7_jumpFace_0 : cX7_jumpFace.data.toList.drop 0 = dktX7_jumpFace_0 := by decide +kernel
theorem dksX7_jumpFace_1 : cX7_jumpFace.data.toList.drop 24 = dktX7_jumpFace_1 := dk_seg dksX7_jumpFace_0 24 rfl rfl
theorem dksX7_jumpFace_2 : cX7_jumpFace.data.toList.drop 48 = dktX7_jumpFace_2 := dk_seg dksX7_jumpFace_1 24 rfl rfl
theorem dksX7_jumpFace_3 : cX7_jumpFace.data.toList.drop 72 = dktX7_jumpFace_3 := dk_seg dksX7_jumpFace_2 24 rfl rfl
theorem dX7_jumpFace_0 : decode cX7_jumpFace 0 = .ok (.iconst (-1), 1) := dk_2 (dk_at dksX7_jumpFace_0 0 rfl rfl)
theorem dX7_jumpFace_1 : decode cX7_jumpFace 1 = .ok (.istore_n 3, 1) := dk_62 (dk_at dksX7_jumpFace_0 1 rfl rfl)
theorem dX7_jumpFace_2 : decode cX7_jumpFace 2 = .ok (.iconst 0, 1) := dk_3 (dk_at dksX7_jumpFace_0 2 rfl rfl)
theorem dX7_jumpFace_3 : decode cX7_jumpFace 3 = .ok (.istore 4, 2) := dk_54 4 (dk_at dksX7_jumpFace_0 3 rfl rfl)
theorem dX7_jumpFace_5 : decode cX7_jumpFace 5 = .ok (.iload 4, 2) := dk_21 4 (dk_at dksX7_jumpFace_0 5 rfl rfl)
theorem dX7_jumpFace_7 : decode cX7_jumpFace 7 = .ok (.aload_n 0, 1) := dk_42 (dk_at dksX7_jumpFace_0 7 rfl rfl)
theorem dX7_jumpFace_8 : decode cX7_jumpFace 8 = .ok (.getfield 221, 3) := dk_180 0 221 (dk_at dksX7_jumpFace_0 8 rfl rfl)
theorem dX7_jumpFace_11 : decode cX7_jumpFace 11 = .ok (.if_icmp .ge 60, 3) := dk_162 0 60 (dk_at dksX7_jumpFace_0 11 rfl rfl)
theorem dX7_jumpFace_14 : decode cX7_jumpFace 14 = .ok (.aload_n 0, 1) := dk_42 (dk_at dksX7_jumpFace_0 14 rfl rfl)
theorem dX7_jumpFace_15 : decode cX7_jumpFace 15 = .ok (.getfield 45, 3) := dk_180 0 45 (dk_at dksX7_jumpFace_0 15 rfl rfl)
theorem dX7_jumpFace_18 : decode cX7_jumpFace 18 = .ok (.iload 4, 2) := dk_21 4 (dk_at dksX7_jumpFace_0 18 rfl rfl)
theorem dX7_jumpFace_20 : decode cX7_jumpFace 20 = .ok (.iaload, 1) := dk_46 (dk_at dksX7_jumpFace_0 20 rfl rfl)
theorem dX7_jumpFace_21 : decode cX7_jumpFace 21 = .ok (.ifCond .le 44, 3) := dk_158 0 44 (dk_at dksX7_jumpFace_0 21 rfl rfl)
theorem dX7_jumpFace_24 : decode cX7_jumpFace 24 = .ok (.iload_n 3, 1) := dk_29 (dk_at dksX7_jumpFace_1 0 rfl rfl)
theorem dX7_jumpFace_25 : decode cX7_jumpFace 25 = .ok (.iconst (-1), 1) := dk_2 (dk_at dksX7_jumpFace_1 1 rfl rfl)
theorem dX7_jumpFace_26 : decode cX7_jumpFace 26 = .ok (.if_icmp .eq 36, 3) := dk_159 0 36 (dk_at dksX7_jumpFace_1 2 rfl rfl)
theorem dX7_jumpFace_29 : decode cX7_jumpFace 29 = .ok (.aload_n 0, 1) := dk_42 (dk_at dksX7_jumpFace_1 5 rfl rfl)
theorem dX7_jumpFace_30 : decode cX7_jumpFace 30 = .ok (.iload 4, 2) := dk_21 4 (dk_at dksX7_jumpFace_1 6 rfl rfl)
theorem dX7_jumpFace_32 : decode cX7_jumpFace 32 = .ok (.iload_n 1, 1) := dk_27 (dk_at dksX7_jumpFace_1 8 rfl rfl)
theorem dX7_jumpFace_33 : decode cX7_jumpFace 33 = .ok (.iload_n 2, 1) := dk_28 (dk_at dksX7_jumpFace_1 9 rfl rfl)
theorem dX7_jumpFace_34 : decode cX7_jumpFace 34 = .ok (.invokevirtual 260, 3) := dk_182 1 4 (dk_at dksX7_jumpFace_1 10 rfl rfl)
theorem dX7_jumpFace_37 : decode cX7_jumpFace 37 = .ok (.aload_n 0, 1) := dk_42 (dk_at dksX7_jumpFace_1 13 rfl rfl)
theorem dX7_jumpFace_38 : decode cX7_jumpFace 38 = .ok (.getfield 45, 3) := dk_180 0 45 (dk_at dksX7_jumpFace_1 14 rfl rfl)
theorem dX7_jumpFace_41 : decode cX7_jumpFace 41 = .ok (.iload_n 3, 1) := dk_29 (dk_at dksX7_jumpFace_1 17 rfl rfl)
theorem dX7_jumpFace_42 : decode cX7_jumpFace 42 = .ok (.iaload, 1) := dk_46 (dk_at dksX7_jumpFace_1 18 rfl rfl)
theorem dX7_jumpFace_43 : decode cX7_jumpFace 43 = .ok (.imul, 1) := dk_104 (dk_at dksX7_jumpFace_1 19 rfl rfl)
theorem dX7_jumpFace_44 : decode cX7_jumpFace 44 = .ok (.aload_n 0, 1) := dk_42 (dk_at dksX7_jumpFace_1 20 rfl rfl)
theorem dX7_jumpFace_45 : decode cX7_jumpFace 45 = .ok (.iload_n 3, 1) := dk_29 (dk_at dksX7_jumpFace_1 21 rfl rfl)
theorem dX7_jumpFace_46 : decode cX7_jumpFace 46 = .ok (.iload_n 1, 1) := dk_27 (dk_at dksX7_jumpFace_1 22 rfl rfl)
theorem dX7_jumpFace_47 : decode cX7_jumpFace 47 = .ok (.iload_n 2, 1) := dk_28 (dk_at dksX7_jumpFace_1 23 rfl rfl)
theorem dX7_jumpFace_48 : decode cX7_jumpFace 48 = .ok (.invokevirtual 260, 3) := dk_182 1 4 (dk_at dksX7_jumpFace_2 0 rfl rfl)
theorem dX7_jumpFace_51 : decode cX7_jumpFace 51 = .ok (.aload_n 0, 1) := dk_42 (dk_at dksX7_jumpFace_2 3 rfl rfl)
theorem dX7_jumpFace_52 : decode cX7_jumpFace 52 = .ok (.getfield 45, 3) := dk_180 0 45 (dk_at dksX7_jumpFace_2 4 rfl rfl)
theorem dX7_jumpFace_55 : decode cX7_jumpFace 55 = .ok (.iload 4, 2) := dk_21 4 (dk_at dksX7_jumpFace_2 7 rfl rfl)
theorem dX7_jumpFace_57 : decode cX7_jumpFace 57 = .ok (.iaload, 1) := dk_46 (dk_at dksX7_jumpFace_2 9 rfl rfl)
theorem dX7_jumpFace_58 : decode cX7_jumpFace 58 = .ok (.imul, 1) := dk_104 (dk_at dksX7_jumpFace_2 10 rfl rfl)
theorem dX7_jumpFace_59 : decode cX7_jumpFace 59 = .ok (.if_icmp .ge 6, 3) := dk_162 0 6 (dk_at dksX7_jumpFace_2 11 rfl rfl)
theorem dX7_jumpFace_62 : decode cX7_jumpFace 62 = .ok (.iload 4, 2) := dk_21 4 (dk_at dksX7_jumpFace_2 14 rfl rfl)
theorem dX7_jumpFace_64 : decode cX7_jumpFace 64 = .ok (.istore_n 3, 1) := dk_62 (dk_at dksX7_jumpFace_2 16 rfl rfl)
theorem dX7_jumpFace_65 : decode cX7_jumpFace 65 = .ok (.iinc 4 1, 3) := dk_132 4 1 (dk_at dksX7_jumpFace_2 17 rfl rfl)
theorem dX7_jumpFace_68 : decode cX7_jumpFace 68 = .ok (.goto (-63), 3) := dk_167 255 193 (dk_at dksX7_jumpFace_2 20 rfl rfl)
theorem dX7_jumpFace_71 : decode cX7_jumpFace 71 = .ok (.iload_n 3, 1) := dk_29 (dk_at dksX7_jumpFace_2 23 rfl rfl)
theorem dX7_jumpFace_72 : decode cX7_jumpFace 72 = .ok (.ireturn, 1) := dk_172 (dk_at dksX7_jumpFace_3 0 rfl rfl)
abbrev cX7_heavy : ByteArray := prog_17_method_42_code
def yX7_heavy : MethodName := ⟨RX7, "heavy", "(III)I"⟩
def dkwX7_heavy_0 : List UInt8 := [42, 180, 0, 39, 27, 46, 28, 4, 96, 104, 42, 180, 0, 42, 27, 46, 29, 4, 96, 104, 96, 172]
abbrev dktX7_heavy_0 : List UInt8 := dkwX7_heavy_0 ++ []
theorem dksX7_heavy_0 : cX7_heavy.data.toList.drop 0 = dktX7_heavy_0 := by decide +kernel
theorem dX7_heavy_0 : decode cX7_heavy 0 = .ok (.aload_n 0, 1) := dk_42 (dk_at dksX7_heavy_0 0 rfl rfl)
theorem dX7_heavy_1 : decode cX7_heavy 1 = .ok (.getfield 39, 3) := dk_180 0 39 (dk_at dksX7_heavy_0 1 rfl rfl)
theorem dX7_heavy_4 : decode cX7_heavy 4 = .ok (.iload_n 1, 1) := dk_27 (dk_at dksX7_heavy_0 4 rfl rfl)
theorem dX7_heavy_5 : decode cX7_heavy 5 = .ok (.iaload, 1) := dk_46 (dk_at dksX7_heavy_0 5 rfl rfl)
theorem dX7_heavy_6 : decode cX7_heavy 6 = .ok (.iload_n 2, 1) := dk_28 (dk_at dksX7_heavy_0 6 rfl rfl)
theorem dX7_heavy_7 : decode cX7_heavy 7 = .ok (.iconst 1, 1) := dk_4 (dk_at dksX7_heavy_0 7 rfl rfl)
theorem dX7_heavy_8 : decode cX7_heavy 8 = .ok (.iadd, 1) := dk_96 (dk_at dksX7_heavy_0 8 rfl rfl)
theorem dX7_heavy_9 : decode cX7_heavy 9 = .ok (.imul, 1) := dk_104 (dk_at dksX7_heavy_0 9 rfl rfl)
theorem dX7_heavy_10 : decode cX7_heavy 10 = .ok (.aload_n 0, 1) := dk_42 (dk_at dksX7_heavy_0 10 rfl rfl)
theorem dX7_heavy_11 : decode cX7_heavy 11 = .ok (.getfield 42, 3) := dk_180 0 42 (dk_at dksX7_heavy_0 11 rfl rfl)
theorem dX7_heavy_14 : decode cX7_heavy 14 = .ok (.iload_n 1, 1) := dk_27 (dk_at dksX7_heavy_0 14 rfl rfl)
theorem dX7_heavy_15 : decode cX7_heavy 15 = .ok (.iaload, 1) := dk_46 (dk_at dksX7_heavy_0 15 rfl rfl)
theorem dX7_heavy_16 : decode cX7_heavy 16 = .ok (.iload_n 3, 1) := dk_29 (dk_at dksX7_heavy_0 16 rfl rfl)
theorem dX7_heavy_17 : decode cX7_heavy 17 = .ok (.iconst 1, 1) := dk_4 (dk_at dksX7_heavy_0 17 rfl rfl)
theorem dX7_heavy_18 : decode cX7_heavy 18 = .ok (.iadd, 1) := dk_96 (dk_at dksX7_heavy_0 18 rfl rfl)
theorem dX7_heavy_19 : decode cX7_heavy 19 = .ok (.imul, 1) := dk_104 (dk_at dksX7_heavy_0 19 rfl rfl)
theorem dX7_heavy_20 : decode cX7_heavy 20 = .ok (.iadd, 1) := dk_96 (dk_at dksX7_heavy_0 20 rfl rfl)
theorem dX7_heavy_21 : decode cX7_heavy 21 = .ok (.ireturn, 1) := dk_172 (dk_at dksX7_heavy_0 21 rfl rfl)
abbrev cX7_part : ByteArray := prog_17_method_6_code
def yX7_part : MethodName := ⟨RX7, "part", "(JJI)J"⟩
def dkwX7_part_0 : List UInt8 := [30, 32, 184, 0, 121, 55, 5, 21, 4, 154, 0, 10, 30, 22, 5, 109, 167, 0, 7, 32, 22, 5, 109, 173]
abbrev dktX7_part_0 : List UInt8 := dkwX7_part_0 ++ []
theorem dksX7_part_0 : cX7_part.data.toList.drop 0 = dktX7_part_0 := by decide +kernel
theorem dX7_part_0 : decode cX7_part 0 = .ok (.lload_n 0, 1) := dk_30 (dk_at dksX7_part_0 0 rfl rfl)
theorem dX7_part_1 : decode cX7_part 1 = .ok (.lload_n 2, 1) := dk_32 (dk_at dksX7_part_0 1 rfl rfl)
theorem dX7_part_2 : decode cX7_part 2 = .ok (.invokestatic 121, 3) := dk_184 0 121 (dk_at dksX7_part_0 2 rfl rfl)
theorem dX7_part_5 : decode cX7_part 5 = .ok (.lstore 5, 2) := dk_55 5 (dk_at dksX7_part_0 5 rfl rfl)
theorem dX7_part_7 : decode cX7_part 7 = .ok (.iload 4, 2) := dk_21 4 (dk_at dksX7_part_0 7 rfl rfl)
theorem dX7_part_9 : decode cX7_part 9 = .ok (.ifCond .ne 10, 3) := dk_154 0 10 (dk_at dksX7_part_0 9 rfl rfl)
theorem dX7_part_12 : decode cX7_part 12 = .ok (.lload_n 0, 1) := dk_30 (dk_at dksX7_part_0 12 rfl rfl)
theorem dX7_part_13 : decode cX7_part 13 = .ok (.lload 5, 2) := dk_22 5 (dk_at dksX7_part_0 13 rfl rfl)
theorem dX7_part_15 : decode cX7_part 15 = .ok (.ldiv, 1) := dk_109 (dk_at dksX7_part_0 15 rfl rfl)
theorem dX7_part_16 : decode cX7_part 16 = .ok (.goto 7, 3) := dk_167 0 7 (dk_at dksX7_part_0 16 rfl rfl)
theorem dX7_part_19 : decode cX7_part 19 = .ok (.lload_n 2, 1) := dk_32 (dk_at dksX7_part_0 19 rfl rfl)
theorem dX7_part_20 : decode cX7_part 20 = .ok (.lload 5, 2) := dk_22 5 (dk_at dksX7_part_0 20 rfl rfl)
theorem dX7_part_22 : decode cX7_part 22 = .ok (.ldiv, 1) := dk_109 (dk_at dksX7_part_0 22 rfl rfl)
theorem dX7_part_23 : decode cX7_part 23 = .ok (.lreturn, 1) := dk_173 (dk_at dksX7_part_0 23 rfl rfl)
abbrev cX7_comesJump : ByteArray := prog_17_method_49_code
def yX7_comesJump : MethodName := ⟨RX7, "comesJump", "(II)V"⟩
def dkwX7_comesJump_5 : List UInt8 := [79, 42, 180, 0, 51, 29, 28, 79, 42, 89, 180, 1, 1, 4, 96, 181, 1, 1, 177]
abbrev dktX7_comesJump_5 : List UInt8 := dkwX7_comesJump_5 ++ []
def dkwX7_comesJump_4 : List UInt8 := [21, 4, 42, 180, 0, 51, 21, 4, 4, 100, 46, 79, 132, 4, 255, 167, 255, 215, 42, 180, 0, 48, 29, 27]
abbrev dktX7_comesJump_4 : List UInt8 := dkwX7_comesJump_4 ++ dktX7_comesJump_5
def dkwX7_comesJump_3 : List UInt8 := [29, 164, 0, 41, 42, 180, 0, 48, 21, 4, 42, 180, 0, 48, 21, 4, 4, 100, 46, 79, 42, 180, 0, 51]
abbrev dktX7_comesJump_3 : List UInt8 := dkwX7_comesJump_3 ++ dktX7_comesJump_4
def dkwX7_comesJump_2 : List UInt8 := [46, 27, 160, 0, 14, 42, 180, 0, 51, 29, 46, 28, 160, 0, 4, 177, 42, 180, 1, 1, 54, 4, 21, 4]
abbrev dktX7_comesJump_2 : List UInt8 := dkwX7_comesJump_2 ++ dktX7_comesJump_3
def dkwX7_comesJump_1 : List UInt8 := [46, 104, 162, 0, 9, 132, 3, 1, 167, 255, 226, 29, 42, 180, 1, 1, 162, 0, 24, 42, 180, 0, 48, 29]
abbrev dktX7_comesJump_1 : List UInt8 := dkwX7_comesJump_1 ++ dktX7_comesJump_2
def dkwX7_comesJump_0 : List UInt8 := [3, 62, 29, 42, 180, 1, 1, 162, 0, 28, 42, 180, 0, 48, 29, 46, 28, 104, 27, 42, 180, 0, 51, 29]
abbrev dktX7_comesJump_0 : List UInt8 := dkwX7_comesJump_0 ++ dktX7_comesJump_1
theorem dksX7_comesJump_0 : cX7_comesJump.data.toList.drop 0 = dktX7_comesJump_0 := by decide +kernel
theorem dksX7_comesJump_1 : cX7_comesJump.data.toList.drop 24 = dktX7_comesJump_1 := dk_seg dksX7_comesJump_0 24 rfl rfl
theorem dksX7_comesJump_2 : cX7_comesJump.data.toList.drop 48 = dktX7_comesJump_2 := dk_seg dksX7_comesJump_1 24 rfl rfl
theorem dksX7_comesJump_3 : cX7_comesJump.data.toList.drop 72 = dktX7_comesJump_3 := dk_seg dksX7_comesJump_2 24 rfl rfl
theorem dksX7_comesJump_4 : cX7_comesJump.data.toList.drop 96 = dktX7_comesJump_4 := dk_seg dksX7_comesJump_3 24 rfl rfl
theorem dksX7_comesJump_5 : cX7_comesJump.data.toList.drop 120 = dktX7_comesJump_5 := dk_seg dksX7_comesJump_4 24 rfl rfl
theorem dX7_comesJump_0 : decode cX7_comesJump 0 = .ok (.iconst 0, 1) := dk_3 (dk_at dksX7_comesJump_0 0 rfl rfl)
theorem dX7_comesJump_1 : decode cX7_comesJump 1 = .ok (.istore_n 3, 1) := dk_62 (dk_at dksX7_comesJump_0 1 rfl rfl)
theorem dX7_comesJump_2 : decode cX7_comesJump 2 = .ok (.iload_n 3, 1) := dk_29 (dk_at dksX7_comesJump_0 2 rfl rfl)
theorem dX7_comesJump_3 : decode cX7_comesJump 3 = .ok (.aload_n 0, 1) := dk_42 (dk_at dksX7_comesJump_0 3 rfl rfl)
theorem dX7_comesJump_4 : decode cX7_comesJump 4 = .ok (.getfield 257, 3) := dk_180 1 1 (dk_at dksX7_comesJump_0 4 rfl rfl)
theorem dX7_comesJump_7 : decode cX7_comesJump 7 = .ok (.if_icmp .ge 28, 3) := dk_162 0 28 (dk_at dksX7_comesJump_0 7 rfl rfl)
theorem dX7_comesJump_10 : decode cX7_comesJump 10 = .ok (.aload_n 0, 1) := dk_42 (dk_at dksX7_comesJump_0 10 rfl rfl)
theorem dX7_comesJump_11 : decode cX7_comesJump 11 = .ok (.getfield 48, 3) := dk_180 0 48 (dk_at dksX7_comesJump_0 11 rfl rfl)
theorem dX7_comesJump_14 : decode cX7_comesJump 14 = .ok (.iload_n 3, 1) := dk_29 (dk_at dksX7_comesJump_0 14 rfl rfl)
theorem dX7_comesJump_15 : decode cX7_comesJump 15 = .ok (.iaload, 1) := dk_46 (dk_at dksX7_comesJump_0 15 rfl rfl)
theorem dX7_comesJump_16 : decode cX7_comesJump 16 = .ok (.iload_n 2, 1) := dk_28 (dk_at dksX7_comesJump_0 16 rfl rfl)
theorem dX7_comesJump_17 : decode cX7_comesJump 17 = .ok (.imul, 1) := dk_104 (dk_at dksX7_comesJump_0 17 rfl rfl)
theorem dX7_comesJump_18 : decode cX7_comesJump 18 = .ok (.iload_n 1, 1) := dk_27 (dk_at dksX7_comesJump_0 18 rfl rfl)
theorem dX7_comesJump_19 : decode cX7_comesJump 19 = .ok (.aload_n 0, 1) := dk_42 (dk_at dksX7_comesJump_0 19 rfl rfl)
theorem dX7_comesJump_20 : decode cX7_comesJump 20 = .ok (.getfield 51, 3) := dk_180 0 51 (dk_at dksX7_comesJump_0 20 rfl rfl)
theorem dX7_comesJump_23 : decode cX7_comesJump 23 = .ok (.iload_n 3, 1) := dk_29 (dk_at dksX7_comesJump_0 23 rfl rfl)
theorem dX7_comesJump_24 : decode cX7_comesJump 24 = .ok (.iaload, 1) := dk_46 (dk_at dksX7_comesJump_1 0 rfl rfl)
theorem dX7_comesJump_25 : decode cX7_comesJump 25 = .ok (.imul, 1) := dk_104 (dk_at dksX7_comesJump_1 1 rfl rfl)
theorem dX7_comesJump_26 : decode cX7_comesJump 26 = .ok (.if_icmp .ge 9, 3) := dk_162 0 9 (dk_at dksX7_comesJump_1 2 rfl rfl)
theorem dX7_comesJump_29 : decode cX7_comesJump 29 = .ok (.iinc 3 1, 3) := dk_132 3 1 (dk_at dksX7_comesJump_1 5 rfl rfl)
theorem dX7_comesJump_32 : decode cX7_comesJump 32 = .ok (.goto (-30), 3) := dk_167 255 226 (dk_at dksX7_comesJump_1 8 rfl rfl)
theorem dX7_comesJump_35 : decode cX7_comesJump 35 = .ok (.iload_n 3, 1) := dk_29 (dk_at dksX7_comesJump_1 11 rfl rfl)
theorem dX7_comesJump_36 : decode cX7_comesJump 36 = .ok (.aload_n 0, 1) := dk_42 (dk_at dksX7_comesJump_1 12 rfl rfl)
theorem dX7_comesJump_37 : decode cX7_comesJump 37 = .ok (.getfield 257, 3) := dk_180 1 1 (dk_at dksX7_comesJump_1 13 rfl rfl)
theorem dX7_comesJump_40 : decode cX7_comesJump 40 = .ok (.if_icmp .ge 24, 3) := dk_162 0 24 (dk_at dksX7_comesJump_1 16 rfl rfl)
theorem dX7_comesJump_43 : decode cX7_comesJump 43 = .ok (.aload_n 0, 1) := dk_42 (dk_at dksX7_comesJump_1 19 rfl rfl)
theorem dX7_comesJump_44 : decode cX7_comesJump 44 = .ok (.getfield 48, 3) := dk_180 0 48 (dk_at dksX7_comesJump_1 20 rfl rfl)
theorem dX7_comesJump_47 : decode cX7_comesJump 47 = .ok (.iload_n 3, 1) := dk_29 (dk_at dksX7_comesJump_1 23 rfl rfl)
theorem dX7_comesJump_48 : decode cX7_comesJump 48 = .ok (.iaload, 1) := dk_46 (dk_at dksX7_comesJump_2 0 rfl rfl)
theorem dX7_comesJump_49 : decode cX7_comesJump 49 = .ok (.iload_n 1, 1) := dk_27 (dk_at dksX7_comesJump_2 1 rfl rfl)
theorem dX7_comesJump_50 : decode cX7_comesJump 50 = .ok (.if_icmp .ne 14, 3) := dk_160 0 14 (dk_at dksX7_comesJump_2 2 rfl rfl)
theorem dX7_comesJump_53 : decode cX7_comesJump 53 = .ok (.aload_n 0, 1) := dk_42 (dk_at dksX7_comesJump_2 5 rfl rfl)
theorem dX7_comesJump_54 : decode cX7_comesJump 54 = .ok (.getfield 51, 3) := dk_180 0 51 (dk_at dksX7_comesJump_2 6 rfl rfl)
theorem dX7_comesJump_57 : decode cX7_comesJump 57 = .ok (.iload_n 3, 1) := dk_29 (dk_at dksX7_comesJump_2 9 rfl rfl)
theorem dX7_comesJump_58 : decode cX7_comesJump 58 = .ok (.iaload, 1) := dk_46 (dk_at dksX7_comesJump_2 10 rfl rfl)
theorem dX7_comesJump_59 : decode cX7_comesJump 59 = .ok (.iload_n 2, 1) := dk_28 (dk_at dksX7_comesJump_2 11 rfl rfl)
theorem dX7_comesJump_60 : decode cX7_comesJump 60 = .ok (.if_icmp .ne 4, 3) := dk_160 0 4 (dk_at dksX7_comesJump_2 12 rfl rfl)
theorem dX7_comesJump_63 : decode cX7_comesJump 63 = .ok (.return_, 1) := dk_177 (dk_at dksX7_comesJump_2 15 rfl rfl)
theorem dX7_comesJump_64 : decode cX7_comesJump 64 = .ok (.aload_n 0, 1) := dk_42 (dk_at dksX7_comesJump_2 16 rfl rfl)
theorem dX7_comesJump_65 : decode cX7_comesJump 65 = .ok (.getfield 257, 3) := dk_180 1 1 (dk_at dksX7_comesJump_2 17 rfl rfl)
theorem dX7_comesJump_68 : decode cX7_comesJump 68 = .ok (.istore 4, 2) := dk_54 4 (dk_at dksX7_comesJump_2 20 rfl rfl)
theorem dX7_comesJump_70 : decode cX7_comesJump 70 = .ok (.iload 4, 2) := dk_21 4 (dk_at dksX7_comesJump_2 22 rfl rfl)
theorem dX7_comesJump_72 : decode cX7_comesJump 72 = .ok (.iload_n 3, 1) := dk_29 (dk_at dksX7_comesJump_3 0 rfl rfl)
theorem dX7_comesJump_73 : decode cX7_comesJump 73 = .ok (.if_icmp .le 41, 3) := dk_164 0 41 (dk_at dksX7_comesJump_3 1 rfl rfl)
theorem dX7_comesJump_76 : decode cX7_comesJump 76 = .ok (.aload_n 0, 1) := dk_42 (dk_at dksX7_comesJump_3 4 rfl rfl)
theorem dX7_comesJump_77 : decode cX7_comesJump 77 = .ok (.getfield 48, 3) := dk_180 0 48 (dk_at dksX7_comesJump_3 5 rfl rfl)
theorem dX7_comesJump_80 : decode cX7_comesJump 80 = .ok (.iload 4, 2) := dk_21 4 (dk_at dksX7_comesJump_3 8 rfl rfl)
theorem dX7_comesJump_82 : decode cX7_comesJump 82 = .ok (.aload_n 0, 1) := dk_42 (dk_at dksX7_comesJump_3 10 rfl rfl)
theorem dX7_comesJump_83 : decode cX7_comesJump 83 = .ok (.getfield 48, 3) := dk_180 0 48 (dk_at dksX7_comesJump_3 11 rfl rfl)
theorem dX7_comesJump_86 : decode cX7_comesJump 86 = .ok (.iload 4, 2) := dk_21 4 (dk_at dksX7_comesJump_3 14 rfl rfl)
theorem dX7_comesJump_88 : decode cX7_comesJump 88 = .ok (.iconst 1, 1) := dk_4 (dk_at dksX7_comesJump_3 16 rfl rfl)
theorem dX7_comesJump_89 : decode cX7_comesJump 89 = .ok (.isub, 1) := dk_100 (dk_at dksX7_comesJump_3 17 rfl rfl)
theorem dX7_comesJump_90 : decode cX7_comesJump 90 = .ok (.iaload, 1) := dk_46 (dk_at dksX7_comesJump_3 18 rfl rfl)
theorem dX7_comesJump_91 : decode cX7_comesJump 91 = .ok (.iastore, 1) := dk_79 (dk_at dksX7_comesJump_3 19 rfl rfl)
theorem dX7_comesJump_92 : decode cX7_comesJump 92 = .ok (.aload_n 0, 1) := dk_42 (dk_at dksX7_comesJump_3 20 rfl rfl)
theorem dX7_comesJump_93 : decode cX7_comesJump 93 = .ok (.getfield 51, 3) := dk_180 0 51 (dk_at dksX7_comesJump_3 21 rfl rfl)
theorem dX7_comesJump_96 : decode cX7_comesJump 96 = .ok (.iload 4, 2) := dk_21 4 (dk_at dksX7_comesJump_4 0 rfl rfl)
theorem dX7_comesJump_98 : decode cX7_comesJump 98 = .ok (.aload_n 0, 1) := dk_42 (dk_at dksX7_comesJump_4 2 rfl rfl)
theorem dX7_comesJump_99 : decode cX7_comesJump 99 = .ok (.getfield 51, 3) := dk_180 0 51 (dk_at dksX7_comesJump_4 3 rfl rfl)
theorem dX7_comesJump_102 : decode cX7_comesJump 102 = .ok (.iload 4, 2) := dk_21 4 (dk_at dksX7_comesJump_4 6 rfl rfl)
theorem dX7_comesJump_104 : decode cX7_comesJump 104 = .ok (.iconst 1, 1) := dk_4 (dk_at dksX7_comesJump_4 8 rfl rfl)
theorem dX7_comesJump_105 : decode cX7_comesJump 105 = .ok (.isub, 1) := dk_100 (dk_at dksX7_comesJump_4 9 rfl rfl)
theorem dX7_comesJump_106 : decode cX7_comesJump 106 = .ok (.iaload, 1) := dk_46 (dk_at dksX7_comesJump_4 10 rfl rfl)
theorem dX7_comesJump_107 : decode cX7_comesJump 107 = .ok (.iastore, 1) := dk_79 (dk_at dksX7_comesJump_4 11 rfl rfl)
theorem dX7_comesJump_108 : decode cX7_comesJump 108 = .ok (.iinc 4 (-1), 3) := dk_132 4 255 (dk_at dksX7_comesJump_4 12 rfl rfl)
theorem dX7_comesJump_111 : decode cX7_comesJump 111 = .ok (.goto (-41), 3) := dk_167 255 215 (dk_at dksX7_comesJump_4 15 rfl rfl)
theorem dX7_comesJump_114 : decode cX7_comesJump 114 = .ok (.aload_n 0, 1) := dk_42 (dk_at dksX7_comesJump_4 18 rfl rfl)
theorem dX7_comesJump_115 : decode cX7_comesJump 115 = .ok (.getfield 48, 3) := dk_180 0 48 (dk_at dksX7_comesJump_4 19 rfl rfl)
theorem dX7_comesJump_118 : decode cX7_comesJump 118 = .ok (.iload_n 3, 1) := dk_29 (dk_at dksX7_comesJump_4 22 rfl rfl)
theorem dX7_comesJump_119 : decode cX7_comesJump 119 = .ok (.iload_n 1, 1) := dk_27 (dk_at dksX7_comesJump_4 23 rfl rfl)
theorem dX7_comesJump_120 : decode cX7_comesJump 120 = .ok (.iastore, 1) := dk_79 (dk_at dksX7_comesJump_5 0 rfl rfl)
theorem dX7_comesJump_121 : decode cX7_comesJump 121 = .ok (.aload_n 0, 1) := dk_42 (dk_at dksX7_comesJump_5 1 rfl rfl)
theorem dX7_comesJump_122 : decode cX7_comesJump 122 = .ok (.getfield 51, 3) := dk_180 0 51 (dk_at dksX7_comesJump_5 2 rfl rfl)
theorem dX7_comesJump_125 : decode cX7_comesJump 125 = .ok (.iload_n 3, 1) := dk_29 (dk_at dksX7_comesJump_5 5 rfl rfl)
theorem dX7_comesJump_126 : decode cX7_comesJump 126 = .ok (.iload_n 2, 1) := dk_28 (dk_at dksX7_comesJump_5 6 rfl rfl)
theorem dX7_comesJump_127 : decode cX7_comesJump 127 = .ok (.iastore, 1) := dk_79 (dk_at dksX7_comesJump_5 7 rfl rfl)
theorem dX7_comesJump_128 : decode cX7_comesJump 128 = .ok (.aload_n 0, 1) := dk_42 (dk_at dksX7_comesJump_5 8 rfl rfl)
theorem dX7_comesJump_129 : decode cX7_comesJump 129 = .ok (.dup, 1) := dk_89 (dk_at dksX7_comesJump_5 9 rfl rfl)
theorem dX7_comesJump_130 : decode cX7_comesJump 130 = .ok (.getfield 257, 3) := dk_180 1 1 (dk_at dksX7_comesJump_5 10 rfl rfl)
theorem dX7_comesJump_133 : decode cX7_comesJump 133 = .ok (.iconst 1, 1) := dk_4 (dk_at dksX7_comesJump_5 13 rfl rfl)
theorem dX7_comesJump_134 : decode cX7_comesJump 134 = .ok (.iadd, 1) := dk_96 (dk_at dksX7_comesJump_5 14 rfl rfl)
theorem dX7_comesJump_135 : decode cX7_comesJump 135 = .ok (.putfield 257, 3) := dk_181 1 1 (dk_at dksX7_comesJump_5 15 rfl rfl)
theorem dX7_comesJump_138 : decode cX7_comesJump 138 = .ok (.return_, 1) := dk_177 (dk_at dksX7_comesJump_5 18 rfl rfl)
abbrev cX7_in : ByteArray := prog_17_method_40_code
def yX7_in : MethodName := ⟨RX7, "in", "(IIII)I"⟩
def dkwX7_in_3 : List UInt8 := [42, 27, 182, 0, 166, 42, 28, 29, 182, 0, 163, 153, 0, 7, 4, 167, 0, 4, 3, 172]
abbrev dktX7_in_3 : List UInt8 := dkwX7_in_3 ++ []
def dkwX7_in_2 : List UInt8 := [182, 0, 234, 153, 0, 7, 4, 167, 0, 4, 3, 172, 42, 180, 0, 11, 27, 46, 154, 0, 6, 16, 253, 172]
abbrev dktX7_in_2 : List UInt8 := dkwX7_in_2 ++ dktX7_in_3
def dkwX7_in_1 : List UInt8 := [153, 0, 10, 29, 184, 0, 140, 154, 0, 6, 16, 254, 172, 21, 4, 154, 0, 19, 42, 27, 28, 29]
abbrev dktX7_in_1 : List UInt8 := dkwX7_in_1 ++ dktX7_in_2
def dkwX7_in_0 : List UInt8 := [27, 184, 0, 136, 153, 0, 14, 21, 4, 133, 9, 10, 184, 0, 115, 154, 0, 5, 2, 172, 28, 184, 0, 140]
abbrev dktX7_in_0 : List UInt8 := dkwX7_in_0 ++ dktX7_in_1
theorem dksX7_in_0 : cX7_in.data.toList.drop 0 = dktX7_in_0 := by decide +kernel
theorem dksX7_in_1 : cX7_in.data.toList.drop 24 = dktX7_in_1 := dk_seg dksX7_in_0 24 rfl rfl
theorem dksX7_in_2 : cX7_in.data.toList.drop 46 = dktX7_in_2 := dk_seg dksX7_in_1 22 rfl rfl
theorem dksX7_in_3 : cX7_in.data.toList.drop 70 = dktX7_in_3 := dk_seg dksX7_in_2 24 rfl rfl
theorem dX7_in_0 : decode cX7_in 0 = .ok (.iload_n 1, 1) := dk_27 (dk_at dksX7_in_0 0 rfl rfl)
theorem dX7_in_1 : decode cX7_in 1 = .ok (.invokestatic 136, 3) := dk_184 0 136 (dk_at dksX7_in_0 1 rfl rfl)
theorem dX7_in_4 : decode cX7_in 4 = .ok (.ifCond .eq 14, 3) := dk_153 0 14 (dk_at dksX7_in_0 4 rfl rfl)
theorem dX7_in_7 : decode cX7_in 7 = .ok (.iload 4, 2) := dk_21 4 (dk_at dksX7_in_0 7 rfl rfl)
theorem dX7_in_9 : decode cX7_in 9 = .ok (.i2l, 1) := dk_133 (dk_at dksX7_in_0 9 rfl rfl)
theorem dX7_in_10 : decode cX7_in 10 = .ok (.lconst 0, 1) := dk_9 (dk_at dksX7_in_0 10 rfl rfl)
theorem dX7_in_11 : decode cX7_in 11 = .ok (.lconst 1, 1) := dk_10 (dk_at dksX7_in_0 11 rfl rfl)
theorem dX7_in_12 : decode cX7_in 12 = .ok (.invokestatic 115, 3) := dk_184 0 115 (dk_at dksX7_in_0 12 rfl rfl)
theorem dX7_in_15 : decode cX7_in 15 = .ok (.ifCond .ne 5, 3) := dk_154 0 5 (dk_at dksX7_in_0 15 rfl rfl)
theorem dX7_in_18 : decode cX7_in 18 = .ok (.iconst (-1), 1) := dk_2 (dk_at dksX7_in_0 18 rfl rfl)
theorem dX7_in_19 : decode cX7_in 19 = .ok (.ireturn, 1) := dk_172 (dk_at dksX7_in_0 19 rfl rfl)
theorem dX7_in_20 : decode cX7_in 20 = .ok (.iload_n 2, 1) := dk_28 (dk_at dksX7_in_0 20 rfl rfl)
theorem dX7_in_21 : decode cX7_in 21 = .ok (.invokestatic 140, 3) := dk_184 0 140 (dk_at dksX7_in_0 21 rfl rfl)
theorem dX7_in_24 : decode cX7_in 24 = .ok (.ifCond .eq 10, 3) := dk_153 0 10 (dk_at dksX7_in_1 0 rfl rfl)
theorem dX7_in_27 : decode cX7_in 27 = .ok (.iload_n 3, 1) := dk_29 (dk_at dksX7_in_1 3 rfl rfl)
theorem dX7_in_28 : decode cX7_in 28 = .ok (.invokestatic 140, 3) := dk_184 0 140 (dk_at dksX7_in_1 4 rfl rfl)
theorem dX7_in_31 : decode cX7_in 31 = .ok (.ifCond .ne 6, 3) := dk_154 0 6 (dk_at dksX7_in_1 7 rfl rfl)
theorem dX7_in_34 : decode cX7_in 34 = .ok (.bipush (-2), 2) := dk_16 254 (dk_at dksX7_in_1 10 rfl rfl)
theorem dX7_in_36 : decode cX7_in 36 = .ok (.ireturn, 1) := dk_172 (dk_at dksX7_in_1 12 rfl rfl)
theorem dX7_in_37 : decode cX7_in 37 = .ok (.iload 4, 2) := dk_21 4 (dk_at dksX7_in_1 13 rfl rfl)
theorem dX7_in_39 : decode cX7_in 39 = .ok (.ifCond .ne 19, 3) := dk_154 0 19 (dk_at dksX7_in_1 15 rfl rfl)
theorem dX7_in_42 : decode cX7_in 42 = .ok (.aload_n 0, 1) := dk_42 (dk_at dksX7_in_1 18 rfl rfl)
theorem dX7_in_43 : decode cX7_in 43 = .ok (.iload_n 1, 1) := dk_27 (dk_at dksX7_in_1 19 rfl rfl)
theorem dX7_in_44 : decode cX7_in 44 = .ok (.iload_n 2, 1) := dk_28 (dk_at dksX7_in_1 20 rfl rfl)
theorem dX7_in_45 : decode cX7_in 45 = .ok (.iload_n 3, 1) := dk_29 (dk_at dksX7_in_1 21 rfl rfl)
theorem dX7_in_46 : decode cX7_in 46 = .ok (.invokevirtual 234, 3) := dk_182 0 234 (dk_at dksX7_in_2 0 rfl rfl)
theorem dX7_in_49 : decode cX7_in 49 = .ok (.ifCond .eq 7, 3) := dk_153 0 7 (dk_at dksX7_in_2 3 rfl rfl)
theorem dX7_in_52 : decode cX7_in 52 = .ok (.iconst 1, 1) := dk_4 (dk_at dksX7_in_2 6 rfl rfl)
theorem dX7_in_53 : decode cX7_in 53 = .ok (.goto 4, 3) := dk_167 0 4 (dk_at dksX7_in_2 7 rfl rfl)
theorem dX7_in_56 : decode cX7_in 56 = .ok (.iconst 0, 1) := dk_3 (dk_at dksX7_in_2 10 rfl rfl)
theorem dX7_in_57 : decode cX7_in 57 = .ok (.ireturn, 1) := dk_172 (dk_at dksX7_in_2 11 rfl rfl)
theorem dX7_in_58 : decode cX7_in 58 = .ok (.aload_n 0, 1) := dk_42 (dk_at dksX7_in_2 12 rfl rfl)
theorem dX7_in_59 : decode cX7_in 59 = .ok (.getfield 11, 3) := dk_180 0 11 (dk_at dksX7_in_2 13 rfl rfl)
theorem dX7_in_62 : decode cX7_in 62 = .ok (.iload_n 1, 1) := dk_27 (dk_at dksX7_in_2 16 rfl rfl)
theorem dX7_in_63 : decode cX7_in 63 = .ok (.iaload, 1) := dk_46 (dk_at dksX7_in_2 17 rfl rfl)
theorem dX7_in_64 : decode cX7_in 64 = .ok (.ifCond .ne 6, 3) := dk_154 0 6 (dk_at dksX7_in_2 18 rfl rfl)
theorem dX7_in_67 : decode cX7_in 67 = .ok (.bipush (-3), 2) := dk_16 253 (dk_at dksX7_in_2 21 rfl rfl)
theorem dX7_in_69 : decode cX7_in 69 = .ok (.ireturn, 1) := dk_172 (dk_at dksX7_in_2 23 rfl rfl)
theorem dX7_in_70 : decode cX7_in 70 = .ok (.aload_n 0, 1) := dk_42 (dk_at dksX7_in_3 0 rfl rfl)
theorem dX7_in_71 : decode cX7_in 71 = .ok (.iload_n 1, 1) := dk_27 (dk_at dksX7_in_3 1 rfl rfl)
theorem dX7_in_72 : decode cX7_in 72 = .ok (.invokevirtual 166, 3) := dk_182 0 166 (dk_at dksX7_in_3 2 rfl rfl)
theorem dX7_in_75 : decode cX7_in 75 = .ok (.aload_n 0, 1) := dk_42 (dk_at dksX7_in_3 5 rfl rfl)
theorem dX7_in_76 : decode cX7_in 76 = .ok (.iload_n 2, 1) := dk_28 (dk_at dksX7_in_3 6 rfl rfl)
theorem dX7_in_77 : decode cX7_in 77 = .ok (.iload_n 3, 1) := dk_29 (dk_at dksX7_in_3 7 rfl rfl)
theorem dX7_in_78 : decode cX7_in 78 = .ok (.invokevirtual 163, 3) := dk_182 0 163 (dk_at dksX7_in_3 8 rfl rfl)
theorem dX7_in_81 : decode cX7_in 81 = .ok (.ifCond .eq 7, 3) := dk_153 0 7 (dk_at dksX7_in_3 11 rfl rfl)
theorem dX7_in_84 : decode cX7_in 84 = .ok (.iconst 1, 1) := dk_4 (dk_at dksX7_in_3 14 rfl rfl)
theorem dX7_in_85 : decode cX7_in 85 = .ok (.goto 4, 3) := dk_167 0 4 (dk_at dksX7_in_3 15 rfl rfl)
theorem dX7_in_88 : decode cX7_in 88 = .ok (.iconst 0, 1) := dk_3 (dk_at dksX7_in_3 18 rfl rfl)
theorem dX7_in_89 : decode cX7_in 89 = .ok (.ireturn, 1) := dk_172 (dk_at dksX7_in_3 19 rfl rfl)
abbrev cX7_face : ByteArray := prog_17_method_41_code
def yX7_face : MethodName := ⟨RX7, "face", "(III)I"⟩
def dkwX7_face_3 : List UInt8 := [29, 4, 160, 0, 12, 42, 180, 0, 42, 28, 46, 167, 0, 9, 42, 180, 0, 45, 28, 46, 172]
abbrev dktX7_face_3 : List UInt8 := dkwX7_face_3 ++ []
def dkwX7_face_2 : List UInt8 := [20, 0, 241, 184, 0, 115, 154, 0, 5, 2, 172, 29, 154, 0, 12, 42, 180, 0, 39, 28, 46, 167, 0, 23]
abbrev dktX7_face_2 : List UInt8 := dkwX7_face_2 ++ dktX7_face_3
def dkwX7_face_1 : List UInt8 := [182, 0, 166, 28, 133, 9, 42, 180, 0, 221, 4, 100, 133, 184, 0, 115, 153, 0, 15, 29, 133, 9]
abbrev dktX7_face_1 : List UInt8 := dkwX7_face_1 ++ dktX7_face_2
def dkwX7_face_0 : List UInt8 := [27, 184, 0, 136, 154, 0, 5, 2, 172, 42, 180, 0, 11, 27, 46, 154, 0, 6, 16, 253, 172, 42, 27]
abbrev dktX7_face_0 : List UInt8 := dkwX7_face_0 ++ dktX7_face_1
theorem dksX7_face_0 : cX7_face.data.toList.drop 0 = dktX7_face_0 := by decide +kernel
theorem dksX7_face_1 : cX7_face.data.toList.drop 23 = dktX7_face_1 := dk_seg dksX7_face_0 23 rfl rfl
theorem dksX7_face_2 : cX7_face.data.toList.drop 45 = dktX7_face_2 := dk_seg dksX7_face_1 22 rfl rfl
theorem dksX7_face_3 : cX7_face.data.toList.drop 69 = dktX7_face_3 := dk_seg dksX7_face_2 24 rfl rfl
theorem dX7_face_0 : decode cX7_face 0 = .ok (.iload_n 1, 1) := dk_27 (dk_at dksX7_face_0 0 rfl rfl)
theorem dX7_face_1 : decode cX7_face 1 = .ok (.invokestatic 136, 3) := dk_184 0 136 (dk_at dksX7_face_0 1 rfl rfl)
theorem dX7_face_4 : decode cX7_face 4 = .ok (.ifCond .ne 5, 3) := dk_154 0 5 (dk_at dksX7_face_0 4 rfl rfl)
theorem dX7_face_7 : decode cX7_face 7 = .ok (.iconst (-1), 1) := dk_2 (dk_at dksX7_face_0 7 rfl rfl)
theorem dX7_face_8 : decode cX7_face 8 = .ok (.ireturn, 1) := dk_172 (dk_at dksX7_face_0 8 rfl rfl)
theorem dX7_face_9 : decode cX7_face 9 = .ok (.aload_n 0, 1) := dk_42 (dk_at dksX7_face_0 9 rfl rfl)
theorem dX7_face_10 : decode cX7_face 10 = .ok (.getfield 11, 3) := dk_180 0 11 (dk_at dksX7_face_0 10 rfl rfl)
theorem dX7_face_13 : decode cX7_face 13 = .ok (.iload_n 1, 1) := dk_27 (dk_at dksX7_face_0 13 rfl rfl)
theorem dX7_face_14 : decode cX7_face 14 = .ok (.iaload, 1) := dk_46 (dk_at dksX7_face_0 14 rfl rfl)
theorem dX7_face_15 : decode cX7_face 15 = .ok (.ifCond .ne 6, 3) := dk_154 0 6 (dk_at dksX7_face_0 15 rfl rfl)
theorem dX7_face_18 : decode cX7_face 18 = .ok (.bipush (-3), 2) := dk_16 253 (dk_at dksX7_face_0 18 rfl rfl)
theorem dX7_face_20 : decode cX7_face 20 = .ok (.ireturn, 1) := dk_172 (dk_at dksX7_face_0 20 rfl rfl)
theorem dX7_face_21 : decode cX7_face 21 = .ok (.aload_n 0, 1) := dk_42 (dk_at dksX7_face_0 21 rfl rfl)
theorem dX7_face_22 : decode cX7_face 22 = .ok (.iload_n 1, 1) := dk_27 (dk_at dksX7_face_0 22 rfl rfl)
theorem dX7_face_23 : decode cX7_face 23 = .ok (.invokevirtual 166, 3) := dk_182 0 166 (dk_at dksX7_face_1 0 rfl rfl)
theorem dX7_face_26 : decode cX7_face 26 = .ok (.iload_n 2, 1) := dk_28 (dk_at dksX7_face_1 3 rfl rfl)
theorem dX7_face_27 : decode cX7_face 27 = .ok (.i2l, 1) := dk_133 (dk_at dksX7_face_1 4 rfl rfl)
theorem dX7_face_28 : decode cX7_face 28 = .ok (.lconst 0, 1) := dk_9 (dk_at dksX7_face_1 5 rfl rfl)
theorem dX7_face_29 : decode cX7_face 29 = .ok (.aload_n 0, 1) := dk_42 (dk_at dksX7_face_1 6 rfl rfl)
theorem dX7_face_30 : decode cX7_face 30 = .ok (.getfield 221, 3) := dk_180 0 221 (dk_at dksX7_face_1 7 rfl rfl)
theorem dX7_face_33 : decode cX7_face 33 = .ok (.iconst 1, 1) := dk_4 (dk_at dksX7_face_1 10 rfl rfl)
theorem dX7_face_34 : decode cX7_face 34 = .ok (.isub, 1) := dk_100 (dk_at dksX7_face_1 11 rfl rfl)
theorem dX7_face_35 : decode cX7_face 35 = .ok (.i2l, 1) := dk_133 (dk_at dksX7_face_1 12 rfl rfl)
theorem dX7_face_36 : decode cX7_face 36 = .ok (.invokestatic 115, 3) := dk_184 0 115 (dk_at dksX7_face_1 13 rfl rfl)
theorem dX7_face_39 : decode cX7_face 39 = .ok (.ifCond .eq 15, 3) := dk_153 0 15 (dk_at dksX7_face_1 16 rfl rfl)
theorem dX7_face_42 : decode cX7_face 42 = .ok (.iload_n 3, 1) := dk_29 (dk_at dksX7_face_1 19 rfl rfl)
theorem dX7_face_43 : decode cX7_face 43 = .ok (.i2l, 1) := dk_133 (dk_at dksX7_face_1 20 rfl rfl)
theorem dX7_face_44 : decode cX7_face 44 = .ok (.lconst 0, 1) := dk_9 (dk_at dksX7_face_1 21 rfl rfl)
theorem dX7_face_45 : decode cX7_face 45 = .ok (.ldc2_w 241, 3) := dk_20 0 241 (dk_at dksX7_face_2 0 rfl rfl)
theorem dX7_face_48 : decode cX7_face 48 = .ok (.invokestatic 115, 3) := dk_184 0 115 (dk_at dksX7_face_2 3 rfl rfl)
theorem dX7_face_51 : decode cX7_face 51 = .ok (.ifCond .ne 5, 3) := dk_154 0 5 (dk_at dksX7_face_2 6 rfl rfl)
theorem dX7_face_54 : decode cX7_face 54 = .ok (.iconst (-1), 1) := dk_2 (dk_at dksX7_face_2 9 rfl rfl)
theorem dX7_face_55 : decode cX7_face 55 = .ok (.ireturn, 1) := dk_172 (dk_at dksX7_face_2 10 rfl rfl)
theorem dX7_face_56 : decode cX7_face 56 = .ok (.iload_n 3, 1) := dk_29 (dk_at dksX7_face_2 11 rfl rfl)
theorem dX7_face_57 : decode cX7_face 57 = .ok (.ifCond .ne 12, 3) := dk_154 0 12 (dk_at dksX7_face_2 12 rfl rfl)
theorem dX7_face_60 : decode cX7_face 60 = .ok (.aload_n 0, 1) := dk_42 (dk_at dksX7_face_2 15 rfl rfl)
theorem dX7_face_61 : decode cX7_face 61 = .ok (.getfield 39, 3) := dk_180 0 39 (dk_at dksX7_face_2 16 rfl rfl)
theorem dX7_face_64 : decode cX7_face 64 = .ok (.iload_n 2, 1) := dk_28 (dk_at dksX7_face_2 19 rfl rfl)
theorem dX7_face_65 : decode cX7_face 65 = .ok (.iaload, 1) := dk_46 (dk_at dksX7_face_2 20 rfl rfl)
theorem dX7_face_66 : decode cX7_face 66 = .ok (.goto 23, 3) := dk_167 0 23 (dk_at dksX7_face_2 21 rfl rfl)
theorem dX7_face_69 : decode cX7_face 69 = .ok (.iload_n 3, 1) := dk_29 (dk_at dksX7_face_3 0 rfl rfl)
theorem dX7_face_70 : decode cX7_face 70 = .ok (.iconst 1, 1) := dk_4 (dk_at dksX7_face_3 1 rfl rfl)
theorem dX7_face_71 : decode cX7_face 71 = .ok (.if_icmp .ne 12, 3) := dk_160 0 12 (dk_at dksX7_face_3 2 rfl rfl)
theorem dX7_face_74 : decode cX7_face 74 = .ok (.aload_n 0, 1) := dk_42 (dk_at dksX7_face_3 5 rfl rfl)
theorem dX7_face_75 : decode cX7_face 75 = .ok (.getfield 42, 3) := dk_180 0 42 (dk_at dksX7_face_3 6 rfl rfl)
theorem dX7_face_78 : decode cX7_face 78 = .ok (.iload_n 2, 1) := dk_28 (dk_at dksX7_face_3 9 rfl rfl)
theorem dX7_face_79 : decode cX7_face 79 = .ok (.iaload, 1) := dk_46 (dk_at dksX7_face_3 10 rfl rfl)
theorem dX7_face_80 : decode cX7_face 80 = .ok (.goto 9, 3) := dk_167 0 9 (dk_at dksX7_face_3 11 rfl rfl)
theorem dX7_face_83 : decode cX7_face 83 = .ok (.aload_n 0, 1) := dk_42 (dk_at dksX7_face_3 14 rfl rfl)
theorem dX7_face_84 : decode cX7_face 84 = .ok (.getfield 45, 3) := dk_180 0 45 (dk_at dksX7_face_3 15 rfl rfl)
theorem dX7_face_87 : decode cX7_face 87 = .ok (.iload_n 2, 1) := dk_28 (dk_at dksX7_face_3 18 rfl rfl)
theorem dX7_face_88 : decode cX7_face 88 = .ok (.iaload, 1) := dk_46 (dk_at dksX7_face_3 19 rfl rfl)
theorem dX7_face_89 : decode cX7_face 89 = .ok (.ireturn, 1) := dk_172 (dk_at dksX7_face_3 20 rfl rfl)
abbrev cX7_held : ByteArray := prog_17_method_45_code
def yX7_held : MethodName := ⟨RX7, "held", "(IIIII)I"⟩
def dkwX7_held_3 : List UInt8 := [3, 172]
abbrev dktX7_held_3 : List UInt8 := dkwX7_held_3 ++ []
def dkwX7_held_2 : List UInt8 := [172, 42, 27, 182, 0, 166, 42, 28, 29, 21, 4, 21, 5, 182, 1, 12, 2, 160, 0, 7, 4, 167, 0, 4]
abbrev dktX7_held_2 : List UInt8 := dkwX7_held_2 ++ dktX7_held_3
def dkwX7_held_1 : List UInt8 := [21, 4, 21, 5, 184, 1, 9, 154, 0, 6, 16, 254, 172, 42, 180, 0, 11, 27, 46, 154, 0, 6, 16, 253]
abbrev dktX7_held_1 : List UInt8 := dkwX7_held_1 ++ dktX7_held_2
def dkwX7_held_0 : List UInt8 := [27, 184, 0, 136, 154, 0, 5, 2, 172, 28, 184, 0, 140, 153, 0, 20, 29, 184, 0, 140, 153, 0, 13]
abbrev dktX7_held_0 : List UInt8 := dkwX7_held_0 ++ dktX7_held_1
theorem dksX7_held_0 : cX7_held.data.toList.drop 0 = dktX7_held_0 := by decide +kernel
theorem dksX7_held_1 : cX7_held.data.toList.drop 23 = dktX7_held_1 := dk_seg dksX7_held_0 23 rfl rfl
theorem dksX7_held_2 : cX7_held.data.toList.drop 47 = dktX7_held_2 := dk_seg dksX7_held_1 24 rfl rfl
theorem dksX7_held_3 : cX7_held.data.toList.drop 71 = dktX7_held_3 := dk_seg dksX7_held_2 24 rfl rfl
theorem dX7_held_0 : decode cX7_held 0 = .ok (.iload_n 1, 1) := dk_27 (dk_at dksX7_held_0 0 rfl rfl)
theorem dX7_held_1 : decode cX7_held 1 = .ok (.invokestatic 136, 3) := dk_184 0 136 (dk_at dksX7_held_0 1 rfl rfl)
theorem dX7_held_4 : decode cX7_held 4 = .ok (.ifCond .ne 5, 3) := dk_154 0 5 (dk_at dksX7_held_0 4 rfl rfl)
theorem dX7_held_7 : decode cX7_held 7 = .ok (.iconst (-1), 1) := dk_2 (dk_at dksX7_held_0 7 rfl rfl)
theorem dX7_held_8 : decode cX7_held 8 = .ok (.ireturn, 1) := dk_172 (dk_at dksX7_held_0 8 rfl rfl)
theorem dX7_held_9 : decode cX7_held 9 = .ok (.iload_n 2, 1) := dk_28 (dk_at dksX7_held_0 9 rfl rfl)
theorem dX7_held_10 : decode cX7_held 10 = .ok (.invokestatic 140, 3) := dk_184 0 140 (dk_at dksX7_held_0 10 rfl rfl)
theorem dX7_held_13 : decode cX7_held 13 = .ok (.ifCond .eq 20, 3) := dk_153 0 20 (dk_at dksX7_held_0 13 rfl rfl)
theorem dX7_held_16 : decode cX7_held 16 = .ok (.iload_n 3, 1) := dk_29 (dk_at dksX7_held_0 16 rfl rfl)
theorem dX7_held_17 : decode cX7_held 17 = .ok (.invokestatic 140, 3) := dk_184 0 140 (dk_at dksX7_held_0 17 rfl rfl)
theorem dX7_held_20 : decode cX7_held 20 = .ok (.ifCond .eq 13, 3) := dk_153 0 13 (dk_at dksX7_held_0 20 rfl rfl)
theorem dX7_held_23 : decode cX7_held 23 = .ok (.iload 4, 2) := dk_21 4 (dk_at dksX7_held_1 0 rfl rfl)
theorem dX7_held_25 : decode cX7_held 25 = .ok (.iload 5, 2) := dk_21 5 (dk_at dksX7_held_1 2 rfl rfl)
theorem dX7_held_27 : decode cX7_held 27 = .ok (.invokestatic 265, 3) := dk_184 1 9 (dk_at dksX7_held_1 4 rfl rfl)
theorem dX7_held_30 : decode cX7_held 30 = .ok (.ifCond .ne 6, 3) := dk_154 0 6 (dk_at dksX7_held_1 7 rfl rfl)
theorem dX7_held_33 : decode cX7_held 33 = .ok (.bipush (-2), 2) := dk_16 254 (dk_at dksX7_held_1 10 rfl rfl)
theorem dX7_held_35 : decode cX7_held 35 = .ok (.ireturn, 1) := dk_172 (dk_at dksX7_held_1 12 rfl rfl)
theorem dX7_held_36 : decode cX7_held 36 = .ok (.aload_n 0, 1) := dk_42 (dk_at dksX7_held_1 13 rfl rfl)
theorem dX7_held_37 : decode cX7_held 37 = .ok (.getfield 11, 3) := dk_180 0 11 (dk_at dksX7_held_1 14 rfl rfl)
theorem dX7_held_40 : decode cX7_held 40 = .ok (.iload_n 1, 1) := dk_27 (dk_at dksX7_held_1 17 rfl rfl)
theorem dX7_held_41 : decode cX7_held 41 = .ok (.iaload, 1) := dk_46 (dk_at dksX7_held_1 18 rfl rfl)
theorem dX7_held_42 : decode cX7_held 42 = .ok (.ifCond .ne 6, 3) := dk_154 0 6 (dk_at dksX7_held_1 19 rfl rfl)
theorem dX7_held_45 : decode cX7_held 45 = .ok (.bipush (-3), 2) := dk_16 253 (dk_at dksX7_held_1 22 rfl rfl)
theorem dX7_held_47 : decode cX7_held 47 = .ok (.ireturn, 1) := dk_172 (dk_at dksX7_held_2 0 rfl rfl)
theorem dX7_held_48 : decode cX7_held 48 = .ok (.aload_n 0, 1) := dk_42 (dk_at dksX7_held_2 1 rfl rfl)
theorem dX7_held_49 : decode cX7_held 49 = .ok (.iload_n 1, 1) := dk_27 (dk_at dksX7_held_2 2 rfl rfl)
theorem dX7_held_50 : decode cX7_held 50 = .ok (.invokevirtual 166, 3) := dk_182 0 166 (dk_at dksX7_held_2 3 rfl rfl)
theorem dX7_held_53 : decode cX7_held 53 = .ok (.aload_n 0, 1) := dk_42 (dk_at dksX7_held_2 6 rfl rfl)
theorem dX7_held_54 : decode cX7_held 54 = .ok (.iload_n 2, 1) := dk_28 (dk_at dksX7_held_2 7 rfl rfl)
theorem dX7_held_55 : decode cX7_held 55 = .ok (.iload_n 3, 1) := dk_29 (dk_at dksX7_held_2 8 rfl rfl)
theorem dX7_held_56 : decode cX7_held 56 = .ok (.iload 4, 2) := dk_21 4 (dk_at dksX7_held_2 9 rfl rfl)
theorem dX7_held_58 : decode cX7_held 58 = .ok (.iload 5, 2) := dk_21 5 (dk_at dksX7_held_2 11 rfl rfl)
theorem dX7_held_60 : decode cX7_held 60 = .ok (.invokevirtual 268, 3) := dk_182 1 12 (dk_at dksX7_held_2 13 rfl rfl)
theorem dX7_held_63 : decode cX7_held 63 = .ok (.iconst (-1), 1) := dk_2 (dk_at dksX7_held_2 16 rfl rfl)
theorem dX7_held_64 : decode cX7_held 64 = .ok (.if_icmp .ne 7, 3) := dk_160 0 7 (dk_at dksX7_held_2 17 rfl rfl)
theorem dX7_held_67 : decode cX7_held 67 = .ok (.iconst 1, 1) := dk_4 (dk_at dksX7_held_2 20 rfl rfl)
theorem dX7_held_68 : decode cX7_held 68 = .ok (.goto 4, 3) := dk_167 0 4 (dk_at dksX7_held_2 21 rfl rfl)
theorem dX7_held_71 : decode cX7_held 71 = .ok (.iconst 0, 1) := dk_3 (dk_at dksX7_held_3 0 rfl rfl)
theorem dX7_held_72 : decode cX7_held 72 = .ok (.ireturn, 1) := dk_172 (dk_at dksX7_held_3 1 rfl rfl)
abbrev cX7_isFraction : ByteArray := prog_17_method_44_code
def yX7_isFraction : MethodName := ⟨RX7, "isFraction", "(II)Z"⟩
def dkwX7_isFraction_1 : List UInt8 := [4, 167, 0, 4, 3, 172]
abbrev dktX7_isFraction_1 : List UInt8 := dkwX7_isFraction_1 ++ []
def dkwX7_isFraction_0 : List UInt8 := [26, 133, 10, 20, 1, 7, 184, 0, 115, 153, 0, 19, 27, 133, 10, 20, 1, 7, 184, 0, 115, 153, 0, 7]
abbrev dktX7_isFraction_0 : List UInt8 := dkwX7_isFraction_0 ++ dktX7_isFraction_1
theorem dksX7_isFraction_0 : cX7_isFraction.data.toList.drop 0 = dktX7_isFraction_0 := by decide +kernel
theorem dksX7_isFraction_1 : cX7_isFraction.data.toList.drop 24 = dktX7_isFraction_1 := dk_seg dksX7_isFraction_0 24 rfl rfl
theorem dX7_isFraction_0 : decode cX7_isFraction 0 = .ok (.iload_n 0, 1) := dk_26 (dk_at dksX7_isFraction_0 0 rfl rfl)
theorem dX7_isFraction_1 : decode cX7_isFraction 1 = .ok (.i2l, 1) := dk_133 (dk_at dksX7_isFraction_0 1 rfl rfl)
theorem dX7_isFraction_2 : decode cX7_isFraction 2 = .ok (.lconst 1, 1) := dk_10 (dk_at dksX7_isFraction_0 2 rfl rfl)
theorem dX7_isFraction_3 : decode cX7_isFraction 3 = .ok (.ldc2_w 263, 3) := dk_20 1 7 (dk_at dksX7_isFraction_0 3 rfl rfl)
theorem dX7_isFraction_6 : decode cX7_isFraction 6 = .ok (.invokestatic 115, 3) := dk_184 0 115 (dk_at dksX7_isFraction_0 6 rfl rfl)
theorem dX7_isFraction_9 : decode cX7_isFraction 9 = .ok (.ifCond .eq 19, 3) := dk_153 0 19 (dk_at dksX7_isFraction_0 9 rfl rfl)
theorem dX7_isFraction_12 : decode cX7_isFraction 12 = .ok (.iload_n 1, 1) := dk_27 (dk_at dksX7_isFraction_0 12 rfl rfl)
theorem dX7_isFraction_13 : decode cX7_isFraction 13 = .ok (.i2l, 1) := dk_133 (dk_at dksX7_isFraction_0 13 rfl rfl)
theorem dX7_isFraction_14 : decode cX7_isFraction 14 = .ok (.lconst 1, 1) := dk_10 (dk_at dksX7_isFraction_0 14 rfl rfl)
theorem dX7_isFraction_15 : decode cX7_isFraction 15 = .ok (.ldc2_w 263, 3) := dk_20 1 7 (dk_at dksX7_isFraction_0 15 rfl rfl)
theorem dX7_isFraction_18 : decode cX7_isFraction 18 = .ok (.invokestatic 115, 3) := dk_184 0 115 (dk_at dksX7_isFraction_0 18 rfl rfl)
theorem dX7_isFraction_21 : decode cX7_isFraction 21 = .ok (.ifCond .eq 7, 3) := dk_153 0 7 (dk_at dksX7_isFraction_0 21 rfl rfl)
theorem dX7_isFraction_24 : decode cX7_isFraction 24 = .ok (.iconst 1, 1) := dk_4 (dk_at dksX7_isFraction_1 0 rfl rfl)
theorem dX7_isFraction_25 : decode cX7_isFraction 25 = .ok (.goto 4, 3) := dk_167 0 4 (dk_at dksX7_isFraction_1 1 rfl rfl)
theorem dX7_isFraction_28 : decode cX7_isFraction 28 = .ok (.iconst 0, 1) := dk_3 (dk_at dksX7_isFraction_1 4 rfl rfl)
theorem dX7_isFraction_29 : decode cX7_isFraction 29 = .ok (.ireturn, 1) := dk_172 (dk_at dksX7_isFraction_1 5 rfl rfl)
abbrev cX7_barring : ByteArray := prog_17_method_43_code
def yX7_barring : MethodName := ⟨RX7, "barring", "(IIII)I"⟩
def dkwX7_barring_2 : List UInt8 := [172, 132, 5, 1, 167, 255, 208, 2, 172]
abbrev dktX7_barring_2 : List UInt8 := dkwX7_barring_2 ++ []
def dkwX7_barring_1 : List UInt8 := [21, 5, 27, 28, 182, 1, 4, 21, 4, 104, 29, 42, 180, 0, 45, 21, 5, 46, 104, 163, 0, 6, 21, 5]
abbrev dktX7_barring_1 : List UInt8 := dkwX7_barring_1 ++ dktX7_barring_2
def dkwX7_barring_0 : List UInt8 := [3, 54, 5, 21, 5, 42, 180, 0, 221, 162, 0, 45, 42, 180, 0, 45, 21, 5, 46, 158, 0, 29, 42]
abbrev dktX7_barring_0 : List UInt8 := dkwX7_barring_0 ++ dktX7_barring_1
theorem dksX7_barring_0 : cX7_barring.data.toList.drop 0 = dktX7_barring_0 := by decide +kernel
theorem dksX7_barring_1 : cX7_barring.data.toList.drop 23 = dktX7_barring_1 := dk_seg dksX7_barring_0 23 rfl rfl
theorem dksX7_barring_2 : cX7_barring.data.toList.drop 47 = dktX7_barring_2 := dk_seg dksX7_barring_1 24 rfl rfl
theorem dX7_barring_0 : decode cX7_barring 0 = .ok (.iconst 0, 1) := dk_3 (dk_at dksX7_barring_0 0 rfl rfl)
theorem dX7_barring_1 : decode cX7_barring 1 = .ok (.istore 5, 2) := dk_54 5 (dk_at dksX7_barring_0 1 rfl rfl)
theorem dX7_barring_3 : decode cX7_barring 3 = .ok (.iload 5, 2) := dk_21 5 (dk_at dksX7_barring_0 3 rfl rfl)
theorem dX7_barring_5 : decode cX7_barring 5 = .ok (.aload_n 0, 1) := dk_42 (dk_at dksX7_barring_0 5 rfl rfl)
theorem dX7_barring_6 : decode cX7_barring 6 = .ok (.getfield 221, 3) := dk_180 0 221 (dk_at dksX7_barring_0 6 rfl rfl)
theorem dX7_barring_9 : decode cX7_barring 9 = .ok (.if_icmp .ge 45, 3) := dk_162 0 45 (dk_at dksX7_barring_0 9 rfl rfl)
theorem dX7_barring_12 : decode cX7_barring 12 = .ok (.aload_n 0, 1) := dk_42 (dk_at dksX7_barring_0 12 rfl rfl)
theorem dX7_barring_13 : decode cX7_barring 13 = .ok (.getfield 45, 3) := dk_180 0 45 (dk_at dksX7_barring_0 13 rfl rfl)
theorem dX7_barring_16 : decode cX7_barring 16 = .ok (.iload 5, 2) := dk_21 5 (dk_at dksX7_barring_0 16 rfl rfl)
theorem dX7_barring_18 : decode cX7_barring 18 = .ok (.iaload, 1) := dk_46 (dk_at dksX7_barring_0 18 rfl rfl)
theorem dX7_barring_19 : decode cX7_barring 19 = .ok (.ifCond .le 29, 3) := dk_158 0 29 (dk_at dksX7_barring_0 19 rfl rfl)
theorem dX7_barring_22 : decode cX7_barring 22 = .ok (.aload_n 0, 1) := dk_42 (dk_at dksX7_barring_0 22 rfl rfl)
theorem dX7_barring_23 : decode cX7_barring 23 = .ok (.iload 5, 2) := dk_21 5 (dk_at dksX7_barring_1 0 rfl rfl)
theorem dX7_barring_25 : decode cX7_barring 25 = .ok (.iload_n 1, 1) := dk_27 (dk_at dksX7_barring_1 2 rfl rfl)
theorem dX7_barring_26 : decode cX7_barring 26 = .ok (.iload_n 2, 1) := dk_28 (dk_at dksX7_barring_1 3 rfl rfl)
theorem dX7_barring_27 : decode cX7_barring 27 = .ok (.invokevirtual 260, 3) := dk_182 1 4 (dk_at dksX7_barring_1 4 rfl rfl)
theorem dX7_barring_30 : decode cX7_barring 30 = .ok (.iload 4, 2) := dk_21 4 (dk_at dksX7_barring_1 7 rfl rfl)
theorem dX7_barring_32 : decode cX7_barring 32 = .ok (.imul, 1) := dk_104 (dk_at dksX7_barring_1 9 rfl rfl)
theorem dX7_barring_33 : decode cX7_barring 33 = .ok (.iload_n 3, 1) := dk_29 (dk_at dksX7_barring_1 10 rfl rfl)
theorem dX7_barring_34 : decode cX7_barring 34 = .ok (.aload_n 0, 1) := dk_42 (dk_at dksX7_barring_1 11 rfl rfl)
theorem dX7_barring_35 : decode cX7_barring 35 = .ok (.getfield 45, 3) := dk_180 0 45 (dk_at dksX7_barring_1 12 rfl rfl)
theorem dX7_barring_38 : decode cX7_barring 38 = .ok (.iload 5, 2) := dk_21 5 (dk_at dksX7_barring_1 15 rfl rfl)
theorem dX7_barring_40 : decode cX7_barring 40 = .ok (.iaload, 1) := dk_46 (dk_at dksX7_barring_1 17 rfl rfl)
theorem dX7_barring_41 : decode cX7_barring 41 = .ok (.imul, 1) := dk_104 (dk_at dksX7_barring_1 18 rfl rfl)
theorem dX7_barring_42 : decode cX7_barring 42 = .ok (.if_icmp .gt 6, 3) := dk_163 0 6 (dk_at dksX7_barring_1 19 rfl rfl)
theorem dX7_barring_45 : decode cX7_barring 45 = .ok (.iload 5, 2) := dk_21 5 (dk_at dksX7_barring_1 22 rfl rfl)
theorem dX7_barring_47 : decode cX7_barring 47 = .ok (.ireturn, 1) := dk_172 (dk_at dksX7_barring_2 0 rfl rfl)
theorem dX7_barring_48 : decode cX7_barring 48 = .ok (.iinc 5 1, 3) := dk_132 5 1 (dk_at dksX7_barring_2 1 rfl rfl)
theorem dX7_barring_51 : decode cX7_barring 51 = .ok (.goto (-48), 3) := dk_167 255 208 (dk_at dksX7_barring_2 4 rfl rfl)
theorem dX7_barring_54 : decode cX7_barring 54 = .ok (.iconst (-1), 1) := dk_2 (dk_at dksX7_barring_2 7 rfl rfl)
theorem dX7_barring_55 : decode cX7_barring 55 = .ok (.ireturn, 1) := dk_172 (dk_at dksX7_barring_2 8 rfl rfl)
abbrev cX7_reason : ByteArray := prog_17_method_46_code
def yX7_reason : MethodName := ⟨RX7, "reason", "(IIIIII)I"⟩
def dkwX7_reason_6 : List UInt8 := [167, 0, 5, 21, 5, 172]
abbrev dktX7_reason_6 : List UInt8 := dkwX7_reason_6 ++ []
def dkwX7_reason_5 : List UInt8 := [5, 160, 0, 13, 42, 180, 0, 45, 21, 7, 46, 167, 0, 16, 21, 6, 6, 160, 0, 8, 21, 4]
abbrev dktX7_reason_5 : List UInt8 := dkwX7_reason_5 ++ dktX7_reason_6
def dkwX7_reason_4 : List UInt8 := [21, 7, 167, 0, 49, 21, 6, 4, 160, 0, 14, 42, 21, 7, 28, 29, 182, 1, 4, 167, 0, 32, 21, 6]
abbrev dktX7_reason_4 : List UInt8 := dkwX7_reason_4 ++ dktX7_reason_5
def dkwX7_reason_3 : List UInt8 := [21, 4, 21, 5, 182, 1, 12, 54, 7, 21, 7, 2, 160, 0, 6, 16, 251, 172, 21, 6, 154, 0, 8]
abbrev dktX7_reason_3 : List UInt8 := dkwX7_reason_3 ++ dktX7_reason_4
def dkwX7_reason_2 : List UInt8 := [16, 254, 172, 42, 180, 0, 11, 27, 46, 154, 0, 6, 16, 253, 172, 42, 27, 182, 0, 166, 42, 28, 29]
abbrev dktX7_reason_2 : List UInt8 := dkwX7_reason_2 ++ dktX7_reason_3
def dkwX7_reason_1 : List UInt8 := [184, 0, 140, 153, 0, 20, 29, 184, 0, 140, 153, 0, 13, 21, 4, 21, 5, 184, 1, 9, 154, 0, 6]
abbrev dktX7_reason_1 : List UInt8 := dkwX7_reason_1 ++ dktX7_reason_2
def dkwX7_reason_0 : List UInt8 := [27, 184, 0, 136, 153, 0, 16, 21, 6, 133, 9, 20, 0, 243, 184, 0, 115, 154, 0, 5, 2, 172, 28]
abbrev dktX7_reason_0 : List UInt8 := dkwX7_reason_0 ++ dktX7_reason_1
theorem dksX7_reason_0 : cX7_reason.data.toList.drop 0 = dktX7_reason_0 := by decide +kernel
theorem dksX7_reason_1 : cX7_reason.data.toList.drop 23 = dktX7_reason_1 := dk_seg dksX7_reason_0 23 rfl rfl
theorem dksX7_reason_2 : cX7_reason.data.toList.drop 46 = dktX7_reason_2 := dk_seg dksX7_reason_1 23 rfl rfl
theorem dksX7_reason_3 : cX7_reason.data.toList.drop 69 = dktX7_reason_3 := dk_seg dksX7_reason_2 23 rfl rfl
theorem dksX7_reason_4 : cX7_reason.data.toList.drop 92 = dktX7_reason_4 := dk_seg dksX7_reason_3 23 rfl rfl
theorem dksX7_reason_5 : cX7_reason.data.toList.drop 116 = dktX7_reason_5 := dk_seg dksX7_reason_4 24 rfl rfl
theorem dksX7_reason_6 : cX7_reason.data.toList.drop 138 = dktX7_reason_6 := dk_seg dksX7_reason_5 22 rfl rfl
theorem dX7_reason_0 : decode cX7_reason 0 = .ok (.iload_n 1, 1) := dk_27 (dk_at dksX7_reason_0 0 rfl rfl)
theorem dX7_reason_1 : decode cX7_reason 1 = .ok (.invokestatic 136, 3) := dk_184 0 136 (dk_at dksX7_reason_0 1 rfl rfl)
theorem dX7_reason_4 : decode cX7_reason 4 = .ok (.ifCond .eq 16, 3) := dk_153 0 16 (dk_at dksX7_reason_0 4 rfl rfl)
theorem dX7_reason_7 : decode cX7_reason 7 = .ok (.iload 6, 2) := dk_21 6 (dk_at dksX7_reason_0 7 rfl rfl)
theorem dX7_reason_9 : decode cX7_reason 9 = .ok (.i2l, 1) := dk_133 (dk_at dksX7_reason_0 9 rfl rfl)
theorem dX7_reason_10 : decode cX7_reason 10 = .ok (.lconst 0, 1) := dk_9 (dk_at dksX7_reason_0 10 rfl rfl)
theorem dX7_reason_11 : decode cX7_reason 11 = .ok (.ldc2_w 243, 3) := dk_20 0 243 (dk_at dksX7_reason_0 11 rfl rfl)
theorem dX7_reason_14 : decode cX7_reason 14 = .ok (.invokestatic 115, 3) := dk_184 0 115 (dk_at dksX7_reason_0 14 rfl rfl)
theorem dX7_reason_17 : decode cX7_reason 17 = .ok (.ifCond .ne 5, 3) := dk_154 0 5 (dk_at dksX7_reason_0 17 rfl rfl)
theorem dX7_reason_20 : decode cX7_reason 20 = .ok (.iconst (-1), 1) := dk_2 (dk_at dksX7_reason_0 20 rfl rfl)
theorem dX7_reason_21 : decode cX7_reason 21 = .ok (.ireturn, 1) := dk_172 (dk_at dksX7_reason_0 21 rfl rfl)
theorem dX7_reason_22 : decode cX7_reason 22 = .ok (.iload_n 2, 1) := dk_28 (dk_at dksX7_reason_0 22 rfl rfl)
theorem dX7_reason_23 : decode cX7_reason 23 = .ok (.invokestatic 140, 3) := dk_184 0 140 (dk_at dksX7_reason_1 0 rfl rfl)
theorem dX7_reason_26 : decode cX7_reason 26 = .ok (.ifCond .eq 20, 3) := dk_153 0 20 (dk_at dksX7_reason_1 3 rfl rfl)
theorem dX7_reason_29 : decode cX7_reason 29 = .ok (.iload_n 3, 1) := dk_29 (dk_at dksX7_reason_1 6 rfl rfl)
theorem dX7_reason_30 : decode cX7_reason 30 = .ok (.invokestatic 140, 3) := dk_184 0 140 (dk_at dksX7_reason_1 7 rfl rfl)
theorem dX7_reason_33 : decode cX7_reason 33 = .ok (.ifCond .eq 13, 3) := dk_153 0 13 (dk_at dksX7_reason_1 10 rfl rfl)
theorem dX7_reason_36 : decode cX7_reason 36 = .ok (.iload 4, 2) := dk_21 4 (dk_at dksX7_reason_1 13 rfl rfl)
theorem dX7_reason_38 : decode cX7_reason 38 = .ok (.iload 5, 2) := dk_21 5 (dk_at dksX7_reason_1 15 rfl rfl)
theorem dX7_reason_40 : decode cX7_reason 40 = .ok (.invokestatic 265, 3) := dk_184 1 9 (dk_at dksX7_reason_1 17 rfl rfl)
theorem dX7_reason_43 : decode cX7_reason 43 = .ok (.ifCond .ne 6, 3) := dk_154 0 6 (dk_at dksX7_reason_1 20 rfl rfl)
theorem dX7_reason_46 : decode cX7_reason 46 = .ok (.bipush (-2), 2) := dk_16 254 (dk_at dksX7_reason_2 0 rfl rfl)
theorem dX7_reason_48 : decode cX7_reason 48 = .ok (.ireturn, 1) := dk_172 (dk_at dksX7_reason_2 2 rfl rfl)
theorem dX7_reason_49 : decode cX7_reason 49 = .ok (.aload_n 0, 1) := dk_42 (dk_at dksX7_reason_2 3 rfl rfl)
theorem dX7_reason_50 : decode cX7_reason 50 = .ok (.getfield 11, 3) := dk_180 0 11 (dk_at dksX7_reason_2 4 rfl rfl)
theorem dX7_reason_53 : decode cX7_reason 53 = .ok (.iload_n 1, 1) := dk_27 (dk_at dksX7_reason_2 7 rfl rfl)
theorem dX7_reason_54 : decode cX7_reason 54 = .ok (.iaload, 1) := dk_46 (dk_at dksX7_reason_2 8 rfl rfl)
theorem dX7_reason_55 : decode cX7_reason 55 = .ok (.ifCond .ne 6, 3) := dk_154 0 6 (dk_at dksX7_reason_2 9 rfl rfl)
theorem dX7_reason_58 : decode cX7_reason 58 = .ok (.bipush (-3), 2) := dk_16 253 (dk_at dksX7_reason_2 12 rfl rfl)
theorem dX7_reason_60 : decode cX7_reason 60 = .ok (.ireturn, 1) := dk_172 (dk_at dksX7_reason_2 14 rfl rfl)
theorem dX7_reason_61 : decode cX7_reason 61 = .ok (.aload_n 0, 1) := dk_42 (dk_at dksX7_reason_2 15 rfl rfl)
theorem dX7_reason_62 : decode cX7_reason 62 = .ok (.iload_n 1, 1) := dk_27 (dk_at dksX7_reason_2 16 rfl rfl)
theorem dX7_reason_63 : decode cX7_reason 63 = .ok (.invokevirtual 166, 3) := dk_182 0 166 (dk_at dksX7_reason_2 17 rfl rfl)
theorem dX7_reason_66 : decode cX7_reason 66 = .ok (.aload_n 0, 1) := dk_42 (dk_at dksX7_reason_2 20 rfl rfl)
theorem dX7_reason_67 : decode cX7_reason 67 = .ok (.iload_n 2, 1) := dk_28 (dk_at dksX7_reason_2 21 rfl rfl)
theorem dX7_reason_68 : decode cX7_reason 68 = .ok (.iload_n 3, 1) := dk_29 (dk_at dksX7_reason_2 22 rfl rfl)
theorem dX7_reason_69 : decode cX7_reason 69 = .ok (.iload 4, 2) := dk_21 4 (dk_at dksX7_reason_3 0 rfl rfl)
theorem dX7_reason_71 : decode cX7_reason 71 = .ok (.iload 5, 2) := dk_21 5 (dk_at dksX7_reason_3 2 rfl rfl)
theorem dX7_reason_73 : decode cX7_reason 73 = .ok (.invokevirtual 268, 3) := dk_182 1 12 (dk_at dksX7_reason_3 4 rfl rfl)
theorem dX7_reason_76 : decode cX7_reason 76 = .ok (.istore 7, 2) := dk_54 7 (dk_at dksX7_reason_3 7 rfl rfl)
theorem dX7_reason_78 : decode cX7_reason 78 = .ok (.iload 7, 2) := dk_21 7 (dk_at dksX7_reason_3 9 rfl rfl)
theorem dX7_reason_80 : decode cX7_reason 80 = .ok (.iconst (-1), 1) := dk_2 (dk_at dksX7_reason_3 11 rfl rfl)
theorem dX7_reason_81 : decode cX7_reason 81 = .ok (.if_icmp .ne 6, 3) := dk_160 0 6 (dk_at dksX7_reason_3 12 rfl rfl)
theorem dX7_reason_84 : decode cX7_reason 84 = .ok (.bipush (-5), 2) := dk_16 251 (dk_at dksX7_reason_3 15 rfl rfl)
theorem dX7_reason_86 : decode cX7_reason 86 = .ok (.ireturn, 1) := dk_172 (dk_at dksX7_reason_3 17 rfl rfl)
theorem dX7_reason_87 : decode cX7_reason 87 = .ok (.iload 6, 2) := dk_21 6 (dk_at dksX7_reason_3 18 rfl rfl)
theorem dX7_reason_89 : decode cX7_reason 89 = .ok (.ifCond .ne 8, 3) := dk_154 0 8 (dk_at dksX7_reason_3 20 rfl rfl)
theorem dX7_reason_92 : decode cX7_reason 92 = .ok (.iload 7, 2) := dk_21 7 (dk_at dksX7_reason_4 0 rfl rfl)
theorem dX7_reason_94 : decode cX7_reason 94 = .ok (.goto 49, 3) := dk_167 0 49 (dk_at dksX7_reason_4 2 rfl rfl)
theorem dX7_reason_97 : decode cX7_reason 97 = .ok (.iload 6, 2) := dk_21 6 (dk_at dksX7_reason_4 5 rfl rfl)
theorem dX7_reason_99 : decode cX7_reason 99 = .ok (.iconst 1, 1) := dk_4 (dk_at dksX7_reason_4 7 rfl rfl)
theorem dX7_reason_100 : decode cX7_reason 100 = .ok (.if_icmp .ne 14, 3) := dk_160 0 14 (dk_at dksX7_reason_4 8 rfl rfl)
theorem dX7_reason_103 : decode cX7_reason 103 = .ok (.aload_n 0, 1) := dk_42 (dk_at dksX7_reason_4 11 rfl rfl)
theorem dX7_reason_104 : decode cX7_reason 104 = .ok (.iload 7, 2) := dk_21 7 (dk_at dksX7_reason_4 12 rfl rfl)
theorem dX7_reason_106 : decode cX7_reason 106 = .ok (.iload_n 2, 1) := dk_28 (dk_at dksX7_reason_4 14 rfl rfl)
theorem dX7_reason_107 : decode cX7_reason 107 = .ok (.iload_n 3, 1) := dk_29 (dk_at dksX7_reason_4 15 rfl rfl)
theorem dX7_reason_108 : decode cX7_reason 108 = .ok (.invokevirtual 260, 3) := dk_182 1 4 (dk_at dksX7_reason_4 16 rfl rfl)
theorem dX7_reason_111 : decode cX7_reason 111 = .ok (.goto 32, 3) := dk_167 0 32 (dk_at dksX7_reason_4 19 rfl rfl)
theorem dX7_reason_114 : decode cX7_reason 114 = .ok (.iload 6, 2) := dk_21 6 (dk_at dksX7_reason_4 22 rfl rfl)
theorem dX7_reason_116 : decode cX7_reason 116 = .ok (.iconst 2, 1) := dk_5 (dk_at dksX7_reason_5 0 rfl rfl)
theorem dX7_reason_117 : decode cX7_reason 117 = .ok (.if_icmp .ne 13, 3) := dk_160 0 13 (dk_at dksX7_reason_5 1 rfl rfl)
theorem dX7_reason_120 : decode cX7_reason 120 = .ok (.aload_n 0, 1) := dk_42 (dk_at dksX7_reason_5 4 rfl rfl)
theorem dX7_reason_121 : decode cX7_reason 121 = .ok (.getfield 45, 3) := dk_180 0 45 (dk_at dksX7_reason_5 5 rfl rfl)
theorem dX7_reason_124 : decode cX7_reason 124 = .ok (.iload 7, 2) := dk_21 7 (dk_at dksX7_reason_5 8 rfl rfl)
theorem dX7_reason_126 : decode cX7_reason 126 = .ok (.iaload, 1) := dk_46 (dk_at dksX7_reason_5 10 rfl rfl)
theorem dX7_reason_127 : decode cX7_reason 127 = .ok (.goto 16, 3) := dk_167 0 16 (dk_at dksX7_reason_5 11 rfl rfl)
theorem dX7_reason_130 : decode cX7_reason 130 = .ok (.iload 6, 2) := dk_21 6 (dk_at dksX7_reason_5 14 rfl rfl)
theorem dX7_reason_132 : decode cX7_reason 132 = .ok (.iconst 3, 1) := dk_6 (dk_at dksX7_reason_5 16 rfl rfl)
theorem dX7_reason_133 : decode cX7_reason 133 = .ok (.if_icmp .ne 8, 3) := dk_160 0 8 (dk_at dksX7_reason_5 17 rfl rfl)
theorem dX7_reason_136 : decode cX7_reason 136 = .ok (.iload 4, 2) := dk_21 4 (dk_at dksX7_reason_5 20 rfl rfl)
theorem dX7_reason_138 : decode cX7_reason 138 = .ok (.goto 5, 3) := dk_167 0 5 (dk_at dksX7_reason_6 0 rfl rfl)
theorem dX7_reason_141 : decode cX7_reason 141 = .ok (.iload 5, 2) := dk_21 5 (dk_at dksX7_reason_6 3 rfl rfl)
theorem dX7_reason_143 : decode cX7_reason 143 = .ok (.ireturn, 1) := dk_172 (dk_at dksX7_reason_6 5 rfl rfl)
abbrev cX7_jump : ByteArray := prog_17_method_48_code
def yX7_jump : MethodName := ⟨RX7, "jump", "(IIII)J"⟩
def dkwX7_jump_3 : List UInt8 := [21, 5, 28, 29, 182, 1, 4, 133, 42, 180, 0, 45, 21, 5, 46, 133, 21, 4, 184, 1, 20, 173]
abbrev dktX7_jump_3 : List UInt8 := dkwX7_jump_3 ++ []
def dkwX7_jump_2 : List UInt8 := [182, 0, 166, 42, 28, 29, 182, 1, 17, 54, 5, 21, 5, 2, 160, 0, 9, 20, 1, 15, 167, 0, 25, 42]
abbrev dktX7_jump_2 : List UInt8 := dkwX7_jump_2 ++ dktX7_jump_3
def dkwX7_jump_1 : List UInt8 := [9, 10, 184, 0, 115, 153, 0, 12, 42, 180, 0, 11, 27, 46, 154, 0, 7, 20, 1, 15, 173, 42, 27]
abbrev dktX7_jump_1 : List UInt8 := dkwX7_jump_1 ++ dktX7_jump_2
def dkwX7_jump_0 : List UInt8 := [27, 184, 0, 136, 153, 0, 37, 28, 184, 0, 140, 153, 0, 30, 29, 184, 0, 140, 153, 0, 23, 21, 4, 133]
abbrev dktX7_jump_0 : List UInt8 := dkwX7_jump_0 ++ dktX7_jump_1
theorem dksX7_jump_0 : cX7_jump.data.toList.drop 0 = dktX7_jump_0 := by decide +kernel
theorem dksX7_jump_1 : cX7_jump.data.toList.drop 24 = dktX7_jump_1 := dk_seg dksX7_jump_0 24 rfl rfl
theorem dksX7_jump_2 : cX7_jump.data.toList.drop 47 = dktX7_jump_2 := dk_seg dksX7_jump_1 23 rfl rfl
theorem dksX7_jump_3 : cX7_jump.data.toList.drop 71 = dktX7_jump_3 := dk_seg dksX7_jump_2 24 rfl rfl
theorem dX7_jump_0 : decode cX7_jump 0 = .ok (.iload_n 1, 1) := dk_27 (dk_at dksX7_jump_0 0 rfl rfl)
theorem dX7_jump_1 : decode cX7_jump 1 = .ok (.invokestatic 136, 3) := dk_184 0 136 (dk_at dksX7_jump_0 1 rfl rfl)
theorem dX7_jump_4 : decode cX7_jump 4 = .ok (.ifCond .eq 37, 3) := dk_153 0 37 (dk_at dksX7_jump_0 4 rfl rfl)
theorem dX7_jump_7 : decode cX7_jump 7 = .ok (.iload_n 2, 1) := dk_28 (dk_at dksX7_jump_0 7 rfl rfl)
theorem dX7_jump_8 : decode cX7_jump 8 = .ok (.invokestatic 140, 3) := dk_184 0 140 (dk_at dksX7_jump_0 8 rfl rfl)
theorem dX7_jump_11 : decode cX7_jump 11 = .ok (.ifCond .eq 30, 3) := dk_153 0 30 (dk_at dksX7_jump_0 11 rfl rfl)
theorem dX7_jump_14 : decode cX7_jump 14 = .ok (.iload_n 3, 1) := dk_29 (dk_at dksX7_jump_0 14 rfl rfl)
theorem dX7_jump_15 : decode cX7_jump 15 = .ok (.invokestatic 140, 3) := dk_184 0 140 (dk_at dksX7_jump_0 15 rfl rfl)
theorem dX7_jump_18 : decode cX7_jump 18 = .ok (.ifCond .eq 23, 3) := dk_153 0 23 (dk_at dksX7_jump_0 18 rfl rfl)
theorem dX7_jump_21 : decode cX7_jump 21 = .ok (.iload 4, 2) := dk_21 4 (dk_at dksX7_jump_0 21 rfl rfl)
theorem dX7_jump_23 : decode cX7_jump 23 = .ok (.i2l, 1) := dk_133 (dk_at dksX7_jump_0 23 rfl rfl)
theorem dX7_jump_24 : decode cX7_jump 24 = .ok (.lconst 0, 1) := dk_9 (dk_at dksX7_jump_1 0 rfl rfl)
theorem dX7_jump_25 : decode cX7_jump 25 = .ok (.lconst 1, 1) := dk_10 (dk_at dksX7_jump_1 1 rfl rfl)
theorem dX7_jump_26 : decode cX7_jump 26 = .ok (.invokestatic 115, 3) := dk_184 0 115 (dk_at dksX7_jump_1 2 rfl rfl)
theorem dX7_jump_29 : decode cX7_jump 29 = .ok (.ifCond .eq 12, 3) := dk_153 0 12 (dk_at dksX7_jump_1 5 rfl rfl)
theorem dX7_jump_32 : decode cX7_jump 32 = .ok (.aload_n 0, 1) := dk_42 (dk_at dksX7_jump_1 8 rfl rfl)
theorem dX7_jump_33 : decode cX7_jump 33 = .ok (.getfield 11, 3) := dk_180 0 11 (dk_at dksX7_jump_1 9 rfl rfl)
theorem dX7_jump_36 : decode cX7_jump 36 = .ok (.iload_n 1, 1) := dk_27 (dk_at dksX7_jump_1 12 rfl rfl)
theorem dX7_jump_37 : decode cX7_jump 37 = .ok (.iaload, 1) := dk_46 (dk_at dksX7_jump_1 13 rfl rfl)
theorem dX7_jump_38 : decode cX7_jump 38 = .ok (.ifCond .ne 7, 3) := dk_154 0 7 (dk_at dksX7_jump_1 14 rfl rfl)
theorem dX7_jump_41 : decode cX7_jump 41 = .ok (.ldc2_w 271, 3) := dk_20 1 15 (dk_at dksX7_jump_1 17 rfl rfl)
theorem dX7_jump_44 : decode cX7_jump 44 = .ok (.lreturn, 1) := dk_173 (dk_at dksX7_jump_1 20 rfl rfl)
theorem dX7_jump_45 : decode cX7_jump 45 = .ok (.aload_n 0, 1) := dk_42 (dk_at dksX7_jump_1 21 rfl rfl)
theorem dX7_jump_46 : decode cX7_jump 46 = .ok (.iload_n 1, 1) := dk_27 (dk_at dksX7_jump_1 22 rfl rfl)
theorem dX7_jump_47 : decode cX7_jump 47 = .ok (.invokevirtual 166, 3) := dk_182 0 166 (dk_at dksX7_jump_2 0 rfl rfl)
theorem dX7_jump_50 : decode cX7_jump 50 = .ok (.aload_n 0, 1) := dk_42 (dk_at dksX7_jump_2 3 rfl rfl)
theorem dX7_jump_51 : decode cX7_jump 51 = .ok (.iload_n 2, 1) := dk_28 (dk_at dksX7_jump_2 4 rfl rfl)
theorem dX7_jump_52 : decode cX7_jump 52 = .ok (.iload_n 3, 1) := dk_29 (dk_at dksX7_jump_2 5 rfl rfl)
theorem dX7_jump_53 : decode cX7_jump 53 = .ok (.invokevirtual 273, 3) := dk_182 1 17 (dk_at dksX7_jump_2 6 rfl rfl)
theorem dX7_jump_56 : decode cX7_jump 56 = .ok (.istore 5, 2) := dk_54 5 (dk_at dksX7_jump_2 9 rfl rfl)
theorem dX7_jump_58 : decode cX7_jump 58 = .ok (.iload 5, 2) := dk_21 5 (dk_at dksX7_jump_2 11 rfl rfl)
theorem dX7_jump_60 : decode cX7_jump 60 = .ok (.iconst (-1), 1) := dk_2 (dk_at dksX7_jump_2 13 rfl rfl)
theorem dX7_jump_61 : decode cX7_jump 61 = .ok (.if_icmp .ne 9, 3) := dk_160 0 9 (dk_at dksX7_jump_2 14 rfl rfl)
theorem dX7_jump_64 : decode cX7_jump 64 = .ok (.ldc2_w 271, 3) := dk_20 1 15 (dk_at dksX7_jump_2 17 rfl rfl)
theorem dX7_jump_67 : decode cX7_jump 67 = .ok (.goto 25, 3) := dk_167 0 25 (dk_at dksX7_jump_2 20 rfl rfl)
theorem dX7_jump_70 : decode cX7_jump 70 = .ok (.aload_n 0, 1) := dk_42 (dk_at dksX7_jump_2 23 rfl rfl)
theorem dX7_jump_71 : decode cX7_jump 71 = .ok (.iload 5, 2) := dk_21 5 (dk_at dksX7_jump_3 0 rfl rfl)
theorem dX7_jump_73 : decode cX7_jump 73 = .ok (.iload_n 2, 1) := dk_28 (dk_at dksX7_jump_3 2 rfl rfl)
theorem dX7_jump_74 : decode cX7_jump 74 = .ok (.iload_n 3, 1) := dk_29 (dk_at dksX7_jump_3 3 rfl rfl)
theorem dX7_jump_75 : decode cX7_jump 75 = .ok (.invokevirtual 260, 3) := dk_182 1 4 (dk_at dksX7_jump_3 4 rfl rfl)
theorem dX7_jump_78 : decode cX7_jump 78 = .ok (.i2l, 1) := dk_133 (dk_at dksX7_jump_3 7 rfl rfl)
theorem dX7_jump_79 : decode cX7_jump 79 = .ok (.aload_n 0, 1) := dk_42 (dk_at dksX7_jump_3 8 rfl rfl)
theorem dX7_jump_80 : decode cX7_jump 80 = .ok (.getfield 45, 3) := dk_180 0 45 (dk_at dksX7_jump_3 9 rfl rfl)
theorem dX7_jump_83 : decode cX7_jump 83 = .ok (.iload 5, 2) := dk_21 5 (dk_at dksX7_jump_3 12 rfl rfl)
theorem dX7_jump_85 : decode cX7_jump 85 = .ok (.iaload, 1) := dk_46 (dk_at dksX7_jump_3 14 rfl rfl)
theorem dX7_jump_86 : decode cX7_jump 86 = .ok (.i2l, 1) := dk_133 (dk_at dksX7_jump_3 15 rfl rfl)
theorem dX7_jump_87 : decode cX7_jump 87 = .ok (.iload 4, 2) := dk_21 4 (dk_at dksX7_jump_3 16 rfl rfl)
theorem dX7_jump_89 : decode cX7_jump 89 = .ok (.invokestatic 276, 3) := dk_184 1 20 (dk_at dksX7_jump_3 18 rfl rfl)
theorem dX7_jump_92 : decode cX7_jump 92 = .ok (.lreturn, 1) := dk_173 (dk_at dksX7_jump_3 21 rfl rfl)
abbrev cX7_jumps : ByteArray := prog_17_method_51_code
def yX7_jumps : MethodName := ⟨RX7, "jumps", "(III)J"⟩
def dkwX7_jumps_3 : List UInt8 := [133, 167, 0, 10, 42, 180, 0, 51, 28, 46, 133, 173]
abbrev dktX7_jumps_3 : List UInt8 := dkwX7_jumps_3 ++ []
def dkwX7_jumps_2 : List UInt8 := [100, 133, 184, 0, 115, 154, 0, 9, 20, 1, 15, 167, 0, 24, 29, 154, 0, 13, 42, 180, 0, 48, 28, 46]
abbrev dktX7_jumps_2 : List UInt8 := dkwX7_jumps_2 ++ dktX7_jumps_3
def dkwX7_jumps_1 : List UInt8 := [154, 0, 7, 20, 1, 15, 173, 42, 27, 182, 0, 166, 42, 182, 0, 254, 28, 133, 9, 42, 180, 1, 1, 4]
abbrev dktX7_jumps_1 : List UInt8 := dkwX7_jumps_1 ++ dktX7_jumps_2
def dkwX7_jumps_0 : List UInt8 := [27, 184, 0, 136, 153, 0, 22, 29, 133, 9, 10, 184, 0, 115, 153, 0, 12, 42, 180, 0, 11, 27, 46]
abbrev dktX7_jumps_0 : List UInt8 := dkwX7_jumps_0 ++ dktX7_jumps_1
theorem dksX7_jumps_0 : cX7_jumps.data.toList.drop 0 = dktX7_jumps_0 := by decide +kernel
theorem dksX7_jumps_1 : cX7_jumps.data.toList.drop 23 = dktX7_jumps_1 := dk_seg dksX7_jumps_0 23 rfl rfl
theorem dksX7_jumps_2 : cX7_jumps.data.toList.drop 47 = dktX7_jumps_2 := dk_seg dksX7_jumps_1 24 rfl rfl
theorem dksX7_jumps_3 : cX7_jumps.data.toList.drop 71 = dktX7_jumps_3 := dk_seg dksX7_jumps_2 24 rfl rfl
theorem dX7_jumps_0 : decode cX7_jumps 0 = .ok (.iload_n 1, 1) := dk_27 (dk_at dksX7_jumps_0 0 rfl rfl)
theorem dX7_jumps_1 : decode cX7_jumps 1 = .ok (.invokestatic 136, 3) := dk_184 0 136 (dk_at dksX7_jumps_0 1 rfl rfl)
theorem dX7_jumps_4 : decode cX7_jumps 4 = .ok (.ifCond .eq 22, 3) := dk_153 0 22 (dk_at dksX7_jumps_0 4 rfl rfl)
theorem dX7_jumps_7 : decode cX7_jumps 7 = .ok (.iload_n 3, 1) := dk_29 (dk_at dksX7_jumps_0 7 rfl rfl)
theorem dX7_jumps_8 : decode cX7_jumps 8 = .ok (.i2l, 1) := dk_133 (dk_at dksX7_jumps_0 8 rfl rfl)
theorem dX7_jumps_9 : decode cX7_jumps 9 = .ok (.lconst 0, 1) := dk_9 (dk_at dksX7_jumps_0 9 rfl rfl)
theorem dX7_jumps_10 : decode cX7_jumps 10 = .ok (.lconst 1, 1) := dk_10 (dk_at dksX7_jumps_0 10 rfl rfl)
theorem dX7_jumps_11 : decode cX7_jumps 11 = .ok (.invokestatic 115, 3) := dk_184 0 115 (dk_at dksX7_jumps_0 11 rfl rfl)
theorem dX7_jumps_14 : decode cX7_jumps 14 = .ok (.ifCond .eq 12, 3) := dk_153 0 12 (dk_at dksX7_jumps_0 14 rfl rfl)
theorem dX7_jumps_17 : decode cX7_jumps 17 = .ok (.aload_n 0, 1) := dk_42 (dk_at dksX7_jumps_0 17 rfl rfl)
theorem dX7_jumps_18 : decode cX7_jumps 18 = .ok (.getfield 11, 3) := dk_180 0 11 (dk_at dksX7_jumps_0 18 rfl rfl)
theorem dX7_jumps_21 : decode cX7_jumps 21 = .ok (.iload_n 1, 1) := dk_27 (dk_at dksX7_jumps_0 21 rfl rfl)
theorem dX7_jumps_22 : decode cX7_jumps 22 = .ok (.iaload, 1) := dk_46 (dk_at dksX7_jumps_0 22 rfl rfl)
theorem dX7_jumps_23 : decode cX7_jumps 23 = .ok (.ifCond .ne 7, 3) := dk_154 0 7 (dk_at dksX7_jumps_1 0 rfl rfl)
theorem dX7_jumps_26 : decode cX7_jumps 26 = .ok (.ldc2_w 271, 3) := dk_20 1 15 (dk_at dksX7_jumps_1 3 rfl rfl)
theorem dX7_jumps_29 : decode cX7_jumps 29 = .ok (.lreturn, 1) := dk_173 (dk_at dksX7_jumps_1 6 rfl rfl)
theorem dX7_jumps_30 : decode cX7_jumps 30 = .ok (.aload_n 0, 1) := dk_42 (dk_at dksX7_jumps_1 7 rfl rfl)
theorem dX7_jumps_31 : decode cX7_jumps 31 = .ok (.iload_n 1, 1) := dk_27 (dk_at dksX7_jumps_1 8 rfl rfl)
theorem dX7_jumps_32 : decode cX7_jumps 32 = .ok (.invokevirtual 166, 3) := dk_182 0 166 (dk_at dksX7_jumps_1 9 rfl rfl)
theorem dX7_jumps_35 : decode cX7_jumps 35 = .ok (.aload_n 0, 1) := dk_42 (dk_at dksX7_jumps_1 12 rfl rfl)
theorem dX7_jumps_36 : decode cX7_jumps 36 = .ok (.invokevirtual 254, 3) := dk_182 0 254 (dk_at dksX7_jumps_1 13 rfl rfl)
theorem dX7_jumps_39 : decode cX7_jumps 39 = .ok (.iload_n 2, 1) := dk_28 (dk_at dksX7_jumps_1 16 rfl rfl)
theorem dX7_jumps_40 : decode cX7_jumps 40 = .ok (.i2l, 1) := dk_133 (dk_at dksX7_jumps_1 17 rfl rfl)
theorem dX7_jumps_41 : decode cX7_jumps 41 = .ok (.lconst 0, 1) := dk_9 (dk_at dksX7_jumps_1 18 rfl rfl)
theorem dX7_jumps_42 : decode cX7_jumps 42 = .ok (.aload_n 0, 1) := dk_42 (dk_at dksX7_jumps_1 19 rfl rfl)
theorem dX7_jumps_43 : decode cX7_jumps 43 = .ok (.getfield 257, 3) := dk_180 1 1 (dk_at dksX7_jumps_1 20 rfl rfl)
theorem dX7_jumps_46 : decode cX7_jumps 46 = .ok (.iconst 1, 1) := dk_4 (dk_at dksX7_jumps_1 23 rfl rfl)
theorem dX7_jumps_47 : decode cX7_jumps 47 = .ok (.isub, 1) := dk_100 (dk_at dksX7_jumps_2 0 rfl rfl)
theorem dX7_jumps_48 : decode cX7_jumps 48 = .ok (.i2l, 1) := dk_133 (dk_at dksX7_jumps_2 1 rfl rfl)
theorem dX7_jumps_49 : decode cX7_jumps 49 = .ok (.invokestatic 115, 3) := dk_184 0 115 (dk_at dksX7_jumps_2 2 rfl rfl)
theorem dX7_jumps_52 : decode cX7_jumps 52 = .ok (.ifCond .ne 9, 3) := dk_154 0 9 (dk_at dksX7_jumps_2 5 rfl rfl)
theorem dX7_jumps_55 : decode cX7_jumps 55 = .ok (.ldc2_w 271, 3) := dk_20 1 15 (dk_at dksX7_jumps_2 8 rfl rfl)
theorem dX7_jumps_58 : decode cX7_jumps 58 = .ok (.goto 24, 3) := dk_167 0 24 (dk_at dksX7_jumps_2 11 rfl rfl)
theorem dX7_jumps_61 : decode cX7_jumps 61 = .ok (.iload_n 3, 1) := dk_29 (dk_at dksX7_jumps_2 14 rfl rfl)
theorem dX7_jumps_62 : decode cX7_jumps 62 = .ok (.ifCond .ne 13, 3) := dk_154 0 13 (dk_at dksX7_jumps_2 15 rfl rfl)
theorem dX7_jumps_65 : decode cX7_jumps 65 = .ok (.aload_n 0, 1) := dk_42 (dk_at dksX7_jumps_2 18 rfl rfl)
theorem dX7_jumps_66 : decode cX7_jumps 66 = .ok (.getfield 48, 3) := dk_180 0 48 (dk_at dksX7_jumps_2 19 rfl rfl)
theorem dX7_jumps_69 : decode cX7_jumps 69 = .ok (.iload_n 2, 1) := dk_28 (dk_at dksX7_jumps_2 22 rfl rfl)
theorem dX7_jumps_70 : decode cX7_jumps 70 = .ok (.iaload, 1) := dk_46 (dk_at dksX7_jumps_2 23 rfl rfl)
theorem dX7_jumps_71 : decode cX7_jumps 71 = .ok (.i2l, 1) := dk_133 (dk_at dksX7_jumps_3 0 rfl rfl)
theorem dX7_jumps_72 : decode cX7_jumps 72 = .ok (.goto 10, 3) := dk_167 0 10 (dk_at dksX7_jumps_3 1 rfl rfl)
theorem dX7_jumps_75 : decode cX7_jumps 75 = .ok (.aload_n 0, 1) := dk_42 (dk_at dksX7_jumps_3 4 rfl rfl)
theorem dX7_jumps_76 : decode cX7_jumps 76 = .ok (.getfield 51, 3) := dk_180 0 51 (dk_at dksX7_jumps_3 5 rfl rfl)
theorem dX7_jumps_79 : decode cX7_jumps 79 = .ok (.iload_n 2, 1) := dk_28 (dk_at dksX7_jumps_3 8 rfl rfl)
theorem dX7_jumps_80 : decode cX7_jumps 80 = .ok (.iaload, 1) := dk_46 (dk_at dksX7_jumps_3 9 rfl rfl)
theorem dX7_jumps_81 : decode cX7_jumps 81 = .ok (.i2l, 1) := dk_133 (dk_at dksX7_jumps_3 10 rfl rfl)
theorem dX7_jumps_82 : decode cX7_jumps 82 = .ok (.lreturn, 1) := dk_173 (dk_at dksX7_jumps_3 11 rfl rfl)
abbrev cX7_lacks : ByteArray := prog_17_method_53_code
def yX7_lacks : MethodName := ⟨RX7, "lacks", "(III)I"⟩
def dkwX7_lacks_1 : List UInt8 := [27, 46, 154, 0, 8, 16, 253, 167, 0, 10, 42, 27, 28, 29, 182, 1, 27, 172]
abbrev dktX7_lacks_1 : List UInt8 := dkwX7_lacks_1 ++ []
def dkwX7_lacks_0 : List UInt8 := [27, 184, 0, 136, 154, 0, 5, 2, 172, 28, 29, 184, 1, 9, 154, 0, 6, 16, 254, 172, 42, 180, 0, 11]
abbrev dktX7_lacks_0 : List UInt8 := dkwX7_lacks_0 ++ dktX7_lacks_1
theorem dksX7_lacks_0 : cX7_lacks.data.toList.drop 0 = dktX7_lacks_0 := by decide +kernel
theorem dksX7_lacks_1 : cX7_lacks.data.toList.drop 24 = dktX7_lacks_1 := dk_seg dksX7_lacks_0 24 rfl rfl
theorem dX7_lacks_0 : decode cX7_lacks 0 = .ok (.iload_n 1, 1) := dk_27 (dk_at dksX7_lacks_0 0 rfl rfl)
theorem dX7_lacks_1 : decode cX7_lacks 1 = .ok (.invokestatic 136, 3) := dk_184 0 136 (dk_at dksX7_lacks_0 1 rfl rfl)
theorem dX7_lacks_4 : decode cX7_lacks 4 = .ok (.ifCond .ne 5, 3) := dk_154 0 5 (dk_at dksX7_lacks_0 4 rfl rfl)
theorem dX7_lacks_7 : decode cX7_lacks 7 = .ok (.iconst (-1), 1) := dk_2 (dk_at dksX7_lacks_0 7 rfl rfl)
theorem dX7_lacks_8 : decode cX7_lacks 8 = .ok (.ireturn, 1) := dk_172 (dk_at dksX7_lacks_0 8 rfl rfl)
theorem dX7_lacks_9 : decode cX7_lacks 9 = .ok (.iload_n 2, 1) := dk_28 (dk_at dksX7_lacks_0 9 rfl rfl)
theorem dX7_lacks_10 : decode cX7_lacks 10 = .ok (.iload_n 3, 1) := dk_29 (dk_at dksX7_lacks_0 10 rfl rfl)
theorem dX7_lacks_11 : decode cX7_lacks 11 = .ok (.invokestatic 265, 3) := dk_184 1 9 (dk_at dksX7_lacks_0 11 rfl rfl)
theorem dX7_lacks_14 : decode cX7_lacks 14 = .ok (.ifCond .ne 6, 3) := dk_154 0 6 (dk_at dksX7_lacks_0 14 rfl rfl)
theorem dX7_lacks_17 : decode cX7_lacks 17 = .ok (.bipush (-2), 2) := dk_16 254 (dk_at dksX7_lacks_0 17 rfl rfl)
theorem dX7_lacks_19 : decode cX7_lacks 19 = .ok (.ireturn, 1) := dk_172 (dk_at dksX7_lacks_0 19 rfl rfl)
theorem dX7_lacks_20 : decode cX7_lacks 20 = .ok (.aload_n 0, 1) := dk_42 (dk_at dksX7_lacks_0 20 rfl rfl)
theorem dX7_lacks_21 : decode cX7_lacks 21 = .ok (.getfield 11, 3) := dk_180 0 11 (dk_at dksX7_lacks_0 21 rfl rfl)
theorem dX7_lacks_24 : decode cX7_lacks 24 = .ok (.iload_n 1, 1) := dk_27 (dk_at dksX7_lacks_1 0 rfl rfl)
theorem dX7_lacks_25 : decode cX7_lacks 25 = .ok (.iaload, 1) := dk_46 (dk_at dksX7_lacks_1 1 rfl rfl)
theorem dX7_lacks_26 : decode cX7_lacks 26 = .ok (.ifCond .ne 8, 3) := dk_154 0 8 (dk_at dksX7_lacks_1 2 rfl rfl)
theorem dX7_lacks_29 : decode cX7_lacks 29 = .ok (.bipush (-3), 2) := dk_16 253 (dk_at dksX7_lacks_1 5 rfl rfl)
theorem dX7_lacks_31 : decode cX7_lacks 31 = .ok (.goto 10, 3) := dk_167 0 10 (dk_at dksX7_lacks_1 7 rfl rfl)
theorem dX7_lacks_34 : decode cX7_lacks 34 = .ok (.aload_n 0, 1) := dk_42 (dk_at dksX7_lacks_1 10 rfl rfl)
theorem dX7_lacks_35 : decode cX7_lacks 35 = .ok (.iload_n 1, 1) := dk_27 (dk_at dksX7_lacks_1 11 rfl rfl)
theorem dX7_lacks_36 : decode cX7_lacks 36 = .ok (.iload_n 2, 1) := dk_28 (dk_at dksX7_lacks_1 12 rfl rfl)
theorem dX7_lacks_37 : decode cX7_lacks 37 = .ok (.iload_n 3, 1) := dk_29 (dk_at dksX7_lacks_1 13 rfl rfl)
theorem dX7_lacks_38 : decode cX7_lacks 38 = .ok (.invokevirtual 283, 3) := dk_182 1 27 (dk_at dksX7_lacks_1 14 rfl rfl)
theorem dX7_lacks_41 : decode cX7_lacks 41 = .ok (.ireturn, 1) := dk_172 (dk_at dksX7_lacks_1 17 rfl rfl)
abbrev cX7_lacking : ByteArray := prog_17_method_52_code
def yX7_lacking : MethodName := ⟨RX7, "lacking", "(III)I"⟩
def dkwX7_lacking_2 : List UInt8 := [54, 4, 132, 5, 1, 167, 255, 216, 21, 4, 172]
abbrev dktX7_lacking_2 : List UInt8 := dkwX7_lacking_2 ++ []
def dkwX7_lacking_1 : List UInt8 := [16, 10, 108, 21, 5, 16, 10, 112, 28, 29, 182, 1, 12, 2, 160, 0, 7, 3, 167, 0, 4, 4, 96]
abbrev dktX7_lacking_1 : List UInt8 := dkwX7_lacking_1 ++ dktX7_lacking_2
def dkwX7_lacking_0 : List UInt8 := [42, 27, 182, 0, 166, 3, 54, 4, 3, 54, 5, 21, 5, 16, 100, 162, 0, 39, 21, 4, 42, 21, 5]
abbrev dktX7_lacking_0 : List UInt8 := dkwX7_lacking_0 ++ dktX7_lacking_1
theorem dksX7_lacking_0 : cX7_lacking.data.toList.drop 0 = dktX7_lacking_0 := by decide +kernel
theorem dksX7_lacking_1 : cX7_lacking.data.toList.drop 23 = dktX7_lacking_1 := dk_seg dksX7_lacking_0 23 rfl rfl
theorem dksX7_lacking_2 : cX7_lacking.data.toList.drop 46 = dktX7_lacking_2 := dk_seg dksX7_lacking_1 23 rfl rfl
theorem dX7_lacking_0 : decode cX7_lacking 0 = .ok (.aload_n 0, 1) := dk_42 (dk_at dksX7_lacking_0 0 rfl rfl)
theorem dX7_lacking_1 : decode cX7_lacking 1 = .ok (.iload_n 1, 1) := dk_27 (dk_at dksX7_lacking_0 1 rfl rfl)
theorem dX7_lacking_2 : decode cX7_lacking 2 = .ok (.invokevirtual 166, 3) := dk_182 0 166 (dk_at dksX7_lacking_0 2 rfl rfl)
theorem dX7_lacking_5 : decode cX7_lacking 5 = .ok (.iconst 0, 1) := dk_3 (dk_at dksX7_lacking_0 5 rfl rfl)
theorem dX7_lacking_6 : decode cX7_lacking 6 = .ok (.istore 4, 2) := dk_54 4 (dk_at dksX7_lacking_0 6 rfl rfl)
theorem dX7_lacking_8 : decode cX7_lacking 8 = .ok (.iconst 0, 1) := dk_3 (dk_at dksX7_lacking_0 8 rfl rfl)
theorem dX7_lacking_9 : decode cX7_lacking 9 = .ok (.istore 5, 2) := dk_54 5 (dk_at dksX7_lacking_0 9 rfl rfl)
theorem dX7_lacking_11 : decode cX7_lacking 11 = .ok (.iload 5, 2) := dk_21 5 (dk_at dksX7_lacking_0 11 rfl rfl)
theorem dX7_lacking_13 : decode cX7_lacking 13 = .ok (.bipush 100, 2) := dk_16 100 (dk_at dksX7_lacking_0 13 rfl rfl)
theorem dX7_lacking_15 : decode cX7_lacking 15 = .ok (.if_icmp .ge 39, 3) := dk_162 0 39 (dk_at dksX7_lacking_0 15 rfl rfl)
theorem dX7_lacking_18 : decode cX7_lacking 18 = .ok (.iload 4, 2) := dk_21 4 (dk_at dksX7_lacking_0 18 rfl rfl)
theorem dX7_lacking_20 : decode cX7_lacking 20 = .ok (.aload_n 0, 1) := dk_42 (dk_at dksX7_lacking_0 20 rfl rfl)
theorem dX7_lacking_21 : decode cX7_lacking 21 = .ok (.iload 5, 2) := dk_21 5 (dk_at dksX7_lacking_0 21 rfl rfl)
theorem dX7_lacking_23 : decode cX7_lacking 23 = .ok (.bipush 10, 2) := dk_16 10 (dk_at dksX7_lacking_1 0 rfl rfl)
theorem dX7_lacking_25 : decode cX7_lacking 25 = .ok (.idiv, 1) := dk_108 (dk_at dksX7_lacking_1 2 rfl rfl)
theorem dX7_lacking_26 : decode cX7_lacking 26 = .ok (.iload 5, 2) := dk_21 5 (dk_at dksX7_lacking_1 3 rfl rfl)
theorem dX7_lacking_28 : decode cX7_lacking 28 = .ok (.bipush 10, 2) := dk_16 10 (dk_at dksX7_lacking_1 5 rfl rfl)
theorem dX7_lacking_30 : decode cX7_lacking 30 = .ok (.irem, 1) := dk_112 (dk_at dksX7_lacking_1 7 rfl rfl)
theorem dX7_lacking_31 : decode cX7_lacking 31 = .ok (.iload_n 2, 1) := dk_28 (dk_at dksX7_lacking_1 8 rfl rfl)
theorem dX7_lacking_32 : decode cX7_lacking 32 = .ok (.iload_n 3, 1) := dk_29 (dk_at dksX7_lacking_1 9 rfl rfl)
theorem dX7_lacking_33 : decode cX7_lacking 33 = .ok (.invokevirtual 268, 3) := dk_182 1 12 (dk_at dksX7_lacking_1 10 rfl rfl)
theorem dX7_lacking_36 : decode cX7_lacking 36 = .ok (.iconst (-1), 1) := dk_2 (dk_at dksX7_lacking_1 13 rfl rfl)
theorem dX7_lacking_37 : decode cX7_lacking 37 = .ok (.if_icmp .ne 7, 3) := dk_160 0 7 (dk_at dksX7_lacking_1 14 rfl rfl)
theorem dX7_lacking_40 : decode cX7_lacking 40 = .ok (.iconst 0, 1) := dk_3 (dk_at dksX7_lacking_1 17 rfl rfl)
theorem dX7_lacking_41 : decode cX7_lacking 41 = .ok (.goto 4, 3) := dk_167 0 4 (dk_at dksX7_lacking_1 18 rfl rfl)
theorem dX7_lacking_44 : decode cX7_lacking 44 = .ok (.iconst 1, 1) := dk_4 (dk_at dksX7_lacking_1 21 rfl rfl)
theorem dX7_lacking_45 : decode cX7_lacking 45 = .ok (.iadd, 1) := dk_96 (dk_at dksX7_lacking_1 22 rfl rfl)
theorem dX7_lacking_46 : decode cX7_lacking 46 = .ok (.istore 4, 2) := dk_54 4 (dk_at dksX7_lacking_2 0 rfl rfl)
theorem dX7_lacking_48 : decode cX7_lacking 48 = .ok (.iinc 5 1, 3) := dk_132 5 1 (dk_at dksX7_lacking_2 2 rfl rfl)
theorem dX7_lacking_51 : decode cX7_lacking 51 = .ok (.goto (-40), 3) := dk_167 255 216 (dk_at dksX7_lacking_2 5 rfl rfl)
theorem dX7_lacking_54 : decode cX7_lacking 54 = .ok (.iload 4, 2) := dk_21 4 (dk_at dksX7_lacking_2 8 rfl rfl)
theorem dX7_lacking_56 : decode cX7_lacking 56 = .ok (.ireturn, 1) := dk_172 (dk_at dksX7_lacking_2 10 rfl rfl)
abbrev cX7_height : ByteArray := prog_17_method_61_code
def yX7_height : MethodName := ⟨RX7, "height", "(III)I"⟩
def dkwX7_height_4 : List UInt8 := [16, 10, 100, 182, 1, 39, 42, 29, 182, 1, 42, 172]
abbrev dktX7_height_4 : List UInt8 := dkwX7_height_4 ++ []
def dkwX7_height_3 : List UInt8 := [172, 28, 5, 160, 0, 17, 42, 3, 4, 182, 1, 39, 42, 4, 182, 1, 33, 167, 0, 12, 42, 27, 28]
abbrev dktX7_height_3 : List UInt8 := dkwX7_height_3 ++ dktX7_height_4
def dkwX7_height_2 : List UInt8 := [16, 254, 172, 28, 154, 0, 10, 42, 27, 29, 182, 1, 45, 172, 28, 4, 160, 0, 9, 42, 29, 182, 1, 54]
abbrev dktX7_height_2 : List UInt8 := dkwX7_height_2 ++ dktX7_height_3
def dkwX7_height_1 : List UInt8 := [20, 1, 50, 184, 0, 115, 154, 0, 5, 2, 172, 29, 133, 9, 20, 1, 52, 184, 0, 115, 154, 0, 6]
abbrev dktX7_height_1 : List UInt8 := dkwX7_height_1 ++ dktX7_height_2
def dkwX7_height_0 : List UInt8 := [27, 184, 0, 136, 153, 0, 29, 28, 133, 9, 20, 0, 241, 184, 0, 115, 154, 0, 19, 28, 133, 20, 1, 48]
abbrev dktX7_height_0 : List UInt8 := dkwX7_height_0 ++ dktX7_height_1
theorem dksX7_height_0 : cX7_height.data.toList.drop 0 = dktX7_height_0 := by decide +kernel
theorem dksX7_height_1 : cX7_height.data.toList.drop 24 = dktX7_height_1 := dk_seg dksX7_height_0 24 rfl rfl
theorem dksX7_height_2 : cX7_height.data.toList.drop 47 = dktX7_height_2 := dk_seg dksX7_height_1 23 rfl rfl
theorem dksX7_height_3 : cX7_height.data.toList.drop 71 = dktX7_height_3 := dk_seg dksX7_height_2 24 rfl rfl
theorem dksX7_height_4 : cX7_height.data.toList.drop 94 = dktX7_height_4 := dk_seg dksX7_height_3 23 rfl rfl
theorem dX7_height_0 : decode cX7_height 0 = .ok (.iload_n 1, 1) := dk_27 (dk_at dksX7_height_0 0 rfl rfl)
theorem dX7_height_1 : decode cX7_height 1 = .ok (.invokestatic 136, 3) := dk_184 0 136 (dk_at dksX7_height_0 1 rfl rfl)
theorem dX7_height_4 : decode cX7_height 4 = .ok (.ifCond .eq 29, 3) := dk_153 0 29 (dk_at dksX7_height_0 4 rfl rfl)
theorem dX7_height_7 : decode cX7_height 7 = .ok (.iload_n 2, 1) := dk_28 (dk_at dksX7_height_0 7 rfl rfl)
theorem dX7_height_8 : decode cX7_height 8 = .ok (.i2l, 1) := dk_133 (dk_at dksX7_height_0 8 rfl rfl)
theorem dX7_height_9 : decode cX7_height 9 = .ok (.lconst 0, 1) := dk_9 (dk_at dksX7_height_0 9 rfl rfl)
theorem dX7_height_10 : decode cX7_height 10 = .ok (.ldc2_w 241, 3) := dk_20 0 241 (dk_at dksX7_height_0 10 rfl rfl)
theorem dX7_height_13 : decode cX7_height 13 = .ok (.invokestatic 115, 3) := dk_184 0 115 (dk_at dksX7_height_0 13 rfl rfl)
theorem dX7_height_16 : decode cX7_height 16 = .ok (.ifCond .ne 19, 3) := dk_154 0 19 (dk_at dksX7_height_0 16 rfl rfl)
theorem dX7_height_19 : decode cX7_height 19 = .ok (.iload_n 2, 1) := dk_28 (dk_at dksX7_height_0 19 rfl rfl)
theorem dX7_height_20 : decode cX7_height 20 = .ok (.i2l, 1) := dk_133 (dk_at dksX7_height_0 20 rfl rfl)
theorem dX7_height_21 : decode cX7_height 21 = .ok (.ldc2_w 304, 3) := dk_20 1 48 (dk_at dksX7_height_0 21 rfl rfl)
theorem dX7_height_24 : decode cX7_height 24 = .ok (.ldc2_w 306, 3) := dk_20 1 50 (dk_at dksX7_height_1 0 rfl rfl)
theorem dX7_height_27 : decode cX7_height 27 = .ok (.invokestatic 115, 3) := dk_184 0 115 (dk_at dksX7_height_1 3 rfl rfl)
theorem dX7_height_30 : decode cX7_height 30 = .ok (.ifCond .ne 5, 3) := dk_154 0 5 (dk_at dksX7_height_1 6 rfl rfl)
theorem dX7_height_33 : decode cX7_height 33 = .ok (.iconst (-1), 1) := dk_2 (dk_at dksX7_height_1 9 rfl rfl)
theorem dX7_height_34 : decode cX7_height 34 = .ok (.ireturn, 1) := dk_172 (dk_at dksX7_height_1 10 rfl rfl)
theorem dX7_height_35 : decode cX7_height 35 = .ok (.iload_n 3, 1) := dk_29 (dk_at dksX7_height_1 11 rfl rfl)
theorem dX7_height_36 : decode cX7_height 36 = .ok (.i2l, 1) := dk_133 (dk_at dksX7_height_1 12 rfl rfl)
theorem dX7_height_37 : decode cX7_height 37 = .ok (.lconst 0, 1) := dk_9 (dk_at dksX7_height_1 13 rfl rfl)
theorem dX7_height_38 : decode cX7_height 38 = .ok (.ldc2_w 308, 3) := dk_20 1 52 (dk_at dksX7_height_1 14 rfl rfl)
theorem dX7_height_41 : decode cX7_height 41 = .ok (.invokestatic 115, 3) := dk_184 0 115 (dk_at dksX7_height_1 17 rfl rfl)
theorem dX7_height_44 : decode cX7_height 44 = .ok (.ifCond .ne 6, 3) := dk_154 0 6 (dk_at dksX7_height_1 20 rfl rfl)
theorem dX7_height_47 : decode cX7_height 47 = .ok (.bipush (-2), 2) := dk_16 254 (dk_at dksX7_height_2 0 rfl rfl)
theorem dX7_height_49 : decode cX7_height 49 = .ok (.ireturn, 1) := dk_172 (dk_at dksX7_height_2 2 rfl rfl)
theorem dX7_height_50 : decode cX7_height 50 = .ok (.iload_n 2, 1) := dk_28 (dk_at dksX7_height_2 3 rfl rfl)
theorem dX7_height_51 : decode cX7_height 51 = .ok (.ifCond .ne 10, 3) := dk_154 0 10 (dk_at dksX7_height_2 4 rfl rfl)
theorem dX7_height_54 : decode cX7_height 54 = .ok (.aload_n 0, 1) := dk_42 (dk_at dksX7_height_2 7 rfl rfl)
theorem dX7_height_55 : decode cX7_height 55 = .ok (.iload_n 1, 1) := dk_27 (dk_at dksX7_height_2 8 rfl rfl)
theorem dX7_height_56 : decode cX7_height 56 = .ok (.iload_n 3, 1) := dk_29 (dk_at dksX7_height_2 9 rfl rfl)
theorem dX7_height_57 : decode cX7_height 57 = .ok (.invokevirtual 301, 3) := dk_182 1 45 (dk_at dksX7_height_2 10 rfl rfl)
theorem dX7_height_60 : decode cX7_height 60 = .ok (.ireturn, 1) := dk_172 (dk_at dksX7_height_2 13 rfl rfl)
theorem dX7_height_61 : decode cX7_height 61 = .ok (.iload_n 2, 1) := dk_28 (dk_at dksX7_height_2 14 rfl rfl)
theorem dX7_height_62 : decode cX7_height 62 = .ok (.iconst 1, 1) := dk_4 (dk_at dksX7_height_2 15 rfl rfl)
theorem dX7_height_63 : decode cX7_height 63 = .ok (.if_icmp .ne 9, 3) := dk_160 0 9 (dk_at dksX7_height_2 16 rfl rfl)
theorem dX7_height_66 : decode cX7_height 66 = .ok (.aload_n 0, 1) := dk_42 (dk_at dksX7_height_2 19 rfl rfl)
theorem dX7_height_67 : decode cX7_height 67 = .ok (.iload_n 3, 1) := dk_29 (dk_at dksX7_height_2 20 rfl rfl)
theorem dX7_height_68 : decode cX7_height 68 = .ok (.invokevirtual 310, 3) := dk_182 1 54 (dk_at dksX7_height_2 21 rfl rfl)
theorem dX7_height_71 : decode cX7_height 71 = .ok (.ireturn, 1) := dk_172 (dk_at dksX7_height_3 0 rfl rfl)
theorem dX7_height_72 : decode cX7_height 72 = .ok (.iload_n 2, 1) := dk_28 (dk_at dksX7_height_3 1 rfl rfl)
theorem dX7_height_73 : decode cX7_height 73 = .ok (.iconst 2, 1) := dk_5 (dk_at dksX7_height_3 2 rfl rfl)
theorem dX7_height_74 : decode cX7_height 74 = .ok (.if_icmp .ne 17, 3) := dk_160 0 17 (dk_at dksX7_height_3 3 rfl rfl)
theorem dX7_height_77 : decode cX7_height 77 = .ok (.aload_n 0, 1) := dk_42 (dk_at dksX7_height_3 6 rfl rfl)
theorem dX7_height_78 : decode cX7_height 78 = .ok (.iconst 0, 1) := dk_3 (dk_at dksX7_height_3 7 rfl rfl)
theorem dX7_height_79 : decode cX7_height 79 = .ok (.iconst 1, 1) := dk_4 (dk_at dksX7_height_3 8 rfl rfl)
theorem dX7_height_80 : decode cX7_height 80 = .ok (.invokevirtual 295, 3) := dk_182 1 39 (dk_at dksX7_height_3 9 rfl rfl)
theorem dX7_height_83 : decode cX7_height 83 = .ok (.aload_n 0, 1) := dk_42 (dk_at dksX7_height_3 12 rfl rfl)
theorem dX7_height_84 : decode cX7_height 84 = .ok (.iconst 1, 1) := dk_4 (dk_at dksX7_height_3 13 rfl rfl)
theorem dX7_height_85 : decode cX7_height 85 = .ok (.invokevirtual 289, 3) := dk_182 1 33 (dk_at dksX7_height_3 14 rfl rfl)
theorem dX7_height_88 : decode cX7_height 88 = .ok (.goto 12, 3) := dk_167 0 12 (dk_at dksX7_height_3 17 rfl rfl)
theorem dX7_height_91 : decode cX7_height 91 = .ok (.aload_n 0, 1) := dk_42 (dk_at dksX7_height_3 20 rfl rfl)
theorem dX7_height_92 : decode cX7_height 92 = .ok (.iload_n 1, 1) := dk_27 (dk_at dksX7_height_3 21 rfl rfl)
theorem dX7_height_93 : decode cX7_height 93 = .ok (.iload_n 2, 1) := dk_28 (dk_at dksX7_height_3 22 rfl rfl)
theorem dX7_height_94 : decode cX7_height 94 = .ok (.bipush 10, 2) := dk_16 10 (dk_at dksX7_height_4 0 rfl rfl)
theorem dX7_height_96 : decode cX7_height 96 = .ok (.isub, 1) := dk_100 (dk_at dksX7_height_4 2 rfl rfl)
theorem dX7_height_97 : decode cX7_height 97 = .ok (.invokevirtual 295, 3) := dk_182 1 39 (dk_at dksX7_height_4 3 rfl rfl)
theorem dX7_height_100 : decode cX7_height 100 = .ok (.aload_n 0, 1) := dk_42 (dk_at dksX7_height_4 6 rfl rfl)
theorem dX7_height_101 : decode cX7_height 101 = .ok (.iload_n 3, 1) := dk_29 (dk_at dksX7_height_4 7 rfl rfl)
theorem dX7_height_102 : decode cX7_height 102 = .ok (.invokevirtual 298, 3) := dk_182 1 42 (dk_at dksX7_height_4 8 rfl rfl)
theorem dX7_height_105 : decode cX7_height 105 = .ok (.ireturn, 1) := dk_172 (dk_at dksX7_height_4 11 rfl rfl)
abbrev cX7_heightOf : ByteArray := prog_17_method_59_code
def yX7_heightOf : MethodName := ⟨RX7, "heightOf", "(II)I"⟩
def dkwX7_heightOf_0 : List UInt8 := [42, 27, 4, 182, 1, 39, 42, 28, 182, 1, 42, 172]
abbrev dktX7_heightOf_0 : List UInt8 := dkwX7_heightOf_0 ++ []
theorem dksX7_heightOf_0 : cX7_heightOf.data.toList.drop 0 = dktX7_heightOf_0 := by decide +kernel
theorem dX7_heightOf_0 : decode cX7_heightOf 0 = .ok (.aload_n 0, 1) := dk_42 (dk_at dksX7_heightOf_0 0 rfl rfl)
theorem dX7_heightOf_1 : decode cX7_heightOf 1 = .ok (.iload_n 1, 1) := dk_27 (dk_at dksX7_heightOf_0 1 rfl rfl)
theorem dX7_heightOf_2 : decode cX7_heightOf 2 = .ok (.iconst 1, 1) := dk_4 (dk_at dksX7_heightOf_0 2 rfl rfl)
theorem dX7_heightOf_3 : decode cX7_heightOf 3 = .ok (.invokevirtual 295, 3) := dk_182 1 39 (dk_at dksX7_heightOf_0 3 rfl rfl)
theorem dX7_heightOf_6 : decode cX7_heightOf 6 = .ok (.aload_n 0, 1) := dk_42 (dk_at dksX7_heightOf_0 6 rfl rfl)
theorem dX7_heightOf_7 : decode cX7_heightOf 7 = .ok (.iload_n 2, 1) := dk_28 (dk_at dksX7_heightOf_0 7 rfl rfl)
theorem dX7_heightOf_8 : decode cX7_heightOf 8 = .ok (.invokevirtual 298, 3) := dk_182 1 42 (dk_at dksX7_heightOf_0 8 rfl rfl)
theorem dX7_heightOf_11 : decode cX7_heightOf 11 = .ok (.ireturn, 1) := dk_172 (dk_at dksX7_heightOf_0 11 rfl rfl)
abbrev cX7_powers : ByteArray := prog_17_method_57_code
def yX7_powers : MethodName := ⟨RX7, "powers", "(II)V"⟩
def dkwX7_powers_0 : List UInt8 := [42, 182, 1, 30, 3, 62, 29, 28, 162, 0, 14, 42, 27, 182, 1, 33, 132, 3, 1, 167, 255, 243, 177]
abbrev dktX7_powers_0 : List UInt8 := dkwX7_powers_0 ++ []
theorem dksX7_powers_0 : cX7_powers.data.toList.drop 0 = dktX7_powers_0 := by decide +kernel
theorem dX7_powers_0 : decode cX7_powers 0 = .ok (.aload_n 0, 1) := dk_42 (dk_at dksX7_powers_0 0 rfl rfl)
theorem dX7_powers_1 : decode cX7_powers 1 = .ok (.invokevirtual 286, 3) := dk_182 1 30 (dk_at dksX7_powers_0 1 rfl rfl)
theorem dX7_powers_4 : decode cX7_powers 4 = .ok (.iconst 0, 1) := dk_3 (dk_at dksX7_powers_0 4 rfl rfl)
theorem dX7_powers_5 : decode cX7_powers 5 = .ok (.istore_n 3, 1) := dk_62 (dk_at dksX7_powers_0 5 rfl rfl)
theorem dX7_powers_6 : decode cX7_powers 6 = .ok (.iload_n 3, 1) := dk_29 (dk_at dksX7_powers_0 6 rfl rfl)
theorem dX7_powers_7 : decode cX7_powers 7 = .ok (.iload_n 2, 1) := dk_28 (dk_at dksX7_powers_0 7 rfl rfl)
theorem dX7_powers_8 : decode cX7_powers 8 = .ok (.if_icmp .ge 14, 3) := dk_162 0 14 (dk_at dksX7_powers_0 8 rfl rfl)
theorem dX7_powers_11 : decode cX7_powers 11 = .ok (.aload_n 0, 1) := dk_42 (dk_at dksX7_powers_0 11 rfl rfl)
theorem dX7_powers_12 : decode cX7_powers 12 = .ok (.iload_n 1, 1) := dk_27 (dk_at dksX7_powers_0 12 rfl rfl)
theorem dX7_powers_13 : decode cX7_powers 13 = .ok (.invokevirtual 289, 3) := dk_182 1 33 (dk_at dksX7_powers_0 13 rfl rfl)
theorem dX7_powers_16 : decode cX7_powers 16 = .ok (.iinc 3 1, 3) := dk_132 3 1 (dk_at dksX7_powers_0 16 rfl rfl)
theorem dX7_powers_19 : decode cX7_powers 19 = .ok (.goto (-13), 3) := dk_167 255 243 (dk_at dksX7_powers_0 19 rfl rfl)
theorem dX7_powers_22 : decode cX7_powers 22 = .ok (.return_, 1) := dk_177 (dk_at dksX7_powers_0 22 rfl rfl)
abbrev cX7_begins : ByteArray := prog_17_method_54_code
def yX7_begins : MethodName := ⟨RX7, "begins", "()V"⟩
def dkwX7_begins_1 : List UInt8 := [79, 132, 1, 1, 167, 255, 230, 177]
abbrev dktX7_begins_1 : List UInt8 := dkwX7_begins_1 ++ []
def dkwX7_begins_0 : List UInt8 := [3, 60, 27, 16, 72, 162, 0, 26, 42, 180, 0, 54, 27, 27, 154, 0, 7, 3, 167, 0, 6, 17, 3, 232]
abbrev dktX7_begins_0 : List UInt8 := dkwX7_begins_0 ++ dktX7_begins_1
theorem dksX7_begins_0 : cX7_begins.data.toList.drop 0 = dktX7_begins_0 := by decide +kernel
theorem dksX7_begins_1 : cX7_begins.data.toList.drop 24 = dktX7_begins_1 := dk_seg dksX7_begins_0 24 rfl rfl
theorem dX7_begins_0 : decode cX7_begins 0 = .ok (.iconst 0, 1) := dk_3 (dk_at dksX7_begins_0 0 rfl rfl)
theorem dX7_begins_1 : decode cX7_begins 1 = .ok (.istore_n 1, 1) := dk_60 (dk_at dksX7_begins_0 1 rfl rfl)
theorem dX7_begins_2 : decode cX7_begins 2 = .ok (.iload_n 1, 1) := dk_27 (dk_at dksX7_begins_0 2 rfl rfl)
theorem dX7_begins_3 : decode cX7_begins 3 = .ok (.bipush 72, 2) := dk_16 72 (dk_at dksX7_begins_0 3 rfl rfl)
theorem dX7_begins_5 : decode cX7_begins 5 = .ok (.if_icmp .ge 26, 3) := dk_162 0 26 (dk_at dksX7_begins_0 5 rfl rfl)
theorem dX7_begins_8 : decode cX7_begins 8 = .ok (.aload_n 0, 1) := dk_42 (dk_at dksX7_begins_0 8 rfl rfl)
theorem dX7_begins_9 : decode cX7_begins 9 = .ok (.getfield 54, 3) := dk_180 0 54 (dk_at dksX7_begins_0 9 rfl rfl)
theorem dX7_begins_12 : decode cX7_begins 12 = .ok (.iload_n 1, 1) := dk_27 (dk_at dksX7_begins_0 12 rfl rfl)
theorem dX7_begins_13 : decode cX7_begins 13 = .ok (.iload_n 1, 1) := dk_27 (dk_at dksX7_begins_0 13 rfl rfl)
theorem dX7_begins_14 : decode cX7_begins 14 = .ok (.ifCond .ne 7, 3) := dk_154 0 7 (dk_at dksX7_begins_0 14 rfl rfl)
theorem dX7_begins_17 : decode cX7_begins 17 = .ok (.iconst 0, 1) := dk_3 (dk_at dksX7_begins_0 17 rfl rfl)
theorem dX7_begins_18 : decode cX7_begins 18 = .ok (.goto 6, 3) := dk_167 0 6 (dk_at dksX7_begins_0 18 rfl rfl)
theorem dX7_begins_21 : decode cX7_begins 21 = .ok (.sipush 1000, 3) := dk_17 3 232 (dk_at dksX7_begins_0 21 rfl rfl)
theorem dX7_begins_24 : decode cX7_begins 24 = .ok (.iastore, 1) := dk_79 (dk_at dksX7_begins_1 0 rfl rfl)
theorem dX7_begins_25 : decode cX7_begins 25 = .ok (.iinc 1 1, 3) := dk_132 1 1 (dk_at dksX7_begins_1 1 rfl rfl)
theorem dX7_begins_28 : decode cX7_begins 28 = .ok (.goto (-26), 3) := dk_167 255 230 (dk_at dksX7_begins_1 4 rfl rfl)
theorem dX7_begins_31 : decode cX7_begins 31 = .ok (.return_, 1) := dk_177 (dk_at dksX7_begins_1 7 rfl rfl)
abbrev cX7_times : ByteArray := prog_17_method_55_code
def yX7_times : MethodName := ⟨RX7, "times", "(I)V"⟩
def dkwX7_times_5 : List UInt8 := [28, 42, 180, 0, 57, 28, 46, 17, 3, 232, 184, 0, 216, 79, 132, 2, 1, 167, 255, 229, 177]
abbrev dktX7_times_5 : List UInt8 := dkwX7_times_5 ++ []
def dkwX7_times_4 : List UInt8 := [132, 3, 1, 167, 255, 198, 132, 2, 1, 167, 255, 180, 3, 61, 28, 16, 72, 162, 0, 27, 42, 180, 0, 54]
abbrev dktX7_times_4 : List UInt8 := dkwX7_times_4 ++ dktX7_times_5
def dkwX7_times_3 : List UInt8 := [182, 0, 125, 96, 46, 42, 180, 0, 54, 29, 46, 42, 27, 28, 182, 0, 129, 96, 184, 0, 216, 79]
abbrev dktX7_times_3 : List UInt8 := dkwX7_times_3 ++ dktX7_times_4
def dkwX7_times_2 : List UInt8 := [162, 0, 51, 42, 180, 0, 57, 29, 42, 27, 28, 182, 0, 125, 96, 42, 180, 0, 57, 29, 42, 27, 28]
abbrev dktX7_times_2 : List UInt8 := dkwX7_times_2 ++ dktX7_times_3
def dkwX7_times_1 : List UInt8 := [61, 28, 42, 180, 0, 11, 27, 46, 162, 0, 72, 3, 62, 29, 42, 27, 28, 182, 0, 125, 96, 16, 72]
abbrev dktX7_times_1 : List UInt8 := dkwX7_times_1 ++ dktX7_times_2
def dkwX7_times_0 : List UInt8 := [3, 61, 28, 16, 72, 162, 0, 18, 42, 180, 0, 57, 28, 17, 3, 232, 79, 132, 2, 1, 167, 255, 238, 3]
abbrev dktX7_times_0 : List UInt8 := dkwX7_times_0 ++ dktX7_times_1
theorem dksX7_times_0 : cX7_times.data.toList.drop 0 = dktX7_times_0 := by decide +kernel
theorem dksX7_times_1 : cX7_times.data.toList.drop 24 = dktX7_times_1 := dk_seg dksX7_times_0 24 rfl rfl
theorem dksX7_times_2 : cX7_times.data.toList.drop 47 = dktX7_times_2 := dk_seg dksX7_times_1 23 rfl rfl
theorem dksX7_times_3 : cX7_times.data.toList.drop 70 = dktX7_times_3 := dk_seg dksX7_times_2 23 rfl rfl
theorem dksX7_times_4 : cX7_times.data.toList.drop 92 = dktX7_times_4 := dk_seg dksX7_times_3 22 rfl rfl
theorem dksX7_times_5 : cX7_times.data.toList.drop 116 = dktX7_times_5 := dk_seg dksX7_times_4 24 rfl rfl
theorem dX7_times_0 : decode cX7_times 0 = .ok (.iconst 0, 1) := dk_3 (dk_at dksX7_times_0 0 rfl rfl)
theorem dX7_times_1 : decode cX7_times 1 = .ok (.istore_n 2, 1) := dk_61 (dk_at dksX7_times_0 1 rfl rfl)
theorem dX7_times_2 : decode cX7_times 2 = .ok (.iload_n 2, 1) := dk_28 (dk_at dksX7_times_0 2 rfl rfl)
theorem dX7_times_3 : decode cX7_times 3 = .ok (.bipush 72, 2) := dk_16 72 (dk_at dksX7_times_0 3 rfl rfl)
theorem dX7_times_5 : decode cX7_times 5 = .ok (.if_icmp .ge 18, 3) := dk_162 0 18 (dk_at dksX7_times_0 5 rfl rfl)
theorem dX7_times_8 : decode cX7_times 8 = .ok (.aload_n 0, 1) := dk_42 (dk_at dksX7_times_0 8 rfl rfl)
theorem dX7_times_9 : decode cX7_times 9 = .ok (.getfield 57, 3) := dk_180 0 57 (dk_at dksX7_times_0 9 rfl rfl)
theorem dX7_times_12 : decode cX7_times 12 = .ok (.iload_n 2, 1) := dk_28 (dk_at dksX7_times_0 12 rfl rfl)
theorem dX7_times_13 : decode cX7_times 13 = .ok (.sipush 1000, 3) := dk_17 3 232 (dk_at dksX7_times_0 13 rfl rfl)
theorem dX7_times_16 : decode cX7_times 16 = .ok (.iastore, 1) := dk_79 (dk_at dksX7_times_0 16 rfl rfl)
theorem dX7_times_17 : decode cX7_times 17 = .ok (.iinc 2 1, 3) := dk_132 2 1 (dk_at dksX7_times_0 17 rfl rfl)
theorem dX7_times_20 : decode cX7_times 20 = .ok (.goto (-18), 3) := dk_167 255 238 (dk_at dksX7_times_0 20 rfl rfl)
theorem dX7_times_23 : decode cX7_times 23 = .ok (.iconst 0, 1) := dk_3 (dk_at dksX7_times_0 23 rfl rfl)
theorem dX7_times_24 : decode cX7_times 24 = .ok (.istore_n 2, 1) := dk_61 (dk_at dksX7_times_1 0 rfl rfl)
theorem dX7_times_25 : decode cX7_times 25 = .ok (.iload_n 2, 1) := dk_28 (dk_at dksX7_times_1 1 rfl rfl)
theorem dX7_times_26 : decode cX7_times 26 = .ok (.aload_n 0, 1) := dk_42 (dk_at dksX7_times_1 2 rfl rfl)
theorem dX7_times_27 : decode cX7_times 27 = .ok (.getfield 11, 3) := dk_180 0 11 (dk_at dksX7_times_1 3 rfl rfl)
theorem dX7_times_30 : decode cX7_times 30 = .ok (.iload_n 1, 1) := dk_27 (dk_at dksX7_times_1 6 rfl rfl)
theorem dX7_times_31 : decode cX7_times 31 = .ok (.iaload, 1) := dk_46 (dk_at dksX7_times_1 7 rfl rfl)
theorem dX7_times_32 : decode cX7_times 32 = .ok (.if_icmp .ge 72, 3) := dk_162 0 72 (dk_at dksX7_times_1 8 rfl rfl)
theorem dX7_times_35 : decode cX7_times 35 = .ok (.iconst 0, 1) := dk_3 (dk_at dksX7_times_1 11 rfl rfl)
theorem dX7_times_36 : decode cX7_times 36 = .ok (.istore_n 3, 1) := dk_62 (dk_at dksX7_times_1 12 rfl rfl)
theorem dX7_times_37 : decode cX7_times 37 = .ok (.iload_n 3, 1) := dk_29 (dk_at dksX7_times_1 13 rfl rfl)
theorem dX7_times_38 : decode cX7_times 38 = .ok (.aload_n 0, 1) := dk_42 (dk_at dksX7_times_1 14 rfl rfl)
theorem dX7_times_39 : decode cX7_times 39 = .ok (.iload_n 1, 1) := dk_27 (dk_at dksX7_times_1 15 rfl rfl)
theorem dX7_times_40 : decode cX7_times 40 = .ok (.iload_n 2, 1) := dk_28 (dk_at dksX7_times_1 16 rfl rfl)
theorem dX7_times_41 : decode cX7_times 41 = .ok (.invokevirtual 125, 3) := dk_182 0 125 (dk_at dksX7_times_1 17 rfl rfl)
theorem dX7_times_44 : decode cX7_times 44 = .ok (.iadd, 1) := dk_96 (dk_at dksX7_times_1 20 rfl rfl)
theorem dX7_times_45 : decode cX7_times 45 = .ok (.bipush 72, 2) := dk_16 72 (dk_at dksX7_times_1 21 rfl rfl)
theorem dX7_times_47 : decode cX7_times 47 = .ok (.if_icmp .ge 51, 3) := dk_162 0 51 (dk_at dksX7_times_2 0 rfl rfl)
theorem dX7_times_50 : decode cX7_times 50 = .ok (.aload_n 0, 1) := dk_42 (dk_at dksX7_times_2 3 rfl rfl)
theorem dX7_times_51 : decode cX7_times 51 = .ok (.getfield 57, 3) := dk_180 0 57 (dk_at dksX7_times_2 4 rfl rfl)
theorem dX7_times_54 : decode cX7_times 54 = .ok (.iload_n 3, 1) := dk_29 (dk_at dksX7_times_2 7 rfl rfl)
theorem dX7_times_55 : decode cX7_times 55 = .ok (.aload_n 0, 1) := dk_42 (dk_at dksX7_times_2 8 rfl rfl)
theorem dX7_times_56 : decode cX7_times 56 = .ok (.iload_n 1, 1) := dk_27 (dk_at dksX7_times_2 9 rfl rfl)
theorem dX7_times_57 : decode cX7_times 57 = .ok (.iload_n 2, 1) := dk_28 (dk_at dksX7_times_2 10 rfl rfl)
theorem dX7_times_58 : decode cX7_times 58 = .ok (.invokevirtual 125, 3) := dk_182 0 125 (dk_at dksX7_times_2 11 rfl rfl)
theorem dX7_times_61 : decode cX7_times 61 = .ok (.iadd, 1) := dk_96 (dk_at dksX7_times_2 14 rfl rfl)
theorem dX7_times_62 : decode cX7_times 62 = .ok (.aload_n 0, 1) := dk_42 (dk_at dksX7_times_2 15 rfl rfl)
theorem dX7_times_63 : decode cX7_times 63 = .ok (.getfield 57, 3) := dk_180 0 57 (dk_at dksX7_times_2 16 rfl rfl)
theorem dX7_times_66 : decode cX7_times 66 = .ok (.iload_n 3, 1) := dk_29 (dk_at dksX7_times_2 19 rfl rfl)
theorem dX7_times_67 : decode cX7_times 67 = .ok (.aload_n 0, 1) := dk_42 (dk_at dksX7_times_2 20 rfl rfl)
theorem dX7_times_68 : decode cX7_times 68 = .ok (.iload_n 1, 1) := dk_27 (dk_at dksX7_times_2 21 rfl rfl)
theorem dX7_times_69 : decode cX7_times 69 = .ok (.iload_n 2, 1) := dk_28 (dk_at dksX7_times_2 22 rfl rfl)
theorem dX7_times_70 : decode cX7_times 70 = .ok (.invokevirtual 125, 3) := dk_182 0 125 (dk_at dksX7_times_3 0 rfl rfl)
theorem dX7_times_73 : decode cX7_times 73 = .ok (.iadd, 1) := dk_96 (dk_at dksX7_times_3 3 rfl rfl)
theorem dX7_times_74 : decode cX7_times 74 = .ok (.iaload, 1) := dk_46 (dk_at dksX7_times_3 4 rfl rfl)
theorem dX7_times_75 : decode cX7_times 75 = .ok (.aload_n 0, 1) := dk_42 (dk_at dksX7_times_3 5 rfl rfl)
theorem dX7_times_76 : decode cX7_times 76 = .ok (.getfield 54, 3) := dk_180 0 54 (dk_at dksX7_times_3 6 rfl rfl)
theorem dX7_times_79 : decode cX7_times 79 = .ok (.iload_n 3, 1) := dk_29 (dk_at dksX7_times_3 9 rfl rfl)
theorem dX7_times_80 : decode cX7_times 80 = .ok (.iaload, 1) := dk_46 (dk_at dksX7_times_3 10 rfl rfl)
theorem dX7_times_81 : decode cX7_times 81 = .ok (.aload_n 0, 1) := dk_42 (dk_at dksX7_times_3 11 rfl rfl)
theorem dX7_times_82 : decode cX7_times 82 = .ok (.iload_n 1, 1) := dk_27 (dk_at dksX7_times_3 12 rfl rfl)
theorem dX7_times_83 : decode cX7_times 83 = .ok (.iload_n 2, 1) := dk_28 (dk_at dksX7_times_3 13 rfl rfl)
theorem dX7_times_84 : decode cX7_times 84 = .ok (.invokevirtual 129, 3) := dk_182 0 129 (dk_at dksX7_times_3 14 rfl rfl)
theorem dX7_times_87 : decode cX7_times 87 = .ok (.iadd, 1) := dk_96 (dk_at dksX7_times_3 17 rfl rfl)
theorem dX7_times_88 : decode cX7_times 88 = .ok (.invokestatic 216, 3) := dk_184 0 216 (dk_at dksX7_times_3 18 rfl rfl)
theorem dX7_times_91 : decode cX7_times 91 = .ok (.iastore, 1) := dk_79 (dk_at dksX7_times_3 21 rfl rfl)
theorem dX7_times_92 : decode cX7_times 92 = .ok (.iinc 3 1, 3) := dk_132 3 1 (dk_at dksX7_times_4 0 rfl rfl)
theorem dX7_times_95 : decode cX7_times 95 = .ok (.goto (-58), 3) := dk_167 255 198 (dk_at dksX7_times_4 3 rfl rfl)
theorem dX7_times_98 : decode cX7_times 98 = .ok (.iinc 2 1, 3) := dk_132 2 1 (dk_at dksX7_times_4 6 rfl rfl)
theorem dX7_times_101 : decode cX7_times 101 = .ok (.goto (-76), 3) := dk_167 255 180 (dk_at dksX7_times_4 9 rfl rfl)
theorem dX7_times_104 : decode cX7_times 104 = .ok (.iconst 0, 1) := dk_3 (dk_at dksX7_times_4 12 rfl rfl)
theorem dX7_times_105 : decode cX7_times 105 = .ok (.istore_n 2, 1) := dk_61 (dk_at dksX7_times_4 13 rfl rfl)
theorem dX7_times_106 : decode cX7_times 106 = .ok (.iload_n 2, 1) := dk_28 (dk_at dksX7_times_4 14 rfl rfl)
theorem dX7_times_107 : decode cX7_times 107 = .ok (.bipush 72, 2) := dk_16 72 (dk_at dksX7_times_4 15 rfl rfl)
theorem dX7_times_109 : decode cX7_times 109 = .ok (.if_icmp .ge 27, 3) := dk_162 0 27 (dk_at dksX7_times_4 17 rfl rfl)
theorem dX7_times_112 : decode cX7_times 112 = .ok (.aload_n 0, 1) := dk_42 (dk_at dksX7_times_4 20 rfl rfl)
theorem dX7_times_113 : decode cX7_times 113 = .ok (.getfield 54, 3) := dk_180 0 54 (dk_at dksX7_times_4 21 rfl rfl)
theorem dX7_times_116 : decode cX7_times 116 = .ok (.iload_n 2, 1) := dk_28 (dk_at dksX7_times_5 0 rfl rfl)
theorem dX7_times_117 : decode cX7_times 117 = .ok (.aload_n 0, 1) := dk_42 (dk_at dksX7_times_5 1 rfl rfl)
theorem dX7_times_118 : decode cX7_times 118 = .ok (.getfield 57, 3) := dk_180 0 57 (dk_at dksX7_times_5 2 rfl rfl)
theorem dX7_times_121 : decode cX7_times 121 = .ok (.iload_n 2, 1) := dk_28 (dk_at dksX7_times_5 5 rfl rfl)
theorem dX7_times_122 : decode cX7_times 122 = .ok (.iaload, 1) := dk_46 (dk_at dksX7_times_5 6 rfl rfl)
theorem dX7_times_123 : decode cX7_times 123 = .ok (.sipush 1000, 3) := dk_17 3 232 (dk_at dksX7_times_5 7 rfl rfl)
theorem dX7_times_126 : decode cX7_times 126 = .ok (.invokestatic 216, 3) := dk_184 0 216 (dk_at dksX7_times_5 10 rfl rfl)
theorem dX7_times_129 : decode cX7_times 129 = .ok (.iastore, 1) := dk_79 (dk_at dksX7_times_5 13 rfl rfl)
theorem dX7_times_130 : decode cX7_times 130 = .ok (.iinc 2 1, 3) := dk_132 2 1 (dk_at dksX7_times_5 14 rfl rfl)
theorem dX7_times_133 : decode cX7_times 133 = .ok (.goto (-27), 3) := dk_167 255 229 (dk_at dksX7_times_5 17 rfl rfl)
theorem dX7_times_136 : decode cX7_times 136 = .ok (.return_, 1) := dk_177 (dk_at dksX7_times_5 20 rfl rfl)
abbrev cX7_heightAt : ByteArray := prog_17_method_58_code
def yX7_heightAt : MethodName := ⟨RX7, "heightAt", "(I)I"⟩
def dkwX7_heightAt_1 : List UInt8 := [180, 0, 54, 27, 46, 172]
abbrev dktX7_heightAt_1 : List UInt8 := dkwX7_heightAt_1 ++ []
def dkwX7_heightAt_0 : List UInt8 := [42, 182, 1, 36, 42, 180, 0, 54, 27, 46, 17, 3, 232, 160, 0, 8, 16, 251, 167, 0, 9, 42]
abbrev dktX7_heightAt_0 : List UInt8 := dkwX7_heightAt_0 ++ dktX7_heightAt_1
theorem dksX7_heightAt_0 : cX7_heightAt.data.toList.drop 0 = dktX7_heightAt_0 := by decide +kernel
theorem dksX7_heightAt_1 : cX7_heightAt.data.toList.drop 22 = dktX7_heightAt_1 := dk_seg dksX7_heightAt_0 22 rfl rfl
theorem dX7_heightAt_0 : decode cX7_heightAt 0 = .ok (.aload_n 0, 1) := dk_42 (dk_at dksX7_heightAt_0 0 rfl rfl)
theorem dX7_heightAt_1 : decode cX7_heightAt 1 = .ok (.invokevirtual 292, 3) := dk_182 1 36 (dk_at dksX7_heightAt_0 1 rfl rfl)
theorem dX7_heightAt_4 : decode cX7_heightAt 4 = .ok (.aload_n 0, 1) := dk_42 (dk_at dksX7_heightAt_0 4 rfl rfl)
theorem dX7_heightAt_5 : decode cX7_heightAt 5 = .ok (.getfield 54, 3) := dk_180 0 54 (dk_at dksX7_heightAt_0 5 rfl rfl)
theorem dX7_heightAt_8 : decode cX7_heightAt 8 = .ok (.iload_n 1, 1) := dk_27 (dk_at dksX7_heightAt_0 8 rfl rfl)
theorem dX7_heightAt_9 : decode cX7_heightAt 9 = .ok (.iaload, 1) := dk_46 (dk_at dksX7_heightAt_0 9 rfl rfl)
theorem dX7_heightAt_10 : decode cX7_heightAt 10 = .ok (.sipush 1000, 3) := dk_17 3 232 (dk_at dksX7_heightAt_0 10 rfl rfl)
theorem dX7_heightAt_13 : decode cX7_heightAt 13 = .ok (.if_icmp .ne 8, 3) := dk_160 0 8 (dk_at dksX7_heightAt_0 13 rfl rfl)
theorem dX7_heightAt_16 : decode cX7_heightAt 16 = .ok (.bipush (-5), 2) := dk_16 251 (dk_at dksX7_heightAt_0 16 rfl rfl)
theorem dX7_heightAt_18 : decode cX7_heightAt 18 = .ok (.goto 9, 3) := dk_167 0 9 (dk_at dksX7_heightAt_0 18 rfl rfl)
theorem dX7_heightAt_21 : decode cX7_heightAt 21 = .ok (.aload_n 0, 1) := dk_42 (dk_at dksX7_heightAt_0 21 rfl rfl)
theorem dX7_heightAt_22 : decode cX7_heightAt 22 = .ok (.getfield 54, 3) := dk_180 0 54 (dk_at dksX7_heightAt_1 0 rfl rfl)
theorem dX7_heightAt_25 : decode cX7_heightAt 25 = .ok (.iload_n 1, 1) := dk_27 (dk_at dksX7_heightAt_1 3 rfl rfl)
theorem dX7_heightAt_26 : decode cX7_heightAt 26 = .ok (.iaload, 1) := dk_46 (dk_at dksX7_heightAt_1 4 rfl rfl)
theorem dX7_heightAt_27 : decode cX7_heightAt 27 = .ok (.ireturn, 1) := dk_172 (dk_at dksX7_heightAt_1 5 rfl rfl)
abbrev cX7_settles : ByteArray := prog_17_method_56_code
def yX7_settles : MethodName := ⟨RX7, "settles", "()V"⟩
def dkwX7_settles_1 : List UInt8 := [4, 100, 46, 184, 0, 216, 79, 132, 1, 1, 167, 255, 224, 177]
abbrev dktX7_settles_1 : List UInt8 := dkwX7_settles_1 ++ []
def dkwX7_settles_0 : List UInt8 := [4, 60, 27, 16, 72, 162, 0, 32, 42, 180, 0, 54, 27, 42, 180, 0, 54, 27, 46, 42, 180, 0, 54, 27]
abbrev dktX7_settles_0 : List UInt8 := dkwX7_settles_0 ++ dktX7_settles_1
theorem dksX7_settles_0 : cX7_settles.data.toList.drop 0 = dktX7_settles_0 := by decide +kernel
theorem dksX7_settles_1 : cX7_settles.data.toList.drop 24 = dktX7_settles_1 := dk_seg dksX7_settles_0 24 rfl rfl
theorem dX7_settles_0 : decode cX7_settles 0 = .ok (.iconst 1, 1) := dk_4 (dk_at dksX7_settles_0 0 rfl rfl)
theorem dX7_settles_1 : decode cX7_settles 1 = .ok (.istore_n 1, 1) := dk_60 (dk_at dksX7_settles_0 1 rfl rfl)
theorem dX7_settles_2 : decode cX7_settles 2 = .ok (.iload_n 1, 1) := dk_27 (dk_at dksX7_settles_0 2 rfl rfl)
theorem dX7_settles_3 : decode cX7_settles 3 = .ok (.bipush 72, 2) := dk_16 72 (dk_at dksX7_settles_0 3 rfl rfl)
theorem dX7_settles_5 : decode cX7_settles 5 = .ok (.if_icmp .ge 32, 3) := dk_162 0 32 (dk_at dksX7_settles_0 5 rfl rfl)
theorem dX7_settles_8 : decode cX7_settles 8 = .ok (.aload_n 0, 1) := dk_42 (dk_at dksX7_settles_0 8 rfl rfl)
theorem dX7_settles_9 : decode cX7_settles 9 = .ok (.getfield 54, 3) := dk_180 0 54 (dk_at dksX7_settles_0 9 rfl rfl)
theorem dX7_settles_12 : decode cX7_settles 12 = .ok (.iload_n 1, 1) := dk_27 (dk_at dksX7_settles_0 12 rfl rfl)
theorem dX7_settles_13 : decode cX7_settles 13 = .ok (.aload_n 0, 1) := dk_42 (dk_at dksX7_settles_0 13 rfl rfl)
theorem dX7_settles_14 : decode cX7_settles 14 = .ok (.getfield 54, 3) := dk_180 0 54 (dk_at dksX7_settles_0 14 rfl rfl)
theorem dX7_settles_17 : decode cX7_settles 17 = .ok (.iload_n 1, 1) := dk_27 (dk_at dksX7_settles_0 17 rfl rfl)
theorem dX7_settles_18 : decode cX7_settles 18 = .ok (.iaload, 1) := dk_46 (dk_at dksX7_settles_0 18 rfl rfl)
theorem dX7_settles_19 : decode cX7_settles 19 = .ok (.aload_n 0, 1) := dk_42 (dk_at dksX7_settles_0 19 rfl rfl)
theorem dX7_settles_20 : decode cX7_settles 20 = .ok (.getfield 54, 3) := dk_180 0 54 (dk_at dksX7_settles_0 20 rfl rfl)
theorem dX7_settles_23 : decode cX7_settles 23 = .ok (.iload_n 1, 1) := dk_27 (dk_at dksX7_settles_0 23 rfl rfl)
theorem dX7_settles_24 : decode cX7_settles 24 = .ok (.iconst 1, 1) := dk_4 (dk_at dksX7_settles_1 0 rfl rfl)
theorem dX7_settles_25 : decode cX7_settles 25 = .ok (.isub, 1) := dk_100 (dk_at dksX7_settles_1 1 rfl rfl)
theorem dX7_settles_26 : decode cX7_settles 26 = .ok (.iaload, 1) := dk_46 (dk_at dksX7_settles_1 2 rfl rfl)
theorem dX7_settles_27 : decode cX7_settles 27 = .ok (.invokestatic 216, 3) := dk_184 0 216 (dk_at dksX7_settles_1 3 rfl rfl)
theorem dX7_settles_30 : decode cX7_settles 30 = .ok (.iastore, 1) := dk_79 (dk_at dksX7_settles_1 6 rfl rfl)
theorem dX7_settles_31 : decode cX7_settles 31 = .ok (.iinc 1 1, 3) := dk_132 1 1 (dk_at dksX7_settles_1 7 rfl rfl)
theorem dX7_settles_34 : decode cX7_settles 34 = .ok (.goto (-32), 3) := dk_167 255 224 (dk_at dksX7_settles_1 10 rfl rfl)
theorem dX7_settles_37 : decode cX7_settles 37 = .ok (.return_, 1) := dk_177 (dk_at dksX7_settles_1 13 rfl rfl)
abbrev cX7_sumHeight : ByteArray := prog_17_method_60_code
def yX7_sumHeight : MethodName := ⟨RX7, "sumHeight", "(I)I"⟩
def dkwX7_sumHeight_1 : List UInt8 := [29, 16, 251, 160, 0, 7, 28, 167, 0, 8, 28, 29, 184, 0, 216, 172]
abbrev dktX7_sumHeight_1 : List UInt8 := dkwX7_sumHeight_1 ++ []
def dkwX7_sumHeight_0 : List UInt8 := [42, 3, 27, 182, 1, 45, 61, 42, 4, 27, 182, 1, 45, 62, 28, 16, 251, 160, 0, 7, 29, 167, 0, 18]
abbrev dktX7_sumHeight_0 : List UInt8 := dkwX7_sumHeight_0 ++ dktX7_sumHeight_1
theorem dksX7_sumHeight_0 : cX7_sumHeight.data.toList.drop 0 = dktX7_sumHeight_0 := by decide +kernel
theorem dksX7_sumHeight_1 : cX7_sumHeight.data.toList.drop 24 = dktX7_sumHeight_1 := dk_seg dksX7_sumHeight_0 24 rfl rfl
theorem dX7_sumHeight_0 : decode cX7_sumHeight 0 = .ok (.aload_n 0, 1) := dk_42 (dk_at dksX7_sumHeight_0 0 rfl rfl)
theorem dX7_sumHeight_1 : decode cX7_sumHeight 1 = .ok (.iconst 0, 1) := dk_3 (dk_at dksX7_sumHeight_0 1 rfl rfl)
theorem dX7_sumHeight_2 : decode cX7_sumHeight 2 = .ok (.iload_n 1, 1) := dk_27 (dk_at dksX7_sumHeight_0 2 rfl rfl)
theorem dX7_sumHeight_3 : decode cX7_sumHeight 3 = .ok (.invokevirtual 301, 3) := dk_182 1 45 (dk_at dksX7_sumHeight_0 3 rfl rfl)
theorem dX7_sumHeight_6 : decode cX7_sumHeight 6 = .ok (.istore_n 2, 1) := dk_61 (dk_at dksX7_sumHeight_0 6 rfl rfl)
theorem dX7_sumHeight_7 : decode cX7_sumHeight 7 = .ok (.aload_n 0, 1) := dk_42 (dk_at dksX7_sumHeight_0 7 rfl rfl)
theorem dX7_sumHeight_8 : decode cX7_sumHeight 8 = .ok (.iconst 1, 1) := dk_4 (dk_at dksX7_sumHeight_0 8 rfl rfl)
theorem dX7_sumHeight_9 : decode cX7_sumHeight 9 = .ok (.iload_n 1, 1) := dk_27 (dk_at dksX7_sumHeight_0 9 rfl rfl)
theorem dX7_sumHeight_10 : decode cX7_sumHeight 10 = .ok (.invokevirtual 301, 3) := dk_182 1 45 (dk_at dksX7_sumHeight_0 10 rfl rfl)
theorem dX7_sumHeight_13 : decode cX7_sumHeight 13 = .ok (.istore_n 3, 1) := dk_62 (dk_at dksX7_sumHeight_0 13 rfl rfl)
theorem dX7_sumHeight_14 : decode cX7_sumHeight 14 = .ok (.iload_n 2, 1) := dk_28 (dk_at dksX7_sumHeight_0 14 rfl rfl)
theorem dX7_sumHeight_15 : decode cX7_sumHeight 15 = .ok (.bipush (-5), 2) := dk_16 251 (dk_at dksX7_sumHeight_0 15 rfl rfl)
theorem dX7_sumHeight_17 : decode cX7_sumHeight 17 = .ok (.if_icmp .ne 7, 3) := dk_160 0 7 (dk_at dksX7_sumHeight_0 17 rfl rfl)
theorem dX7_sumHeight_20 : decode cX7_sumHeight 20 = .ok (.iload_n 3, 1) := dk_29 (dk_at dksX7_sumHeight_0 20 rfl rfl)
theorem dX7_sumHeight_21 : decode cX7_sumHeight 21 = .ok (.goto 18, 3) := dk_167 0 18 (dk_at dksX7_sumHeight_0 21 rfl rfl)
theorem dX7_sumHeight_24 : decode cX7_sumHeight 24 = .ok (.iload_n 3, 1) := dk_29 (dk_at dksX7_sumHeight_1 0 rfl rfl)
theorem dX7_sumHeight_25 : decode cX7_sumHeight 25 = .ok (.bipush (-5), 2) := dk_16 251 (dk_at dksX7_sumHeight_1 1 rfl rfl)
theorem dX7_sumHeight_27 : decode cX7_sumHeight 27 = .ok (.if_icmp .ne 7, 3) := dk_160 0 7 (dk_at dksX7_sumHeight_1 3 rfl rfl)
theorem dX7_sumHeight_30 : decode cX7_sumHeight 30 = .ok (.iload_n 2, 1) := dk_28 (dk_at dksX7_sumHeight_1 6 rfl rfl)
theorem dX7_sumHeight_31 : decode cX7_sumHeight 31 = .ok (.goto 8, 3) := dk_167 0 8 (dk_at dksX7_sumHeight_1 7 rfl rfl)
theorem dX7_sumHeight_34 : decode cX7_sumHeight 34 = .ok (.iload_n 2, 1) := dk_28 (dk_at dksX7_sumHeight_1 10 rfl rfl)
theorem dX7_sumHeight_35 : decode cX7_sumHeight 35 = .ok (.iload_n 3, 1) := dk_29 (dk_at dksX7_sumHeight_1 11 rfl rfl)
theorem dX7_sumHeight_36 : decode cX7_sumHeight 36 = .ok (.invokestatic 216, 3) := dk_184 0 216 (dk_at dksX7_sumHeight_1 12 rfl rfl)
theorem dX7_sumHeight_39 : decode cX7_sumHeight 39 = .ok (.ireturn, 1) := dk_172 (dk_at dksX7_sumHeight_1 15 rfl rfl)
abbrev cX7_reduces : ByteArray := prog_17_method_64_code
def yX7_reduces : MethodName := ⟨RX7, "reduces", "(I)I"⟩
def dkwX7_reduces_2 : List UInt8 := [132, 2, 1, 167, 255, 237, 16, 251, 172]
abbrev dktX7_reduces_2 : List UInt8 := dkwX7_reduces_2 ++ []
def dkwX7_reduces_1 : List UInt8 := [167, 0, 4, 3, 172, 3, 61, 28, 16, 6, 162, 0, 19, 42, 28, 182, 1, 61, 153, 0, 5, 28, 172]
abbrev dktX7_reduces_1 : List UInt8 := dkwX7_reduces_1 ++ dktX7_reduces_2
def dkwX7_reduces_0 : List UInt8 := [27, 133, 9, 10, 184, 0, 115, 154, 0, 5, 2, 172, 27, 154, 0, 16, 42, 182, 1, 57, 153, 0, 7, 4]
abbrev dktX7_reduces_0 : List UInt8 := dkwX7_reduces_0 ++ dktX7_reduces_1
theorem dksX7_reduces_0 : cX7_reduces.data.toList.drop 0 = dktX7_reduces_0 := by decide +kernel
theorem dksX7_reduces_1 : cX7_reduces.data.toList.drop 24 = dktX7_reduces_1 := dk_seg dksX7_reduces_0 24 rfl rfl
theorem dksX7_reduces_2 : cX7_reduces.data.toList.drop 47 = dktX7_reduces_2 := dk_seg dksX7_reduces_1 23 rfl rfl
theorem dX7_reduces_0 : decode cX7_reduces 0 = .ok (.iload_n 1, 1) := dk_27 (dk_at dksX7_reduces_0 0 rfl rfl)
theorem dX7_reduces_1 : decode cX7_reduces 1 = .ok (.i2l, 1) := dk_133 (dk_at dksX7_reduces_0 1 rfl rfl)
theorem dX7_reduces_2 : decode cX7_reduces 2 = .ok (.lconst 0, 1) := dk_9 (dk_at dksX7_reduces_0 2 rfl rfl)
theorem dX7_reduces_3 : decode cX7_reduces 3 = .ok (.lconst 1, 1) := dk_10 (dk_at dksX7_reduces_0 3 rfl rfl)
theorem dX7_reduces_4 : decode cX7_reduces 4 = .ok (.invokestatic 115, 3) := dk_184 0 115 (dk_at dksX7_reduces_0 4 rfl rfl)
theorem dX7_reduces_7 : decode cX7_reduces 7 = .ok (.ifCond .ne 5, 3) := dk_154 0 5 (dk_at dksX7_reduces_0 7 rfl rfl)
theorem dX7_reduces_10 : decode cX7_reduces 10 = .ok (.iconst (-1), 1) := dk_2 (dk_at dksX7_reduces_0 10 rfl rfl)
theorem dX7_reduces_11 : decode cX7_reduces 11 = .ok (.ireturn, 1) := dk_172 (dk_at dksX7_reduces_0 11 rfl rfl)
theorem dX7_reduces_12 : decode cX7_reduces 12 = .ok (.iload_n 1, 1) := dk_27 (dk_at dksX7_reduces_0 12 rfl rfl)
theorem dX7_reduces_13 : decode cX7_reduces 13 = .ok (.ifCond .ne 16, 3) := dk_154 0 16 (dk_at dksX7_reduces_0 13 rfl rfl)
theorem dX7_reduces_16 : decode cX7_reduces 16 = .ok (.aload_n 0, 1) := dk_42 (dk_at dksX7_reduces_0 16 rfl rfl)
theorem dX7_reduces_17 : decode cX7_reduces 17 = .ok (.invokevirtual 313, 3) := dk_182 1 57 (dk_at dksX7_reduces_0 17 rfl rfl)
theorem dX7_reduces_20 : decode cX7_reduces 20 = .ok (.ifCond .eq 7, 3) := dk_153 0 7 (dk_at dksX7_reduces_0 20 rfl rfl)
theorem dX7_reduces_23 : decode cX7_reduces 23 = .ok (.iconst 1, 1) := dk_4 (dk_at dksX7_reduces_0 23 rfl rfl)
theorem dX7_reduces_24 : decode cX7_reduces 24 = .ok (.goto 4, 3) := dk_167 0 4 (dk_at dksX7_reduces_1 0 rfl rfl)
theorem dX7_reduces_27 : decode cX7_reduces 27 = .ok (.iconst 0, 1) := dk_3 (dk_at dksX7_reduces_1 3 rfl rfl)
theorem dX7_reduces_28 : decode cX7_reduces 28 = .ok (.ireturn, 1) := dk_172 (dk_at dksX7_reduces_1 4 rfl rfl)
theorem dX7_reduces_29 : decode cX7_reduces 29 = .ok (.iconst 0, 1) := dk_3 (dk_at dksX7_reduces_1 5 rfl rfl)
theorem dX7_reduces_30 : decode cX7_reduces 30 = .ok (.istore_n 2, 1) := dk_61 (dk_at dksX7_reduces_1 6 rfl rfl)
theorem dX7_reduces_31 : decode cX7_reduces 31 = .ok (.iload_n 2, 1) := dk_28 (dk_at dksX7_reduces_1 7 rfl rfl)
theorem dX7_reduces_32 : decode cX7_reduces 32 = .ok (.bipush 6, 2) := dk_16 6 (dk_at dksX7_reduces_1 8 rfl rfl)
theorem dX7_reduces_34 : decode cX7_reduces 34 = .ok (.if_icmp .ge 19, 3) := dk_162 0 19 (dk_at dksX7_reduces_1 10 rfl rfl)
theorem dX7_reduces_37 : decode cX7_reduces 37 = .ok (.aload_n 0, 1) := dk_42 (dk_at dksX7_reduces_1 13 rfl rfl)
theorem dX7_reduces_38 : decode cX7_reduces 38 = .ok (.iload_n 2, 1) := dk_28 (dk_at dksX7_reduces_1 14 rfl rfl)
theorem dX7_reduces_39 : decode cX7_reduces 39 = .ok (.invokevirtual 317, 3) := dk_182 1 61 (dk_at dksX7_reduces_1 15 rfl rfl)
theorem dX7_reduces_42 : decode cX7_reduces 42 = .ok (.ifCond .eq 5, 3) := dk_153 0 5 (dk_at dksX7_reduces_1 18 rfl rfl)
theorem dX7_reduces_45 : decode cX7_reduces 45 = .ok (.iload_n 2, 1) := dk_28 (dk_at dksX7_reduces_1 21 rfl rfl)
theorem dX7_reduces_46 : decode cX7_reduces 46 = .ok (.ireturn, 1) := dk_172 (dk_at dksX7_reduces_1 22 rfl rfl)
theorem dX7_reduces_47 : decode cX7_reduces 47 = .ok (.iinc 2 1, 3) := dk_132 2 1 (dk_at dksX7_reduces_2 0 rfl rfl)
theorem dX7_reduces_50 : decode cX7_reduces 50 = .ok (.goto (-19), 3) := dk_167 255 237 (dk_at dksX7_reduces_2 3 rfl rfl)
theorem dX7_reduces_53 : decode cX7_reduces 53 = .ok (.bipush (-5), 2) := dk_16 251 (dk_at dksX7_reduces_2 6 rfl rfl)
theorem dX7_reduces_55 : decode cX7_reduces 55 = .ok (.ireturn, 1) := dk_172 (dk_at dksX7_reduces_2 8 rfl rfl)
abbrev cX7_isReduction : ByteArray := prog_17_method_62_code
def yX7_isReduction : MethodName := ⟨RX7, "isReduction", "()Z"⟩
def dkwX7_isReduction_5 : List UInt8 := [167, 255, 214, 27, 172]
abbrev dktX7_isReduction_5 : List UInt8 := dkwX7_isReduction_5 ++ []
def dkwX7_isReduction_4 : List UInt8 := [182, 0, 125, 42, 4, 28, 182, 0, 129, 182, 0, 163, 153, 0, 7, 4, 167, 0, 4, 3, 60, 132, 2, 1]
abbrev dktX7_isReduction_4 : List UInt8 := dkwX7_isReduction_4 ++ dktX7_isReduction_5
def dkwX7_isReduction_3 : List UInt8 := [182, 0, 166, 3, 61, 28, 42, 180, 0, 11, 4, 46, 162, 0, 38, 27, 153, 0, 26, 42, 42, 4, 28]
abbrev dktX7_isReduction_3 : List UInt8 := dkwX7_isReduction_3 ++ dktX7_isReduction_4
def dkwX7_isReduction_2 : List UInt8 := [28, 182, 0, 129, 182, 0, 234, 153, 0, 7, 4, 167, 0, 4, 3, 60, 132, 2, 1, 167, 255, 213, 42, 3]
abbrev dktX7_isReduction_2 : List UInt8 := dkwX7_isReduction_2 ++ dktX7_isReduction_3
def dkwX7_isReduction_1 : List UInt8 := [28, 42, 180, 0, 11, 3, 46, 162, 0, 39, 27, 153, 0, 27, 42, 4, 42, 3, 28, 182, 0, 125, 42, 3]
abbrev dktX7_isReduction_1 : List UInt8 := dkwX7_isReduction_1 ++ dktX7_isReduction_2
def dkwX7_isReduction_0 : List UInt8 := [42, 180, 0, 11, 3, 46, 153, 0, 12, 42, 180, 0, 11, 4, 46, 154, 0, 5, 3, 172, 4, 60, 3, 61]
abbrev dktX7_isReduction_0 : List UInt8 := dkwX7_isReduction_0 ++ dktX7_isReduction_1
theorem dksX7_isReduction_0 : cX7_isReduction.data.toList.drop 0 = dktX7_isReduction_0 := by decide +kernel
theorem dksX7_isReduction_1 : cX7_isReduction.data.toList.drop 24 = dktX7_isReduction_1 := dk_seg dksX7_isReduction_0 24 rfl rfl
theorem dksX7_isReduction_2 : cX7_isReduction.data.toList.drop 48 = dktX7_isReduction_2 := dk_seg dksX7_isReduction_1 24 rfl rfl
theorem dksX7_isReduction_3 : cX7_isReduction.data.toList.drop 72 = dktX7_isReduction_3 := dk_seg dksX7_isReduction_2 24 rfl rfl
theorem dksX7_isReduction_4 : cX7_isReduction.data.toList.drop 95 = dktX7_isReduction_4 := dk_seg dksX7_isReduction_3 23 rfl rfl
theorem dksX7_isReduction_5 : cX7_isReduction.data.toList.drop 119 = dktX7_isReduction_5 := dk_seg dksX7_isReduction_4 24 rfl rfl
theorem dX7_isReduction_0 : decode cX7_isReduction 0 = .ok (.aload_n 0, 1) := dk_42 (dk_at dksX7_isReduction_0 0 rfl rfl)
theorem dX7_isReduction_1 : decode cX7_isReduction 1 = .ok (.getfield 11, 3) := dk_180 0 11 (dk_at dksX7_isReduction_0 1 rfl rfl)
theorem dX7_isReduction_4 : decode cX7_isReduction 4 = .ok (.iconst 0, 1) := dk_3 (dk_at dksX7_isReduction_0 4 rfl rfl)
theorem dX7_isReduction_5 : decode cX7_isReduction 5 = .ok (.iaload, 1) := dk_46 (dk_at dksX7_isReduction_0 5 rfl rfl)
theorem dX7_isReduction_6 : decode cX7_isReduction 6 = .ok (.ifCond .eq 12, 3) := dk_153 0 12 (dk_at dksX7_isReduction_0 6 rfl rfl)
theorem dX7_isReduction_9 : decode cX7_isReduction 9 = .ok (.aload_n 0, 1) := dk_42 (dk_at dksX7_isReduction_0 9 rfl rfl)
theorem dX7_isReduction_10 : decode cX7_isReduction 10 = .ok (.getfield 11, 3) := dk_180 0 11 (dk_at dksX7_isReduction_0 10 rfl rfl)
theorem dX7_isReduction_13 : decode cX7_isReduction 13 = .ok (.iconst 1, 1) := dk_4 (dk_at dksX7_isReduction_0 13 rfl rfl)
theorem dX7_isReduction_14 : decode cX7_isReduction 14 = .ok (.iaload, 1) := dk_46 (dk_at dksX7_isReduction_0 14 rfl rfl)
theorem dX7_isReduction_15 : decode cX7_isReduction 15 = .ok (.ifCond .ne 5, 3) := dk_154 0 5 (dk_at dksX7_isReduction_0 15 rfl rfl)
theorem dX7_isReduction_18 : decode cX7_isReduction 18 = .ok (.iconst 0, 1) := dk_3 (dk_at dksX7_isReduction_0 18 rfl rfl)
theorem dX7_isReduction_19 : decode cX7_isReduction 19 = .ok (.ireturn, 1) := dk_172 (dk_at dksX7_isReduction_0 19 rfl rfl)
theorem dX7_isReduction_20 : decode cX7_isReduction 20 = .ok (.iconst 1, 1) := dk_4 (dk_at dksX7_isReduction_0 20 rfl rfl)
theorem dX7_isReduction_21 : decode cX7_isReduction 21 = .ok (.istore_n 1, 1) := dk_60 (dk_at dksX7_isReduction_0 21 rfl rfl)
theorem dX7_isReduction_22 : decode cX7_isReduction 22 = .ok (.iconst 0, 1) := dk_3 (dk_at dksX7_isReduction_0 22 rfl rfl)
theorem dX7_isReduction_23 : decode cX7_isReduction 23 = .ok (.istore_n 2, 1) := dk_61 (dk_at dksX7_isReduction_0 23 rfl rfl)
theorem dX7_isReduction_24 : decode cX7_isReduction 24 = .ok (.iload_n 2, 1) := dk_28 (dk_at dksX7_isReduction_1 0 rfl rfl)
theorem dX7_isReduction_25 : decode cX7_isReduction 25 = .ok (.aload_n 0, 1) := dk_42 (dk_at dksX7_isReduction_1 1 rfl rfl)
theorem dX7_isReduction_26 : decode cX7_isReduction 26 = .ok (.getfield 11, 3) := dk_180 0 11 (dk_at dksX7_isReduction_1 2 rfl rfl)
theorem dX7_isReduction_29 : decode cX7_isReduction 29 = .ok (.iconst 0, 1) := dk_3 (dk_at dksX7_isReduction_1 5 rfl rfl)
theorem dX7_isReduction_30 : decode cX7_isReduction 30 = .ok (.iaload, 1) := dk_46 (dk_at dksX7_isReduction_1 6 rfl rfl)
theorem dX7_isReduction_31 : decode cX7_isReduction 31 = .ok (.if_icmp .ge 39, 3) := dk_162 0 39 (dk_at dksX7_isReduction_1 7 rfl rfl)
theorem dX7_isReduction_34 : decode cX7_isReduction 34 = .ok (.iload_n 1, 1) := dk_27 (dk_at dksX7_isReduction_1 10 rfl rfl)
theorem dX7_isReduction_35 : decode cX7_isReduction 35 = .ok (.ifCond .eq 27, 3) := dk_153 0 27 (dk_at dksX7_isReduction_1 11 rfl rfl)
theorem dX7_isReduction_38 : decode cX7_isReduction 38 = .ok (.aload_n 0, 1) := dk_42 (dk_at dksX7_isReduction_1 14 rfl rfl)
theorem dX7_isReduction_39 : decode cX7_isReduction 39 = .ok (.iconst 1, 1) := dk_4 (dk_at dksX7_isReduction_1 15 rfl rfl)
theorem dX7_isReduction_40 : decode cX7_isReduction 40 = .ok (.aload_n 0, 1) := dk_42 (dk_at dksX7_isReduction_1 16 rfl rfl)
theorem dX7_isReduction_41 : decode cX7_isReduction 41 = .ok (.iconst 0, 1) := dk_3 (dk_at dksX7_isReduction_1 17 rfl rfl)
theorem dX7_isReduction_42 : decode cX7_isReduction 42 = .ok (.iload_n 2, 1) := dk_28 (dk_at dksX7_isReduction_1 18 rfl rfl)
theorem dX7_isReduction_43 : decode cX7_isReduction 43 = .ok (.invokevirtual 125, 3) := dk_182 0 125 (dk_at dksX7_isReduction_1 19 rfl rfl)
theorem dX7_isReduction_46 : decode cX7_isReduction 46 = .ok (.aload_n 0, 1) := dk_42 (dk_at dksX7_isReduction_1 22 rfl rfl)
theorem dX7_isReduction_47 : decode cX7_isReduction 47 = .ok (.iconst 0, 1) := dk_3 (dk_at dksX7_isReduction_1 23 rfl rfl)
theorem dX7_isReduction_48 : decode cX7_isReduction 48 = .ok (.iload_n 2, 1) := dk_28 (dk_at dksX7_isReduction_2 0 rfl rfl)
theorem dX7_isReduction_49 : decode cX7_isReduction 49 = .ok (.invokevirtual 129, 3) := dk_182 0 129 (dk_at dksX7_isReduction_2 1 rfl rfl)
theorem dX7_isReduction_52 : decode cX7_isReduction 52 = .ok (.invokevirtual 234, 3) := dk_182 0 234 (dk_at dksX7_isReduction_2 4 rfl rfl)
theorem dX7_isReduction_55 : decode cX7_isReduction 55 = .ok (.ifCond .eq 7, 3) := dk_153 0 7 (dk_at dksX7_isReduction_2 7 rfl rfl)
theorem dX7_isReduction_58 : decode cX7_isReduction 58 = .ok (.iconst 1, 1) := dk_4 (dk_at dksX7_isReduction_2 10 rfl rfl)
theorem dX7_isReduction_59 : decode cX7_isReduction 59 = .ok (.goto 4, 3) := dk_167 0 4 (dk_at dksX7_isReduction_2 11 rfl rfl)
theorem dX7_isReduction_62 : decode cX7_isReduction 62 = .ok (.iconst 0, 1) := dk_3 (dk_at dksX7_isReduction_2 14 rfl rfl)
theorem dX7_isReduction_63 : decode cX7_isReduction 63 = .ok (.istore_n 1, 1) := dk_60 (dk_at dksX7_isReduction_2 15 rfl rfl)
theorem dX7_isReduction_64 : decode cX7_isReduction 64 = .ok (.iinc 2 1, 3) := dk_132 2 1 (dk_at dksX7_isReduction_2 16 rfl rfl)
theorem dX7_isReduction_67 : decode cX7_isReduction 67 = .ok (.goto (-43), 3) := dk_167 255 213 (dk_at dksX7_isReduction_2 19 rfl rfl)
theorem dX7_isReduction_70 : decode cX7_isReduction 70 = .ok (.aload_n 0, 1) := dk_42 (dk_at dksX7_isReduction_2 22 rfl rfl)
theorem dX7_isReduction_71 : decode cX7_isReduction 71 = .ok (.iconst 0, 1) := dk_3 (dk_at dksX7_isReduction_2 23 rfl rfl)
theorem dX7_isReduction_72 : decode cX7_isReduction 72 = .ok (.invokevirtual 166, 3) := dk_182 0 166 (dk_at dksX7_isReduction_3 0 rfl rfl)
theorem dX7_isReduction_75 : decode cX7_isReduction 75 = .ok (.iconst 0, 1) := dk_3 (dk_at dksX7_isReduction_3 3 rfl rfl)
theorem dX7_isReduction_76 : decode cX7_isReduction 76 = .ok (.istore_n 2, 1) := dk_61 (dk_at dksX7_isReduction_3 4 rfl rfl)
theorem dX7_isReduction_77 : decode cX7_isReduction 77 = .ok (.iload_n 2, 1) := dk_28 (dk_at dksX7_isReduction_3 5 rfl rfl)
theorem dX7_isReduction_78 : decode cX7_isReduction 78 = .ok (.aload_n 0, 1) := dk_42 (dk_at dksX7_isReduction_3 6 rfl rfl)
theorem dX7_isReduction_79 : decode cX7_isReduction 79 = .ok (.getfield 11, 3) := dk_180 0 11 (dk_at dksX7_isReduction_3 7 rfl rfl)
theorem dX7_isReduction_82 : decode cX7_isReduction 82 = .ok (.iconst 1, 1) := dk_4 (dk_at dksX7_isReduction_3 10 rfl rfl)
theorem dX7_isReduction_83 : decode cX7_isReduction 83 = .ok (.iaload, 1) := dk_46 (dk_at dksX7_isReduction_3 11 rfl rfl)
theorem dX7_isReduction_84 : decode cX7_isReduction 84 = .ok (.if_icmp .ge 38, 3) := dk_162 0 38 (dk_at dksX7_isReduction_3 12 rfl rfl)
theorem dX7_isReduction_87 : decode cX7_isReduction 87 = .ok (.iload_n 1, 1) := dk_27 (dk_at dksX7_isReduction_3 15 rfl rfl)
theorem dX7_isReduction_88 : decode cX7_isReduction 88 = .ok (.ifCond .eq 26, 3) := dk_153 0 26 (dk_at dksX7_isReduction_3 16 rfl rfl)
theorem dX7_isReduction_91 : decode cX7_isReduction 91 = .ok (.aload_n 0, 1) := dk_42 (dk_at dksX7_isReduction_3 19 rfl rfl)
theorem dX7_isReduction_92 : decode cX7_isReduction 92 = .ok (.aload_n 0, 1) := dk_42 (dk_at dksX7_isReduction_3 20 rfl rfl)
theorem dX7_isReduction_93 : decode cX7_isReduction 93 = .ok (.iconst 1, 1) := dk_4 (dk_at dksX7_isReduction_3 21 rfl rfl)
theorem dX7_isReduction_94 : decode cX7_isReduction 94 = .ok (.iload_n 2, 1) := dk_28 (dk_at dksX7_isReduction_3 22 rfl rfl)
theorem dX7_isReduction_95 : decode cX7_isReduction 95 = .ok (.invokevirtual 125, 3) := dk_182 0 125 (dk_at dksX7_isReduction_4 0 rfl rfl)
theorem dX7_isReduction_98 : decode cX7_isReduction 98 = .ok (.aload_n 0, 1) := dk_42 (dk_at dksX7_isReduction_4 3 rfl rfl)
theorem dX7_isReduction_99 : decode cX7_isReduction 99 = .ok (.iconst 1, 1) := dk_4 (dk_at dksX7_isReduction_4 4 rfl rfl)
theorem dX7_isReduction_100 : decode cX7_isReduction 100 = .ok (.iload_n 2, 1) := dk_28 (dk_at dksX7_isReduction_4 5 rfl rfl)
theorem dX7_isReduction_101 : decode cX7_isReduction 101 = .ok (.invokevirtual 129, 3) := dk_182 0 129 (dk_at dksX7_isReduction_4 6 rfl rfl)
theorem dX7_isReduction_104 : decode cX7_isReduction 104 = .ok (.invokevirtual 163, 3) := dk_182 0 163 (dk_at dksX7_isReduction_4 9 rfl rfl)
theorem dX7_isReduction_107 : decode cX7_isReduction 107 = .ok (.ifCond .eq 7, 3) := dk_153 0 7 (dk_at dksX7_isReduction_4 12 rfl rfl)
theorem dX7_isReduction_110 : decode cX7_isReduction 110 = .ok (.iconst 1, 1) := dk_4 (dk_at dksX7_isReduction_4 15 rfl rfl)
theorem dX7_isReduction_111 : decode cX7_isReduction 111 = .ok (.goto 4, 3) := dk_167 0 4 (dk_at dksX7_isReduction_4 16 rfl rfl)
theorem dX7_isReduction_114 : decode cX7_isReduction 114 = .ok (.iconst 0, 1) := dk_3 (dk_at dksX7_isReduction_4 19 rfl rfl)
theorem dX7_isReduction_115 : decode cX7_isReduction 115 = .ok (.istore_n 1, 1) := dk_60 (dk_at dksX7_isReduction_4 20 rfl rfl)
theorem dX7_isReduction_116 : decode cX7_isReduction 116 = .ok (.iinc 2 1, 3) := dk_132 2 1 (dk_at dksX7_isReduction_4 21 rfl rfl)
theorem dX7_isReduction_119 : decode cX7_isReduction 119 = .ok (.goto (-42), 3) := dk_167 255 214 (dk_at dksX7_isReduction_5 0 rfl rfl)
theorem dX7_isReduction_122 : decode cX7_isReduction 122 = .ok (.iload_n 1, 1) := dk_27 (dk_at dksX7_isReduction_5 3 rfl rfl)
theorem dX7_isReduction_123 : decode cX7_isReduction 123 = .ok (.ireturn, 1) := dk_172 (dk_at dksX7_isReduction_5 4 rfl rfl)
abbrev cX7_isMetBy : ByteArray := prog_17_method_63_code
def yX7_isMetBy : MethodName := ⟨RX7, "isMetBy", "(I)Z"⟩
def dkwX7_isMetBy_4 : List UInt8 := [167, 255, 222, 28, 172]
abbrev dktX7_isMetBy_4 : List UInt8 := dkwX7_isMetBy_4 ++ []
def dkwX7_isMetBy_3 : List UInt8 := [180, 0, 60, 29, 46, 42, 180, 0, 54, 29, 46, 160, 0, 7, 4, 167, 0, 4, 3, 61, 132, 3, 1]
abbrev dktX7_isMetBy_3 : List UInt8 := dkwX7_isMetBy_3 ++ dktX7_isMetBy_4
def dkwX7_isMetBy_2 : List UInt8 := [182, 1, 39, 42, 182, 1, 36, 4, 61, 3, 62, 29, 16, 72, 162, 0, 34, 28, 153, 0, 22, 42]
abbrev dktX7_isMetBy_2 : List UInt8 := dkwX7_isMetBy_2 ++ dktX7_isMetBy_3
def dkwX7_isMetBy_1 : List UInt8 := [180, 0, 60, 28, 42, 180, 0, 54, 28, 46, 79, 132, 2, 1, 167, 255, 235, 42, 4, 27, 4, 96]
abbrev dktX7_isMetBy_1 : List UInt8 := dkwX7_isMetBy_1 ++ dktX7_isMetBy_2
def dkwX7_isMetBy_0 : List UInt8 := [42, 4, 27, 182, 1, 39, 42, 3, 182, 1, 33, 42, 182, 1, 36, 3, 61, 28, 16, 72, 162, 0, 21, 42]
abbrev dktX7_isMetBy_0 : List UInt8 := dkwX7_isMetBy_0 ++ dktX7_isMetBy_1
theorem dksX7_isMetBy_0 : cX7_isMetBy.data.toList.drop 0 = dktX7_isMetBy_0 := by decide +kernel
theorem dksX7_isMetBy_1 : cX7_isMetBy.data.toList.drop 24 = dktX7_isMetBy_1 := dk_seg dksX7_isMetBy_0 24 rfl rfl
theorem dksX7_isMetBy_2 : cX7_isMetBy.data.toList.drop 46 = dktX7_isMetBy_2 := dk_seg dksX7_isMetBy_1 22 rfl rfl
theorem dksX7_isMetBy_3 : cX7_isMetBy.data.toList.drop 68 = dktX7_isMetBy_3 := dk_seg dksX7_isMetBy_2 22 rfl rfl
theorem dksX7_isMetBy_4 : cX7_isMetBy.data.toList.drop 91 = dktX7_isMetBy_4 := dk_seg dksX7_isMetBy_3 23 rfl rfl
theorem dX7_isMetBy_0 : decode cX7_isMetBy 0 = .ok (.aload_n 0, 1) := dk_42 (dk_at dksX7_isMetBy_0 0 rfl rfl)
theorem dX7_isMetBy_1 : decode cX7_isMetBy 1 = .ok (.iconst 1, 1) := dk_4 (dk_at dksX7_isMetBy_0 1 rfl rfl)
theorem dX7_isMetBy_2 : decode cX7_isMetBy 2 = .ok (.iload_n 1, 1) := dk_27 (dk_at dksX7_isMetBy_0 2 rfl rfl)
theorem dX7_isMetBy_3 : decode cX7_isMetBy 3 = .ok (.invokevirtual 295, 3) := dk_182 1 39 (dk_at dksX7_isMetBy_0 3 rfl rfl)
theorem dX7_isMetBy_6 : decode cX7_isMetBy 6 = .ok (.aload_n 0, 1) := dk_42 (dk_at dksX7_isMetBy_0 6 rfl rfl)
theorem dX7_isMetBy_7 : decode cX7_isMetBy 7 = .ok (.iconst 0, 1) := dk_3 (dk_at dksX7_isMetBy_0 7 rfl rfl)
theorem dX7_isMetBy_8 : decode cX7_isMetBy 8 = .ok (.invokevirtual 289, 3) := dk_182 1 33 (dk_at dksX7_isMetBy_0 8 rfl rfl)
theorem dX7_isMetBy_11 : decode cX7_isMetBy 11 = .ok (.aload_n 0, 1) := dk_42 (dk_at dksX7_isMetBy_0 11 rfl rfl)
theorem dX7_isMetBy_12 : decode cX7_isMetBy 12 = .ok (.invokevirtual 292, 3) := dk_182 1 36 (dk_at dksX7_isMetBy_0 12 rfl rfl)
theorem dX7_isMetBy_15 : decode cX7_isMetBy 15 = .ok (.iconst 0, 1) := dk_3 (dk_at dksX7_isMetBy_0 15 rfl rfl)
theorem dX7_isMetBy_16 : decode cX7_isMetBy 16 = .ok (.istore_n 2, 1) := dk_61 (dk_at dksX7_isMetBy_0 16 rfl rfl)
theorem dX7_isMetBy_17 : decode cX7_isMetBy 17 = .ok (.iload_n 2, 1) := dk_28 (dk_at dksX7_isMetBy_0 17 rfl rfl)
theorem dX7_isMetBy_18 : decode cX7_isMetBy 18 = .ok (.bipush 72, 2) := dk_16 72 (dk_at dksX7_isMetBy_0 18 rfl rfl)
theorem dX7_isMetBy_20 : decode cX7_isMetBy 20 = .ok (.if_icmp .ge 21, 3) := dk_162 0 21 (dk_at dksX7_isMetBy_0 20 rfl rfl)
theorem dX7_isMetBy_23 : decode cX7_isMetBy 23 = .ok (.aload_n 0, 1) := dk_42 (dk_at dksX7_isMetBy_0 23 rfl rfl)
theorem dX7_isMetBy_24 : decode cX7_isMetBy 24 = .ok (.getfield 60, 3) := dk_180 0 60 (dk_at dksX7_isMetBy_1 0 rfl rfl)
theorem dX7_isMetBy_27 : decode cX7_isMetBy 27 = .ok (.iload_n 2, 1) := dk_28 (dk_at dksX7_isMetBy_1 3 rfl rfl)
theorem dX7_isMetBy_28 : decode cX7_isMetBy 28 = .ok (.aload_n 0, 1) := dk_42 (dk_at dksX7_isMetBy_1 4 rfl rfl)
theorem dX7_isMetBy_29 : decode cX7_isMetBy 29 = .ok (.getfield 54, 3) := dk_180 0 54 (dk_at dksX7_isMetBy_1 5 rfl rfl)
theorem dX7_isMetBy_32 : decode cX7_isMetBy 32 = .ok (.iload_n 2, 1) := dk_28 (dk_at dksX7_isMetBy_1 8 rfl rfl)
theorem dX7_isMetBy_33 : decode cX7_isMetBy 33 = .ok (.iaload, 1) := dk_46 (dk_at dksX7_isMetBy_1 9 rfl rfl)
theorem dX7_isMetBy_34 : decode cX7_isMetBy 34 = .ok (.iastore, 1) := dk_79 (dk_at dksX7_isMetBy_1 10 rfl rfl)
theorem dX7_isMetBy_35 : decode cX7_isMetBy 35 = .ok (.iinc 2 1, 3) := dk_132 2 1 (dk_at dksX7_isMetBy_1 11 rfl rfl)
theorem dX7_isMetBy_38 : decode cX7_isMetBy 38 = .ok (.goto (-21), 3) := dk_167 255 235 (dk_at dksX7_isMetBy_1 14 rfl rfl)
theorem dX7_isMetBy_41 : decode cX7_isMetBy 41 = .ok (.aload_n 0, 1) := dk_42 (dk_at dksX7_isMetBy_1 17 rfl rfl)
theorem dX7_isMetBy_42 : decode cX7_isMetBy 42 = .ok (.iconst 1, 1) := dk_4 (dk_at dksX7_isMetBy_1 18 rfl rfl)
theorem dX7_isMetBy_43 : decode cX7_isMetBy 43 = .ok (.iload_n 1, 1) := dk_27 (dk_at dksX7_isMetBy_1 19 rfl rfl)
theorem dX7_isMetBy_44 : decode cX7_isMetBy 44 = .ok (.iconst 1, 1) := dk_4 (dk_at dksX7_isMetBy_1 20 rfl rfl)
theorem dX7_isMetBy_45 : decode cX7_isMetBy 45 = .ok (.iadd, 1) := dk_96 (dk_at dksX7_isMetBy_1 21 rfl rfl)
theorem dX7_isMetBy_46 : decode cX7_isMetBy 46 = .ok (.invokevirtual 295, 3) := dk_182 1 39 (dk_at dksX7_isMetBy_2 0 rfl rfl)
theorem dX7_isMetBy_49 : decode cX7_isMetBy 49 = .ok (.aload_n 0, 1) := dk_42 (dk_at dksX7_isMetBy_2 3 rfl rfl)
theorem dX7_isMetBy_50 : decode cX7_isMetBy 50 = .ok (.invokevirtual 292, 3) := dk_182 1 36 (dk_at dksX7_isMetBy_2 4 rfl rfl)
theorem dX7_isMetBy_53 : decode cX7_isMetBy 53 = .ok (.iconst 1, 1) := dk_4 (dk_at dksX7_isMetBy_2 7 rfl rfl)
theorem dX7_isMetBy_54 : decode cX7_isMetBy 54 = .ok (.istore_n 2, 1) := dk_61 (dk_at dksX7_isMetBy_2 8 rfl rfl)
theorem dX7_isMetBy_55 : decode cX7_isMetBy 55 = .ok (.iconst 0, 1) := dk_3 (dk_at dksX7_isMetBy_2 9 rfl rfl)
theorem dX7_isMetBy_56 : decode cX7_isMetBy 56 = .ok (.istore_n 3, 1) := dk_62 (dk_at dksX7_isMetBy_2 10 rfl rfl)
theorem dX7_isMetBy_57 : decode cX7_isMetBy 57 = .ok (.iload_n 3, 1) := dk_29 (dk_at dksX7_isMetBy_2 11 rfl rfl)
theorem dX7_isMetBy_58 : decode cX7_isMetBy 58 = .ok (.bipush 72, 2) := dk_16 72 (dk_at dksX7_isMetBy_2 12 rfl rfl)
theorem dX7_isMetBy_60 : decode cX7_isMetBy 60 = .ok (.if_icmp .ge 34, 3) := dk_162 0 34 (dk_at dksX7_isMetBy_2 14 rfl rfl)
theorem dX7_isMetBy_63 : decode cX7_isMetBy 63 = .ok (.iload_n 2, 1) := dk_28 (dk_at dksX7_isMetBy_2 17 rfl rfl)
theorem dX7_isMetBy_64 : decode cX7_isMetBy 64 = .ok (.ifCond .eq 22, 3) := dk_153 0 22 (dk_at dksX7_isMetBy_2 18 rfl rfl)
theorem dX7_isMetBy_67 : decode cX7_isMetBy 67 = .ok (.aload_n 0, 1) := dk_42 (dk_at dksX7_isMetBy_2 21 rfl rfl)
theorem dX7_isMetBy_68 : decode cX7_isMetBy 68 = .ok (.getfield 60, 3) := dk_180 0 60 (dk_at dksX7_isMetBy_3 0 rfl rfl)
theorem dX7_isMetBy_71 : decode cX7_isMetBy 71 = .ok (.iload_n 3, 1) := dk_29 (dk_at dksX7_isMetBy_3 3 rfl rfl)
theorem dX7_isMetBy_72 : decode cX7_isMetBy 72 = .ok (.iaload, 1) := dk_46 (dk_at dksX7_isMetBy_3 4 rfl rfl)
theorem dX7_isMetBy_73 : decode cX7_isMetBy 73 = .ok (.aload_n 0, 1) := dk_42 (dk_at dksX7_isMetBy_3 5 rfl rfl)
theorem dX7_isMetBy_74 : decode cX7_isMetBy 74 = .ok (.getfield 54, 3) := dk_180 0 54 (dk_at dksX7_isMetBy_3 6 rfl rfl)
theorem dX7_isMetBy_77 : decode cX7_isMetBy 77 = .ok (.iload_n 3, 1) := dk_29 (dk_at dksX7_isMetBy_3 9 rfl rfl)
theorem dX7_isMetBy_78 : decode cX7_isMetBy 78 = .ok (.iaload, 1) := dk_46 (dk_at dksX7_isMetBy_3 10 rfl rfl)
theorem dX7_isMetBy_79 : decode cX7_isMetBy 79 = .ok (.if_icmp .ne 7, 3) := dk_160 0 7 (dk_at dksX7_isMetBy_3 11 rfl rfl)
theorem dX7_isMetBy_82 : decode cX7_isMetBy 82 = .ok (.iconst 1, 1) := dk_4 (dk_at dksX7_isMetBy_3 14 rfl rfl)
theorem dX7_isMetBy_83 : decode cX7_isMetBy 83 = .ok (.goto 4, 3) := dk_167 0 4 (dk_at dksX7_isMetBy_3 15 rfl rfl)
theorem dX7_isMetBy_86 : decode cX7_isMetBy 86 = .ok (.iconst 0, 1) := dk_3 (dk_at dksX7_isMetBy_3 18 rfl rfl)
theorem dX7_isMetBy_87 : decode cX7_isMetBy 87 = .ok (.istore_n 2, 1) := dk_61 (dk_at dksX7_isMetBy_3 19 rfl rfl)
theorem dX7_isMetBy_88 : decode cX7_isMetBy 88 = .ok (.iinc 3 1, 3) := dk_132 3 1 (dk_at dksX7_isMetBy_3 20 rfl rfl)
theorem dX7_isMetBy_91 : decode cX7_isMetBy 91 = .ok (.goto (-34), 3) := dk_167 255 222 (dk_at dksX7_isMetBy_4 0 rfl rfl)
theorem dX7_isMetBy_94 : decode cX7_isMetBy 94 = .ok (.iload_n 2, 1) := dk_28 (dk_at dksX7_isMetBy_4 3 rfl rfl)
theorem dX7_isMetBy_95 : decode cX7_isMetBy 95 = .ok (.ireturn, 1) := dk_172 (dk_at dksX7_isMetBy_4 4 rfl rfl)
abbrev cX7_see : ByteArray := prog_17_method_65_code
def yX7_see : MethodName := ⟨RX7, "see", "(III)I"⟩
def dkwX7_see_3 : List UInt8 := [42, 180, 1, 64, 29, 79, 42, 89, 180, 1, 64, 4, 96, 181, 1, 64, 42, 180, 1, 64, 172]
abbrev dktX7_see_3 : List UInt8 := dkwX7_see_3 ++ []
def dkwX7_see_2 : List UInt8 := [42, 180, 0, 63, 42, 180, 1, 64, 27, 79, 42, 180, 0, 66, 42, 180, 1, 64, 28, 79, 42, 180, 0, 69]
abbrev dktX7_see_2 : List UInt8 := dkwX7_see_2 ++ dktX7_see_3
def dkwX7_see_1 : List UInt8 := [2, 172, 28, 29, 184, 1, 9, 154, 0, 6, 16, 254, 172, 42, 180, 1, 64, 7, 160, 0, 6, 16, 252, 172]
abbrev dktX7_see_1 : List UInt8 := dkwX7_see_1 ++ dktX7_see_2
def dkwX7_see_0 : List UInt8 := [27, 2, 160, 0, 10, 42, 3, 181, 1, 64, 3, 172, 27, 133, 9, 20, 1, 7, 184, 0, 115, 154, 0, 5]
abbrev dktX7_see_0 : List UInt8 := dkwX7_see_0 ++ dktX7_see_1
theorem dksX7_see_0 : cX7_see.data.toList.drop 0 = dktX7_see_0 := by decide +kernel
theorem dksX7_see_1 : cX7_see.data.toList.drop 24 = dktX7_see_1 := dk_seg dksX7_see_0 24 rfl rfl
theorem dksX7_see_2 : cX7_see.data.toList.drop 48 = dktX7_see_2 := dk_seg dksX7_see_1 24 rfl rfl
theorem dksX7_see_3 : cX7_see.data.toList.drop 72 = dktX7_see_3 := dk_seg dksX7_see_2 24 rfl rfl
theorem dX7_see_0 : decode cX7_see 0 = .ok (.iload_n 1, 1) := dk_27 (dk_at dksX7_see_0 0 rfl rfl)
theorem dX7_see_1 : decode cX7_see 1 = .ok (.iconst (-1), 1) := dk_2 (dk_at dksX7_see_0 1 rfl rfl)
theorem dX7_see_2 : decode cX7_see 2 = .ok (.if_icmp .ne 10, 3) := dk_160 0 10 (dk_at dksX7_see_0 2 rfl rfl)
theorem dX7_see_5 : decode cX7_see 5 = .ok (.aload_n 0, 1) := dk_42 (dk_at dksX7_see_0 5 rfl rfl)
theorem dX7_see_6 : decode cX7_see 6 = .ok (.iconst 0, 1) := dk_3 (dk_at dksX7_see_0 6 rfl rfl)
theorem dX7_see_7 : decode cX7_see 7 = .ok (.putfield 320, 3) := dk_181 1 64 (dk_at dksX7_see_0 7 rfl rfl)
theorem dX7_see_10 : decode cX7_see 10 = .ok (.iconst 0, 1) := dk_3 (dk_at dksX7_see_0 10 rfl rfl)
theorem dX7_see_11 : decode cX7_see 11 = .ok (.ireturn, 1) := dk_172 (dk_at dksX7_see_0 11 rfl rfl)
theorem dX7_see_12 : decode cX7_see 12 = .ok (.iload_n 1, 1) := dk_27 (dk_at dksX7_see_0 12 rfl rfl)
theorem dX7_see_13 : decode cX7_see 13 = .ok (.i2l, 1) := dk_133 (dk_at dksX7_see_0 13 rfl rfl)
theorem dX7_see_14 : decode cX7_see 14 = .ok (.lconst 0, 1) := dk_9 (dk_at dksX7_see_0 14 rfl rfl)
theorem dX7_see_15 : decode cX7_see 15 = .ok (.ldc2_w 263, 3) := dk_20 1 7 (dk_at dksX7_see_0 15 rfl rfl)
theorem dX7_see_18 : decode cX7_see 18 = .ok (.invokestatic 115, 3) := dk_184 0 115 (dk_at dksX7_see_0 18 rfl rfl)
theorem dX7_see_21 : decode cX7_see 21 = .ok (.ifCond .ne 5, 3) := dk_154 0 5 (dk_at dksX7_see_0 21 rfl rfl)
theorem dX7_see_24 : decode cX7_see 24 = .ok (.iconst (-1), 1) := dk_2 (dk_at dksX7_see_1 0 rfl rfl)
theorem dX7_see_25 : decode cX7_see 25 = .ok (.ireturn, 1) := dk_172 (dk_at dksX7_see_1 1 rfl rfl)
theorem dX7_see_26 : decode cX7_see 26 = .ok (.iload_n 2, 1) := dk_28 (dk_at dksX7_see_1 2 rfl rfl)
theorem dX7_see_27 : decode cX7_see 27 = .ok (.iload_n 3, 1) := dk_29 (dk_at dksX7_see_1 3 rfl rfl)
theorem dX7_see_28 : decode cX7_see 28 = .ok (.invokestatic 265, 3) := dk_184 1 9 (dk_at dksX7_see_1 4 rfl rfl)
theorem dX7_see_31 : decode cX7_see 31 = .ok (.ifCond .ne 6, 3) := dk_154 0 6 (dk_at dksX7_see_1 7 rfl rfl)
theorem dX7_see_34 : decode cX7_see 34 = .ok (.bipush (-2), 2) := dk_16 254 (dk_at dksX7_see_1 10 rfl rfl)
theorem dX7_see_36 : decode cX7_see 36 = .ok (.ireturn, 1) := dk_172 (dk_at dksX7_see_1 12 rfl rfl)
theorem dX7_see_37 : decode cX7_see 37 = .ok (.aload_n 0, 1) := dk_42 (dk_at dksX7_see_1 13 rfl rfl)
theorem dX7_see_38 : decode cX7_see 38 = .ok (.getfield 320, 3) := dk_180 1 64 (dk_at dksX7_see_1 14 rfl rfl)
theorem dX7_see_41 : decode cX7_see 41 = .ok (.iconst 4, 1) := dk_7 (dk_at dksX7_see_1 17 rfl rfl)
theorem dX7_see_42 : decode cX7_see 42 = .ok (.if_icmp .ne 6, 3) := dk_160 0 6 (dk_at dksX7_see_1 18 rfl rfl)
theorem dX7_see_45 : decode cX7_see 45 = .ok (.bipush (-4), 2) := dk_16 252 (dk_at dksX7_see_1 21 rfl rfl)
theorem dX7_see_47 : decode cX7_see 47 = .ok (.ireturn, 1) := dk_172 (dk_at dksX7_see_1 23 rfl rfl)
theorem dX7_see_48 : decode cX7_see 48 = .ok (.aload_n 0, 1) := dk_42 (dk_at dksX7_see_2 0 rfl rfl)
theorem dX7_see_49 : decode cX7_see 49 = .ok (.getfield 63, 3) := dk_180 0 63 (dk_at dksX7_see_2 1 rfl rfl)
theorem dX7_see_52 : decode cX7_see 52 = .ok (.aload_n 0, 1) := dk_42 (dk_at dksX7_see_2 4 rfl rfl)
theorem dX7_see_53 : decode cX7_see 53 = .ok (.getfield 320, 3) := dk_180 1 64 (dk_at dksX7_see_2 5 rfl rfl)
theorem dX7_see_56 : decode cX7_see 56 = .ok (.iload_n 1, 1) := dk_27 (dk_at dksX7_see_2 8 rfl rfl)
theorem dX7_see_57 : decode cX7_see 57 = .ok (.iastore, 1) := dk_79 (dk_at dksX7_see_2 9 rfl rfl)
theorem dX7_see_58 : decode cX7_see 58 = .ok (.aload_n 0, 1) := dk_42 (dk_at dksX7_see_2 10 rfl rfl)
theorem dX7_see_59 : decode cX7_see 59 = .ok (.getfield 66, 3) := dk_180 0 66 (dk_at dksX7_see_2 11 rfl rfl)
theorem dX7_see_62 : decode cX7_see 62 = .ok (.aload_n 0, 1) := dk_42 (dk_at dksX7_see_2 14 rfl rfl)
theorem dX7_see_63 : decode cX7_see 63 = .ok (.getfield 320, 3) := dk_180 1 64 (dk_at dksX7_see_2 15 rfl rfl)
theorem dX7_see_66 : decode cX7_see 66 = .ok (.iload_n 2, 1) := dk_28 (dk_at dksX7_see_2 18 rfl rfl)
theorem dX7_see_67 : decode cX7_see 67 = .ok (.iastore, 1) := dk_79 (dk_at dksX7_see_2 19 rfl rfl)
theorem dX7_see_68 : decode cX7_see 68 = .ok (.aload_n 0, 1) := dk_42 (dk_at dksX7_see_2 20 rfl rfl)
theorem dX7_see_69 : decode cX7_see 69 = .ok (.getfield 69, 3) := dk_180 0 69 (dk_at dksX7_see_2 21 rfl rfl)
theorem dX7_see_72 : decode cX7_see 72 = .ok (.aload_n 0, 1) := dk_42 (dk_at dksX7_see_3 0 rfl rfl)
theorem dX7_see_73 : decode cX7_see 73 = .ok (.getfield 320, 3) := dk_180 1 64 (dk_at dksX7_see_3 1 rfl rfl)
theorem dX7_see_76 : decode cX7_see 76 = .ok (.iload_n 3, 1) := dk_29 (dk_at dksX7_see_3 4 rfl rfl)
theorem dX7_see_77 : decode cX7_see 77 = .ok (.iastore, 1) := dk_79 (dk_at dksX7_see_3 5 rfl rfl)
theorem dX7_see_78 : decode cX7_see 78 = .ok (.aload_n 0, 1) := dk_42 (dk_at dksX7_see_3 6 rfl rfl)
theorem dX7_see_79 : decode cX7_see 79 = .ok (.dup, 1) := dk_89 (dk_at dksX7_see_3 7 rfl rfl)
theorem dX7_see_80 : decode cX7_see 80 = .ok (.getfield 320, 3) := dk_180 1 64 (dk_at dksX7_see_3 8 rfl rfl)
theorem dX7_see_83 : decode cX7_see 83 = .ok (.iconst 1, 1) := dk_4 (dk_at dksX7_see_3 11 rfl rfl)
theorem dX7_see_84 : decode cX7_see 84 = .ok (.iadd, 1) := dk_96 (dk_at dksX7_see_3 12 rfl rfl)
theorem dX7_see_85 : decode cX7_see 85 = .ok (.putfield 320, 3) := dk_181 1 64 (dk_at dksX7_see_3 13 rfl rfl)
theorem dX7_see_88 : decode cX7_see 88 = .ok (.aload_n 0, 1) := dk_42 (dk_at dksX7_see_3 16 rfl rfl)
theorem dX7_see_89 : decode cX7_see 89 = .ok (.getfield 320, 3) := dk_180 1 64 (dk_at dksX7_see_3 17 rfl rfl)
theorem dX7_see_92 : decode cX7_see 92 = .ok (.ireturn, 1) := dk_172 (dk_at dksX7_see_3 20 rfl rfl)
abbrev cX7_fits : ByteArray := prog_17_method_67_code
def yX7_fits : MethodName := ⟨RX7, "fits", "(IIII)I"⟩
def dkwX7_fits_9 : List UInt8 := [167, 255, 104, 21, 4, 154, 0, 8, 21, 7, 167, 0, 5, 21, 8, 172]
abbrev dktX7_fits_9 : List UInt8 := dkwX7_fits_9 ++ []
def dkwX7_fits_8 : List UInt8 := [104, 28, 96, 21, 5, 79, 42, 180, 0, 18, 16, 6, 27, 104, 28, 96, 21, 6, 79, 132, 9, 1]
abbrev dktX7_fits_8 : List UInt8 := dkwX7_fits_8 ++ dktX7_fits_9
def dkwX7_fits_7 : List UInt8 := [21, 7, 154, 0, 8, 21, 9, 167, 0, 5, 21, 8, 54, 8, 132, 7, 1, 42, 180, 0, 15, 16, 6, 27]
abbrev dktX7_fits_7 : List UInt8 := dkwX7_fits_7 ++ dktX7_fits_8
def dkwX7_fits_6 : List UInt8 := [180, 0, 18, 16, 6, 27, 104, 28, 96, 21, 11, 79, 21, 12, 153, 0, 27, 42, 182, 1, 67, 153, 0, 20]
abbrev dktX7_fits_6 : List UInt8 := dkwX7_fits_6 ++ dktX7_fits_7
def dkwX7_fits_5 : List UInt8 := [160, 0, 7, 4, 167, 0, 4, 3, 54, 12, 42, 180, 0, 15, 16, 6, 27, 104, 28, 96, 21, 10, 79, 42]
abbrev dktX7_fits_5 : List UInt8 := dkwX7_fits_5 ++ dktX7_fits_6
def dkwX7_fits_4 : List UInt8 := [21, 5, 160, 0, 10, 21, 11, 21, 6, 159, 0, 16, 42, 27, 21, 10, 21, 11, 182, 0, 143, 2]
abbrev dktX7_fits_4 : List UInt8 := dkwX7_fits_4 ++ dktX7_fits_5
def dkwX7_fits_3 : List UInt8 := [167, 0, 5, 21, 5, 54, 10, 29, 4, 160, 0, 8, 21, 9, 167, 0, 5, 21, 6, 54, 11, 21, 10]
abbrev dktX7_fits_3 : List UInt8 := dkwX7_fits_3 ++ dktX7_fits_4
def dkwX7_fits_2 : List UInt8 := [3, 54, 7, 16, 251, 54, 8, 3, 54, 9, 21, 9, 16, 10, 162, 0, 151, 29, 154, 0, 8, 21, 9]
abbrev dktX7_fits_2 : List UInt8 := dkwX7_fits_2 ++ dktX7_fits_3
def dkwX7_fits_1 : List UInt8 := [184, 0, 115, 154, 0, 5, 2, 172, 42, 27, 28, 182, 0, 125, 54, 5, 42, 27, 28, 182, 0, 129, 54, 6]
abbrev dktX7_fits_1 : List UInt8 := dkwX7_fits_1 ++ dktX7_fits_2
def dkwX7_fits_0 : List UInt8 := [42, 27, 28, 182, 0, 155, 153, 0, 24, 29, 133, 9, 10, 184, 0, 115, 153, 0, 14, 21, 4, 133, 9, 10]
abbrev dktX7_fits_0 : List UInt8 := dkwX7_fits_0 ++ dktX7_fits_1
theorem dksX7_fits_0 : cX7_fits.data.toList.drop 0 = dktX7_fits_0 := by decide +kernel
theorem dksX7_fits_1 : cX7_fits.data.toList.drop 24 = dktX7_fits_1 := dk_seg dksX7_fits_0 24 rfl rfl
theorem dksX7_fits_2 : cX7_fits.data.toList.drop 48 = dktX7_fits_2 := dk_seg dksX7_fits_1 24 rfl rfl
theorem dksX7_fits_3 : cX7_fits.data.toList.drop 71 = dktX7_fits_3 := dk_seg dksX7_fits_2 23 rfl rfl
theorem dksX7_fits_4 : cX7_fits.data.toList.drop 94 = dktX7_fits_4 := dk_seg dksX7_fits_3 23 rfl rfl
theorem dksX7_fits_5 : cX7_fits.data.toList.drop 116 = dktX7_fits_5 := dk_seg dksX7_fits_4 22 rfl rfl
theorem dksX7_fits_6 : cX7_fits.data.toList.drop 140 = dktX7_fits_6 := dk_seg dksX7_fits_5 24 rfl rfl
theorem dksX7_fits_7 : cX7_fits.data.toList.drop 164 = dktX7_fits_7 := dk_seg dksX7_fits_6 24 rfl rfl
theorem dksX7_fits_8 : cX7_fits.data.toList.drop 188 = dktX7_fits_8 := dk_seg dksX7_fits_7 24 rfl rfl
theorem dksX7_fits_9 : cX7_fits.data.toList.drop 210 = dktX7_fits_9 := dk_seg dksX7_fits_8 22 rfl rfl
theorem dX7_fits_0 : decode cX7_fits 0 = .ok (.aload_n 0, 1) := dk_42 (dk_at dksX7_fits_0 0 rfl rfl)
theorem dX7_fits_1 : decode cX7_fits 1 = .ok (.iload_n 1, 1) := dk_27 (dk_at dksX7_fits_0 1 rfl rfl)
theorem dX7_fits_2 : decode cX7_fits 2 = .ok (.iload_n 2, 1) := dk_28 (dk_at dksX7_fits_0 2 rfl rfl)
theorem dX7_fits_3 : decode cX7_fits 3 = .ok (.invokevirtual 155, 3) := dk_182 0 155 (dk_at dksX7_fits_0 3 rfl rfl)
theorem dX7_fits_6 : decode cX7_fits 6 = .ok (.ifCond .eq 24, 3) := dk_153 0 24 (dk_at dksX7_fits_0 6 rfl rfl)
theorem dX7_fits_9 : decode cX7_fits 9 = .ok (.iload_n 3, 1) := dk_29 (dk_at dksX7_fits_0 9 rfl rfl)
theorem dX7_fits_10 : decode cX7_fits 10 = .ok (.i2l, 1) := dk_133 (dk_at dksX7_fits_0 10 rfl rfl)
theorem dX7_fits_11 : decode cX7_fits 11 = .ok (.lconst 0, 1) := dk_9 (dk_at dksX7_fits_0 11 rfl rfl)
theorem dX7_fits_12 : decode cX7_fits 12 = .ok (.lconst 1, 1) := dk_10 (dk_at dksX7_fits_0 12 rfl rfl)
theorem dX7_fits_13 : decode cX7_fits 13 = .ok (.invokestatic 115, 3) := dk_184 0 115 (dk_at dksX7_fits_0 13 rfl rfl)
theorem dX7_fits_16 : decode cX7_fits 16 = .ok (.ifCond .eq 14, 3) := dk_153 0 14 (dk_at dksX7_fits_0 16 rfl rfl)
theorem dX7_fits_19 : decode cX7_fits 19 = .ok (.iload 4, 2) := dk_21 4 (dk_at dksX7_fits_0 19 rfl rfl)
theorem dX7_fits_21 : decode cX7_fits 21 = .ok (.i2l, 1) := dk_133 (dk_at dksX7_fits_0 21 rfl rfl)
theorem dX7_fits_22 : decode cX7_fits 22 = .ok (.lconst 0, 1) := dk_9 (dk_at dksX7_fits_0 22 rfl rfl)
theorem dX7_fits_23 : decode cX7_fits 23 = .ok (.lconst 1, 1) := dk_10 (dk_at dksX7_fits_0 23 rfl rfl)
theorem dX7_fits_24 : decode cX7_fits 24 = .ok (.invokestatic 115, 3) := dk_184 0 115 (dk_at dksX7_fits_1 0 rfl rfl)
theorem dX7_fits_27 : decode cX7_fits 27 = .ok (.ifCond .ne 5, 3) := dk_154 0 5 (dk_at dksX7_fits_1 3 rfl rfl)
theorem dX7_fits_30 : decode cX7_fits 30 = .ok (.iconst (-1), 1) := dk_2 (dk_at dksX7_fits_1 6 rfl rfl)
theorem dX7_fits_31 : decode cX7_fits 31 = .ok (.ireturn, 1) := dk_172 (dk_at dksX7_fits_1 7 rfl rfl)
theorem dX7_fits_32 : decode cX7_fits 32 = .ok (.aload_n 0, 1) := dk_42 (dk_at dksX7_fits_1 8 rfl rfl)
theorem dX7_fits_33 : decode cX7_fits 33 = .ok (.iload_n 1, 1) := dk_27 (dk_at dksX7_fits_1 9 rfl rfl)
theorem dX7_fits_34 : decode cX7_fits 34 = .ok (.iload_n 2, 1) := dk_28 (dk_at dksX7_fits_1 10 rfl rfl)
theorem dX7_fits_35 : decode cX7_fits 35 = .ok (.invokevirtual 125, 3) := dk_182 0 125 (dk_at dksX7_fits_1 11 rfl rfl)
theorem dX7_fits_38 : decode cX7_fits 38 = .ok (.istore 5, 2) := dk_54 5 (dk_at dksX7_fits_1 14 rfl rfl)
theorem dX7_fits_40 : decode cX7_fits 40 = .ok (.aload_n 0, 1) := dk_42 (dk_at dksX7_fits_1 16 rfl rfl)
theorem dX7_fits_41 : decode cX7_fits 41 = .ok (.iload_n 1, 1) := dk_27 (dk_at dksX7_fits_1 17 rfl rfl)
theorem dX7_fits_42 : decode cX7_fits 42 = .ok (.iload_n 2, 1) := dk_28 (dk_at dksX7_fits_1 18 rfl rfl)
theorem dX7_fits_43 : decode cX7_fits 43 = .ok (.invokevirtual 129, 3) := dk_182 0 129 (dk_at dksX7_fits_1 19 rfl rfl)
theorem dX7_fits_46 : decode cX7_fits 46 = .ok (.istore 6, 2) := dk_54 6 (dk_at dksX7_fits_1 22 rfl rfl)
theorem dX7_fits_48 : decode cX7_fits 48 = .ok (.iconst 0, 1) := dk_3 (dk_at dksX7_fits_2 0 rfl rfl)
theorem dX7_fits_49 : decode cX7_fits 49 = .ok (.istore 7, 2) := dk_54 7 (dk_at dksX7_fits_2 1 rfl rfl)
theorem dX7_fits_51 : decode cX7_fits 51 = .ok (.bipush (-5), 2) := dk_16 251 (dk_at dksX7_fits_2 3 rfl rfl)
theorem dX7_fits_53 : decode cX7_fits 53 = .ok (.istore 8, 2) := dk_54 8 (dk_at dksX7_fits_2 5 rfl rfl)
theorem dX7_fits_55 : decode cX7_fits 55 = .ok (.iconst 0, 1) := dk_3 (dk_at dksX7_fits_2 7 rfl rfl)
theorem dX7_fits_56 : decode cX7_fits 56 = .ok (.istore 9, 2) := dk_54 9 (dk_at dksX7_fits_2 8 rfl rfl)
theorem dX7_fits_58 : decode cX7_fits 58 = .ok (.iload 9, 2) := dk_21 9 (dk_at dksX7_fits_2 10 rfl rfl)
theorem dX7_fits_60 : decode cX7_fits 60 = .ok (.bipush 10, 2) := dk_16 10 (dk_at dksX7_fits_2 12 rfl rfl)
theorem dX7_fits_62 : decode cX7_fits 62 = .ok (.if_icmp .ge 151, 3) := dk_162 0 151 (dk_at dksX7_fits_2 14 rfl rfl)
theorem dX7_fits_65 : decode cX7_fits 65 = .ok (.iload_n 3, 1) := dk_29 (dk_at dksX7_fits_2 17 rfl rfl)
theorem dX7_fits_66 : decode cX7_fits 66 = .ok (.ifCond .ne 8, 3) := dk_154 0 8 (dk_at dksX7_fits_2 18 rfl rfl)
theorem dX7_fits_69 : decode cX7_fits 69 = .ok (.iload 9, 2) := dk_21 9 (dk_at dksX7_fits_2 21 rfl rfl)
theorem dX7_fits_71 : decode cX7_fits 71 = .ok (.goto 5, 3) := dk_167 0 5 (dk_at dksX7_fits_3 0 rfl rfl)
theorem dX7_fits_74 : decode cX7_fits 74 = .ok (.iload 5, 2) := dk_21 5 (dk_at dksX7_fits_3 3 rfl rfl)
theorem dX7_fits_76 : decode cX7_fits 76 = .ok (.istore 10, 2) := dk_54 10 (dk_at dksX7_fits_3 5 rfl rfl)
theorem dX7_fits_78 : decode cX7_fits 78 = .ok (.iload_n 3, 1) := dk_29 (dk_at dksX7_fits_3 7 rfl rfl)
theorem dX7_fits_79 : decode cX7_fits 79 = .ok (.iconst 1, 1) := dk_4 (dk_at dksX7_fits_3 8 rfl rfl)
theorem dX7_fits_80 : decode cX7_fits 80 = .ok (.if_icmp .ne 8, 3) := dk_160 0 8 (dk_at dksX7_fits_3 9 rfl rfl)
theorem dX7_fits_83 : decode cX7_fits 83 = .ok (.iload 9, 2) := dk_21 9 (dk_at dksX7_fits_3 12 rfl rfl)
theorem dX7_fits_85 : decode cX7_fits 85 = .ok (.goto 5, 3) := dk_167 0 5 (dk_at dksX7_fits_3 14 rfl rfl)
theorem dX7_fits_88 : decode cX7_fits 88 = .ok (.iload 6, 2) := dk_21 6 (dk_at dksX7_fits_3 17 rfl rfl)
theorem dX7_fits_90 : decode cX7_fits 90 = .ok (.istore 11, 2) := dk_54 11 (dk_at dksX7_fits_3 19 rfl rfl)
theorem dX7_fits_92 : decode cX7_fits 92 = .ok (.iload 10, 2) := dk_21 10 (dk_at dksX7_fits_3 21 rfl rfl)
theorem dX7_fits_94 : decode cX7_fits 94 = .ok (.iload 5, 2) := dk_21 5 (dk_at dksX7_fits_4 0 rfl rfl)
theorem dX7_fits_96 : decode cX7_fits 96 = .ok (.if_icmp .ne 10, 3) := dk_160 0 10 (dk_at dksX7_fits_4 2 rfl rfl)
theorem dX7_fits_99 : decode cX7_fits 99 = .ok (.iload 11, 2) := dk_21 11 (dk_at dksX7_fits_4 5 rfl rfl)
theorem dX7_fits_101 : decode cX7_fits 101 = .ok (.iload 6, 2) := dk_21 6 (dk_at dksX7_fits_4 7 rfl rfl)
theorem dX7_fits_103 : decode cX7_fits 103 = .ok (.if_icmp .eq 16, 3) := dk_159 0 16 (dk_at dksX7_fits_4 9 rfl rfl)
theorem dX7_fits_106 : decode cX7_fits 106 = .ok (.aload_n 0, 1) := dk_42 (dk_at dksX7_fits_4 12 rfl rfl)
theorem dX7_fits_107 : decode cX7_fits 107 = .ok (.iload_n 1, 1) := dk_27 (dk_at dksX7_fits_4 13 rfl rfl)
theorem dX7_fits_108 : decode cX7_fits 108 = .ok (.iload 10, 2) := dk_21 10 (dk_at dksX7_fits_4 14 rfl rfl)
theorem dX7_fits_110 : decode cX7_fits 110 = .ok (.iload 11, 2) := dk_21 11 (dk_at dksX7_fits_4 16 rfl rfl)
theorem dX7_fits_112 : decode cX7_fits 112 = .ok (.invokevirtual 143, 3) := dk_182 0 143 (dk_at dksX7_fits_4 18 rfl rfl)
theorem dX7_fits_115 : decode cX7_fits 115 = .ok (.iconst (-1), 1) := dk_2 (dk_at dksX7_fits_4 21 rfl rfl)
theorem dX7_fits_116 : decode cX7_fits 116 = .ok (.if_icmp .ne 7, 3) := dk_160 0 7 (dk_at dksX7_fits_5 0 rfl rfl)
theorem dX7_fits_119 : decode cX7_fits 119 = .ok (.iconst 1, 1) := dk_4 (dk_at dksX7_fits_5 3 rfl rfl)
theorem dX7_fits_120 : decode cX7_fits 120 = .ok (.goto 4, 3) := dk_167 0 4 (dk_at dksX7_fits_5 4 rfl rfl)
theorem dX7_fits_123 : decode cX7_fits 123 = .ok (.iconst 0, 1) := dk_3 (dk_at dksX7_fits_5 7 rfl rfl)
theorem dX7_fits_124 : decode cX7_fits 124 = .ok (.istore 12, 2) := dk_54 12 (dk_at dksX7_fits_5 8 rfl rfl)
theorem dX7_fits_126 : decode cX7_fits 126 = .ok (.aload_n 0, 1) := dk_42 (dk_at dksX7_fits_5 10 rfl rfl)
theorem dX7_fits_127 : decode cX7_fits 127 = .ok (.getfield 15, 3) := dk_180 0 15 (dk_at dksX7_fits_5 11 rfl rfl)
theorem dX7_fits_130 : decode cX7_fits 130 = .ok (.bipush 6, 2) := dk_16 6 (dk_at dksX7_fits_5 14 rfl rfl)
theorem dX7_fits_132 : decode cX7_fits 132 = .ok (.iload_n 1, 1) := dk_27 (dk_at dksX7_fits_5 16 rfl rfl)
theorem dX7_fits_133 : decode cX7_fits 133 = .ok (.imul, 1) := dk_104 (dk_at dksX7_fits_5 17 rfl rfl)
theorem dX7_fits_134 : decode cX7_fits 134 = .ok (.iload_n 2, 1) := dk_28 (dk_at dksX7_fits_5 18 rfl rfl)
theorem dX7_fits_135 : decode cX7_fits 135 = .ok (.iadd, 1) := dk_96 (dk_at dksX7_fits_5 19 rfl rfl)
theorem dX7_fits_136 : decode cX7_fits 136 = .ok (.iload 10, 2) := dk_21 10 (dk_at dksX7_fits_5 20 rfl rfl)
theorem dX7_fits_138 : decode cX7_fits 138 = .ok (.iastore, 1) := dk_79 (dk_at dksX7_fits_5 22 rfl rfl)
theorem dX7_fits_139 : decode cX7_fits 139 = .ok (.aload_n 0, 1) := dk_42 (dk_at dksX7_fits_5 23 rfl rfl)
theorem dX7_fits_140 : decode cX7_fits 140 = .ok (.getfield 18, 3) := dk_180 0 18 (dk_at dksX7_fits_6 0 rfl rfl)
theorem dX7_fits_143 : decode cX7_fits 143 = .ok (.bipush 6, 2) := dk_16 6 (dk_at dksX7_fits_6 3 rfl rfl)
theorem dX7_fits_145 : decode cX7_fits 145 = .ok (.iload_n 1, 1) := dk_27 (dk_at dksX7_fits_6 5 rfl rfl)
theorem dX7_fits_146 : decode cX7_fits 146 = .ok (.imul, 1) := dk_104 (dk_at dksX7_fits_6 6 rfl rfl)
theorem dX7_fits_147 : decode cX7_fits 147 = .ok (.iload_n 2, 1) := dk_28 (dk_at dksX7_fits_6 7 rfl rfl)
theorem dX7_fits_148 : decode cX7_fits 148 = .ok (.iadd, 1) := dk_96 (dk_at dksX7_fits_6 8 rfl rfl)
theorem dX7_fits_149 : decode cX7_fits 149 = .ok (.iload 11, 2) := dk_21 11 (dk_at dksX7_fits_6 9 rfl rfl)
theorem dX7_fits_151 : decode cX7_fits 151 = .ok (.iastore, 1) := dk_79 (dk_at dksX7_fits_6 11 rfl rfl)
theorem dX7_fits_152 : decode cX7_fits 152 = .ok (.iload 12, 2) := dk_21 12 (dk_at dksX7_fits_6 12 rfl rfl)
theorem dX7_fits_154 : decode cX7_fits 154 = .ok (.ifCond .eq 27, 3) := dk_153 0 27 (dk_at dksX7_fits_6 14 rfl rfl)
theorem dX7_fits_157 : decode cX7_fits 157 = .ok (.aload_n 0, 1) := dk_42 (dk_at dksX7_fits_6 17 rfl rfl)
theorem dX7_fits_158 : decode cX7_fits 158 = .ok (.invokevirtual 323, 3) := dk_182 1 67 (dk_at dksX7_fits_6 18 rfl rfl)
theorem dX7_fits_161 : decode cX7_fits 161 = .ok (.ifCond .eq 20, 3) := dk_153 0 20 (dk_at dksX7_fits_6 21 rfl rfl)
theorem dX7_fits_164 : decode cX7_fits 164 = .ok (.iload 7, 2) := dk_21 7 (dk_at dksX7_fits_7 0 rfl rfl)
theorem dX7_fits_166 : decode cX7_fits 166 = .ok (.ifCond .ne 8, 3) := dk_154 0 8 (dk_at dksX7_fits_7 2 rfl rfl)
theorem dX7_fits_169 : decode cX7_fits 169 = .ok (.iload 9, 2) := dk_21 9 (dk_at dksX7_fits_7 5 rfl rfl)
theorem dX7_fits_171 : decode cX7_fits 171 = .ok (.goto 5, 3) := dk_167 0 5 (dk_at dksX7_fits_7 7 rfl rfl)
theorem dX7_fits_174 : decode cX7_fits 174 = .ok (.iload 8, 2) := dk_21 8 (dk_at dksX7_fits_7 10 rfl rfl)
theorem dX7_fits_176 : decode cX7_fits 176 = .ok (.istore 8, 2) := dk_54 8 (dk_at dksX7_fits_7 12 rfl rfl)
theorem dX7_fits_178 : decode cX7_fits 178 = .ok (.iinc 7 1, 3) := dk_132 7 1 (dk_at dksX7_fits_7 14 rfl rfl)
theorem dX7_fits_181 : decode cX7_fits 181 = .ok (.aload_n 0, 1) := dk_42 (dk_at dksX7_fits_7 17 rfl rfl)
theorem dX7_fits_182 : decode cX7_fits 182 = .ok (.getfield 15, 3) := dk_180 0 15 (dk_at dksX7_fits_7 18 rfl rfl)
theorem dX7_fits_185 : decode cX7_fits 185 = .ok (.bipush 6, 2) := dk_16 6 (dk_at dksX7_fits_7 21 rfl rfl)
theorem dX7_fits_187 : decode cX7_fits 187 = .ok (.iload_n 1, 1) := dk_27 (dk_at dksX7_fits_7 23 rfl rfl)
theorem dX7_fits_188 : decode cX7_fits 188 = .ok (.imul, 1) := dk_104 (dk_at dksX7_fits_8 0 rfl rfl)
theorem dX7_fits_189 : decode cX7_fits 189 = .ok (.iload_n 2, 1) := dk_28 (dk_at dksX7_fits_8 1 rfl rfl)
theorem dX7_fits_190 : decode cX7_fits 190 = .ok (.iadd, 1) := dk_96 (dk_at dksX7_fits_8 2 rfl rfl)
theorem dX7_fits_191 : decode cX7_fits 191 = .ok (.iload 5, 2) := dk_21 5 (dk_at dksX7_fits_8 3 rfl rfl)
theorem dX7_fits_193 : decode cX7_fits 193 = .ok (.iastore, 1) := dk_79 (dk_at dksX7_fits_8 5 rfl rfl)
theorem dX7_fits_194 : decode cX7_fits 194 = .ok (.aload_n 0, 1) := dk_42 (dk_at dksX7_fits_8 6 rfl rfl)
theorem dX7_fits_195 : decode cX7_fits 195 = .ok (.getfield 18, 3) := dk_180 0 18 (dk_at dksX7_fits_8 7 rfl rfl)
theorem dX7_fits_198 : decode cX7_fits 198 = .ok (.bipush 6, 2) := dk_16 6 (dk_at dksX7_fits_8 10 rfl rfl)
theorem dX7_fits_200 : decode cX7_fits 200 = .ok (.iload_n 1, 1) := dk_27 (dk_at dksX7_fits_8 12 rfl rfl)
theorem dX7_fits_201 : decode cX7_fits 201 = .ok (.imul, 1) := dk_104 (dk_at dksX7_fits_8 13 rfl rfl)
theorem dX7_fits_202 : decode cX7_fits 202 = .ok (.iload_n 2, 1) := dk_28 (dk_at dksX7_fits_8 14 rfl rfl)
theorem dX7_fits_203 : decode cX7_fits 203 = .ok (.iadd, 1) := dk_96 (dk_at dksX7_fits_8 15 rfl rfl)
theorem dX7_fits_204 : decode cX7_fits 204 = .ok (.iload 6, 2) := dk_21 6 (dk_at dksX7_fits_8 16 rfl rfl)
theorem dX7_fits_206 : decode cX7_fits 206 = .ok (.iastore, 1) := dk_79 (dk_at dksX7_fits_8 18 rfl rfl)
theorem dX7_fits_207 : decode cX7_fits 207 = .ok (.iinc 9 1, 3) := dk_132 9 1 (dk_at dksX7_fits_8 19 rfl rfl)
theorem dX7_fits_210 : decode cX7_fits 210 = .ok (.goto (-152), 3) := dk_167 255 104 (dk_at dksX7_fits_9 0 rfl rfl)
theorem dX7_fits_213 : decode cX7_fits 213 = .ok (.iload 4, 2) := dk_21 4 (dk_at dksX7_fits_9 3 rfl rfl)
theorem dX7_fits_215 : decode cX7_fits 215 = .ok (.ifCond .ne 8, 3) := dk_154 0 8 (dk_at dksX7_fits_9 5 rfl rfl)
theorem dX7_fits_218 : decode cX7_fits 218 = .ok (.iload 7, 2) := dk_21 7 (dk_at dksX7_fits_9 8 rfl rfl)
theorem dX7_fits_220 : decode cX7_fits 220 = .ok (.goto 5, 3) := dk_167 0 5 (dk_at dksX7_fits_9 10 rfl rfl)
theorem dX7_fits_223 : decode cX7_fits 223 = .ok (.iload 8, 2) := dk_21 8 (dk_at dksX7_fits_9 13 rfl rfl)
theorem dX7_fits_225 : decode cX7_fits 225 = .ok (.ireturn, 1) := dk_172 (dk_at dksX7_fits_9 15 rfl rfl)
abbrev cX7_isSeen : ByteArray := prog_17_method_66_code
def yX7_isSeen : MethodName := ⟨RX7, "isSeen", "()Z"⟩
def dkwX7_isSeen_4 : List UInt8 := [160, 0, 7, 4, 167, 0, 4, 3, 60, 132, 2, 1, 167, 255, 183, 27, 172]
abbrev dktX7_isSeen_4 : List UInt8 := dkwX7_isSeen_4 ++ []
def dkwX7_isSeen_3 : List UInt8 := [180, 0, 69, 28, 46, 104, 42, 180, 0, 66, 28, 46, 42, 180, 0, 51, 42, 180, 0, 63, 28, 46, 46, 104]
abbrev dktX7_isSeen_3 : List UInt8 := dkwX7_isSeen_3 ++ dktX7_isSeen_4
def dkwX7_isSeen_2 : List UInt8 := [180, 0, 63, 28, 46, 42, 180, 1, 1, 162, 0, 46, 42, 180, 0, 48, 42, 180, 0, 63, 28, 46, 46, 42]
abbrev dktX7_isSeen_2 : List UInt8 := dkwX7_isSeen_2 ++ dktX7_isSeen_3
def dkwX7_isSeen_1 : List UInt8 := [182, 0, 166, 42, 182, 0, 254, 4, 60, 3, 61, 28, 42, 180, 1, 64, 162, 0, 71, 27, 153, 0, 59, 42]
abbrev dktX7_isSeen_1 : List UInt8 := dkwX7_isSeen_1 ++ dktX7_isSeen_2
def dkwX7_isSeen_0 : List UInt8 := [42, 180, 1, 64, 154, 0, 5, 4, 172, 42, 180, 0, 11, 3, 46, 154, 0, 5, 3, 172, 42, 3]
abbrev dktX7_isSeen_0 : List UInt8 := dkwX7_isSeen_0 ++ dktX7_isSeen_1
theorem dksX7_isSeen_0 : cX7_isSeen.data.toList.drop 0 = dktX7_isSeen_0 := by decide +kernel
theorem dksX7_isSeen_1 : cX7_isSeen.data.toList.drop 22 = dktX7_isSeen_1 := dk_seg dksX7_isSeen_0 22 rfl rfl
theorem dksX7_isSeen_2 : cX7_isSeen.data.toList.drop 46 = dktX7_isSeen_2 := dk_seg dksX7_isSeen_1 24 rfl rfl
theorem dksX7_isSeen_3 : cX7_isSeen.data.toList.drop 70 = dktX7_isSeen_3 := dk_seg dksX7_isSeen_2 24 rfl rfl
theorem dksX7_isSeen_4 : cX7_isSeen.data.toList.drop 94 = dktX7_isSeen_4 := dk_seg dksX7_isSeen_3 24 rfl rfl
theorem dX7_isSeen_0 : decode cX7_isSeen 0 = .ok (.aload_n 0, 1) := dk_42 (dk_at dksX7_isSeen_0 0 rfl rfl)
theorem dX7_isSeen_1 : decode cX7_isSeen 1 = .ok (.getfield 320, 3) := dk_180 1 64 (dk_at dksX7_isSeen_0 1 rfl rfl)
theorem dX7_isSeen_4 : decode cX7_isSeen 4 = .ok (.ifCond .ne 5, 3) := dk_154 0 5 (dk_at dksX7_isSeen_0 4 rfl rfl)
theorem dX7_isSeen_7 : decode cX7_isSeen 7 = .ok (.iconst 1, 1) := dk_4 (dk_at dksX7_isSeen_0 7 rfl rfl)
theorem dX7_isSeen_8 : decode cX7_isSeen 8 = .ok (.ireturn, 1) := dk_172 (dk_at dksX7_isSeen_0 8 rfl rfl)
theorem dX7_isSeen_9 : decode cX7_isSeen 9 = .ok (.aload_n 0, 1) := dk_42 (dk_at dksX7_isSeen_0 9 rfl rfl)
theorem dX7_isSeen_10 : decode cX7_isSeen 10 = .ok (.getfield 11, 3) := dk_180 0 11 (dk_at dksX7_isSeen_0 10 rfl rfl)
theorem dX7_isSeen_13 : decode cX7_isSeen 13 = .ok (.iconst 0, 1) := dk_3 (dk_at dksX7_isSeen_0 13 rfl rfl)
theorem dX7_isSeen_14 : decode cX7_isSeen 14 = .ok (.iaload, 1) := dk_46 (dk_at dksX7_isSeen_0 14 rfl rfl)
theorem dX7_isSeen_15 : decode cX7_isSeen 15 = .ok (.ifCond .ne 5, 3) := dk_154 0 5 (dk_at dksX7_isSeen_0 15 rfl rfl)
theorem dX7_isSeen_18 : decode cX7_isSeen 18 = .ok (.iconst 0, 1) := dk_3 (dk_at dksX7_isSeen_0 18 rfl rfl)
theorem dX7_isSeen_19 : decode cX7_isSeen 19 = .ok (.ireturn, 1) := dk_172 (dk_at dksX7_isSeen_0 19 rfl rfl)
theorem dX7_isSeen_20 : decode cX7_isSeen 20 = .ok (.aload_n 0, 1) := dk_42 (dk_at dksX7_isSeen_0 20 rfl rfl)
theorem dX7_isSeen_21 : decode cX7_isSeen 21 = .ok (.iconst 0, 1) := dk_3 (dk_at dksX7_isSeen_0 21 rfl rfl)
theorem dX7_isSeen_22 : decode cX7_isSeen 22 = .ok (.invokevirtual 166, 3) := dk_182 0 166 (dk_at dksX7_isSeen_1 0 rfl rfl)
theorem dX7_isSeen_25 : decode cX7_isSeen 25 = .ok (.aload_n 0, 1) := dk_42 (dk_at dksX7_isSeen_1 3 rfl rfl)
theorem dX7_isSeen_26 : decode cX7_isSeen 26 = .ok (.invokevirtual 254, 3) := dk_182 0 254 (dk_at dksX7_isSeen_1 4 rfl rfl)
theorem dX7_isSeen_29 : decode cX7_isSeen 29 = .ok (.iconst 1, 1) := dk_4 (dk_at dksX7_isSeen_1 7 rfl rfl)
theorem dX7_isSeen_30 : decode cX7_isSeen 30 = .ok (.istore_n 1, 1) := dk_60 (dk_at dksX7_isSeen_1 8 rfl rfl)
theorem dX7_isSeen_31 : decode cX7_isSeen 31 = .ok (.iconst 0, 1) := dk_3 (dk_at dksX7_isSeen_1 9 rfl rfl)
theorem dX7_isSeen_32 : decode cX7_isSeen 32 = .ok (.istore_n 2, 1) := dk_61 (dk_at dksX7_isSeen_1 10 rfl rfl)
theorem dX7_isSeen_33 : decode cX7_isSeen 33 = .ok (.iload_n 2, 1) := dk_28 (dk_at dksX7_isSeen_1 11 rfl rfl)
theorem dX7_isSeen_34 : decode cX7_isSeen 34 = .ok (.aload_n 0, 1) := dk_42 (dk_at dksX7_isSeen_1 12 rfl rfl)
theorem dX7_isSeen_35 : decode cX7_isSeen 35 = .ok (.getfield 320, 3) := dk_180 1 64 (dk_at dksX7_isSeen_1 13 rfl rfl)
theorem dX7_isSeen_38 : decode cX7_isSeen 38 = .ok (.if_icmp .ge 71, 3) := dk_162 0 71 (dk_at dksX7_isSeen_1 16 rfl rfl)
theorem dX7_isSeen_41 : decode cX7_isSeen 41 = .ok (.iload_n 1, 1) := dk_27 (dk_at dksX7_isSeen_1 19 rfl rfl)
theorem dX7_isSeen_42 : decode cX7_isSeen 42 = .ok (.ifCond .eq 59, 3) := dk_153 0 59 (dk_at dksX7_isSeen_1 20 rfl rfl)
theorem dX7_isSeen_45 : decode cX7_isSeen 45 = .ok (.aload_n 0, 1) := dk_42 (dk_at dksX7_isSeen_1 23 rfl rfl)
theorem dX7_isSeen_46 : decode cX7_isSeen 46 = .ok (.getfield 63, 3) := dk_180 0 63 (dk_at dksX7_isSeen_2 0 rfl rfl)
theorem dX7_isSeen_49 : decode cX7_isSeen 49 = .ok (.iload_n 2, 1) := dk_28 (dk_at dksX7_isSeen_2 3 rfl rfl)
theorem dX7_isSeen_50 : decode cX7_isSeen 50 = .ok (.iaload, 1) := dk_46 (dk_at dksX7_isSeen_2 4 rfl rfl)
theorem dX7_isSeen_51 : decode cX7_isSeen 51 = .ok (.aload_n 0, 1) := dk_42 (dk_at dksX7_isSeen_2 5 rfl rfl)
theorem dX7_isSeen_52 : decode cX7_isSeen 52 = .ok (.getfield 257, 3) := dk_180 1 1 (dk_at dksX7_isSeen_2 6 rfl rfl)
theorem dX7_isSeen_55 : decode cX7_isSeen 55 = .ok (.if_icmp .ge 46, 3) := dk_162 0 46 (dk_at dksX7_isSeen_2 9 rfl rfl)
theorem dX7_isSeen_58 : decode cX7_isSeen 58 = .ok (.aload_n 0, 1) := dk_42 (dk_at dksX7_isSeen_2 12 rfl rfl)
theorem dX7_isSeen_59 : decode cX7_isSeen 59 = .ok (.getfield 48, 3) := dk_180 0 48 (dk_at dksX7_isSeen_2 13 rfl rfl)
theorem dX7_isSeen_62 : decode cX7_isSeen 62 = .ok (.aload_n 0, 1) := dk_42 (dk_at dksX7_isSeen_2 16 rfl rfl)
theorem dX7_isSeen_63 : decode cX7_isSeen 63 = .ok (.getfield 63, 3) := dk_180 0 63 (dk_at dksX7_isSeen_2 17 rfl rfl)
theorem dX7_isSeen_66 : decode cX7_isSeen 66 = .ok (.iload_n 2, 1) := dk_28 (dk_at dksX7_isSeen_2 20 rfl rfl)
theorem dX7_isSeen_67 : decode cX7_isSeen 67 = .ok (.iaload, 1) := dk_46 (dk_at dksX7_isSeen_2 21 rfl rfl)
theorem dX7_isSeen_68 : decode cX7_isSeen 68 = .ok (.iaload, 1) := dk_46 (dk_at dksX7_isSeen_2 22 rfl rfl)
theorem dX7_isSeen_69 : decode cX7_isSeen 69 = .ok (.aload_n 0, 1) := dk_42 (dk_at dksX7_isSeen_2 23 rfl rfl)
theorem dX7_isSeen_70 : decode cX7_isSeen 70 = .ok (.getfield 69, 3) := dk_180 0 69 (dk_at dksX7_isSeen_3 0 rfl rfl)
theorem dX7_isSeen_73 : decode cX7_isSeen 73 = .ok (.iload_n 2, 1) := dk_28 (dk_at dksX7_isSeen_3 3 rfl rfl)
theorem dX7_isSeen_74 : decode cX7_isSeen 74 = .ok (.iaload, 1) := dk_46 (dk_at dksX7_isSeen_3 4 rfl rfl)
theorem dX7_isSeen_75 : decode cX7_isSeen 75 = .ok (.imul, 1) := dk_104 (dk_at dksX7_isSeen_3 5 rfl rfl)
theorem dX7_isSeen_76 : decode cX7_isSeen 76 = .ok (.aload_n 0, 1) := dk_42 (dk_at dksX7_isSeen_3 6 rfl rfl)
theorem dX7_isSeen_77 : decode cX7_isSeen 77 = .ok (.getfield 66, 3) := dk_180 0 66 (dk_at dksX7_isSeen_3 7 rfl rfl)
theorem dX7_isSeen_80 : decode cX7_isSeen 80 = .ok (.iload_n 2, 1) := dk_28 (dk_at dksX7_isSeen_3 10 rfl rfl)
theorem dX7_isSeen_81 : decode cX7_isSeen 81 = .ok (.iaload, 1) := dk_46 (dk_at dksX7_isSeen_3 11 rfl rfl)
theorem dX7_isSeen_82 : decode cX7_isSeen 82 = .ok (.aload_n 0, 1) := dk_42 (dk_at dksX7_isSeen_3 12 rfl rfl)
theorem dX7_isSeen_83 : decode cX7_isSeen 83 = .ok (.getfield 51, 3) := dk_180 0 51 (dk_at dksX7_isSeen_3 13 rfl rfl)
theorem dX7_isSeen_86 : decode cX7_isSeen 86 = .ok (.aload_n 0, 1) := dk_42 (dk_at dksX7_isSeen_3 16 rfl rfl)
theorem dX7_isSeen_87 : decode cX7_isSeen 87 = .ok (.getfield 63, 3) := dk_180 0 63 (dk_at dksX7_isSeen_3 17 rfl rfl)
theorem dX7_isSeen_90 : decode cX7_isSeen 90 = .ok (.iload_n 2, 1) := dk_28 (dk_at dksX7_isSeen_3 20 rfl rfl)
theorem dX7_isSeen_91 : decode cX7_isSeen 91 = .ok (.iaload, 1) := dk_46 (dk_at dksX7_isSeen_3 21 rfl rfl)
theorem dX7_isSeen_92 : decode cX7_isSeen 92 = .ok (.iaload, 1) := dk_46 (dk_at dksX7_isSeen_3 22 rfl rfl)
theorem dX7_isSeen_93 : decode cX7_isSeen 93 = .ok (.imul, 1) := dk_104 (dk_at dksX7_isSeen_3 23 rfl rfl)
theorem dX7_isSeen_94 : decode cX7_isSeen 94 = .ok (.if_icmp .ne 7, 3) := dk_160 0 7 (dk_at dksX7_isSeen_4 0 rfl rfl)
theorem dX7_isSeen_97 : decode cX7_isSeen 97 = .ok (.iconst 1, 1) := dk_4 (dk_at dksX7_isSeen_4 3 rfl rfl)
theorem dX7_isSeen_98 : decode cX7_isSeen 98 = .ok (.goto 4, 3) := dk_167 0 4 (dk_at dksX7_isSeen_4 4 rfl rfl)
theorem dX7_isSeen_101 : decode cX7_isSeen 101 = .ok (.iconst 0, 1) := dk_3 (dk_at dksX7_isSeen_4 7 rfl rfl)
theorem dX7_isSeen_102 : decode cX7_isSeen 102 = .ok (.istore_n 1, 1) := dk_60 (dk_at dksX7_isSeen_4 8 rfl rfl)
theorem dX7_isSeen_103 : decode cX7_isSeen 103 = .ok (.iinc 2 1, 3) := dk_132 2 1 (dk_at dksX7_isSeen_4 9 rfl rfl)
theorem dX7_isSeen_106 : decode cX7_isSeen 106 = .ok (.goto (-73), 3) := dk_167 255 183 (dk_at dksX7_isSeen_4 12 rfl rfl)
theorem dX7_isSeen_109 : decode cX7_isSeen 109 = .ok (.iload_n 1, 1) := dk_27 (dk_at dksX7_isSeen_4 15 rfl rfl)
theorem dX7_isSeen_110 : decode cX7_isSeen 110 = .ok (.ireturn, 1) := dk_172 (dk_at dksX7_isSeen_4 16 rfl rfl)
abbrev cX7_odds : ByteArray := prog_17_method_68_code
def yX7_odds : MethodName := ⟨RX7, "odds", "(IIII)J"⟩
def dkwX7_odds_2 : List UInt8 := [182, 1, 27, 100, 133, 20, 1, 70, 21, 4, 184, 1, 20, 173]
abbrev dktX7_odds_2 : List UInt8 := dkwX7_odds_2 ++ []
def dkwX7_odds_1 : List UInt8 := [153, 0, 12, 42, 180, 0, 11, 27, 46, 154, 0, 7, 20, 1, 15, 173, 16, 100, 42, 27, 28, 29]
abbrev dktX7_odds_1 : List UInt8 := dkwX7_odds_1 ++ dktX7_odds_2
def dkwX7_odds_0 : List UInt8 := [27, 184, 0, 136, 153, 0, 31, 28, 29, 184, 1, 9, 153, 0, 23, 21, 4, 133, 9, 10, 184, 0, 115]
abbrev dktX7_odds_0 : List UInt8 := dkwX7_odds_0 ++ dktX7_odds_1
theorem dksX7_odds_0 : cX7_odds.data.toList.drop 0 = dktX7_odds_0 := by decide +kernel
theorem dksX7_odds_1 : cX7_odds.data.toList.drop 23 = dktX7_odds_1 := dk_seg dksX7_odds_0 23 rfl rfl
theorem dksX7_odds_2 : cX7_odds.data.toList.drop 45 = dktX7_odds_2 := dk_seg dksX7_odds_1 22 rfl rfl
theorem dX7_odds_0 : decode cX7_odds 0 = .ok (.iload_n 1, 1) := dk_27 (dk_at dksX7_odds_0 0 rfl rfl)
theorem dX7_odds_1 : decode cX7_odds 1 = .ok (.invokestatic 136, 3) := dk_184 0 136 (dk_at dksX7_odds_0 1 rfl rfl)
theorem dX7_odds_4 : decode cX7_odds 4 = .ok (.ifCond .eq 31, 3) := dk_153 0 31 (dk_at dksX7_odds_0 4 rfl rfl)
theorem dX7_odds_7 : decode cX7_odds 7 = .ok (.iload_n 2, 1) := dk_28 (dk_at dksX7_odds_0 7 rfl rfl)
theorem dX7_odds_8 : decode cX7_odds 8 = .ok (.iload_n 3, 1) := dk_29 (dk_at dksX7_odds_0 8 rfl rfl)
theorem dX7_odds_9 : decode cX7_odds 9 = .ok (.invokestatic 265, 3) := dk_184 1 9 (dk_at dksX7_odds_0 9 rfl rfl)
theorem dX7_odds_12 : decode cX7_odds 12 = .ok (.ifCond .eq 23, 3) := dk_153 0 23 (dk_at dksX7_odds_0 12 rfl rfl)
theorem dX7_odds_15 : decode cX7_odds 15 = .ok (.iload 4, 2) := dk_21 4 (dk_at dksX7_odds_0 15 rfl rfl)
theorem dX7_odds_17 : decode cX7_odds 17 = .ok (.i2l, 1) := dk_133 (dk_at dksX7_odds_0 17 rfl rfl)
theorem dX7_odds_18 : decode cX7_odds 18 = .ok (.lconst 0, 1) := dk_9 (dk_at dksX7_odds_0 18 rfl rfl)
theorem dX7_odds_19 : decode cX7_odds 19 = .ok (.lconst 1, 1) := dk_10 (dk_at dksX7_odds_0 19 rfl rfl)
theorem dX7_odds_20 : decode cX7_odds 20 = .ok (.invokestatic 115, 3) := dk_184 0 115 (dk_at dksX7_odds_0 20 rfl rfl)
theorem dX7_odds_23 : decode cX7_odds 23 = .ok (.ifCond .eq 12, 3) := dk_153 0 12 (dk_at dksX7_odds_1 0 rfl rfl)
theorem dX7_odds_26 : decode cX7_odds 26 = .ok (.aload_n 0, 1) := dk_42 (dk_at dksX7_odds_1 3 rfl rfl)
theorem dX7_odds_27 : decode cX7_odds 27 = .ok (.getfield 11, 3) := dk_180 0 11 (dk_at dksX7_odds_1 4 rfl rfl)
theorem dX7_odds_30 : decode cX7_odds 30 = .ok (.iload_n 1, 1) := dk_27 (dk_at dksX7_odds_1 7 rfl rfl)
theorem dX7_odds_31 : decode cX7_odds 31 = .ok (.iaload, 1) := dk_46 (dk_at dksX7_odds_1 8 rfl rfl)
theorem dX7_odds_32 : decode cX7_odds 32 = .ok (.ifCond .ne 7, 3) := dk_154 0 7 (dk_at dksX7_odds_1 9 rfl rfl)
theorem dX7_odds_35 : decode cX7_odds 35 = .ok (.ldc2_w 271, 3) := dk_20 1 15 (dk_at dksX7_odds_1 12 rfl rfl)
theorem dX7_odds_38 : decode cX7_odds 38 = .ok (.lreturn, 1) := dk_173 (dk_at dksX7_odds_1 15 rfl rfl)
theorem dX7_odds_39 : decode cX7_odds 39 = .ok (.bipush 100, 2) := dk_16 100 (dk_at dksX7_odds_1 16 rfl rfl)
theorem dX7_odds_41 : decode cX7_odds 41 = .ok (.aload_n 0, 1) := dk_42 (dk_at dksX7_odds_1 18 rfl rfl)
theorem dX7_odds_42 : decode cX7_odds 42 = .ok (.iload_n 1, 1) := dk_27 (dk_at dksX7_odds_1 19 rfl rfl)
theorem dX7_odds_43 : decode cX7_odds 43 = .ok (.iload_n 2, 1) := dk_28 (dk_at dksX7_odds_1 20 rfl rfl)
theorem dX7_odds_44 : decode cX7_odds 44 = .ok (.iload_n 3, 1) := dk_29 (dk_at dksX7_odds_1 21 rfl rfl)
theorem dX7_odds_45 : decode cX7_odds 45 = .ok (.invokevirtual 283, 3) := dk_182 1 27 (dk_at dksX7_odds_2 0 rfl rfl)
theorem dX7_odds_48 : decode cX7_odds 48 = .ok (.isub, 1) := dk_100 (dk_at dksX7_odds_2 3 rfl rfl)
theorem dX7_odds_49 : decode cX7_odds 49 = .ok (.i2l, 1) := dk_133 (dk_at dksX7_odds_2 4 rfl rfl)
theorem dX7_odds_50 : decode cX7_odds 50 = .ok (.ldc2_w 326, 3) := dk_20 1 70 (dk_at dksX7_odds_2 5 rfl rfl)
theorem dX7_odds_53 : decode cX7_odds 53 = .ok (.iload 4, 2) := dk_21 4 (dk_at dksX7_odds_2 8 rfl rfl)
theorem dX7_odds_55 : decode cX7_odds 55 = .ok (.invokestatic 276, 3) := dk_184 1 20 (dk_at dksX7_odds_2 10 rfl rfl)
theorem dX7_odds_58 : decode cX7_odds 58 = .ok (.lreturn, 1) := dk_173 (dk_at dksX7_odds_2 13 rfl rfl)
abbrev cX7_mean : ByteArray := prog_17_method_69_code
def yX7_mean : MethodName := ⟨RX7, "mean", "(II)J"⟩
def dkwX7_mean_3 : List UInt8 := [133, 42, 180, 0, 11, 27, 46, 133, 28, 184, 1, 20, 173]
abbrev dktX7_mean_3 : List UInt8 := dkwX7_mean_3 ++ []
def dkwX7_mean_2 : List UInt8 := [42, 27, 21, 4, 182, 0, 125, 42, 27, 21, 4, 182, 0, 129, 96, 96, 62, 132, 4, 1, 167, 255, 224, 29]
abbrev dktX7_mean_2 : List UInt8 := dkwX7_mean_2 ++ dktX7_mean_3
def dkwX7_mean_1 : List UInt8 := [154, 0, 7, 20, 1, 15, 173, 3, 62, 3, 54, 4, 21, 4, 42, 180, 0, 11, 27, 46, 162, 0, 27, 29]
abbrev dktX7_mean_1 : List UInt8 := dkwX7_mean_1 ++ dktX7_mean_2
def dkwX7_mean_0 : List UInt8 := [27, 184, 0, 136, 153, 0, 22, 28, 133, 9, 10, 184, 0, 115, 153, 0, 12, 42, 180, 0, 11, 27, 46]
abbrev dktX7_mean_0 : List UInt8 := dkwX7_mean_0 ++ dktX7_mean_1
theorem dksX7_mean_0 : cX7_mean.data.toList.drop 0 = dktX7_mean_0 := by decide +kernel
theorem dksX7_mean_1 : cX7_mean.data.toList.drop 23 = dktX7_mean_1 := dk_seg dksX7_mean_0 23 rfl rfl
theorem dksX7_mean_2 : cX7_mean.data.toList.drop 47 = dktX7_mean_2 := dk_seg dksX7_mean_1 24 rfl rfl
theorem dksX7_mean_3 : cX7_mean.data.toList.drop 71 = dktX7_mean_3 := dk_seg dksX7_mean_2 24 rfl rfl
theorem dX7_mean_0 : decode cX7_mean 0 = .ok (.iload_n 1, 1) := dk_27 (dk_at dksX7_mean_0 0 rfl rfl)
theorem dX7_mean_1 : decode cX7_mean 1 = .ok (.invokestatic 136, 3) := dk_184 0 136 (dk_at dksX7_mean_0 1 rfl rfl)
theorem dX7_mean_4 : decode cX7_mean 4 = .ok (.ifCond .eq 22, 3) := dk_153 0 22 (dk_at dksX7_mean_0 4 rfl rfl)
theorem dX7_mean_7 : decode cX7_mean 7 = .ok (.iload_n 2, 1) := dk_28 (dk_at dksX7_mean_0 7 rfl rfl)
theorem dX7_mean_8 : decode cX7_mean 8 = .ok (.i2l, 1) := dk_133 (dk_at dksX7_mean_0 8 rfl rfl)
theorem dX7_mean_9 : decode cX7_mean 9 = .ok (.lconst 0, 1) := dk_9 (dk_at dksX7_mean_0 9 rfl rfl)
theorem dX7_mean_10 : decode cX7_mean 10 = .ok (.lconst 1, 1) := dk_10 (dk_at dksX7_mean_0 10 rfl rfl)
theorem dX7_mean_11 : decode cX7_mean 11 = .ok (.invokestatic 115, 3) := dk_184 0 115 (dk_at dksX7_mean_0 11 rfl rfl)
theorem dX7_mean_14 : decode cX7_mean 14 = .ok (.ifCond .eq 12, 3) := dk_153 0 12 (dk_at dksX7_mean_0 14 rfl rfl)
theorem dX7_mean_17 : decode cX7_mean 17 = .ok (.aload_n 0, 1) := dk_42 (dk_at dksX7_mean_0 17 rfl rfl)
theorem dX7_mean_18 : decode cX7_mean 18 = .ok (.getfield 11, 3) := dk_180 0 11 (dk_at dksX7_mean_0 18 rfl rfl)
theorem dX7_mean_21 : decode cX7_mean 21 = .ok (.iload_n 1, 1) := dk_27 (dk_at dksX7_mean_0 21 rfl rfl)
theorem dX7_mean_22 : decode cX7_mean 22 = .ok (.iaload, 1) := dk_46 (dk_at dksX7_mean_0 22 rfl rfl)
theorem dX7_mean_23 : decode cX7_mean 23 = .ok (.ifCond .ne 7, 3) := dk_154 0 7 (dk_at dksX7_mean_1 0 rfl rfl)
theorem dX7_mean_26 : decode cX7_mean 26 = .ok (.ldc2_w 271, 3) := dk_20 1 15 (dk_at dksX7_mean_1 3 rfl rfl)
theorem dX7_mean_29 : decode cX7_mean 29 = .ok (.lreturn, 1) := dk_173 (dk_at dksX7_mean_1 6 rfl rfl)
theorem dX7_mean_30 : decode cX7_mean 30 = .ok (.iconst 0, 1) := dk_3 (dk_at dksX7_mean_1 7 rfl rfl)
theorem dX7_mean_31 : decode cX7_mean 31 = .ok (.istore_n 3, 1) := dk_62 (dk_at dksX7_mean_1 8 rfl rfl)
theorem dX7_mean_32 : decode cX7_mean 32 = .ok (.iconst 0, 1) := dk_3 (dk_at dksX7_mean_1 9 rfl rfl)
theorem dX7_mean_33 : decode cX7_mean 33 = .ok (.istore 4, 2) := dk_54 4 (dk_at dksX7_mean_1 10 rfl rfl)
theorem dX7_mean_35 : decode cX7_mean 35 = .ok (.iload 4, 2) := dk_21 4 (dk_at dksX7_mean_1 12 rfl rfl)
theorem dX7_mean_37 : decode cX7_mean 37 = .ok (.aload_n 0, 1) := dk_42 (dk_at dksX7_mean_1 14 rfl rfl)
theorem dX7_mean_38 : decode cX7_mean 38 = .ok (.getfield 11, 3) := dk_180 0 11 (dk_at dksX7_mean_1 15 rfl rfl)
theorem dX7_mean_41 : decode cX7_mean 41 = .ok (.iload_n 1, 1) := dk_27 (dk_at dksX7_mean_1 18 rfl rfl)
theorem dX7_mean_42 : decode cX7_mean 42 = .ok (.iaload, 1) := dk_46 (dk_at dksX7_mean_1 19 rfl rfl)
theorem dX7_mean_43 : decode cX7_mean 43 = .ok (.if_icmp .ge 27, 3) := dk_162 0 27 (dk_at dksX7_mean_1 20 rfl rfl)
theorem dX7_mean_46 : decode cX7_mean 46 = .ok (.iload_n 3, 1) := dk_29 (dk_at dksX7_mean_1 23 rfl rfl)
theorem dX7_mean_47 : decode cX7_mean 47 = .ok (.aload_n 0, 1) := dk_42 (dk_at dksX7_mean_2 0 rfl rfl)
theorem dX7_mean_48 : decode cX7_mean 48 = .ok (.iload_n 1, 1) := dk_27 (dk_at dksX7_mean_2 1 rfl rfl)
theorem dX7_mean_49 : decode cX7_mean 49 = .ok (.iload 4, 2) := dk_21 4 (dk_at dksX7_mean_2 2 rfl rfl)
theorem dX7_mean_51 : decode cX7_mean 51 = .ok (.invokevirtual 125, 3) := dk_182 0 125 (dk_at dksX7_mean_2 4 rfl rfl)
theorem dX7_mean_54 : decode cX7_mean 54 = .ok (.aload_n 0, 1) := dk_42 (dk_at dksX7_mean_2 7 rfl rfl)
theorem dX7_mean_55 : decode cX7_mean 55 = .ok (.iload_n 1, 1) := dk_27 (dk_at dksX7_mean_2 8 rfl rfl)
theorem dX7_mean_56 : decode cX7_mean 56 = .ok (.iload 4, 2) := dk_21 4 (dk_at dksX7_mean_2 9 rfl rfl)
theorem dX7_mean_58 : decode cX7_mean 58 = .ok (.invokevirtual 129, 3) := dk_182 0 129 (dk_at dksX7_mean_2 11 rfl rfl)
theorem dX7_mean_61 : decode cX7_mean 61 = .ok (.iadd, 1) := dk_96 (dk_at dksX7_mean_2 14 rfl rfl)
theorem dX7_mean_62 : decode cX7_mean 62 = .ok (.iadd, 1) := dk_96 (dk_at dksX7_mean_2 15 rfl rfl)
theorem dX7_mean_63 : decode cX7_mean 63 = .ok (.istore_n 3, 1) := dk_62 (dk_at dksX7_mean_2 16 rfl rfl)
theorem dX7_mean_64 : decode cX7_mean 64 = .ok (.iinc 4 1, 3) := dk_132 4 1 (dk_at dksX7_mean_2 17 rfl rfl)
theorem dX7_mean_67 : decode cX7_mean 67 = .ok (.goto (-32), 3) := dk_167 255 224 (dk_at dksX7_mean_2 20 rfl rfl)
theorem dX7_mean_70 : decode cX7_mean 70 = .ok (.iload_n 3, 1) := dk_29 (dk_at dksX7_mean_2 23 rfl rfl)
theorem dX7_mean_71 : decode cX7_mean 71 = .ok (.i2l, 1) := dk_133 (dk_at dksX7_mean_3 0 rfl rfl)
theorem dX7_mean_72 : decode cX7_mean 72 = .ok (.aload_n 0, 1) := dk_42 (dk_at dksX7_mean_3 1 rfl rfl)
theorem dX7_mean_73 : decode cX7_mean 73 = .ok (.getfield 11, 3) := dk_180 0 11 (dk_at dksX7_mean_3 2 rfl rfl)
theorem dX7_mean_76 : decode cX7_mean 76 = .ok (.iload_n 1, 1) := dk_27 (dk_at dksX7_mean_3 5 rfl rfl)
theorem dX7_mean_77 : decode cX7_mean 77 = .ok (.iaload, 1) := dk_46 (dk_at dksX7_mean_3 6 rfl rfl)
theorem dX7_mean_78 : decode cX7_mean 78 = .ok (.i2l, 1) := dk_133 (dk_at dksX7_mean_3 7 rfl rfl)
theorem dX7_mean_79 : decode cX7_mean 79 = .ok (.iload_n 2, 1) := dk_28 (dk_at dksX7_mean_3 8 rfl rfl)
theorem dX7_mean_80 : decode cX7_mean 80 = .ok (.invokestatic 276, 3) := dk_184 1 20 (dk_at dksX7_mean_3 9 rfl rfl)
theorem dX7_mean_83 : decode cX7_mean 83 = .ok (.lreturn, 1) := dk_173 (dk_at dksX7_mean_3 12 rfl rfl)
abbrev cX7_event : ByteArray := prog_17_method_70_code
def yX7_event : MethodName := ⟨RX7, "event", "(II)I"⟩
def dkwX7_event_5 : List UInt8 := [181, 1, 72, 42, 180, 1, 72, 172]
abbrev dktX7_event_5 : List UInt8 := dkwX7_event_5 ++ []
def dkwX7_event_4 : List UInt8 := [180, 1, 72, 27, 79, 42, 180, 0, 75, 42, 180, 1, 72, 28, 79, 42, 89, 180, 1, 72, 4, 96]
abbrev dktX7_event_4 : List UInt8 := dkwX7_event_4 ++ dktX7_event_5
def dkwX7_event_3 : List UInt8 := [154, 0, 6, 16, 254, 172, 42, 180, 1, 72, 16, 8, 160, 0, 6, 16, 252, 172, 42, 180, 0, 72, 42]
abbrev dktX7_event_3 : List UInt8 := dkwX7_event_3 ++ dktX7_event_4
def dkwX7_event_2 : List UInt8 := [133, 9, 20, 1, 75, 184, 0, 115, 167, 0, 12, 28, 133, 10, 20, 0, 119, 184, 0, 115, 62, 29]
abbrev dktX7_event_2 : List UInt8 := dkwX7_event_2 ++ dktX7_event_3
def dkwX7_event_1 : List UInt8 := [2, 172, 27, 154, 0, 15, 28, 133, 9, 20, 1, 7, 184, 0, 115, 167, 0, 29, 27, 4, 160, 0, 15, 28]
abbrev dktX7_event_1 : List UInt8 := dkwX7_event_1 ++ dktX7_event_2
def dkwX7_event_0 : List UInt8 := [27, 2, 160, 0, 10, 42, 3, 181, 1, 72, 3, 172, 27, 133, 9, 20, 0, 241, 184, 0, 115, 154, 0, 5]
abbrev dktX7_event_0 : List UInt8 := dkwX7_event_0 ++ dktX7_event_1
theorem dksX7_event_0 : cX7_event.data.toList.drop 0 = dktX7_event_0 := by decide +kernel
theorem dksX7_event_1 : cX7_event.data.toList.drop 24 = dktX7_event_1 := dk_seg dksX7_event_0 24 rfl rfl
theorem dksX7_event_2 : cX7_event.data.toList.drop 48 = dktX7_event_2 := dk_seg dksX7_event_1 24 rfl rfl
theorem dksX7_event_3 : cX7_event.data.toList.drop 70 = dktX7_event_3 := dk_seg dksX7_event_2 22 rfl rfl
theorem dksX7_event_4 : cX7_event.data.toList.drop 93 = dktX7_event_4 := dk_seg dksX7_event_3 23 rfl rfl
theorem dksX7_event_5 : cX7_event.data.toList.drop 115 = dktX7_event_5 := dk_seg dksX7_event_4 22 rfl rfl
theorem dX7_event_0 : decode cX7_event 0 = .ok (.iload_n 1, 1) := dk_27 (dk_at dksX7_event_0 0 rfl rfl)
theorem dX7_event_1 : decode cX7_event 1 = .ok (.iconst (-1), 1) := dk_2 (dk_at dksX7_event_0 1 rfl rfl)
theorem dX7_event_2 : decode cX7_event 2 = .ok (.if_icmp .ne 10, 3) := dk_160 0 10 (dk_at dksX7_event_0 2 rfl rfl)
theorem dX7_event_5 : decode cX7_event 5 = .ok (.aload_n 0, 1) := dk_42 (dk_at dksX7_event_0 5 rfl rfl)
theorem dX7_event_6 : decode cX7_event 6 = .ok (.iconst 0, 1) := dk_3 (dk_at dksX7_event_0 6 rfl rfl)
theorem dX7_event_7 : decode cX7_event 7 = .ok (.putfield 328, 3) := dk_181 1 72 (dk_at dksX7_event_0 7 rfl rfl)
theorem dX7_event_10 : decode cX7_event 10 = .ok (.iconst 0, 1) := dk_3 (dk_at dksX7_event_0 10 rfl rfl)
theorem dX7_event_11 : decode cX7_event 11 = .ok (.ireturn, 1) := dk_172 (dk_at dksX7_event_0 11 rfl rfl)
theorem dX7_event_12 : decode cX7_event 12 = .ok (.iload_n 1, 1) := dk_27 (dk_at dksX7_event_0 12 rfl rfl)
theorem dX7_event_13 : decode cX7_event 13 = .ok (.i2l, 1) := dk_133 (dk_at dksX7_event_0 13 rfl rfl)
theorem dX7_event_14 : decode cX7_event 14 = .ok (.lconst 0, 1) := dk_9 (dk_at dksX7_event_0 14 rfl rfl)
theorem dX7_event_15 : decode cX7_event 15 = .ok (.ldc2_w 241, 3) := dk_20 0 241 (dk_at dksX7_event_0 15 rfl rfl)
theorem dX7_event_18 : decode cX7_event 18 = .ok (.invokestatic 115, 3) := dk_184 0 115 (dk_at dksX7_event_0 18 rfl rfl)
theorem dX7_event_21 : decode cX7_event 21 = .ok (.ifCond .ne 5, 3) := dk_154 0 5 (dk_at dksX7_event_0 21 rfl rfl)
theorem dX7_event_24 : decode cX7_event 24 = .ok (.iconst (-1), 1) := dk_2 (dk_at dksX7_event_1 0 rfl rfl)
theorem dX7_event_25 : decode cX7_event 25 = .ok (.ireturn, 1) := dk_172 (dk_at dksX7_event_1 1 rfl rfl)
theorem dX7_event_26 : decode cX7_event 26 = .ok (.iload_n 1, 1) := dk_27 (dk_at dksX7_event_1 2 rfl rfl)
theorem dX7_event_27 : decode cX7_event 27 = .ok (.ifCond .ne 15, 3) := dk_154 0 15 (dk_at dksX7_event_1 3 rfl rfl)
theorem dX7_event_30 : decode cX7_event 30 = .ok (.iload_n 2, 1) := dk_28 (dk_at dksX7_event_1 6 rfl rfl)
theorem dX7_event_31 : decode cX7_event 31 = .ok (.i2l, 1) := dk_133 (dk_at dksX7_event_1 7 rfl rfl)
theorem dX7_event_32 : decode cX7_event 32 = .ok (.lconst 0, 1) := dk_9 (dk_at dksX7_event_1 8 rfl rfl)
theorem dX7_event_33 : decode cX7_event 33 = .ok (.ldc2_w 263, 3) := dk_20 1 7 (dk_at dksX7_event_1 9 rfl rfl)
theorem dX7_event_36 : decode cX7_event 36 = .ok (.invokestatic 115, 3) := dk_184 0 115 (dk_at dksX7_event_1 12 rfl rfl)
theorem dX7_event_39 : decode cX7_event 39 = .ok (.goto 29, 3) := dk_167 0 29 (dk_at dksX7_event_1 15 rfl rfl)
theorem dX7_event_42 : decode cX7_event 42 = .ok (.iload_n 1, 1) := dk_27 (dk_at dksX7_event_1 18 rfl rfl)
theorem dX7_event_43 : decode cX7_event 43 = .ok (.iconst 1, 1) := dk_4 (dk_at dksX7_event_1 19 rfl rfl)
theorem dX7_event_44 : decode cX7_event 44 = .ok (.if_icmp .ne 15, 3) := dk_160 0 15 (dk_at dksX7_event_1 20 rfl rfl)
theorem dX7_event_47 : decode cX7_event 47 = .ok (.iload_n 2, 1) := dk_28 (dk_at dksX7_event_1 23 rfl rfl)
theorem dX7_event_48 : decode cX7_event 48 = .ok (.i2l, 1) := dk_133 (dk_at dksX7_event_2 0 rfl rfl)
theorem dX7_event_49 : decode cX7_event 49 = .ok (.lconst 0, 1) := dk_9 (dk_at dksX7_event_2 1 rfl rfl)
theorem dX7_event_50 : decode cX7_event 50 = .ok (.ldc2_w 331, 3) := dk_20 1 75 (dk_at dksX7_event_2 2 rfl rfl)
theorem dX7_event_53 : decode cX7_event 53 = .ok (.invokestatic 115, 3) := dk_184 0 115 (dk_at dksX7_event_2 5 rfl rfl)
theorem dX7_event_56 : decode cX7_event 56 = .ok (.goto 12, 3) := dk_167 0 12 (dk_at dksX7_event_2 8 rfl rfl)
theorem dX7_event_59 : decode cX7_event 59 = .ok (.iload_n 2, 1) := dk_28 (dk_at dksX7_event_2 11 rfl rfl)
theorem dX7_event_60 : decode cX7_event 60 = .ok (.i2l, 1) := dk_133 (dk_at dksX7_event_2 12 rfl rfl)
theorem dX7_event_61 : decode cX7_event 61 = .ok (.lconst 1, 1) := dk_10 (dk_at dksX7_event_2 13 rfl rfl)
theorem dX7_event_62 : decode cX7_event 62 = .ok (.ldc2_w 119, 3) := dk_20 0 119 (dk_at dksX7_event_2 14 rfl rfl)
theorem dX7_event_65 : decode cX7_event 65 = .ok (.invokestatic 115, 3) := dk_184 0 115 (dk_at dksX7_event_2 17 rfl rfl)
theorem dX7_event_68 : decode cX7_event 68 = .ok (.istore_n 3, 1) := dk_62 (dk_at dksX7_event_2 20 rfl rfl)
theorem dX7_event_69 : decode cX7_event 69 = .ok (.iload_n 3, 1) := dk_29 (dk_at dksX7_event_2 21 rfl rfl)
theorem dX7_event_70 : decode cX7_event 70 = .ok (.ifCond .ne 6, 3) := dk_154 0 6 (dk_at dksX7_event_3 0 rfl rfl)
theorem dX7_event_73 : decode cX7_event 73 = .ok (.bipush (-2), 2) := dk_16 254 (dk_at dksX7_event_3 3 rfl rfl)
theorem dX7_event_75 : decode cX7_event 75 = .ok (.ireturn, 1) := dk_172 (dk_at dksX7_event_3 5 rfl rfl)
theorem dX7_event_76 : decode cX7_event 76 = .ok (.aload_n 0, 1) := dk_42 (dk_at dksX7_event_3 6 rfl rfl)
theorem dX7_event_77 : decode cX7_event 77 = .ok (.getfield 328, 3) := dk_180 1 72 (dk_at dksX7_event_3 7 rfl rfl)
theorem dX7_event_80 : decode cX7_event 80 = .ok (.bipush 8, 2) := dk_16 8 (dk_at dksX7_event_3 10 rfl rfl)
theorem dX7_event_82 : decode cX7_event 82 = .ok (.if_icmp .ne 6, 3) := dk_160 0 6 (dk_at dksX7_event_3 12 rfl rfl)
theorem dX7_event_85 : decode cX7_event 85 = .ok (.bipush (-4), 2) := dk_16 252 (dk_at dksX7_event_3 15 rfl rfl)
theorem dX7_event_87 : decode cX7_event 87 = .ok (.ireturn, 1) := dk_172 (dk_at dksX7_event_3 17 rfl rfl)
theorem dX7_event_88 : decode cX7_event 88 = .ok (.aload_n 0, 1) := dk_42 (dk_at dksX7_event_3 18 rfl rfl)
theorem dX7_event_89 : decode cX7_event 89 = .ok (.getfield 72, 3) := dk_180 0 72 (dk_at dksX7_event_3 19 rfl rfl)
theorem dX7_event_92 : decode cX7_event 92 = .ok (.aload_n 0, 1) := dk_42 (dk_at dksX7_event_3 22 rfl rfl)
theorem dX7_event_93 : decode cX7_event 93 = .ok (.getfield 328, 3) := dk_180 1 72 (dk_at dksX7_event_4 0 rfl rfl)
theorem dX7_event_96 : decode cX7_event 96 = .ok (.iload_n 1, 1) := dk_27 (dk_at dksX7_event_4 3 rfl rfl)
theorem dX7_event_97 : decode cX7_event 97 = .ok (.iastore, 1) := dk_79 (dk_at dksX7_event_4 4 rfl rfl)
theorem dX7_event_98 : decode cX7_event 98 = .ok (.aload_n 0, 1) := dk_42 (dk_at dksX7_event_4 5 rfl rfl)
theorem dX7_event_99 : decode cX7_event 99 = .ok (.getfield 75, 3) := dk_180 0 75 (dk_at dksX7_event_4 6 rfl rfl)
theorem dX7_event_102 : decode cX7_event 102 = .ok (.aload_n 0, 1) := dk_42 (dk_at dksX7_event_4 9 rfl rfl)
theorem dX7_event_103 : decode cX7_event 103 = .ok (.getfield 328, 3) := dk_180 1 72 (dk_at dksX7_event_4 10 rfl rfl)
theorem dX7_event_106 : decode cX7_event 106 = .ok (.iload_n 2, 1) := dk_28 (dk_at dksX7_event_4 13 rfl rfl)
theorem dX7_event_107 : decode cX7_event 107 = .ok (.iastore, 1) := dk_79 (dk_at dksX7_event_4 14 rfl rfl)
theorem dX7_event_108 : decode cX7_event 108 = .ok (.aload_n 0, 1) := dk_42 (dk_at dksX7_event_4 15 rfl rfl)
theorem dX7_event_109 : decode cX7_event 109 = .ok (.dup, 1) := dk_89 (dk_at dksX7_event_4 16 rfl rfl)
theorem dX7_event_110 : decode cX7_event 110 = .ok (.getfield 328, 3) := dk_180 1 72 (dk_at dksX7_event_4 17 rfl rfl)
theorem dX7_event_113 : decode cX7_event 113 = .ok (.iconst 1, 1) := dk_4 (dk_at dksX7_event_4 20 rfl rfl)
theorem dX7_event_114 : decode cX7_event 114 = .ok (.iadd, 1) := dk_96 (dk_at dksX7_event_4 21 rfl rfl)
theorem dX7_event_115 : decode cX7_event 115 = .ok (.putfield 328, 3) := dk_181 1 72 (dk_at dksX7_event_5 0 rfl rfl)
theorem dX7_event_118 : decode cX7_event 118 = .ok (.aload_n 0, 1) := dk_42 (dk_at dksX7_event_5 3 rfl rfl)
theorem dX7_event_119 : decode cX7_event 119 = .ok (.getfield 328, 3) := dk_180 1 72 (dk_at dksX7_event_5 4 rfl rfl)
theorem dX7_event_122 : decode cX7_event 122 = .ok (.ireturn, 1) := dk_172 (dk_at dksX7_event_5 7 rfl rfl)
abbrev cX7_after : ByteArray := prog_17_method_73_code
def yX7_after : MethodName := ⟨RX7, "after", "(I)I"⟩
def dkwX7_after_3 : List UInt8 := [154, 0, 6, 16, 253, 172, 42, 5, 27, 4, 160, 0, 7, 7, 167, 0, 4, 6, 182, 0, 248, 172]
abbrev dktX7_after_3 : List UInt8 := dkwX7_after_3 ++ []
def dkwX7_after_2 : List UInt8 := [132, 2, 1, 167, 255, 229, 27, 154, 0, 10, 42, 180, 0, 11, 5, 46, 172, 42, 180, 0, 11, 5, 46]
abbrev dktX7_after_2 : List UInt8 := dkwX7_after_2 ++ dktX7_after_3
def dkwX7_after_1 : List UInt8 := [180, 1, 72, 162, 0, 25, 42, 42, 180, 0, 72, 28, 46, 42, 180, 0, 75, 28, 46, 182, 1, 86]
abbrev dktX7_after_1 : List UInt8 := dkwX7_after_1 ++ dktX7_after_2
def dkwX7_after_0 : List UInt8 := [27, 133, 9, 20, 0, 241, 184, 0, 115, 154, 0, 5, 2, 172, 42, 3, 5, 182, 1, 83, 3, 61, 28, 42]
abbrev dktX7_after_0 : List UInt8 := dkwX7_after_0 ++ dktX7_after_1
theorem dksX7_after_0 : cX7_after.data.toList.drop 0 = dktX7_after_0 := by decide +kernel
theorem dksX7_after_1 : cX7_after.data.toList.drop 24 = dktX7_after_1 := dk_seg dksX7_after_0 24 rfl rfl
theorem dksX7_after_2 : cX7_after.data.toList.drop 46 = dktX7_after_2 := dk_seg dksX7_after_1 22 rfl rfl
theorem dksX7_after_3 : cX7_after.data.toList.drop 69 = dktX7_after_3 := dk_seg dksX7_after_2 23 rfl rfl
theorem dX7_after_0 : decode cX7_after 0 = .ok (.iload_n 1, 1) := dk_27 (dk_at dksX7_after_0 0 rfl rfl)
theorem dX7_after_1 : decode cX7_after 1 = .ok (.i2l, 1) := dk_133 (dk_at dksX7_after_0 1 rfl rfl)
theorem dX7_after_2 : decode cX7_after 2 = .ok (.lconst 0, 1) := dk_9 (dk_at dksX7_after_0 2 rfl rfl)
theorem dX7_after_3 : decode cX7_after 3 = .ok (.ldc2_w 241, 3) := dk_20 0 241 (dk_at dksX7_after_0 3 rfl rfl)
theorem dX7_after_6 : decode cX7_after 6 = .ok (.invokestatic 115, 3) := dk_184 0 115 (dk_at dksX7_after_0 6 rfl rfl)
theorem dX7_after_9 : decode cX7_after 9 = .ok (.ifCond .ne 5, 3) := dk_154 0 5 (dk_at dksX7_after_0 9 rfl rfl)
theorem dX7_after_12 : decode cX7_after 12 = .ok (.iconst (-1), 1) := dk_2 (dk_at dksX7_after_0 12 rfl rfl)
theorem dX7_after_13 : decode cX7_after 13 = .ok (.ireturn, 1) := dk_172 (dk_at dksX7_after_0 13 rfl rfl)
theorem dX7_after_14 : decode cX7_after 14 = .ok (.aload_n 0, 1) := dk_42 (dk_at dksX7_after_0 14 rfl rfl)
theorem dX7_after_15 : decode cX7_after 15 = .ok (.iconst 0, 1) := dk_3 (dk_at dksX7_after_0 15 rfl rfl)
theorem dX7_after_16 : decode cX7_after 16 = .ok (.iconst 2, 1) := dk_5 (dk_at dksX7_after_0 16 rfl rfl)
theorem dX7_after_17 : decode cX7_after 17 = .ok (.invokevirtual 339, 3) := dk_182 1 83 (dk_at dksX7_after_0 17 rfl rfl)
theorem dX7_after_20 : decode cX7_after 20 = .ok (.iconst 0, 1) := dk_3 (dk_at dksX7_after_0 20 rfl rfl)
theorem dX7_after_21 : decode cX7_after 21 = .ok (.istore_n 2, 1) := dk_61 (dk_at dksX7_after_0 21 rfl rfl)
theorem dX7_after_22 : decode cX7_after 22 = .ok (.iload_n 2, 1) := dk_28 (dk_at dksX7_after_0 22 rfl rfl)
theorem dX7_after_23 : decode cX7_after 23 = .ok (.aload_n 0, 1) := dk_42 (dk_at dksX7_after_0 23 rfl rfl)
theorem dX7_after_24 : decode cX7_after 24 = .ok (.getfield 328, 3) := dk_180 1 72 (dk_at dksX7_after_1 0 rfl rfl)
theorem dX7_after_27 : decode cX7_after 27 = .ok (.if_icmp .ge 25, 3) := dk_162 0 25 (dk_at dksX7_after_1 3 rfl rfl)
theorem dX7_after_30 : decode cX7_after 30 = .ok (.aload_n 0, 1) := dk_42 (dk_at dksX7_after_1 6 rfl rfl)
theorem dX7_after_31 : decode cX7_after 31 = .ok (.aload_n 0, 1) := dk_42 (dk_at dksX7_after_1 7 rfl rfl)
theorem dX7_after_32 : decode cX7_after 32 = .ok (.getfield 72, 3) := dk_180 0 72 (dk_at dksX7_after_1 8 rfl rfl)
theorem dX7_after_35 : decode cX7_after 35 = .ok (.iload_n 2, 1) := dk_28 (dk_at dksX7_after_1 11 rfl rfl)
theorem dX7_after_36 : decode cX7_after 36 = .ok (.iaload, 1) := dk_46 (dk_at dksX7_after_1 12 rfl rfl)
theorem dX7_after_37 : decode cX7_after 37 = .ok (.aload_n 0, 1) := dk_42 (dk_at dksX7_after_1 13 rfl rfl)
theorem dX7_after_38 : decode cX7_after 38 = .ok (.getfield 75, 3) := dk_180 0 75 (dk_at dksX7_after_1 14 rfl rfl)
theorem dX7_after_41 : decode cX7_after 41 = .ok (.iload_n 2, 1) := dk_28 (dk_at dksX7_after_1 17 rfl rfl)
theorem dX7_after_42 : decode cX7_after 42 = .ok (.iaload, 1) := dk_46 (dk_at dksX7_after_1 18 rfl rfl)
theorem dX7_after_43 : decode cX7_after 43 = .ok (.invokevirtual 342, 3) := dk_182 1 86 (dk_at dksX7_after_1 19 rfl rfl)
theorem dX7_after_46 : decode cX7_after 46 = .ok (.iinc 2 1, 3) := dk_132 2 1 (dk_at dksX7_after_2 0 rfl rfl)
theorem dX7_after_49 : decode cX7_after 49 = .ok (.goto (-27), 3) := dk_167 255 229 (dk_at dksX7_after_2 3 rfl rfl)
theorem dX7_after_52 : decode cX7_after 52 = .ok (.iload_n 1, 1) := dk_27 (dk_at dksX7_after_2 6 rfl rfl)
theorem dX7_after_53 : decode cX7_after 53 = .ok (.ifCond .ne 10, 3) := dk_154 0 10 (dk_at dksX7_after_2 7 rfl rfl)
theorem dX7_after_56 : decode cX7_after 56 = .ok (.aload_n 0, 1) := dk_42 (dk_at dksX7_after_2 10 rfl rfl)
theorem dX7_after_57 : decode cX7_after 57 = .ok (.getfield 11, 3) := dk_180 0 11 (dk_at dksX7_after_2 11 rfl rfl)
theorem dX7_after_60 : decode cX7_after 60 = .ok (.iconst 2, 1) := dk_5 (dk_at dksX7_after_2 14 rfl rfl)
theorem dX7_after_61 : decode cX7_after 61 = .ok (.iaload, 1) := dk_46 (dk_at dksX7_after_2 15 rfl rfl)
theorem dX7_after_62 : decode cX7_after 62 = .ok (.ireturn, 1) := dk_172 (dk_at dksX7_after_2 16 rfl rfl)
theorem dX7_after_63 : decode cX7_after 63 = .ok (.aload_n 0, 1) := dk_42 (dk_at dksX7_after_2 17 rfl rfl)
theorem dX7_after_64 : decode cX7_after 64 = .ok (.getfield 11, 3) := dk_180 0 11 (dk_at dksX7_after_2 18 rfl rfl)
theorem dX7_after_67 : decode cX7_after 67 = .ok (.iconst 2, 1) := dk_5 (dk_at dksX7_after_2 21 rfl rfl)
theorem dX7_after_68 : decode cX7_after 68 = .ok (.iaload, 1) := dk_46 (dk_at dksX7_after_2 22 rfl rfl)
theorem dX7_after_69 : decode cX7_after 69 = .ok (.ifCond .ne 6, 3) := dk_154 0 6 (dk_at dksX7_after_3 0 rfl rfl)
theorem dX7_after_72 : decode cX7_after 72 = .ok (.bipush (-3), 2) := dk_16 253 (dk_at dksX7_after_3 3 rfl rfl)
theorem dX7_after_74 : decode cX7_after 74 = .ok (.ireturn, 1) := dk_172 (dk_at dksX7_after_3 5 rfl rfl)
theorem dX7_after_75 : decode cX7_after 75 = .ok (.aload_n 0, 1) := dk_42 (dk_at dksX7_after_3 6 rfl rfl)
theorem dX7_after_76 : decode cX7_after 76 = .ok (.iconst 2, 1) := dk_5 (dk_at dksX7_after_3 7 rfl rfl)
theorem dX7_after_77 : decode cX7_after 77 = .ok (.iload_n 1, 1) := dk_27 (dk_at dksX7_after_3 8 rfl rfl)
theorem dX7_after_78 : decode cX7_after 78 = .ok (.iconst 1, 1) := dk_4 (dk_at dksX7_after_3 9 rfl rfl)
theorem dX7_after_79 : decode cX7_after 79 = .ok (.if_icmp .ne 7, 3) := dk_160 0 7 (dk_at dksX7_after_3 10 rfl rfl)
theorem dX7_after_82 : decode cX7_after 82 = .ok (.iconst 4, 1) := dk_7 (dk_at dksX7_after_3 13 rfl rfl)
theorem dX7_after_83 : decode cX7_after 83 = .ok (.goto 4, 3) := dk_167 0 4 (dk_at dksX7_after_3 14 rfl rfl)
theorem dX7_after_86 : decode cX7_after 86 = .ok (.iconst 3, 1) := dk_6 (dk_at dksX7_after_3 17 rfl rfl)
theorem dX7_after_87 : decode cX7_after 87 = .ok (.invokevirtual 248, 3) := dk_182 0 248 (dk_at dksX7_after_3 18 rfl rfl)
theorem dX7_after_90 : decode cX7_after 90 = .ok (.ireturn, 1) := dk_172 (dk_at dksX7_after_3 21 rfl rfl)
abbrev cX7_likens : ByteArray := prog_17_method_12_code
def yX7_likens : MethodName := ⟨RX7, "likens", "(II)V"⟩
def dkwX7_likens_2 : List UInt8 := [27, 29, 182, 0, 129, 79, 132, 3, 1, 167, 255, 213, 177]
abbrev dktX7_likens_2 : List UInt8 := dkwX7_likens_2 ++ []
def dkwX7_likens_1 : List UInt8 := [16, 6, 28, 104, 29, 96, 42, 27, 29, 182, 0, 125, 79, 42, 180, 0, 18, 16, 6, 28, 104, 29, 96, 42]
abbrev dktX7_likens_1 : List UInt8 := dkwX7_likens_1 ++ dktX7_likens_2
def dkwX7_likens_0 : List UInt8 := [42, 180, 0, 11, 28, 42, 180, 0, 11, 27, 46, 79, 3, 62, 29, 16, 6, 162, 0, 43, 42, 180, 0, 15]
abbrev dktX7_likens_0 : List UInt8 := dkwX7_likens_0 ++ dktX7_likens_1
theorem dksX7_likens_0 : cX7_likens.data.toList.drop 0 = dktX7_likens_0 := by decide +kernel
theorem dksX7_likens_1 : cX7_likens.data.toList.drop 24 = dktX7_likens_1 := dk_seg dksX7_likens_0 24 rfl rfl
theorem dksX7_likens_2 : cX7_likens.data.toList.drop 48 = dktX7_likens_2 := dk_seg dksX7_likens_1 24 rfl rfl
theorem dX7_likens_0 : decode cX7_likens 0 = .ok (.aload_n 0, 1) := dk_42 (dk_at dksX7_likens_0 0 rfl rfl)
theorem dX7_likens_1 : decode cX7_likens 1 = .ok (.getfield 11, 3) := dk_180 0 11 (dk_at dksX7_likens_0 1 rfl rfl)
theorem dX7_likens_4 : decode cX7_likens 4 = .ok (.iload_n 2, 1) := dk_28 (dk_at dksX7_likens_0 4 rfl rfl)
theorem dX7_likens_5 : decode cX7_likens 5 = .ok (.aload_n 0, 1) := dk_42 (dk_at dksX7_likens_0 5 rfl rfl)
theorem dX7_likens_6 : decode cX7_likens 6 = .ok (.getfield 11, 3) := dk_180 0 11 (dk_at dksX7_likens_0 6 rfl rfl)
theorem dX7_likens_9 : decode cX7_likens 9 = .ok (.iload_n 1, 1) := dk_27 (dk_at dksX7_likens_0 9 rfl rfl)
theorem dX7_likens_10 : decode cX7_likens 10 = .ok (.iaload, 1) := dk_46 (dk_at dksX7_likens_0 10 rfl rfl)
theorem dX7_likens_11 : decode cX7_likens 11 = .ok (.iastore, 1) := dk_79 (dk_at dksX7_likens_0 11 rfl rfl)
theorem dX7_likens_12 : decode cX7_likens 12 = .ok (.iconst 0, 1) := dk_3 (dk_at dksX7_likens_0 12 rfl rfl)
theorem dX7_likens_13 : decode cX7_likens 13 = .ok (.istore_n 3, 1) := dk_62 (dk_at dksX7_likens_0 13 rfl rfl)
theorem dX7_likens_14 : decode cX7_likens 14 = .ok (.iload_n 3, 1) := dk_29 (dk_at dksX7_likens_0 14 rfl rfl)
theorem dX7_likens_15 : decode cX7_likens 15 = .ok (.bipush 6, 2) := dk_16 6 (dk_at dksX7_likens_0 15 rfl rfl)
theorem dX7_likens_17 : decode cX7_likens 17 = .ok (.if_icmp .ge 43, 3) := dk_162 0 43 (dk_at dksX7_likens_0 17 rfl rfl)
theorem dX7_likens_20 : decode cX7_likens 20 = .ok (.aload_n 0, 1) := dk_42 (dk_at dksX7_likens_0 20 rfl rfl)
theorem dX7_likens_21 : decode cX7_likens 21 = .ok (.getfield 15, 3) := dk_180 0 15 (dk_at dksX7_likens_0 21 rfl rfl)
theorem dX7_likens_24 : decode cX7_likens 24 = .ok (.bipush 6, 2) := dk_16 6 (dk_at dksX7_likens_1 0 rfl rfl)
theorem dX7_likens_26 : decode cX7_likens 26 = .ok (.iload_n 2, 1) := dk_28 (dk_at dksX7_likens_1 2 rfl rfl)
theorem dX7_likens_27 : decode cX7_likens 27 = .ok (.imul, 1) := dk_104 (dk_at dksX7_likens_1 3 rfl rfl)
theorem dX7_likens_28 : decode cX7_likens 28 = .ok (.iload_n 3, 1) := dk_29 (dk_at dksX7_likens_1 4 rfl rfl)
theorem dX7_likens_29 : decode cX7_likens 29 = .ok (.iadd, 1) := dk_96 (dk_at dksX7_likens_1 5 rfl rfl)
theorem dX7_likens_30 : decode cX7_likens 30 = .ok (.aload_n 0, 1) := dk_42 (dk_at dksX7_likens_1 6 rfl rfl)
theorem dX7_likens_31 : decode cX7_likens 31 = .ok (.iload_n 1, 1) := dk_27 (dk_at dksX7_likens_1 7 rfl rfl)
theorem dX7_likens_32 : decode cX7_likens 32 = .ok (.iload_n 3, 1) := dk_29 (dk_at dksX7_likens_1 8 rfl rfl)
theorem dX7_likens_33 : decode cX7_likens 33 = .ok (.invokevirtual 125, 3) := dk_182 0 125 (dk_at dksX7_likens_1 9 rfl rfl)
theorem dX7_likens_36 : decode cX7_likens 36 = .ok (.iastore, 1) := dk_79 (dk_at dksX7_likens_1 12 rfl rfl)
theorem dX7_likens_37 : decode cX7_likens 37 = .ok (.aload_n 0, 1) := dk_42 (dk_at dksX7_likens_1 13 rfl rfl)
theorem dX7_likens_38 : decode cX7_likens 38 = .ok (.getfield 18, 3) := dk_180 0 18 (dk_at dksX7_likens_1 14 rfl rfl)
theorem dX7_likens_41 : decode cX7_likens 41 = .ok (.bipush 6, 2) := dk_16 6 (dk_at dksX7_likens_1 17 rfl rfl)
theorem dX7_likens_43 : decode cX7_likens 43 = .ok (.iload_n 2, 1) := dk_28 (dk_at dksX7_likens_1 19 rfl rfl)
theorem dX7_likens_44 : decode cX7_likens 44 = .ok (.imul, 1) := dk_104 (dk_at dksX7_likens_1 20 rfl rfl)
theorem dX7_likens_45 : decode cX7_likens 45 = .ok (.iload_n 3, 1) := dk_29 (dk_at dksX7_likens_1 21 rfl rfl)
theorem dX7_likens_46 : decode cX7_likens 46 = .ok (.iadd, 1) := dk_96 (dk_at dksX7_likens_1 22 rfl rfl)
theorem dX7_likens_47 : decode cX7_likens 47 = .ok (.aload_n 0, 1) := dk_42 (dk_at dksX7_likens_1 23 rfl rfl)
theorem dX7_likens_48 : decode cX7_likens 48 = .ok (.iload_n 1, 1) := dk_27 (dk_at dksX7_likens_2 0 rfl rfl)
theorem dX7_likens_49 : decode cX7_likens 49 = .ok (.iload_n 3, 1) := dk_29 (dk_at dksX7_likens_2 1 rfl rfl)
theorem dX7_likens_50 : decode cX7_likens 50 = .ok (.invokevirtual 129, 3) := dk_182 0 129 (dk_at dksX7_likens_2 2 rfl rfl)
theorem dX7_likens_53 : decode cX7_likens 53 = .ok (.iastore, 1) := dk_79 (dk_at dksX7_likens_2 5 rfl rfl)
theorem dX7_likens_54 : decode cX7_likens 54 = .ok (.iinc 3 1, 3) := dk_132 3 1 (dk_at dksX7_likens_2 6 rfl rfl)
theorem dX7_likens_57 : decode cX7_likens 57 = .ok (.goto (-43), 3) := dk_167 255 213 (dk_at dksX7_likens_2 9 rfl rfl)
theorem dX7_likens_60 : decode cX7_likens 60 = .ok (.return_, 1) := dk_177 (dk_at dksX7_likens_2 12 rfl rfl)
abbrev cX7_happens : ByteArray := prog_17_method_72_code
def yX7_happens : MethodName := ⟨RX7, "happens", "(II)V"⟩
def dkwX7_happens_3 : List UInt8 := [28, 16, 10, 112, 182, 0, 151, 177]
abbrev dktX7_happens_3 : List UInt8 := dkwX7_happens_3 ++ []
def dkwX7_happens_2 : List UInt8 := [182, 0, 143, 2, 160, 0, 27, 42, 180, 0, 11, 5, 46, 16, 6, 162, 0, 16, 42, 5, 28, 16, 10, 108]
abbrev dktX7_happens_2 : List UInt8 := dkwX7_happens_2 ++ dktX7_happens_3
def dkwX7_happens_1 : List UInt8 := [46, 162, 0, 53, 42, 5, 28, 182, 0, 159, 167, 0, 44, 42, 5, 28, 16, 10, 108, 28, 16, 10, 112]
abbrev dktX7_happens_1 : List UInt8 := dkwX7_happens_1 ++ dktX7_happens_2
def dkwX7_happens_0 : List UInt8 := [27, 5, 160, 0, 11, 42, 28, 182, 1, 80, 167, 0, 68, 27, 4, 160, 0, 22, 28, 42, 180, 0, 11, 5]
abbrev dktX7_happens_0 : List UInt8 := dkwX7_happens_0 ++ dktX7_happens_1
theorem dksX7_happens_0 : cX7_happens.data.toList.drop 0 = dktX7_happens_0 := by decide +kernel
theorem dksX7_happens_1 : cX7_happens.data.toList.drop 24 = dktX7_happens_1 := dk_seg dksX7_happens_0 24 rfl rfl
theorem dksX7_happens_2 : cX7_happens.data.toList.drop 47 = dktX7_happens_2 := dk_seg dksX7_happens_1 23 rfl rfl
theorem dksX7_happens_3 : cX7_happens.data.toList.drop 71 = dktX7_happens_3 := dk_seg dksX7_happens_2 24 rfl rfl
theorem dX7_happens_0 : decode cX7_happens 0 = .ok (.iload_n 1, 1) := dk_27 (dk_at dksX7_happens_0 0 rfl rfl)
theorem dX7_happens_1 : decode cX7_happens 1 = .ok (.iconst 2, 1) := dk_5 (dk_at dksX7_happens_0 1 rfl rfl)
theorem dX7_happens_2 : decode cX7_happens 2 = .ok (.if_icmp .ne 11, 3) := dk_160 0 11 (dk_at dksX7_happens_0 2 rfl rfl)
theorem dX7_happens_5 : decode cX7_happens 5 = .ok (.aload_n 0, 1) := dk_42 (dk_at dksX7_happens_0 5 rfl rfl)
theorem dX7_happens_6 : decode cX7_happens 6 = .ok (.iload_n 2, 1) := dk_28 (dk_at dksX7_happens_0 6 rfl rfl)
theorem dX7_happens_7 : decode cX7_happens 7 = .ok (.invokevirtual 336, 3) := dk_182 1 80 (dk_at dksX7_happens_0 7 rfl rfl)
theorem dX7_happens_10 : decode cX7_happens 10 = .ok (.goto 68, 3) := dk_167 0 68 (dk_at dksX7_happens_0 10 rfl rfl)
theorem dX7_happens_13 : decode cX7_happens 13 = .ok (.iload_n 1, 1) := dk_27 (dk_at dksX7_happens_0 13 rfl rfl)
theorem dX7_happens_14 : decode cX7_happens 14 = .ok (.iconst 1, 1) := dk_4 (dk_at dksX7_happens_0 14 rfl rfl)
theorem dX7_happens_15 : decode cX7_happens 15 = .ok (.if_icmp .ne 22, 3) := dk_160 0 22 (dk_at dksX7_happens_0 15 rfl rfl)
theorem dX7_happens_18 : decode cX7_happens 18 = .ok (.iload_n 2, 1) := dk_28 (dk_at dksX7_happens_0 18 rfl rfl)
theorem dX7_happens_19 : decode cX7_happens 19 = .ok (.aload_n 0, 1) := dk_42 (dk_at dksX7_happens_0 19 rfl rfl)
theorem dX7_happens_20 : decode cX7_happens 20 = .ok (.getfield 11, 3) := dk_180 0 11 (dk_at dksX7_happens_0 20 rfl rfl)
theorem dX7_happens_23 : decode cX7_happens 23 = .ok (.iconst 2, 1) := dk_5 (dk_at dksX7_happens_0 23 rfl rfl)
theorem dX7_happens_24 : decode cX7_happens 24 = .ok (.iaload, 1) := dk_46 (dk_at dksX7_happens_1 0 rfl rfl)
theorem dX7_happens_25 : decode cX7_happens 25 = .ok (.if_icmp .ge 53, 3) := dk_162 0 53 (dk_at dksX7_happens_1 1 rfl rfl)
theorem dX7_happens_28 : decode cX7_happens 28 = .ok (.aload_n 0, 1) := dk_42 (dk_at dksX7_happens_1 4 rfl rfl)
theorem dX7_happens_29 : decode cX7_happens 29 = .ok (.iconst 2, 1) := dk_5 (dk_at dksX7_happens_1 5 rfl rfl)
theorem dX7_happens_30 : decode cX7_happens 30 = .ok (.iload_n 2, 1) := dk_28 (dk_at dksX7_happens_1 6 rfl rfl)
theorem dX7_happens_31 : decode cX7_happens 31 = .ok (.invokevirtual 159, 3) := dk_182 0 159 (dk_at dksX7_happens_1 7 rfl rfl)
theorem dX7_happens_34 : decode cX7_happens 34 = .ok (.goto 44, 3) := dk_167 0 44 (dk_at dksX7_happens_1 10 rfl rfl)
theorem dX7_happens_37 : decode cX7_happens 37 = .ok (.aload_n 0, 1) := dk_42 (dk_at dksX7_happens_1 13 rfl rfl)
theorem dX7_happens_38 : decode cX7_happens 38 = .ok (.iconst 2, 1) := dk_5 (dk_at dksX7_happens_1 14 rfl rfl)
theorem dX7_happens_39 : decode cX7_happens 39 = .ok (.iload_n 2, 1) := dk_28 (dk_at dksX7_happens_1 15 rfl rfl)
theorem dX7_happens_40 : decode cX7_happens 40 = .ok (.bipush 10, 2) := dk_16 10 (dk_at dksX7_happens_1 16 rfl rfl)
theorem dX7_happens_42 : decode cX7_happens 42 = .ok (.idiv, 1) := dk_108 (dk_at dksX7_happens_1 18 rfl rfl)
theorem dX7_happens_43 : decode cX7_happens 43 = .ok (.iload_n 2, 1) := dk_28 (dk_at dksX7_happens_1 19 rfl rfl)
theorem dX7_happens_44 : decode cX7_happens 44 = .ok (.bipush 10, 2) := dk_16 10 (dk_at dksX7_happens_1 20 rfl rfl)
theorem dX7_happens_46 : decode cX7_happens 46 = .ok (.irem, 1) := dk_112 (dk_at dksX7_happens_1 22 rfl rfl)
theorem dX7_happens_47 : decode cX7_happens 47 = .ok (.invokevirtual 143, 3) := dk_182 0 143 (dk_at dksX7_happens_2 0 rfl rfl)
theorem dX7_happens_50 : decode cX7_happens 50 = .ok (.iconst (-1), 1) := dk_2 (dk_at dksX7_happens_2 3 rfl rfl)
theorem dX7_happens_51 : decode cX7_happens 51 = .ok (.if_icmp .ne 27, 3) := dk_160 0 27 (dk_at dksX7_happens_2 4 rfl rfl)
theorem dX7_happens_54 : decode cX7_happens 54 = .ok (.aload_n 0, 1) := dk_42 (dk_at dksX7_happens_2 7 rfl rfl)
theorem dX7_happens_55 : decode cX7_happens 55 = .ok (.getfield 11, 3) := dk_180 0 11 (dk_at dksX7_happens_2 8 rfl rfl)
theorem dX7_happens_58 : decode cX7_happens 58 = .ok (.iconst 2, 1) := dk_5 (dk_at dksX7_happens_2 11 rfl rfl)
theorem dX7_happens_59 : decode cX7_happens 59 = .ok (.iaload, 1) := dk_46 (dk_at dksX7_happens_2 12 rfl rfl)
theorem dX7_happens_60 : decode cX7_happens 60 = .ok (.bipush 6, 2) := dk_16 6 (dk_at dksX7_happens_2 13 rfl rfl)
theorem dX7_happens_62 : decode cX7_happens 62 = .ok (.if_icmp .ge 16, 3) := dk_162 0 16 (dk_at dksX7_happens_2 15 rfl rfl)
theorem dX7_happens_65 : decode cX7_happens 65 = .ok (.aload_n 0, 1) := dk_42 (dk_at dksX7_happens_2 18 rfl rfl)
theorem dX7_happens_66 : decode cX7_happens 66 = .ok (.iconst 2, 1) := dk_5 (dk_at dksX7_happens_2 19 rfl rfl)
theorem dX7_happens_67 : decode cX7_happens 67 = .ok (.iload_n 2, 1) := dk_28 (dk_at dksX7_happens_2 20 rfl rfl)
theorem dX7_happens_68 : decode cX7_happens 68 = .ok (.bipush 10, 2) := dk_16 10 (dk_at dksX7_happens_2 21 rfl rfl)
theorem dX7_happens_70 : decode cX7_happens 70 = .ok (.idiv, 1) := dk_108 (dk_at dksX7_happens_2 23 rfl rfl)
theorem dX7_happens_71 : decode cX7_happens 71 = .ok (.iload_n 2, 1) := dk_28 (dk_at dksX7_happens_3 0 rfl rfl)
theorem dX7_happens_72 : decode cX7_happens 72 = .ok (.bipush 10, 2) := dk_16 10 (dk_at dksX7_happens_3 1 rfl rfl)
theorem dX7_happens_74 : decode cX7_happens 74 = .ok (.irem, 1) := dk_112 (dk_at dksX7_happens_3 3 rfl rfl)
theorem dX7_happens_75 : decode cX7_happens 75 = .ok (.invokevirtual 151, 3) := dk_182 0 151 (dk_at dksX7_happens_3 4 rfl rfl)
theorem dX7_happens_78 : decode cX7_happens 78 = .ok (.return_, 1) := dk_177 (dk_at dksX7_happens_3 7 rfl rfl)
abbrev cX7_lessens : ByteArray := prog_17_method_71_code
def yX7_lessens : MethodName := ⟨RX7, "lessens", "(I)V"⟩
def dkwX7_lessens_3 : List UInt8 := [132, 3, 1, 167, 255, 198, 177]
abbrev dktX7_lessens_3 : List UInt8 := dkwX7_lessens_3 ++ []
def dkwX7_lessens_2 : List UInt8 := [54, 5, 42, 5, 21, 4, 21, 5, 182, 0, 143, 2, 160, 0, 12, 42, 5, 21, 4, 21, 5, 182, 0, 151]
abbrev dktX7_lessens_2 : List UInt8 := dkwX7_lessens_2 ++ dktX7_lessens_3
def dkwX7_lessens_1 : List UInt8 := [29, 182, 0, 125, 27, 100, 184, 1, 77, 54, 4, 3, 42, 5, 29, 182, 0, 129, 27, 100, 184, 1, 77]
abbrev dktX7_lessens_1 : List UInt8 := dkwX7_lessens_1 ++ dktX7_lessens_2
def dkwX7_lessens_0 : List UInt8 := [42, 180, 0, 11, 5, 46, 61, 42, 180, 0, 11, 5, 3, 79, 3, 62, 29, 28, 162, 0, 59, 3, 42, 5]
abbrev dktX7_lessens_0 : List UInt8 := dkwX7_lessens_0 ++ dktX7_lessens_1
theorem dksX7_lessens_0 : cX7_lessens.data.toList.drop 0 = dktX7_lessens_0 := by decide +kernel
theorem dksX7_lessens_1 : cX7_lessens.data.toList.drop 24 = dktX7_lessens_1 := dk_seg dksX7_lessens_0 24 rfl rfl
theorem dksX7_lessens_2 : cX7_lessens.data.toList.drop 47 = dktX7_lessens_2 := dk_seg dksX7_lessens_1 23 rfl rfl
theorem dksX7_lessens_3 : cX7_lessens.data.toList.drop 71 = dktX7_lessens_3 := dk_seg dksX7_lessens_2 24 rfl rfl
theorem dX7_lessens_0 : decode cX7_lessens 0 = .ok (.aload_n 0, 1) := dk_42 (dk_at dksX7_lessens_0 0 rfl rfl)
theorem dX7_lessens_1 : decode cX7_lessens 1 = .ok (.getfield 11, 3) := dk_180 0 11 (dk_at dksX7_lessens_0 1 rfl rfl)
theorem dX7_lessens_4 : decode cX7_lessens 4 = .ok (.iconst 2, 1) := dk_5 (dk_at dksX7_lessens_0 4 rfl rfl)
theorem dX7_lessens_5 : decode cX7_lessens 5 = .ok (.iaload, 1) := dk_46 (dk_at dksX7_lessens_0 5 rfl rfl)
theorem dX7_lessens_6 : decode cX7_lessens 6 = .ok (.istore_n 2, 1) := dk_61 (dk_at dksX7_lessens_0 6 rfl rfl)
theorem dX7_lessens_7 : decode cX7_lessens 7 = .ok (.aload_n 0, 1) := dk_42 (dk_at dksX7_lessens_0 7 rfl rfl)
theorem dX7_lessens_8 : decode cX7_lessens 8 = .ok (.getfield 11, 3) := dk_180 0 11 (dk_at dksX7_lessens_0 8 rfl rfl)
theorem dX7_lessens_11 : decode cX7_lessens 11 = .ok (.iconst 2, 1) := dk_5 (dk_at dksX7_lessens_0 11 rfl rfl)
theorem dX7_lessens_12 : decode cX7_lessens 12 = .ok (.iconst 0, 1) := dk_3 (dk_at dksX7_lessens_0 12 rfl rfl)
theorem dX7_lessens_13 : decode cX7_lessens 13 = .ok (.iastore, 1) := dk_79 (dk_at dksX7_lessens_0 13 rfl rfl)
theorem dX7_lessens_14 : decode cX7_lessens 14 = .ok (.iconst 0, 1) := dk_3 (dk_at dksX7_lessens_0 14 rfl rfl)
theorem dX7_lessens_15 : decode cX7_lessens 15 = .ok (.istore_n 3, 1) := dk_62 (dk_at dksX7_lessens_0 15 rfl rfl)
theorem dX7_lessens_16 : decode cX7_lessens 16 = .ok (.iload_n 3, 1) := dk_29 (dk_at dksX7_lessens_0 16 rfl rfl)
theorem dX7_lessens_17 : decode cX7_lessens 17 = .ok (.iload_n 2, 1) := dk_28 (dk_at dksX7_lessens_0 17 rfl rfl)
theorem dX7_lessens_18 : decode cX7_lessens 18 = .ok (.if_icmp .ge 59, 3) := dk_162 0 59 (dk_at dksX7_lessens_0 18 rfl rfl)
theorem dX7_lessens_21 : decode cX7_lessens 21 = .ok (.iconst 0, 1) := dk_3 (dk_at dksX7_lessens_0 21 rfl rfl)
theorem dX7_lessens_22 : decode cX7_lessens 22 = .ok (.aload_n 0, 1) := dk_42 (dk_at dksX7_lessens_0 22 rfl rfl)
theorem dX7_lessens_23 : decode cX7_lessens 23 = .ok (.iconst 2, 1) := dk_5 (dk_at dksX7_lessens_0 23 rfl rfl)
theorem dX7_lessens_24 : decode cX7_lessens 24 = .ok (.iload_n 3, 1) := dk_29 (dk_at dksX7_lessens_1 0 rfl rfl)
theorem dX7_lessens_25 : decode cX7_lessens 25 = .ok (.invokevirtual 125, 3) := dk_182 0 125 (dk_at dksX7_lessens_1 1 rfl rfl)
theorem dX7_lessens_28 : decode cX7_lessens 28 = .ok (.iload_n 1, 1) := dk_27 (dk_at dksX7_lessens_1 4 rfl rfl)
theorem dX7_lessens_29 : decode cX7_lessens 29 = .ok (.isub, 1) := dk_100 (dk_at dksX7_lessens_1 5 rfl rfl)
theorem dX7_lessens_30 : decode cX7_lessens 30 = .ok (.invokestatic 333, 3) := dk_184 1 77 (dk_at dksX7_lessens_1 6 rfl rfl)
theorem dX7_lessens_33 : decode cX7_lessens 33 = .ok (.istore 4, 2) := dk_54 4 (dk_at dksX7_lessens_1 9 rfl rfl)
theorem dX7_lessens_35 : decode cX7_lessens 35 = .ok (.iconst 0, 1) := dk_3 (dk_at dksX7_lessens_1 11 rfl rfl)
theorem dX7_lessens_36 : decode cX7_lessens 36 = .ok (.aload_n 0, 1) := dk_42 (dk_at dksX7_lessens_1 12 rfl rfl)
theorem dX7_lessens_37 : decode cX7_lessens 37 = .ok (.iconst 2, 1) := dk_5 (dk_at dksX7_lessens_1 13 rfl rfl)
theorem dX7_lessens_38 : decode cX7_lessens 38 = .ok (.iload_n 3, 1) := dk_29 (dk_at dksX7_lessens_1 14 rfl rfl)
theorem dX7_lessens_39 : decode cX7_lessens 39 = .ok (.invokevirtual 129, 3) := dk_182 0 129 (dk_at dksX7_lessens_1 15 rfl rfl)
theorem dX7_lessens_42 : decode cX7_lessens 42 = .ok (.iload_n 1, 1) := dk_27 (dk_at dksX7_lessens_1 18 rfl rfl)
theorem dX7_lessens_43 : decode cX7_lessens 43 = .ok (.isub, 1) := dk_100 (dk_at dksX7_lessens_1 19 rfl rfl)
theorem dX7_lessens_44 : decode cX7_lessens 44 = .ok (.invokestatic 333, 3) := dk_184 1 77 (dk_at dksX7_lessens_1 20 rfl rfl)
theorem dX7_lessens_47 : decode cX7_lessens 47 = .ok (.istore 5, 2) := dk_54 5 (dk_at dksX7_lessens_2 0 rfl rfl)
theorem dX7_lessens_49 : decode cX7_lessens 49 = .ok (.aload_n 0, 1) := dk_42 (dk_at dksX7_lessens_2 2 rfl rfl)
theorem dX7_lessens_50 : decode cX7_lessens 50 = .ok (.iconst 2, 1) := dk_5 (dk_at dksX7_lessens_2 3 rfl rfl)
theorem dX7_lessens_51 : decode cX7_lessens 51 = .ok (.iload 4, 2) := dk_21 4 (dk_at dksX7_lessens_2 4 rfl rfl)
theorem dX7_lessens_53 : decode cX7_lessens 53 = .ok (.iload 5, 2) := dk_21 5 (dk_at dksX7_lessens_2 6 rfl rfl)
theorem dX7_lessens_55 : decode cX7_lessens 55 = .ok (.invokevirtual 143, 3) := dk_182 0 143 (dk_at dksX7_lessens_2 8 rfl rfl)
theorem dX7_lessens_58 : decode cX7_lessens 58 = .ok (.iconst (-1), 1) := dk_2 (dk_at dksX7_lessens_2 11 rfl rfl)
theorem dX7_lessens_59 : decode cX7_lessens 59 = .ok (.if_icmp .ne 12, 3) := dk_160 0 12 (dk_at dksX7_lessens_2 12 rfl rfl)
theorem dX7_lessens_62 : decode cX7_lessens 62 = .ok (.aload_n 0, 1) := dk_42 (dk_at dksX7_lessens_2 15 rfl rfl)
theorem dX7_lessens_63 : decode cX7_lessens 63 = .ok (.iconst 2, 1) := dk_5 (dk_at dksX7_lessens_2 16 rfl rfl)
theorem dX7_lessens_64 : decode cX7_lessens 64 = .ok (.iload 4, 2) := dk_21 4 (dk_at dksX7_lessens_2 17 rfl rfl)
theorem dX7_lessens_66 : decode cX7_lessens 66 = .ok (.iload 5, 2) := dk_21 5 (dk_at dksX7_lessens_2 19 rfl rfl)
theorem dX7_lessens_68 : decode cX7_lessens 68 = .ok (.invokevirtual 151, 3) := dk_182 0 151 (dk_at dksX7_lessens_2 21 rfl rfl)
theorem dX7_lessens_71 : decode cX7_lessens 71 = .ok (.iinc 3 1, 3) := dk_132 3 1 (dk_at dksX7_lessens_3 0 rfl rfl)
theorem dX7_lessens_74 : decode cX7_lessens 74 = .ok (.goto (-58), 3) := dk_167 255 198 (dk_at dksX7_lessens_3 3 rfl rfl)
theorem dX7_lessens_77 : decode cX7_lessens 77 = .ok (.return_, 1) := dk_177 (dk_at dksX7_lessens_3 6 rfl rfl)
abbrev cX7_book : ByteArray := prog_17_method_74_code
def yX7_book : MethodName := ⟨RX7, "book", "(II)I"⟩
def dkwX7_book_3 : List UInt8 := [89, 180, 1, 89, 4, 96, 181, 1, 89, 42, 180, 1, 89, 172]
abbrev dktX7_book_3 : List UInt8 := dkwX7_book_3 ++ []
def dkwX7_book_2 : List UInt8 := [16, 252, 172, 42, 180, 0, 78, 42, 180, 1, 89, 27, 79, 42, 180, 0, 81, 42, 180, 1, 89, 28, 79, 42]
abbrev dktX7_book_2 : List UInt8 := dkwX7_book_2 ++ dktX7_book_3
def dkwX7_book_1 : List UInt8 := [2, 172, 28, 133, 9, 10, 184, 0, 115, 154, 0, 6, 16, 254, 172, 42, 180, 1, 89, 16, 8, 160, 0, 6]
abbrev dktX7_book_1 : List UInt8 := dkwX7_book_1 ++ dktX7_book_2
def dkwX7_book_0 : List UInt8 := [27, 2, 160, 0, 10, 42, 3, 181, 1, 89, 3, 172, 27, 133, 9, 20, 1, 7, 184, 0, 115, 154, 0, 5]
abbrev dktX7_book_0 : List UInt8 := dkwX7_book_0 ++ dktX7_book_1
theorem dksX7_book_0 : cX7_book.data.toList.drop 0 = dktX7_book_0 := by decide +kernel
theorem dksX7_book_1 : cX7_book.data.toList.drop 24 = dktX7_book_1 := dk_seg dksX7_book_0 24 rfl rfl
theorem dksX7_book_2 : cX7_book.data.toList.drop 48 = dktX7_book_2 := dk_seg dksX7_book_1 24 rfl rfl
theorem dksX7_book_3 : cX7_book.data.toList.drop 72 = dktX7_book_3 := dk_seg dksX7_book_2 24 rfl rfl
theorem dX7_book_0 : decode cX7_book 0 = .ok (.iload_n 1, 1) := dk_27 (dk_at dksX7_book_0 0 rfl rfl)
theorem dX7_book_1 : decode cX7_book 1 = .ok (.iconst (-1), 1) := dk_2 (dk_at dksX7_book_0 1 rfl rfl)
theorem dX7_book_2 : decode cX7_book 2 = .ok (.if_icmp .ne 10, 3) := dk_160 0 10 (dk_at dksX7_book_0 2 rfl rfl)
theorem dX7_book_5 : decode cX7_book 5 = .ok (.aload_n 0, 1) := dk_42 (dk_at dksX7_book_0 5 rfl rfl)
theorem dX7_book_6 : decode cX7_book 6 = .ok (.iconst 0, 1) := dk_3 (dk_at dksX7_book_0 6 rfl rfl)
theorem dX7_book_7 : decode cX7_book 7 = .ok (.putfield 345, 3) := dk_181 1 89 (dk_at dksX7_book_0 7 rfl rfl)
theorem dX7_book_10 : decode cX7_book 10 = .ok (.iconst 0, 1) := dk_3 (dk_at dksX7_book_0 10 rfl rfl)
theorem dX7_book_11 : decode cX7_book 11 = .ok (.ireturn, 1) := dk_172 (dk_at dksX7_book_0 11 rfl rfl)
theorem dX7_book_12 : decode cX7_book 12 = .ok (.iload_n 1, 1) := dk_27 (dk_at dksX7_book_0 12 rfl rfl)
theorem dX7_book_13 : decode cX7_book 13 = .ok (.i2l, 1) := dk_133 (dk_at dksX7_book_0 13 rfl rfl)
theorem dX7_book_14 : decode cX7_book 14 = .ok (.lconst 0, 1) := dk_9 (dk_at dksX7_book_0 14 rfl rfl)
theorem dX7_book_15 : decode cX7_book 15 = .ok (.ldc2_w 263, 3) := dk_20 1 7 (dk_at dksX7_book_0 15 rfl rfl)
theorem dX7_book_18 : decode cX7_book 18 = .ok (.invokestatic 115, 3) := dk_184 0 115 (dk_at dksX7_book_0 18 rfl rfl)
theorem dX7_book_21 : decode cX7_book 21 = .ok (.ifCond .ne 5, 3) := dk_154 0 5 (dk_at dksX7_book_0 21 rfl rfl)
theorem dX7_book_24 : decode cX7_book 24 = .ok (.iconst (-1), 1) := dk_2 (dk_at dksX7_book_1 0 rfl rfl)
theorem dX7_book_25 : decode cX7_book 25 = .ok (.ireturn, 1) := dk_172 (dk_at dksX7_book_1 1 rfl rfl)
theorem dX7_book_26 : decode cX7_book 26 = .ok (.iload_n 2, 1) := dk_28 (dk_at dksX7_book_1 2 rfl rfl)
theorem dX7_book_27 : decode cX7_book 27 = .ok (.i2l, 1) := dk_133 (dk_at dksX7_book_1 3 rfl rfl)
theorem dX7_book_28 : decode cX7_book 28 = .ok (.lconst 0, 1) := dk_9 (dk_at dksX7_book_1 4 rfl rfl)
theorem dX7_book_29 : decode cX7_book 29 = .ok (.lconst 1, 1) := dk_10 (dk_at dksX7_book_1 5 rfl rfl)
theorem dX7_book_30 : decode cX7_book 30 = .ok (.invokestatic 115, 3) := dk_184 0 115 (dk_at dksX7_book_1 6 rfl rfl)
theorem dX7_book_33 : decode cX7_book 33 = .ok (.ifCond .ne 6, 3) := dk_154 0 6 (dk_at dksX7_book_1 9 rfl rfl)
theorem dX7_book_36 : decode cX7_book 36 = .ok (.bipush (-2), 2) := dk_16 254 (dk_at dksX7_book_1 12 rfl rfl)
theorem dX7_book_38 : decode cX7_book 38 = .ok (.ireturn, 1) := dk_172 (dk_at dksX7_book_1 14 rfl rfl)
theorem dX7_book_39 : decode cX7_book 39 = .ok (.aload_n 0, 1) := dk_42 (dk_at dksX7_book_1 15 rfl rfl)
theorem dX7_book_40 : decode cX7_book 40 = .ok (.getfield 345, 3) := dk_180 1 89 (dk_at dksX7_book_1 16 rfl rfl)
theorem dX7_book_43 : decode cX7_book 43 = .ok (.bipush 8, 2) := dk_16 8 (dk_at dksX7_book_1 19 rfl rfl)
theorem dX7_book_45 : decode cX7_book 45 = .ok (.if_icmp .ne 6, 3) := dk_160 0 6 (dk_at dksX7_book_1 21 rfl rfl)
theorem dX7_book_48 : decode cX7_book 48 = .ok (.bipush (-4), 2) := dk_16 252 (dk_at dksX7_book_2 0 rfl rfl)
theorem dX7_book_50 : decode cX7_book 50 = .ok (.ireturn, 1) := dk_172 (dk_at dksX7_book_2 2 rfl rfl)
theorem dX7_book_51 : decode cX7_book 51 = .ok (.aload_n 0, 1) := dk_42 (dk_at dksX7_book_2 3 rfl rfl)
theorem dX7_book_52 : decode cX7_book 52 = .ok (.getfield 78, 3) := dk_180 0 78 (dk_at dksX7_book_2 4 rfl rfl)
theorem dX7_book_55 : decode cX7_book 55 = .ok (.aload_n 0, 1) := dk_42 (dk_at dksX7_book_2 7 rfl rfl)
theorem dX7_book_56 : decode cX7_book 56 = .ok (.getfield 345, 3) := dk_180 1 89 (dk_at dksX7_book_2 8 rfl rfl)
theorem dX7_book_59 : decode cX7_book 59 = .ok (.iload_n 1, 1) := dk_27 (dk_at dksX7_book_2 11 rfl rfl)
theorem dX7_book_60 : decode cX7_book 60 = .ok (.iastore, 1) := dk_79 (dk_at dksX7_book_2 12 rfl rfl)
theorem dX7_book_61 : decode cX7_book 61 = .ok (.aload_n 0, 1) := dk_42 (dk_at dksX7_book_2 13 rfl rfl)
theorem dX7_book_62 : decode cX7_book 62 = .ok (.getfield 81, 3) := dk_180 0 81 (dk_at dksX7_book_2 14 rfl rfl)
theorem dX7_book_65 : decode cX7_book 65 = .ok (.aload_n 0, 1) := dk_42 (dk_at dksX7_book_2 17 rfl rfl)
theorem dX7_book_66 : decode cX7_book 66 = .ok (.getfield 345, 3) := dk_180 1 89 (dk_at dksX7_book_2 18 rfl rfl)
theorem dX7_book_69 : decode cX7_book 69 = .ok (.iload_n 2, 1) := dk_28 (dk_at dksX7_book_2 21 rfl rfl)
theorem dX7_book_70 : decode cX7_book 70 = .ok (.iastore, 1) := dk_79 (dk_at dksX7_book_2 22 rfl rfl)
theorem dX7_book_71 : decode cX7_book 71 = .ok (.aload_n 0, 1) := dk_42 (dk_at dksX7_book_2 23 rfl rfl)
theorem dX7_book_72 : decode cX7_book 72 = .ok (.dup, 1) := dk_89 (dk_at dksX7_book_3 0 rfl rfl)
theorem dX7_book_73 : decode cX7_book 73 = .ok (.getfield 345, 3) := dk_180 1 89 (dk_at dksX7_book_3 1 rfl rfl)
theorem dX7_book_76 : decode cX7_book 76 = .ok (.iconst 1, 1) := dk_4 (dk_at dksX7_book_3 4 rfl rfl)
theorem dX7_book_77 : decode cX7_book 77 = .ok (.iadd, 1) := dk_96 (dk_at dksX7_book_3 5 rfl rfl)
theorem dX7_book_78 : decode cX7_book 78 = .ok (.putfield 345, 3) := dk_181 1 89 (dk_at dksX7_book_3 6 rfl rfl)
theorem dX7_book_81 : decode cX7_book 81 = .ok (.aload_n 0, 1) := dk_42 (dk_at dksX7_book_3 9 rfl rfl)
theorem dX7_book_82 : decode cX7_book 82 = .ok (.getfield 345, 3) := dk_180 1 89 (dk_at dksX7_book_3 10 rfl rfl)
theorem dX7_book_85 : decode cX7_book 85 = .ok (.ireturn, 1) := dk_172 (dk_at dksX7_book_3 13 rfl rfl)
abbrev cX7_looked : ByteArray := prog_17_method_75_code
def yX7_looked : MethodName := ⟨RX7, "looked", "()I"⟩
def dkwX7_looked_2 : List UInt8 := [46, 159, 0, 5, 27, 172, 132, 1, 1, 167, 255, 203, 16, 251, 172]
abbrev dktX7_looked_2 : List UInt8 := dkwX7_looked_2 ++ []
def dkwX7_looked_1 : List UInt8 := [180, 0, 78, 27, 46, 16, 10, 112, 182, 0, 234, 153, 0, 7, 4, 167, 0, 4, 3, 42, 180, 0, 81, 27]
abbrev dktX7_looked_1 : List UInt8 := dkwX7_looked_1 ++ dktX7_looked_2
def dkwX7_looked_0 : List UInt8 := [3, 60, 27, 42, 180, 1, 89, 162, 0, 51, 42, 3, 42, 180, 0, 78, 27, 46, 16, 10, 108, 42]
abbrev dktX7_looked_0 : List UInt8 := dkwX7_looked_0 ++ dktX7_looked_1
theorem dksX7_looked_0 : cX7_looked.data.toList.drop 0 = dktX7_looked_0 := by decide +kernel
theorem dksX7_looked_1 : cX7_looked.data.toList.drop 22 = dktX7_looked_1 := dk_seg dksX7_looked_0 22 rfl rfl
theorem dksX7_looked_2 : cX7_looked.data.toList.drop 46 = dktX7_looked_2 := dk_seg dksX7_looked_1 24 rfl rfl
theorem dX7_looked_0 : decode cX7_looked 0 = .ok (.iconst 0, 1) := dk_3 (dk_at dksX7_looked_0 0 rfl rfl)
theorem dX7_looked_1 : decode cX7_looked 1 = .ok (.istore_n 1, 1) := dk_60 (dk_at dksX7_looked_0 1 rfl rfl)
theorem dX7_looked_2 : decode cX7_looked 2 = .ok (.iload_n 1, 1) := dk_27 (dk_at dksX7_looked_0 2 rfl rfl)
theorem dX7_looked_3 : decode cX7_looked 3 = .ok (.aload_n 0, 1) := dk_42 (dk_at dksX7_looked_0 3 rfl rfl)
theorem dX7_looked_4 : decode cX7_looked 4 = .ok (.getfield 345, 3) := dk_180 1 89 (dk_at dksX7_looked_0 4 rfl rfl)
theorem dX7_looked_7 : decode cX7_looked 7 = .ok (.if_icmp .ge 51, 3) := dk_162 0 51 (dk_at dksX7_looked_0 7 rfl rfl)
theorem dX7_looked_10 : decode cX7_looked 10 = .ok (.aload_n 0, 1) := dk_42 (dk_at dksX7_looked_0 10 rfl rfl)
theorem dX7_looked_11 : decode cX7_looked 11 = .ok (.iconst 0, 1) := dk_3 (dk_at dksX7_looked_0 11 rfl rfl)
theorem dX7_looked_12 : decode cX7_looked 12 = .ok (.aload_n 0, 1) := dk_42 (dk_at dksX7_looked_0 12 rfl rfl)
theorem dX7_looked_13 : decode cX7_looked 13 = .ok (.getfield 78, 3) := dk_180 0 78 (dk_at dksX7_looked_0 13 rfl rfl)
theorem dX7_looked_16 : decode cX7_looked 16 = .ok (.iload_n 1, 1) := dk_27 (dk_at dksX7_looked_0 16 rfl rfl)
theorem dX7_looked_17 : decode cX7_looked 17 = .ok (.iaload, 1) := dk_46 (dk_at dksX7_looked_0 17 rfl rfl)
theorem dX7_looked_18 : decode cX7_looked 18 = .ok (.bipush 10, 2) := dk_16 10 (dk_at dksX7_looked_0 18 rfl rfl)
theorem dX7_looked_20 : decode cX7_looked 20 = .ok (.idiv, 1) := dk_108 (dk_at dksX7_looked_0 20 rfl rfl)
theorem dX7_looked_21 : decode cX7_looked 21 = .ok (.aload_n 0, 1) := dk_42 (dk_at dksX7_looked_0 21 rfl rfl)
theorem dX7_looked_22 : decode cX7_looked 22 = .ok (.getfield 78, 3) := dk_180 0 78 (dk_at dksX7_looked_1 0 rfl rfl)
theorem dX7_looked_25 : decode cX7_looked 25 = .ok (.iload_n 1, 1) := dk_27 (dk_at dksX7_looked_1 3 rfl rfl)
theorem dX7_looked_26 : decode cX7_looked 26 = .ok (.iaload, 1) := dk_46 (dk_at dksX7_looked_1 4 rfl rfl)
theorem dX7_looked_27 : decode cX7_looked 27 = .ok (.bipush 10, 2) := dk_16 10 (dk_at dksX7_looked_1 5 rfl rfl)
theorem dX7_looked_29 : decode cX7_looked 29 = .ok (.irem, 1) := dk_112 (dk_at dksX7_looked_1 7 rfl rfl)
theorem dX7_looked_30 : decode cX7_looked 30 = .ok (.invokevirtual 234, 3) := dk_182 0 234 (dk_at dksX7_looked_1 8 rfl rfl)
theorem dX7_looked_33 : decode cX7_looked 33 = .ok (.ifCond .eq 7, 3) := dk_153 0 7 (dk_at dksX7_looked_1 11 rfl rfl)
theorem dX7_looked_36 : decode cX7_looked 36 = .ok (.iconst 1, 1) := dk_4 (dk_at dksX7_looked_1 14 rfl rfl)
theorem dX7_looked_37 : decode cX7_looked 37 = .ok (.goto 4, 3) := dk_167 0 4 (dk_at dksX7_looked_1 15 rfl rfl)
theorem dX7_looked_40 : decode cX7_looked 40 = .ok (.iconst 0, 1) := dk_3 (dk_at dksX7_looked_1 18 rfl rfl)
theorem dX7_looked_41 : decode cX7_looked 41 = .ok (.aload_n 0, 1) := dk_42 (dk_at dksX7_looked_1 19 rfl rfl)
theorem dX7_looked_42 : decode cX7_looked 42 = .ok (.getfield 81, 3) := dk_180 0 81 (dk_at dksX7_looked_1 20 rfl rfl)
theorem dX7_looked_45 : decode cX7_looked 45 = .ok (.iload_n 1, 1) := dk_27 (dk_at dksX7_looked_1 23 rfl rfl)
theorem dX7_looked_46 : decode cX7_looked 46 = .ok (.iaload, 1) := dk_46 (dk_at dksX7_looked_2 0 rfl rfl)
theorem dX7_looked_47 : decode cX7_looked 47 = .ok (.if_icmp .eq 5, 3) := dk_159 0 5 (dk_at dksX7_looked_2 1 rfl rfl)
theorem dX7_looked_50 : decode cX7_looked 50 = .ok (.iload_n 1, 1) := dk_27 (dk_at dksX7_looked_2 4 rfl rfl)
theorem dX7_looked_51 : decode cX7_looked 51 = .ok (.ireturn, 1) := dk_172 (dk_at dksX7_looked_2 5 rfl rfl)
theorem dX7_looked_52 : decode cX7_looked 52 = .ok (.iinc 1 1, 3) := dk_132 1 1 (dk_at dksX7_looked_2 6 rfl rfl)
theorem dX7_looked_55 : decode cX7_looked 55 = .ok (.goto (-53), 3) := dk_167 255 203 (dk_at dksX7_looked_2 9 rfl rfl)
theorem dX7_looked_58 : decode cX7_looked 58 = .ok (.bipush (-5), 2) := dk_16 251 (dk_at dksX7_looked_2 12 rfl rfl)
theorem dX7_looked_60 : decode cX7_looked 60 = .ok (.ireturn, 1) := dk_172 (dk_at dksX7_looked_2 14 rfl rfl)
abbrev cX7_judge : ByteArray := prog_17_method_77_code
def yX7_judge : MethodName := ⟨RX7, "judge", "(III)I"⟩
def dkwX7_judge_4 : List UInt8 := [21, 4, 182, 1, 45, 133, 148, 153, 0, 6, 21, 4, 172, 132, 4, 1, 167, 255, 177, 16, 251, 172]
abbrev dktX7_judge_4 : List UInt8 := dkwX7_judge_4 ++ []
def dkwX7_judge_3 : List UInt8 := [155, 0, 9, 16, 100, 21, 4, 96, 172, 42, 180, 0, 90, 16, 60, 28, 104, 22, 5, 136, 96, 47, 42, 27]
abbrev dktX7_judge_3 : List UInt8 := dkwX7_judge_3 ++ dktX7_judge_4
def dkwX7_judge_2 : List UInt8 := [29, 155, 0, 26, 42, 180, 0, 84, 28, 46, 2, 159, 0, 16, 22, 5, 42, 180, 0, 87, 28, 46, 133, 148]
abbrev dktX7_judge_2 : List UInt8 := dkwX7_judge_2 ++ dktX7_judge_3
def dkwX7_judge_1 : List UInt8 := [158, 0, 6, 16, 244, 172, 3, 54, 4, 21, 4, 16, 10, 162, 0, 78, 29, 133, 21, 4, 133, 97, 55, 5]
abbrev dktX7_judge_1 : List UInt8 := dkwX7_judge_1 ++ dktX7_judge_2
def dkwX7_judge_0 : List UInt8 := [27, 184, 0, 136, 153, 0, 10, 28, 184, 1, 92, 154, 0, 5, 2, 172, 42, 180, 0, 84, 28, 46]
abbrev dktX7_judge_0 : List UInt8 := dkwX7_judge_0 ++ dktX7_judge_1
theorem dksX7_judge_0 : cX7_judge.data.toList.drop 0 = dktX7_judge_0 := by decide +kernel
theorem dksX7_judge_1 : cX7_judge.data.toList.drop 22 = dktX7_judge_1 := dk_seg dksX7_judge_0 22 rfl rfl
theorem dksX7_judge_2 : cX7_judge.data.toList.drop 46 = dktX7_judge_2 := dk_seg dksX7_judge_1 24 rfl rfl
theorem dksX7_judge_3 : cX7_judge.data.toList.drop 70 = dktX7_judge_3 := dk_seg dksX7_judge_2 24 rfl rfl
theorem dksX7_judge_4 : cX7_judge.data.toList.drop 94 = dktX7_judge_4 := dk_seg dksX7_judge_3 24 rfl rfl
theorem dX7_judge_0 : decode cX7_judge 0 = .ok (.iload_n 1, 1) := dk_27 (dk_at dksX7_judge_0 0 rfl rfl)
theorem dX7_judge_1 : decode cX7_judge 1 = .ok (.invokestatic 136, 3) := dk_184 0 136 (dk_at dksX7_judge_0 1 rfl rfl)
theorem dX7_judge_4 : decode cX7_judge 4 = .ok (.ifCond .eq 10, 3) := dk_153 0 10 (dk_at dksX7_judge_0 4 rfl rfl)
theorem dX7_judge_7 : decode cX7_judge 7 = .ok (.iload_n 2, 1) := dk_28 (dk_at dksX7_judge_0 7 rfl rfl)
theorem dX7_judge_8 : decode cX7_judge 8 = .ok (.invokestatic 348, 3) := dk_184 1 92 (dk_at dksX7_judge_0 8 rfl rfl)
theorem dX7_judge_11 : decode cX7_judge 11 = .ok (.ifCond .ne 5, 3) := dk_154 0 5 (dk_at dksX7_judge_0 11 rfl rfl)
theorem dX7_judge_14 : decode cX7_judge 14 = .ok (.iconst (-1), 1) := dk_2 (dk_at dksX7_judge_0 14 rfl rfl)
theorem dX7_judge_15 : decode cX7_judge 15 = .ok (.ireturn, 1) := dk_172 (dk_at dksX7_judge_0 15 rfl rfl)
theorem dX7_judge_16 : decode cX7_judge 16 = .ok (.aload_n 0, 1) := dk_42 (dk_at dksX7_judge_0 16 rfl rfl)
theorem dX7_judge_17 : decode cX7_judge 17 = .ok (.getfield 84, 3) := dk_180 0 84 (dk_at dksX7_judge_0 17 rfl rfl)
theorem dX7_judge_20 : decode cX7_judge 20 = .ok (.iload_n 2, 1) := dk_28 (dk_at dksX7_judge_0 20 rfl rfl)
theorem dX7_judge_21 : decode cX7_judge 21 = .ok (.iaload, 1) := dk_46 (dk_at dksX7_judge_0 21 rfl rfl)
theorem dX7_judge_22 : decode cX7_judge 22 = .ok (.ifCond .le 6, 3) := dk_158 0 6 (dk_at dksX7_judge_1 0 rfl rfl)
theorem dX7_judge_25 : decode cX7_judge 25 = .ok (.bipush (-12), 2) := dk_16 244 (dk_at dksX7_judge_1 3 rfl rfl)
theorem dX7_judge_27 : decode cX7_judge 27 = .ok (.ireturn, 1) := dk_172 (dk_at dksX7_judge_1 5 rfl rfl)
theorem dX7_judge_28 : decode cX7_judge 28 = .ok (.iconst 0, 1) := dk_3 (dk_at dksX7_judge_1 6 rfl rfl)
theorem dX7_judge_29 : decode cX7_judge 29 = .ok (.istore 4, 2) := dk_54 4 (dk_at dksX7_judge_1 7 rfl rfl)
theorem dX7_judge_31 : decode cX7_judge 31 = .ok (.iload 4, 2) := dk_21 4 (dk_at dksX7_judge_1 9 rfl rfl)
theorem dX7_judge_33 : decode cX7_judge 33 = .ok (.bipush 10, 2) := dk_16 10 (dk_at dksX7_judge_1 11 rfl rfl)
theorem dX7_judge_35 : decode cX7_judge 35 = .ok (.if_icmp .ge 78, 3) := dk_162 0 78 (dk_at dksX7_judge_1 13 rfl rfl)
theorem dX7_judge_38 : decode cX7_judge 38 = .ok (.iload_n 3, 1) := dk_29 (dk_at dksX7_judge_1 16 rfl rfl)
theorem dX7_judge_39 : decode cX7_judge 39 = .ok (.i2l, 1) := dk_133 (dk_at dksX7_judge_1 17 rfl rfl)
theorem dX7_judge_40 : decode cX7_judge 40 = .ok (.iload 4, 2) := dk_21 4 (dk_at dksX7_judge_1 18 rfl rfl)
theorem dX7_judge_42 : decode cX7_judge 42 = .ok (.i2l, 1) := dk_133 (dk_at dksX7_judge_1 20 rfl rfl)
theorem dX7_judge_43 : decode cX7_judge 43 = .ok (.ladd, 1) := dk_97 (dk_at dksX7_judge_1 21 rfl rfl)
theorem dX7_judge_44 : decode cX7_judge 44 = .ok (.lstore 5, 2) := dk_55 5 (dk_at dksX7_judge_1 22 rfl rfl)
theorem dX7_judge_46 : decode cX7_judge 46 = .ok (.iload_n 3, 1) := dk_29 (dk_at dksX7_judge_2 0 rfl rfl)
theorem dX7_judge_47 : decode cX7_judge 47 = .ok (.ifCond .lt 26, 3) := dk_155 0 26 (dk_at dksX7_judge_2 1 rfl rfl)
theorem dX7_judge_50 : decode cX7_judge 50 = .ok (.aload_n 0, 1) := dk_42 (dk_at dksX7_judge_2 4 rfl rfl)
theorem dX7_judge_51 : decode cX7_judge 51 = .ok (.getfield 84, 3) := dk_180 0 84 (dk_at dksX7_judge_2 5 rfl rfl)
theorem dX7_judge_54 : decode cX7_judge 54 = .ok (.iload_n 2, 1) := dk_28 (dk_at dksX7_judge_2 8 rfl rfl)
theorem dX7_judge_55 : decode cX7_judge 55 = .ok (.iaload, 1) := dk_46 (dk_at dksX7_judge_2 9 rfl rfl)
theorem dX7_judge_56 : decode cX7_judge 56 = .ok (.iconst (-1), 1) := dk_2 (dk_at dksX7_judge_2 10 rfl rfl)
theorem dX7_judge_57 : decode cX7_judge 57 = .ok (.if_icmp .eq 16, 3) := dk_159 0 16 (dk_at dksX7_judge_2 11 rfl rfl)
theorem dX7_judge_60 : decode cX7_judge 60 = .ok (.lload 5, 2) := dk_22 5 (dk_at dksX7_judge_2 14 rfl rfl)
theorem dX7_judge_62 : decode cX7_judge 62 = .ok (.aload_n 0, 1) := dk_42 (dk_at dksX7_judge_2 16 rfl rfl)
theorem dX7_judge_63 : decode cX7_judge 63 = .ok (.getfield 87, 3) := dk_180 0 87 (dk_at dksX7_judge_2 17 rfl rfl)
theorem dX7_judge_66 : decode cX7_judge 66 = .ok (.iload_n 2, 1) := dk_28 (dk_at dksX7_judge_2 20 rfl rfl)
theorem dX7_judge_67 : decode cX7_judge 67 = .ok (.iaload, 1) := dk_46 (dk_at dksX7_judge_2 21 rfl rfl)
theorem dX7_judge_68 : decode cX7_judge 68 = .ok (.i2l, 1) := dk_133 (dk_at dksX7_judge_2 22 rfl rfl)
theorem dX7_judge_69 : decode cX7_judge 69 = .ok (.lcmp, 1) := dk_148 (dk_at dksX7_judge_2 23 rfl rfl)
theorem dX7_judge_70 : decode cX7_judge 70 = .ok (.ifCond .lt 9, 3) := dk_155 0 9 (dk_at dksX7_judge_3 0 rfl rfl)
theorem dX7_judge_73 : decode cX7_judge 73 = .ok (.bipush 100, 2) := dk_16 100 (dk_at dksX7_judge_3 3 rfl rfl)
theorem dX7_judge_75 : decode cX7_judge 75 = .ok (.iload 4, 2) := dk_21 4 (dk_at dksX7_judge_3 5 rfl rfl)
theorem dX7_judge_77 : decode cX7_judge 77 = .ok (.iadd, 1) := dk_96 (dk_at dksX7_judge_3 7 rfl rfl)
theorem dX7_judge_78 : decode cX7_judge 78 = .ok (.ireturn, 1) := dk_172 (dk_at dksX7_judge_3 8 rfl rfl)
theorem dX7_judge_79 : decode cX7_judge 79 = .ok (.aload_n 0, 1) := dk_42 (dk_at dksX7_judge_3 9 rfl rfl)
theorem dX7_judge_80 : decode cX7_judge 80 = .ok (.getfield 90, 3) := dk_180 0 90 (dk_at dksX7_judge_3 10 rfl rfl)
theorem dX7_judge_83 : decode cX7_judge 83 = .ok (.bipush 60, 2) := dk_16 60 (dk_at dksX7_judge_3 13 rfl rfl)
theorem dX7_judge_85 : decode cX7_judge 85 = .ok (.iload_n 2, 1) := dk_28 (dk_at dksX7_judge_3 15 rfl rfl)
theorem dX7_judge_86 : decode cX7_judge 86 = .ok (.imul, 1) := dk_104 (dk_at dksX7_judge_3 16 rfl rfl)
theorem dX7_judge_87 : decode cX7_judge 87 = .ok (.lload 5, 2) := dk_22 5 (dk_at dksX7_judge_3 17 rfl rfl)
theorem dX7_judge_89 : decode cX7_judge 89 = .ok (.l2i, 1) := dk_136 (dk_at dksX7_judge_3 19 rfl rfl)
theorem dX7_judge_90 : decode cX7_judge 90 = .ok (.iadd, 1) := dk_96 (dk_at dksX7_judge_3 20 rfl rfl)
theorem dX7_judge_91 : decode cX7_judge 91 = .ok (.laload, 1) := dk_47 (dk_at dksX7_judge_3 21 rfl rfl)
theorem dX7_judge_92 : decode cX7_judge 92 = .ok (.aload_n 0, 1) := dk_42 (dk_at dksX7_judge_3 22 rfl rfl)
theorem dX7_judge_93 : decode cX7_judge 93 = .ok (.iload_n 1, 1) := dk_27 (dk_at dksX7_judge_3 23 rfl rfl)
theorem dX7_judge_94 : decode cX7_judge 94 = .ok (.iload 4, 2) := dk_21 4 (dk_at dksX7_judge_4 0 rfl rfl)
theorem dX7_judge_96 : decode cX7_judge 96 = .ok (.invokevirtual 301, 3) := dk_182 1 45 (dk_at dksX7_judge_4 2 rfl rfl)
theorem dX7_judge_99 : decode cX7_judge 99 = .ok (.i2l, 1) := dk_133 (dk_at dksX7_judge_4 5 rfl rfl)
theorem dX7_judge_100 : decode cX7_judge 100 = .ok (.lcmp, 1) := dk_148 (dk_at dksX7_judge_4 6 rfl rfl)
theorem dX7_judge_101 : decode cX7_judge 101 = .ok (.ifCond .eq 6, 3) := dk_153 0 6 (dk_at dksX7_judge_4 7 rfl rfl)
theorem dX7_judge_104 : decode cX7_judge 104 = .ok (.iload 4, 2) := dk_21 4 (dk_at dksX7_judge_4 10 rfl rfl)
theorem dX7_judge_106 : decode cX7_judge 106 = .ok (.ireturn, 1) := dk_172 (dk_at dksX7_judge_4 12 rfl rfl)
theorem dX7_judge_107 : decode cX7_judge 107 = .ok (.iinc 4 1, 3) := dk_132 4 1 (dk_at dksX7_judge_4 13 rfl rfl)
theorem dX7_judge_110 : decode cX7_judge 110 = .ok (.goto (-79), 3) := dk_167 255 177 (dk_at dksX7_judge_4 16 rfl rfl)
theorem dX7_judge_113 : decode cX7_judge 113 = .ok (.bipush (-5), 2) := dk_16 251 (dk_at dksX7_judge_4 19 rfl rfl)
theorem dX7_judge_115 : decode cX7_judge 115 = .ok (.ireturn, 1) := dk_172 (dk_at dksX7_judge_4 21 rfl rfl)
abbrev cX7_isTape : ByteArray := prog_17_method_76_code
def yX7_isTape : MethodName := ⟨RX7, "isTape", "(I)Z"⟩
def dkwX7_isTape_0 : List UInt8 := [26, 133, 9, 20, 1, 75, 184, 0, 115, 172]
abbrev dktX7_isTape_0 : List UInt8 := dkwX7_isTape_0 ++ []
theorem dksX7_isTape_0 : cX7_isTape.data.toList.drop 0 = dktX7_isTape_0 := by decide +kernel
theorem dX7_isTape_0 : decode cX7_isTape 0 = .ok (.iload_n 0, 1) := dk_26 (dk_at dksX7_isTape_0 0 rfl rfl)
theorem dX7_isTape_1 : decode cX7_isTape 1 = .ok (.i2l, 1) := dk_133 (dk_at dksX7_isTape_0 1 rfl rfl)
theorem dX7_isTape_2 : decode cX7_isTape 2 = .ok (.lconst 0, 1) := dk_9 (dk_at dksX7_isTape_0 2 rfl rfl)
theorem dX7_isTape_3 : decode cX7_isTape 3 = .ok (.ldc2_w 331, 3) := dk_20 1 75 (dk_at dksX7_isTape_0 3 rfl rfl)
theorem dX7_isTape_6 : decode cX7_isTape 6 = .ok (.invokestatic 115, 3) := dk_184 0 115 (dk_at dksX7_isTape_0 6 rfl rfl)
theorem dX7_isTape_9 : decode cX7_isTape 9 = .ok (.ireturn, 1) := dk_172 (dk_at dksX7_isTape_0 9 rfl rfl)
abbrev cX7_tape : ByteArray := prog_17_method_78_code
def yX7_tape : MethodName := ⟨RX7, "tape", "(III)I"⟩
def dkwX7_tape_4 : List UInt8 := [132, 4, 1, 167, 255, 233, 4, 172]
abbrev dktX7_tape_4 : List UInt8 := dkwX7_tape_4 ++ []
def dkwX7_tape_3 : List UInt8 := [3, 54, 4, 21, 4, 16, 60, 162, 0, 22, 42, 180, 0, 90, 16, 60, 27, 104, 21, 4, 96, 9, 80]
abbrev dktX7_tape_3 : List UInt8 := dkwX7_tape_3 ++ dktX7_tape_4
def dkwX7_tape_2 : List UInt8 := [172, 42, 180, 0, 84, 27, 28, 79, 42, 180, 0, 87, 27, 28, 2, 160, 0, 7, 3, 167, 0, 4, 29, 79]
abbrev dktX7_tape_2 : List UInt8 := dkwX7_tape_2 ++ dktX7_tape_3
def dkwX7_tape_1 : List UInt8 := [2, 159, 0, 12, 29, 16, 60, 164, 0, 6, 16, 254, 172, 28, 2, 159, 0, 10, 29, 156, 0, 6, 16, 242]
abbrev dktX7_tape_1 : List UInt8 := dkwX7_tape_1 ++ dktX7_tape_2
def dkwX7_tape_0 : List UInt8 := [27, 184, 1, 92, 154, 0, 5, 2, 172, 28, 133, 20, 1, 95, 20, 0, 243, 184, 0, 115, 153, 0, 14, 28]
abbrev dktX7_tape_0 : List UInt8 := dkwX7_tape_0 ++ dktX7_tape_1
theorem dksX7_tape_0 : cX7_tape.data.toList.drop 0 = dktX7_tape_0 := by decide +kernel
theorem dksX7_tape_1 : cX7_tape.data.toList.drop 24 = dktX7_tape_1 := dk_seg dksX7_tape_0 24 rfl rfl
theorem dksX7_tape_2 : cX7_tape.data.toList.drop 48 = dktX7_tape_2 := dk_seg dksX7_tape_1 24 rfl rfl
theorem dksX7_tape_3 : cX7_tape.data.toList.drop 72 = dktX7_tape_3 := dk_seg dksX7_tape_2 24 rfl rfl
theorem dksX7_tape_4 : cX7_tape.data.toList.drop 95 = dktX7_tape_4 := dk_seg dksX7_tape_3 23 rfl rfl
theorem dX7_tape_0 : decode cX7_tape 0 = .ok (.iload_n 1, 1) := dk_27 (dk_at dksX7_tape_0 0 rfl rfl)
theorem dX7_tape_1 : decode cX7_tape 1 = .ok (.invokestatic 348, 3) := dk_184 1 92 (dk_at dksX7_tape_0 1 rfl rfl)
theorem dX7_tape_4 : decode cX7_tape 4 = .ok (.ifCond .ne 5, 3) := dk_154 0 5 (dk_at dksX7_tape_0 4 rfl rfl)
theorem dX7_tape_7 : decode cX7_tape 7 = .ok (.iconst (-1), 1) := dk_2 (dk_at dksX7_tape_0 7 rfl rfl)
theorem dX7_tape_8 : decode cX7_tape 8 = .ok (.ireturn, 1) := dk_172 (dk_at dksX7_tape_0 8 rfl rfl)
theorem dX7_tape_9 : decode cX7_tape 9 = .ok (.iload_n 2, 1) := dk_28 (dk_at dksX7_tape_0 9 rfl rfl)
theorem dX7_tape_10 : decode cX7_tape 10 = .ok (.i2l, 1) := dk_133 (dk_at dksX7_tape_0 10 rfl rfl)
theorem dX7_tape_11 : decode cX7_tape 11 = .ok (.ldc2_w 351, 3) := dk_20 1 95 (dk_at dksX7_tape_0 11 rfl rfl)
theorem dX7_tape_14 : decode cX7_tape 14 = .ok (.ldc2_w 243, 3) := dk_20 0 243 (dk_at dksX7_tape_0 14 rfl rfl)
theorem dX7_tape_17 : decode cX7_tape 17 = .ok (.invokestatic 115, 3) := dk_184 0 115 (dk_at dksX7_tape_0 17 rfl rfl)
theorem dX7_tape_20 : decode cX7_tape 20 = .ok (.ifCond .eq 14, 3) := dk_153 0 14 (dk_at dksX7_tape_0 20 rfl rfl)
theorem dX7_tape_23 : decode cX7_tape 23 = .ok (.iload_n 2, 1) := dk_28 (dk_at dksX7_tape_0 23 rfl rfl)
theorem dX7_tape_24 : decode cX7_tape 24 = .ok (.iconst (-1), 1) := dk_2 (dk_at dksX7_tape_1 0 rfl rfl)
theorem dX7_tape_25 : decode cX7_tape 25 = .ok (.if_icmp .eq 12, 3) := dk_159 0 12 (dk_at dksX7_tape_1 1 rfl rfl)
theorem dX7_tape_28 : decode cX7_tape 28 = .ok (.iload_n 3, 1) := dk_29 (dk_at dksX7_tape_1 4 rfl rfl)
theorem dX7_tape_29 : decode cX7_tape 29 = .ok (.bipush 60, 2) := dk_16 60 (dk_at dksX7_tape_1 5 rfl rfl)
theorem dX7_tape_31 : decode cX7_tape 31 = .ok (.if_icmp .le 6, 3) := dk_164 0 6 (dk_at dksX7_tape_1 7 rfl rfl)
theorem dX7_tape_34 : decode cX7_tape 34 = .ok (.bipush (-2), 2) := dk_16 254 (dk_at dksX7_tape_1 10 rfl rfl)
theorem dX7_tape_36 : decode cX7_tape 36 = .ok (.ireturn, 1) := dk_172 (dk_at dksX7_tape_1 12 rfl rfl)
theorem dX7_tape_37 : decode cX7_tape 37 = .ok (.iload_n 2, 1) := dk_28 (dk_at dksX7_tape_1 13 rfl rfl)
theorem dX7_tape_38 : decode cX7_tape 38 = .ok (.iconst (-1), 1) := dk_2 (dk_at dksX7_tape_1 14 rfl rfl)
theorem dX7_tape_39 : decode cX7_tape 39 = .ok (.if_icmp .eq 10, 3) := dk_159 0 10 (dk_at dksX7_tape_1 15 rfl rfl)
theorem dX7_tape_42 : decode cX7_tape 42 = .ok (.iload_n 3, 1) := dk_29 (dk_at dksX7_tape_1 18 rfl rfl)
theorem dX7_tape_43 : decode cX7_tape 43 = .ok (.ifCond .ge 6, 3) := dk_156 0 6 (dk_at dksX7_tape_1 19 rfl rfl)
theorem dX7_tape_46 : decode cX7_tape 46 = .ok (.bipush (-14), 2) := dk_16 242 (dk_at dksX7_tape_1 22 rfl rfl)
theorem dX7_tape_48 : decode cX7_tape 48 = .ok (.ireturn, 1) := dk_172 (dk_at dksX7_tape_2 0 rfl rfl)
theorem dX7_tape_49 : decode cX7_tape 49 = .ok (.aload_n 0, 1) := dk_42 (dk_at dksX7_tape_2 1 rfl rfl)
theorem dX7_tape_50 : decode cX7_tape 50 = .ok (.getfield 84, 3) := dk_180 0 84 (dk_at dksX7_tape_2 2 rfl rfl)
theorem dX7_tape_53 : decode cX7_tape 53 = .ok (.iload_n 1, 1) := dk_27 (dk_at dksX7_tape_2 5 rfl rfl)
theorem dX7_tape_54 : decode cX7_tape 54 = .ok (.iload_n 2, 1) := dk_28 (dk_at dksX7_tape_2 6 rfl rfl)
theorem dX7_tape_55 : decode cX7_tape 55 = .ok (.iastore, 1) := dk_79 (dk_at dksX7_tape_2 7 rfl rfl)
theorem dX7_tape_56 : decode cX7_tape 56 = .ok (.aload_n 0, 1) := dk_42 (dk_at dksX7_tape_2 8 rfl rfl)
theorem dX7_tape_57 : decode cX7_tape 57 = .ok (.getfield 87, 3) := dk_180 0 87 (dk_at dksX7_tape_2 9 rfl rfl)
theorem dX7_tape_60 : decode cX7_tape 60 = .ok (.iload_n 1, 1) := dk_27 (dk_at dksX7_tape_2 12 rfl rfl)
theorem dX7_tape_61 : decode cX7_tape 61 = .ok (.iload_n 2, 1) := dk_28 (dk_at dksX7_tape_2 13 rfl rfl)
theorem dX7_tape_62 : decode cX7_tape 62 = .ok (.iconst (-1), 1) := dk_2 (dk_at dksX7_tape_2 14 rfl rfl)
theorem dX7_tape_63 : decode cX7_tape 63 = .ok (.if_icmp .ne 7, 3) := dk_160 0 7 (dk_at dksX7_tape_2 15 rfl rfl)
theorem dX7_tape_66 : decode cX7_tape 66 = .ok (.iconst 0, 1) := dk_3 (dk_at dksX7_tape_2 18 rfl rfl)
theorem dX7_tape_67 : decode cX7_tape 67 = .ok (.goto 4, 3) := dk_167 0 4 (dk_at dksX7_tape_2 19 rfl rfl)
theorem dX7_tape_70 : decode cX7_tape 70 = .ok (.iload_n 3, 1) := dk_29 (dk_at dksX7_tape_2 22 rfl rfl)
theorem dX7_tape_71 : decode cX7_tape 71 = .ok (.iastore, 1) := dk_79 (dk_at dksX7_tape_2 23 rfl rfl)
theorem dX7_tape_72 : decode cX7_tape 72 = .ok (.iconst 0, 1) := dk_3 (dk_at dksX7_tape_3 0 rfl rfl)
theorem dX7_tape_73 : decode cX7_tape 73 = .ok (.istore 4, 2) := dk_54 4 (dk_at dksX7_tape_3 1 rfl rfl)
theorem dX7_tape_75 : decode cX7_tape 75 = .ok (.iload 4, 2) := dk_21 4 (dk_at dksX7_tape_3 3 rfl rfl)
theorem dX7_tape_77 : decode cX7_tape 77 = .ok (.bipush 60, 2) := dk_16 60 (dk_at dksX7_tape_3 5 rfl rfl)
theorem dX7_tape_79 : decode cX7_tape 79 = .ok (.if_icmp .ge 22, 3) := dk_162 0 22 (dk_at dksX7_tape_3 7 rfl rfl)
theorem dX7_tape_82 : decode cX7_tape 82 = .ok (.aload_n 0, 1) := dk_42 (dk_at dksX7_tape_3 10 rfl rfl)
theorem dX7_tape_83 : decode cX7_tape 83 = .ok (.getfield 90, 3) := dk_180 0 90 (dk_at dksX7_tape_3 11 rfl rfl)
theorem dX7_tape_86 : decode cX7_tape 86 = .ok (.bipush 60, 2) := dk_16 60 (dk_at dksX7_tape_3 14 rfl rfl)
theorem dX7_tape_88 : decode cX7_tape 88 = .ok (.iload_n 1, 1) := dk_27 (dk_at dksX7_tape_3 16 rfl rfl)
theorem dX7_tape_89 : decode cX7_tape 89 = .ok (.imul, 1) := dk_104 (dk_at dksX7_tape_3 17 rfl rfl)
theorem dX7_tape_90 : decode cX7_tape 90 = .ok (.iload 4, 2) := dk_21 4 (dk_at dksX7_tape_3 18 rfl rfl)
theorem dX7_tape_92 : decode cX7_tape 92 = .ok (.iadd, 1) := dk_96 (dk_at dksX7_tape_3 20 rfl rfl)
theorem dX7_tape_93 : decode cX7_tape 93 = .ok (.lconst 0, 1) := dk_9 (dk_at dksX7_tape_3 21 rfl rfl)
theorem dX7_tape_94 : decode cX7_tape 94 = .ok (.lastore, 1) := dk_80 (dk_at dksX7_tape_3 22 rfl rfl)
theorem dX7_tape_95 : decode cX7_tape 95 = .ok (.iinc 4 1, 3) := dk_132 4 1 (dk_at dksX7_tape_4 0 rfl rfl)
theorem dX7_tape_98 : decode cX7_tape 98 = .ok (.goto (-23), 3) := dk_167 255 233 (dk_at dksX7_tape_4 3 rfl rfl)
theorem dX7_tape_101 : decode cX7_tape 101 = .ok (.iconst 1, 1) := dk_4 (dk_at dksX7_tape_4 6 rfl rfl)
theorem dX7_tape_102 : decode cX7_tape 102 = .ok (.ireturn, 1) := dk_172 (dk_at dksX7_tape_4 7 rfl rfl)
abbrev cX7_item : ByteArray := prog_17_method_80_code
def yX7_item : MethodName := ⟨RX7, "item", "(IIJ)I"⟩
def dkwX7_item_2 : List UInt8 := [16, 60, 27, 104, 28, 96, 42, 180, 0, 84, 27, 46, 33, 184, 1, 97, 80, 4, 172]
abbrev dktX7_item_2 : List UInt8 := dkwX7_item_2 ++ []
def dkwX7_item_1 : List UInt8 := [9, 42, 180, 0, 87, 27, 46, 4, 100, 133, 184, 0, 115, 154, 0, 6, 16, 243, 172, 42, 180, 0, 90]
abbrev dktX7_item_1 : List UInt8 := dkwX7_item_1 ++ dktX7_item_2
def dkwX7_item_0 : List UInt8 := [27, 184, 1, 92, 154, 0, 5, 2, 172, 42, 180, 0, 84, 27, 46, 2, 160, 0, 6, 16, 245, 172, 28, 133]
abbrev dktX7_item_0 : List UInt8 := dkwX7_item_0 ++ dktX7_item_1
theorem dksX7_item_0 : cX7_item.data.toList.drop 0 = dktX7_item_0 := by decide +kernel
theorem dksX7_item_1 : cX7_item.data.toList.drop 24 = dktX7_item_1 := dk_seg dksX7_item_0 24 rfl rfl
theorem dksX7_item_2 : cX7_item.data.toList.drop 47 = dktX7_item_2 := dk_seg dksX7_item_1 23 rfl rfl
theorem dX7_item_0 : decode cX7_item 0 = .ok (.iload_n 1, 1) := dk_27 (dk_at dksX7_item_0 0 rfl rfl)
theorem dX7_item_1 : decode cX7_item 1 = .ok (.invokestatic 348, 3) := dk_184 1 92 (dk_at dksX7_item_0 1 rfl rfl)
theorem dX7_item_4 : decode cX7_item 4 = .ok (.ifCond .ne 5, 3) := dk_154 0 5 (dk_at dksX7_item_0 4 rfl rfl)
theorem dX7_item_7 : decode cX7_item 7 = .ok (.iconst (-1), 1) := dk_2 (dk_at dksX7_item_0 7 rfl rfl)
theorem dX7_item_8 : decode cX7_item 8 = .ok (.ireturn, 1) := dk_172 (dk_at dksX7_item_0 8 rfl rfl)
theorem dX7_item_9 : decode cX7_item 9 = .ok (.aload_n 0, 1) := dk_42 (dk_at dksX7_item_0 9 rfl rfl)
theorem dX7_item_10 : decode cX7_item 10 = .ok (.getfield 84, 3) := dk_180 0 84 (dk_at dksX7_item_0 10 rfl rfl)
theorem dX7_item_13 : decode cX7_item 13 = .ok (.iload_n 1, 1) := dk_27 (dk_at dksX7_item_0 13 rfl rfl)
theorem dX7_item_14 : decode cX7_item 14 = .ok (.iaload, 1) := dk_46 (dk_at dksX7_item_0 14 rfl rfl)
theorem dX7_item_15 : decode cX7_item 15 = .ok (.iconst (-1), 1) := dk_2 (dk_at dksX7_item_0 15 rfl rfl)
theorem dX7_item_16 : decode cX7_item 16 = .ok (.if_icmp .ne 6, 3) := dk_160 0 6 (dk_at dksX7_item_0 16 rfl rfl)
theorem dX7_item_19 : decode cX7_item 19 = .ok (.bipush (-11), 2) := dk_16 245 (dk_at dksX7_item_0 19 rfl rfl)
theorem dX7_item_21 : decode cX7_item 21 = .ok (.ireturn, 1) := dk_172 (dk_at dksX7_item_0 21 rfl rfl)
theorem dX7_item_22 : decode cX7_item 22 = .ok (.iload_n 2, 1) := dk_28 (dk_at dksX7_item_0 22 rfl rfl)
theorem dX7_item_23 : decode cX7_item 23 = .ok (.i2l, 1) := dk_133 (dk_at dksX7_item_0 23 rfl rfl)
theorem dX7_item_24 : decode cX7_item 24 = .ok (.lconst 0, 1) := dk_9 (dk_at dksX7_item_1 0 rfl rfl)
theorem dX7_item_25 : decode cX7_item 25 = .ok (.aload_n 0, 1) := dk_42 (dk_at dksX7_item_1 1 rfl rfl)
theorem dX7_item_26 : decode cX7_item 26 = .ok (.getfield 87, 3) := dk_180 0 87 (dk_at dksX7_item_1 2 rfl rfl)
theorem dX7_item_29 : decode cX7_item 29 = .ok (.iload_n 1, 1) := dk_27 (dk_at dksX7_item_1 5 rfl rfl)
theorem dX7_item_30 : decode cX7_item 30 = .ok (.iaload, 1) := dk_46 (dk_at dksX7_item_1 6 rfl rfl)
theorem dX7_item_31 : decode cX7_item 31 = .ok (.iconst 1, 1) := dk_4 (dk_at dksX7_item_1 7 rfl rfl)
theorem dX7_item_32 : decode cX7_item 32 = .ok (.isub, 1) := dk_100 (dk_at dksX7_item_1 8 rfl rfl)
theorem dX7_item_33 : decode cX7_item 33 = .ok (.i2l, 1) := dk_133 (dk_at dksX7_item_1 9 rfl rfl)
theorem dX7_item_34 : decode cX7_item 34 = .ok (.invokestatic 115, 3) := dk_184 0 115 (dk_at dksX7_item_1 10 rfl rfl)
theorem dX7_item_37 : decode cX7_item 37 = .ok (.ifCond .ne 6, 3) := dk_154 0 6 (dk_at dksX7_item_1 13 rfl rfl)
theorem dX7_item_40 : decode cX7_item 40 = .ok (.bipush (-13), 2) := dk_16 243 (dk_at dksX7_item_1 16 rfl rfl)
theorem dX7_item_42 : decode cX7_item 42 = .ok (.ireturn, 1) := dk_172 (dk_at dksX7_item_1 18 rfl rfl)
theorem dX7_item_43 : decode cX7_item 43 = .ok (.aload_n 0, 1) := dk_42 (dk_at dksX7_item_1 19 rfl rfl)
theorem dX7_item_44 : decode cX7_item 44 = .ok (.getfield 90, 3) := dk_180 0 90 (dk_at dksX7_item_1 20 rfl rfl)
theorem dX7_item_47 : decode cX7_item 47 = .ok (.bipush 60, 2) := dk_16 60 (dk_at dksX7_item_2 0 rfl rfl)
theorem dX7_item_49 : decode cX7_item 49 = .ok (.iload_n 1, 1) := dk_27 (dk_at dksX7_item_2 2 rfl rfl)
theorem dX7_item_50 : decode cX7_item 50 = .ok (.imul, 1) := dk_104 (dk_at dksX7_item_2 3 rfl rfl)
theorem dX7_item_51 : decode cX7_item 51 = .ok (.iload_n 2, 1) := dk_28 (dk_at dksX7_item_2 4 rfl rfl)
theorem dX7_item_52 : decode cX7_item 52 = .ok (.iadd, 1) := dk_96 (dk_at dksX7_item_2 5 rfl rfl)
theorem dX7_item_53 : decode cX7_item 53 = .ok (.aload_n 0, 1) := dk_42 (dk_at dksX7_item_2 6 rfl rfl)
theorem dX7_item_54 : decode cX7_item 54 = .ok (.getfield 84, 3) := dk_180 0 84 (dk_at dksX7_item_2 7 rfl rfl)
theorem dX7_item_57 : decode cX7_item 57 = .ok (.iload_n 1, 1) := dk_27 (dk_at dksX7_item_2 10 rfl rfl)
theorem dX7_item_58 : decode cX7_item 58 = .ok (.iaload, 1) := dk_46 (dk_at dksX7_item_2 11 rfl rfl)
theorem dX7_item_59 : decode cX7_item 59 = .ok (.lload_n 3, 1) := dk_33 (dk_at dksX7_item_2 12 rfl rfl)
theorem dX7_item_60 : decode cX7_item 60 = .ok (.invokestatic 353, 3) := dk_184 1 97 (dk_at dksX7_item_2 13 rfl rfl)
theorem dX7_item_63 : decode cX7_item 63 = .ok (.lastore, 1) := dk_80 (dk_at dksX7_item_2 16 rfl rfl)
theorem dX7_item_64 : decode cX7_item 64 = .ok (.iconst 1, 1) := dk_4 (dk_at dksX7_item_2 17 rfl rfl)
theorem dX7_item_65 : decode cX7_item 65 = .ok (.ireturn, 1) := dk_172 (dk_at dksX7_item_2 18 rfl rfl)
abbrev cX7_asSort : ByteArray := prog_17_method_79_code
def yX7_asSort : MethodName := ⟨RX7, "asSort", "(IJ)J"⟩
def dkwX7_asSort_3 : List UInt8 := [167, 0, 4, 9, 173]
abbrev dktX7_asSort_3 : List UInt8 := dkwX7_asSort_3 ++ []
def dkwX7_asSort_2 : List UInt8 := [31, 136, 145, 133, 173, 31, 136, 147, 133, 173, 31, 136, 133, 173, 31, 173, 31, 9, 148, 153, 0, 7, 10]
abbrev dktX7_asSort_2 : List UInt8 := dkwX7_asSort_2 ++ dktX7_asSort_3
def dkwX7_asSort_1 : List UInt8 := [170, 0, 0, 0, 0, 0, 47, 0, 0, 0, 0, 0, 0, 0, 3, 0, 0, 0, 31, 0, 0, 0, 36, 0, 0, 0, 41, 0, 0, 0, 45]
abbrev dktX7_asSort_1 : List UInt8 := dkwX7_asSort_1 ++ dktX7_asSort_2
def dkwX7_asSort_0 : List UInt8 := [26]
abbrev dktX7_asSort_0 : List UInt8 := dkwX7_asSort_0 ++ dktX7_asSort_1
theorem dksX7_asSort_0 : cX7_asSort.data.toList.drop 0 = dktX7_asSort_0 := by decide +kernel
theorem dksX7_asSort_1 : cX7_asSort.data.toList.drop 1 = dktX7_asSort_1 := dk_seg dksX7_asSort_0 1 rfl rfl
theorem dksX7_asSort_2 : cX7_asSort.data.toList.drop 32 = dktX7_asSort_2 := dk_seg dksX7_asSort_1 31 rfl rfl
theorem dksX7_asSort_3 : cX7_asSort.data.toList.drop 55 = dktX7_asSort_3 := dk_seg dksX7_asSort_2 23 rfl rfl
theorem dX7_asSort_0 : decode cX7_asSort 0 = .ok (.iload_n 0, 1) := dk_26 (dk_at dksX7_asSort_0 0 rfl rfl)
theorem dX7_asSort_1 : decode cX7_asSort 1 = .ok (.tableswitch 47 0 3 #[31, 36, 41, 45], 31) := by decide +kernel
theorem dX7_asSort_32 : decode cX7_asSort 32 = .ok (.lload_n 1, 1) := dk_31 (dk_at dksX7_asSort_2 0 rfl rfl)
theorem dX7_asSort_33 : decode cX7_asSort 33 = .ok (.l2i, 1) := dk_136 (dk_at dksX7_asSort_2 1 rfl rfl)
theorem dX7_asSort_34 : decode cX7_asSort 34 = .ok (.i2b, 1) := dk_145 (dk_at dksX7_asSort_2 2 rfl rfl)
theorem dX7_asSort_35 : decode cX7_asSort 35 = .ok (.i2l, 1) := dk_133 (dk_at dksX7_asSort_2 3 rfl rfl)
theorem dX7_asSort_36 : decode cX7_asSort 36 = .ok (.lreturn, 1) := dk_173 (dk_at dksX7_asSort_2 4 rfl rfl)
theorem dX7_asSort_37 : decode cX7_asSort 37 = .ok (.lload_n 1, 1) := dk_31 (dk_at dksX7_asSort_2 5 rfl rfl)
theorem dX7_asSort_38 : decode cX7_asSort 38 = .ok (.l2i, 1) := dk_136 (dk_at dksX7_asSort_2 6 rfl rfl)
theorem dX7_asSort_39 : decode cX7_asSort 39 = .ok (.i2s, 1) := dk_147 (dk_at dksX7_asSort_2 7 rfl rfl)
theorem dX7_asSort_40 : decode cX7_asSort 40 = .ok (.i2l, 1) := dk_133 (dk_at dksX7_asSort_2 8 rfl rfl)
theorem dX7_asSort_41 : decode cX7_asSort 41 = .ok (.lreturn, 1) := dk_173 (dk_at dksX7_asSort_2 9 rfl rfl)
theorem dX7_asSort_42 : decode cX7_asSort 42 = .ok (.lload_n 1, 1) := dk_31 (dk_at dksX7_asSort_2 10 rfl rfl)
theorem dX7_asSort_43 : decode cX7_asSort 43 = .ok (.l2i, 1) := dk_136 (dk_at dksX7_asSort_2 11 rfl rfl)
theorem dX7_asSort_44 : decode cX7_asSort 44 = .ok (.i2l, 1) := dk_133 (dk_at dksX7_asSort_2 12 rfl rfl)
theorem dX7_asSort_45 : decode cX7_asSort 45 = .ok (.lreturn, 1) := dk_173 (dk_at dksX7_asSort_2 13 rfl rfl)
theorem dX7_asSort_46 : decode cX7_asSort 46 = .ok (.lload_n 1, 1) := dk_31 (dk_at dksX7_asSort_2 14 rfl rfl)
theorem dX7_asSort_47 : decode cX7_asSort 47 = .ok (.lreturn, 1) := dk_173 (dk_at dksX7_asSort_2 15 rfl rfl)
theorem dX7_asSort_48 : decode cX7_asSort 48 = .ok (.lload_n 1, 1) := dk_31 (dk_at dksX7_asSort_2 16 rfl rfl)
theorem dX7_asSort_49 : decode cX7_asSort 49 = .ok (.lconst 0, 1) := dk_9 (dk_at dksX7_asSort_2 17 rfl rfl)
theorem dX7_asSort_50 : decode cX7_asSort 50 = .ok (.lcmp, 1) := dk_148 (dk_at dksX7_asSort_2 18 rfl rfl)
theorem dX7_asSort_51 : decode cX7_asSort 51 = .ok (.ifCond .eq 7, 3) := dk_153 0 7 (dk_at dksX7_asSort_2 19 rfl rfl)
theorem dX7_asSort_54 : decode cX7_asSort 54 = .ok (.lconst 1, 1) := dk_10 (dk_at dksX7_asSort_2 22 rfl rfl)
theorem dX7_asSort_55 : decode cX7_asSort 55 = .ok (.goto 4, 3) := dk_167 0 4 (dk_at dksX7_asSort_3 0 rfl rfl)
theorem dX7_asSort_58 : decode cX7_asSort 58 = .ok (.lconst 0, 1) := dk_9 (dk_at dksX7_asSort_3 3 rfl rfl)
theorem dX7_asSort_59 : decode cX7_asSort 59 = .ok (.lreturn, 1) := dk_173 (dk_at dksX7_asSort_3 4 rfl rfl)
abbrev cX7_peek : ByteArray := prog_17_method_81_code
def yX7_peek : MethodName := ⟨RX7, "peek", "(II)J"⟩
def dkwX7_peek_1 : List UInt8 := [153, 0, 17, 42, 180, 0, 90, 16, 60, 27, 104, 28, 96, 47, 167, 0, 6, 20, 1, 15, 173]
abbrev dktX7_peek_1 : List UInt8 := dkwX7_peek_1 ++ []
def dkwX7_peek_0 : List UInt8 := [27, 184, 1, 92, 153, 0, 35, 28, 133, 9, 42, 180, 0, 87, 27, 46, 4, 100, 133, 184, 0, 115]
abbrev dktX7_peek_0 : List UInt8 := dkwX7_peek_0 ++ dktX7_peek_1
theorem dksX7_peek_0 : cX7_peek.data.toList.drop 0 = dktX7_peek_0 := by decide +kernel
theorem dksX7_peek_1 : cX7_peek.data.toList.drop 22 = dktX7_peek_1 := dk_seg dksX7_peek_0 22 rfl rfl
theorem dX7_peek_0 : decode cX7_peek 0 = .ok (.iload_n 1, 1) := dk_27 (dk_at dksX7_peek_0 0 rfl rfl)
theorem dX7_peek_1 : decode cX7_peek 1 = .ok (.invokestatic 348, 3) := dk_184 1 92 (dk_at dksX7_peek_0 1 rfl rfl)
theorem dX7_peek_4 : decode cX7_peek 4 = .ok (.ifCond .eq 35, 3) := dk_153 0 35 (dk_at dksX7_peek_0 4 rfl rfl)
theorem dX7_peek_7 : decode cX7_peek 7 = .ok (.iload_n 2, 1) := dk_28 (dk_at dksX7_peek_0 7 rfl rfl)
theorem dX7_peek_8 : decode cX7_peek 8 = .ok (.i2l, 1) := dk_133 (dk_at dksX7_peek_0 8 rfl rfl)
theorem dX7_peek_9 : decode cX7_peek 9 = .ok (.lconst 0, 1) := dk_9 (dk_at dksX7_peek_0 9 rfl rfl)
theorem dX7_peek_10 : decode cX7_peek 10 = .ok (.aload_n 0, 1) := dk_42 (dk_at dksX7_peek_0 10 rfl rfl)
theorem dX7_peek_11 : decode cX7_peek 11 = .ok (.getfield 87, 3) := dk_180 0 87 (dk_at dksX7_peek_0 11 rfl rfl)
theorem dX7_peek_14 : decode cX7_peek 14 = .ok (.iload_n 1, 1) := dk_27 (dk_at dksX7_peek_0 14 rfl rfl)
theorem dX7_peek_15 : decode cX7_peek 15 = .ok (.iaload, 1) := dk_46 (dk_at dksX7_peek_0 15 rfl rfl)
theorem dX7_peek_16 : decode cX7_peek 16 = .ok (.iconst 1, 1) := dk_4 (dk_at dksX7_peek_0 16 rfl rfl)
theorem dX7_peek_17 : decode cX7_peek 17 = .ok (.isub, 1) := dk_100 (dk_at dksX7_peek_0 17 rfl rfl)
theorem dX7_peek_18 : decode cX7_peek 18 = .ok (.i2l, 1) := dk_133 (dk_at dksX7_peek_0 18 rfl rfl)
theorem dX7_peek_19 : decode cX7_peek 19 = .ok (.invokestatic 115, 3) := dk_184 0 115 (dk_at dksX7_peek_0 19 rfl rfl)
theorem dX7_peek_22 : decode cX7_peek 22 = .ok (.ifCond .eq 17, 3) := dk_153 0 17 (dk_at dksX7_peek_1 0 rfl rfl)
theorem dX7_peek_25 : decode cX7_peek 25 = .ok (.aload_n 0, 1) := dk_42 (dk_at dksX7_peek_1 3 rfl rfl)
theorem dX7_peek_26 : decode cX7_peek 26 = .ok (.getfield 90, 3) := dk_180 0 90 (dk_at dksX7_peek_1 4 rfl rfl)
theorem dX7_peek_29 : decode cX7_peek 29 = .ok (.bipush 60, 2) := dk_16 60 (dk_at dksX7_peek_1 7 rfl rfl)
theorem dX7_peek_31 : decode cX7_peek 31 = .ok (.iload_n 1, 1) := dk_27 (dk_at dksX7_peek_1 9 rfl rfl)
theorem dX7_peek_32 : decode cX7_peek 32 = .ok (.imul, 1) := dk_104 (dk_at dksX7_peek_1 10 rfl rfl)
theorem dX7_peek_33 : decode cX7_peek 33 = .ok (.iload_n 2, 1) := dk_28 (dk_at dksX7_peek_1 11 rfl rfl)
theorem dX7_peek_34 : decode cX7_peek 34 = .ok (.iadd, 1) := dk_96 (dk_at dksX7_peek_1 12 rfl rfl)
theorem dX7_peek_35 : decode cX7_peek 35 = .ok (.laload, 1) := dk_47 (dk_at dksX7_peek_1 13 rfl rfl)
theorem dX7_peek_36 : decode cX7_peek 36 = .ok (.goto 6, 3) := dk_167 0 6 (dk_at dksX7_peek_1 14 rfl rfl)
theorem dX7_peek_39 : decode cX7_peek 39 = .ok (.ldc2_w 271, 3) := dk_20 1 15 (dk_at dksX7_peek_1 17 rfl rfl)
theorem dX7_peek_42 : decode cX7_peek 42 = .ok (.lreturn, 1) := dk_173 (dk_at dksX7_peek_1 20 rfl rfl)
abbrev cX7_shift : ByteArray := prog_17_method_82_code
def yX7_shift : MethodName := ⟨RX7, "shift", "(IIIII)I"⟩
def dkwX7_shift_7 : List UInt8 := [180, 0, 94, 21, 6, 47, 80, 132, 6, 1, 167, 255, 224, 21, 5, 172]
abbrev dktX7_shift_7 : List UInt8 := dkwX7_shift_7 ++ []
def dkwX7_shift_6 : List UInt8 := [54, 6, 21, 6, 21, 5, 162, 0, 31, 42, 180, 0, 90, 16, 60, 29, 104, 21, 4, 96, 21, 6, 96, 42]
abbrev dktX7_shift_6 : List UInt8 := dkwX7_shift_6 ++ dktX7_shift_7
def dkwX7_shift_5 : List UInt8 := [21, 6, 42, 180, 0, 90, 16, 60, 27, 104, 28, 96, 21, 6, 96, 47, 80, 132, 6, 1, 167, 255, 225, 3]
abbrev dktX7_shift_5 : List UInt8 := dkwX7_shift_5 ++ dktX7_shift_6
def dkwX7_shift_4 : List UInt8 := [21, 4, 100, 164, 0, 6, 16, 243, 172, 3, 54, 6, 21, 6, 21, 5, 162, 0, 30, 42, 180, 0, 94]
abbrev dktX7_shift_4 : List UInt8 := dkwX7_shift_4 ++ dktX7_shift_5
def dkwX7_shift_3 : List UInt8 := [155, 0, 30, 21, 5, 42, 180, 0, 87, 27, 46, 28, 100, 163, 0, 17, 21, 5, 42, 180, 0, 87, 29, 46]
abbrev dktX7_shift_3 : List UInt8 := dkwX7_shift_3 ++ dktX7_shift_4
def dkwX7_shift_2 : List UInt8 := [180, 0, 84, 29, 46, 159, 0, 6, 16, 244, 172, 21, 5, 155, 0, 39, 28, 155, 0, 35, 21, 4]
abbrev dktX7_shift_2 : List UInt8 := dkwX7_shift_2 ++ dktX7_shift_3
def dkwX7_shift_1 : List UInt8 := [159, 0, 13, 42, 180, 0, 84, 29, 46, 2, 160, 0, 6, 16, 245, 172, 42, 180, 0, 84, 27, 46, 42]
abbrev dktX7_shift_1 : List UInt8 := dkwX7_shift_1 ++ dktX7_shift_2
def dkwX7_shift_0 : List UInt8 := [27, 184, 1, 92, 153, 0, 10, 29, 184, 1, 92, 154, 0, 5, 2, 172, 42, 180, 0, 84, 27, 46, 2]
abbrev dktX7_shift_0 : List UInt8 := dkwX7_shift_0 ++ dktX7_shift_1
theorem dksX7_shift_0 : cX7_shift.data.toList.drop 0 = dktX7_shift_0 := by decide +kernel
theorem dksX7_shift_1 : cX7_shift.data.toList.drop 23 = dktX7_shift_1 := dk_seg dksX7_shift_0 23 rfl rfl
theorem dksX7_shift_2 : cX7_shift.data.toList.drop 46 = dktX7_shift_2 := dk_seg dksX7_shift_1 23 rfl rfl
theorem dksX7_shift_3 : cX7_shift.data.toList.drop 68 = dktX7_shift_3 := dk_seg dksX7_shift_2 22 rfl rfl
theorem dksX7_shift_4 : cX7_shift.data.toList.drop 92 = dktX7_shift_4 := dk_seg dksX7_shift_3 24 rfl rfl
theorem dksX7_shift_5 : cX7_shift.data.toList.drop 115 = dktX7_shift_5 := dk_seg dksX7_shift_4 23 rfl rfl
theorem dksX7_shift_6 : cX7_shift.data.toList.drop 139 = dktX7_shift_6 := dk_seg dksX7_shift_5 24 rfl rfl
theorem dksX7_shift_7 : cX7_shift.data.toList.drop 163 = dktX7_shift_7 := dk_seg dksX7_shift_6 24 rfl rfl
theorem dX7_shift_0 : decode cX7_shift 0 = .ok (.iload_n 1, 1) := dk_27 (dk_at dksX7_shift_0 0 rfl rfl)
theorem dX7_shift_1 : decode cX7_shift 1 = .ok (.invokestatic 348, 3) := dk_184 1 92 (dk_at dksX7_shift_0 1 rfl rfl)
theorem dX7_shift_4 : decode cX7_shift 4 = .ok (.ifCond .eq 10, 3) := dk_153 0 10 (dk_at dksX7_shift_0 4 rfl rfl)
theorem dX7_shift_7 : decode cX7_shift 7 = .ok (.iload_n 3, 1) := dk_29 (dk_at dksX7_shift_0 7 rfl rfl)
theorem dX7_shift_8 : decode cX7_shift 8 = .ok (.invokestatic 348, 3) := dk_184 1 92 (dk_at dksX7_shift_0 8 rfl rfl)
theorem dX7_shift_11 : decode cX7_shift 11 = .ok (.ifCond .ne 5, 3) := dk_154 0 5 (dk_at dksX7_shift_0 11 rfl rfl)
theorem dX7_shift_14 : decode cX7_shift 14 = .ok (.iconst (-1), 1) := dk_2 (dk_at dksX7_shift_0 14 rfl rfl)
theorem dX7_shift_15 : decode cX7_shift 15 = .ok (.ireturn, 1) := dk_172 (dk_at dksX7_shift_0 15 rfl rfl)
theorem dX7_shift_16 : decode cX7_shift 16 = .ok (.aload_n 0, 1) := dk_42 (dk_at dksX7_shift_0 16 rfl rfl)
theorem dX7_shift_17 : decode cX7_shift 17 = .ok (.getfield 84, 3) := dk_180 0 84 (dk_at dksX7_shift_0 17 rfl rfl)
theorem dX7_shift_20 : decode cX7_shift 20 = .ok (.iload_n 1, 1) := dk_27 (dk_at dksX7_shift_0 20 rfl rfl)
theorem dX7_shift_21 : decode cX7_shift 21 = .ok (.iaload, 1) := dk_46 (dk_at dksX7_shift_0 21 rfl rfl)
theorem dX7_shift_22 : decode cX7_shift 22 = .ok (.iconst (-1), 1) := dk_2 (dk_at dksX7_shift_0 22 rfl rfl)
theorem dX7_shift_23 : decode cX7_shift 23 = .ok (.if_icmp .eq 13, 3) := dk_159 0 13 (dk_at dksX7_shift_1 0 rfl rfl)
theorem dX7_shift_26 : decode cX7_shift 26 = .ok (.aload_n 0, 1) := dk_42 (dk_at dksX7_shift_1 3 rfl rfl)
theorem dX7_shift_27 : decode cX7_shift 27 = .ok (.getfield 84, 3) := dk_180 0 84 (dk_at dksX7_shift_1 4 rfl rfl)
theorem dX7_shift_30 : decode cX7_shift 30 = .ok (.iload_n 3, 1) := dk_29 (dk_at dksX7_shift_1 7 rfl rfl)
theorem dX7_shift_31 : decode cX7_shift 31 = .ok (.iaload, 1) := dk_46 (dk_at dksX7_shift_1 8 rfl rfl)
theorem dX7_shift_32 : decode cX7_shift 32 = .ok (.iconst (-1), 1) := dk_2 (dk_at dksX7_shift_1 9 rfl rfl)
theorem dX7_shift_33 : decode cX7_shift 33 = .ok (.if_icmp .ne 6, 3) := dk_160 0 6 (dk_at dksX7_shift_1 10 rfl rfl)
theorem dX7_shift_36 : decode cX7_shift 36 = .ok (.bipush (-11), 2) := dk_16 245 (dk_at dksX7_shift_1 13 rfl rfl)
theorem dX7_shift_38 : decode cX7_shift 38 = .ok (.ireturn, 1) := dk_172 (dk_at dksX7_shift_1 15 rfl rfl)
theorem dX7_shift_39 : decode cX7_shift 39 = .ok (.aload_n 0, 1) := dk_42 (dk_at dksX7_shift_1 16 rfl rfl)
theorem dX7_shift_40 : decode cX7_shift 40 = .ok (.getfield 84, 3) := dk_180 0 84 (dk_at dksX7_shift_1 17 rfl rfl)
theorem dX7_shift_43 : decode cX7_shift 43 = .ok (.iload_n 1, 1) := dk_27 (dk_at dksX7_shift_1 20 rfl rfl)
theorem dX7_shift_44 : decode cX7_shift 44 = .ok (.iaload, 1) := dk_46 (dk_at dksX7_shift_1 21 rfl rfl)
theorem dX7_shift_45 : decode cX7_shift 45 = .ok (.aload_n 0, 1) := dk_42 (dk_at dksX7_shift_1 22 rfl rfl)
theorem dX7_shift_46 : decode cX7_shift 46 = .ok (.getfield 84, 3) := dk_180 0 84 (dk_at dksX7_shift_2 0 rfl rfl)
theorem dX7_shift_49 : decode cX7_shift 49 = .ok (.iload_n 3, 1) := dk_29 (dk_at dksX7_shift_2 3 rfl rfl)
theorem dX7_shift_50 : decode cX7_shift 50 = .ok (.iaload, 1) := dk_46 (dk_at dksX7_shift_2 4 rfl rfl)
theorem dX7_shift_51 : decode cX7_shift 51 = .ok (.if_icmp .eq 6, 3) := dk_159 0 6 (dk_at dksX7_shift_2 5 rfl rfl)
theorem dX7_shift_54 : decode cX7_shift 54 = .ok (.bipush (-12), 2) := dk_16 244 (dk_at dksX7_shift_2 8 rfl rfl)
theorem dX7_shift_56 : decode cX7_shift 56 = .ok (.ireturn, 1) := dk_172 (dk_at dksX7_shift_2 10 rfl rfl)
theorem dX7_shift_57 : decode cX7_shift 57 = .ok (.iload 5, 2) := dk_21 5 (dk_at dksX7_shift_2 11 rfl rfl)
theorem dX7_shift_59 : decode cX7_shift 59 = .ok (.ifCond .lt 39, 3) := dk_155 0 39 (dk_at dksX7_shift_2 13 rfl rfl)
theorem dX7_shift_62 : decode cX7_shift 62 = .ok (.iload_n 2, 1) := dk_28 (dk_at dksX7_shift_2 16 rfl rfl)
theorem dX7_shift_63 : decode cX7_shift 63 = .ok (.ifCond .lt 35, 3) := dk_155 0 35 (dk_at dksX7_shift_2 17 rfl rfl)
theorem dX7_shift_66 : decode cX7_shift 66 = .ok (.iload 4, 2) := dk_21 4 (dk_at dksX7_shift_2 20 rfl rfl)
theorem dX7_shift_68 : decode cX7_shift 68 = .ok (.ifCond .lt 30, 3) := dk_155 0 30 (dk_at dksX7_shift_3 0 rfl rfl)
theorem dX7_shift_71 : decode cX7_shift 71 = .ok (.iload 5, 2) := dk_21 5 (dk_at dksX7_shift_3 3 rfl rfl)
theorem dX7_shift_73 : decode cX7_shift 73 = .ok (.aload_n 0, 1) := dk_42 (dk_at dksX7_shift_3 5 rfl rfl)
theorem dX7_shift_74 : decode cX7_shift 74 = .ok (.getfield 87, 3) := dk_180 0 87 (dk_at dksX7_shift_3 6 rfl rfl)
theorem dX7_shift_77 : decode cX7_shift 77 = .ok (.iload_n 1, 1) := dk_27 (dk_at dksX7_shift_3 9 rfl rfl)
theorem dX7_shift_78 : decode cX7_shift 78 = .ok (.iaload, 1) := dk_46 (dk_at dksX7_shift_3 10 rfl rfl)
theorem dX7_shift_79 : decode cX7_shift 79 = .ok (.iload_n 2, 1) := dk_28 (dk_at dksX7_shift_3 11 rfl rfl)
theorem dX7_shift_80 : decode cX7_shift 80 = .ok (.isub, 1) := dk_100 (dk_at dksX7_shift_3 12 rfl rfl)
theorem dX7_shift_81 : decode cX7_shift 81 = .ok (.if_icmp .gt 17, 3) := dk_163 0 17 (dk_at dksX7_shift_3 13 rfl rfl)
theorem dX7_shift_84 : decode cX7_shift 84 = .ok (.iload 5, 2) := dk_21 5 (dk_at dksX7_shift_3 16 rfl rfl)
theorem dX7_shift_86 : decode cX7_shift 86 = .ok (.aload_n 0, 1) := dk_42 (dk_at dksX7_shift_3 18 rfl rfl)
theorem dX7_shift_87 : decode cX7_shift 87 = .ok (.getfield 87, 3) := dk_180 0 87 (dk_at dksX7_shift_3 19 rfl rfl)
theorem dX7_shift_90 : decode cX7_shift 90 = .ok (.iload_n 3, 1) := dk_29 (dk_at dksX7_shift_3 22 rfl rfl)
theorem dX7_shift_91 : decode cX7_shift 91 = .ok (.iaload, 1) := dk_46 (dk_at dksX7_shift_3 23 rfl rfl)
theorem dX7_shift_92 : decode cX7_shift 92 = .ok (.iload 4, 2) := dk_21 4 (dk_at dksX7_shift_4 0 rfl rfl)
theorem dX7_shift_94 : decode cX7_shift 94 = .ok (.isub, 1) := dk_100 (dk_at dksX7_shift_4 2 rfl rfl)
theorem dX7_shift_95 : decode cX7_shift 95 = .ok (.if_icmp .le 6, 3) := dk_164 0 6 (dk_at dksX7_shift_4 3 rfl rfl)
theorem dX7_shift_98 : decode cX7_shift 98 = .ok (.bipush (-13), 2) := dk_16 243 (dk_at dksX7_shift_4 6 rfl rfl)
theorem dX7_shift_100 : decode cX7_shift 100 = .ok (.ireturn, 1) := dk_172 (dk_at dksX7_shift_4 8 rfl rfl)
theorem dX7_shift_101 : decode cX7_shift 101 = .ok (.iconst 0, 1) := dk_3 (dk_at dksX7_shift_4 9 rfl rfl)
theorem dX7_shift_102 : decode cX7_shift 102 = .ok (.istore 6, 2) := dk_54 6 (dk_at dksX7_shift_4 10 rfl rfl)
theorem dX7_shift_104 : decode cX7_shift 104 = .ok (.iload 6, 2) := dk_21 6 (dk_at dksX7_shift_4 12 rfl rfl)
theorem dX7_shift_106 : decode cX7_shift 106 = .ok (.iload 5, 2) := dk_21 5 (dk_at dksX7_shift_4 14 rfl rfl)
theorem dX7_shift_108 : decode cX7_shift 108 = .ok (.if_icmp .ge 30, 3) := dk_162 0 30 (dk_at dksX7_shift_4 16 rfl rfl)
theorem dX7_shift_111 : decode cX7_shift 111 = .ok (.aload_n 0, 1) := dk_42 (dk_at dksX7_shift_4 19 rfl rfl)
theorem dX7_shift_112 : decode cX7_shift 112 = .ok (.getfield 94, 3) := dk_180 0 94 (dk_at dksX7_shift_4 20 rfl rfl)
theorem dX7_shift_115 : decode cX7_shift 115 = .ok (.iload 6, 2) := dk_21 6 (dk_at dksX7_shift_5 0 rfl rfl)
theorem dX7_shift_117 : decode cX7_shift 117 = .ok (.aload_n 0, 1) := dk_42 (dk_at dksX7_shift_5 2 rfl rfl)
theorem dX7_shift_118 : decode cX7_shift 118 = .ok (.getfield 90, 3) := dk_180 0 90 (dk_at dksX7_shift_5 3 rfl rfl)
theorem dX7_shift_121 : decode cX7_shift 121 = .ok (.bipush 60, 2) := dk_16 60 (dk_at dksX7_shift_5 6 rfl rfl)
theorem dX7_shift_123 : decode cX7_shift 123 = .ok (.iload_n 1, 1) := dk_27 (dk_at dksX7_shift_5 8 rfl rfl)
theorem dX7_shift_124 : decode cX7_shift 124 = .ok (.imul, 1) := dk_104 (dk_at dksX7_shift_5 9 rfl rfl)
theorem dX7_shift_125 : decode cX7_shift 125 = .ok (.iload_n 2, 1) := dk_28 (dk_at dksX7_shift_5 10 rfl rfl)
theorem dX7_shift_126 : decode cX7_shift 126 = .ok (.iadd, 1) := dk_96 (dk_at dksX7_shift_5 11 rfl rfl)
theorem dX7_shift_127 : decode cX7_shift 127 = .ok (.iload 6, 2) := dk_21 6 (dk_at dksX7_shift_5 12 rfl rfl)
theorem dX7_shift_129 : decode cX7_shift 129 = .ok (.iadd, 1) := dk_96 (dk_at dksX7_shift_5 14 rfl rfl)
theorem dX7_shift_130 : decode cX7_shift 130 = .ok (.laload, 1) := dk_47 (dk_at dksX7_shift_5 15 rfl rfl)
theorem dX7_shift_131 : decode cX7_shift 131 = .ok (.lastore, 1) := dk_80 (dk_at dksX7_shift_5 16 rfl rfl)
theorem dX7_shift_132 : decode cX7_shift 132 = .ok (.iinc 6 1, 3) := dk_132 6 1 (dk_at dksX7_shift_5 17 rfl rfl)
theorem dX7_shift_135 : decode cX7_shift 135 = .ok (.goto (-31), 3) := dk_167 255 225 (dk_at dksX7_shift_5 20 rfl rfl)
theorem dX7_shift_138 : decode cX7_shift 138 = .ok (.iconst 0, 1) := dk_3 (dk_at dksX7_shift_5 23 rfl rfl)
theorem dX7_shift_139 : decode cX7_shift 139 = .ok (.istore 6, 2) := dk_54 6 (dk_at dksX7_shift_6 0 rfl rfl)
theorem dX7_shift_141 : decode cX7_shift 141 = .ok (.iload 6, 2) := dk_21 6 (dk_at dksX7_shift_6 2 rfl rfl)
theorem dX7_shift_143 : decode cX7_shift 143 = .ok (.iload 5, 2) := dk_21 5 (dk_at dksX7_shift_6 4 rfl rfl)
theorem dX7_shift_145 : decode cX7_shift 145 = .ok (.if_icmp .ge 31, 3) := dk_162 0 31 (dk_at dksX7_shift_6 6 rfl rfl)
theorem dX7_shift_148 : decode cX7_shift 148 = .ok (.aload_n 0, 1) := dk_42 (dk_at dksX7_shift_6 9 rfl rfl)
theorem dX7_shift_149 : decode cX7_shift 149 = .ok (.getfield 90, 3) := dk_180 0 90 (dk_at dksX7_shift_6 10 rfl rfl)
theorem dX7_shift_152 : decode cX7_shift 152 = .ok (.bipush 60, 2) := dk_16 60 (dk_at dksX7_shift_6 13 rfl rfl)
theorem dX7_shift_154 : decode cX7_shift 154 = .ok (.iload_n 3, 1) := dk_29 (dk_at dksX7_shift_6 15 rfl rfl)
theorem dX7_shift_155 : decode cX7_shift 155 = .ok (.imul, 1) := dk_104 (dk_at dksX7_shift_6 16 rfl rfl)
theorem dX7_shift_156 : decode cX7_shift 156 = .ok (.iload 4, 2) := dk_21 4 (dk_at dksX7_shift_6 17 rfl rfl)
theorem dX7_shift_158 : decode cX7_shift 158 = .ok (.iadd, 1) := dk_96 (dk_at dksX7_shift_6 19 rfl rfl)
theorem dX7_shift_159 : decode cX7_shift 159 = .ok (.iload 6, 2) := dk_21 6 (dk_at dksX7_shift_6 20 rfl rfl)
theorem dX7_shift_161 : decode cX7_shift 161 = .ok (.iadd, 1) := dk_96 (dk_at dksX7_shift_6 22 rfl rfl)
theorem dX7_shift_162 : decode cX7_shift 162 = .ok (.aload_n 0, 1) := dk_42 (dk_at dksX7_shift_6 23 rfl rfl)
theorem dX7_shift_163 : decode cX7_shift 163 = .ok (.getfield 94, 3) := dk_180 0 94 (dk_at dksX7_shift_7 0 rfl rfl)
theorem dX7_shift_166 : decode cX7_shift 166 = .ok (.iload 6, 2) := dk_21 6 (dk_at dksX7_shift_7 3 rfl rfl)
theorem dX7_shift_168 : decode cX7_shift 168 = .ok (.laload, 1) := dk_47 (dk_at dksX7_shift_7 5 rfl rfl)
theorem dX7_shift_169 : decode cX7_shift 169 = .ok (.lastore, 1) := dk_80 (dk_at dksX7_shift_7 6 rfl rfl)
theorem dX7_shift_170 : decode cX7_shift 170 = .ok (.iinc 6 1, 3) := dk_132 6 1 (dk_at dksX7_shift_7 7 rfl rfl)
theorem dX7_shift_173 : decode cX7_shift 173 = .ok (.goto (-32), 3) := dk_167 255 224 (dk_at dksX7_shift_7 10 rfl rfl)
theorem dX7_shift_176 : decode cX7_shift 176 = .ok (.iload 5, 2) := dk_21 5 (dk_at dksX7_shift_7 13 rfl rfl)
theorem dX7_shift_178 : decode cX7_shift 178 = .ok (.ireturn, 1) := dk_172 (dk_at dksX7_shift_7 15 rfl rfl)
abbrev cX7_image : ByteArray := prog_17_method_83_code
def yX7_image : MethodName := ⟨RX7, "image", "()I"⟩
def dkwX7_image_10 : List UInt8 := [96, 172]
abbrev dktX7_image_10 : List UInt8 := dkwX7_image_10 ++ []
def dkwX7_image_9 : List UInt8 := [180, 0, 81, 27, 46, 79, 132, 1, 1, 167, 255, 187, 42, 180, 0, 11, 3, 46, 42, 180, 0, 11, 4, 46]
abbrev dktX7_image_9 : List UInt8 := dkwX7_image_9 ++ dktX7_image_10
def dkwX7_image_8 : List UInt8 := [180, 0, 112, 5, 27, 104, 42, 180, 0, 78, 27, 46, 79, 42, 180, 0, 112, 5, 27, 104, 4, 96, 42]
abbrev dktX7_image_8 : List UInt8 := dkwX7_image_8 ++ dktX7_image_9
def dkwX7_image_7 : List UInt8 := [180, 0, 72, 27, 46, 79, 42, 180, 0, 109, 5, 27, 104, 4, 96, 42, 180, 0, 75, 27, 46, 79, 42]
abbrev dktX7_image_7 : List UInt8 := dkwX7_image_7 ++ dktX7_image_8
def dkwX7_image_6 : List UInt8 := [180, 1, 89, 181, 1, 111, 3, 60, 27, 16, 8, 162, 0, 69, 42, 180, 0, 109, 5, 27, 104, 42]
abbrev dktX7_image_6 : List UInt8 := dkwX7_image_6 ++ dktX7_image_7
def dkwX7_image_5 : List UInt8 := [96, 42, 180, 0, 69, 27, 46, 79, 132, 1, 1, 167, 255, 202, 42, 42, 180, 1, 72, 181, 1, 108, 42, 42]
abbrev dktX7_image_5 : List UInt8 := dkwX7_image_5 ++ dktX7_image_6
def dkwX7_image_4 : List UInt8 := [42, 180, 0, 106, 6, 27, 104, 4, 96, 42, 180, 0, 66, 27, 46, 79, 42, 180, 0, 106, 6, 27, 104, 5]
abbrev dktX7_image_4 : List UInt8 := dkwX7_image_4 ++ dktX7_image_5
def dkwX7_image_3 : List UInt8 := [181, 1, 105, 3, 60, 27, 7, 162, 0, 55, 42, 180, 0, 106, 6, 27, 104, 42, 180, 0, 63, 27, 46, 79]
abbrev dktX7_image_3 : List UInt8 := dkwX7_image_3 ++ dktX7_image_4
def dkwX7_image_2 : List UInt8 := [42, 180, 0, 11, 3, 46, 79, 42, 180, 0, 97, 4, 42, 180, 0, 11, 4, 46, 79, 42, 42, 180, 1, 64]
abbrev dktX7_image_2 : List UInt8 := dkwX7_image_2 ++ dktX7_image_3
def dkwX7_image_1 : List UInt8 := [79, 42, 180, 0, 103, 27, 42, 180, 0, 18, 27, 46, 79, 132, 1, 1, 167, 255, 223, 42, 180, 0, 97, 3]
abbrev dktX7_image_1 : List UInt8 := dkwX7_image_1 ++ dktX7_image_2
def dkwX7_image_0 : List UInt8 := [42, 4, 181, 1, 101, 3, 60, 27, 16, 12, 162, 0, 33, 42, 180, 0, 100, 27, 42, 180, 0, 15, 27, 46]
abbrev dktX7_image_0 : List UInt8 := dkwX7_image_0 ++ dktX7_image_1
theorem dksX7_image_0 : cX7_image.data.toList.drop 0 = dktX7_image_0 := by decide +kernel
theorem dksX7_image_1 : cX7_image.data.toList.drop 24 = dktX7_image_1 := dk_seg dksX7_image_0 24 rfl rfl
theorem dksX7_image_2 : cX7_image.data.toList.drop 48 = dktX7_image_2 := dk_seg dksX7_image_1 24 rfl rfl
theorem dksX7_image_3 : cX7_image.data.toList.drop 72 = dktX7_image_3 := dk_seg dksX7_image_2 24 rfl rfl
theorem dksX7_image_4 : cX7_image.data.toList.drop 96 = dktX7_image_4 := dk_seg dksX7_image_3 24 rfl rfl
theorem dksX7_image_5 : cX7_image.data.toList.drop 120 = dktX7_image_5 := dk_seg dksX7_image_4 24 rfl rfl
theorem dksX7_image_6 : cX7_image.data.toList.drop 144 = dktX7_image_6 := dk_seg dksX7_image_5 24 rfl rfl
theorem dksX7_image_7 : cX7_image.data.toList.drop 166 = dktX7_image_7 := dk_seg dksX7_image_6 22 rfl rfl
theorem dksX7_image_8 : cX7_image.data.toList.drop 189 = dktX7_image_8 := dk_seg dksX7_image_7 23 rfl rfl
theorem dksX7_image_9 : cX7_image.data.toList.drop 212 = dktX7_image_9 := dk_seg dksX7_image_8 23 rfl rfl
theorem dksX7_image_10 : cX7_image.data.toList.drop 236 = dktX7_image_10 := dk_seg dksX7_image_9 24 rfl rfl
theorem dX7_image_0 : decode cX7_image 0 = .ok (.aload_n 0, 1) := dk_42 (dk_at dksX7_image_0 0 rfl rfl)
theorem dX7_image_1 : decode cX7_image 1 = .ok (.iconst 1, 1) := dk_4 (dk_at dksX7_image_0 1 rfl rfl)
theorem dX7_image_2 : decode cX7_image 2 = .ok (.putfield 357, 3) := dk_181 1 101 (dk_at dksX7_image_0 2 rfl rfl)
theorem dX7_image_5 : decode cX7_image 5 = .ok (.iconst 0, 1) := dk_3 (dk_at dksX7_image_0 5 rfl rfl)
theorem dX7_image_6 : decode cX7_image 6 = .ok (.istore_n 1, 1) := dk_60 (dk_at dksX7_image_0 6 rfl rfl)
theorem dX7_image_7 : decode cX7_image 7 = .ok (.iload_n 1, 1) := dk_27 (dk_at dksX7_image_0 7 rfl rfl)
theorem dX7_image_8 : decode cX7_image 8 = .ok (.bipush 12, 2) := dk_16 12 (dk_at dksX7_image_0 8 rfl rfl)
theorem dX7_image_10 : decode cX7_image 10 = .ok (.if_icmp .ge 33, 3) := dk_162 0 33 (dk_at dksX7_image_0 10 rfl rfl)
theorem dX7_image_13 : decode cX7_image 13 = .ok (.aload_n 0, 1) := dk_42 (dk_at dksX7_image_0 13 rfl rfl)
theorem dX7_image_14 : decode cX7_image 14 = .ok (.getfield 100, 3) := dk_180 0 100 (dk_at dksX7_image_0 14 rfl rfl)
theorem dX7_image_17 : decode cX7_image 17 = .ok (.iload_n 1, 1) := dk_27 (dk_at dksX7_image_0 17 rfl rfl)
theorem dX7_image_18 : decode cX7_image 18 = .ok (.aload_n 0, 1) := dk_42 (dk_at dksX7_image_0 18 rfl rfl)
theorem dX7_image_19 : decode cX7_image 19 = .ok (.getfield 15, 3) := dk_180 0 15 (dk_at dksX7_image_0 19 rfl rfl)
theorem dX7_image_22 : decode cX7_image 22 = .ok (.iload_n 1, 1) := dk_27 (dk_at dksX7_image_0 22 rfl rfl)
theorem dX7_image_23 : decode cX7_image 23 = .ok (.iaload, 1) := dk_46 (dk_at dksX7_image_0 23 rfl rfl)
theorem dX7_image_24 : decode cX7_image 24 = .ok (.iastore, 1) := dk_79 (dk_at dksX7_image_1 0 rfl rfl)
theorem dX7_image_25 : decode cX7_image 25 = .ok (.aload_n 0, 1) := dk_42 (dk_at dksX7_image_1 1 rfl rfl)
theorem dX7_image_26 : decode cX7_image 26 = .ok (.getfield 103, 3) := dk_180 0 103 (dk_at dksX7_image_1 2 rfl rfl)
theorem dX7_image_29 : decode cX7_image 29 = .ok (.iload_n 1, 1) := dk_27 (dk_at dksX7_image_1 5 rfl rfl)
theorem dX7_image_30 : decode cX7_image 30 = .ok (.aload_n 0, 1) := dk_42 (dk_at dksX7_image_1 6 rfl rfl)
theorem dX7_image_31 : decode cX7_image 31 = .ok (.getfield 18, 3) := dk_180 0 18 (dk_at dksX7_image_1 7 rfl rfl)
theorem dX7_image_34 : decode cX7_image 34 = .ok (.iload_n 1, 1) := dk_27 (dk_at dksX7_image_1 10 rfl rfl)
theorem dX7_image_35 : decode cX7_image 35 = .ok (.iaload, 1) := dk_46 (dk_at dksX7_image_1 11 rfl rfl)
theorem dX7_image_36 : decode cX7_image 36 = .ok (.iastore, 1) := dk_79 (dk_at dksX7_image_1 12 rfl rfl)
theorem dX7_image_37 : decode cX7_image 37 = .ok (.iinc 1 1, 3) := dk_132 1 1 (dk_at dksX7_image_1 13 rfl rfl)
theorem dX7_image_40 : decode cX7_image 40 = .ok (.goto (-33), 3) := dk_167 255 223 (dk_at dksX7_image_1 16 rfl rfl)
theorem dX7_image_43 : decode cX7_image 43 = .ok (.aload_n 0, 1) := dk_42 (dk_at dksX7_image_1 19 rfl rfl)
theorem dX7_image_44 : decode cX7_image 44 = .ok (.getfield 97, 3) := dk_180 0 97 (dk_at dksX7_image_1 20 rfl rfl)
theorem dX7_image_47 : decode cX7_image 47 = .ok (.iconst 0, 1) := dk_3 (dk_at dksX7_image_1 23 rfl rfl)
theorem dX7_image_48 : decode cX7_image 48 = .ok (.aload_n 0, 1) := dk_42 (dk_at dksX7_image_2 0 rfl rfl)
theorem dX7_image_49 : decode cX7_image 49 = .ok (.getfield 11, 3) := dk_180 0 11 (dk_at dksX7_image_2 1 rfl rfl)
theorem dX7_image_52 : decode cX7_image 52 = .ok (.iconst 0, 1) := dk_3 (dk_at dksX7_image_2 4 rfl rfl)
theorem dX7_image_53 : decode cX7_image 53 = .ok (.iaload, 1) := dk_46 (dk_at dksX7_image_2 5 rfl rfl)
theorem dX7_image_54 : decode cX7_image 54 = .ok (.iastore, 1) := dk_79 (dk_at dksX7_image_2 6 rfl rfl)
theorem dX7_image_55 : decode cX7_image 55 = .ok (.aload_n 0, 1) := dk_42 (dk_at dksX7_image_2 7 rfl rfl)
theorem dX7_image_56 : decode cX7_image 56 = .ok (.getfield 97, 3) := dk_180 0 97 (dk_at dksX7_image_2 8 rfl rfl)
theorem dX7_image_59 : decode cX7_image 59 = .ok (.iconst 1, 1) := dk_4 (dk_at dksX7_image_2 11 rfl rfl)
theorem dX7_image_60 : decode cX7_image 60 = .ok (.aload_n 0, 1) := dk_42 (dk_at dksX7_image_2 12 rfl rfl)
theorem dX7_image_61 : decode cX7_image 61 = .ok (.getfield 11, 3) := dk_180 0 11 (dk_at dksX7_image_2 13 rfl rfl)
theorem dX7_image_64 : decode cX7_image 64 = .ok (.iconst 1, 1) := dk_4 (dk_at dksX7_image_2 16 rfl rfl)
theorem dX7_image_65 : decode cX7_image 65 = .ok (.iaload, 1) := dk_46 (dk_at dksX7_image_2 17 rfl rfl)
theorem dX7_image_66 : decode cX7_image 66 = .ok (.iastore, 1) := dk_79 (dk_at dksX7_image_2 18 rfl rfl)
theorem dX7_image_67 : decode cX7_image 67 = .ok (.aload_n 0, 1) := dk_42 (dk_at dksX7_image_2 19 rfl rfl)
theorem dX7_image_68 : decode cX7_image 68 = .ok (.aload_n 0, 1) := dk_42 (dk_at dksX7_image_2 20 rfl rfl)
theorem dX7_image_69 : decode cX7_image 69 = .ok (.getfield 320, 3) := dk_180 1 64 (dk_at dksX7_image_2 21 rfl rfl)
theorem dX7_image_72 : decode cX7_image 72 = .ok (.putfield 361, 3) := dk_181 1 105 (dk_at dksX7_image_3 0 rfl rfl)
theorem dX7_image_75 : decode cX7_image 75 = .ok (.iconst 0, 1) := dk_3 (dk_at dksX7_image_3 3 rfl rfl)
theorem dX7_image_76 : decode cX7_image 76 = .ok (.istore_n 1, 1) := dk_60 (dk_at dksX7_image_3 4 rfl rfl)
theorem dX7_image_77 : decode cX7_image 77 = .ok (.iload_n 1, 1) := dk_27 (dk_at dksX7_image_3 5 rfl rfl)
theorem dX7_image_78 : decode cX7_image 78 = .ok (.iconst 4, 1) := dk_7 (dk_at dksX7_image_3 6 rfl rfl)
theorem dX7_image_79 : decode cX7_image 79 = .ok (.if_icmp .ge 55, 3) := dk_162 0 55 (dk_at dksX7_image_3 7 rfl rfl)
theorem dX7_image_82 : decode cX7_image 82 = .ok (.aload_n 0, 1) := dk_42 (dk_at dksX7_image_3 10 rfl rfl)
theorem dX7_image_83 : decode cX7_image 83 = .ok (.getfield 106, 3) := dk_180 0 106 (dk_at dksX7_image_3 11 rfl rfl)
theorem dX7_image_86 : decode cX7_image 86 = .ok (.iconst 3, 1) := dk_6 (dk_at dksX7_image_3 14 rfl rfl)
theorem dX7_image_87 : decode cX7_image 87 = .ok (.iload_n 1, 1) := dk_27 (dk_at dksX7_image_3 15 rfl rfl)
theorem dX7_image_88 : decode cX7_image 88 = .ok (.imul, 1) := dk_104 (dk_at dksX7_image_3 16 rfl rfl)
theorem dX7_image_89 : decode cX7_image 89 = .ok (.aload_n 0, 1) := dk_42 (dk_at dksX7_image_3 17 rfl rfl)
theorem dX7_image_90 : decode cX7_image 90 = .ok (.getfield 63, 3) := dk_180 0 63 (dk_at dksX7_image_3 18 rfl rfl)
theorem dX7_image_93 : decode cX7_image 93 = .ok (.iload_n 1, 1) := dk_27 (dk_at dksX7_image_3 21 rfl rfl)
theorem dX7_image_94 : decode cX7_image 94 = .ok (.iaload, 1) := dk_46 (dk_at dksX7_image_3 22 rfl rfl)
theorem dX7_image_95 : decode cX7_image 95 = .ok (.iastore, 1) := dk_79 (dk_at dksX7_image_3 23 rfl rfl)
theorem dX7_image_96 : decode cX7_image 96 = .ok (.aload_n 0, 1) := dk_42 (dk_at dksX7_image_4 0 rfl rfl)
theorem dX7_image_97 : decode cX7_image 97 = .ok (.getfield 106, 3) := dk_180 0 106 (dk_at dksX7_image_4 1 rfl rfl)
theorem dX7_image_100 : decode cX7_image 100 = .ok (.iconst 3, 1) := dk_6 (dk_at dksX7_image_4 4 rfl rfl)
theorem dX7_image_101 : decode cX7_image 101 = .ok (.iload_n 1, 1) := dk_27 (dk_at dksX7_image_4 5 rfl rfl)
theorem dX7_image_102 : decode cX7_image 102 = .ok (.imul, 1) := dk_104 (dk_at dksX7_image_4 6 rfl rfl)
theorem dX7_image_103 : decode cX7_image 103 = .ok (.iconst 1, 1) := dk_4 (dk_at dksX7_image_4 7 rfl rfl)
theorem dX7_image_104 : decode cX7_image 104 = .ok (.iadd, 1) := dk_96 (dk_at dksX7_image_4 8 rfl rfl)
theorem dX7_image_105 : decode cX7_image 105 = .ok (.aload_n 0, 1) := dk_42 (dk_at dksX7_image_4 9 rfl rfl)
theorem dX7_image_106 : decode cX7_image 106 = .ok (.getfield 66, 3) := dk_180 0 66 (dk_at dksX7_image_4 10 rfl rfl)
theorem dX7_image_109 : decode cX7_image 109 = .ok (.iload_n 1, 1) := dk_27 (dk_at dksX7_image_4 13 rfl rfl)
theorem dX7_image_110 : decode cX7_image 110 = .ok (.iaload, 1) := dk_46 (dk_at dksX7_image_4 14 rfl rfl)
theorem dX7_image_111 : decode cX7_image 111 = .ok (.iastore, 1) := dk_79 (dk_at dksX7_image_4 15 rfl rfl)
theorem dX7_image_112 : decode cX7_image 112 = .ok (.aload_n 0, 1) := dk_42 (dk_at dksX7_image_4 16 rfl rfl)
theorem dX7_image_113 : decode cX7_image 113 = .ok (.getfield 106, 3) := dk_180 0 106 (dk_at dksX7_image_4 17 rfl rfl)
theorem dX7_image_116 : decode cX7_image 116 = .ok (.iconst 3, 1) := dk_6 (dk_at dksX7_image_4 20 rfl rfl)
theorem dX7_image_117 : decode cX7_image 117 = .ok (.iload_n 1, 1) := dk_27 (dk_at dksX7_image_4 21 rfl rfl)
theorem dX7_image_118 : decode cX7_image 118 = .ok (.imul, 1) := dk_104 (dk_at dksX7_image_4 22 rfl rfl)
theorem dX7_image_119 : decode cX7_image 119 = .ok (.iconst 2, 1) := dk_5 (dk_at dksX7_image_4 23 rfl rfl)
theorem dX7_image_120 : decode cX7_image 120 = .ok (.iadd, 1) := dk_96 (dk_at dksX7_image_5 0 rfl rfl)
theorem dX7_image_121 : decode cX7_image 121 = .ok (.aload_n 0, 1) := dk_42 (dk_at dksX7_image_5 1 rfl rfl)
theorem dX7_image_122 : decode cX7_image 122 = .ok (.getfield 69, 3) := dk_180 0 69 (dk_at dksX7_image_5 2 rfl rfl)
theorem dX7_image_125 : decode cX7_image 125 = .ok (.iload_n 1, 1) := dk_27 (dk_at dksX7_image_5 5 rfl rfl)
theorem dX7_image_126 : decode cX7_image 126 = .ok (.iaload, 1) := dk_46 (dk_at dksX7_image_5 6 rfl rfl)
theorem dX7_image_127 : decode cX7_image 127 = .ok (.iastore, 1) := dk_79 (dk_at dksX7_image_5 7 rfl rfl)
theorem dX7_image_128 : decode cX7_image 128 = .ok (.iinc 1 1, 3) := dk_132 1 1 (dk_at dksX7_image_5 8 rfl rfl)
theorem dX7_image_131 : decode cX7_image 131 = .ok (.goto (-54), 3) := dk_167 255 202 (dk_at dksX7_image_5 11 rfl rfl)
theorem dX7_image_134 : decode cX7_image 134 = .ok (.aload_n 0, 1) := dk_42 (dk_at dksX7_image_5 14 rfl rfl)
theorem dX7_image_135 : decode cX7_image 135 = .ok (.aload_n 0, 1) := dk_42 (dk_at dksX7_image_5 15 rfl rfl)
theorem dX7_image_136 : decode cX7_image 136 = .ok (.getfield 328, 3) := dk_180 1 72 (dk_at dksX7_image_5 16 rfl rfl)
theorem dX7_image_139 : decode cX7_image 139 = .ok (.putfield 364, 3) := dk_181 1 108 (dk_at dksX7_image_5 19 rfl rfl)
theorem dX7_image_142 : decode cX7_image 142 = .ok (.aload_n 0, 1) := dk_42 (dk_at dksX7_image_5 22 rfl rfl)
theorem dX7_image_143 : decode cX7_image 143 = .ok (.aload_n 0, 1) := dk_42 (dk_at dksX7_image_5 23 rfl rfl)
theorem dX7_image_144 : decode cX7_image 144 = .ok (.getfield 345, 3) := dk_180 1 89 (dk_at dksX7_image_6 0 rfl rfl)
theorem dX7_image_147 : decode cX7_image 147 = .ok (.putfield 367, 3) := dk_181 1 111 (dk_at dksX7_image_6 3 rfl rfl)
theorem dX7_image_150 : decode cX7_image 150 = .ok (.iconst 0, 1) := dk_3 (dk_at dksX7_image_6 6 rfl rfl)
theorem dX7_image_151 : decode cX7_image 151 = .ok (.istore_n 1, 1) := dk_60 (dk_at dksX7_image_6 7 rfl rfl)
theorem dX7_image_152 : decode cX7_image 152 = .ok (.iload_n 1, 1) := dk_27 (dk_at dksX7_image_6 8 rfl rfl)
theorem dX7_image_153 : decode cX7_image 153 = .ok (.bipush 8, 2) := dk_16 8 (dk_at dksX7_image_6 9 rfl rfl)
theorem dX7_image_155 : decode cX7_image 155 = .ok (.if_icmp .ge 69, 3) := dk_162 0 69 (dk_at dksX7_image_6 11 rfl rfl)
theorem dX7_image_158 : decode cX7_image 158 = .ok (.aload_n 0, 1) := dk_42 (dk_at dksX7_image_6 14 rfl rfl)
theorem dX7_image_159 : decode cX7_image 159 = .ok (.getfield 109, 3) := dk_180 0 109 (dk_at dksX7_image_6 15 rfl rfl)
theorem dX7_image_162 : decode cX7_image 162 = .ok (.iconst 2, 1) := dk_5 (dk_at dksX7_image_6 18 rfl rfl)
theorem dX7_image_163 : decode cX7_image 163 = .ok (.iload_n 1, 1) := dk_27 (dk_at dksX7_image_6 19 rfl rfl)
theorem dX7_image_164 : decode cX7_image 164 = .ok (.imul, 1) := dk_104 (dk_at dksX7_image_6 20 rfl rfl)
theorem dX7_image_165 : decode cX7_image 165 = .ok (.aload_n 0, 1) := dk_42 (dk_at dksX7_image_6 21 rfl rfl)
theorem dX7_image_166 : decode cX7_image 166 = .ok (.getfield 72, 3) := dk_180 0 72 (dk_at dksX7_image_7 0 rfl rfl)
theorem dX7_image_169 : decode cX7_image 169 = .ok (.iload_n 1, 1) := dk_27 (dk_at dksX7_image_7 3 rfl rfl)
theorem dX7_image_170 : decode cX7_image 170 = .ok (.iaload, 1) := dk_46 (dk_at dksX7_image_7 4 rfl rfl)
theorem dX7_image_171 : decode cX7_image 171 = .ok (.iastore, 1) := dk_79 (dk_at dksX7_image_7 5 rfl rfl)
theorem dX7_image_172 : decode cX7_image 172 = .ok (.aload_n 0, 1) := dk_42 (dk_at dksX7_image_7 6 rfl rfl)
theorem dX7_image_173 : decode cX7_image 173 = .ok (.getfield 109, 3) := dk_180 0 109 (dk_at dksX7_image_7 7 rfl rfl)
theorem dX7_image_176 : decode cX7_image 176 = .ok (.iconst 2, 1) := dk_5 (dk_at dksX7_image_7 10 rfl rfl)
theorem dX7_image_177 : decode cX7_image 177 = .ok (.iload_n 1, 1) := dk_27 (dk_at dksX7_image_7 11 rfl rfl)
theorem dX7_image_178 : decode cX7_image 178 = .ok (.imul, 1) := dk_104 (dk_at dksX7_image_7 12 rfl rfl)
theorem dX7_image_179 : decode cX7_image 179 = .ok (.iconst 1, 1) := dk_4 (dk_at dksX7_image_7 13 rfl rfl)
theorem dX7_image_180 : decode cX7_image 180 = .ok (.iadd, 1) := dk_96 (dk_at dksX7_image_7 14 rfl rfl)
theorem dX7_image_181 : decode cX7_image 181 = .ok (.aload_n 0, 1) := dk_42 (dk_at dksX7_image_7 15 rfl rfl)
theorem dX7_image_182 : decode cX7_image 182 = .ok (.getfield 75, 3) := dk_180 0 75 (dk_at dksX7_image_7 16 rfl rfl)
theorem dX7_image_185 : decode cX7_image 185 = .ok (.iload_n 1, 1) := dk_27 (dk_at dksX7_image_7 19 rfl rfl)
theorem dX7_image_186 : decode cX7_image 186 = .ok (.iaload, 1) := dk_46 (dk_at dksX7_image_7 20 rfl rfl)
theorem dX7_image_187 : decode cX7_image 187 = .ok (.iastore, 1) := dk_79 (dk_at dksX7_image_7 21 rfl rfl)
theorem dX7_image_188 : decode cX7_image 188 = .ok (.aload_n 0, 1) := dk_42 (dk_at dksX7_image_7 22 rfl rfl)
theorem dX7_image_189 : decode cX7_image 189 = .ok (.getfield 112, 3) := dk_180 0 112 (dk_at dksX7_image_8 0 rfl rfl)
theorem dX7_image_192 : decode cX7_image 192 = .ok (.iconst 2, 1) := dk_5 (dk_at dksX7_image_8 3 rfl rfl)
theorem dX7_image_193 : decode cX7_image 193 = .ok (.iload_n 1, 1) := dk_27 (dk_at dksX7_image_8 4 rfl rfl)
theorem dX7_image_194 : decode cX7_image 194 = .ok (.imul, 1) := dk_104 (dk_at dksX7_image_8 5 rfl rfl)
theorem dX7_image_195 : decode cX7_image 195 = .ok (.aload_n 0, 1) := dk_42 (dk_at dksX7_image_8 6 rfl rfl)
theorem dX7_image_196 : decode cX7_image 196 = .ok (.getfield 78, 3) := dk_180 0 78 (dk_at dksX7_image_8 7 rfl rfl)
theorem dX7_image_199 : decode cX7_image 199 = .ok (.iload_n 1, 1) := dk_27 (dk_at dksX7_image_8 10 rfl rfl)
theorem dX7_image_200 : decode cX7_image 200 = .ok (.iaload, 1) := dk_46 (dk_at dksX7_image_8 11 rfl rfl)
theorem dX7_image_201 : decode cX7_image 201 = .ok (.iastore, 1) := dk_79 (dk_at dksX7_image_8 12 rfl rfl)
theorem dX7_image_202 : decode cX7_image 202 = .ok (.aload_n 0, 1) := dk_42 (dk_at dksX7_image_8 13 rfl rfl)
theorem dX7_image_203 : decode cX7_image 203 = .ok (.getfield 112, 3) := dk_180 0 112 (dk_at dksX7_image_8 14 rfl rfl)
theorem dX7_image_206 : decode cX7_image 206 = .ok (.iconst 2, 1) := dk_5 (dk_at dksX7_image_8 17 rfl rfl)
theorem dX7_image_207 : decode cX7_image 207 = .ok (.iload_n 1, 1) := dk_27 (dk_at dksX7_image_8 18 rfl rfl)
theorem dX7_image_208 : decode cX7_image 208 = .ok (.imul, 1) := dk_104 (dk_at dksX7_image_8 19 rfl rfl)
theorem dX7_image_209 : decode cX7_image 209 = .ok (.iconst 1, 1) := dk_4 (dk_at dksX7_image_8 20 rfl rfl)
theorem dX7_image_210 : decode cX7_image 210 = .ok (.iadd, 1) := dk_96 (dk_at dksX7_image_8 21 rfl rfl)
theorem dX7_image_211 : decode cX7_image 211 = .ok (.aload_n 0, 1) := dk_42 (dk_at dksX7_image_8 22 rfl rfl)
theorem dX7_image_212 : decode cX7_image 212 = .ok (.getfield 81, 3) := dk_180 0 81 (dk_at dksX7_image_9 0 rfl rfl)
theorem dX7_image_215 : decode cX7_image 215 = .ok (.iload_n 1, 1) := dk_27 (dk_at dksX7_image_9 3 rfl rfl)
theorem dX7_image_216 : decode cX7_image 216 = .ok (.iaload, 1) := dk_46 (dk_at dksX7_image_9 4 rfl rfl)
theorem dX7_image_217 : decode cX7_image 217 = .ok (.iastore, 1) := dk_79 (dk_at dksX7_image_9 5 rfl rfl)
theorem dX7_image_218 : decode cX7_image 218 = .ok (.iinc 1 1, 3) := dk_132 1 1 (dk_at dksX7_image_9 6 rfl rfl)
theorem dX7_image_221 : decode cX7_image 221 = .ok (.goto (-69), 3) := dk_167 255 187 (dk_at dksX7_image_9 9 rfl rfl)
theorem dX7_image_224 : decode cX7_image 224 = .ok (.aload_n 0, 1) := dk_42 (dk_at dksX7_image_9 12 rfl rfl)
theorem dX7_image_225 : decode cX7_image 225 = .ok (.getfield 11, 3) := dk_180 0 11 (dk_at dksX7_image_9 13 rfl rfl)
theorem dX7_image_228 : decode cX7_image 228 = .ok (.iconst 0, 1) := dk_3 (dk_at dksX7_image_9 16 rfl rfl)
theorem dX7_image_229 : decode cX7_image 229 = .ok (.iaload, 1) := dk_46 (dk_at dksX7_image_9 17 rfl rfl)
theorem dX7_image_230 : decode cX7_image 230 = .ok (.aload_n 0, 1) := dk_42 (dk_at dksX7_image_9 18 rfl rfl)
theorem dX7_image_231 : decode cX7_image 231 = .ok (.getfield 11, 3) := dk_180 0 11 (dk_at dksX7_image_9 19 rfl rfl)
theorem dX7_image_234 : decode cX7_image 234 = .ok (.iconst 1, 1) := dk_4 (dk_at dksX7_image_9 22 rfl rfl)
theorem dX7_image_235 : decode cX7_image 235 = .ok (.iaload, 1) := dk_46 (dk_at dksX7_image_9 23 rfl rfl)
theorem dX7_image_236 : decode cX7_image 236 = .ok (.iadd, 1) := dk_96 (dk_at dksX7_image_10 0 rfl rfl)
theorem dX7_image_237 : decode cX7_image 237 = .ok (.ireturn, 1) := dk_172 (dk_at dksX7_image_10 1 rfl rfl)
abbrev cX7_undo : ByteArray := prog_17_method_84_code
def yX7_undo : MethodName := ⟨RX7, "undo", "()I"⟩
def dkwX7_undo_10 : List UInt8 := [180, 0, 11, 3, 46, 42, 180, 0, 11, 4, 46, 96, 172]
abbrev dktX7_undo_10 : List UInt8 := dkwX7_undo_10 ++ []
def dkwX7_undo_9 : List UInt8 := [42, 180, 0, 112, 5, 27, 104, 4, 96, 46, 79, 132, 1, 1, 167, 255, 187, 42, 3, 181, 0, 132, 42]
abbrev dktX7_undo_9 : List UInt8 := dkwX7_undo_9 ++ dktX7_undo_10
def dkwX7_undo_8 : List UInt8 := [104, 4, 96, 46, 79, 42, 180, 0, 78, 27, 42, 180, 0, 112, 5, 27, 104, 46, 79, 42, 180, 0, 81, 27]
abbrev dktX7_undo_8 : List UInt8 := dkwX7_undo_8 ++ dktX7_undo_9
def dkwX7_undo_7 : List UInt8 := [180, 0, 72, 27, 42, 180, 0, 109, 5, 27, 104, 46, 79, 42, 180, 0, 75, 27, 42, 180, 0, 109, 5, 27]
abbrev dktX7_undo_7 : List UInt8 := dkwX7_undo_7 ++ dktX7_undo_8
def dkwX7_undo_6 : List UInt8 := [180, 1, 108, 181, 1, 72, 42, 42, 180, 1, 111, 181, 1, 89, 3, 60, 27, 16, 8, 162, 0, 69, 42]
abbrev dktX7_undo_6 : List UInt8 := dkwX7_undo_6 ++ dktX7_undo_7
def dkwX7_undo_5 : List UInt8 := [180, 0, 69, 27, 42, 180, 0, 106, 6, 27, 104, 5, 96, 46, 79, 132, 1, 1, 167, 255, 202, 42, 42]
abbrev dktX7_undo_5 : List UInt8 := dkwX7_undo_5 ++ dktX7_undo_6
def dkwX7_undo_4 : List UInt8 := [6, 27, 104, 46, 79, 42, 180, 0, 66, 27, 42, 180, 0, 106, 6, 27, 104, 4, 96, 46, 79, 42]
abbrev dktX7_undo_4 : List UInt8 := dkwX7_undo_4 ++ dktX7_undo_5
def dkwX7_undo_3 : List UInt8 := [42, 42, 180, 1, 105, 181, 1, 64, 3, 60, 27, 7, 162, 0, 55, 42, 180, 0, 63, 27, 42, 180, 0, 106]
abbrev dktX7_undo_3 : List UInt8 := dkwX7_undo_3 ++ dktX7_undo_4
def dkwX7_undo_2 : List UInt8 := [42, 180, 0, 11, 3, 42, 180, 0, 97, 3, 46, 79, 42, 180, 0, 11, 4, 42, 180, 0, 97, 4, 46, 79]
abbrev dktX7_undo_2 : List UInt8 := dkwX7_undo_2 ++ dktX7_undo_3
def dkwX7_undo_1 : List UInt8 := [180, 0, 100, 27, 46, 79, 42, 180, 0, 18, 27, 42, 180, 0, 103, 27, 46, 79, 132, 1, 1, 167, 255, 223]
abbrev dktX7_undo_1 : List UInt8 := dkwX7_undo_1 ++ dktX7_undo_2
def dkwX7_undo_0 : List UInt8 := [42, 180, 1, 101, 154, 0, 6, 16, 253, 172, 3, 60, 27, 16, 12, 162, 0, 33, 42, 180, 0, 15, 27, 42]
abbrev dktX7_undo_0 : List UInt8 := dkwX7_undo_0 ++ dktX7_undo_1
theorem dksX7_undo_0 : cX7_undo.data.toList.drop 0 = dktX7_undo_0 := by decide +kernel
theorem dksX7_undo_1 : cX7_undo.data.toList.drop 24 = dktX7_undo_1 := dk_seg dksX7_undo_0 24 rfl rfl
theorem dksX7_undo_2 : cX7_undo.data.toList.drop 48 = dktX7_undo_2 := dk_seg dksX7_undo_1 24 rfl rfl
theorem dksX7_undo_3 : cX7_undo.data.toList.drop 72 = dktX7_undo_3 := dk_seg dksX7_undo_2 24 rfl rfl
theorem dksX7_undo_4 : cX7_undo.data.toList.drop 96 = dktX7_undo_4 := dk_seg dksX7_undo_3 24 rfl rfl
theorem dksX7_undo_5 : cX7_undo.data.toList.drop 118 = dktX7_undo_5 := dk_seg dksX7_undo_4 22 rfl rfl
theorem dksX7_undo_6 : cX7_undo.data.toList.drop 141 = dktX7_undo_6 := dk_seg dksX7_undo_5 23 rfl rfl
theorem dksX7_undo_7 : cX7_undo.data.toList.drop 164 = dktX7_undo_7 := dk_seg dksX7_undo_6 23 rfl rfl
theorem dksX7_undo_8 : cX7_undo.data.toList.drop 188 = dktX7_undo_8 := dk_seg dksX7_undo_7 24 rfl rfl
theorem dksX7_undo_9 : cX7_undo.data.toList.drop 212 = dktX7_undo_9 := dk_seg dksX7_undo_8 24 rfl rfl
theorem dksX7_undo_10 : cX7_undo.data.toList.drop 235 = dktX7_undo_10 := dk_seg dksX7_undo_9 23 rfl rfl
theorem dX7_undo_0 : decode cX7_undo 0 = .ok (.aload_n 0, 1) := dk_42 (dk_at dksX7_undo_0 0 rfl rfl)
theorem dX7_undo_1 : decode cX7_undo 1 = .ok (.getfield 357, 3) := dk_180 1 101 (dk_at dksX7_undo_0 1 rfl rfl)
theorem dX7_undo_4 : decode cX7_undo 4 = .ok (.ifCond .ne 6, 3) := dk_154 0 6 (dk_at dksX7_undo_0 4 rfl rfl)
theorem dX7_undo_7 : decode cX7_undo 7 = .ok (.bipush (-3), 2) := dk_16 253 (dk_at dksX7_undo_0 7 rfl rfl)
theorem dX7_undo_9 : decode cX7_undo 9 = .ok (.ireturn, 1) := dk_172 (dk_at dksX7_undo_0 9 rfl rfl)
theorem dX7_undo_10 : decode cX7_undo 10 = .ok (.iconst 0, 1) := dk_3 (dk_at dksX7_undo_0 10 rfl rfl)
theorem dX7_undo_11 : decode cX7_undo 11 = .ok (.istore_n 1, 1) := dk_60 (dk_at dksX7_undo_0 11 rfl rfl)
theorem dX7_undo_12 : decode cX7_undo 12 = .ok (.iload_n 1, 1) := dk_27 (dk_at dksX7_undo_0 12 rfl rfl)
theorem dX7_undo_13 : decode cX7_undo 13 = .ok (.bipush 12, 2) := dk_16 12 (dk_at dksX7_undo_0 13 rfl rfl)
theorem dX7_undo_15 : decode cX7_undo 15 = .ok (.if_icmp .ge 33, 3) := dk_162 0 33 (dk_at dksX7_undo_0 15 rfl rfl)
theorem dX7_undo_18 : decode cX7_undo 18 = .ok (.aload_n 0, 1) := dk_42 (dk_at dksX7_undo_0 18 rfl rfl)
theorem dX7_undo_19 : decode cX7_undo 19 = .ok (.getfield 15, 3) := dk_180 0 15 (dk_at dksX7_undo_0 19 rfl rfl)
theorem dX7_undo_22 : decode cX7_undo 22 = .ok (.iload_n 1, 1) := dk_27 (dk_at dksX7_undo_0 22 rfl rfl)
theorem dX7_undo_23 : decode cX7_undo 23 = .ok (.aload_n 0, 1) := dk_42 (dk_at dksX7_undo_0 23 rfl rfl)
theorem dX7_undo_24 : decode cX7_undo 24 = .ok (.getfield 100, 3) := dk_180 0 100 (dk_at dksX7_undo_1 0 rfl rfl)
theorem dX7_undo_27 : decode cX7_undo 27 = .ok (.iload_n 1, 1) := dk_27 (dk_at dksX7_undo_1 3 rfl rfl)
theorem dX7_undo_28 : decode cX7_undo 28 = .ok (.iaload, 1) := dk_46 (dk_at dksX7_undo_1 4 rfl rfl)
theorem dX7_undo_29 : decode cX7_undo 29 = .ok (.iastore, 1) := dk_79 (dk_at dksX7_undo_1 5 rfl rfl)
theorem dX7_undo_30 : decode cX7_undo 30 = .ok (.aload_n 0, 1) := dk_42 (dk_at dksX7_undo_1 6 rfl rfl)
theorem dX7_undo_31 : decode cX7_undo 31 = .ok (.getfield 18, 3) := dk_180 0 18 (dk_at dksX7_undo_1 7 rfl rfl)
theorem dX7_undo_34 : decode cX7_undo 34 = .ok (.iload_n 1, 1) := dk_27 (dk_at dksX7_undo_1 10 rfl rfl)
theorem dX7_undo_35 : decode cX7_undo 35 = .ok (.aload_n 0, 1) := dk_42 (dk_at dksX7_undo_1 11 rfl rfl)
theorem dX7_undo_36 : decode cX7_undo 36 = .ok (.getfield 103, 3) := dk_180 0 103 (dk_at dksX7_undo_1 12 rfl rfl)
theorem dX7_undo_39 : decode cX7_undo 39 = .ok (.iload_n 1, 1) := dk_27 (dk_at dksX7_undo_1 15 rfl rfl)
theorem dX7_undo_40 : decode cX7_undo 40 = .ok (.iaload, 1) := dk_46 (dk_at dksX7_undo_1 16 rfl rfl)
theorem dX7_undo_41 : decode cX7_undo 41 = .ok (.iastore, 1) := dk_79 (dk_at dksX7_undo_1 17 rfl rfl)
theorem dX7_undo_42 : decode cX7_undo 42 = .ok (.iinc 1 1, 3) := dk_132 1 1 (dk_at dksX7_undo_1 18 rfl rfl)
theorem dX7_undo_45 : decode cX7_undo 45 = .ok (.goto (-33), 3) := dk_167 255 223 (dk_at dksX7_undo_1 21 rfl rfl)
theorem dX7_undo_48 : decode cX7_undo 48 = .ok (.aload_n 0, 1) := dk_42 (dk_at dksX7_undo_2 0 rfl rfl)
theorem dX7_undo_49 : decode cX7_undo 49 = .ok (.getfield 11, 3) := dk_180 0 11 (dk_at dksX7_undo_2 1 rfl rfl)
theorem dX7_undo_52 : decode cX7_undo 52 = .ok (.iconst 0, 1) := dk_3 (dk_at dksX7_undo_2 4 rfl rfl)
theorem dX7_undo_53 : decode cX7_undo 53 = .ok (.aload_n 0, 1) := dk_42 (dk_at dksX7_undo_2 5 rfl rfl)
theorem dX7_undo_54 : decode cX7_undo 54 = .ok (.getfield 97, 3) := dk_180 0 97 (dk_at dksX7_undo_2 6 rfl rfl)
theorem dX7_undo_57 : decode cX7_undo 57 = .ok (.iconst 0, 1) := dk_3 (dk_at dksX7_undo_2 9 rfl rfl)
theorem dX7_undo_58 : decode cX7_undo 58 = .ok (.iaload, 1) := dk_46 (dk_at dksX7_undo_2 10 rfl rfl)
theorem dX7_undo_59 : decode cX7_undo 59 = .ok (.iastore, 1) := dk_79 (dk_at dksX7_undo_2 11 rfl rfl)
theorem dX7_undo_60 : decode cX7_undo 60 = .ok (.aload_n 0, 1) := dk_42 (dk_at dksX7_undo_2 12 rfl rfl)
theorem dX7_undo_61 : decode cX7_undo 61 = .ok (.getfield 11, 3) := dk_180 0 11 (dk_at dksX7_undo_2 13 rfl rfl)
theorem dX7_undo_64 : decode cX7_undo 64 = .ok (.iconst 1, 1) := dk_4 (dk_at dksX7_undo_2 16 rfl rfl)
theorem dX7_undo_65 : decode cX7_undo 65 = .ok (.aload_n 0, 1) := dk_42 (dk_at dksX7_undo_2 17 rfl rfl)
theorem dX7_undo_66 : decode cX7_undo 66 = .ok (.getfield 97, 3) := dk_180 0 97 (dk_at dksX7_undo_2 18 rfl rfl)
theorem dX7_undo_69 : decode cX7_undo 69 = .ok (.iconst 1, 1) := dk_4 (dk_at dksX7_undo_2 21 rfl rfl)
theorem dX7_undo_70 : decode cX7_undo 70 = .ok (.iaload, 1) := dk_46 (dk_at dksX7_undo_2 22 rfl rfl)
theorem dX7_undo_71 : decode cX7_undo 71 = .ok (.iastore, 1) := dk_79 (dk_at dksX7_undo_2 23 rfl rfl)
theorem dX7_undo_72 : decode cX7_undo 72 = .ok (.aload_n 0, 1) := dk_42 (dk_at dksX7_undo_3 0 rfl rfl)
theorem dX7_undo_73 : decode cX7_undo 73 = .ok (.aload_n 0, 1) := dk_42 (dk_at dksX7_undo_3 1 rfl rfl)
theorem dX7_undo_74 : decode cX7_undo 74 = .ok (.getfield 361, 3) := dk_180 1 105 (dk_at dksX7_undo_3 2 rfl rfl)
theorem dX7_undo_77 : decode cX7_undo 77 = .ok (.putfield 320, 3) := dk_181 1 64 (dk_at dksX7_undo_3 5 rfl rfl)
theorem dX7_undo_80 : decode cX7_undo 80 = .ok (.iconst 0, 1) := dk_3 (dk_at dksX7_undo_3 8 rfl rfl)
theorem dX7_undo_81 : decode cX7_undo 81 = .ok (.istore_n 1, 1) := dk_60 (dk_at dksX7_undo_3 9 rfl rfl)
theorem dX7_undo_82 : decode cX7_undo 82 = .ok (.iload_n 1, 1) := dk_27 (dk_at dksX7_undo_3 10 rfl rfl)
theorem dX7_undo_83 : decode cX7_undo 83 = .ok (.iconst 4, 1) := dk_7 (dk_at dksX7_undo_3 11 rfl rfl)
theorem dX7_undo_84 : decode cX7_undo 84 = .ok (.if_icmp .ge 55, 3) := dk_162 0 55 (dk_at dksX7_undo_3 12 rfl rfl)
theorem dX7_undo_87 : decode cX7_undo 87 = .ok (.aload_n 0, 1) := dk_42 (dk_at dksX7_undo_3 15 rfl rfl)
theorem dX7_undo_88 : decode cX7_undo 88 = .ok (.getfield 63, 3) := dk_180 0 63 (dk_at dksX7_undo_3 16 rfl rfl)
theorem dX7_undo_91 : decode cX7_undo 91 = .ok (.iload_n 1, 1) := dk_27 (dk_at dksX7_undo_3 19 rfl rfl)
theorem dX7_undo_92 : decode cX7_undo 92 = .ok (.aload_n 0, 1) := dk_42 (dk_at dksX7_undo_3 20 rfl rfl)
theorem dX7_undo_93 : decode cX7_undo 93 = .ok (.getfield 106, 3) := dk_180 0 106 (dk_at dksX7_undo_3 21 rfl rfl)
theorem dX7_undo_96 : decode cX7_undo 96 = .ok (.iconst 3, 1) := dk_6 (dk_at dksX7_undo_4 0 rfl rfl)
theorem dX7_undo_97 : decode cX7_undo 97 = .ok (.iload_n 1, 1) := dk_27 (dk_at dksX7_undo_4 1 rfl rfl)
theorem dX7_undo_98 : decode cX7_undo 98 = .ok (.imul, 1) := dk_104 (dk_at dksX7_undo_4 2 rfl rfl)
theorem dX7_undo_99 : decode cX7_undo 99 = .ok (.iaload, 1) := dk_46 (dk_at dksX7_undo_4 3 rfl rfl)
theorem dX7_undo_100 : decode cX7_undo 100 = .ok (.iastore, 1) := dk_79 (dk_at dksX7_undo_4 4 rfl rfl)
theorem dX7_undo_101 : decode cX7_undo 101 = .ok (.aload_n 0, 1) := dk_42 (dk_at dksX7_undo_4 5 rfl rfl)
theorem dX7_undo_102 : decode cX7_undo 102 = .ok (.getfield 66, 3) := dk_180 0 66 (dk_at dksX7_undo_4 6 rfl rfl)
theorem dX7_undo_105 : decode cX7_undo 105 = .ok (.iload_n 1, 1) := dk_27 (dk_at dksX7_undo_4 9 rfl rfl)
theorem dX7_undo_106 : decode cX7_undo 106 = .ok (.aload_n 0, 1) := dk_42 (dk_at dksX7_undo_4 10 rfl rfl)
theorem dX7_undo_107 : decode cX7_undo 107 = .ok (.getfield 106, 3) := dk_180 0 106 (dk_at dksX7_undo_4 11 rfl rfl)
theorem dX7_undo_110 : decode cX7_undo 110 = .ok (.iconst 3, 1) := dk_6 (dk_at dksX7_undo_4 14 rfl rfl)
theorem dX7_undo_111 : decode cX7_undo 111 = .ok (.iload_n 1, 1) := dk_27 (dk_at dksX7_undo_4 15 rfl rfl)
theorem dX7_undo_112 : decode cX7_undo 112 = .ok (.imul, 1) := dk_104 (dk_at dksX7_undo_4 16 rfl rfl)
theorem dX7_undo_113 : decode cX7_undo 113 = .ok (.iconst 1, 1) := dk_4 (dk_at dksX7_undo_4 17 rfl rfl)
theorem dX7_undo_114 : decode cX7_undo 114 = .ok (.iadd, 1) := dk_96 (dk_at dksX7_undo_4 18 rfl rfl)
theorem dX7_undo_115 : decode cX7_undo 115 = .ok (.iaload, 1) := dk_46 (dk_at dksX7_undo_4 19 rfl rfl)
theorem dX7_undo_116 : decode cX7_undo 116 = .ok (.iastore, 1) := dk_79 (dk_at dksX7_undo_4 20 rfl rfl)
theorem dX7_undo_117 : decode cX7_undo 117 = .ok (.aload_n 0, 1) := dk_42 (dk_at dksX7_undo_4 21 rfl rfl)
theorem dX7_undo_118 : decode cX7_undo 118 = .ok (.getfield 69, 3) := dk_180 0 69 (dk_at dksX7_undo_5 0 rfl rfl)
theorem dX7_undo_121 : decode cX7_undo 121 = .ok (.iload_n 1, 1) := dk_27 (dk_at dksX7_undo_5 3 rfl rfl)
theorem dX7_undo_122 : decode cX7_undo 122 = .ok (.aload_n 0, 1) := dk_42 (dk_at dksX7_undo_5 4 rfl rfl)
theorem dX7_undo_123 : decode cX7_undo 123 = .ok (.getfield 106, 3) := dk_180 0 106 (dk_at dksX7_undo_5 5 rfl rfl)
theorem dX7_undo_126 : decode cX7_undo 126 = .ok (.iconst 3, 1) := dk_6 (dk_at dksX7_undo_5 8 rfl rfl)
theorem dX7_undo_127 : decode cX7_undo 127 = .ok (.iload_n 1, 1) := dk_27 (dk_at dksX7_undo_5 9 rfl rfl)
theorem dX7_undo_128 : decode cX7_undo 128 = .ok (.imul, 1) := dk_104 (dk_at dksX7_undo_5 10 rfl rfl)
theorem dX7_undo_129 : decode cX7_undo 129 = .ok (.iconst 2, 1) := dk_5 (dk_at dksX7_undo_5 11 rfl rfl)
theorem dX7_undo_130 : decode cX7_undo 130 = .ok (.iadd, 1) := dk_96 (dk_at dksX7_undo_5 12 rfl rfl)
theorem dX7_undo_131 : decode cX7_undo 131 = .ok (.iaload, 1) := dk_46 (dk_at dksX7_undo_5 13 rfl rfl)
theorem dX7_undo_132 : decode cX7_undo 132 = .ok (.iastore, 1) := dk_79 (dk_at dksX7_undo_5 14 rfl rfl)
theorem dX7_undo_133 : decode cX7_undo 133 = .ok (.iinc 1 1, 3) := dk_132 1 1 (dk_at dksX7_undo_5 15 rfl rfl)
theorem dX7_undo_136 : decode cX7_undo 136 = .ok (.goto (-54), 3) := dk_167 255 202 (dk_at dksX7_undo_5 18 rfl rfl)
theorem dX7_undo_139 : decode cX7_undo 139 = .ok (.aload_n 0, 1) := dk_42 (dk_at dksX7_undo_5 21 rfl rfl)
theorem dX7_undo_140 : decode cX7_undo 140 = .ok (.aload_n 0, 1) := dk_42 (dk_at dksX7_undo_5 22 rfl rfl)
theorem dX7_undo_141 : decode cX7_undo 141 = .ok (.getfield 364, 3) := dk_180 1 108 (dk_at dksX7_undo_6 0 rfl rfl)
theorem dX7_undo_144 : decode cX7_undo 144 = .ok (.putfield 328, 3) := dk_181 1 72 (dk_at dksX7_undo_6 3 rfl rfl)
theorem dX7_undo_147 : decode cX7_undo 147 = .ok (.aload_n 0, 1) := dk_42 (dk_at dksX7_undo_6 6 rfl rfl)
theorem dX7_undo_148 : decode cX7_undo 148 = .ok (.aload_n 0, 1) := dk_42 (dk_at dksX7_undo_6 7 rfl rfl)
theorem dX7_undo_149 : decode cX7_undo 149 = .ok (.getfield 367, 3) := dk_180 1 111 (dk_at dksX7_undo_6 8 rfl rfl)
theorem dX7_undo_152 : decode cX7_undo 152 = .ok (.putfield 345, 3) := dk_181 1 89 (dk_at dksX7_undo_6 11 rfl rfl)
theorem dX7_undo_155 : decode cX7_undo 155 = .ok (.iconst 0, 1) := dk_3 (dk_at dksX7_undo_6 14 rfl rfl)
theorem dX7_undo_156 : decode cX7_undo 156 = .ok (.istore_n 1, 1) := dk_60 (dk_at dksX7_undo_6 15 rfl rfl)
theorem dX7_undo_157 : decode cX7_undo 157 = .ok (.iload_n 1, 1) := dk_27 (dk_at dksX7_undo_6 16 rfl rfl)
theorem dX7_undo_158 : decode cX7_undo 158 = .ok (.bipush 8, 2) := dk_16 8 (dk_at dksX7_undo_6 17 rfl rfl)
theorem dX7_undo_160 : decode cX7_undo 160 = .ok (.if_icmp .ge 69, 3) := dk_162 0 69 (dk_at dksX7_undo_6 19 rfl rfl)
theorem dX7_undo_163 : decode cX7_undo 163 = .ok (.aload_n 0, 1) := dk_42 (dk_at dksX7_undo_6 22 rfl rfl)
theorem dX7_undo_164 : decode cX7_undo 164 = .ok (.getfield 72, 3) := dk_180 0 72 (dk_at dksX7_undo_7 0 rfl rfl)
theorem dX7_undo_167 : decode cX7_undo 167 = .ok (.iload_n 1, 1) := dk_27 (dk_at dksX7_undo_7 3 rfl rfl)
theorem dX7_undo_168 : decode cX7_undo 168 = .ok (.aload_n 0, 1) := dk_42 (dk_at dksX7_undo_7 4 rfl rfl)
theorem dX7_undo_169 : decode cX7_undo 169 = .ok (.getfield 109, 3) := dk_180 0 109 (dk_at dksX7_undo_7 5 rfl rfl)
theorem dX7_undo_172 : decode cX7_undo 172 = .ok (.iconst 2, 1) := dk_5 (dk_at dksX7_undo_7 8 rfl rfl)
theorem dX7_undo_173 : decode cX7_undo 173 = .ok (.iload_n 1, 1) := dk_27 (dk_at dksX7_undo_7 9 rfl rfl)
theorem dX7_undo_174 : decode cX7_undo 174 = .ok (.imul, 1) := dk_104 (dk_at dksX7_undo_7 10 rfl rfl)
theorem dX7_undo_175 : decode cX7_undo 175 = .ok (.iaload, 1) := dk_46 (dk_at dksX7_undo_7 11 rfl rfl)
theorem dX7_undo_176 : decode cX7_undo 176 = .ok (.iastore, 1) := dk_79 (dk_at dksX7_undo_7 12 rfl rfl)
theorem dX7_undo_177 : decode cX7_undo 177 = .ok (.aload_n 0, 1) := dk_42 (dk_at dksX7_undo_7 13 rfl rfl)
theorem dX7_undo_178 : decode cX7_undo 178 = .ok (.getfield 75, 3) := dk_180 0 75 (dk_at dksX7_undo_7 14 rfl rfl)
theorem dX7_undo_181 : decode cX7_undo 181 = .ok (.iload_n 1, 1) := dk_27 (dk_at dksX7_undo_7 17 rfl rfl)
theorem dX7_undo_182 : decode cX7_undo 182 = .ok (.aload_n 0, 1) := dk_42 (dk_at dksX7_undo_7 18 rfl rfl)
theorem dX7_undo_183 : decode cX7_undo 183 = .ok (.getfield 109, 3) := dk_180 0 109 (dk_at dksX7_undo_7 19 rfl rfl)
theorem dX7_undo_186 : decode cX7_undo 186 = .ok (.iconst 2, 1) := dk_5 (dk_at dksX7_undo_7 22 rfl rfl)
theorem dX7_undo_187 : decode cX7_undo 187 = .ok (.iload_n 1, 1) := dk_27 (dk_at dksX7_undo_7 23 rfl rfl)
theorem dX7_undo_188 : decode cX7_undo 188 = .ok (.imul, 1) := dk_104 (dk_at dksX7_undo_8 0 rfl rfl)
theorem dX7_undo_189 : decode cX7_undo 189 = .ok (.iconst 1, 1) := dk_4 (dk_at dksX7_undo_8 1 rfl rfl)
theorem dX7_undo_190 : decode cX7_undo 190 = .ok (.iadd, 1) := dk_96 (dk_at dksX7_undo_8 2 rfl rfl)
theorem dX7_undo_191 : decode cX7_undo 191 = .ok (.iaload, 1) := dk_46 (dk_at dksX7_undo_8 3 rfl rfl)
theorem dX7_undo_192 : decode cX7_undo 192 = .ok (.iastore, 1) := dk_79 (dk_at dksX7_undo_8 4 rfl rfl)
theorem dX7_undo_193 : decode cX7_undo 193 = .ok (.aload_n 0, 1) := dk_42 (dk_at dksX7_undo_8 5 rfl rfl)
theorem dX7_undo_194 : decode cX7_undo 194 = .ok (.getfield 78, 3) := dk_180 0 78 (dk_at dksX7_undo_8 6 rfl rfl)
theorem dX7_undo_197 : decode cX7_undo 197 = .ok (.iload_n 1, 1) := dk_27 (dk_at dksX7_undo_8 9 rfl rfl)
theorem dX7_undo_198 : decode cX7_undo 198 = .ok (.aload_n 0, 1) := dk_42 (dk_at dksX7_undo_8 10 rfl rfl)
theorem dX7_undo_199 : decode cX7_undo 199 = .ok (.getfield 112, 3) := dk_180 0 112 (dk_at dksX7_undo_8 11 rfl rfl)
theorem dX7_undo_202 : decode cX7_undo 202 = .ok (.iconst 2, 1) := dk_5 (dk_at dksX7_undo_8 14 rfl rfl)
theorem dX7_undo_203 : decode cX7_undo 203 = .ok (.iload_n 1, 1) := dk_27 (dk_at dksX7_undo_8 15 rfl rfl)
theorem dX7_undo_204 : decode cX7_undo 204 = .ok (.imul, 1) := dk_104 (dk_at dksX7_undo_8 16 rfl rfl)
theorem dX7_undo_205 : decode cX7_undo 205 = .ok (.iaload, 1) := dk_46 (dk_at dksX7_undo_8 17 rfl rfl)
theorem dX7_undo_206 : decode cX7_undo 206 = .ok (.iastore, 1) := dk_79 (dk_at dksX7_undo_8 18 rfl rfl)
theorem dX7_undo_207 : decode cX7_undo 207 = .ok (.aload_n 0, 1) := dk_42 (dk_at dksX7_undo_8 19 rfl rfl)
theorem dX7_undo_208 : decode cX7_undo 208 = .ok (.getfield 81, 3) := dk_180 0 81 (dk_at dksX7_undo_8 20 rfl rfl)
theorem dX7_undo_211 : decode cX7_undo 211 = .ok (.iload_n 1, 1) := dk_27 (dk_at dksX7_undo_8 23 rfl rfl)
theorem dX7_undo_212 : decode cX7_undo 212 = .ok (.aload_n 0, 1) := dk_42 (dk_at dksX7_undo_9 0 rfl rfl)
theorem dX7_undo_213 : decode cX7_undo 213 = .ok (.getfield 112, 3) := dk_180 0 112 (dk_at dksX7_undo_9 1 rfl rfl)
theorem dX7_undo_216 : decode cX7_undo 216 = .ok (.iconst 2, 1) := dk_5 (dk_at dksX7_undo_9 4 rfl rfl)
theorem dX7_undo_217 : decode cX7_undo 217 = .ok (.iload_n 1, 1) := dk_27 (dk_at dksX7_undo_9 5 rfl rfl)
theorem dX7_undo_218 : decode cX7_undo 218 = .ok (.imul, 1) := dk_104 (dk_at dksX7_undo_9 6 rfl rfl)
theorem dX7_undo_219 : decode cX7_undo 219 = .ok (.iconst 1, 1) := dk_4 (dk_at dksX7_undo_9 7 rfl rfl)
theorem dX7_undo_220 : decode cX7_undo 220 = .ok (.iadd, 1) := dk_96 (dk_at dksX7_undo_9 8 rfl rfl)
theorem dX7_undo_221 : decode cX7_undo 221 = .ok (.iaload, 1) := dk_46 (dk_at dksX7_undo_9 9 rfl rfl)
theorem dX7_undo_222 : decode cX7_undo 222 = .ok (.iastore, 1) := dk_79 (dk_at dksX7_undo_9 10 rfl rfl)
theorem dX7_undo_223 : decode cX7_undo 223 = .ok (.iinc 1 1, 3) := dk_132 1 1 (dk_at dksX7_undo_9 11 rfl rfl)
theorem dX7_undo_226 : decode cX7_undo 226 = .ok (.goto (-69), 3) := dk_167 255 187 (dk_at dksX7_undo_9 14 rfl rfl)
theorem dX7_undo_229 : decode cX7_undo 229 = .ok (.aload_n 0, 1) := dk_42 (dk_at dksX7_undo_9 17 rfl rfl)
theorem dX7_undo_230 : decode cX7_undo 230 = .ok (.iconst 0, 1) := dk_3 (dk_at dksX7_undo_9 18 rfl rfl)
theorem dX7_undo_231 : decode cX7_undo 231 = .ok (.putfield 132, 3) := dk_181 0 132 (dk_at dksX7_undo_9 19 rfl rfl)
theorem dX7_undo_234 : decode cX7_undo 234 = .ok (.aload_n 0, 1) := dk_42 (dk_at dksX7_undo_9 22 rfl rfl)
theorem dX7_undo_235 : decode cX7_undo 235 = .ok (.getfield 11, 3) := dk_180 0 11 (dk_at dksX7_undo_10 0 rfl rfl)
theorem dX7_undo_238 : decode cX7_undo 238 = .ok (.iconst 0, 1) := dk_3 (dk_at dksX7_undo_10 3 rfl rfl)
theorem dX7_undo_239 : decode cX7_undo 239 = .ok (.iaload, 1) := dk_46 (dk_at dksX7_undo_10 4 rfl rfl)
theorem dX7_undo_240 : decode cX7_undo 240 = .ok (.aload_n 0, 1) := dk_42 (dk_at dksX7_undo_10 5 rfl rfl)
theorem dX7_undo_241 : decode cX7_undo 241 = .ok (.getfield 11, 3) := dk_180 0 11 (dk_at dksX7_undo_10 6 rfl rfl)
theorem dX7_undo_244 : decode cX7_undo 244 = .ok (.iconst 1, 1) := dk_4 (dk_at dksX7_undo_10 9 rfl rfl)
theorem dX7_undo_245 : decode cX7_undo 245 = .ok (.iaload, 1) := dk_46 (dk_at dksX7_undo_10 10 rfl rfl)
theorem dX7_undo_246 : decode cX7_undo 246 = .ok (.iadd, 1) := dk_96 (dk_at dksX7_undo_10 11 rfl rfl)
theorem dX7_undo_247 : decode cX7_undo 247 = .ok (.ireturn, 1) := dk_172 (dk_at dksX7_undo_10 12 rfl rfl)
abbrev cX7_count : ByteArray := prog_17_method_85_code
def yX7_count : MethodName := ⟨RX7, "count", "(I)I"⟩
def dkwX7_count_3 : List UInt8 := [172, 16, 254, 172]
abbrev dktX7_count_3 : List UInt8 := dkwX7_count_3 ++ []
def dkwX7_count_2 : List UInt8 := [42, 180, 1, 64, 172, 42, 180, 1, 72, 172, 42, 180, 1, 89, 172, 42, 180, 0, 174, 172, 42, 180, 0, 132]
abbrev dktX7_count_2 : List UInt8 := dkwX7_count_2 ++ dktX7_count_3
def dkwX7_count_1 : List UInt8 := [170, 0, 0, 0, 0, 0, 60, 0, 0, 0, 0, 0, 0, 0, 4, 0, 0, 0, 35, 0, 0, 0, 40, 0, 0, 0, 45, 0, 0, 0, 50, 0, 0, 0, 55]
abbrev dktX7_count_1 : List UInt8 := dkwX7_count_1 ++ dktX7_count_2
def dkwX7_count_0 : List UInt8 := [27]
abbrev dktX7_count_0 : List UInt8 := dkwX7_count_0 ++ dktX7_count_1
theorem dksX7_count_0 : cX7_count.data.toList.drop 0 = dktX7_count_0 := by decide +kernel
theorem dksX7_count_1 : cX7_count.data.toList.drop 1 = dktX7_count_1 := dk_seg dksX7_count_0 1 rfl rfl
theorem dksX7_count_2 : cX7_count.data.toList.drop 36 = dktX7_count_2 := dk_seg dksX7_count_1 35 rfl rfl
theorem dksX7_count_3 : cX7_count.data.toList.drop 60 = dktX7_count_3 := dk_seg dksX7_count_2 24 rfl rfl
theorem dX7_count_0 : decode cX7_count 0 = .ok (.iload_n 1, 1) := dk_27 (dk_at dksX7_count_0 0 rfl rfl)
theorem dX7_count_1 : decode cX7_count 1 = .ok (.tableswitch 60 0 4 #[35, 40, 45, 50, 55], 35) := by decide +kernel
theorem dX7_count_36 : decode cX7_count 36 = .ok (.aload_n 0, 1) := dk_42 (dk_at dksX7_count_2 0 rfl rfl)
theorem dX7_count_37 : decode cX7_count 37 = .ok (.getfield 320, 3) := dk_180 1 64 (dk_at dksX7_count_2 1 rfl rfl)
theorem dX7_count_40 : decode cX7_count 40 = .ok (.ireturn, 1) := dk_172 (dk_at dksX7_count_2 4 rfl rfl)
theorem dX7_count_41 : decode cX7_count 41 = .ok (.aload_n 0, 1) := dk_42 (dk_at dksX7_count_2 5 rfl rfl)
theorem dX7_count_42 : decode cX7_count 42 = .ok (.getfield 328, 3) := dk_180 1 72 (dk_at dksX7_count_2 6 rfl rfl)
theorem dX7_count_45 : decode cX7_count 45 = .ok (.ireturn, 1) := dk_172 (dk_at dksX7_count_2 9 rfl rfl)
theorem dX7_count_46 : decode cX7_count 46 = .ok (.aload_n 0, 1) := dk_42 (dk_at dksX7_count_2 10 rfl rfl)
theorem dX7_count_47 : decode cX7_count 47 = .ok (.getfield 345, 3) := dk_180 1 89 (dk_at dksX7_count_2 11 rfl rfl)
theorem dX7_count_50 : decode cX7_count 50 = .ok (.ireturn, 1) := dk_172 (dk_at dksX7_count_2 14 rfl rfl)
theorem dX7_count_51 : decode cX7_count 51 = .ok (.aload_n 0, 1) := dk_42 (dk_at dksX7_count_2 15 rfl rfl)
theorem dX7_count_52 : decode cX7_count 52 = .ok (.getfield 174, 3) := dk_180 0 174 (dk_at dksX7_count_2 16 rfl rfl)
theorem dX7_count_55 : decode cX7_count 55 = .ok (.ireturn, 1) := dk_172 (dk_at dksX7_count_2 19 rfl rfl)
theorem dX7_count_56 : decode cX7_count 56 = .ok (.aload_n 0, 1) := dk_42 (dk_at dksX7_count_2 20 rfl rfl)
theorem dX7_count_57 : decode cX7_count 57 = .ok (.getfield 132, 3) := dk_180 0 132 (dk_at dksX7_count_2 21 rfl rfl)
theorem dX7_count_60 : decode cX7_count 60 = .ok (.ireturn, 1) := dk_172 (dk_at dksX7_count_3 0 rfl rfl)
theorem dX7_count_61 : decode cX7_count 61 = .ok (.bipush (-2), 2) := dk_16 254 (dk_at dksX7_count_3 1 rfl rfl)
theorem dX7_count_63 : decode cX7_count 63 = .ok (.ireturn, 1) := dk_172 (dk_at dksX7_count_3 3 rfl rfl)
theorem q73 : (Jvm.Cond.initialized "TermIdealsModel") ∈ lw_all := lw_g (lw_at lw_m1 8 rfl) rfl
theorem q1083 : (Jvm.Cond.instantiable "TermIdealsModel" (46 : Nat)) ∈ lw_all := lw_g (lw_at lw_m5 58 rfl) rfl
theorem q1085 : (Jvm.Cond.instanceMethod ({ cls := "TermIdealsModel", name := "<init>", desc := "()V" } : Jvm.MethodName)) ∈ lw_all := lw_g (lw_at lw_m5 60 rfl) rfl
theorem q1086 : (Jvm.Cond.code ({ cls := "TermIdealsModel", name := "<init>", desc := "()V" } : Jvm.MethodName) prog_17_method_1_code (1 : Nat) (Option.none : Option Jvm.ClassFile.FieldType)) ∈ lw_all := lw_g (lw_at lw_m5 61 rfl) rfl
theorem q1087 : (Jvm.Cond.methodLink "TermIdealsModel" (3 : Nat) ({ cls := "java/lang/Object", name := "<init>", desc := "()V" } : Jvm.MethodName)) ∈ lw_all := lw_g (lw_at lw_m5 62 rfl) rfl
theorem q1088 : (Jvm.Cond.fieldLink "TermIdealsModel" (11 : Nat) "TermIdealsModel" "sizes" "[I") ∈ lw_all := lw_g (lw_at lw_m5 63 rfl) rfl
theorem q1089 : (Jvm.Cond.fieldLink "TermIdealsModel" (15 : Nat) "TermIdealsModel" "as" "[I") ∈ lw_all := lw_g (lw_at lw_m5 64 rfl) rfl
theorem q1090 : (Jvm.Cond.fieldLink "TermIdealsModel" (18 : Nat) "TermIdealsModel" "bs" "[I") ∈ lw_all := lw_g (lw_at lw_m5 65 rfl) rfl
theorem q1091 : (Jvm.Cond.fieldLink "TermIdealsModel" (132 : Nat) "TermIdealsModel" "deeds" "I") ∈ lw_all := lw_g (lw_at lw_m5 66 rfl) rfl
theorem q1092 : (Jvm.Cond.fieldLink "TermIdealsModel" (21 : Nat) "TermIdealsModel" "deedOf" "[I") ∈ lw_all := lw_g (lw_at lw_m5 67 rfl) rfl
theorem q1093 : (Jvm.Cond.fieldLink "TermIdealsModel" (24 : Nat) "TermIdealsModel" "deedSizes" "[I") ∈ lw_all := lw_g (lw_at lw_m5 68 rfl) rfl
theorem q1094 : (Jvm.Cond.fieldLink "TermIdealsModel" (27 : Nat) "TermIdealsModel" "deedAs" "[I") ∈ lw_all := lw_g (lw_at lw_m5 69 rfl) rfl
theorem q1095 : (Jvm.Cond.fieldLink "TermIdealsModel" (30 : Nat) "TermIdealsModel" "deedBs" "[I") ∈ lw_all := lw_g (lw_at lw_m5 70 rfl) rfl
theorem q1096 : (Jvm.Cond.fieldLink "TermIdealsModel" (33 : Nat) "TermIdealsModel" "text" "[I") ∈ lw_all := lw_g (lw_at lw_m5 71 rfl) rfl
theorem q1097 : (Jvm.Cond.fieldLink "TermIdealsModel" (174 : Nat) "TermIdealsModel" "size" "I") ∈ lw_all := lw_g (lw_at lw_m5 72 rfl) rfl
theorem q1098 : (Jvm.Cond.fieldLink "TermIdealsModel" (177 : Nat) "TermIdealsModel" "at" "I") ∈ lw_all := lw_g (lw_at lw_m5 73 rfl) rfl
theorem q1099 : (Jvm.Cond.fieldLink "TermIdealsModel" (36 : Nat) "TermIdealsModel" "told" "[I") ∈ lw_all := lw_g (lw_at lw_m5 74 rfl) rfl
theorem q1100 : (Jvm.Cond.fieldLink "TermIdealsModel" (221 : Nat) "TermIdealsModel" "faces" "I") ∈ lw_all := lw_g (lw_at lw_m5 75 rfl) rfl
theorem q1101 : (Jvm.Cond.fieldLink "TermIdealsModel" (39 : Nat) "TermIdealsModel" "ss" "[I") ∈ lw_all := lw_g (lw_at lw_m5 76 rfl) rfl
theorem q1102 : (Jvm.Cond.fieldLink "TermIdealsModel" (42 : Nat) "TermIdealsModel" "ts" "[I") ∈ lw_all := lw_g (lw_at lw_m5 77 rfl) rfl
theorem q1103 : (Jvm.Cond.fieldLink "TermIdealsModel" (45 : Nat) "TermIdealsModel" "levels" "[I") ∈ lw_all := lw_g (lw_at lw_m5 78 rfl) rfl
theorem q1104 : (Jvm.Cond.fieldLink "TermIdealsModel" (257 : Nat) "TermIdealsModel" "jumpMany" "I") ∈ lw_all := lw_g (lw_at lw_m5 79 rfl) rfl
theorem q1105 : (Jvm.Cond.fieldLink "TermIdealsModel" (48 : Nat) "TermIdealsModel" "tops" "[I") ∈ lw_all := lw_g (lw_at lw_m5 80 rfl) rfl
theorem q1106 : (Jvm.Cond.fieldLink "TermIdealsModel" (51 : Nat) "TermIdealsModel" "unders" "[I") ∈ lw_all := lw_g (lw_at lw_m5 81 rfl) rfl
theorem q1107 : (Jvm.Cond.fieldLink "TermIdealsModel" (54 : Nat) "TermIdealsModel" "heights" "[I") ∈ lw_all := lw_g (lw_at lw_m5 82 rfl) rfl
theorem q1108 : (Jvm.Cond.fieldLink "TermIdealsModel" (57 : Nat) "TermIdealsModel" "next" "[I") ∈ lw_all := lw_g (lw_at lw_m5 83 rfl) rfl
theorem q1109 : (Jvm.Cond.fieldLink "TermIdealsModel" (60 : Nat) "TermIdealsModel" "kept" "[I") ∈ lw_all := lw_g (lw_at lw_m5 84 rfl) rfl
theorem q1110 : (Jvm.Cond.fieldLink "TermIdealsModel" (320 : Nat) "TermIdealsModel" "seen" "I") ∈ lw_all := lw_g (lw_at lw_m5 85 rfl) rfl
theorem q1111 : (Jvm.Cond.fieldLink "TermIdealsModel" (63 : Nat) "TermIdealsModel" "seenAt" "[I") ∈ lw_all := lw_g (lw_at lw_m5 86 rfl) rfl
theorem q1112 : (Jvm.Cond.fieldLink "TermIdealsModel" (66 : Nat) "TermIdealsModel" "seenTop" "[I") ∈ lw_all := lw_g (lw_at lw_m5 87 rfl) rfl
theorem q1113 : (Jvm.Cond.fieldLink "TermIdealsModel" (69 : Nat) "TermIdealsModel" "seenUnder" "[I") ∈ lw_all := lw_g (lw_at lw_m5 88 rfl) rfl
theorem q1114 : (Jvm.Cond.fieldLink "TermIdealsModel" (328 : Nat) "TermIdealsModel" "events" "I") ∈ lw_all := lw_g (lw_at lw_m5 89 rfl) rfl
theorem q1115 : (Jvm.Cond.fieldLink "TermIdealsModel" (72 : Nat) "TermIdealsModel" "eventWhats" "[I") ∈ lw_all := lw_g (lw_at lw_m5 90 rfl) rfl
theorem q1116 : (Jvm.Cond.fieldLink "TermIdealsModel" (75 : Nat) "TermIdealsModel" "eventNs" "[I") ∈ lw_all := lw_g (lw_at lw_m5 91 rfl) rfl
theorem q1117 : (Jvm.Cond.fieldLink "TermIdealsModel" (345 : Nat) "TermIdealsModel" "books" "I") ∈ lw_all := lw_g (lw_at lw_m5 92 rfl) rfl
theorem q1118 : (Jvm.Cond.fieldLink "TermIdealsModel" (78 : Nat) "TermIdealsModel" "bookTerms" "[I") ∈ lw_all := lw_g (lw_at lw_m5 93 rfl) rfl
theorem q1119 : (Jvm.Cond.fieldLink "TermIdealsModel" (81 : Nat) "TermIdealsModel" "bookIs" "[I") ∈ lw_all := lw_g (lw_at lw_m5 94 rfl) rfl
theorem q1120 : (Jvm.Cond.fieldLink "TermIdealsModel" (84 : Nat) "TermIdealsModel" "sorts" "[I") ∈ lw_all := lw_g (lw_at lw_m5 95 rfl) rfl
theorem q1121 : (Jvm.Cond.fieldLink "TermIdealsModel" (87 : Nat) "TermIdealsModel" "lengths" "[I") ∈ lw_all := lw_g (lw_at lw_m5 96 rfl) rfl
theorem q1122 : (Jvm.Cond.fieldLink "TermIdealsModel" (90 : Nat) "TermIdealsModel" "items" "[J") ∈ lw_all := lw_g (lw_at lw_m5 97 rfl) rfl
theorem q1123 : (Jvm.Cond.fieldLink "TermIdealsModel" (94 : Nat) "TermIdealsModel" "moved" "[J") ∈ lw_all := lw_g (lw_at lw_m5 98 rfl) rfl
theorem q1124 : (Jvm.Cond.fieldLink "TermIdealsModel" (357 : Nat) "TermIdealsModel" "isKept" "Z") ∈ lw_all := lw_g (lw_at lw_m5 99 rfl) rfl
theorem q1125 : (Jvm.Cond.fieldLink "TermIdealsModel" (97 : Nat) "TermIdealsModel" "keptSizes" "[I") ∈ lw_all := lw_g (lw_at lw_m5 100 rfl) rfl
theorem q1126 : (Jvm.Cond.fieldLink "TermIdealsModel" (100 : Nat) "TermIdealsModel" "keptAs" "[I") ∈ lw_all := lw_g (lw_at lw_m5 101 rfl) rfl
theorem q1127 : (Jvm.Cond.fieldLink "TermIdealsModel" (103 : Nat) "TermIdealsModel" "keptBs" "[I") ∈ lw_all := lw_g (lw_at lw_m5 102 rfl) rfl
theorem q1128 : (Jvm.Cond.fieldLink "TermIdealsModel" (361 : Nat) "TermIdealsModel" "keptSeen" "I") ∈ lw_all := lw_g (lw_at lw_m5 103 rfl) rfl
theorem q1129 : (Jvm.Cond.fieldLink "TermIdealsModel" (106 : Nat) "TermIdealsModel" "keptSeenRows" "[I") ∈ lw_all := lw_g (lw_at lw_m5 104 rfl) rfl
theorem q1130 : (Jvm.Cond.fieldLink "TermIdealsModel" (364 : Nat) "TermIdealsModel" "keptEvents" "I") ∈ lw_all := lw_g (lw_at lw_m5 105 rfl) rfl
theorem q1131 : (Jvm.Cond.fieldLink "TermIdealsModel" (109 : Nat) "TermIdealsModel" "keptEventRows" "[I") ∈ lw_all := lw_g (lw_at lw_m5 106 rfl) rfl
theorem q1132 : (Jvm.Cond.fieldLink "TermIdealsModel" (367 : Nat) "TermIdealsModel" "keptBooks" "I") ∈ lw_all := lw_g (lw_at lw_m5 107 rfl) rfl
theorem q1133 : (Jvm.Cond.fieldLink "TermIdealsModel" (112 : Nat) "TermIdealsModel" "keptBookRows" "[I") ∈ lw_all := lw_g (lw_at lw_m5 108 rfl) rfl
theorem q1134 : (Jvm.Cond.laysFinal "TermIdealsModel" "TermIdealsModel" "sizes" "[I") ∈ lw_all := lw_g (lw_at lw_m5 109 rfl) rfl
theorem q1135 : (Jvm.Cond.soleField "TermIdealsModel" "sizes") ∈ lw_all := lw_g (lw_at lw_m5 110 rfl) rfl
theorem q1136 : (Jvm.Cond.laysFinal "TermIdealsModel" "TermIdealsModel" "as" "[I") ∈ lw_all := lw_g (lw_at lw_m5 111 rfl) rfl
theorem q1137 : (Jvm.Cond.soleField "TermIdealsModel" "as") ∈ lw_all := lw_g (lw_at lw_m5 112 rfl) rfl
theorem q1138 : (Jvm.Cond.laysFinal "TermIdealsModel" "TermIdealsModel" "bs" "[I") ∈ lw_all := lw_g (lw_at lw_m5 113 rfl) rfl
theorem q1139 : (Jvm.Cond.soleField "TermIdealsModel" "bs") ∈ lw_all := lw_g (lw_at lw_m5 114 rfl) rfl
theorem q1140 : (Jvm.Cond.lays "TermIdealsModel" "TermIdealsModel" "deeds" "I") ∈ lw_all := lw_g (lw_at lw_m5 115 rfl) rfl
theorem q1141 : (Jvm.Cond.soleField "TermIdealsModel" "deeds") ∈ lw_all := lw_g (lw_at lw_m5 116 rfl) rfl
theorem q1142 : (Jvm.Cond.laysFinal "TermIdealsModel" "TermIdealsModel" "deedOf" "[I") ∈ lw_all := lw_g (lw_at lw_m5 117 rfl) rfl
theorem q1143 : (Jvm.Cond.soleField "TermIdealsModel" "deedOf") ∈ lw_all := lw_g (lw_at lw_m5 118 rfl) rfl
theorem q1144 : (Jvm.Cond.laysFinal "TermIdealsModel" "TermIdealsModel" "deedSizes" "[I") ∈ lw_all := lw_g (lw_at lw_m5 119 rfl) rfl
theorem q1145 : (Jvm.Cond.soleField "TermIdealsModel" "deedSizes") ∈ lw_all := lw_g (lw_at lw_m5 120 rfl) rfl
theorem q1146 : (Jvm.Cond.laysFinal "TermIdealsModel" "TermIdealsModel" "deedAs" "[I") ∈ lw_all := lw_g (lw_at lw_m5 121 rfl) rfl
theorem q1147 : (Jvm.Cond.soleField "TermIdealsModel" "deedAs") ∈ lw_all := lw_g (lw_at lw_m5 122 rfl) rfl
theorem q1148 : (Jvm.Cond.laysFinal "TermIdealsModel" "TermIdealsModel" "deedBs" "[I") ∈ lw_all := lw_g (lw_at lw_m5 123 rfl) rfl
theorem q1149 : (Jvm.Cond.soleField "TermIdealsModel" "deedBs") ∈ lw_all := lw_g (lw_at lw_m5 124 rfl) rfl
theorem q1150 : (Jvm.Cond.laysFinal "TermIdealsModel" "TermIdealsModel" "text" "[I") ∈ lw_all := lw_g (lw_at lw_m5 125 rfl) rfl
theorem q1151 : (Jvm.Cond.soleField "TermIdealsModel" "text") ∈ lw_all := lw_g (lw_at lw_m5 126 rfl) rfl
theorem q1152 : (Jvm.Cond.lays "TermIdealsModel" "TermIdealsModel" "size" "I") ∈ lw_all := lw_g (lw_at lw_m5 127 rfl) rfl
theorem q1153 : (Jvm.Cond.soleField "TermIdealsModel" "size") ∈ lw_all := lw_g (lw_at lw_m5 128 rfl) rfl
theorem q1154 : (Jvm.Cond.lays "TermIdealsModel" "TermIdealsModel" "at" "I") ∈ lw_all := lw_g (lw_at lw_m5 129 rfl) rfl
theorem q1155 : (Jvm.Cond.soleField "TermIdealsModel" "at") ∈ lw_all := lw_g (lw_at lw_m5 130 rfl) rfl
theorem q1156 : (Jvm.Cond.laysFinal "TermIdealsModel" "TermIdealsModel" "told" "[I") ∈ lw_all := lw_g (lw_at lw_m5 131 rfl) rfl
theorem q1157 : (Jvm.Cond.soleField "TermIdealsModel" "told") ∈ lw_all := lw_g (lw_at lw_m5 132 rfl) rfl
theorem q1158 : (Jvm.Cond.lays "TermIdealsModel" "TermIdealsModel" "faces" "I") ∈ lw_all := lw_g (lw_at lw_m5 133 rfl) rfl
theorem q1159 : (Jvm.Cond.soleField "TermIdealsModel" "faces") ∈ lw_all := lw_g (lw_at lw_m5 134 rfl) rfl
theorem q1160 : (Jvm.Cond.laysFinal "TermIdealsModel" "TermIdealsModel" "ss" "[I") ∈ lw_all := lw_g (lw_at lw_m5 135 rfl) rfl
theorem q1161 : (Jvm.Cond.soleField "TermIdealsModel" "ss") ∈ lw_all := lw_g (lw_at lw_m5 136 rfl) rfl
theorem q1162 : (Jvm.Cond.laysFinal "TermIdealsModel" "TermIdealsModel" "ts" "[I") ∈ lw_all := lw_g (lw_at lw_m5 137 rfl) rfl
theorem q1163 : (Jvm.Cond.soleField "TermIdealsModel" "ts") ∈ lw_all := lw_g (lw_at lw_m5 138 rfl) rfl
theorem q1164 : (Jvm.Cond.laysFinal "TermIdealsModel" "TermIdealsModel" "levels" "[I") ∈ lw_all := lw_g (lw_at lw_m5 139 rfl) rfl
theorem q1165 : (Jvm.Cond.soleField "TermIdealsModel" "levels") ∈ lw_all := lw_g (lw_at lw_m5 140 rfl) rfl
theorem q1166 : (Jvm.Cond.lays "TermIdealsModel" "TermIdealsModel" "jumpMany" "I") ∈ lw_all := lw_g (lw_at lw_m5 141 rfl) rfl
theorem q1167 : (Jvm.Cond.soleField "TermIdealsModel" "jumpMany") ∈ lw_all := lw_g (lw_at lw_m5 142 rfl) rfl
theorem q1168 : (Jvm.Cond.laysFinal "TermIdealsModel" "TermIdealsModel" "tops" "[I") ∈ lw_all := lw_g (lw_at lw_m5 143 rfl) rfl
theorem q1169 : (Jvm.Cond.soleField "TermIdealsModel" "tops") ∈ lw_all := lw_g (lw_at lw_m5 144 rfl) rfl
theorem q1170 : (Jvm.Cond.laysFinal "TermIdealsModel" "TermIdealsModel" "unders" "[I") ∈ lw_all := lw_g (lw_at lw_m5 145 rfl) rfl
theorem q1171 : (Jvm.Cond.soleField "TermIdealsModel" "unders") ∈ lw_all := lw_g (lw_at lw_m5 146 rfl) rfl
theorem q1172 : (Jvm.Cond.laysFinal "TermIdealsModel" "TermIdealsModel" "heights" "[I") ∈ lw_all := lw_g (lw_at lw_m5 147 rfl) rfl
theorem q1173 : (Jvm.Cond.soleField "TermIdealsModel" "heights") ∈ lw_all := lw_g (lw_at lw_m5 148 rfl) rfl
theorem q1174 : (Jvm.Cond.laysFinal "TermIdealsModel" "TermIdealsModel" "next" "[I") ∈ lw_all := lw_g (lw_at lw_m5 149 rfl) rfl
theorem q1175 : (Jvm.Cond.soleField "TermIdealsModel" "next") ∈ lw_all := lw_g (lw_at lw_m5 150 rfl) rfl
theorem q1176 : (Jvm.Cond.laysFinal "TermIdealsModel" "TermIdealsModel" "kept" "[I") ∈ lw_all := lw_g (lw_at lw_m5 151 rfl) rfl
theorem q1177 : (Jvm.Cond.soleField "TermIdealsModel" "kept") ∈ lw_all := lw_g (lw_at lw_m5 152 rfl) rfl
theorem q1178 : (Jvm.Cond.lays "TermIdealsModel" "TermIdealsModel" "seen" "I") ∈ lw_all := lw_g (lw_at lw_m5 153 rfl) rfl
theorem q1179 : (Jvm.Cond.soleField "TermIdealsModel" "seen") ∈ lw_all := lw_g (lw_at lw_m5 154 rfl) rfl
theorem q1180 : (Jvm.Cond.laysFinal "TermIdealsModel" "TermIdealsModel" "seenAt" "[I") ∈ lw_all := lw_g (lw_at lw_m5 155 rfl) rfl
theorem q1181 : (Jvm.Cond.soleField "TermIdealsModel" "seenAt") ∈ lw_all := lw_g (lw_at lw_m5 156 rfl) rfl
theorem q1182 : (Jvm.Cond.laysFinal "TermIdealsModel" "TermIdealsModel" "seenTop" "[I") ∈ lw_all := lw_g (lw_at lw_m5 157 rfl) rfl
theorem q1183 : (Jvm.Cond.soleField "TermIdealsModel" "seenTop") ∈ lw_all := lw_g (lw_at lw_m5 158 rfl) rfl
theorem q1184 : (Jvm.Cond.laysFinal "TermIdealsModel" "TermIdealsModel" "seenUnder" "[I") ∈ lw_all := lw_g (lw_at lw_m5 159 rfl) rfl
theorem q1185 : (Jvm.Cond.soleField "TermIdealsModel" "seenUnder") ∈ lw_all := lw_g (lw_at lw_m5 160 rfl) rfl
theorem q1186 : (Jvm.Cond.lays "TermIdealsModel" "TermIdealsModel" "events" "I") ∈ lw_all := lw_g (lw_at lw_m5 161 rfl) rfl
theorem q1187 : (Jvm.Cond.soleField "TermIdealsModel" "events") ∈ lw_all := lw_g (lw_at lw_m5 162 rfl) rfl
theorem q1188 : (Jvm.Cond.laysFinal "TermIdealsModel" "TermIdealsModel" "eventWhats" "[I") ∈ lw_all := lw_g (lw_at lw_m5 163 rfl) rfl
theorem q1189 : (Jvm.Cond.soleField "TermIdealsModel" "eventWhats") ∈ lw_all := lw_g (lw_at lw_m5 164 rfl) rfl
theorem q1190 : (Jvm.Cond.laysFinal "TermIdealsModel" "TermIdealsModel" "eventNs" "[I") ∈ lw_all := lw_g (lw_at lw_m5 165 rfl) rfl
theorem q1191 : (Jvm.Cond.soleField "TermIdealsModel" "eventNs") ∈ lw_all := lw_g (lw_at lw_m5 166 rfl) rfl
theorem q1192 : (Jvm.Cond.lays "TermIdealsModel" "TermIdealsModel" "books" "I") ∈ lw_all := lw_g (lw_at lw_m5 167 rfl) rfl
theorem q1193 : (Jvm.Cond.soleField "TermIdealsModel" "books") ∈ lw_all := lw_g (lw_at lw_m5 168 rfl) rfl
theorem q1194 : (Jvm.Cond.laysFinal "TermIdealsModel" "TermIdealsModel" "bookTerms" "[I") ∈ lw_all := lw_g (lw_at lw_m5 169 rfl) rfl
theorem q1195 : (Jvm.Cond.soleField "TermIdealsModel" "bookTerms") ∈ lw_all := lw_g (lw_at lw_m5 170 rfl) rfl
theorem q1196 : (Jvm.Cond.laysFinal "TermIdealsModel" "TermIdealsModel" "bookIs" "[I") ∈ lw_all := lw_g (lw_at lw_m5 171 rfl) rfl
theorem q1197 : (Jvm.Cond.soleField "TermIdealsModel" "bookIs") ∈ lw_all := lw_g (lw_at lw_m5 172 rfl) rfl
theorem q1198 : (Jvm.Cond.laysFinal "TermIdealsModel" "TermIdealsModel" "sorts" "[I") ∈ lw_all := lw_g (lw_at lw_m5 173 rfl) rfl
theorem q1199 : (Jvm.Cond.soleField "TermIdealsModel" "sorts") ∈ lw_all := lw_g (lw_at lw_m5 174 rfl) rfl
theorem q1200 : (Jvm.Cond.laysFinal "TermIdealsModel" "TermIdealsModel" "lengths" "[I") ∈ lw_all := lw_g (lw_at lw_m5 175 rfl) rfl
theorem q1201 : (Jvm.Cond.soleField "TermIdealsModel" "lengths") ∈ lw_all := lw_g (lw_at lw_m5 176 rfl) rfl
theorem q1202 : (Jvm.Cond.laysFinal "TermIdealsModel" "TermIdealsModel" "items" "[J") ∈ lw_all := lw_g (lw_at lw_m5 177 rfl) rfl
theorem q1203 : (Jvm.Cond.soleField "TermIdealsModel" "items") ∈ lw_all := lw_g (lw_at lw_m5 178 rfl) rfl
theorem q1204 : (Jvm.Cond.laysFinal "TermIdealsModel" "TermIdealsModel" "moved" "[J") ∈ lw_all := lw_g (lw_at lw_m5 179 rfl) rfl
theorem q1205 : (Jvm.Cond.soleField "TermIdealsModel" "moved") ∈ lw_all := lw_g (lw_at lw_m5 180 rfl) rfl
theorem q1206 : (Jvm.Cond.lays "TermIdealsModel" "TermIdealsModel" "isKept" "Z") ∈ lw_all := lw_g (lw_at lw_m5 181 rfl) rfl
theorem q1207 : (Jvm.Cond.soleField "TermIdealsModel" "isKept") ∈ lw_all := lw_g (lw_at lw_m5 182 rfl) rfl
theorem q1208 : (Jvm.Cond.laysFinal "TermIdealsModel" "TermIdealsModel" "keptSizes" "[I") ∈ lw_all := lw_g (lw_at lw_m5 183 rfl) rfl
theorem q1209 : (Jvm.Cond.soleField "TermIdealsModel" "keptSizes") ∈ lw_all := lw_g (lw_at lw_m5 184 rfl) rfl
theorem q1210 : (Jvm.Cond.laysFinal "TermIdealsModel" "TermIdealsModel" "keptAs" "[I") ∈ lw_all := lw_g (lw_at lw_m5 185 rfl) rfl
theorem q1211 : (Jvm.Cond.soleField "TermIdealsModel" "keptAs") ∈ lw_all := lw_g (lw_at lw_m5 186 rfl) rfl
theorem q1212 : (Jvm.Cond.laysFinal "TermIdealsModel" "TermIdealsModel" "keptBs" "[I") ∈ lw_all := lw_g (lw_at lw_m5 187 rfl) rfl
theorem q1213 : (Jvm.Cond.soleField "TermIdealsModel" "keptBs") ∈ lw_all := lw_g (lw_at lw_m5 188 rfl) rfl
theorem q1214 : (Jvm.Cond.lays "TermIdealsModel" "TermIdealsModel" "keptSeen" "I") ∈ lw_all := lw_g (lw_at lw_m5 189 rfl) rfl
theorem q1215 : (Jvm.Cond.soleField "TermIdealsModel" "keptSeen") ∈ lw_all := lw_g (lw_at lw_m5 190 rfl) rfl
theorem q1216 : (Jvm.Cond.laysFinal "TermIdealsModel" "TermIdealsModel" "keptSeenRows" "[I") ∈ lw_all := lw_g (lw_at lw_m5 191 rfl) rfl
theorem q1217 : (Jvm.Cond.soleField "TermIdealsModel" "keptSeenRows") ∈ lw_all := lw_g (lw_at lw_m5 192 rfl) rfl
theorem q1218 : (Jvm.Cond.lays "TermIdealsModel" "TermIdealsModel" "keptEvents" "I") ∈ lw_all := lw_g (lw_at lw_m5 193 rfl) rfl
theorem q1219 : (Jvm.Cond.soleField "TermIdealsModel" "keptEvents") ∈ lw_all := lw_g (lw_at lw_m5 194 rfl) rfl
theorem q1220 : (Jvm.Cond.laysFinal "TermIdealsModel" "TermIdealsModel" "keptEventRows" "[I") ∈ lw_all := lw_g (lw_at lw_m5 195 rfl) rfl
theorem q1221 : (Jvm.Cond.soleField "TermIdealsModel" "keptEventRows") ∈ lw_all := lw_g (lw_at lw_m5 196 rfl) rfl
theorem q1222 : (Jvm.Cond.lays "TermIdealsModel" "TermIdealsModel" "keptBooks" "I") ∈ lw_all := lw_g (lw_at lw_m5 197 rfl) rfl
theorem q1223 : (Jvm.Cond.soleField "TermIdealsModel" "keptBooks") ∈ lw_all := lw_g (lw_at lw_m5 198 rfl) rfl
theorem q1224 : (Jvm.Cond.laysFinal "TermIdealsModel" "TermIdealsModel" "keptBookRows" "[I") ∈ lw_all := lw_g (lw_at lw_m5 199 rfl) rfl
theorem q1225 : (Jvm.Cond.soleField "TermIdealsModel" "keptBookRows") ∈ lw_all := lw_g (lw_at lw_m5 200 rfl) rfl
theorem q1226 : (Jvm.Cond.superclass "TermIdealsModel" "java/lang/Object") ∈ lw_all := lw_g (lw_at lw_m5 201 rfl) rfl
theorem q1228 : (Jvm.Cond.instanceMethod ({ cls := "TermIdealsModel", name := "generate", desc := "(III)I" } : Jvm.MethodName)) ∈ lw_all := lw_g (lw_at lw_m5 203 rfl) rfl
theorem q1229 : (Jvm.Cond.selects "TermIdealsModel" ({ cls := "TermIdealsModel", name := "generate", desc := "(III)I" } : Jvm.MethodName) ({ cls := "TermIdealsModel", name := "generate", desc := "(III)I" } : Jvm.MethodName)) ∈ lw_all := lw_g (lw_at lw_m5 204 rfl) rfl
theorem q1230 : (Jvm.Cond.code ({ cls := "TermIdealsModel", name := "generate", desc := "(III)I" } : Jvm.MethodName) prog_17_method_14_code (4 : Nat) (Option.some Jvm.ClassFile.FieldType.int)) ∈ lw_all := lw_g (lw_at lw_m5 205 rfl) rfl
theorem q1231 : (Jvm.Cond.methodLink "TermIdealsModel" (136 : Nat) ({ cls := "TermIdealsModel", name := "isIdeal", desc := "(I)Z" } : Jvm.MethodName)) ∈ lw_all := lw_g (lw_at lw_m5 206 rfl) rfl
theorem q1232 : (Jvm.Cond.static ({ cls := "TermIdealsModel", name := "isIdeal", desc := "(I)Z" } : Jvm.MethodName)) ∈ lw_all := lw_g (lw_at lw_m5 207 rfl) rfl
theorem q1233 : (Jvm.Cond.code ({ cls := "TermIdealsModel", name := "isIdeal", desc := "(I)Z" } : Jvm.MethodName) prog_17_method_3_code (1 : Nat) (Option.some Jvm.ClassFile.FieldType.boolean)) ∈ lw_all := lw_g (lw_at lw_m5 208 rfl) rfl
theorem q1234 : (Jvm.Cond.methodLink "TermIdealsModel" (115 : Nat) ({ cls := "TermIdealsModel", name := "isFrom", desc := "(JJJ)Z" } : Jvm.MethodName)) ∈ lw_all := lw_g (lw_at lw_m5 209 rfl) rfl
theorem q1235 : (Jvm.Cond.static ({ cls := "TermIdealsModel", name := "isFrom", desc := "(JJJ)Z" } : Jvm.MethodName)) ∈ lw_all := lw_g (lw_at lw_m5 210 rfl) rfl
theorem q1236 : (Jvm.Cond.code ({ cls := "TermIdealsModel", name := "isFrom", desc := "(JJJ)Z" } : Jvm.MethodName) prog_17_method_2_code (6 : Nat) (Option.some Jvm.ClassFile.FieldType.boolean)) ∈ lw_all := lw_g (lw_at lw_m5 211 rfl) rfl
theorem q1237 : (Jvm.Cond.methodLink "TermIdealsModel" (140 : Nat) ({ cls := "TermIdealsModel", name := "isPower", desc := "(I)Z" } : Jvm.MethodName)) ∈ lw_all := lw_g (lw_at lw_m5 212 rfl) rfl
theorem q1238 : (Jvm.Cond.static ({ cls := "TermIdealsModel", name := "isPower", desc := "(I)Z" } : Jvm.MethodName)) ∈ lw_all := lw_g (lw_at lw_m5 213 rfl) rfl
theorem q1239 : (Jvm.Cond.code ({ cls := "TermIdealsModel", name := "isPower", desc := "(I)Z" } : Jvm.MethodName) prog_17_method_4_code (1 : Nat) (Option.some Jvm.ClassFile.FieldType.boolean)) ∈ lw_all := lw_g (lw_at lw_m5 214 rfl) rfl
theorem q1240 : (Jvm.Cond.constantLong "TermIdealsModel" (119 : Nat) (9 : Int64)) ∈ lw_all := lw_g (lw_at lw_m5 215 rfl) rfl
theorem q1241 : (Jvm.Cond.methodLink "TermIdealsModel" (143 : Nat) ({ cls := "TermIdealsModel", name := "which", desc := "(III)I" } : Jvm.MethodName)) ∈ lw_all := lw_g (lw_at lw_m5 216 rfl) rfl
theorem q1242 : (Jvm.Cond.privateMethod ({ cls := "TermIdealsModel", name := "which", desc := "(III)I" } : Jvm.MethodName)) ∈ lw_tbl := lw_at lw_m5 217 rfl
theorem q1243 : (Jvm.Cond.instanceMethod ({ cls := "TermIdealsModel", name := "which", desc := "(III)I" } : Jvm.MethodName)) ∈ lw_all := lw_g (lw_at lw_m5 218 rfl) rfl
theorem q1244 : (Jvm.Cond.code ({ cls := "TermIdealsModel", name := "which", desc := "(III)I" } : Jvm.MethodName) prog_17_method_9_code (5 : Nat) (Option.some Jvm.ClassFile.FieldType.int)) ∈ lw_all := lw_g (lw_at lw_m5 219 rfl) rfl
theorem q1245 : (Jvm.Cond.methodLink "TermIdealsModel" (125 : Nat) ({ cls := "TermIdealsModel", name := "a", desc := "(II)I" } : Jvm.MethodName)) ∈ lw_all := lw_g (lw_at lw_m5 220 rfl) rfl
theorem q1246 : (Jvm.Cond.privateMethod ({ cls := "TermIdealsModel", name := "a", desc := "(II)I" } : Jvm.MethodName)) ∈ lw_tbl := lw_at lw_m5 221 rfl
theorem q1247 : (Jvm.Cond.instanceMethod ({ cls := "TermIdealsModel", name := "a", desc := "(II)I" } : Jvm.MethodName)) ∈ lw_all := lw_g (lw_at lw_m5 222 rfl) rfl
theorem q1248 : (Jvm.Cond.code ({ cls := "TermIdealsModel", name := "a", desc := "(II)I" } : Jvm.MethodName) prog_17_method_7_code (3 : Nat) (Option.some Jvm.ClassFile.FieldType.int)) ∈ lw_all := lw_g (lw_at lw_m5 223 rfl) rfl
theorem q1249 : (Jvm.Cond.methodLink "TermIdealsModel" (129 : Nat) ({ cls := "TermIdealsModel", name := "b", desc := "(II)I" } : Jvm.MethodName)) ∈ lw_all := lw_g (lw_at lw_m5 224 rfl) rfl
theorem q1250 : (Jvm.Cond.privateMethod ({ cls := "TermIdealsModel", name := "b", desc := "(II)I" } : Jvm.MethodName)) ∈ lw_tbl := lw_at lw_m5 225 rfl
theorem q1251 : (Jvm.Cond.instanceMethod ({ cls := "TermIdealsModel", name := "b", desc := "(II)I" } : Jvm.MethodName)) ∈ lw_all := lw_g (lw_at lw_m5 226 rfl) rfl
theorem q1252 : (Jvm.Cond.code ({ cls := "TermIdealsModel", name := "b", desc := "(II)I" } : Jvm.MethodName) prog_17_method_8_code (3 : Nat) (Option.some Jvm.ClassFile.FieldType.int)) ∈ lw_all := lw_g (lw_at lw_m5 227 rfl) rfl
theorem q1253 : (Jvm.Cond.methodLink "TermIdealsModel" (147 : Nat) ({ cls := "TermIdealsModel", name := "deed", desc := "(I)V" } : Jvm.MethodName)) ∈ lw_all := lw_g (lw_at lw_m5 228 rfl) rfl
theorem q1254 : (Jvm.Cond.privateMethod ({ cls := "TermIdealsModel", name := "deed", desc := "(I)V" } : Jvm.MethodName)) ∈ lw_tbl := lw_at lw_m5 229 rfl
theorem q1255 : (Jvm.Cond.instanceMethod ({ cls := "TermIdealsModel", name := "deed", desc := "(I)V" } : Jvm.MethodName)) ∈ lw_all := lw_g (lw_at lw_m5 230 rfl) rfl
theorem q1256 : (Jvm.Cond.code ({ cls := "TermIdealsModel", name := "deed", desc := "(I)V" } : Jvm.MethodName) prog_17_method_13_code (3 : Nat) (Option.none : Option Jvm.ClassFile.FieldType)) ∈ lw_all := lw_g (lw_at lw_m5 231 rfl) rfl
theorem q1257 : (Jvm.Cond.methodLink "TermIdealsModel" (151 : Nat) ({ cls := "TermIdealsModel", name := "comes", desc := "(III)V" } : Jvm.MethodName)) ∈ lw_all := lw_g (lw_at lw_m5 232 rfl) rfl
theorem q1258 : (Jvm.Cond.privateMethod ({ cls := "TermIdealsModel", name := "comes", desc := "(III)V" } : Jvm.MethodName)) ∈ lw_tbl := lw_at lw_m5 233 rfl
theorem q1259 : (Jvm.Cond.instanceMethod ({ cls := "TermIdealsModel", name := "comes", desc := "(III)V" } : Jvm.MethodName)) ∈ lw_all := lw_g (lw_at lw_m5 234 rfl) rfl
theorem q1260 : (Jvm.Cond.code ({ cls := "TermIdealsModel", name := "comes", desc := "(III)V" } : Jvm.MethodName) prog_17_method_10_code (4 : Nat) (Option.none : Option Jvm.ClassFile.FieldType)) ∈ lw_all := lw_g (lw_at lw_m5 235 rfl) rfl
theorem q1262 : (Jvm.Cond.instanceMethod ({ cls := "TermIdealsModel", name := "drop", desc := "(II)I" } : Jvm.MethodName)) ∈ lw_all := lw_g (lw_at lw_m5 237 rfl) rfl
theorem q1263 : (Jvm.Cond.selects "TermIdealsModel" ({ cls := "TermIdealsModel", name := "drop", desc := "(II)I" } : Jvm.MethodName) ({ cls := "TermIdealsModel", name := "drop", desc := "(II)I" } : Jvm.MethodName)) ∈ lw_all := lw_g (lw_at lw_m5 238 rfl) rfl
theorem q1264 : (Jvm.Cond.code ({ cls := "TermIdealsModel", name := "drop", desc := "(II)I" } : Jvm.MethodName) prog_17_method_16_code (3 : Nat) (Option.some Jvm.ClassFile.FieldType.int)) ∈ lw_all := lw_g (lw_at lw_m5 239 rfl) rfl
theorem q1265 : (Jvm.Cond.methodLink "TermIdealsModel" (155 : Nat) ({ cls := "TermIdealsModel", name := "isGenerator", desc := "(II)Z" } : Jvm.MethodName)) ∈ lw_all := lw_g (lw_at lw_m6 0 rfl) rfl
theorem q1266 : (Jvm.Cond.privateMethod ({ cls := "TermIdealsModel", name := "isGenerator", desc := "(II)Z" } : Jvm.MethodName)) ∈ lw_tbl := lw_at lw_m6 1 rfl
theorem q1267 : (Jvm.Cond.instanceMethod ({ cls := "TermIdealsModel", name := "isGenerator", desc := "(II)Z" } : Jvm.MethodName)) ∈ lw_all := lw_g (lw_at lw_m6 2 rfl) rfl
theorem q1268 : (Jvm.Cond.code ({ cls := "TermIdealsModel", name := "isGenerator", desc := "(II)Z" } : Jvm.MethodName) prog_17_method_15_code (3 : Nat) (Option.some Jvm.ClassFile.FieldType.boolean)) ∈ lw_all := lw_g (lw_at lw_m6 3 rfl) rfl
theorem q1269 : (Jvm.Cond.methodLink "TermIdealsModel" (159 : Nat) ({ cls := "TermIdealsModel", name := "goes", desc := "(II)V" } : Jvm.MethodName)) ∈ lw_all := lw_g (lw_at lw_m6 4 rfl) rfl
theorem q1270 : (Jvm.Cond.privateMethod ({ cls := "TermIdealsModel", name := "goes", desc := "(II)V" } : Jvm.MethodName)) ∈ lw_tbl := lw_at lw_m6 5 rfl
theorem q1271 : (Jvm.Cond.instanceMethod ({ cls := "TermIdealsModel", name := "goes", desc := "(II)V" } : Jvm.MethodName)) ∈ lw_all := lw_g (lw_at lw_m6 6 rfl) rfl
theorem q1272 : (Jvm.Cond.code ({ cls := "TermIdealsModel", name := "goes", desc := "(II)V" } : Jvm.MethodName) prog_17_method_11_code (4 : Nat) (Option.none : Option Jvm.ClassFile.FieldType)) ∈ lw_all := lw_g (lw_at lw_m6 7 rfl) rfl
theorem q1274 : (Jvm.Cond.instanceMethod ({ cls := "TermIdealsModel", name := "clear", desc := "(I)I" } : Jvm.MethodName)) ∈ lw_all := lw_g (lw_at lw_m6 9 rfl) rfl
theorem q1275 : (Jvm.Cond.selects "TermIdealsModel" ({ cls := "TermIdealsModel", name := "clear", desc := "(I)I" } : Jvm.MethodName) ({ cls := "TermIdealsModel", name := "clear", desc := "(I)I" } : Jvm.MethodName)) ∈ lw_all := lw_g (lw_at lw_m6 10 rfl) rfl
theorem q1276 : (Jvm.Cond.code ({ cls := "TermIdealsModel", name := "clear", desc := "(I)I" } : Jvm.MethodName) prog_17_method_17_code (3 : Nat) (Option.some Jvm.ClassFile.FieldType.int)) ∈ lw_all := lw_g (lw_at lw_m6 11 rfl) rfl
theorem q1278 : (Jvm.Cond.instanceMethod ({ cls := "TermIdealsModel", name := "merge", desc := "(I)I" } : Jvm.MethodName)) ∈ lw_all := lw_g (lw_at lw_m6 13 rfl) rfl
theorem q1279 : (Jvm.Cond.selects "TermIdealsModel" ({ cls := "TermIdealsModel", name := "merge", desc := "(I)I" } : Jvm.MethodName) ({ cls := "TermIdealsModel", name := "merge", desc := "(I)I" } : Jvm.MethodName)) ∈ lw_all := lw_g (lw_at lw_m6 14 rfl) rfl
theorem q1280 : (Jvm.Cond.code ({ cls := "TermIdealsModel", name := "merge", desc := "(I)I" } : Jvm.MethodName) prog_17_method_18_code (5 : Nat) (Option.some Jvm.ClassFile.FieldType.int)) ∈ lw_all := lw_g (lw_at lw_m6 15 rfl) rfl
theorem q1282 : (Jvm.Cond.instanceMethod ({ cls := "TermIdealsModel", name := "close", desc := "(I)I" } : Jvm.MethodName)) ∈ lw_all := lw_g (lw_at lw_m6 17 rfl) rfl
theorem q1283 : (Jvm.Cond.selects "TermIdealsModel" ({ cls := "TermIdealsModel", name := "close", desc := "(I)I" } : Jvm.MethodName) ({ cls := "TermIdealsModel", name := "close", desc := "(I)I" } : Jvm.MethodName)) ∈ lw_all := lw_g (lw_at lw_m6 18 rfl) rfl
theorem q1284 : (Jvm.Cond.code ({ cls := "TermIdealsModel", name := "close", desc := "(I)I" } : Jvm.MethodName) prog_17_method_20_code (4 : Nat) (Option.some Jvm.ClassFile.FieldType.int)) ∈ lw_all := lw_g (lw_at lw_m6 19 rfl) rfl
theorem q1285 : (Jvm.Cond.methodLink "TermIdealsModel" (166 : Nat) ({ cls := "TermIdealsModel", name := "tellsFaces", desc := "(I)V" } : Jvm.MethodName)) ∈ lw_all := lw_g (lw_at lw_m6 20 rfl) rfl
theorem q1286 : (Jvm.Cond.privateMethod ({ cls := "TermIdealsModel", name := "tellsFaces", desc := "(I)V" } : Jvm.MethodName)) ∈ lw_tbl := lw_at lw_m6 21 rfl
theorem q1287 : (Jvm.Cond.instanceMethod ({ cls := "TermIdealsModel", name := "tellsFaces", desc := "(I)V" } : Jvm.MethodName)) ∈ lw_all := lw_g (lw_at lw_m6 22 rfl) rfl
theorem q1288 : (Jvm.Cond.code ({ cls := "TermIdealsModel", name := "tellsFaces", desc := "(I)V" } : Jvm.MethodName) prog_17_method_31_code (4 : Nat) (Option.none : Option Jvm.ClassFile.FieldType)) ∈ lw_all := lw_g (lw_at lw_m6 23 rfl) rfl
theorem q1289 : (Jvm.Cond.methodLink "TermIdealsModel" (227 : Nat) ({ cls := "TermIdealsModel", name := "comesFace", desc := "(III)V" } : Jvm.MethodName)) ∈ lw_all := lw_g (lw_at lw_m6 24 rfl) rfl
theorem q1290 : (Jvm.Cond.privateMethod ({ cls := "TermIdealsModel", name := "comesFace", desc := "(III)V" } : Jvm.MethodName)) ∈ lw_tbl := lw_at lw_m6 25 rfl
theorem q1291 : (Jvm.Cond.instanceMethod ({ cls := "TermIdealsModel", name := "comesFace", desc := "(III)V" } : Jvm.MethodName)) ∈ lw_all := lw_g (lw_at lw_m6 26 rfl) rfl
theorem q1292 : (Jvm.Cond.code ({ cls := "TermIdealsModel", name := "comesFace", desc := "(III)V" } : Jvm.MethodName) prog_17_method_30_code (5 : Nat) (Option.none : Option Jvm.ClassFile.FieldType)) ∈ lw_all := lw_g (lw_at lw_m6 27 rfl) rfl
theorem q1293 : (Jvm.Cond.methodLink "TermIdealsModel" (224 : Nat) ({ cls := "TermIdealsModel", name := "levelOf", desc := "(III)I" } : Jvm.MethodName)) ∈ lw_all := lw_g (lw_at lw_m6 28 rfl) rfl
theorem q1294 : (Jvm.Cond.privateMethod ({ cls := "TermIdealsModel", name := "levelOf", desc := "(III)I" } : Jvm.MethodName)) ∈ lw_tbl := lw_at lw_m6 29 rfl
theorem q1295 : (Jvm.Cond.instanceMethod ({ cls := "TermIdealsModel", name := "levelOf", desc := "(III)I" } : Jvm.MethodName)) ∈ lw_all := lw_g (lw_at lw_m6 30 rfl) rfl
theorem q1296 : (Jvm.Cond.code ({ cls := "TermIdealsModel", name := "levelOf", desc := "(III)I" } : Jvm.MethodName) prog_17_method_28_code (6 : Nat) (Option.some Jvm.ClassFile.FieldType.int)) ∈ lw_all := lw_g (lw_at lw_m6 31 rfl) rfl
theorem q1297 : (Jvm.Cond.methodLink "TermIdealsModel" (216 : Nat) ({ cls := "java/lang/Math", name := "min", desc := "(II)I" } : Jvm.MethodName)) ∈ lw_all := lw_g (lw_at lw_m6 32 rfl) rfl
theorem q1298 : (Jvm.Cond.methodLink "TermIdealsModel" (121 : Nat) ({ cls := "TermIdealsModel", name := "divisor", desc := "(JJ)J" } : Jvm.MethodName)) ∈ lw_all := lw_g (lw_at lw_m6 33 rfl) rfl
theorem q1299 : (Jvm.Cond.static ({ cls := "TermIdealsModel", name := "divisor", desc := "(JJ)J" } : Jvm.MethodName)) ∈ lw_all := lw_g (lw_at lw_m6 34 rfl) rfl
theorem q1300 : (Jvm.Cond.code ({ cls := "TermIdealsModel", name := "divisor", desc := "(JJ)J" } : Jvm.MethodName) prog_17_method_5_code (10 : Nat) (Option.some Jvm.ClassFile.FieldType.long)) ∈ lw_all := lw_g (lw_at lw_m6 35 rfl) rfl
theorem q1301 : (Jvm.Cond.methodLink "TermIdealsModel" (230 : Nat) ({ cls := "TermIdealsModel", name := "metBy", desc := "(IIII)I" } : Jvm.MethodName)) ∈ lw_all := lw_g (lw_at lw_m6 36 rfl) rfl
theorem q1302 : (Jvm.Cond.privateMethod ({ cls := "TermIdealsModel", name := "metBy", desc := "(IIII)I" } : Jvm.MethodName)) ∈ lw_tbl := lw_at lw_m6 37 rfl
theorem q1303 : (Jvm.Cond.instanceMethod ({ cls := "TermIdealsModel", name := "metBy", desc := "(IIII)I" } : Jvm.MethodName)) ∈ lw_all := lw_g (lw_at lw_m6 38 rfl) rfl
theorem q1304 : (Jvm.Cond.code ({ cls := "TermIdealsModel", name := "metBy", desc := "(IIII)I" } : Jvm.MethodName) prog_17_method_29_code (7 : Nat) (Option.some Jvm.ClassFile.FieldType.int)) ∈ lw_all := lw_g (lw_at lw_m6 39 rfl) rfl
theorem q1305 : (Jvm.Cond.methodLink "TermIdealsModel" (169 : Nat) ({ cls := "TermIdealsModel", name := "isCorner", desc := "(II)Z" } : Jvm.MethodName)) ∈ lw_all := lw_g (lw_at lw_m6 40 rfl) rfl
theorem q1306 : (Jvm.Cond.privateMethod ({ cls := "TermIdealsModel", name := "isCorner", desc := "(II)Z" } : Jvm.MethodName)) ∈ lw_tbl := lw_at lw_m6 41 rfl
theorem q1307 : (Jvm.Cond.instanceMethod ({ cls := "TermIdealsModel", name := "isCorner", desc := "(II)Z" } : Jvm.MethodName)) ∈ lw_all := lw_g (lw_at lw_m6 42 rfl) rfl
theorem q1308 : (Jvm.Cond.code ({ cls := "TermIdealsModel", name := "isCorner", desc := "(II)Z" } : Jvm.MethodName) prog_17_method_19_code (3 : Nat) (Option.some Jvm.ClassFile.FieldType.boolean)) ∈ lw_all := lw_g (lw_at lw_m6 43 rfl) rfl
theorem q1309 : (Jvm.Cond.methodLink "TermIdealsModel" (163 : Nat) ({ cls := "TermIdealsModel", name := "isInHull", desc := "(II)Z" } : Jvm.MethodName)) ∈ lw_all := lw_g (lw_at lw_m6 44 rfl) rfl
theorem q1310 : (Jvm.Cond.privateMethod ({ cls := "TermIdealsModel", name := "isInHull", desc := "(II)Z" } : Jvm.MethodName)) ∈ lw_tbl := lw_at lw_m6 45 rfl
theorem q1311 : (Jvm.Cond.instanceMethod ({ cls := "TermIdealsModel", name := "isInHull", desc := "(II)Z" } : Jvm.MethodName)) ∈ lw_all := lw_g (lw_at lw_m6 46 rfl) rfl
theorem q1312 : (Jvm.Cond.code ({ cls := "TermIdealsModel", name := "isInHull", desc := "(II)Z" } : Jvm.MethodName) prog_17_method_32_code (5 : Nat) (Option.some Jvm.ClassFile.FieldType.boolean)) ∈ lw_all := lw_g (lw_at lw_m6 47 rfl) rfl
theorem q1314 : (Jvm.Cond.instanceMethod ({ cls := "TermIdealsModel", name := "back", desc := "()I" } : Jvm.MethodName)) ∈ lw_all := lw_g (lw_at lw_m6 49 rfl) rfl
theorem q1315 : (Jvm.Cond.selects "TermIdealsModel" ({ cls := "TermIdealsModel", name := "back", desc := "()I" } : Jvm.MethodName) ({ cls := "TermIdealsModel", name := "back", desc := "()I" } : Jvm.MethodName)) ∈ lw_all := lw_g (lw_at lw_m6 50 rfl) rfl
theorem q1316 : (Jvm.Cond.code ({ cls := "TermIdealsModel", name := "back", desc := "()I" } : Jvm.MethodName) prog_17_method_21_code (3 : Nat) (Option.some Jvm.ClassFile.FieldType.int)) ∈ lw_all := lw_g (lw_at lw_m6 51 rfl) rfl
theorem q1318 : (Jvm.Cond.instanceMethod ({ cls := "TermIdealsModel", name := "feed", desc := "(I)I" } : Jvm.MethodName)) ∈ lw_all := lw_g (lw_at lw_m6 53 rfl) rfl
theorem q1319 : (Jvm.Cond.selects "TermIdealsModel" ({ cls := "TermIdealsModel", name := "feed", desc := "(I)I" } : Jvm.MethodName) ({ cls := "TermIdealsModel", name := "feed", desc := "(I)I" } : Jvm.MethodName)) ∈ lw_all := lw_g (lw_at lw_m6 54 rfl) rfl
theorem q1320 : (Jvm.Cond.code ({ cls := "TermIdealsModel", name := "feed", desc := "(I)I" } : Jvm.MethodName) prog_17_method_22_code (2 : Nat) (Option.some Jvm.ClassFile.FieldType.int)) ∈ lw_all := lw_g (lw_at lw_m6 55 rfl) rfl
theorem q1321 : (Jvm.Cond.constantLong "TermIdealsModel" (172 : Nat) (127 : Int64)) ∈ lw_all := lw_g (lw_at lw_m6 56 rfl) rfl
theorem q1323 : (Jvm.Cond.instanceMethod ({ cls := "TermIdealsModel", name := "read", desc := "()I" } : Jvm.MethodName)) ∈ lw_all := lw_g (lw_at lw_m6 58 rfl) rfl
theorem q1324 : (Jvm.Cond.selects "TermIdealsModel" ({ cls := "TermIdealsModel", name := "read", desc := "()I" } : Jvm.MethodName) ({ cls := "TermIdealsModel", name := "read", desc := "()I" } : Jvm.MethodName)) ∈ lw_all := lw_g (lw_at lw_m6 59 rfl) rfl
theorem q1325 : (Jvm.Cond.code ({ cls := "TermIdealsModel", name := "read", desc := "()I" } : Jvm.MethodName) prog_17_method_27_code (4 : Nat) (Option.some Jvm.ClassFile.FieldType.int)) ∈ lw_all := lw_g (lw_at lw_m6 60 rfl) rfl
theorem q1326 : (Jvm.Cond.methodLink "TermIdealsModel" (210 : Nat) ({ cls := "TermIdealsModel", name := "clauses", desc := "()I" } : Jvm.MethodName)) ∈ lw_all := lw_g (lw_at lw_m6 61 rfl) rfl
theorem q1327 : (Jvm.Cond.privateMethod ({ cls := "TermIdealsModel", name := "clauses", desc := "()I" } : Jvm.MethodName)) ∈ lw_tbl := lw_at lw_m6 62 rfl
theorem q1328 : (Jvm.Cond.instanceMethod ({ cls := "TermIdealsModel", name := "clauses", desc := "()I" } : Jvm.MethodName)) ∈ lw_all := lw_g (lw_at lw_m6 63 rfl) rfl
theorem q1329 : (Jvm.Cond.code ({ cls := "TermIdealsModel", name := "clauses", desc := "()I" } : Jvm.MethodName) prog_17_method_26_code (3 : Nat) (Option.some Jvm.ClassFile.FieldType.int)) ∈ lw_all := lw_g (lw_at lw_m6 64 rfl) rfl
theorem q1330 : (Jvm.Cond.methodLink "TermIdealsModel" (207 : Nat) ({ cls := "TermIdealsModel", name := "clause", desc := "()I" } : Jvm.MethodName)) ∈ lw_all := lw_g (lw_at lw_m6 65 rfl) rfl
theorem q1331 : (Jvm.Cond.privateMethod ({ cls := "TermIdealsModel", name := "clause", desc := "()I" } : Jvm.MethodName)) ∈ lw_tbl := lw_at lw_m6 66 rfl
theorem q1332 : (Jvm.Cond.instanceMethod ({ cls := "TermIdealsModel", name := "clause", desc := "()I" } : Jvm.MethodName)) ∈ lw_all := lw_g (lw_at lw_m6 67 rfl) rfl
theorem q1333 : (Jvm.Cond.code ({ cls := "TermIdealsModel", name := "clause", desc := "()I" } : Jvm.MethodName) prog_17_method_24_code (4 : Nat) (Option.some Jvm.ClassFile.FieldType.int)) ∈ lw_all := lw_g (lw_at lw_m6 68 rfl) rfl
theorem q1334 : (Jvm.Cond.methodLink "TermIdealsModel" (180 : Nat) ({ cls := "TermIdealsModel", name := "digitsOf", desc := "(I)I" } : Jvm.MethodName)) ∈ lw_all := lw_g (lw_at lw_m6 69 rfl) rfl
theorem q1335 : (Jvm.Cond.static ({ cls := "TermIdealsModel", name := "digitsOf", desc := "(I)I" } : Jvm.MethodName)) ∈ lw_all := lw_g (lw_at lw_m6 70 rfl) rfl
theorem q1336 : (Jvm.Cond.code ({ cls := "TermIdealsModel", name := "digitsOf", desc := "(I)I" } : Jvm.MethodName) prog_17_method_23_code (1 : Nat) (Option.some Jvm.ClassFile.FieldType.int)) ∈ lw_all := lw_g (lw_at lw_m6 71 rfl) rfl
theorem q1337 : (Jvm.Cond.constantLong "TermIdealsModel" (184 : Nat) (48 : Int64)) ∈ lw_all := lw_g (lw_at lw_m6 72 rfl) rfl
theorem q1338 : (Jvm.Cond.constantLong "TermIdealsModel" (186 : Nat) (57 : Int64)) ∈ lw_all := lw_g (lw_at lw_m6 73 rfl) rfl
theorem q1339 : (Jvm.Cond.methodLink "TermIdealsModel" (213 : Nat) ({ cls := "TermIdealsModel", name := "isDone", desc := "(I)Z" } : Jvm.MethodName)) ∈ lw_all := lw_g (lw_at lw_m6 74 rfl) rfl
theorem q1340 : (Jvm.Cond.privateMethod ({ cls := "TermIdealsModel", name := "isDone", desc := "(I)Z" } : Jvm.MethodName)) ∈ lw_tbl := lw_at lw_m6 75 rfl
theorem q1341 : (Jvm.Cond.instanceMethod ({ cls := "TermIdealsModel", name := "isDone", desc := "(I)Z" } : Jvm.MethodName)) ∈ lw_all := lw_g (lw_at lw_m6 76 rfl) rfl
theorem q1342 : (Jvm.Cond.code ({ cls := "TermIdealsModel", name := "isDone", desc := "(I)Z" } : Jvm.MethodName) prog_17_method_25_code (2 : Nat) (Option.some Jvm.ClassFile.FieldType.boolean)) ∈ lw_all := lw_g (lw_at lw_m6 77 rfl) rfl
theorem q1343 : (Jvm.Cond.methodLink "TermIdealsModel" (188 : Nat) ({ cls := "TermIdealsModel", name := "generate", desc := "(III)I" } : Jvm.MethodName)) ∈ lw_all := lw_g (lw_at lw_m6 78 rfl) rfl
theorem q1344 : (Jvm.Cond.methodLink "TermIdealsModel" (191 : Nat) ({ cls := "TermIdealsModel", name := "drop", desc := "(II)I" } : Jvm.MethodName)) ∈ lw_all := lw_g (lw_at lw_m6 79 rfl) rfl
theorem q1345 : (Jvm.Cond.methodLink "TermIdealsModel" (194 : Nat) ({ cls := "TermIdealsModel", name := "clear", desc := "(I)I" } : Jvm.MethodName)) ∈ lw_all := lw_g (lw_at lw_m6 80 rfl) rfl
theorem q1346 : (Jvm.Cond.methodLink "TermIdealsModel" (197 : Nat) ({ cls := "TermIdealsModel", name := "close", desc := "(I)I" } : Jvm.MethodName)) ∈ lw_all := lw_g (lw_at lw_m6 81 rfl) rfl
theorem q1347 : (Jvm.Cond.methodLink "TermIdealsModel" (200 : Nat) ({ cls := "TermIdealsModel", name := "merge", desc := "(I)I" } : Jvm.MethodName)) ∈ lw_all := lw_g (lw_at lw_m6 82 rfl) rfl
theorem q1348 : (Jvm.Cond.methodLink "TermIdealsModel" (203 : Nat) ({ cls := "TermIdealsModel", name := "back", desc := "()I" } : Jvm.MethodName)) ∈ lw_all := lw_g (lw_at lw_m6 83 rfl) rfl
theorem q1350 : (Jvm.Cond.instanceMethod ({ cls := "TermIdealsModel", name := "of", desc := "(III)I" } : Jvm.MethodName)) ∈ lw_all := lw_g (lw_at lw_m6 85 rfl) rfl
theorem q1351 : (Jvm.Cond.selects "TermIdealsModel" ({ cls := "TermIdealsModel", name := "of", desc := "(III)I" } : Jvm.MethodName) ({ cls := "TermIdealsModel", name := "of", desc := "(III)I" } : Jvm.MethodName)) ∈ lw_all := lw_g (lw_at lw_m6 86 rfl) rfl
theorem q1352 : (Jvm.Cond.code ({ cls := "TermIdealsModel", name := "of", desc := "(III)I" } : Jvm.MethodName) prog_17_method_37_code (4 : Nat) (Option.some Jvm.ClassFile.FieldType.int)) ∈ lw_all := lw_g (lw_at lw_m6 87 rfl) rfl
theorem q1353 : (Jvm.Cond.constantLong "TermIdealsModel" (241 : Nat) (2 : Int64)) ∈ lw_all := lw_g (lw_at lw_m6 88 rfl) rfl
theorem q1354 : (Jvm.Cond.methodLink "TermIdealsModel" (238 : Nat) ({ cls := "TermIdealsModel", name := "isLeast", desc := "(II)Z" } : Jvm.MethodName)) ∈ lw_all := lw_g (lw_at lw_m6 89 rfl) rfl
theorem q1355 : (Jvm.Cond.privateMethod ({ cls := "TermIdealsModel", name := "isLeast", desc := "(II)Z" } : Jvm.MethodName)) ∈ lw_tbl := lw_at lw_m6 90 rfl
theorem q1356 : (Jvm.Cond.instanceMethod ({ cls := "TermIdealsModel", name := "isLeast", desc := "(II)Z" } : Jvm.MethodName)) ∈ lw_all := lw_g (lw_at lw_m6 91 rfl) rfl
theorem q1357 : (Jvm.Cond.code ({ cls := "TermIdealsModel", name := "isLeast", desc := "(II)Z" } : Jvm.MethodName) prog_17_method_35_code (5 : Nat) (Option.some Jvm.ClassFile.FieldType.boolean)) ∈ lw_all := lw_g (lw_at lw_m6 92 rfl) rfl
theorem q1359 : (Jvm.Cond.instanceMethod ({ cls := "TermIdealsModel", name := "told", desc := "(II)I" } : Jvm.MethodName)) ∈ lw_all := lw_g (lw_at lw_m6 94 rfl) rfl
theorem q1360 : (Jvm.Cond.selects "TermIdealsModel" ({ cls := "TermIdealsModel", name := "told", desc := "(II)I" } : Jvm.MethodName) ({ cls := "TermIdealsModel", name := "told", desc := "(II)I" } : Jvm.MethodName)) ∈ lw_all := lw_g (lw_at lw_m6 95 rfl) rfl
theorem q1361 : (Jvm.Cond.code ({ cls := "TermIdealsModel", name := "told", desc := "(II)I" } : Jvm.MethodName) prog_17_method_38_code (3 : Nat) (Option.some Jvm.ClassFile.FieldType.int)) ∈ lw_all := lw_g (lw_at lw_m6 96 rfl) rfl
theorem q1362 : (Jvm.Cond.constantLong "TermIdealsModel" (243 : Nat) (4 : Int64)) ∈ lw_all := lw_g (lw_at lw_m6 97 rfl) rfl
theorem q1363 : (Jvm.Cond.methodLink "TermIdealsModel" (245 : Nat) ({ cls := "TermIdealsModel", name := "leastMany", desc := "(I)I" } : Jvm.MethodName)) ∈ lw_all := lw_g (lw_at lw_m6 98 rfl) rfl
theorem q1364 : (Jvm.Cond.privateMethod ({ cls := "TermIdealsModel", name := "leastMany", desc := "(I)I" } : Jvm.MethodName)) ∈ lw_tbl := lw_at lw_m6 99 rfl
theorem q1365 : (Jvm.Cond.instanceMethod ({ cls := "TermIdealsModel", name := "leastMany", desc := "(I)I" } : Jvm.MethodName)) ∈ lw_all := lw_g (lw_at lw_m6 100 rfl) rfl
theorem q1366 : (Jvm.Cond.code ({ cls := "TermIdealsModel", name := "leastMany", desc := "(I)I" } : Jvm.MethodName) prog_17_method_36_code (4 : Nat) (Option.some Jvm.ClassFile.FieldType.int)) ∈ lw_all := lw_g (lw_at lw_m6 101 rfl) rfl
theorem q1367 : (Jvm.Cond.methodLink "TermIdealsModel" (248 : Nat) ({ cls := "TermIdealsModel", name := "asked", desc := "(II)I" } : Jvm.MethodName)) ∈ lw_all := lw_g (lw_at lw_m6 102 rfl) rfl
theorem q1368 : (Jvm.Cond.privateMethod ({ cls := "TermIdealsModel", name := "asked", desc := "(II)I" } : Jvm.MethodName)) ∈ lw_tbl := lw_at lw_m6 103 rfl
theorem q1369 : (Jvm.Cond.instanceMethod ({ cls := "TermIdealsModel", name := "asked", desc := "(II)I" } : Jvm.MethodName)) ∈ lw_all := lw_g (lw_at lw_m6 104 rfl) rfl
theorem q1370 : (Jvm.Cond.code ({ cls := "TermIdealsModel", name := "asked", desc := "(II)I" } : Jvm.MethodName) prog_17_method_39_code (3 : Nat) (Option.some Jvm.ClassFile.FieldType.int)) ∈ lw_all := lw_g (lw_at lw_m6 105 rfl) rfl
theorem q1371 : (Jvm.Cond.methodLink "TermIdealsModel" (251 : Nat) ({ cls := "TermIdealsModel", name := "isClosed", desc := "(I)Z" } : Jvm.MethodName)) ∈ lw_all := lw_g (lw_at lw_m6 106 rfl) rfl
theorem q1372 : (Jvm.Cond.privateMethod ({ cls := "TermIdealsModel", name := "isClosed", desc := "(I)Z" } : Jvm.MethodName)) ∈ lw_tbl := lw_at lw_m6 107 rfl
theorem q1373 : (Jvm.Cond.instanceMethod ({ cls := "TermIdealsModel", name := "isClosed", desc := "(I)Z" } : Jvm.MethodName)) ∈ lw_all := lw_g (lw_at lw_m6 108 rfl) rfl
theorem q1374 : (Jvm.Cond.code ({ cls := "TermIdealsModel", name := "isClosed", desc := "(I)Z" } : Jvm.MethodName) prog_17_method_34_code (4 : Nat) (Option.some Jvm.ClassFile.FieldType.boolean)) ∈ lw_all := lw_g (lw_at lw_m6 109 rfl) rfl
theorem q1375 : (Jvm.Cond.methodLink "TermIdealsModel" (234 : Nat) ({ cls := "TermIdealsModel", name := "isWithin", desc := "(III)Z" } : Jvm.MethodName)) ∈ lw_all := lw_g (lw_at lw_m6 110 rfl) rfl
theorem q1376 : (Jvm.Cond.privateMethod ({ cls := "TermIdealsModel", name := "isWithin", desc := "(III)Z" } : Jvm.MethodName)) ∈ lw_tbl := lw_at lw_m6 111 rfl
theorem q1377 : (Jvm.Cond.instanceMethod ({ cls := "TermIdealsModel", name := "isWithin", desc := "(III)Z" } : Jvm.MethodName)) ∈ lw_all := lw_g (lw_at lw_m6 112 rfl) rfl
theorem q1378 : (Jvm.Cond.code ({ cls := "TermIdealsModel", name := "isWithin", desc := "(III)Z" } : Jvm.MethodName) prog_17_method_33_code (6 : Nat) (Option.some Jvm.ClassFile.FieldType.boolean)) ∈ lw_all := lw_g (lw_at lw_m6 113 rfl) rfl
theorem q1379 : (Jvm.Cond.methodLink "TermIdealsModel" (254 : Nat) ({ cls := "TermIdealsModel", name := "tellsJumps", desc := "()V" } : Jvm.MethodName)) ∈ lw_all := lw_g (lw_at lw_m6 114 rfl) rfl
theorem q1380 : (Jvm.Cond.privateMethod ({ cls := "TermIdealsModel", name := "tellsJumps", desc := "()V" } : Jvm.MethodName)) ∈ lw_tbl := lw_at lw_m6 115 rfl
theorem q1381 : (Jvm.Cond.instanceMethod ({ cls := "TermIdealsModel", name := "tellsJumps", desc := "()V" } : Jvm.MethodName)) ∈ lw_all := lw_g (lw_at lw_m6 116 rfl) rfl
theorem q1382 : (Jvm.Cond.code ({ cls := "TermIdealsModel", name := "tellsJumps", desc := "()V" } : Jvm.MethodName) prog_17_method_50_code (4 : Nat) (Option.none : Option Jvm.ClassFile.FieldType)) ∈ lw_all := lw_g (lw_at lw_m6 117 rfl) rfl
theorem q1383 : (Jvm.Cond.methodLink "TermIdealsModel" (273 : Nat) ({ cls := "TermIdealsModel", name := "jumpFace", desc := "(II)I" } : Jvm.MethodName)) ∈ lw_all := lw_g (lw_at lw_m6 118 rfl) rfl
theorem q1384 : (Jvm.Cond.privateMethod ({ cls := "TermIdealsModel", name := "jumpFace", desc := "(II)I" } : Jvm.MethodName)) ∈ lw_tbl := lw_at lw_m6 119 rfl
theorem q1385 : (Jvm.Cond.instanceMethod ({ cls := "TermIdealsModel", name := "jumpFace", desc := "(II)I" } : Jvm.MethodName)) ∈ lw_all := lw_g (lw_at lw_m6 120 rfl) rfl
theorem q1386 : (Jvm.Cond.code ({ cls := "TermIdealsModel", name := "jumpFace", desc := "(II)I" } : Jvm.MethodName) prog_17_method_47_code (5 : Nat) (Option.some Jvm.ClassFile.FieldType.int)) ∈ lw_all := lw_g (lw_at lw_m6 121 rfl) rfl
theorem q1387 : (Jvm.Cond.methodLink "TermIdealsModel" (260 : Nat) ({ cls := "TermIdealsModel", name := "heavy", desc := "(III)I" } : Jvm.MethodName)) ∈ lw_all := lw_g (lw_at lw_m6 122 rfl) rfl
theorem q1388 : (Jvm.Cond.privateMethod ({ cls := "TermIdealsModel", name := "heavy", desc := "(III)I" } : Jvm.MethodName)) ∈ lw_tbl := lw_at lw_m6 123 rfl
theorem q1389 : (Jvm.Cond.instanceMethod ({ cls := "TermIdealsModel", name := "heavy", desc := "(III)I" } : Jvm.MethodName)) ∈ lw_all := lw_g (lw_at lw_m6 124 rfl) rfl
theorem q1390 : (Jvm.Cond.code ({ cls := "TermIdealsModel", name := "heavy", desc := "(III)I" } : Jvm.MethodName) prog_17_method_42_code (4 : Nat) (Option.some Jvm.ClassFile.FieldType.int)) ∈ lw_all := lw_g (lw_at lw_m6 125 rfl) rfl
theorem q1391 : (Jvm.Cond.methodLink "TermIdealsModel" (276 : Nat) ({ cls := "TermIdealsModel", name := "part", desc := "(JJI)J" } : Jvm.MethodName)) ∈ lw_all := lw_g (lw_at lw_m6 126 rfl) rfl
theorem q1392 : (Jvm.Cond.static ({ cls := "TermIdealsModel", name := "part", desc := "(JJI)J" } : Jvm.MethodName)) ∈ lw_all := lw_g (lw_at lw_m6 127 rfl) rfl
theorem q1393 : (Jvm.Cond.code ({ cls := "TermIdealsModel", name := "part", desc := "(JJI)J" } : Jvm.MethodName) prog_17_method_6_code (7 : Nat) (Option.some Jvm.ClassFile.FieldType.long)) ∈ lw_all := lw_g (lw_at lw_m6 128 rfl) rfl
theorem q1394 : (Jvm.Cond.methodLink "TermIdealsModel" (280 : Nat) ({ cls := "TermIdealsModel", name := "comesJump", desc := "(II)V" } : Jvm.MethodName)) ∈ lw_all := lw_g (lw_at lw_m6 129 rfl) rfl
theorem q1395 : (Jvm.Cond.privateMethod ({ cls := "TermIdealsModel", name := "comesJump", desc := "(II)V" } : Jvm.MethodName)) ∈ lw_tbl := lw_at lw_m6 130 rfl
theorem q1396 : (Jvm.Cond.instanceMethod ({ cls := "TermIdealsModel", name := "comesJump", desc := "(II)V" } : Jvm.MethodName)) ∈ lw_all := lw_g (lw_at lw_m6 131 rfl) rfl
theorem q1397 : (Jvm.Cond.code ({ cls := "TermIdealsModel", name := "comesJump", desc := "(II)V" } : Jvm.MethodName) prog_17_method_49_code (5 : Nat) (Option.none : Option Jvm.ClassFile.FieldType)) ∈ lw_all := lw_g (lw_at lw_m6 132 rfl) rfl
theorem q1399 : (Jvm.Cond.instanceMethod ({ cls := "TermIdealsModel", name := "in", desc := "(IIII)I" } : Jvm.MethodName)) ∈ lw_all := lw_g (lw_at lw_m6 134 rfl) rfl
theorem q1400 : (Jvm.Cond.selects "TermIdealsModel" ({ cls := "TermIdealsModel", name := "in", desc := "(IIII)I" } : Jvm.MethodName) ({ cls := "TermIdealsModel", name := "in", desc := "(IIII)I" } : Jvm.MethodName)) ∈ lw_all := lw_g (lw_at lw_m6 135 rfl) rfl
theorem q1401 : (Jvm.Cond.code ({ cls := "TermIdealsModel", name := "in", desc := "(IIII)I" } : Jvm.MethodName) prog_17_method_40_code (5 : Nat) (Option.some Jvm.ClassFile.FieldType.int)) ∈ lw_all := lw_g (lw_at lw_m6 136 rfl) rfl
theorem q1403 : (Jvm.Cond.instanceMethod ({ cls := "TermIdealsModel", name := "face", desc := "(III)I" } : Jvm.MethodName)) ∈ lw_all := lw_g (lw_at lw_m6 138 rfl) rfl
theorem q1404 : (Jvm.Cond.selects "TermIdealsModel" ({ cls := "TermIdealsModel", name := "face", desc := "(III)I" } : Jvm.MethodName) ({ cls := "TermIdealsModel", name := "face", desc := "(III)I" } : Jvm.MethodName)) ∈ lw_all := lw_g (lw_at lw_m6 139 rfl) rfl
theorem q1405 : (Jvm.Cond.code ({ cls := "TermIdealsModel", name := "face", desc := "(III)I" } : Jvm.MethodName) prog_17_method_41_code (4 : Nat) (Option.some Jvm.ClassFile.FieldType.int)) ∈ lw_all := lw_g (lw_at lw_m6 140 rfl) rfl
theorem q1407 : (Jvm.Cond.instanceMethod ({ cls := "TermIdealsModel", name := "held", desc := "(IIIII)I" } : Jvm.MethodName)) ∈ lw_all := lw_g (lw_at lw_m6 142 rfl) rfl
theorem q1408 : (Jvm.Cond.selects "TermIdealsModel" ({ cls := "TermIdealsModel", name := "held", desc := "(IIIII)I" } : Jvm.MethodName) ({ cls := "TermIdealsModel", name := "held", desc := "(IIIII)I" } : Jvm.MethodName)) ∈ lw_all := lw_g (lw_at lw_m6 143 rfl) rfl
theorem q1409 : (Jvm.Cond.code ({ cls := "TermIdealsModel", name := "held", desc := "(IIIII)I" } : Jvm.MethodName) prog_17_method_45_code (6 : Nat) (Option.some Jvm.ClassFile.FieldType.int)) ∈ lw_all := lw_g (lw_at lw_m6 144 rfl) rfl
theorem q1410 : (Jvm.Cond.methodLink "TermIdealsModel" (265 : Nat) ({ cls := "TermIdealsModel", name := "isFraction", desc := "(II)Z" } : Jvm.MethodName)) ∈ lw_all := lw_g (lw_at lw_m6 145 rfl) rfl
theorem q1411 : (Jvm.Cond.static ({ cls := "TermIdealsModel", name := "isFraction", desc := "(II)Z" } : Jvm.MethodName)) ∈ lw_all := lw_g (lw_at lw_m6 146 rfl) rfl
theorem q1412 : (Jvm.Cond.code ({ cls := "TermIdealsModel", name := "isFraction", desc := "(II)Z" } : Jvm.MethodName) prog_17_method_44_code (2 : Nat) (Option.some Jvm.ClassFile.FieldType.boolean)) ∈ lw_all := lw_g (lw_at lw_m6 147 rfl) rfl
theorem q1413 : (Jvm.Cond.constantLong "TermIdealsModel" (263 : Nat) (99 : Int64)) ∈ lw_all := lw_g (lw_at lw_m6 148 rfl) rfl
theorem q1414 : (Jvm.Cond.methodLink "TermIdealsModel" (268 : Nat) ({ cls := "TermIdealsModel", name := "barring", desc := "(IIII)I" } : Jvm.MethodName)) ∈ lw_all := lw_g (lw_at lw_m6 149 rfl) rfl
theorem q1415 : (Jvm.Cond.privateMethod ({ cls := "TermIdealsModel", name := "barring", desc := "(IIII)I" } : Jvm.MethodName)) ∈ lw_tbl := lw_at lw_m6 150 rfl
theorem q1416 : (Jvm.Cond.instanceMethod ({ cls := "TermIdealsModel", name := "barring", desc := "(IIII)I" } : Jvm.MethodName)) ∈ lw_all := lw_g (lw_at lw_m6 151 rfl) rfl
theorem q1417 : (Jvm.Cond.code ({ cls := "TermIdealsModel", name := "barring", desc := "(IIII)I" } : Jvm.MethodName) prog_17_method_43_code (6 : Nat) (Option.some Jvm.ClassFile.FieldType.int)) ∈ lw_all := lw_g (lw_at lw_m6 152 rfl) rfl
theorem q1419 : (Jvm.Cond.instanceMethod ({ cls := "TermIdealsModel", name := "reason", desc := "(IIIIII)I" } : Jvm.MethodName)) ∈ lw_all := lw_g (lw_at lw_m6 154 rfl) rfl
theorem q1420 : (Jvm.Cond.selects "TermIdealsModel" ({ cls := "TermIdealsModel", name := "reason", desc := "(IIIIII)I" } : Jvm.MethodName) ({ cls := "TermIdealsModel", name := "reason", desc := "(IIIIII)I" } : Jvm.MethodName)) ∈ lw_all := lw_g (lw_at lw_m6 155 rfl) rfl
theorem q1421 : (Jvm.Cond.code ({ cls := "TermIdealsModel", name := "reason", desc := "(IIIIII)I" } : Jvm.MethodName) prog_17_method_46_code (8 : Nat) (Option.some Jvm.ClassFile.FieldType.int)) ∈ lw_all := lw_g (lw_at lw_m6 156 rfl) rfl
theorem q1423 : (Jvm.Cond.instanceMethod ({ cls := "TermIdealsModel", name := "jump", desc := "(IIII)J" } : Jvm.MethodName)) ∈ lw_all := lw_g (lw_at lw_m6 158 rfl) rfl
theorem q1424 : (Jvm.Cond.selects "TermIdealsModel" ({ cls := "TermIdealsModel", name := "jump", desc := "(IIII)J" } : Jvm.MethodName) ({ cls := "TermIdealsModel", name := "jump", desc := "(IIII)J" } : Jvm.MethodName)) ∈ lw_all := lw_g (lw_at lw_m6 159 rfl) rfl
theorem q1425 : (Jvm.Cond.code ({ cls := "TermIdealsModel", name := "jump", desc := "(IIII)J" } : Jvm.MethodName) prog_17_method_48_code (6 : Nat) (Option.some Jvm.ClassFile.FieldType.long)) ∈ lw_all := lw_g (lw_at lw_m6 160 rfl) rfl
theorem q1426 : (Jvm.Cond.constantLong "TermIdealsModel" (271 : Nat) (-9223372036854775808 : Int64)) ∈ lw_all := lw_g (lw_at lw_m6 161 rfl) rfl
theorem q1428 : (Jvm.Cond.instanceMethod ({ cls := "TermIdealsModel", name := "jumps", desc := "(III)J" } : Jvm.MethodName)) ∈ lw_all := lw_g (lw_at lw_m6 163 rfl) rfl
theorem q1429 : (Jvm.Cond.selects "TermIdealsModel" ({ cls := "TermIdealsModel", name := "jumps", desc := "(III)J" } : Jvm.MethodName) ({ cls := "TermIdealsModel", name := "jumps", desc := "(III)J" } : Jvm.MethodName)) ∈ lw_all := lw_g (lw_at lw_m6 164 rfl) rfl
theorem q1430 : (Jvm.Cond.code ({ cls := "TermIdealsModel", name := "jumps", desc := "(III)J" } : Jvm.MethodName) prog_17_method_51_code (4 : Nat) (Option.some Jvm.ClassFile.FieldType.long)) ∈ lw_all := lw_g (lw_at lw_m6 165 rfl) rfl
theorem q1432 : (Jvm.Cond.instanceMethod ({ cls := "TermIdealsModel", name := "lacks", desc := "(III)I" } : Jvm.MethodName)) ∈ lw_all := lw_g (lw_at lw_m6 167 rfl) rfl
theorem q1433 : (Jvm.Cond.selects "TermIdealsModel" ({ cls := "TermIdealsModel", name := "lacks", desc := "(III)I" } : Jvm.MethodName) ({ cls := "TermIdealsModel", name := "lacks", desc := "(III)I" } : Jvm.MethodName)) ∈ lw_all := lw_g (lw_at lw_m6 168 rfl) rfl
theorem q1434 : (Jvm.Cond.code ({ cls := "TermIdealsModel", name := "lacks", desc := "(III)I" } : Jvm.MethodName) prog_17_method_53_code (4 : Nat) (Option.some Jvm.ClassFile.FieldType.int)) ∈ lw_all := lw_g (lw_at lw_m6 169 rfl) rfl
theorem q1435 : (Jvm.Cond.methodLink "TermIdealsModel" (283 : Nat) ({ cls := "TermIdealsModel", name := "lacking", desc := "(III)I" } : Jvm.MethodName)) ∈ lw_all := lw_g (lw_at lw_m6 170 rfl) rfl
theorem q1436 : (Jvm.Cond.privateMethod ({ cls := "TermIdealsModel", name := "lacking", desc := "(III)I" } : Jvm.MethodName)) ∈ lw_tbl := lw_at lw_m6 171 rfl
theorem q1437 : (Jvm.Cond.instanceMethod ({ cls := "TermIdealsModel", name := "lacking", desc := "(III)I" } : Jvm.MethodName)) ∈ lw_all := lw_g (lw_at lw_m6 172 rfl) rfl
theorem q1438 : (Jvm.Cond.code ({ cls := "TermIdealsModel", name := "lacking", desc := "(III)I" } : Jvm.MethodName) prog_17_method_52_code (6 : Nat) (Option.some Jvm.ClassFile.FieldType.int)) ∈ lw_all := lw_g (lw_at lw_m6 173 rfl) rfl
theorem q1440 : (Jvm.Cond.instanceMethod ({ cls := "TermIdealsModel", name := "height", desc := "(III)I" } : Jvm.MethodName)) ∈ lw_all := lw_g (lw_at lw_m6 175 rfl) rfl
theorem q1441 : (Jvm.Cond.selects "TermIdealsModel" ({ cls := "TermIdealsModel", name := "height", desc := "(III)I" } : Jvm.MethodName) ({ cls := "TermIdealsModel", name := "height", desc := "(III)I" } : Jvm.MethodName)) ∈ lw_all := lw_g (lw_at lw_m6 176 rfl) rfl
theorem q1442 : (Jvm.Cond.code ({ cls := "TermIdealsModel", name := "height", desc := "(III)I" } : Jvm.MethodName) prog_17_method_61_code (4 : Nat) (Option.some Jvm.ClassFile.FieldType.int)) ∈ lw_all := lw_g (lw_at lw_m6 177 rfl) rfl
theorem q1443 : (Jvm.Cond.constantLong "TermIdealsModel" (304 : Nat) (10 : Int64)) ∈ lw_all := lw_g (lw_at lw_m6 178 rfl) rfl
theorem q1444 : (Jvm.Cond.constantLong "TermIdealsModel" (306 : Nat) (16 : Int64)) ∈ lw_all := lw_g (lw_at lw_m6 179 rfl) rfl
theorem q1445 : (Jvm.Cond.constantLong "TermIdealsModel" (308 : Nat) (60 : Int64)) ∈ lw_all := lw_g (lw_at lw_m6 180 rfl) rfl
theorem q1446 : (Jvm.Cond.methodLink "TermIdealsModel" (301 : Nat) ({ cls := "TermIdealsModel", name := "heightOf", desc := "(II)I" } : Jvm.MethodName)) ∈ lw_all := lw_g (lw_at lw_m6 181 rfl) rfl
theorem q1447 : (Jvm.Cond.privateMethod ({ cls := "TermIdealsModel", name := "heightOf", desc := "(II)I" } : Jvm.MethodName)) ∈ lw_tbl := lw_at lw_m6 182 rfl
theorem q1448 : (Jvm.Cond.instanceMethod ({ cls := "TermIdealsModel", name := "heightOf", desc := "(II)I" } : Jvm.MethodName)) ∈ lw_all := lw_g (lw_at lw_m6 183 rfl) rfl
theorem q1449 : (Jvm.Cond.code ({ cls := "TermIdealsModel", name := "heightOf", desc := "(II)I" } : Jvm.MethodName) prog_17_method_59_code (3 : Nat) (Option.some Jvm.ClassFile.FieldType.int)) ∈ lw_all := lw_g (lw_at lw_m6 184 rfl) rfl
theorem q1450 : (Jvm.Cond.methodLink "TermIdealsModel" (295 : Nat) ({ cls := "TermIdealsModel", name := "powers", desc := "(II)V" } : Jvm.MethodName)) ∈ lw_all := lw_g (lw_at lw_m6 185 rfl) rfl
theorem q1451 : (Jvm.Cond.privateMethod ({ cls := "TermIdealsModel", name := "powers", desc := "(II)V" } : Jvm.MethodName)) ∈ lw_tbl := lw_at lw_m6 186 rfl
theorem q1452 : (Jvm.Cond.instanceMethod ({ cls := "TermIdealsModel", name := "powers", desc := "(II)V" } : Jvm.MethodName)) ∈ lw_all := lw_g (lw_at lw_m6 187 rfl) rfl
theorem q1453 : (Jvm.Cond.code ({ cls := "TermIdealsModel", name := "powers", desc := "(II)V" } : Jvm.MethodName) prog_17_method_57_code (4 : Nat) (Option.none : Option Jvm.ClassFile.FieldType)) ∈ lw_all := lw_g (lw_at lw_m6 188 rfl) rfl
theorem q1454 : (Jvm.Cond.methodLink "TermIdealsModel" (286 : Nat) ({ cls := "TermIdealsModel", name := "begins", desc := "()V" } : Jvm.MethodName)) ∈ lw_all := lw_g (lw_at lw_m6 189 rfl) rfl
theorem q1455 : (Jvm.Cond.privateMethod ({ cls := "TermIdealsModel", name := "begins", desc := "()V" } : Jvm.MethodName)) ∈ lw_tbl := lw_at lw_m6 190 rfl
theorem q1456 : (Jvm.Cond.instanceMethod ({ cls := "TermIdealsModel", name := "begins", desc := "()V" } : Jvm.MethodName)) ∈ lw_all := lw_g (lw_at lw_m6 191 rfl) rfl
theorem q1457 : (Jvm.Cond.code ({ cls := "TermIdealsModel", name := "begins", desc := "()V" } : Jvm.MethodName) prog_17_method_54_code (2 : Nat) (Option.none : Option Jvm.ClassFile.FieldType)) ∈ lw_all := lw_g (lw_at lw_m6 192 rfl) rfl
theorem q1458 : (Jvm.Cond.methodLink "TermIdealsModel" (289 : Nat) ({ cls := "TermIdealsModel", name := "times", desc := "(I)V" } : Jvm.MethodName)) ∈ lw_all := lw_g (lw_at lw_m6 193 rfl) rfl
theorem q1459 : (Jvm.Cond.privateMethod ({ cls := "TermIdealsModel", name := "times", desc := "(I)V" } : Jvm.MethodName)) ∈ lw_tbl := lw_at lw_m6 194 rfl
theorem q1460 : (Jvm.Cond.instanceMethod ({ cls := "TermIdealsModel", name := "times", desc := "(I)V" } : Jvm.MethodName)) ∈ lw_all := lw_g (lw_at lw_m6 195 rfl) rfl
theorem q1461 : (Jvm.Cond.code ({ cls := "TermIdealsModel", name := "times", desc := "(I)V" } : Jvm.MethodName) prog_17_method_55_code (4 : Nat) (Option.none : Option Jvm.ClassFile.FieldType)) ∈ lw_all := lw_g (lw_at lw_m6 196 rfl) rfl
theorem q1462 : (Jvm.Cond.methodLink "TermIdealsModel" (298 : Nat) ({ cls := "TermIdealsModel", name := "heightAt", desc := "(I)I" } : Jvm.MethodName)) ∈ lw_all := lw_g (lw_at lw_m6 197 rfl) rfl
theorem q1463 : (Jvm.Cond.privateMethod ({ cls := "TermIdealsModel", name := "heightAt", desc := "(I)I" } : Jvm.MethodName)) ∈ lw_tbl := lw_at lw_m6 198 rfl
theorem q1464 : (Jvm.Cond.instanceMethod ({ cls := "TermIdealsModel", name := "heightAt", desc := "(I)I" } : Jvm.MethodName)) ∈ lw_all := lw_g (lw_at lw_m6 199 rfl) rfl
theorem q1465 : (Jvm.Cond.code ({ cls := "TermIdealsModel", name := "heightAt", desc := "(I)I" } : Jvm.MethodName) prog_17_method_58_code (2 : Nat) (Option.some Jvm.ClassFile.FieldType.int)) ∈ lw_all := lw_g (lw_at lw_m6 200 rfl) rfl
theorem q1466 : (Jvm.Cond.methodLink "TermIdealsModel" (292 : Nat) ({ cls := "TermIdealsModel", name := "settles", desc := "()V" } : Jvm.MethodName)) ∈ lw_all := lw_g (lw_at lw_m6 201 rfl) rfl
theorem q1467 : (Jvm.Cond.privateMethod ({ cls := "TermIdealsModel", name := "settles", desc := "()V" } : Jvm.MethodName)) ∈ lw_tbl := lw_at lw_m6 202 rfl
theorem q1468 : (Jvm.Cond.instanceMethod ({ cls := "TermIdealsModel", name := "settles", desc := "()V" } : Jvm.MethodName)) ∈ lw_all := lw_g (lw_at lw_m6 203 rfl) rfl
theorem q1469 : (Jvm.Cond.code ({ cls := "TermIdealsModel", name := "settles", desc := "()V" } : Jvm.MethodName) prog_17_method_56_code (2 : Nat) (Option.none : Option Jvm.ClassFile.FieldType)) ∈ lw_all := lw_g (lw_at lw_m6 204 rfl) rfl
theorem q1470 : (Jvm.Cond.methodLink "TermIdealsModel" (310 : Nat) ({ cls := "TermIdealsModel", name := "sumHeight", desc := "(I)I" } : Jvm.MethodName)) ∈ lw_all := lw_g (lw_at lw_m6 205 rfl) rfl
theorem q1471 : (Jvm.Cond.privateMethod ({ cls := "TermIdealsModel", name := "sumHeight", desc := "(I)I" } : Jvm.MethodName)) ∈ lw_tbl := lw_at lw_m6 206 rfl
theorem q1472 : (Jvm.Cond.instanceMethod ({ cls := "TermIdealsModel", name := "sumHeight", desc := "(I)I" } : Jvm.MethodName)) ∈ lw_all := lw_g (lw_at lw_m6 207 rfl) rfl
theorem q1473 : (Jvm.Cond.code ({ cls := "TermIdealsModel", name := "sumHeight", desc := "(I)I" } : Jvm.MethodName) prog_17_method_60_code (4 : Nat) (Option.some Jvm.ClassFile.FieldType.int)) ∈ lw_all := lw_g (lw_at lw_m6 208 rfl) rfl
theorem q1475 : (Jvm.Cond.instanceMethod ({ cls := "TermIdealsModel", name := "reduces", desc := "(I)I" } : Jvm.MethodName)) ∈ lw_all := lw_g (lw_at lw_m6 210 rfl) rfl
theorem q1476 : (Jvm.Cond.selects "TermIdealsModel" ({ cls := "TermIdealsModel", name := "reduces", desc := "(I)I" } : Jvm.MethodName) ({ cls := "TermIdealsModel", name := "reduces", desc := "(I)I" } : Jvm.MethodName)) ∈ lw_all := lw_g (lw_at lw_m6 211 rfl) rfl
theorem q1477 : (Jvm.Cond.code ({ cls := "TermIdealsModel", name := "reduces", desc := "(I)I" } : Jvm.MethodName) prog_17_method_64_code (3 : Nat) (Option.some Jvm.ClassFile.FieldType.int)) ∈ lw_all := lw_g (lw_at lw_m6 212 rfl) rfl
theorem q1478 : (Jvm.Cond.methodLink "TermIdealsModel" (313 : Nat) ({ cls := "TermIdealsModel", name := "isReduction", desc := "()Z" } : Jvm.MethodName)) ∈ lw_all := lw_g (lw_at lw_m6 213 rfl) rfl
theorem q1479 : (Jvm.Cond.privateMethod ({ cls := "TermIdealsModel", name := "isReduction", desc := "()Z" } : Jvm.MethodName)) ∈ lw_tbl := lw_at lw_m6 214 rfl
theorem q1480 : (Jvm.Cond.instanceMethod ({ cls := "TermIdealsModel", name := "isReduction", desc := "()Z" } : Jvm.MethodName)) ∈ lw_all := lw_g (lw_at lw_m6 215 rfl) rfl
theorem q1481 : (Jvm.Cond.code ({ cls := "TermIdealsModel", name := "isReduction", desc := "()Z" } : Jvm.MethodName) prog_17_method_62_code (3 : Nat) (Option.some Jvm.ClassFile.FieldType.boolean)) ∈ lw_all := lw_g (lw_at lw_m6 216 rfl) rfl
theorem q1482 : (Jvm.Cond.methodLink "TermIdealsModel" (317 : Nat) ({ cls := "TermIdealsModel", name := "isMetBy", desc := "(I)Z" } : Jvm.MethodName)) ∈ lw_all := lw_g (lw_at lw_m6 217 rfl) rfl
theorem q1483 : (Jvm.Cond.privateMethod ({ cls := "TermIdealsModel", name := "isMetBy", desc := "(I)Z" } : Jvm.MethodName)) ∈ lw_tbl := lw_at lw_m6 218 rfl
theorem q1484 : (Jvm.Cond.instanceMethod ({ cls := "TermIdealsModel", name := "isMetBy", desc := "(I)Z" } : Jvm.MethodName)) ∈ lw_all := lw_g (lw_at lw_m6 219 rfl) rfl
theorem q1485 : (Jvm.Cond.code ({ cls := "TermIdealsModel", name := "isMetBy", desc := "(I)Z" } : Jvm.MethodName) prog_17_method_63_code (4 : Nat) (Option.some Jvm.ClassFile.FieldType.boolean)) ∈ lw_all := lw_g (lw_at lw_m6 220 rfl) rfl
theorem q1487 : (Jvm.Cond.instanceMethod ({ cls := "TermIdealsModel", name := "see", desc := "(III)I" } : Jvm.MethodName)) ∈ lw_all := lw_g (lw_at lw_m6 222 rfl) rfl
theorem q1488 : (Jvm.Cond.selects "TermIdealsModel" ({ cls := "TermIdealsModel", name := "see", desc := "(III)I" } : Jvm.MethodName) ({ cls := "TermIdealsModel", name := "see", desc := "(III)I" } : Jvm.MethodName)) ∈ lw_all := lw_g (lw_at lw_m6 223 rfl) rfl
theorem q1489 : (Jvm.Cond.code ({ cls := "TermIdealsModel", name := "see", desc := "(III)I" } : Jvm.MethodName) prog_17_method_65_code (4 : Nat) (Option.some Jvm.ClassFile.FieldType.int)) ∈ lw_all := lw_g (lw_at lw_m6 224 rfl) rfl
theorem q1491 : (Jvm.Cond.instanceMethod ({ cls := "TermIdealsModel", name := "fits", desc := "(IIII)I" } : Jvm.MethodName)) ∈ lw_all := lw_g (lw_at lw_m6 226 rfl) rfl
theorem q1492 : (Jvm.Cond.selects "TermIdealsModel" ({ cls := "TermIdealsModel", name := "fits", desc := "(IIII)I" } : Jvm.MethodName) ({ cls := "TermIdealsModel", name := "fits", desc := "(IIII)I" } : Jvm.MethodName)) ∈ lw_all := lw_g (lw_at lw_m6 227 rfl) rfl
theorem q1493 : (Jvm.Cond.code ({ cls := "TermIdealsModel", name := "fits", desc := "(IIII)I" } : Jvm.MethodName) prog_17_method_67_code (13 : Nat) (Option.some Jvm.ClassFile.FieldType.int)) ∈ lw_all := lw_g (lw_at lw_m6 228 rfl) rfl
theorem q1494 : (Jvm.Cond.methodLink "TermIdealsModel" (323 : Nat) ({ cls := "TermIdealsModel", name := "isSeen", desc := "()Z" } : Jvm.MethodName)) ∈ lw_all := lw_g (lw_at lw_m6 229 rfl) rfl
theorem q1495 : (Jvm.Cond.privateMethod ({ cls := "TermIdealsModel", name := "isSeen", desc := "()Z" } : Jvm.MethodName)) ∈ lw_tbl := lw_at lw_m6 230 rfl
theorem q1496 : (Jvm.Cond.instanceMethod ({ cls := "TermIdealsModel", name := "isSeen", desc := "()Z" } : Jvm.MethodName)) ∈ lw_all := lw_g (lw_at lw_m6 231 rfl) rfl
theorem q1497 : (Jvm.Cond.code ({ cls := "TermIdealsModel", name := "isSeen", desc := "()Z" } : Jvm.MethodName) prog_17_method_66_code (3 : Nat) (Option.some Jvm.ClassFile.FieldType.boolean)) ∈ lw_all := lw_g (lw_at lw_m6 232 rfl) rfl
theorem q1499 : (Jvm.Cond.instanceMethod ({ cls := "TermIdealsModel", name := "odds", desc := "(IIII)J" } : Jvm.MethodName)) ∈ lw_all := lw_g (lw_at lw_m6 234 rfl) rfl
theorem q1500 : (Jvm.Cond.selects "TermIdealsModel" ({ cls := "TermIdealsModel", name := "odds", desc := "(IIII)J" } : Jvm.MethodName) ({ cls := "TermIdealsModel", name := "odds", desc := "(IIII)J" } : Jvm.MethodName)) ∈ lw_all := lw_g (lw_at lw_m6 235 rfl) rfl
theorem q1501 : (Jvm.Cond.code ({ cls := "TermIdealsModel", name := "odds", desc := "(IIII)J" } : Jvm.MethodName) prog_17_method_68_code (5 : Nat) (Option.some Jvm.ClassFile.FieldType.long)) ∈ lw_all := lw_g (lw_at lw_m6 236 rfl) rfl
theorem q1502 : (Jvm.Cond.constantLong "TermIdealsModel" (326 : Nat) (100 : Int64)) ∈ lw_all := lw_g (lw_at lw_m6 237 rfl) rfl
theorem q1504 : (Jvm.Cond.instanceMethod ({ cls := "TermIdealsModel", name := "mean", desc := "(II)J" } : Jvm.MethodName)) ∈ lw_all := lw_g (lw_at lw_m6 239 rfl) rfl
theorem q1505 : (Jvm.Cond.selects "TermIdealsModel" ({ cls := "TermIdealsModel", name := "mean", desc := "(II)J" } : Jvm.MethodName) ({ cls := "TermIdealsModel", name := "mean", desc := "(II)J" } : Jvm.MethodName)) ∈ lw_all := lw_g (lw_at lw_m7 0 rfl) rfl
theorem q1506 : (Jvm.Cond.code ({ cls := "TermIdealsModel", name := "mean", desc := "(II)J" } : Jvm.MethodName) prog_17_method_69_code (5 : Nat) (Option.some Jvm.ClassFile.FieldType.long)) ∈ lw_all := lw_g (lw_at lw_m7 1 rfl) rfl
theorem q1508 : (Jvm.Cond.instanceMethod ({ cls := "TermIdealsModel", name := "event", desc := "(II)I" } : Jvm.MethodName)) ∈ lw_all := lw_g (lw_at lw_m7 3 rfl) rfl
theorem q1509 : (Jvm.Cond.selects "TermIdealsModel" ({ cls := "TermIdealsModel", name := "event", desc := "(II)I" } : Jvm.MethodName) ({ cls := "TermIdealsModel", name := "event", desc := "(II)I" } : Jvm.MethodName)) ∈ lw_all := lw_g (lw_at lw_m7 4 rfl) rfl
theorem q1510 : (Jvm.Cond.code ({ cls := "TermIdealsModel", name := "event", desc := "(II)I" } : Jvm.MethodName) prog_17_method_70_code (4 : Nat) (Option.some Jvm.ClassFile.FieldType.int)) ∈ lw_all := lw_g (lw_at lw_m7 5 rfl) rfl
theorem q1511 : (Jvm.Cond.constantLong "TermIdealsModel" (331 : Nat) (5 : Int64)) ∈ lw_all := lw_g (lw_at lw_m7 6 rfl) rfl
theorem q1513 : (Jvm.Cond.instanceMethod ({ cls := "TermIdealsModel", name := "after", desc := "(I)I" } : Jvm.MethodName)) ∈ lw_all := lw_g (lw_at lw_m7 8 rfl) rfl
theorem q1514 : (Jvm.Cond.selects "TermIdealsModel" ({ cls := "TermIdealsModel", name := "after", desc := "(I)I" } : Jvm.MethodName) ({ cls := "TermIdealsModel", name := "after", desc := "(I)I" } : Jvm.MethodName)) ∈ lw_all := lw_g (lw_at lw_m7 9 rfl) rfl
theorem q1515 : (Jvm.Cond.code ({ cls := "TermIdealsModel", name := "after", desc := "(I)I" } : Jvm.MethodName) prog_17_method_73_code (3 : Nat) (Option.some Jvm.ClassFile.FieldType.int)) ∈ lw_all := lw_g (lw_at lw_m7 10 rfl) rfl
theorem q1516 : (Jvm.Cond.methodLink "TermIdealsModel" (339 : Nat) ({ cls := "TermIdealsModel", name := "likens", desc := "(II)V" } : Jvm.MethodName)) ∈ lw_all := lw_g (lw_at lw_m7 11 rfl) rfl
theorem q1517 : (Jvm.Cond.privateMethod ({ cls := "TermIdealsModel", name := "likens", desc := "(II)V" } : Jvm.MethodName)) ∈ lw_tbl := lw_at lw_m7 12 rfl
theorem q1518 : (Jvm.Cond.instanceMethod ({ cls := "TermIdealsModel", name := "likens", desc := "(II)V" } : Jvm.MethodName)) ∈ lw_all := lw_g (lw_at lw_m7 13 rfl) rfl
theorem q1519 : (Jvm.Cond.code ({ cls := "TermIdealsModel", name := "likens", desc := "(II)V" } : Jvm.MethodName) prog_17_method_12_code (4 : Nat) (Option.none : Option Jvm.ClassFile.FieldType)) ∈ lw_all := lw_g (lw_at lw_m7 14 rfl) rfl
theorem q1520 : (Jvm.Cond.methodLink "TermIdealsModel" (342 : Nat) ({ cls := "TermIdealsModel", name := "happens", desc := "(II)V" } : Jvm.MethodName)) ∈ lw_all := lw_g (lw_at lw_m7 15 rfl) rfl
theorem q1521 : (Jvm.Cond.privateMethod ({ cls := "TermIdealsModel", name := "happens", desc := "(II)V" } : Jvm.MethodName)) ∈ lw_tbl := lw_at lw_m7 16 rfl
theorem q1522 : (Jvm.Cond.instanceMethod ({ cls := "TermIdealsModel", name := "happens", desc := "(II)V" } : Jvm.MethodName)) ∈ lw_all := lw_g (lw_at lw_m7 17 rfl) rfl
theorem q1523 : (Jvm.Cond.code ({ cls := "TermIdealsModel", name := "happens", desc := "(II)V" } : Jvm.MethodName) prog_17_method_72_code (3 : Nat) (Option.none : Option Jvm.ClassFile.FieldType)) ∈ lw_all := lw_g (lw_at lw_m7 18 rfl) rfl
theorem q1524 : (Jvm.Cond.methodLink "TermIdealsModel" (336 : Nat) ({ cls := "TermIdealsModel", name := "lessens", desc := "(I)V" } : Jvm.MethodName)) ∈ lw_all := lw_g (lw_at lw_m7 19 rfl) rfl
theorem q1525 : (Jvm.Cond.privateMethod ({ cls := "TermIdealsModel", name := "lessens", desc := "(I)V" } : Jvm.MethodName)) ∈ lw_tbl := lw_at lw_m7 20 rfl
theorem q1526 : (Jvm.Cond.instanceMethod ({ cls := "TermIdealsModel", name := "lessens", desc := "(I)V" } : Jvm.MethodName)) ∈ lw_all := lw_g (lw_at lw_m7 21 rfl) rfl
theorem q1527 : (Jvm.Cond.code ({ cls := "TermIdealsModel", name := "lessens", desc := "(I)V" } : Jvm.MethodName) prog_17_method_71_code (6 : Nat) (Option.none : Option Jvm.ClassFile.FieldType)) ∈ lw_all := lw_g (lw_at lw_m7 22 rfl) rfl
theorem q1528 : (Jvm.Cond.methodLink "TermIdealsModel" (333 : Nat) ({ cls := "java/lang/Math", name := "max", desc := "(II)I" } : Jvm.MethodName)) ∈ lw_all := lw_g (lw_at lw_m7 23 rfl) rfl
theorem q1530 : (Jvm.Cond.instanceMethod ({ cls := "TermIdealsModel", name := "book", desc := "(II)I" } : Jvm.MethodName)) ∈ lw_all := lw_g (lw_at lw_m7 25 rfl) rfl
theorem q1531 : (Jvm.Cond.selects "TermIdealsModel" ({ cls := "TermIdealsModel", name := "book", desc := "(II)I" } : Jvm.MethodName) ({ cls := "TermIdealsModel", name := "book", desc := "(II)I" } : Jvm.MethodName)) ∈ lw_all := lw_g (lw_at lw_m7 26 rfl) rfl
theorem q1532 : (Jvm.Cond.code ({ cls := "TermIdealsModel", name := "book", desc := "(II)I" } : Jvm.MethodName) prog_17_method_74_code (3 : Nat) (Option.some Jvm.ClassFile.FieldType.int)) ∈ lw_all := lw_g (lw_at lw_m7 27 rfl) rfl
theorem q1534 : (Jvm.Cond.instanceMethod ({ cls := "TermIdealsModel", name := "looked", desc := "()I" } : Jvm.MethodName)) ∈ lw_all := lw_g (lw_at lw_m7 29 rfl) rfl
theorem q1535 : (Jvm.Cond.selects "TermIdealsModel" ({ cls := "TermIdealsModel", name := "looked", desc := "()I" } : Jvm.MethodName) ({ cls := "TermIdealsModel", name := "looked", desc := "()I" } : Jvm.MethodName)) ∈ lw_all := lw_g (lw_at lw_m7 30 rfl) rfl
theorem q1536 : (Jvm.Cond.code ({ cls := "TermIdealsModel", name := "looked", desc := "()I" } : Jvm.MethodName) prog_17_method_75_code (2 : Nat) (Option.some Jvm.ClassFile.FieldType.int)) ∈ lw_all := lw_g (lw_at lw_m7 31 rfl) rfl
theorem q1538 : (Jvm.Cond.instanceMethod ({ cls := "TermIdealsModel", name := "judge", desc := "(III)I" } : Jvm.MethodName)) ∈ lw_all := lw_g (lw_at lw_m7 33 rfl) rfl
theorem q1539 : (Jvm.Cond.selects "TermIdealsModel" ({ cls := "TermIdealsModel", name := "judge", desc := "(III)I" } : Jvm.MethodName) ({ cls := "TermIdealsModel", name := "judge", desc := "(III)I" } : Jvm.MethodName)) ∈ lw_all := lw_g (lw_at lw_m7 34 rfl) rfl
theorem q1540 : (Jvm.Cond.code ({ cls := "TermIdealsModel", name := "judge", desc := "(III)I" } : Jvm.MethodName) prog_17_method_77_code (7 : Nat) (Option.some Jvm.ClassFile.FieldType.int)) ∈ lw_all := lw_g (lw_at lw_m7 35 rfl) rfl
theorem q1541 : (Jvm.Cond.methodLink "TermIdealsModel" (348 : Nat) ({ cls := "TermIdealsModel", name := "isTape", desc := "(I)Z" } : Jvm.MethodName)) ∈ lw_all := lw_g (lw_at lw_m7 36 rfl) rfl
theorem q1542 : (Jvm.Cond.static ({ cls := "TermIdealsModel", name := "isTape", desc := "(I)Z" } : Jvm.MethodName)) ∈ lw_all := lw_g (lw_at lw_m7 37 rfl) rfl
theorem q1543 : (Jvm.Cond.code ({ cls := "TermIdealsModel", name := "isTape", desc := "(I)Z" } : Jvm.MethodName) prog_17_method_76_code (1 : Nat) (Option.some Jvm.ClassFile.FieldType.boolean)) ∈ lw_all := lw_g (lw_at lw_m7 38 rfl) rfl
theorem q1545 : (Jvm.Cond.instanceMethod ({ cls := "TermIdealsModel", name := "tape", desc := "(III)I" } : Jvm.MethodName)) ∈ lw_all := lw_g (lw_at lw_m7 40 rfl) rfl
theorem q1546 : (Jvm.Cond.selects "TermIdealsModel" ({ cls := "TermIdealsModel", name := "tape", desc := "(III)I" } : Jvm.MethodName) ({ cls := "TermIdealsModel", name := "tape", desc := "(III)I" } : Jvm.MethodName)) ∈ lw_all := lw_g (lw_at lw_m7 41 rfl) rfl
theorem q1547 : (Jvm.Cond.code ({ cls := "TermIdealsModel", name := "tape", desc := "(III)I" } : Jvm.MethodName) prog_17_method_78_code (5 : Nat) (Option.some Jvm.ClassFile.FieldType.int)) ∈ lw_all := lw_g (lw_at lw_m7 42 rfl) rfl
theorem q1548 : (Jvm.Cond.constantLong "TermIdealsModel" (351 : Nat) (-1 : Int64)) ∈ lw_all := lw_g (lw_at lw_m7 43 rfl) rfl
theorem q1550 : (Jvm.Cond.instanceMethod ({ cls := "TermIdealsModel", name := "item", desc := "(IIJ)I" } : Jvm.MethodName)) ∈ lw_all := lw_g (lw_at lw_m7 45 rfl) rfl
theorem q1551 : (Jvm.Cond.selects "TermIdealsModel" ({ cls := "TermIdealsModel", name := "item", desc := "(IIJ)I" } : Jvm.MethodName) ({ cls := "TermIdealsModel", name := "item", desc := "(IIJ)I" } : Jvm.MethodName)) ∈ lw_all := lw_g (lw_at lw_m7 46 rfl) rfl
theorem q1552 : (Jvm.Cond.code ({ cls := "TermIdealsModel", name := "item", desc := "(IIJ)I" } : Jvm.MethodName) prog_17_method_80_code (5 : Nat) (Option.some Jvm.ClassFile.FieldType.int)) ∈ lw_all := lw_g (lw_at lw_m7 47 rfl) rfl
theorem q1553 : (Jvm.Cond.methodLink "TermIdealsModel" (353 : Nat) ({ cls := "TermIdealsModel", name := "asSort", desc := "(IJ)J" } : Jvm.MethodName)) ∈ lw_all := lw_g (lw_at lw_m7 48 rfl) rfl
theorem q1554 : (Jvm.Cond.static ({ cls := "TermIdealsModel", name := "asSort", desc := "(IJ)J" } : Jvm.MethodName)) ∈ lw_all := lw_g (lw_at lw_m7 49 rfl) rfl
theorem q1555 : (Jvm.Cond.code ({ cls := "TermIdealsModel", name := "asSort", desc := "(IJ)J" } : Jvm.MethodName) prog_17_method_79_code (3 : Nat) (Option.some Jvm.ClassFile.FieldType.long)) ∈ lw_all := lw_g (lw_at lw_m7 50 rfl) rfl
theorem q1557 : (Jvm.Cond.instanceMethod ({ cls := "TermIdealsModel", name := "peek", desc := "(II)J" } : Jvm.MethodName)) ∈ lw_all := lw_g (lw_at lw_m7 52 rfl) rfl
theorem q1558 : (Jvm.Cond.selects "TermIdealsModel" ({ cls := "TermIdealsModel", name := "peek", desc := "(II)J" } : Jvm.MethodName) ({ cls := "TermIdealsModel", name := "peek", desc := "(II)J" } : Jvm.MethodName)) ∈ lw_all := lw_g (lw_at lw_m7 53 rfl) rfl
theorem q1559 : (Jvm.Cond.code ({ cls := "TermIdealsModel", name := "peek", desc := "(II)J" } : Jvm.MethodName) prog_17_method_81_code (3 : Nat) (Option.some Jvm.ClassFile.FieldType.long)) ∈ lw_all := lw_g (lw_at lw_m7 54 rfl) rfl
theorem q1561 : (Jvm.Cond.instanceMethod ({ cls := "TermIdealsModel", name := "shift", desc := "(IIIII)I" } : Jvm.MethodName)) ∈ lw_all := lw_g (lw_at lw_m7 56 rfl) rfl
theorem q1562 : (Jvm.Cond.selects "TermIdealsModel" ({ cls := "TermIdealsModel", name := "shift", desc := "(IIIII)I" } : Jvm.MethodName) ({ cls := "TermIdealsModel", name := "shift", desc := "(IIIII)I" } : Jvm.MethodName)) ∈ lw_all := lw_g (lw_at lw_m7 57 rfl) rfl
theorem q1563 : (Jvm.Cond.code ({ cls := "TermIdealsModel", name := "shift", desc := "(IIIII)I" } : Jvm.MethodName) prog_17_method_82_code (7 : Nat) (Option.some Jvm.ClassFile.FieldType.int)) ∈ lw_all := lw_g (lw_at lw_m7 58 rfl) rfl
theorem q1565 : (Jvm.Cond.instanceMethod ({ cls := "TermIdealsModel", name := "image", desc := "()I" } : Jvm.MethodName)) ∈ lw_all := lw_g (lw_at lw_m7 60 rfl) rfl
theorem q1566 : (Jvm.Cond.selects "TermIdealsModel" ({ cls := "TermIdealsModel", name := "image", desc := "()I" } : Jvm.MethodName) ({ cls := "TermIdealsModel", name := "image", desc := "()I" } : Jvm.MethodName)) ∈ lw_all := lw_g (lw_at lw_m7 61 rfl) rfl
theorem q1567 : (Jvm.Cond.code ({ cls := "TermIdealsModel", name := "image", desc := "()I" } : Jvm.MethodName) prog_17_method_83_code (2 : Nat) (Option.some Jvm.ClassFile.FieldType.int)) ∈ lw_all := lw_g (lw_at lw_m7 62 rfl) rfl
theorem q1569 : (Jvm.Cond.instanceMethod ({ cls := "TermIdealsModel", name := "undo", desc := "()I" } : Jvm.MethodName)) ∈ lw_all := lw_g (lw_at lw_m7 64 rfl) rfl
theorem q1570 : (Jvm.Cond.selects "TermIdealsModel" ({ cls := "TermIdealsModel", name := "undo", desc := "()I" } : Jvm.MethodName) ({ cls := "TermIdealsModel", name := "undo", desc := "()I" } : Jvm.MethodName)) ∈ lw_all := lw_g (lw_at lw_m7 65 rfl) rfl
theorem q1571 : (Jvm.Cond.code ({ cls := "TermIdealsModel", name := "undo", desc := "()I" } : Jvm.MethodName) prog_17_method_84_code (2 : Nat) (Option.some Jvm.ClassFile.FieldType.int)) ∈ lw_all := lw_g (lw_at lw_m7 66 rfl) rfl
theorem q1573 : (Jvm.Cond.instanceMethod ({ cls := "TermIdealsModel", name := "count", desc := "(I)I" } : Jvm.MethodName)) ∈ lw_all := lw_g (lw_at lw_m7 68 rfl) rfl
theorem q1574 : (Jvm.Cond.selects "TermIdealsModel" ({ cls := "TermIdealsModel", name := "count", desc := "(I)I" } : Jvm.MethodName) ({ cls := "TermIdealsModel", name := "count", desc := "(I)I" } : Jvm.MethodName)) ∈ lw_all := lw_g (lw_at lw_m7 69 rfl) rfl
theorem q1575 : (Jvm.Cond.code ({ cls := "TermIdealsModel", name := "count", desc := "(I)I" } : Jvm.MethodName) prog_17_method_85_code (2 : Nat) (Option.some Jvm.ClassFile.FieldType.int)) ∈ lw_all := lw_g (lw_at lw_m7 70 rfl) rfl
theorem in_X7 : ∀ w ∈ wsX70, w ∈ lw_all := lw_in wsX70 [1134, 1136, 1138, 1140, 1142, 1144, 1146, 1148, 1150, 1152, 1154, 1156, 1158, 1160, 1162, 1164, 1166, 1168, 1170, 1172, 1174, 1176, 1178, 1180, 1182, 1184, 1186, 1188, 1190, 1192, 1194, 1196, 1198, 1200, 1202, 1204, 1206, 1208, 1210, 1212, 1214, 1216, 1218, 1220, 1222, 1224] (by decide +kernel) (by decide +kernel)
