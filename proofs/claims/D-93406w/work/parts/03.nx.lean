/-! TermIdeals$Ideal -/
set_option maxRecDepth 100000
def RX1 : String := "TermIdeals$Ideal"
def TX1 : u_T := fun k => match k with
  | 0 => ("TermIdeals$Ideal", "as", "[I", true)
  | 1 => ("TermIdeals$Ideal", "bs", "[I", true)
  | _ => ("TermIdeals$Ideal", "many", "I", false)
def tyX1 : Nat → FieldType := fun k => match k with
  | 0 => .array .int
  | 1 => .array .int
  | _ => .int
abbrev wsX10 : List Cond := u_ws RX1 TX1 3
theorem nmX1 : ∀ a, a < 3 → ∀ b, b < 3 → a ≠ b → (TX1 a).2.1 ≠ (TX1 b).2.1 := by decide +kernel
theorem tyX1_ok : ∀ k, k < 3 → parseFieldDescriptor (TX1 k).2.2.1 = some (tyX1 k) := by decide +kernel
abbrev cX1_init : ByteArray := prog_7_method_1_code
def yX1_init : MethodName := ⟨RX1, "<init>", "()V"⟩
def dkwX1_init_0 : List UInt8 := [42, 183, 0, 3, 42, 16, 6, 188, 10, 181, 0, 9, 42, 16, 6, 188, 10, 181, 0, 15, 177]
abbrev dktX1_init_0 : List UInt8 := dkwX1_init_0 ++ []
theorem dksX1_init_0 : cX1_init.data.toList.drop 0 = dktX1_init_0 := by decide +kernel
theorem dX1_init_0 : decode cX1_init 0 = .ok (.aload_n 0, 1) := dk_42 (dk_at dksX1_init_0 0 rfl rfl)
theorem dX1_init_1 : decode cX1_init 1 = .ok (.invokespecial 3, 3) := dk_183 0 3 (dk_at dksX1_init_0 1 rfl rfl)
theorem dX1_init_4 : decode cX1_init 4 = .ok (.aload_n 0, 1) := dk_42 (dk_at dksX1_init_0 4 rfl rfl)
theorem dX1_init_5 : decode cX1_init 5 = .ok (.bipush 6, 2) := dk_16 6 (dk_at dksX1_init_0 5 rfl rfl)
theorem dX1_init_7 : decode cX1_init 7 = .ok (.newarray .int, 2) := dk_188_10 (dk_at dksX1_init_0 7 rfl rfl)
theorem dX1_init_9 : decode cX1_init 9 = .ok (.putfield 9, 3) := dk_181 0 9 (dk_at dksX1_init_0 9 rfl rfl)
theorem dX1_init_12 : decode cX1_init 12 = .ok (.aload_n 0, 1) := dk_42 (dk_at dksX1_init_0 12 rfl rfl)
theorem dX1_init_13 : decode cX1_init 13 = .ok (.bipush 6, 2) := dk_16 6 (dk_at dksX1_init_0 13 rfl rfl)
theorem dX1_init_15 : decode cX1_init 15 = .ok (.newarray .int, 2) := dk_188_10 (dk_at dksX1_init_0 15 rfl rfl)
theorem dX1_init_17 : decode cX1_init 17 = .ok (.putfield 15, 3) := dk_181 0 15 (dk_at dksX1_init_0 17 rfl rfl)
theorem dX1_init_20 : decode cX1_init 20 = .ok (.return_, 1) := dk_177 (dk_at dksX1_init_0 20 rfl rfl)
abbrev cX1_placeOf : ByteArray := prog_7_method_3_code
def yX1_placeOf : MethodName := ⟨RX1, "placeOf", "(II)I"⟩
def dkwX1_placeOf_1 : List UInt8 := [29, 46, 28, 160, 0, 5, 29, 172, 132, 3, 1, 167, 255, 223, 16, 251, 172]
abbrev dktX1_placeOf_1 : List UInt8 := dkwX1_placeOf_1 ++ []
def dkwX1_placeOf_0 : List UInt8 := [3, 62, 29, 42, 180, 0, 24, 162, 0, 31, 42, 180, 0, 9, 29, 46, 27, 160, 0, 15, 42, 180, 0, 15]
abbrev dktX1_placeOf_0 : List UInt8 := dkwX1_placeOf_0 ++ dktX1_placeOf_1
theorem dksX1_placeOf_0 : cX1_placeOf.data.toList.drop 0 = dktX1_placeOf_0 := by decide +kernel
theorem dksX1_placeOf_1 : cX1_placeOf.data.toList.drop 24 = dktX1_placeOf_1 := dk_seg dksX1_placeOf_0 24 rfl rfl
theorem dX1_placeOf_0 : decode cX1_placeOf 0 = .ok (.iconst 0, 1) := dk_3 (dk_at dksX1_placeOf_0 0 rfl rfl)
theorem dX1_placeOf_1 : decode cX1_placeOf 1 = .ok (.istore_n 3, 1) := dk_62 (dk_at dksX1_placeOf_0 1 rfl rfl)
theorem dX1_placeOf_2 : decode cX1_placeOf 2 = .ok (.iload_n 3, 1) := dk_29 (dk_at dksX1_placeOf_0 2 rfl rfl)
theorem dX1_placeOf_3 : decode cX1_placeOf 3 = .ok (.aload_n 0, 1) := dk_42 (dk_at dksX1_placeOf_0 3 rfl rfl)
theorem dX1_placeOf_4 : decode cX1_placeOf 4 = .ok (.getfield 24, 3) := dk_180 0 24 (dk_at dksX1_placeOf_0 4 rfl rfl)
theorem dX1_placeOf_7 : decode cX1_placeOf 7 = .ok (.if_icmp .ge 31, 3) := dk_162 0 31 (dk_at dksX1_placeOf_0 7 rfl rfl)
theorem dX1_placeOf_10 : decode cX1_placeOf 10 = .ok (.aload_n 0, 1) := dk_42 (dk_at dksX1_placeOf_0 10 rfl rfl)
theorem dX1_placeOf_11 : decode cX1_placeOf 11 = .ok (.getfield 9, 3) := dk_180 0 9 (dk_at dksX1_placeOf_0 11 rfl rfl)
theorem dX1_placeOf_14 : decode cX1_placeOf 14 = .ok (.iload_n 3, 1) := dk_29 (dk_at dksX1_placeOf_0 14 rfl rfl)
theorem dX1_placeOf_15 : decode cX1_placeOf 15 = .ok (.iaload, 1) := dk_46 (dk_at dksX1_placeOf_0 15 rfl rfl)
theorem dX1_placeOf_16 : decode cX1_placeOf 16 = .ok (.iload_n 1, 1) := dk_27 (dk_at dksX1_placeOf_0 16 rfl rfl)
theorem dX1_placeOf_17 : decode cX1_placeOf 17 = .ok (.if_icmp .ne 15, 3) := dk_160 0 15 (dk_at dksX1_placeOf_0 17 rfl rfl)
theorem dX1_placeOf_20 : decode cX1_placeOf 20 = .ok (.aload_n 0, 1) := dk_42 (dk_at dksX1_placeOf_0 20 rfl rfl)
theorem dX1_placeOf_21 : decode cX1_placeOf 21 = .ok (.getfield 15, 3) := dk_180 0 15 (dk_at dksX1_placeOf_0 21 rfl rfl)
theorem dX1_placeOf_24 : decode cX1_placeOf 24 = .ok (.iload_n 3, 1) := dk_29 (dk_at dksX1_placeOf_1 0 rfl rfl)
theorem dX1_placeOf_25 : decode cX1_placeOf 25 = .ok (.iaload, 1) := dk_46 (dk_at dksX1_placeOf_1 1 rfl rfl)
theorem dX1_placeOf_26 : decode cX1_placeOf 26 = .ok (.iload_n 2, 1) := dk_28 (dk_at dksX1_placeOf_1 2 rfl rfl)
theorem dX1_placeOf_27 : decode cX1_placeOf 27 = .ok (.if_icmp .ne 5, 3) := dk_160 0 5 (dk_at dksX1_placeOf_1 3 rfl rfl)
theorem dX1_placeOf_30 : decode cX1_placeOf 30 = .ok (.iload_n 3, 1) := dk_29 (dk_at dksX1_placeOf_1 6 rfl rfl)
theorem dX1_placeOf_31 : decode cX1_placeOf 31 = .ok (.ireturn, 1) := dk_172 (dk_at dksX1_placeOf_1 7 rfl rfl)
theorem dX1_placeOf_32 : decode cX1_placeOf 32 = .ok (.iinc 3 1, 3) := dk_132 3 1 (dk_at dksX1_placeOf_1 8 rfl rfl)
theorem dX1_placeOf_35 : decode cX1_placeOf 35 = .ok (.goto (-33), 3) := dk_167 255 223 (dk_at dksX1_placeOf_1 11 rfl rfl)
theorem dX1_placeOf_38 : decode cX1_placeOf 38 = .ok (.bipush (-5), 2) := dk_16 251 (dk_at dksX1_placeOf_1 14 rfl rfl)
theorem dX1_placeOf_40 : decode cX1_placeOf 40 = .ok (.ireturn, 1) := dk_172 (dk_at dksX1_placeOf_1 16 rfl rfl)
abbrev cX1_takes : ByteArray := prog_7_method_2_code
def yX1_takes : MethodName := ⟨RX1, "takes", "(LTermIdeals$Ideal;)V"⟩
def dkwX1_takes_1 : List UInt8 := [3, 16, 6, 184, 0, 18, 42, 43, 180, 0, 24, 181, 0, 24, 177]
abbrev dktX1_takes_1 : List UInt8 := dkwX1_takes_1 ++ []
def dkwX1_takes_0 : List UInt8 := [43, 180, 0, 9, 3, 42, 180, 0, 9, 3, 16, 6, 184, 0, 18, 43, 180, 0, 15, 3, 42, 180, 0, 15]
abbrev dktX1_takes_0 : List UInt8 := dkwX1_takes_0 ++ dktX1_takes_1
theorem dksX1_takes_0 : cX1_takes.data.toList.drop 0 = dktX1_takes_0 := by decide +kernel
theorem dksX1_takes_1 : cX1_takes.data.toList.drop 24 = dktX1_takes_1 := dk_seg dksX1_takes_0 24 rfl rfl
theorem dX1_takes_0 : decode cX1_takes 0 = .ok (.aload_n 1, 1) := dk_43 (dk_at dksX1_takes_0 0 rfl rfl)
theorem dX1_takes_1 : decode cX1_takes 1 = .ok (.getfield 9, 3) := dk_180 0 9 (dk_at dksX1_takes_0 1 rfl rfl)
theorem dX1_takes_4 : decode cX1_takes 4 = .ok (.iconst 0, 1) := dk_3 (dk_at dksX1_takes_0 4 rfl rfl)
theorem dX1_takes_5 : decode cX1_takes 5 = .ok (.aload_n 0, 1) := dk_42 (dk_at dksX1_takes_0 5 rfl rfl)
theorem dX1_takes_6 : decode cX1_takes 6 = .ok (.getfield 9, 3) := dk_180 0 9 (dk_at dksX1_takes_0 6 rfl rfl)
theorem dX1_takes_9 : decode cX1_takes 9 = .ok (.iconst 0, 1) := dk_3 (dk_at dksX1_takes_0 9 rfl rfl)
theorem dX1_takes_10 : decode cX1_takes 10 = .ok (.bipush 6, 2) := dk_16 6 (dk_at dksX1_takes_0 10 rfl rfl)
theorem dX1_takes_12 : decode cX1_takes 12 = .ok (.invokestatic 18, 3) := dk_184 0 18 (dk_at dksX1_takes_0 12 rfl rfl)
theorem dX1_takes_15 : decode cX1_takes 15 = .ok (.aload_n 1, 1) := dk_43 (dk_at dksX1_takes_0 15 rfl rfl)
theorem dX1_takes_16 : decode cX1_takes 16 = .ok (.getfield 15, 3) := dk_180 0 15 (dk_at dksX1_takes_0 16 rfl rfl)
theorem dX1_takes_19 : decode cX1_takes 19 = .ok (.iconst 0, 1) := dk_3 (dk_at dksX1_takes_0 19 rfl rfl)
theorem dX1_takes_20 : decode cX1_takes 20 = .ok (.aload_n 0, 1) := dk_42 (dk_at dksX1_takes_0 20 rfl rfl)
theorem dX1_takes_21 : decode cX1_takes 21 = .ok (.getfield 15, 3) := dk_180 0 15 (dk_at dksX1_takes_0 21 rfl rfl)
theorem dX1_takes_24 : decode cX1_takes 24 = .ok (.iconst 0, 1) := dk_3 (dk_at dksX1_takes_1 0 rfl rfl)
theorem dX1_takes_25 : decode cX1_takes 25 = .ok (.bipush 6, 2) := dk_16 6 (dk_at dksX1_takes_1 1 rfl rfl)
theorem dX1_takes_27 : decode cX1_takes 27 = .ok (.invokestatic 18, 3) := dk_184 0 18 (dk_at dksX1_takes_1 3 rfl rfl)
theorem dX1_takes_30 : decode cX1_takes 30 = .ok (.aload_n 0, 1) := dk_42 (dk_at dksX1_takes_1 6 rfl rfl)
theorem dX1_takes_31 : decode cX1_takes 31 = .ok (.aload_n 1, 1) := dk_43 (dk_at dksX1_takes_1 7 rfl rfl)
theorem dX1_takes_32 : decode cX1_takes 32 = .ok (.getfield 24, 3) := dk_180 0 24 (dk_at dksX1_takes_1 8 rfl rfl)
theorem dX1_takes_35 : decode cX1_takes 35 = .ok (.putfield 24, 3) := dk_181 0 24 (dk_at dksX1_takes_1 11 rfl rfl)
theorem dX1_takes_38 : decode cX1_takes 38 = .ok (.return_, 1) := dk_177 (dk_at dksX1_takes_1 14 rfl rfl)
abbrev cX1_comes : ByteArray := prog_7_method_4_code
def yX1_comes : MethodName := ⟨RX1, "comes", "(II)V"⟩
def dkwX1_comes_1 : List UInt8 := [180, 0, 24, 4, 96, 181, 0, 24, 177]
abbrev dktX1_comes_1 : List UInt8 := dkwX1_comes_1 ++ []
def dkwX1_comes_0 : List UInt8 := [42, 180, 0, 9, 42, 180, 0, 24, 27, 79, 42, 180, 0, 15, 42, 180, 0, 24, 28, 79, 42, 89]
abbrev dktX1_comes_0 : List UInt8 := dkwX1_comes_0 ++ dktX1_comes_1
theorem dksX1_comes_0 : cX1_comes.data.toList.drop 0 = dktX1_comes_0 := by decide +kernel
theorem dksX1_comes_1 : cX1_comes.data.toList.drop 22 = dktX1_comes_1 := dk_seg dksX1_comes_0 22 rfl rfl
theorem dX1_comes_0 : decode cX1_comes 0 = .ok (.aload_n 0, 1) := dk_42 (dk_at dksX1_comes_0 0 rfl rfl)
theorem dX1_comes_1 : decode cX1_comes 1 = .ok (.getfield 9, 3) := dk_180 0 9 (dk_at dksX1_comes_0 1 rfl rfl)
theorem dX1_comes_4 : decode cX1_comes 4 = .ok (.aload_n 0, 1) := dk_42 (dk_at dksX1_comes_0 4 rfl rfl)
theorem dX1_comes_5 : decode cX1_comes 5 = .ok (.getfield 24, 3) := dk_180 0 24 (dk_at dksX1_comes_0 5 rfl rfl)
theorem dX1_comes_8 : decode cX1_comes 8 = .ok (.iload_n 1, 1) := dk_27 (dk_at dksX1_comes_0 8 rfl rfl)
theorem dX1_comes_9 : decode cX1_comes 9 = .ok (.iastore, 1) := dk_79 (dk_at dksX1_comes_0 9 rfl rfl)
theorem dX1_comes_10 : decode cX1_comes 10 = .ok (.aload_n 0, 1) := dk_42 (dk_at dksX1_comes_0 10 rfl rfl)
theorem dX1_comes_11 : decode cX1_comes 11 = .ok (.getfield 15, 3) := dk_180 0 15 (dk_at dksX1_comes_0 11 rfl rfl)
theorem dX1_comes_14 : decode cX1_comes 14 = .ok (.aload_n 0, 1) := dk_42 (dk_at dksX1_comes_0 14 rfl rfl)
theorem dX1_comes_15 : decode cX1_comes 15 = .ok (.getfield 24, 3) := dk_180 0 24 (dk_at dksX1_comes_0 15 rfl rfl)
theorem dX1_comes_18 : decode cX1_comes 18 = .ok (.iload_n 2, 1) := dk_28 (dk_at dksX1_comes_0 18 rfl rfl)
theorem dX1_comes_19 : decode cX1_comes 19 = .ok (.iastore, 1) := dk_79 (dk_at dksX1_comes_0 19 rfl rfl)
theorem dX1_comes_20 : decode cX1_comes 20 = .ok (.aload_n 0, 1) := dk_42 (dk_at dksX1_comes_0 20 rfl rfl)
theorem dX1_comes_21 : decode cX1_comes 21 = .ok (.dup, 1) := dk_89 (dk_at dksX1_comes_0 21 rfl rfl)
theorem dX1_comes_22 : decode cX1_comes 22 = .ok (.getfield 24, 3) := dk_180 0 24 (dk_at dksX1_comes_1 0 rfl rfl)
theorem dX1_comes_25 : decode cX1_comes 25 = .ok (.iconst 1, 1) := dk_4 (dk_at dksX1_comes_1 3 rfl rfl)
theorem dX1_comes_26 : decode cX1_comes 26 = .ok (.iadd, 1) := dk_96 (dk_at dksX1_comes_1 4 rfl rfl)
theorem dX1_comes_27 : decode cX1_comes 27 = .ok (.putfield 24, 3) := dk_181 0 24 (dk_at dksX1_comes_1 5 rfl rfl)
theorem dX1_comes_30 : decode cX1_comes 30 = .ok (.return_, 1) := dk_177 (dk_at dksX1_comes_1 8 rfl rfl)
abbrev cX1_goes : ByteArray := prog_7_method_5_code
def yX1_goes : MethodName := ⟨RX1, "goes", "(I)V"⟩
def dkwX1_goes_2 : List UInt8 := [132, 2, 1, 167, 255, 217, 177]
abbrev dktX1_goes_2 : List UInt8 := dkwX1_goes_2 ++ []
def dkwX1_goes_1 : List UInt8 := [28, 42, 180, 0, 9, 28, 4, 96, 46, 79, 42, 180, 0, 15, 28, 42, 180, 0, 15, 28, 4, 96, 46, 79]
abbrev dktX1_goes_1 : List UInt8 := dkwX1_goes_1 ++ dktX1_goes_2
def dkwX1_goes_0 : List UInt8 := [42, 89, 180, 0, 24, 4, 100, 181, 0, 24, 27, 61, 28, 42, 180, 0, 24, 162, 0, 37, 42, 180, 0, 9]
abbrev dktX1_goes_0 : List UInt8 := dkwX1_goes_0 ++ dktX1_goes_1
theorem dksX1_goes_0 : cX1_goes.data.toList.drop 0 = dktX1_goes_0 := by decide +kernel
theorem dksX1_goes_1 : cX1_goes.data.toList.drop 24 = dktX1_goes_1 := dk_seg dksX1_goes_0 24 rfl rfl
theorem dksX1_goes_2 : cX1_goes.data.toList.drop 48 = dktX1_goes_2 := dk_seg dksX1_goes_1 24 rfl rfl
theorem dX1_goes_0 : decode cX1_goes 0 = .ok (.aload_n 0, 1) := dk_42 (dk_at dksX1_goes_0 0 rfl rfl)
theorem dX1_goes_1 : decode cX1_goes 1 = .ok (.dup, 1) := dk_89 (dk_at dksX1_goes_0 1 rfl rfl)
theorem dX1_goes_2 : decode cX1_goes 2 = .ok (.getfield 24, 3) := dk_180 0 24 (dk_at dksX1_goes_0 2 rfl rfl)
theorem dX1_goes_5 : decode cX1_goes 5 = .ok (.iconst 1, 1) := dk_4 (dk_at dksX1_goes_0 5 rfl rfl)
theorem dX1_goes_6 : decode cX1_goes 6 = .ok (.isub, 1) := dk_100 (dk_at dksX1_goes_0 6 rfl rfl)
theorem dX1_goes_7 : decode cX1_goes 7 = .ok (.putfield 24, 3) := dk_181 0 24 (dk_at dksX1_goes_0 7 rfl rfl)
theorem dX1_goes_10 : decode cX1_goes 10 = .ok (.iload_n 1, 1) := dk_27 (dk_at dksX1_goes_0 10 rfl rfl)
theorem dX1_goes_11 : decode cX1_goes 11 = .ok (.istore_n 2, 1) := dk_61 (dk_at dksX1_goes_0 11 rfl rfl)
theorem dX1_goes_12 : decode cX1_goes 12 = .ok (.iload_n 2, 1) := dk_28 (dk_at dksX1_goes_0 12 rfl rfl)
theorem dX1_goes_13 : decode cX1_goes 13 = .ok (.aload_n 0, 1) := dk_42 (dk_at dksX1_goes_0 13 rfl rfl)
theorem dX1_goes_14 : decode cX1_goes 14 = .ok (.getfield 24, 3) := dk_180 0 24 (dk_at dksX1_goes_0 14 rfl rfl)
theorem dX1_goes_17 : decode cX1_goes 17 = .ok (.if_icmp .ge 37, 3) := dk_162 0 37 (dk_at dksX1_goes_0 17 rfl rfl)
theorem dX1_goes_20 : decode cX1_goes 20 = .ok (.aload_n 0, 1) := dk_42 (dk_at dksX1_goes_0 20 rfl rfl)
theorem dX1_goes_21 : decode cX1_goes 21 = .ok (.getfield 9, 3) := dk_180 0 9 (dk_at dksX1_goes_0 21 rfl rfl)
theorem dX1_goes_24 : decode cX1_goes 24 = .ok (.iload_n 2, 1) := dk_28 (dk_at dksX1_goes_1 0 rfl rfl)
theorem dX1_goes_25 : decode cX1_goes 25 = .ok (.aload_n 0, 1) := dk_42 (dk_at dksX1_goes_1 1 rfl rfl)
theorem dX1_goes_26 : decode cX1_goes 26 = .ok (.getfield 9, 3) := dk_180 0 9 (dk_at dksX1_goes_1 2 rfl rfl)
theorem dX1_goes_29 : decode cX1_goes 29 = .ok (.iload_n 2, 1) := dk_28 (dk_at dksX1_goes_1 5 rfl rfl)
theorem dX1_goes_30 : decode cX1_goes 30 = .ok (.iconst 1, 1) := dk_4 (dk_at dksX1_goes_1 6 rfl rfl)
theorem dX1_goes_31 : decode cX1_goes 31 = .ok (.iadd, 1) := dk_96 (dk_at dksX1_goes_1 7 rfl rfl)
theorem dX1_goes_32 : decode cX1_goes 32 = .ok (.iaload, 1) := dk_46 (dk_at dksX1_goes_1 8 rfl rfl)
theorem dX1_goes_33 : decode cX1_goes 33 = .ok (.iastore, 1) := dk_79 (dk_at dksX1_goes_1 9 rfl rfl)
theorem dX1_goes_34 : decode cX1_goes 34 = .ok (.aload_n 0, 1) := dk_42 (dk_at dksX1_goes_1 10 rfl rfl)
theorem dX1_goes_35 : decode cX1_goes 35 = .ok (.getfield 15, 3) := dk_180 0 15 (dk_at dksX1_goes_1 11 rfl rfl)
theorem dX1_goes_38 : decode cX1_goes 38 = .ok (.iload_n 2, 1) := dk_28 (dk_at dksX1_goes_1 14 rfl rfl)
theorem dX1_goes_39 : decode cX1_goes 39 = .ok (.aload_n 0, 1) := dk_42 (dk_at dksX1_goes_1 15 rfl rfl)
theorem dX1_goes_40 : decode cX1_goes 40 = .ok (.getfield 15, 3) := dk_180 0 15 (dk_at dksX1_goes_1 16 rfl rfl)
theorem dX1_goes_43 : decode cX1_goes 43 = .ok (.iload_n 2, 1) := dk_28 (dk_at dksX1_goes_1 19 rfl rfl)
theorem dX1_goes_44 : decode cX1_goes 44 = .ok (.iconst 1, 1) := dk_4 (dk_at dksX1_goes_1 20 rfl rfl)
theorem dX1_goes_45 : decode cX1_goes 45 = .ok (.iadd, 1) := dk_96 (dk_at dksX1_goes_1 21 rfl rfl)
theorem dX1_goes_46 : decode cX1_goes 46 = .ok (.iaload, 1) := dk_46 (dk_at dksX1_goes_1 22 rfl rfl)
theorem dX1_goes_47 : decode cX1_goes 47 = .ok (.iastore, 1) := dk_79 (dk_at dksX1_goes_1 23 rfl rfl)
theorem dX1_goes_48 : decode cX1_goes 48 = .ok (.iinc 2 1, 3) := dk_132 2 1 (dk_at dksX1_goes_2 0 rfl rfl)
theorem dX1_goes_51 : decode cX1_goes 51 = .ok (.goto (-39), 3) := dk_167 255 217 (dk_at dksX1_goes_2 3 rfl rfl)
theorem dX1_goes_54 : decode cX1_goes 54 = .ok (.return_, 1) := dk_177 (dk_at dksX1_goes_2 6 rfl rfl)
abbrev cX1_isLeast : ByteArray := prog_7_method_8_code
def yX1_isLeast : MethodName := ⟨RX1, "isLeast", "(I)Z"⟩
def dkwX1_isLeast_1 : List UInt8 := [3, 172]
abbrev dktX1_isLeast_1 : List UInt8 := dkwX1_isLeast_1 ++ []
def dkwX1_isLeast_0 : List UInt8 := [42, 42, 180, 0, 9, 27, 46, 42, 180, 0, 15, 27, 46, 27, 182, 0, 28, 154, 0, 7, 4, 167, 0, 4]
abbrev dktX1_isLeast_0 : List UInt8 := dkwX1_isLeast_0 ++ dktX1_isLeast_1
theorem dksX1_isLeast_0 : cX1_isLeast.data.toList.drop 0 = dktX1_isLeast_0 := by decide +kernel
theorem dksX1_isLeast_1 : cX1_isLeast.data.toList.drop 24 = dktX1_isLeast_1 := dk_seg dksX1_isLeast_0 24 rfl rfl
theorem dX1_isLeast_0 : decode cX1_isLeast 0 = .ok (.aload_n 0, 1) := dk_42 (dk_at dksX1_isLeast_0 0 rfl rfl)
theorem dX1_isLeast_1 : decode cX1_isLeast 1 = .ok (.aload_n 0, 1) := dk_42 (dk_at dksX1_isLeast_0 1 rfl rfl)
theorem dX1_isLeast_2 : decode cX1_isLeast 2 = .ok (.getfield 9, 3) := dk_180 0 9 (dk_at dksX1_isLeast_0 2 rfl rfl)
theorem dX1_isLeast_5 : decode cX1_isLeast 5 = .ok (.iload_n 1, 1) := dk_27 (dk_at dksX1_isLeast_0 5 rfl rfl)
theorem dX1_isLeast_6 : decode cX1_isLeast 6 = .ok (.iaload, 1) := dk_46 (dk_at dksX1_isLeast_0 6 rfl rfl)
theorem dX1_isLeast_7 : decode cX1_isLeast 7 = .ok (.aload_n 0, 1) := dk_42 (dk_at dksX1_isLeast_0 7 rfl rfl)
theorem dX1_isLeast_8 : decode cX1_isLeast 8 = .ok (.getfield 15, 3) := dk_180 0 15 (dk_at dksX1_isLeast_0 8 rfl rfl)
theorem dX1_isLeast_11 : decode cX1_isLeast 11 = .ok (.iload_n 1, 1) := dk_27 (dk_at dksX1_isLeast_0 11 rfl rfl)
theorem dX1_isLeast_12 : decode cX1_isLeast 12 = .ok (.iaload, 1) := dk_46 (dk_at dksX1_isLeast_0 12 rfl rfl)
theorem dX1_isLeast_13 : decode cX1_isLeast 13 = .ok (.iload_n 1, 1) := dk_27 (dk_at dksX1_isLeast_0 13 rfl rfl)
theorem dX1_isLeast_14 : decode cX1_isLeast 14 = .ok (.invokevirtual 28, 3) := dk_182 0 28 (dk_at dksX1_isLeast_0 14 rfl rfl)
theorem dX1_isLeast_17 : decode cX1_isLeast 17 = .ok (.ifCond .ne 7, 3) := dk_154 0 7 (dk_at dksX1_isLeast_0 17 rfl rfl)
theorem dX1_isLeast_20 : decode cX1_isLeast 20 = .ok (.iconst 1, 1) := dk_4 (dk_at dksX1_isLeast_0 20 rfl rfl)
theorem dX1_isLeast_21 : decode cX1_isLeast 21 = .ok (.goto 4, 3) := dk_167 0 4 (dk_at dksX1_isLeast_0 21 rfl rfl)
theorem dX1_isLeast_24 : decode cX1_isLeast 24 = .ok (.iconst 0, 1) := dk_3 (dk_at dksX1_isLeast_1 0 rfl rfl)
theorem dX1_isLeast_25 : decode cX1_isLeast 25 = .ok (.ireturn, 1) := dk_172 (dk_at dksX1_isLeast_1 1 rfl rfl)
abbrev cX1_holdsBut : ByteArray := prog_7_method_7_code
def yX1_holdsBut : MethodName := ⟨RX1, "holdsBut", "(III)Z"⟩
def dkwX1_holdsBut_2 : List UInt8 := [3, 172]
abbrev dktX1_holdsBut_2 : List UInt8 := dkwX1_holdsBut_2 ++ []
def dkwX1_holdsBut_1 : List UInt8 := [46, 27, 163, 0, 16, 42, 180, 0, 15, 21, 4, 46, 28, 163, 0, 5, 4, 172, 132, 4, 1, 167, 255, 214]
abbrev dktX1_holdsBut_1 : List UInt8 := dkwX1_holdsBut_1 ++ dktX1_holdsBut_2
def dkwX1_holdsBut_0 : List UInt8 := [3, 54, 4, 21, 4, 42, 180, 0, 24, 162, 0, 39, 21, 4, 29, 159, 0, 27, 42, 180, 0, 9, 21, 4]
abbrev dktX1_holdsBut_0 : List UInt8 := dkwX1_holdsBut_0 ++ dktX1_holdsBut_1
theorem dksX1_holdsBut_0 : cX1_holdsBut.data.toList.drop 0 = dktX1_holdsBut_0 := by decide +kernel
theorem dksX1_holdsBut_1 : cX1_holdsBut.data.toList.drop 24 = dktX1_holdsBut_1 := dk_seg dksX1_holdsBut_0 24 rfl rfl
theorem dksX1_holdsBut_2 : cX1_holdsBut.data.toList.drop 48 = dktX1_holdsBut_2 := dk_seg dksX1_holdsBut_1 24 rfl rfl
theorem dX1_holdsBut_0 : decode cX1_holdsBut 0 = .ok (.iconst 0, 1) := dk_3 (dk_at dksX1_holdsBut_0 0 rfl rfl)
theorem dX1_holdsBut_1 : decode cX1_holdsBut 1 = .ok (.istore 4, 2) := dk_54 4 (dk_at dksX1_holdsBut_0 1 rfl rfl)
theorem dX1_holdsBut_3 : decode cX1_holdsBut 3 = .ok (.iload 4, 2) := dk_21 4 (dk_at dksX1_holdsBut_0 3 rfl rfl)
theorem dX1_holdsBut_5 : decode cX1_holdsBut 5 = .ok (.aload_n 0, 1) := dk_42 (dk_at dksX1_holdsBut_0 5 rfl rfl)
theorem dX1_holdsBut_6 : decode cX1_holdsBut 6 = .ok (.getfield 24, 3) := dk_180 0 24 (dk_at dksX1_holdsBut_0 6 rfl rfl)
theorem dX1_holdsBut_9 : decode cX1_holdsBut 9 = .ok (.if_icmp .ge 39, 3) := dk_162 0 39 (dk_at dksX1_holdsBut_0 9 rfl rfl)
theorem dX1_holdsBut_12 : decode cX1_holdsBut 12 = .ok (.iload 4, 2) := dk_21 4 (dk_at dksX1_holdsBut_0 12 rfl rfl)
theorem dX1_holdsBut_14 : decode cX1_holdsBut 14 = .ok (.iload_n 3, 1) := dk_29 (dk_at dksX1_holdsBut_0 14 rfl rfl)
theorem dX1_holdsBut_15 : decode cX1_holdsBut 15 = .ok (.if_icmp .eq 27, 3) := dk_159 0 27 (dk_at dksX1_holdsBut_0 15 rfl rfl)
theorem dX1_holdsBut_18 : decode cX1_holdsBut 18 = .ok (.aload_n 0, 1) := dk_42 (dk_at dksX1_holdsBut_0 18 rfl rfl)
theorem dX1_holdsBut_19 : decode cX1_holdsBut 19 = .ok (.getfield 9, 3) := dk_180 0 9 (dk_at dksX1_holdsBut_0 19 rfl rfl)
theorem dX1_holdsBut_22 : decode cX1_holdsBut 22 = .ok (.iload 4, 2) := dk_21 4 (dk_at dksX1_holdsBut_0 22 rfl rfl)
theorem dX1_holdsBut_24 : decode cX1_holdsBut 24 = .ok (.iaload, 1) := dk_46 (dk_at dksX1_holdsBut_1 0 rfl rfl)
theorem dX1_holdsBut_25 : decode cX1_holdsBut 25 = .ok (.iload_n 1, 1) := dk_27 (dk_at dksX1_holdsBut_1 1 rfl rfl)
theorem dX1_holdsBut_26 : decode cX1_holdsBut 26 = .ok (.if_icmp .gt 16, 3) := dk_163 0 16 (dk_at dksX1_holdsBut_1 2 rfl rfl)
theorem dX1_holdsBut_29 : decode cX1_holdsBut 29 = .ok (.aload_n 0, 1) := dk_42 (dk_at dksX1_holdsBut_1 5 rfl rfl)
theorem dX1_holdsBut_30 : decode cX1_holdsBut 30 = .ok (.getfield 15, 3) := dk_180 0 15 (dk_at dksX1_holdsBut_1 6 rfl rfl)
theorem dX1_holdsBut_33 : decode cX1_holdsBut 33 = .ok (.iload 4, 2) := dk_21 4 (dk_at dksX1_holdsBut_1 9 rfl rfl)
theorem dX1_holdsBut_35 : decode cX1_holdsBut 35 = .ok (.iaload, 1) := dk_46 (dk_at dksX1_holdsBut_1 11 rfl rfl)
theorem dX1_holdsBut_36 : decode cX1_holdsBut 36 = .ok (.iload_n 2, 1) := dk_28 (dk_at dksX1_holdsBut_1 12 rfl rfl)
theorem dX1_holdsBut_37 : decode cX1_holdsBut 37 = .ok (.if_icmp .gt 5, 3) := dk_163 0 5 (dk_at dksX1_holdsBut_1 13 rfl rfl)
theorem dX1_holdsBut_40 : decode cX1_holdsBut 40 = .ok (.iconst 1, 1) := dk_4 (dk_at dksX1_holdsBut_1 16 rfl rfl)
theorem dX1_holdsBut_41 : decode cX1_holdsBut 41 = .ok (.ireturn, 1) := dk_172 (dk_at dksX1_holdsBut_1 17 rfl rfl)
theorem dX1_holdsBut_42 : decode cX1_holdsBut 42 = .ok (.iinc 4 1, 3) := dk_132 4 1 (dk_at dksX1_holdsBut_1 18 rfl rfl)
theorem dX1_holdsBut_45 : decode cX1_holdsBut 45 = .ok (.goto (-42), 3) := dk_167 255 214 (dk_at dksX1_holdsBut_1 21 rfl rfl)
theorem dX1_holdsBut_48 : decode cX1_holdsBut 48 = .ok (.iconst 0, 1) := dk_3 (dk_at dksX1_holdsBut_2 0 rfl rfl)
theorem dX1_holdsBut_49 : decode cX1_holdsBut 49 = .ok (.ireturn, 1) := dk_172 (dk_at dksX1_holdsBut_2 1 rfl rfl)
abbrev cX1_least : ByteArray := prog_7_method_9_code
def yX1_least : MethodName := ⟨RX1, "least", "()I"⟩
def dkwX1_least_1 : List UInt8 := [167, 0, 4, 3, 96, 60, 132, 2, 1, 167, 255, 229, 27, 172]
abbrev dktX1_least_1 : List UInt8 := dkwX1_least_1 ++ []
def dkwX1_least_0 : List UInt8 := [3, 60, 3, 61, 28, 42, 180, 0, 24, 162, 0, 25, 27, 42, 28, 182, 0, 32, 153, 0, 7, 4]
abbrev dktX1_least_0 : List UInt8 := dkwX1_least_0 ++ dktX1_least_1
theorem dksX1_least_0 : cX1_least.data.toList.drop 0 = dktX1_least_0 := by decide +kernel
theorem dksX1_least_1 : cX1_least.data.toList.drop 22 = dktX1_least_1 := dk_seg dksX1_least_0 22 rfl rfl
theorem dX1_least_0 : decode cX1_least 0 = .ok (.iconst 0, 1) := dk_3 (dk_at dksX1_least_0 0 rfl rfl)
theorem dX1_least_1 : decode cX1_least 1 = .ok (.istore_n 1, 1) := dk_60 (dk_at dksX1_least_0 1 rfl rfl)
theorem dX1_least_2 : decode cX1_least 2 = .ok (.iconst 0, 1) := dk_3 (dk_at dksX1_least_0 2 rfl rfl)
theorem dX1_least_3 : decode cX1_least 3 = .ok (.istore_n 2, 1) := dk_61 (dk_at dksX1_least_0 3 rfl rfl)
theorem dX1_least_4 : decode cX1_least 4 = .ok (.iload_n 2, 1) := dk_28 (dk_at dksX1_least_0 4 rfl rfl)
theorem dX1_least_5 : decode cX1_least 5 = .ok (.aload_n 0, 1) := dk_42 (dk_at dksX1_least_0 5 rfl rfl)
theorem dX1_least_6 : decode cX1_least 6 = .ok (.getfield 24, 3) := dk_180 0 24 (dk_at dksX1_least_0 6 rfl rfl)
theorem dX1_least_9 : decode cX1_least 9 = .ok (.if_icmp .ge 25, 3) := dk_162 0 25 (dk_at dksX1_least_0 9 rfl rfl)
theorem dX1_least_12 : decode cX1_least 12 = .ok (.iload_n 1, 1) := dk_27 (dk_at dksX1_least_0 12 rfl rfl)
theorem dX1_least_13 : decode cX1_least 13 = .ok (.aload_n 0, 1) := dk_42 (dk_at dksX1_least_0 13 rfl rfl)
theorem dX1_least_14 : decode cX1_least 14 = .ok (.iload_n 2, 1) := dk_28 (dk_at dksX1_least_0 14 rfl rfl)
theorem dX1_least_15 : decode cX1_least 15 = .ok (.invokevirtual 32, 3) := dk_182 0 32 (dk_at dksX1_least_0 15 rfl rfl)
theorem dX1_least_18 : decode cX1_least 18 = .ok (.ifCond .eq 7, 3) := dk_153 0 7 (dk_at dksX1_least_0 18 rfl rfl)
theorem dX1_least_21 : decode cX1_least 21 = .ok (.iconst 1, 1) := dk_4 (dk_at dksX1_least_0 21 rfl rfl)
theorem dX1_least_22 : decode cX1_least 22 = .ok (.goto 4, 3) := dk_167 0 4 (dk_at dksX1_least_1 0 rfl rfl)
theorem dX1_least_25 : decode cX1_least 25 = .ok (.iconst 0, 1) := dk_3 (dk_at dksX1_least_1 3 rfl rfl)
theorem dX1_least_26 : decode cX1_least 26 = .ok (.iadd, 1) := dk_96 (dk_at dksX1_least_1 4 rfl rfl)
theorem dX1_least_27 : decode cX1_least 27 = .ok (.istore_n 1, 1) := dk_60 (dk_at dksX1_least_1 5 rfl rfl)
theorem dX1_least_28 : decode cX1_least 28 = .ok (.iinc 2 1, 3) := dk_132 2 1 (dk_at dksX1_least_1 6 rfl rfl)
theorem dX1_least_31 : decode cX1_least 31 = .ok (.goto (-27), 3) := dk_167 255 229 (dk_at dksX1_least_1 9 rfl rfl)
theorem dX1_least_34 : decode cX1_least 34 = .ok (.iload_n 1, 1) := dk_27 (dk_at dksX1_least_1 12 rfl rfl)
theorem dX1_least_35 : decode cX1_least 35 = .ok (.ireturn, 1) := dk_172 (dk_at dksX1_least_1 13 rfl rfl)
abbrev cX1_holds : ByteArray := prog_7_method_6_code
def yX1_holds : MethodName := ⟨RX1, "holds", "(II)Z"⟩
def dkwX1_holds_0 : List UInt8 := [42, 27, 28, 16, 251, 182, 0, 28, 172]
abbrev dktX1_holds_0 : List UInt8 := dkwX1_holds_0 ++ []
theorem dksX1_holds_0 : cX1_holds.data.toList.drop 0 = dktX1_holds_0 := by decide +kernel
theorem dX1_holds_0 : decode cX1_holds 0 = .ok (.aload_n 0, 1) := dk_42 (dk_at dksX1_holds_0 0 rfl rfl)
theorem dX1_holds_1 : decode cX1_holds 1 = .ok (.iload_n 1, 1) := dk_27 (dk_at dksX1_holds_0 1 rfl rfl)
theorem dX1_holds_2 : decode cX1_holds 2 = .ok (.iload_n 2, 1) := dk_28 (dk_at dksX1_holds_0 2 rfl rfl)
theorem dX1_holds_3 : decode cX1_holds 3 = .ok (.bipush (-5), 2) := dk_16 251 (dk_at dksX1_holds_0 3 rfl rfl)
theorem dX1_holds_5 : decode cX1_holds 5 = .ok (.invokevirtual 28, 3) := dk_182 0 28 (dk_at dksX1_holds_0 5 rfl rfl)
theorem dX1_holds_8 : decode cX1_holds 8 = .ok (.ireturn, 1) := dk_172 (dk_at dksX1_holds_0 8 rfl rfl)
abbrev cX1_height : ByteArray := prog_7_method_10_code
def yX1_height : MethodName := ⟨RX1, "height", "(I)I"⟩
def dkwX1_height_1 : List UInt8 := [28, 42, 180, 0, 15, 29, 46, 184, 0, 36, 61, 132, 3, 1, 167, 255, 224, 28, 172]
abbrev dktX1_height_1 : List UInt8 := dkwX1_height_1 ++ []
def dkwX1_height_0 : List UInt8 := [17, 39, 15, 61, 3, 62, 29, 42, 180, 0, 24, 162, 0, 30, 42, 180, 0, 9, 29, 46, 27, 163, 0, 14]
abbrev dktX1_height_0 : List UInt8 := dkwX1_height_0 ++ dktX1_height_1
theorem dksX1_height_0 : cX1_height.data.toList.drop 0 = dktX1_height_0 := by decide +kernel
theorem dksX1_height_1 : cX1_height.data.toList.drop 24 = dktX1_height_1 := dk_seg dksX1_height_0 24 rfl rfl
theorem dX1_height_0 : decode cX1_height 0 = .ok (.sipush 9999, 3) := dk_17 39 15 (dk_at dksX1_height_0 0 rfl rfl)
theorem dX1_height_3 : decode cX1_height 3 = .ok (.istore_n 2, 1) := dk_61 (dk_at dksX1_height_0 3 rfl rfl)
theorem dX1_height_4 : decode cX1_height 4 = .ok (.iconst 0, 1) := dk_3 (dk_at dksX1_height_0 4 rfl rfl)
theorem dX1_height_5 : decode cX1_height 5 = .ok (.istore_n 3, 1) := dk_62 (dk_at dksX1_height_0 5 rfl rfl)
theorem dX1_height_6 : decode cX1_height 6 = .ok (.iload_n 3, 1) := dk_29 (dk_at dksX1_height_0 6 rfl rfl)
theorem dX1_height_7 : decode cX1_height 7 = .ok (.aload_n 0, 1) := dk_42 (dk_at dksX1_height_0 7 rfl rfl)
theorem dX1_height_8 : decode cX1_height 8 = .ok (.getfield 24, 3) := dk_180 0 24 (dk_at dksX1_height_0 8 rfl rfl)
theorem dX1_height_11 : decode cX1_height 11 = .ok (.if_icmp .ge 30, 3) := dk_162 0 30 (dk_at dksX1_height_0 11 rfl rfl)
theorem dX1_height_14 : decode cX1_height 14 = .ok (.aload_n 0, 1) := dk_42 (dk_at dksX1_height_0 14 rfl rfl)
theorem dX1_height_15 : decode cX1_height 15 = .ok (.getfield 9, 3) := dk_180 0 9 (dk_at dksX1_height_0 15 rfl rfl)
theorem dX1_height_18 : decode cX1_height 18 = .ok (.iload_n 3, 1) := dk_29 (dk_at dksX1_height_0 18 rfl rfl)
theorem dX1_height_19 : decode cX1_height 19 = .ok (.iaload, 1) := dk_46 (dk_at dksX1_height_0 19 rfl rfl)
theorem dX1_height_20 : decode cX1_height 20 = .ok (.iload_n 1, 1) := dk_27 (dk_at dksX1_height_0 20 rfl rfl)
theorem dX1_height_21 : decode cX1_height 21 = .ok (.if_icmp .gt 14, 3) := dk_163 0 14 (dk_at dksX1_height_0 21 rfl rfl)
theorem dX1_height_24 : decode cX1_height 24 = .ok (.iload_n 2, 1) := dk_28 (dk_at dksX1_height_1 0 rfl rfl)
theorem dX1_height_25 : decode cX1_height 25 = .ok (.aload_n 0, 1) := dk_42 (dk_at dksX1_height_1 1 rfl rfl)
theorem dX1_height_26 : decode cX1_height 26 = .ok (.getfield 15, 3) := dk_180 0 15 (dk_at dksX1_height_1 2 rfl rfl)
theorem dX1_height_29 : decode cX1_height 29 = .ok (.iload_n 3, 1) := dk_29 (dk_at dksX1_height_1 5 rfl rfl)
theorem dX1_height_30 : decode cX1_height 30 = .ok (.iaload, 1) := dk_46 (dk_at dksX1_height_1 6 rfl rfl)
theorem dX1_height_31 : decode cX1_height 31 = .ok (.invokestatic 36, 3) := dk_184 0 36 (dk_at dksX1_height_1 7 rfl rfl)
theorem dX1_height_34 : decode cX1_height 34 = .ok (.istore_n 2, 1) := dk_61 (dk_at dksX1_height_1 10 rfl rfl)
theorem dX1_height_35 : decode cX1_height 35 = .ok (.iinc 3 1, 3) := dk_132 3 1 (dk_at dksX1_height_1 11 rfl rfl)
theorem dX1_height_38 : decode cX1_height 38 = .ok (.goto (-32), 3) := dk_167 255 224 (dk_at dksX1_height_1 14 rfl rfl)
theorem dX1_height_41 : decode cX1_height 41 = .ok (.iload_n 2, 1) := dk_28 (dk_at dksX1_height_1 17 rfl rfl)
theorem dX1_height_42 : decode cX1_height 42 = .ok (.ireturn, 1) := dk_172 (dk_at dksX1_height_1 18 rfl rfl)
abbrev cX1_powers : ByteArray := prog_7_method_11_code
def yX1_powers : MethodName := ⟨RX1, "powers", "()I"⟩
def dkwX1_powers_1 : List UInt8 := [46, 96, 96, 60, 132, 2, 1, 167, 255, 229, 27, 172]
abbrev dktX1_powers_1 : List UInt8 := dkwX1_powers_1 ++ []
def dkwX1_powers_0 : List UInt8 := [3, 60, 3, 61, 28, 42, 180, 0, 24, 162, 0, 25, 27, 42, 180, 0, 9, 28, 46, 42, 180, 0, 15, 28]
abbrev dktX1_powers_0 : List UInt8 := dkwX1_powers_0 ++ dktX1_powers_1
theorem dksX1_powers_0 : cX1_powers.data.toList.drop 0 = dktX1_powers_0 := by decide +kernel
theorem dksX1_powers_1 : cX1_powers.data.toList.drop 24 = dktX1_powers_1 := dk_seg dksX1_powers_0 24 rfl rfl
theorem dX1_powers_0 : decode cX1_powers 0 = .ok (.iconst 0, 1) := dk_3 (dk_at dksX1_powers_0 0 rfl rfl)
theorem dX1_powers_1 : decode cX1_powers 1 = .ok (.istore_n 1, 1) := dk_60 (dk_at dksX1_powers_0 1 rfl rfl)
theorem dX1_powers_2 : decode cX1_powers 2 = .ok (.iconst 0, 1) := dk_3 (dk_at dksX1_powers_0 2 rfl rfl)
theorem dX1_powers_3 : decode cX1_powers 3 = .ok (.istore_n 2, 1) := dk_61 (dk_at dksX1_powers_0 3 rfl rfl)
theorem dX1_powers_4 : decode cX1_powers 4 = .ok (.iload_n 2, 1) := dk_28 (dk_at dksX1_powers_0 4 rfl rfl)
theorem dX1_powers_5 : decode cX1_powers 5 = .ok (.aload_n 0, 1) := dk_42 (dk_at dksX1_powers_0 5 rfl rfl)
theorem dX1_powers_6 : decode cX1_powers 6 = .ok (.getfield 24, 3) := dk_180 0 24 (dk_at dksX1_powers_0 6 rfl rfl)
theorem dX1_powers_9 : decode cX1_powers 9 = .ok (.if_icmp .ge 25, 3) := dk_162 0 25 (dk_at dksX1_powers_0 9 rfl rfl)
theorem dX1_powers_12 : decode cX1_powers 12 = .ok (.iload_n 1, 1) := dk_27 (dk_at dksX1_powers_0 12 rfl rfl)
theorem dX1_powers_13 : decode cX1_powers 13 = .ok (.aload_n 0, 1) := dk_42 (dk_at dksX1_powers_0 13 rfl rfl)
theorem dX1_powers_14 : decode cX1_powers 14 = .ok (.getfield 9, 3) := dk_180 0 9 (dk_at dksX1_powers_0 14 rfl rfl)
theorem dX1_powers_17 : decode cX1_powers 17 = .ok (.iload_n 2, 1) := dk_28 (dk_at dksX1_powers_0 17 rfl rfl)
theorem dX1_powers_18 : decode cX1_powers 18 = .ok (.iaload, 1) := dk_46 (dk_at dksX1_powers_0 18 rfl rfl)
theorem dX1_powers_19 : decode cX1_powers 19 = .ok (.aload_n 0, 1) := dk_42 (dk_at dksX1_powers_0 19 rfl rfl)
theorem dX1_powers_20 : decode cX1_powers 20 = .ok (.getfield 15, 3) := dk_180 0 15 (dk_at dksX1_powers_0 20 rfl rfl)
theorem dX1_powers_23 : decode cX1_powers 23 = .ok (.iload_n 2, 1) := dk_28 (dk_at dksX1_powers_0 23 rfl rfl)
theorem dX1_powers_24 : decode cX1_powers 24 = .ok (.iaload, 1) := dk_46 (dk_at dksX1_powers_1 0 rfl rfl)
theorem dX1_powers_25 : decode cX1_powers 25 = .ok (.iadd, 1) := dk_96 (dk_at dksX1_powers_1 1 rfl rfl)
theorem dX1_powers_26 : decode cX1_powers 26 = .ok (.iadd, 1) := dk_96 (dk_at dksX1_powers_1 2 rfl rfl)
theorem dX1_powers_27 : decode cX1_powers 27 = .ok (.istore_n 1, 1) := dk_60 (dk_at dksX1_powers_1 3 rfl rfl)
theorem dX1_powers_28 : decode cX1_powers 28 = .ok (.iinc 2 1, 3) := dk_132 2 1 (dk_at dksX1_powers_1 4 rfl rfl)
theorem dX1_powers_31 : decode cX1_powers 31 = .ok (.goto (-27), 3) := dk_167 255 229 (dk_at dksX1_powers_1 7 rfl rfl)
theorem dX1_powers_34 : decode cX1_powers 34 = .ok (.iload_n 1, 1) := dk_27 (dk_at dksX1_powers_1 10 rfl rfl)
theorem dX1_powers_35 : decode cX1_powers 35 = .ok (.ireturn, 1) := dk_172 (dk_at dksX1_powers_1 11 rfl rfl)
abbrev cX1_lessens : ByteArray := prog_7_method_12_code
def yX1_lessens : MethodName := ⟨RX1, "lessens", "(I)V"⟩
def dkwX1_lessens_3 : List UInt8 := [177]
abbrev dktX1_lessens_3 : List UInt8 := dkwX1_lessens_3 ++ []
def dkwX1_lessens_2 : List UInt8 := [21, 5, 182, 0, 45, 16, 251, 160, 0, 11, 42, 21, 4, 21, 5, 182, 0, 48, 132, 3, 1, 167, 255, 199]
abbrev dktX1_lessens_2 : List UInt8 := dkwX1_lessens_2 ++ dktX1_lessens_3
def dkwX1_lessens_1 : List UInt8 := [27, 100, 184, 0, 42, 54, 4, 3, 42, 180, 0, 15, 29, 46, 27, 100, 184, 0, 42, 54, 5, 42, 21, 4]
abbrev dktX1_lessens_1 : List UInt8 := dkwX1_lessens_1 ++ dktX1_lessens_2
def dkwX1_lessens_0 : List UInt8 := [42, 180, 0, 24, 61, 42, 3, 181, 0, 24, 3, 62, 29, 28, 162, 0, 58, 3, 42, 180, 0, 9, 29, 46]
abbrev dktX1_lessens_0 : List UInt8 := dkwX1_lessens_0 ++ dktX1_lessens_1
theorem dksX1_lessens_0 : cX1_lessens.data.toList.drop 0 = dktX1_lessens_0 := by decide +kernel
theorem dksX1_lessens_1 : cX1_lessens.data.toList.drop 24 = dktX1_lessens_1 := dk_seg dksX1_lessens_0 24 rfl rfl
theorem dksX1_lessens_2 : cX1_lessens.data.toList.drop 48 = dktX1_lessens_2 := dk_seg dksX1_lessens_1 24 rfl rfl
theorem dksX1_lessens_3 : cX1_lessens.data.toList.drop 72 = dktX1_lessens_3 := dk_seg dksX1_lessens_2 24 rfl rfl
theorem dX1_lessens_0 : decode cX1_lessens 0 = .ok (.aload_n 0, 1) := dk_42 (dk_at dksX1_lessens_0 0 rfl rfl)
theorem dX1_lessens_1 : decode cX1_lessens 1 = .ok (.getfield 24, 3) := dk_180 0 24 (dk_at dksX1_lessens_0 1 rfl rfl)
theorem dX1_lessens_4 : decode cX1_lessens 4 = .ok (.istore_n 2, 1) := dk_61 (dk_at dksX1_lessens_0 4 rfl rfl)
theorem dX1_lessens_5 : decode cX1_lessens 5 = .ok (.aload_n 0, 1) := dk_42 (dk_at dksX1_lessens_0 5 rfl rfl)
theorem dX1_lessens_6 : decode cX1_lessens 6 = .ok (.iconst 0, 1) := dk_3 (dk_at dksX1_lessens_0 6 rfl rfl)
theorem dX1_lessens_7 : decode cX1_lessens 7 = .ok (.putfield 24, 3) := dk_181 0 24 (dk_at dksX1_lessens_0 7 rfl rfl)
theorem dX1_lessens_10 : decode cX1_lessens 10 = .ok (.iconst 0, 1) := dk_3 (dk_at dksX1_lessens_0 10 rfl rfl)
theorem dX1_lessens_11 : decode cX1_lessens 11 = .ok (.istore_n 3, 1) := dk_62 (dk_at dksX1_lessens_0 11 rfl rfl)
theorem dX1_lessens_12 : decode cX1_lessens 12 = .ok (.iload_n 3, 1) := dk_29 (dk_at dksX1_lessens_0 12 rfl rfl)
theorem dX1_lessens_13 : decode cX1_lessens 13 = .ok (.iload_n 2, 1) := dk_28 (dk_at dksX1_lessens_0 13 rfl rfl)
theorem dX1_lessens_14 : decode cX1_lessens 14 = .ok (.if_icmp .ge 58, 3) := dk_162 0 58 (dk_at dksX1_lessens_0 14 rfl rfl)
theorem dX1_lessens_17 : decode cX1_lessens 17 = .ok (.iconst 0, 1) := dk_3 (dk_at dksX1_lessens_0 17 rfl rfl)
theorem dX1_lessens_18 : decode cX1_lessens 18 = .ok (.aload_n 0, 1) := dk_42 (dk_at dksX1_lessens_0 18 rfl rfl)
theorem dX1_lessens_19 : decode cX1_lessens 19 = .ok (.getfield 9, 3) := dk_180 0 9 (dk_at dksX1_lessens_0 19 rfl rfl)
theorem dX1_lessens_22 : decode cX1_lessens 22 = .ok (.iload_n 3, 1) := dk_29 (dk_at dksX1_lessens_0 22 rfl rfl)
theorem dX1_lessens_23 : decode cX1_lessens 23 = .ok (.iaload, 1) := dk_46 (dk_at dksX1_lessens_0 23 rfl rfl)
theorem dX1_lessens_24 : decode cX1_lessens 24 = .ok (.iload_n 1, 1) := dk_27 (dk_at dksX1_lessens_1 0 rfl rfl)
theorem dX1_lessens_25 : decode cX1_lessens 25 = .ok (.isub, 1) := dk_100 (dk_at dksX1_lessens_1 1 rfl rfl)
theorem dX1_lessens_26 : decode cX1_lessens 26 = .ok (.invokestatic 42, 3) := dk_184 0 42 (dk_at dksX1_lessens_1 2 rfl rfl)
theorem dX1_lessens_29 : decode cX1_lessens 29 = .ok (.istore 4, 2) := dk_54 4 (dk_at dksX1_lessens_1 5 rfl rfl)
theorem dX1_lessens_31 : decode cX1_lessens 31 = .ok (.iconst 0, 1) := dk_3 (dk_at dksX1_lessens_1 7 rfl rfl)
theorem dX1_lessens_32 : decode cX1_lessens 32 = .ok (.aload_n 0, 1) := dk_42 (dk_at dksX1_lessens_1 8 rfl rfl)
theorem dX1_lessens_33 : decode cX1_lessens 33 = .ok (.getfield 15, 3) := dk_180 0 15 (dk_at dksX1_lessens_1 9 rfl rfl)
theorem dX1_lessens_36 : decode cX1_lessens 36 = .ok (.iload_n 3, 1) := dk_29 (dk_at dksX1_lessens_1 12 rfl rfl)
theorem dX1_lessens_37 : decode cX1_lessens 37 = .ok (.iaload, 1) := dk_46 (dk_at dksX1_lessens_1 13 rfl rfl)
theorem dX1_lessens_38 : decode cX1_lessens 38 = .ok (.iload_n 1, 1) := dk_27 (dk_at dksX1_lessens_1 14 rfl rfl)
theorem dX1_lessens_39 : decode cX1_lessens 39 = .ok (.isub, 1) := dk_100 (dk_at dksX1_lessens_1 15 rfl rfl)
theorem dX1_lessens_40 : decode cX1_lessens 40 = .ok (.invokestatic 42, 3) := dk_184 0 42 (dk_at dksX1_lessens_1 16 rfl rfl)
theorem dX1_lessens_43 : decode cX1_lessens 43 = .ok (.istore 5, 2) := dk_54 5 (dk_at dksX1_lessens_1 19 rfl rfl)
theorem dX1_lessens_45 : decode cX1_lessens 45 = .ok (.aload_n 0, 1) := dk_42 (dk_at dksX1_lessens_1 21 rfl rfl)
theorem dX1_lessens_46 : decode cX1_lessens 46 = .ok (.iload 4, 2) := dk_21 4 (dk_at dksX1_lessens_1 22 rfl rfl)
theorem dX1_lessens_48 : decode cX1_lessens 48 = .ok (.iload 5, 2) := dk_21 5 (dk_at dksX1_lessens_2 0 rfl rfl)
theorem dX1_lessens_50 : decode cX1_lessens 50 = .ok (.invokevirtual 45, 3) := dk_182 0 45 (dk_at dksX1_lessens_2 2 rfl rfl)
theorem dX1_lessens_53 : decode cX1_lessens 53 = .ok (.bipush (-5), 2) := dk_16 251 (dk_at dksX1_lessens_2 5 rfl rfl)
theorem dX1_lessens_55 : decode cX1_lessens 55 = .ok (.if_icmp .ne 11, 3) := dk_160 0 11 (dk_at dksX1_lessens_2 7 rfl rfl)
theorem dX1_lessens_58 : decode cX1_lessens 58 = .ok (.aload_n 0, 1) := dk_42 (dk_at dksX1_lessens_2 10 rfl rfl)
theorem dX1_lessens_59 : decode cX1_lessens 59 = .ok (.iload 4, 2) := dk_21 4 (dk_at dksX1_lessens_2 11 rfl rfl)
theorem dX1_lessens_61 : decode cX1_lessens 61 = .ok (.iload 5, 2) := dk_21 5 (dk_at dksX1_lessens_2 13 rfl rfl)
theorem dX1_lessens_63 : decode cX1_lessens 63 = .ok (.invokevirtual 48, 3) := dk_182 0 48 (dk_at dksX1_lessens_2 15 rfl rfl)
theorem dX1_lessens_66 : decode cX1_lessens 66 = .ok (.iinc 3 1, 3) := dk_132 3 1 (dk_at dksX1_lessens_2 18 rfl rfl)
theorem dX1_lessens_69 : decode cX1_lessens 69 = .ok (.goto (-57), 3) := dk_167 255 199 (dk_at dksX1_lessens_2 21 rfl rfl)
theorem dX1_lessens_72 : decode cX1_lessens 72 = .ok (.return_, 1) := dk_177 (dk_at dksX1_lessens_3 0 rfl rfl)
theorem q67 : (Jvm.Cond.initialized "TermIdeals$Ideal") ∈ lw_all := lw_g (lw_at lw_m1 2 rfl) rfl
theorem q104 : (Jvm.Cond.instantiable "TermIdeals$Ideal" (3 : Nat)) ∈ lw_all := lw_g (lw_at lw_m1 39 rfl) rfl
theorem q106 : (Jvm.Cond.instanceMethod ({ cls := "TermIdeals$Ideal", name := "<init>", desc := "()V" } : Jvm.MethodName)) ∈ lw_all := lw_g (lw_at lw_m1 41 rfl) rfl
theorem q107 : (Jvm.Cond.code ({ cls := "TermIdeals$Ideal", name := "<init>", desc := "()V" } : Jvm.MethodName) prog_7_method_1_code (1 : Nat) (Option.none : Option Jvm.ClassFile.FieldType)) ∈ lw_all := lw_g (lw_at lw_m1 42 rfl) rfl
theorem q108 : (Jvm.Cond.methodLink "TermIdeals$Ideal" (3 : Nat) ({ cls := "java/lang/Object", name := "<init>", desc := "()V" } : Jvm.MethodName)) ∈ lw_all := lw_g (lw_at lw_m1 43 rfl) rfl
theorem q109 : (Jvm.Cond.fieldLink "TermIdeals$Ideal" (9 : Nat) "TermIdeals$Ideal" "as" "[I") ∈ lw_all := lw_g (lw_at lw_m1 44 rfl) rfl
theorem q112 : (Jvm.Cond.fieldLink "TermIdeals$Ideal" (15 : Nat) "TermIdeals$Ideal" "bs" "[I") ∈ lw_all := lw_g (lw_at lw_m1 47 rfl) rfl
theorem q116 : (Jvm.Cond.fieldLink "TermIdeals$Ideal" (24 : Nat) "TermIdeals$Ideal" "many" "I") ∈ lw_all := lw_g (lw_at lw_m1 51 rfl) rfl
theorem q118 : (Jvm.Cond.laysFinal "TermIdeals$Ideal" "TermIdeals$Ideal" "as" "[I") ∈ lw_all := lw_g (lw_at lw_m1 53 rfl) rfl
theorem q119 : (Jvm.Cond.soleField "TermIdeals$Ideal" "as") ∈ lw_all := lw_g (lw_at lw_m1 54 rfl) rfl
theorem q120 : (Jvm.Cond.laysFinal "TermIdeals$Ideal" "TermIdeals$Ideal" "bs" "[I") ∈ lw_all := lw_g (lw_at lw_m1 55 rfl) rfl
theorem q121 : (Jvm.Cond.soleField "TermIdeals$Ideal" "bs") ∈ lw_all := lw_g (lw_at lw_m1 56 rfl) rfl
theorem q122 : (Jvm.Cond.lays "TermIdeals$Ideal" "TermIdeals$Ideal" "many" "I") ∈ lw_all := lw_g (lw_at lw_m1 57 rfl) rfl
theorem q123 : (Jvm.Cond.soleField "TermIdeals$Ideal" "many") ∈ lw_all := lw_g (lw_at lw_m1 58 rfl) rfl
theorem q124 : (Jvm.Cond.superclass "TermIdeals$Ideal" "java/lang/Object") ∈ lw_all := lw_g (lw_at lw_m1 59 rfl) rfl
theorem q309 : (Jvm.Cond.instanceMethod ({ cls := "TermIdeals$Ideal", name := "placeOf", desc := "(II)I" } : Jvm.MethodName)) ∈ lw_all := lw_g (lw_at lw_m2 4 rfl) rfl
theorem q310 : (Jvm.Cond.selects "TermIdeals$Ideal" ({ cls := "TermIdeals$Ideal", name := "placeOf", desc := "(II)I" } : Jvm.MethodName) ({ cls := "TermIdeals$Ideal", name := "placeOf", desc := "(II)I" } : Jvm.MethodName)) ∈ lw_all := lw_g (lw_at lw_m2 5 rfl) rfl
theorem q311 : (Jvm.Cond.code ({ cls := "TermIdeals$Ideal", name := "placeOf", desc := "(II)I" } : Jvm.MethodName) prog_7_method_3_code (4 : Nat) (Option.some Jvm.ClassFile.FieldType.int)) ∈ lw_all := lw_g (lw_at lw_m2 6 rfl) rfl
theorem q317 : (Jvm.Cond.instanceMethod ({ cls := "TermIdeals$Ideal", name := "takes", desc := "(LTermIdeals$Ideal;)V" } : Jvm.MethodName)) ∈ lw_all := lw_g (lw_at lw_m2 12 rfl) rfl
theorem q318 : (Jvm.Cond.selects "TermIdeals$Ideal" ({ cls := "TermIdeals$Ideal", name := "takes", desc := "(LTermIdeals$Ideal;)V" } : Jvm.MethodName) ({ cls := "TermIdeals$Ideal", name := "takes", desc := "(LTermIdeals$Ideal;)V" } : Jvm.MethodName)) ∈ lw_all := lw_g (lw_at lw_m2 13 rfl) rfl
theorem q319 : (Jvm.Cond.code ({ cls := "TermIdeals$Ideal", name := "takes", desc := "(LTermIdeals$Ideal;)V" } : Jvm.MethodName) prog_7_method_2_code (2 : Nat) (Option.none : Option Jvm.ClassFile.FieldType)) ∈ lw_all := lw_g (lw_at lw_m2 14 rfl) rfl
theorem q320 : (Jvm.Cond.methodLink "TermIdeals$Ideal" (18 : Nat) ({ cls := "java/lang/System", name := "arraycopy", desc := "(Ljava/lang/Object;ILjava/lang/Object;II)V" } : Jvm.MethodName)) ∈ lw_all := lw_g (lw_at lw_m2 15 rfl) rfl
theorem q324 : (Jvm.Cond.instanceMethod ({ cls := "TermIdeals$Ideal", name := "comes", desc := "(II)V" } : Jvm.MethodName)) ∈ lw_all := lw_g (lw_at lw_m2 19 rfl) rfl
theorem q325 : (Jvm.Cond.selects "TermIdeals$Ideal" ({ cls := "TermIdeals$Ideal", name := "comes", desc := "(II)V" } : Jvm.MethodName) ({ cls := "TermIdeals$Ideal", name := "comes", desc := "(II)V" } : Jvm.MethodName)) ∈ lw_all := lw_g (lw_at lw_m2 20 rfl) rfl
theorem q326 : (Jvm.Cond.code ({ cls := "TermIdeals$Ideal", name := "comes", desc := "(II)V" } : Jvm.MethodName) prog_7_method_4_code (3 : Nat) (Option.none : Option Jvm.ClassFile.FieldType)) ∈ lw_all := lw_g (lw_at lw_m2 21 rfl) rfl
theorem q336 : (Jvm.Cond.instanceMethod ({ cls := "TermIdeals$Ideal", name := "goes", desc := "(I)V" } : Jvm.MethodName)) ∈ lw_all := lw_g (lw_at lw_m2 31 rfl) rfl
theorem q337 : (Jvm.Cond.selects "TermIdeals$Ideal" ({ cls := "TermIdeals$Ideal", name := "goes", desc := "(I)V" } : Jvm.MethodName) ({ cls := "TermIdeals$Ideal", name := "goes", desc := "(I)V" } : Jvm.MethodName)) ∈ lw_all := lw_g (lw_at lw_m2 32 rfl) rfl
theorem q338 : (Jvm.Cond.code ({ cls := "TermIdeals$Ideal", name := "goes", desc := "(I)V" } : Jvm.MethodName) prog_7_method_5_code (3 : Nat) (Option.none : Option Jvm.ClassFile.FieldType)) ∈ lw_all := lw_g (lw_at lw_m2 33 rfl) rfl
theorem q581 : (Jvm.Cond.instanceMethod ({ cls := "TermIdeals$Ideal", name := "isLeast", desc := "(I)Z" } : Jvm.MethodName)) ∈ lw_all := lw_g (lw_at lw_m3 36 rfl) rfl
theorem q582 : (Jvm.Cond.selects "TermIdeals$Ideal" ({ cls := "TermIdeals$Ideal", name := "isLeast", desc := "(I)Z" } : Jvm.MethodName) ({ cls := "TermIdeals$Ideal", name := "isLeast", desc := "(I)Z" } : Jvm.MethodName)) ∈ lw_all := lw_g (lw_at lw_m3 37 rfl) rfl
theorem q583 : (Jvm.Cond.code ({ cls := "TermIdeals$Ideal", name := "isLeast", desc := "(I)Z" } : Jvm.MethodName) prog_7_method_8_code (2 : Nat) (Option.some Jvm.ClassFile.FieldType.boolean)) ∈ lw_all := lw_g (lw_at lw_m3 38 rfl) rfl
theorem q584 : (Jvm.Cond.methodLink "TermIdeals$Ideal" (28 : Nat) ({ cls := "TermIdeals$Ideal", name := "holdsBut", desc := "(III)Z" } : Jvm.MethodName)) ∈ lw_all := lw_g (lw_at lw_m3 39 rfl) rfl
theorem q585 : (Jvm.Cond.instanceMethod ({ cls := "TermIdeals$Ideal", name := "holdsBut", desc := "(III)Z" } : Jvm.MethodName)) ∈ lw_all := lw_g (lw_at lw_m3 40 rfl) rfl
theorem q586 : (Jvm.Cond.selects "TermIdeals$Ideal" ({ cls := "TermIdeals$Ideal", name := "holdsBut", desc := "(III)Z" } : Jvm.MethodName) ({ cls := "TermIdeals$Ideal", name := "holdsBut", desc := "(III)Z" } : Jvm.MethodName)) ∈ lw_all := lw_g (lw_at lw_m3 41 rfl) rfl
theorem q587 : (Jvm.Cond.code ({ cls := "TermIdeals$Ideal", name := "holdsBut", desc := "(III)Z" } : Jvm.MethodName) prog_7_method_7_code (5 : Nat) (Option.some Jvm.ClassFile.FieldType.boolean)) ∈ lw_all := lw_g (lw_at lw_m3 42 rfl) rfl
theorem q593 : (Jvm.Cond.instanceMethod ({ cls := "TermIdeals$Ideal", name := "least", desc := "()I" } : Jvm.MethodName)) ∈ lw_all := lw_g (lw_at lw_m3 48 rfl) rfl
theorem q594 : (Jvm.Cond.selects "TermIdeals$Ideal" ({ cls := "TermIdeals$Ideal", name := "least", desc := "()I" } : Jvm.MethodName) ({ cls := "TermIdeals$Ideal", name := "least", desc := "()I" } : Jvm.MethodName)) ∈ lw_all := lw_g (lw_at lw_m3 49 rfl) rfl
theorem q595 : (Jvm.Cond.code ({ cls := "TermIdeals$Ideal", name := "least", desc := "()I" } : Jvm.MethodName) prog_7_method_9_code (3 : Nat) (Option.some Jvm.ClassFile.FieldType.int)) ∈ lw_all := lw_g (lw_at lw_m3 50 rfl) rfl
theorem q596 : (Jvm.Cond.methodLink "TermIdeals$Ideal" (32 : Nat) ({ cls := "TermIdeals$Ideal", name := "isLeast", desc := "(I)Z" } : Jvm.MethodName)) ∈ lw_all := lw_g (lw_at lw_m3 51 rfl) rfl
theorem q603 : (Jvm.Cond.instanceMethod ({ cls := "TermIdeals$Ideal", name := "holds", desc := "(II)Z" } : Jvm.MethodName)) ∈ lw_all := lw_g (lw_at lw_m3 58 rfl) rfl
theorem q604 : (Jvm.Cond.selects "TermIdeals$Ideal" ({ cls := "TermIdeals$Ideal", name := "holds", desc := "(II)Z" } : Jvm.MethodName) ({ cls := "TermIdeals$Ideal", name := "holds", desc := "(II)Z" } : Jvm.MethodName)) ∈ lw_all := lw_g (lw_at lw_m3 59 rfl) rfl
theorem q605 : (Jvm.Cond.code ({ cls := "TermIdeals$Ideal", name := "holds", desc := "(II)Z" } : Jvm.MethodName) prog_7_method_6_code (3 : Nat) (Option.some Jvm.ClassFile.FieldType.boolean)) ∈ lw_all := lw_g (lw_at lw_m3 60 rfl) rfl
theorem q779 : (Jvm.Cond.instanceMethod ({ cls := "TermIdeals$Ideal", name := "height", desc := "(I)I" } : Jvm.MethodName)) ∈ lw_all := lw_g (lw_at lw_m3 234 rfl) rfl
theorem q780 : (Jvm.Cond.selects "TermIdeals$Ideal" ({ cls := "TermIdeals$Ideal", name := "height", desc := "(I)I" } : Jvm.MethodName) ({ cls := "TermIdeals$Ideal", name := "height", desc := "(I)I" } : Jvm.MethodName)) ∈ lw_all := lw_g (lw_at lw_m3 235 rfl) rfl
theorem q781 : (Jvm.Cond.code ({ cls := "TermIdeals$Ideal", name := "height", desc := "(I)I" } : Jvm.MethodName) prog_7_method_10_code (4 : Nat) (Option.some Jvm.ClassFile.FieldType.int)) ∈ lw_all := lw_g (lw_at lw_m3 236 rfl) rfl
theorem q782 : (Jvm.Cond.methodLink "TermIdeals$Ideal" (36 : Nat) ({ cls := "java/lang/Math", name := "min", desc := "(II)I" } : Jvm.MethodName)) ∈ lw_all := lw_g (lw_at lw_m3 237 rfl) rfl
theorem q855 : (Jvm.Cond.instanceMethod ({ cls := "TermIdeals$Ideal", name := "powers", desc := "()I" } : Jvm.MethodName)) ∈ lw_all := lw_g (lw_at lw_m4 70 rfl) rfl
theorem q856 : (Jvm.Cond.selects "TermIdeals$Ideal" ({ cls := "TermIdeals$Ideal", name := "powers", desc := "()I" } : Jvm.MethodName) ({ cls := "TermIdeals$Ideal", name := "powers", desc := "()I" } : Jvm.MethodName)) ∈ lw_all := lw_g (lw_at lw_m4 71 rfl) rfl
theorem q857 : (Jvm.Cond.code ({ cls := "TermIdeals$Ideal", name := "powers", desc := "()I" } : Jvm.MethodName) prog_7_method_11_code (3 : Nat) (Option.some Jvm.ClassFile.FieldType.int)) ∈ lw_all := lw_g (lw_at lw_m4 72 rfl) rfl
theorem q871 : (Jvm.Cond.instanceMethod ({ cls := "TermIdeals$Ideal", name := "lessens", desc := "(I)V" } : Jvm.MethodName)) ∈ lw_all := lw_g (lw_at lw_m4 86 rfl) rfl
theorem q872 : (Jvm.Cond.selects "TermIdeals$Ideal" ({ cls := "TermIdeals$Ideal", name := "lessens", desc := "(I)V" } : Jvm.MethodName) ({ cls := "TermIdeals$Ideal", name := "lessens", desc := "(I)V" } : Jvm.MethodName)) ∈ lw_all := lw_g (lw_at lw_m4 87 rfl) rfl
theorem q873 : (Jvm.Cond.code ({ cls := "TermIdeals$Ideal", name := "lessens", desc := "(I)V" } : Jvm.MethodName) prog_7_method_12_code (6 : Nat) (Option.none : Option Jvm.ClassFile.FieldType)) ∈ lw_all := lw_g (lw_at lw_m4 88 rfl) rfl
theorem q874 : (Jvm.Cond.methodLink "TermIdeals$Ideal" (42 : Nat) ({ cls := "java/lang/Math", name := "max", desc := "(II)I" } : Jvm.MethodName)) ∈ lw_all := lw_g (lw_at lw_m4 89 rfl) rfl
theorem q877 : (Jvm.Cond.methodLink "TermIdeals$Ideal" (45 : Nat) ({ cls := "TermIdeals$Ideal", name := "placeOf", desc := "(II)I" } : Jvm.MethodName)) ∈ lw_all := lw_g (lw_at lw_m4 92 rfl) rfl
theorem q878 : (Jvm.Cond.methodLink "TermIdeals$Ideal" (48 : Nat) ({ cls := "TermIdeals$Ideal", name := "comes", desc := "(II)V" } : Jvm.MethodName)) ∈ lw_all := lw_g (lw_at lw_m4 93 rfl) rfl
theorem in_X1 : ∀ w ∈ wsX10, w ∈ lw_all := lw_in wsX10 [118, 120, 122] (by decide +kernel) (by decide +kernel)
/-! TermIdeals$Faces -/
set_option maxRecDepth 100000
def RX2 : String := "TermIdeals$Faces"
def TX2 : u_T := fun k => match k with
  | 0 => ("TermIdeals$Faces", "of", "LTermIdeals$Ideal;", false)
  | 1 => ("TermIdeals$Faces", "ss", "[I", true)
  | 2 => ("TermIdeals$Faces", "ts", "[I", true)
  | 3 => ("TermIdeals$Faces", "levels", "[I", true)
  | 4 => ("TermIdeals$Faces", "many", "I", false)
  | 5 => ("TermIdeals$Faces", "up", "I", false)
  | 6 => ("TermIdeals$Faces", "low", "I", false)
  | 7 => ("TermIdeals$Faces", "ups", "[I", true)
  | 8 => ("TermIdeals$Faces", "lows", "[I", true)
  | _ => ("TermIdeals$Faces", "manyJumps", "I", false)
def tyX2 : Nat → FieldType := fun k => match k with
  | 0 => .object "TermIdeals$Ideal"
  | 1 => .array .int
  | 2 => .array .int
  | 3 => .array .int
  | 4 => .int
  | 5 => .int
  | 6 => .int
  | 7 => .array .int
  | 8 => .array .int
  | _ => .int
abbrev wsX20 : List Cond := u_ws RX2 TX2 10
theorem nmX2 : ∀ a, a < 10 → ∀ b, b < 10 → a ≠ b → (TX2 a).2.1 ≠ (TX2 b).2.1 := by decide +kernel
theorem tyX2_ok : ∀ k, k < 10 → parseFieldDescriptor (TX2 k).2.2.1 = some (tyX2 k) := by decide +kernel
abbrev cX2_init : ByteArray := prog_6_method_1_code
def yX2_init : MethodName := ⟨RX2, "<init>", "()V"⟩
def dkwX2_init_1 : List UInt8 := [188, 10, 181, 0, 18, 42, 16, 100, 188, 10, 181, 0, 21, 42, 16, 100, 188, 10, 181, 0, 24, 177]
abbrev dktX2_init_1 : List UInt8 := dkwX2_init_1 ++ []
def dkwX2_init_0 : List UInt8 := [42, 183, 0, 3, 42, 16, 8, 188, 10, 181, 0, 9, 42, 16, 8, 188, 10, 181, 0, 15, 42, 16, 8]
abbrev dktX2_init_0 : List UInt8 := dkwX2_init_0 ++ dktX2_init_1
theorem dksX2_init_0 : cX2_init.data.toList.drop 0 = dktX2_init_0 := by decide +kernel
theorem dksX2_init_1 : cX2_init.data.toList.drop 23 = dktX2_init_1 := dk_seg dksX2_init_0 23 rfl rfl
theorem dX2_init_0 : decode cX2_init 0 = .ok (.aload_n 0, 1) := dk_42 (dk_at dksX2_init_0 0 rfl rfl)
theorem dX2_init_1 : decode cX2_init 1 = .ok (.invokespecial 3, 3) := dk_183 0 3 (dk_at dksX2_init_0 1 rfl rfl)
theorem dX2_init_4 : decode cX2_init 4 = .ok (.aload_n 0, 1) := dk_42 (dk_at dksX2_init_0 4 rfl rfl)
theorem dX2_init_5 : decode cX2_init 5 = .ok (.bipush 8, 2) := dk_16 8 (dk_at dksX2_init_0 5 rfl rfl)
theorem dX2_init_7 : decode cX2_init 7 = .ok (.newarray .int, 2) := dk_188_10 (dk_at dksX2_init_0 7 rfl rfl)
theorem dX2_init_9 : decode cX2_init 9 = .ok (.putfield 9, 3) := dk_181 0 9 (dk_at dksX2_init_0 9 rfl rfl)
theorem dX2_init_12 : decode cX2_init 12 = .ok (.aload_n 0, 1) := dk_42 (dk_at dksX2_init_0 12 rfl rfl)
theorem dX2_init_13 : decode cX2_init 13 = .ok (.bipush 8, 2) := dk_16 8 (dk_at dksX2_init_0 13 rfl rfl)
theorem dX2_init_15 : decode cX2_init 15 = .ok (.newarray .int, 2) := dk_188_10 (dk_at dksX2_init_0 15 rfl rfl)
theorem dX2_init_17 : decode cX2_init 17 = .ok (.putfield 15, 3) := dk_181 0 15 (dk_at dksX2_init_0 17 rfl rfl)
theorem dX2_init_20 : decode cX2_init 20 = .ok (.aload_n 0, 1) := dk_42 (dk_at dksX2_init_0 20 rfl rfl)
theorem dX2_init_21 : decode cX2_init 21 = .ok (.bipush 8, 2) := dk_16 8 (dk_at dksX2_init_0 21 rfl rfl)
theorem dX2_init_23 : decode cX2_init 23 = .ok (.newarray .int, 2) := dk_188_10 (dk_at dksX2_init_1 0 rfl rfl)
theorem dX2_init_25 : decode cX2_init 25 = .ok (.putfield 18, 3) := dk_181 0 18 (dk_at dksX2_init_1 2 rfl rfl)
theorem dX2_init_28 : decode cX2_init 28 = .ok (.aload_n 0, 1) := dk_42 (dk_at dksX2_init_1 5 rfl rfl)
theorem dX2_init_29 : decode cX2_init 29 = .ok (.bipush 100, 2) := dk_16 100 (dk_at dksX2_init_1 6 rfl rfl)
theorem dX2_init_31 : decode cX2_init 31 = .ok (.newarray .int, 2) := dk_188_10 (dk_at dksX2_init_1 8 rfl rfl)
theorem dX2_init_33 : decode cX2_init 33 = .ok (.putfield 21, 3) := dk_181 0 21 (dk_at dksX2_init_1 10 rfl rfl)
theorem dX2_init_36 : decode cX2_init 36 = .ok (.aload_n 0, 1) := dk_42 (dk_at dksX2_init_1 13 rfl rfl)
theorem dX2_init_37 : decode cX2_init 37 = .ok (.bipush 100, 2) := dk_16 100 (dk_at dksX2_init_1 14 rfl rfl)
theorem dX2_init_39 : decode cX2_init 39 = .ok (.newarray .int, 2) := dk_188_10 (dk_at dksX2_init_1 16 rfl rfl)
theorem dX2_init_41 : decode cX2_init 41 = .ok (.putfield 24, 3) := dk_181 0 24 (dk_at dksX2_init_1 18 rfl rfl)
theorem dX2_init_44 : decode cX2_init 44 = .ok (.return_, 1) := dk_177 (dk_at dksX2_init_1 21 rfl rfl)
abbrev cX2_looks : ByteArray := prog_6_method_5_code
def yX2_looks : MethodName := ⟨RX2, "looks", "(LTermIdeals$Ideal;)LTermIdeals$Faces;"⟩
def dkwX2_looks_4 : List UInt8 := [132, 2, 1, 167, 255, 200, 42, 176]
abbrev dktX2_looks_4 : List UInt8 := dkwX2_looks_4 ++ []
def dkwX2_looks_3 : List UInt8 := [29, 182, 0, 50, 182, 0, 64, 153, 0, 9, 42, 28, 29, 182, 0, 56, 132, 3, 1, 167, 255, 214]
abbrev dktX2_looks_3 : List UInt8 := dkwX2_looks_3 ++ dktX2_looks_4
def dkwX2_looks_2 : List UInt8 := [62, 29, 16, 9, 163, 0, 42, 28, 133, 29, 133, 184, 0, 60, 10, 148, 154, 0, 24, 42, 28, 29, 42, 28]
abbrev dktX2_looks_2 : List UInt8 := dkwX2_looks_2 ++ dktX2_looks_3
def dkwX2_looks_1 : List UInt8 := [181, 0, 49, 42, 4, 3, 182, 0, 56, 42, 3, 4, 182, 0, 56, 4, 61, 28, 16, 9, 163, 0, 56, 4]
abbrev dktX2_looks_1 : List UInt8 := dkwX2_looks_1 ++ dktX2_looks_2
def dkwX2_looks_0 : List UInt8 := [43, 180, 0, 31, 154, 0, 11, 187, 0, 53, 89, 183, 0, 55, 191, 42, 43, 181, 0, 27, 42, 3]
abbrev dktX2_looks_0 : List UInt8 := dkwX2_looks_0 ++ dktX2_looks_1
theorem dksX2_looks_0 : cX2_looks.data.toList.drop 0 = dktX2_looks_0 := by decide +kernel
theorem dksX2_looks_1 : cX2_looks.data.toList.drop 22 = dktX2_looks_1 := dk_seg dksX2_looks_0 22 rfl rfl
theorem dksX2_looks_2 : cX2_looks.data.toList.drop 46 = dktX2_looks_2 := dk_seg dksX2_looks_1 24 rfl rfl
theorem dksX2_looks_3 : cX2_looks.data.toList.drop 70 = dktX2_looks_3 := dk_seg dksX2_looks_2 24 rfl rfl
theorem dksX2_looks_4 : cX2_looks.data.toList.drop 92 = dktX2_looks_4 := dk_seg dksX2_looks_3 22 rfl rfl
theorem dX2_looks_0 : decode cX2_looks 0 = .ok (.aload_n 1, 1) := dk_43 (dk_at dksX2_looks_0 0 rfl rfl)
theorem dX2_looks_1 : decode cX2_looks 1 = .ok (.getfield 31, 3) := dk_180 0 31 (dk_at dksX2_looks_0 1 rfl rfl)
theorem dX2_looks_4 : decode cX2_looks 4 = .ok (.ifCond .ne 11, 3) := dk_154 0 11 (dk_at dksX2_looks_0 4 rfl rfl)
theorem dX2_looks_7 : decode cX2_looks 7 = .ok (.new 53, 3) := dk_187 0 53 (dk_at dksX2_looks_0 7 rfl rfl)
theorem dX2_looks_10 : decode cX2_looks 10 = .ok (.dup, 1) := dk_89 (dk_at dksX2_looks_0 10 rfl rfl)
theorem dX2_looks_11 : decode cX2_looks 11 = .ok (.invokespecial 55, 3) := dk_183 0 55 (dk_at dksX2_looks_0 11 rfl rfl)
theorem dX2_looks_14 : decode cX2_looks 14 = .ok (.athrow, 1) := dk_191 (dk_at dksX2_looks_0 14 rfl rfl)
theorem dX2_looks_15 : decode cX2_looks 15 = .ok (.aload_n 0, 1) := dk_42 (dk_at dksX2_looks_0 15 rfl rfl)
theorem dX2_looks_16 : decode cX2_looks 16 = .ok (.aload_n 1, 1) := dk_43 (dk_at dksX2_looks_0 16 rfl rfl)
theorem dX2_looks_17 : decode cX2_looks 17 = .ok (.putfield 27, 3) := dk_181 0 27 (dk_at dksX2_looks_0 17 rfl rfl)
theorem dX2_looks_20 : decode cX2_looks 20 = .ok (.aload_n 0, 1) := dk_42 (dk_at dksX2_looks_0 20 rfl rfl)
theorem dX2_looks_21 : decode cX2_looks 21 = .ok (.iconst 0, 1) := dk_3 (dk_at dksX2_looks_0 21 rfl rfl)
theorem dX2_looks_22 : decode cX2_looks 22 = .ok (.putfield 49, 3) := dk_181 0 49 (dk_at dksX2_looks_1 0 rfl rfl)
theorem dX2_looks_25 : decode cX2_looks 25 = .ok (.aload_n 0, 1) := dk_42 (dk_at dksX2_looks_1 3 rfl rfl)
theorem dX2_looks_26 : decode cX2_looks 26 = .ok (.iconst 1, 1) := dk_4 (dk_at dksX2_looks_1 4 rfl rfl)
theorem dX2_looks_27 : decode cX2_looks 27 = .ok (.iconst 0, 1) := dk_3 (dk_at dksX2_looks_1 5 rfl rfl)
theorem dX2_looks_28 : decode cX2_looks 28 = .ok (.invokevirtual 56, 3) := dk_182 0 56 (dk_at dksX2_looks_1 6 rfl rfl)
theorem dX2_looks_31 : decode cX2_looks 31 = .ok (.aload_n 0, 1) := dk_42 (dk_at dksX2_looks_1 9 rfl rfl)
theorem dX2_looks_32 : decode cX2_looks 32 = .ok (.iconst 0, 1) := dk_3 (dk_at dksX2_looks_1 10 rfl rfl)
theorem dX2_looks_33 : decode cX2_looks 33 = .ok (.iconst 1, 1) := dk_4 (dk_at dksX2_looks_1 11 rfl rfl)
theorem dX2_looks_34 : decode cX2_looks 34 = .ok (.invokevirtual 56, 3) := dk_182 0 56 (dk_at dksX2_looks_1 12 rfl rfl)
theorem dX2_looks_37 : decode cX2_looks 37 = .ok (.iconst 1, 1) := dk_4 (dk_at dksX2_looks_1 15 rfl rfl)
theorem dX2_looks_38 : decode cX2_looks 38 = .ok (.istore_n 2, 1) := dk_61 (dk_at dksX2_looks_1 16 rfl rfl)
theorem dX2_looks_39 : decode cX2_looks 39 = .ok (.iload_n 2, 1) := dk_28 (dk_at dksX2_looks_1 17 rfl rfl)
theorem dX2_looks_40 : decode cX2_looks 40 = .ok (.bipush 9, 2) := dk_16 9 (dk_at dksX2_looks_1 18 rfl rfl)
theorem dX2_looks_42 : decode cX2_looks 42 = .ok (.if_icmp .gt 56, 3) := dk_163 0 56 (dk_at dksX2_looks_1 20 rfl rfl)
theorem dX2_looks_45 : decode cX2_looks 45 = .ok (.iconst 1, 1) := dk_4 (dk_at dksX2_looks_1 23 rfl rfl)
theorem dX2_looks_46 : decode cX2_looks 46 = .ok (.istore_n 3, 1) := dk_62 (dk_at dksX2_looks_2 0 rfl rfl)
theorem dX2_looks_47 : decode cX2_looks 47 = .ok (.iload_n 3, 1) := dk_29 (dk_at dksX2_looks_2 1 rfl rfl)
theorem dX2_looks_48 : decode cX2_looks 48 = .ok (.bipush 9, 2) := dk_16 9 (dk_at dksX2_looks_2 2 rfl rfl)
theorem dX2_looks_50 : decode cX2_looks 50 = .ok (.if_icmp .gt 42, 3) := dk_163 0 42 (dk_at dksX2_looks_2 4 rfl rfl)
theorem dX2_looks_53 : decode cX2_looks 53 = .ok (.iload_n 2, 1) := dk_28 (dk_at dksX2_looks_2 7 rfl rfl)
theorem dX2_looks_54 : decode cX2_looks 54 = .ok (.i2l, 1) := dk_133 (dk_at dksX2_looks_2 8 rfl rfl)
theorem dX2_looks_55 : decode cX2_looks 55 = .ok (.iload_n 3, 1) := dk_29 (dk_at dksX2_looks_2 9 rfl rfl)
theorem dX2_looks_56 : decode cX2_looks 56 = .ok (.i2l, 1) := dk_133 (dk_at dksX2_looks_2 10 rfl rfl)
theorem dX2_looks_57 : decode cX2_looks 57 = .ok (.invokestatic 60, 3) := dk_184 0 60 (dk_at dksX2_looks_2 11 rfl rfl)
theorem dX2_looks_60 : decode cX2_looks 60 = .ok (.lconst 1, 1) := dk_10 (dk_at dksX2_looks_2 14 rfl rfl)
theorem dX2_looks_61 : decode cX2_looks 61 = .ok (.lcmp, 1) := dk_148 (dk_at dksX2_looks_2 15 rfl rfl)
theorem dX2_looks_62 : decode cX2_looks 62 = .ok (.ifCond .ne 24, 3) := dk_154 0 24 (dk_at dksX2_looks_2 16 rfl rfl)
theorem dX2_looks_65 : decode cX2_looks 65 = .ok (.aload_n 0, 1) := dk_42 (dk_at dksX2_looks_2 19 rfl rfl)
theorem dX2_looks_66 : decode cX2_looks 66 = .ok (.iload_n 2, 1) := dk_28 (dk_at dksX2_looks_2 20 rfl rfl)
theorem dX2_looks_67 : decode cX2_looks 67 = .ok (.iload_n 3, 1) := dk_29 (dk_at dksX2_looks_2 21 rfl rfl)
theorem dX2_looks_68 : decode cX2_looks 68 = .ok (.aload_n 0, 1) := dk_42 (dk_at dksX2_looks_2 22 rfl rfl)
theorem dX2_looks_69 : decode cX2_looks 69 = .ok (.iload_n 2, 1) := dk_28 (dk_at dksX2_looks_2 23 rfl rfl)
theorem dX2_looks_70 : decode cX2_looks 70 = .ok (.iload_n 3, 1) := dk_29 (dk_at dksX2_looks_3 0 rfl rfl)
theorem dX2_looks_71 : decode cX2_looks 71 = .ok (.invokevirtual 50, 3) := dk_182 0 50 (dk_at dksX2_looks_3 1 rfl rfl)
theorem dX2_looks_74 : decode cX2_looks 74 = .ok (.invokevirtual 64, 3) := dk_182 0 64 (dk_at dksX2_looks_3 4 rfl rfl)
theorem dX2_looks_77 : decode cX2_looks 77 = .ok (.ifCond .eq 9, 3) := dk_153 0 9 (dk_at dksX2_looks_3 7 rfl rfl)
theorem dX2_looks_80 : decode cX2_looks 80 = .ok (.aload_n 0, 1) := dk_42 (dk_at dksX2_looks_3 10 rfl rfl)
theorem dX2_looks_81 : decode cX2_looks 81 = .ok (.iload_n 2, 1) := dk_28 (dk_at dksX2_looks_3 11 rfl rfl)
theorem dX2_looks_82 : decode cX2_looks 82 = .ok (.iload_n 3, 1) := dk_29 (dk_at dksX2_looks_3 12 rfl rfl)
theorem dX2_looks_83 : decode cX2_looks 83 = .ok (.invokevirtual 56, 3) := dk_182 0 56 (dk_at dksX2_looks_3 13 rfl rfl)
theorem dX2_looks_86 : decode cX2_looks 86 = .ok (.iinc 3 1, 3) := dk_132 3 1 (dk_at dksX2_looks_3 16 rfl rfl)
theorem dX2_looks_89 : decode cX2_looks 89 = .ok (.goto (-42), 3) := dk_167 255 214 (dk_at dksX2_looks_3 19 rfl rfl)
theorem dX2_looks_92 : decode cX2_looks 92 = .ok (.iinc 2 1, 3) := dk_132 2 1 (dk_at dksX2_looks_4 0 rfl rfl)
theorem dX2_looks_95 : decode cX2_looks 95 = .ok (.goto (-56), 3) := dk_167 255 200 (dk_at dksX2_looks_4 3 rfl rfl)
theorem dX2_looks_98 : decode cX2_looks 98 = .ok (.aload_n 0, 1) := dk_42 (dk_at dksX2_looks_4 6 rfl rfl)
theorem dX2_looks_99 : decode cX2_looks 99 = .ok (.areturn, 1) := dk_176 (dk_at dksX2_looks_4 7 rfl rfl)
abbrev cX2_comes : ByteArray := prog_6_method_4_code
def yX2_comes : MethodName := ⟨RX2, "comes", "(II)V"⟩
def dkwX2_comes_4 : List UInt8 := [180, 0, 18, 29, 42, 27, 28, 182, 0, 50, 79, 42, 89, 180, 0, 49, 4, 96, 181, 0, 49, 177]
abbrev dktX2_comes_4 : List UInt8 := dkwX2_comes_4 ++ []
def dkwX2_comes_3 : List UInt8 := [100, 46, 79, 132, 3, 255, 167, 255, 184, 42, 180, 0, 9, 29, 27, 79, 42, 180, 0, 15, 29, 28, 79, 42]
abbrev dktX2_comes_3 : List UInt8 := dkwX2_comes_3 ++ dktX2_comes_4
def dkwX2_comes_2 : List UInt8 := [180, 0, 15, 29, 42, 180, 0, 15, 29, 4, 100, 46, 79, 42, 180, 0, 18, 29, 42, 180, 0, 18, 29, 4]
abbrev dktX2_comes_2 : List UInt8 := dkwX2_comes_2 ++ dktX2_comes_3
def dkwX2_comes_1 : List UInt8 := [29, 4, 100, 46, 104, 162, 0, 51, 42, 180, 0, 9, 29, 42, 180, 0, 9, 29, 4, 100, 46, 79, 42]
abbrev dktX2_comes_1 : List UInt8 := dkwX2_comes_1 ++ dktX2_comes_2
def dkwX2_comes_0 : List UInt8 := [42, 180, 0, 49, 62, 29, 158, 0, 74, 42, 180, 0, 9, 29, 4, 100, 46, 28, 104, 27, 42, 180, 0, 15]
abbrev dktX2_comes_0 : List UInt8 := dkwX2_comes_0 ++ dktX2_comes_1
theorem dksX2_comes_0 : cX2_comes.data.toList.drop 0 = dktX2_comes_0 := by decide +kernel
theorem dksX2_comes_1 : cX2_comes.data.toList.drop 24 = dktX2_comes_1 := dk_seg dksX2_comes_0 24 rfl rfl
theorem dksX2_comes_2 : cX2_comes.data.toList.drop 47 = dktX2_comes_2 := dk_seg dksX2_comes_1 23 rfl rfl
theorem dksX2_comes_3 : cX2_comes.data.toList.drop 71 = dktX2_comes_3 := dk_seg dksX2_comes_2 24 rfl rfl
theorem dksX2_comes_4 : cX2_comes.data.toList.drop 95 = dktX2_comes_4 := dk_seg dksX2_comes_3 24 rfl rfl
theorem dX2_comes_0 : decode cX2_comes 0 = .ok (.aload_n 0, 1) := dk_42 (dk_at dksX2_comes_0 0 rfl rfl)
theorem dX2_comes_1 : decode cX2_comes 1 = .ok (.getfield 49, 3) := dk_180 0 49 (dk_at dksX2_comes_0 1 rfl rfl)
theorem dX2_comes_4 : decode cX2_comes 4 = .ok (.istore_n 3, 1) := dk_62 (dk_at dksX2_comes_0 4 rfl rfl)
theorem dX2_comes_5 : decode cX2_comes 5 = .ok (.iload_n 3, 1) := dk_29 (dk_at dksX2_comes_0 5 rfl rfl)
theorem dX2_comes_6 : decode cX2_comes 6 = .ok (.ifCond .le 74, 3) := dk_158 0 74 (dk_at dksX2_comes_0 6 rfl rfl)
theorem dX2_comes_9 : decode cX2_comes 9 = .ok (.aload_n 0, 1) := dk_42 (dk_at dksX2_comes_0 9 rfl rfl)
theorem dX2_comes_10 : decode cX2_comes 10 = .ok (.getfield 9, 3) := dk_180 0 9 (dk_at dksX2_comes_0 10 rfl rfl)
theorem dX2_comes_13 : decode cX2_comes 13 = .ok (.iload_n 3, 1) := dk_29 (dk_at dksX2_comes_0 13 rfl rfl)
theorem dX2_comes_14 : decode cX2_comes 14 = .ok (.iconst 1, 1) := dk_4 (dk_at dksX2_comes_0 14 rfl rfl)
theorem dX2_comes_15 : decode cX2_comes 15 = .ok (.isub, 1) := dk_100 (dk_at dksX2_comes_0 15 rfl rfl)
theorem dX2_comes_16 : decode cX2_comes 16 = .ok (.iaload, 1) := dk_46 (dk_at dksX2_comes_0 16 rfl rfl)
theorem dX2_comes_17 : decode cX2_comes 17 = .ok (.iload_n 2, 1) := dk_28 (dk_at dksX2_comes_0 17 rfl rfl)
theorem dX2_comes_18 : decode cX2_comes 18 = .ok (.imul, 1) := dk_104 (dk_at dksX2_comes_0 18 rfl rfl)
theorem dX2_comes_19 : decode cX2_comes 19 = .ok (.iload_n 1, 1) := dk_27 (dk_at dksX2_comes_0 19 rfl rfl)
theorem dX2_comes_20 : decode cX2_comes 20 = .ok (.aload_n 0, 1) := dk_42 (dk_at dksX2_comes_0 20 rfl rfl)
theorem dX2_comes_21 : decode cX2_comes 21 = .ok (.getfield 15, 3) := dk_180 0 15 (dk_at dksX2_comes_0 21 rfl rfl)
theorem dX2_comes_24 : decode cX2_comes 24 = .ok (.iload_n 3, 1) := dk_29 (dk_at dksX2_comes_1 0 rfl rfl)
theorem dX2_comes_25 : decode cX2_comes 25 = .ok (.iconst 1, 1) := dk_4 (dk_at dksX2_comes_1 1 rfl rfl)
theorem dX2_comes_26 : decode cX2_comes 26 = .ok (.isub, 1) := dk_100 (dk_at dksX2_comes_1 2 rfl rfl)
theorem dX2_comes_27 : decode cX2_comes 27 = .ok (.iaload, 1) := dk_46 (dk_at dksX2_comes_1 3 rfl rfl)
theorem dX2_comes_28 : decode cX2_comes 28 = .ok (.imul, 1) := dk_104 (dk_at dksX2_comes_1 4 rfl rfl)
theorem dX2_comes_29 : decode cX2_comes 29 = .ok (.if_icmp .ge 51, 3) := dk_162 0 51 (dk_at dksX2_comes_1 5 rfl rfl)
theorem dX2_comes_32 : decode cX2_comes 32 = .ok (.aload_n 0, 1) := dk_42 (dk_at dksX2_comes_1 8 rfl rfl)
theorem dX2_comes_33 : decode cX2_comes 33 = .ok (.getfield 9, 3) := dk_180 0 9 (dk_at dksX2_comes_1 9 rfl rfl)
theorem dX2_comes_36 : decode cX2_comes 36 = .ok (.iload_n 3, 1) := dk_29 (dk_at dksX2_comes_1 12 rfl rfl)
theorem dX2_comes_37 : decode cX2_comes 37 = .ok (.aload_n 0, 1) := dk_42 (dk_at dksX2_comes_1 13 rfl rfl)
theorem dX2_comes_38 : decode cX2_comes 38 = .ok (.getfield 9, 3) := dk_180 0 9 (dk_at dksX2_comes_1 14 rfl rfl)
theorem dX2_comes_41 : decode cX2_comes 41 = .ok (.iload_n 3, 1) := dk_29 (dk_at dksX2_comes_1 17 rfl rfl)
theorem dX2_comes_42 : decode cX2_comes 42 = .ok (.iconst 1, 1) := dk_4 (dk_at dksX2_comes_1 18 rfl rfl)
theorem dX2_comes_43 : decode cX2_comes 43 = .ok (.isub, 1) := dk_100 (dk_at dksX2_comes_1 19 rfl rfl)
theorem dX2_comes_44 : decode cX2_comes 44 = .ok (.iaload, 1) := dk_46 (dk_at dksX2_comes_1 20 rfl rfl)
theorem dX2_comes_45 : decode cX2_comes 45 = .ok (.iastore, 1) := dk_79 (dk_at dksX2_comes_1 21 rfl rfl)
theorem dX2_comes_46 : decode cX2_comes 46 = .ok (.aload_n 0, 1) := dk_42 (dk_at dksX2_comes_1 22 rfl rfl)
theorem dX2_comes_47 : decode cX2_comes 47 = .ok (.getfield 15, 3) := dk_180 0 15 (dk_at dksX2_comes_2 0 rfl rfl)
theorem dX2_comes_50 : decode cX2_comes 50 = .ok (.iload_n 3, 1) := dk_29 (dk_at dksX2_comes_2 3 rfl rfl)
theorem dX2_comes_51 : decode cX2_comes 51 = .ok (.aload_n 0, 1) := dk_42 (dk_at dksX2_comes_2 4 rfl rfl)
theorem dX2_comes_52 : decode cX2_comes 52 = .ok (.getfield 15, 3) := dk_180 0 15 (dk_at dksX2_comes_2 5 rfl rfl)
theorem dX2_comes_55 : decode cX2_comes 55 = .ok (.iload_n 3, 1) := dk_29 (dk_at dksX2_comes_2 8 rfl rfl)
theorem dX2_comes_56 : decode cX2_comes 56 = .ok (.iconst 1, 1) := dk_4 (dk_at dksX2_comes_2 9 rfl rfl)
theorem dX2_comes_57 : decode cX2_comes 57 = .ok (.isub, 1) := dk_100 (dk_at dksX2_comes_2 10 rfl rfl)
theorem dX2_comes_58 : decode cX2_comes 58 = .ok (.iaload, 1) := dk_46 (dk_at dksX2_comes_2 11 rfl rfl)
theorem dX2_comes_59 : decode cX2_comes 59 = .ok (.iastore, 1) := dk_79 (dk_at dksX2_comes_2 12 rfl rfl)
theorem dX2_comes_60 : decode cX2_comes 60 = .ok (.aload_n 0, 1) := dk_42 (dk_at dksX2_comes_2 13 rfl rfl)
theorem dX2_comes_61 : decode cX2_comes 61 = .ok (.getfield 18, 3) := dk_180 0 18 (dk_at dksX2_comes_2 14 rfl rfl)
theorem dX2_comes_64 : decode cX2_comes 64 = .ok (.iload_n 3, 1) := dk_29 (dk_at dksX2_comes_2 17 rfl rfl)
theorem dX2_comes_65 : decode cX2_comes 65 = .ok (.aload_n 0, 1) := dk_42 (dk_at dksX2_comes_2 18 rfl rfl)
theorem dX2_comes_66 : decode cX2_comes 66 = .ok (.getfield 18, 3) := dk_180 0 18 (dk_at dksX2_comes_2 19 rfl rfl)
theorem dX2_comes_69 : decode cX2_comes 69 = .ok (.iload_n 3, 1) := dk_29 (dk_at dksX2_comes_2 22 rfl rfl)
theorem dX2_comes_70 : decode cX2_comes 70 = .ok (.iconst 1, 1) := dk_4 (dk_at dksX2_comes_2 23 rfl rfl)
theorem dX2_comes_71 : decode cX2_comes 71 = .ok (.isub, 1) := dk_100 (dk_at dksX2_comes_3 0 rfl rfl)
theorem dX2_comes_72 : decode cX2_comes 72 = .ok (.iaload, 1) := dk_46 (dk_at dksX2_comes_3 1 rfl rfl)
theorem dX2_comes_73 : decode cX2_comes 73 = .ok (.iastore, 1) := dk_79 (dk_at dksX2_comes_3 2 rfl rfl)
theorem dX2_comes_74 : decode cX2_comes 74 = .ok (.iinc 3 (-1), 3) := dk_132 3 255 (dk_at dksX2_comes_3 3 rfl rfl)
theorem dX2_comes_77 : decode cX2_comes 77 = .ok (.goto (-72), 3) := dk_167 255 184 (dk_at dksX2_comes_3 6 rfl rfl)
theorem dX2_comes_80 : decode cX2_comes 80 = .ok (.aload_n 0, 1) := dk_42 (dk_at dksX2_comes_3 9 rfl rfl)
theorem dX2_comes_81 : decode cX2_comes 81 = .ok (.getfield 9, 3) := dk_180 0 9 (dk_at dksX2_comes_3 10 rfl rfl)
theorem dX2_comes_84 : decode cX2_comes 84 = .ok (.iload_n 3, 1) := dk_29 (dk_at dksX2_comes_3 13 rfl rfl)
theorem dX2_comes_85 : decode cX2_comes 85 = .ok (.iload_n 1, 1) := dk_27 (dk_at dksX2_comes_3 14 rfl rfl)
theorem dX2_comes_86 : decode cX2_comes 86 = .ok (.iastore, 1) := dk_79 (dk_at dksX2_comes_3 15 rfl rfl)
theorem dX2_comes_87 : decode cX2_comes 87 = .ok (.aload_n 0, 1) := dk_42 (dk_at dksX2_comes_3 16 rfl rfl)
theorem dX2_comes_88 : decode cX2_comes 88 = .ok (.getfield 15, 3) := dk_180 0 15 (dk_at dksX2_comes_3 17 rfl rfl)
theorem dX2_comes_91 : decode cX2_comes 91 = .ok (.iload_n 3, 1) := dk_29 (dk_at dksX2_comes_3 20 rfl rfl)
theorem dX2_comes_92 : decode cX2_comes 92 = .ok (.iload_n 2, 1) := dk_28 (dk_at dksX2_comes_3 21 rfl rfl)
theorem dX2_comes_93 : decode cX2_comes 93 = .ok (.iastore, 1) := dk_79 (dk_at dksX2_comes_3 22 rfl rfl)
theorem dX2_comes_94 : decode cX2_comes 94 = .ok (.aload_n 0, 1) := dk_42 (dk_at dksX2_comes_3 23 rfl rfl)
theorem dX2_comes_95 : decode cX2_comes 95 = .ok (.getfield 18, 3) := dk_180 0 18 (dk_at dksX2_comes_4 0 rfl rfl)
theorem dX2_comes_98 : decode cX2_comes 98 = .ok (.iload_n 3, 1) := dk_29 (dk_at dksX2_comes_4 3 rfl rfl)
theorem dX2_comes_99 : decode cX2_comes 99 = .ok (.aload_n 0, 1) := dk_42 (dk_at dksX2_comes_4 4 rfl rfl)
theorem dX2_comes_100 : decode cX2_comes 100 = .ok (.iload_n 1, 1) := dk_27 (dk_at dksX2_comes_4 5 rfl rfl)
theorem dX2_comes_101 : decode cX2_comes 101 = .ok (.iload_n 2, 1) := dk_28 (dk_at dksX2_comes_4 6 rfl rfl)
theorem dX2_comes_102 : decode cX2_comes 102 = .ok (.invokevirtual 50, 3) := dk_182 0 50 (dk_at dksX2_comes_4 7 rfl rfl)
theorem dX2_comes_105 : decode cX2_comes 105 = .ok (.iastore, 1) := dk_79 (dk_at dksX2_comes_4 10 rfl rfl)
theorem dX2_comes_106 : decode cX2_comes 106 = .ok (.aload_n 0, 1) := dk_42 (dk_at dksX2_comes_4 11 rfl rfl)
theorem dX2_comes_107 : decode cX2_comes 107 = .ok (.dup, 1) := dk_89 (dk_at dksX2_comes_4 12 rfl rfl)
theorem dX2_comes_108 : decode cX2_comes 108 = .ok (.getfield 49, 3) := dk_180 0 49 (dk_at dksX2_comes_4 13 rfl rfl)
theorem dX2_comes_111 : decode cX2_comes 111 = .ok (.iconst 1, 1) := dk_4 (dk_at dksX2_comes_4 16 rfl rfl)
theorem dX2_comes_112 : decode cX2_comes 112 = .ok (.iadd, 1) := dk_96 (dk_at dksX2_comes_4 17 rfl rfl)
theorem dX2_comes_113 : decode cX2_comes 113 = .ok (.putfield 49, 3) := dk_181 0 49 (dk_at dksX2_comes_4 18 rfl rfl)
theorem dX2_comes_116 : decode cX2_comes 116 = .ok (.return_, 1) := dk_177 (dk_at dksX2_comes_4 21 rfl rfl)
abbrev cX2_level : ByteArray := prog_6_method_2_code
def yX2_level : MethodName := ⟨RX2, "level", "(II)I"⟩
def dkwX2_level_2 : List UInt8 := [184, 0, 43, 62, 132, 4, 1, 167, 255, 211, 29, 172]
abbrev dktX2_level_2 : List UInt8 := dkwX2_level_2 ++ []
def dkwX2_level_1 : List UInt8 := [180, 0, 27, 180, 0, 37, 21, 4, 46, 104, 28, 42, 180, 0, 27, 180, 0, 40, 21, 4, 46, 104, 96]
abbrev dktX2_level_1 : List UInt8 := dkwX2_level_1 ++ dktX2_level_2
def dkwX2_level_0 : List UInt8 := [17, 39, 15, 62, 3, 54, 4, 21, 4, 42, 180, 0, 27, 180, 0, 31, 162, 0, 39, 29, 27, 42]
abbrev dktX2_level_0 : List UInt8 := dkwX2_level_0 ++ dktX2_level_1
theorem dksX2_level_0 : cX2_level.data.toList.drop 0 = dktX2_level_0 := by decide +kernel
theorem dksX2_level_1 : cX2_level.data.toList.drop 22 = dktX2_level_1 := dk_seg dksX2_level_0 22 rfl rfl
theorem dksX2_level_2 : cX2_level.data.toList.drop 45 = dktX2_level_2 := dk_seg dksX2_level_1 23 rfl rfl
theorem dX2_level_0 : decode cX2_level 0 = .ok (.sipush 9999, 3) := dk_17 39 15 (dk_at dksX2_level_0 0 rfl rfl)
theorem dX2_level_3 : decode cX2_level 3 = .ok (.istore_n 3, 1) := dk_62 (dk_at dksX2_level_0 3 rfl rfl)
theorem dX2_level_4 : decode cX2_level 4 = .ok (.iconst 0, 1) := dk_3 (dk_at dksX2_level_0 4 rfl rfl)
theorem dX2_level_5 : decode cX2_level 5 = .ok (.istore 4, 2) := dk_54 4 (dk_at dksX2_level_0 5 rfl rfl)
theorem dX2_level_7 : decode cX2_level 7 = .ok (.iload 4, 2) := dk_21 4 (dk_at dksX2_level_0 7 rfl rfl)
theorem dX2_level_9 : decode cX2_level 9 = .ok (.aload_n 0, 1) := dk_42 (dk_at dksX2_level_0 9 rfl rfl)
theorem dX2_level_10 : decode cX2_level 10 = .ok (.getfield 27, 3) := dk_180 0 27 (dk_at dksX2_level_0 10 rfl rfl)
theorem dX2_level_13 : decode cX2_level 13 = .ok (.getfield 31, 3) := dk_180 0 31 (dk_at dksX2_level_0 13 rfl rfl)
theorem dX2_level_16 : decode cX2_level 16 = .ok (.if_icmp .ge 39, 3) := dk_162 0 39 (dk_at dksX2_level_0 16 rfl rfl)
theorem dX2_level_19 : decode cX2_level 19 = .ok (.iload_n 3, 1) := dk_29 (dk_at dksX2_level_0 19 rfl rfl)
theorem dX2_level_20 : decode cX2_level 20 = .ok (.iload_n 1, 1) := dk_27 (dk_at dksX2_level_0 20 rfl rfl)
theorem dX2_level_21 : decode cX2_level 21 = .ok (.aload_n 0, 1) := dk_42 (dk_at dksX2_level_0 21 rfl rfl)
theorem dX2_level_22 : decode cX2_level 22 = .ok (.getfield 27, 3) := dk_180 0 27 (dk_at dksX2_level_1 0 rfl rfl)
theorem dX2_level_25 : decode cX2_level 25 = .ok (.getfield 37, 3) := dk_180 0 37 (dk_at dksX2_level_1 3 rfl rfl)
theorem dX2_level_28 : decode cX2_level 28 = .ok (.iload 4, 2) := dk_21 4 (dk_at dksX2_level_1 6 rfl rfl)
theorem dX2_level_30 : decode cX2_level 30 = .ok (.iaload, 1) := dk_46 (dk_at dksX2_level_1 8 rfl rfl)
theorem dX2_level_31 : decode cX2_level 31 = .ok (.imul, 1) := dk_104 (dk_at dksX2_level_1 9 rfl rfl)
theorem dX2_level_32 : decode cX2_level 32 = .ok (.iload_n 2, 1) := dk_28 (dk_at dksX2_level_1 10 rfl rfl)
theorem dX2_level_33 : decode cX2_level 33 = .ok (.aload_n 0, 1) := dk_42 (dk_at dksX2_level_1 11 rfl rfl)
theorem dX2_level_34 : decode cX2_level 34 = .ok (.getfield 27, 3) := dk_180 0 27 (dk_at dksX2_level_1 12 rfl rfl)
theorem dX2_level_37 : decode cX2_level 37 = .ok (.getfield 40, 3) := dk_180 0 40 (dk_at dksX2_level_1 15 rfl rfl)
theorem dX2_level_40 : decode cX2_level 40 = .ok (.iload 4, 2) := dk_21 4 (dk_at dksX2_level_1 18 rfl rfl)
theorem dX2_level_42 : decode cX2_level 42 = .ok (.iaload, 1) := dk_46 (dk_at dksX2_level_1 20 rfl rfl)
theorem dX2_level_43 : decode cX2_level 43 = .ok (.imul, 1) := dk_104 (dk_at dksX2_level_1 21 rfl rfl)
theorem dX2_level_44 : decode cX2_level 44 = .ok (.iadd, 1) := dk_96 (dk_at dksX2_level_1 22 rfl rfl)
theorem dX2_level_45 : decode cX2_level 45 = .ok (.invokestatic 43, 3) := dk_184 0 43 (dk_at dksX2_level_2 0 rfl rfl)
theorem dX2_level_48 : decode cX2_level 48 = .ok (.istore_n 3, 1) := dk_62 (dk_at dksX2_level_2 3 rfl rfl)
theorem dX2_level_49 : decode cX2_level 49 = .ok (.iinc 4 1, 3) := dk_132 4 1 (dk_at dksX2_level_2 4 rfl rfl)
theorem dX2_level_52 : decode cX2_level 52 = .ok (.goto (-45), 3) := dk_167 255 211 (dk_at dksX2_level_2 7 rfl rfl)
theorem dX2_level_55 : decode cX2_level 55 = .ok (.iload_n 3, 1) := dk_29 (dk_at dksX2_level_2 10 rfl rfl)
theorem dX2_level_56 : decode cX2_level 56 = .ok (.ireturn, 1) := dk_172 (dk_at dksX2_level_2 11 rfl rfl)
abbrev cX2_isFace : ByteArray := prog_6_method_3_code
def yX2_isFace : MethodName := ⟨RX2, "isFace", "(III)Z"⟩
def dkwX2_isFace_3 : List UInt8 := [167, 0, 4, 3, 172]
abbrev dktX2_isFace_3 : List UInt8 := dkwX2_isFace_3 ++ []
def dkwX2_isFace_2 : List UInt8 := [160, 0, 7, 4, 167, 0, 4, 3, 96, 54, 4, 132, 5, 1, 167, 255, 202, 21, 4, 4, 164, 0, 7, 4]
abbrev dktX2_isFace_2 : List UInt8 := dkwX2_isFace_2 ++ dktX2_isFace_3
def dkwX2_isFace_1 : List UInt8 := [180, 0, 27, 180, 0, 37, 21, 5, 46, 104, 28, 42, 180, 0, 27, 180, 0, 40, 21, 5, 46, 104, 96, 29]
abbrev dktX2_isFace_1 : List UInt8 := dkwX2_isFace_1 ++ dktX2_isFace_2
def dkwX2_isFace_0 : List UInt8 := [3, 54, 4, 3, 54, 5, 21, 5, 42, 180, 0, 27, 180, 0, 31, 162, 0, 48, 21, 4, 27, 42]
abbrev dktX2_isFace_0 : List UInt8 := dkwX2_isFace_0 ++ dktX2_isFace_1
theorem dksX2_isFace_0 : cX2_isFace.data.toList.drop 0 = dktX2_isFace_0 := by decide +kernel
theorem dksX2_isFace_1 : cX2_isFace.data.toList.drop 22 = dktX2_isFace_1 := dk_seg dksX2_isFace_0 22 rfl rfl
theorem dksX2_isFace_2 : cX2_isFace.data.toList.drop 46 = dktX2_isFace_2 := dk_seg dksX2_isFace_1 24 rfl rfl
theorem dksX2_isFace_3 : cX2_isFace.data.toList.drop 70 = dktX2_isFace_3 := dk_seg dksX2_isFace_2 24 rfl rfl
theorem dX2_isFace_0 : decode cX2_isFace 0 = .ok (.iconst 0, 1) := dk_3 (dk_at dksX2_isFace_0 0 rfl rfl)
theorem dX2_isFace_1 : decode cX2_isFace 1 = .ok (.istore 4, 2) := dk_54 4 (dk_at dksX2_isFace_0 1 rfl rfl)
theorem dX2_isFace_3 : decode cX2_isFace 3 = .ok (.iconst 0, 1) := dk_3 (dk_at dksX2_isFace_0 3 rfl rfl)
theorem dX2_isFace_4 : decode cX2_isFace 4 = .ok (.istore 5, 2) := dk_54 5 (dk_at dksX2_isFace_0 4 rfl rfl)
theorem dX2_isFace_6 : decode cX2_isFace 6 = .ok (.iload 5, 2) := dk_21 5 (dk_at dksX2_isFace_0 6 rfl rfl)
theorem dX2_isFace_8 : decode cX2_isFace 8 = .ok (.aload_n 0, 1) := dk_42 (dk_at dksX2_isFace_0 8 rfl rfl)
theorem dX2_isFace_9 : decode cX2_isFace 9 = .ok (.getfield 27, 3) := dk_180 0 27 (dk_at dksX2_isFace_0 9 rfl rfl)
theorem dX2_isFace_12 : decode cX2_isFace 12 = .ok (.getfield 31, 3) := dk_180 0 31 (dk_at dksX2_isFace_0 12 rfl rfl)
theorem dX2_isFace_15 : decode cX2_isFace 15 = .ok (.if_icmp .ge 48, 3) := dk_162 0 48 (dk_at dksX2_isFace_0 15 rfl rfl)
theorem dX2_isFace_18 : decode cX2_isFace 18 = .ok (.iload 4, 2) := dk_21 4 (dk_at dksX2_isFace_0 18 rfl rfl)
theorem dX2_isFace_20 : decode cX2_isFace 20 = .ok (.iload_n 1, 1) := dk_27 (dk_at dksX2_isFace_0 20 rfl rfl)
theorem dX2_isFace_21 : decode cX2_isFace 21 = .ok (.aload_n 0, 1) := dk_42 (dk_at dksX2_isFace_0 21 rfl rfl)
theorem dX2_isFace_22 : decode cX2_isFace 22 = .ok (.getfield 27, 3) := dk_180 0 27 (dk_at dksX2_isFace_1 0 rfl rfl)
theorem dX2_isFace_25 : decode cX2_isFace 25 = .ok (.getfield 37, 3) := dk_180 0 37 (dk_at dksX2_isFace_1 3 rfl rfl)
theorem dX2_isFace_28 : decode cX2_isFace 28 = .ok (.iload 5, 2) := dk_21 5 (dk_at dksX2_isFace_1 6 rfl rfl)
theorem dX2_isFace_30 : decode cX2_isFace 30 = .ok (.iaload, 1) := dk_46 (dk_at dksX2_isFace_1 8 rfl rfl)
theorem dX2_isFace_31 : decode cX2_isFace 31 = .ok (.imul, 1) := dk_104 (dk_at dksX2_isFace_1 9 rfl rfl)
theorem dX2_isFace_32 : decode cX2_isFace 32 = .ok (.iload_n 2, 1) := dk_28 (dk_at dksX2_isFace_1 10 rfl rfl)
theorem dX2_isFace_33 : decode cX2_isFace 33 = .ok (.aload_n 0, 1) := dk_42 (dk_at dksX2_isFace_1 11 rfl rfl)
theorem dX2_isFace_34 : decode cX2_isFace 34 = .ok (.getfield 27, 3) := dk_180 0 27 (dk_at dksX2_isFace_1 12 rfl rfl)
theorem dX2_isFace_37 : decode cX2_isFace 37 = .ok (.getfield 40, 3) := dk_180 0 40 (dk_at dksX2_isFace_1 15 rfl rfl)
theorem dX2_isFace_40 : decode cX2_isFace 40 = .ok (.iload 5, 2) := dk_21 5 (dk_at dksX2_isFace_1 18 rfl rfl)
theorem dX2_isFace_42 : decode cX2_isFace 42 = .ok (.iaload, 1) := dk_46 (dk_at dksX2_isFace_1 20 rfl rfl)
theorem dX2_isFace_43 : decode cX2_isFace 43 = .ok (.imul, 1) := dk_104 (dk_at dksX2_isFace_1 21 rfl rfl)
theorem dX2_isFace_44 : decode cX2_isFace 44 = .ok (.iadd, 1) := dk_96 (dk_at dksX2_isFace_1 22 rfl rfl)
theorem dX2_isFace_45 : decode cX2_isFace 45 = .ok (.iload_n 3, 1) := dk_29 (dk_at dksX2_isFace_1 23 rfl rfl)
theorem dX2_isFace_46 : decode cX2_isFace 46 = .ok (.if_icmp .ne 7, 3) := dk_160 0 7 (dk_at dksX2_isFace_2 0 rfl rfl)
theorem dX2_isFace_49 : decode cX2_isFace 49 = .ok (.iconst 1, 1) := dk_4 (dk_at dksX2_isFace_2 3 rfl rfl)
theorem dX2_isFace_50 : decode cX2_isFace 50 = .ok (.goto 4, 3) := dk_167 0 4 (dk_at dksX2_isFace_2 4 rfl rfl)
theorem dX2_isFace_53 : decode cX2_isFace 53 = .ok (.iconst 0, 1) := dk_3 (dk_at dksX2_isFace_2 7 rfl rfl)
theorem dX2_isFace_54 : decode cX2_isFace 54 = .ok (.iadd, 1) := dk_96 (dk_at dksX2_isFace_2 8 rfl rfl)
theorem dX2_isFace_55 : decode cX2_isFace 55 = .ok (.istore 4, 2) := dk_54 4 (dk_at dksX2_isFace_2 9 rfl rfl)
theorem dX2_isFace_57 : decode cX2_isFace 57 = .ok (.iinc 5 1, 3) := dk_132 5 1 (dk_at dksX2_isFace_2 11 rfl rfl)
theorem dX2_isFace_60 : decode cX2_isFace 60 = .ok (.goto (-54), 3) := dk_167 255 202 (dk_at dksX2_isFace_2 14 rfl rfl)
theorem dX2_isFace_63 : decode cX2_isFace 63 = .ok (.iload 4, 2) := dk_21 4 (dk_at dksX2_isFace_2 17 rfl rfl)
theorem dX2_isFace_65 : decode cX2_isFace 65 = .ok (.iconst 1, 1) := dk_4 (dk_at dksX2_isFace_2 19 rfl rfl)
theorem dX2_isFace_66 : decode cX2_isFace 66 = .ok (.if_icmp .le 7, 3) := dk_164 0 7 (dk_at dksX2_isFace_2 20 rfl rfl)
theorem dX2_isFace_69 : decode cX2_isFace 69 = .ok (.iconst 1, 1) := dk_4 (dk_at dksX2_isFace_2 23 rfl rfl)
theorem dX2_isFace_70 : decode cX2_isFace 70 = .ok (.goto 4, 3) := dk_167 0 4 (dk_at dksX2_isFace_3 0 rfl rfl)
theorem dX2_isFace_73 : decode cX2_isFace 73 = .ok (.iconst 0, 1) := dk_3 (dk_at dksX2_isFace_3 3 rfl rfl)
theorem dX2_isFace_74 : decode cX2_isFace 74 = .ok (.ireturn, 1) := dk_172 (dk_at dksX2_isFace_3 4 rfl rfl)
abbrev cX2_hasInHull : ByteArray := prog_6_method_6_code
def yX2_hasInHull : MethodName := ⟨RX2, "hasInHull", "(II)Z"⟩
def dkwX2_hasInHull_1 : List UInt8 := [28, 104, 96, 42, 180, 0, 18, 29, 46, 162, 0, 5, 3, 172, 132, 3, 1, 167, 255, 217, 4, 172]
abbrev dktX2_hasInHull_1 : List UInt8 := dkwX2_hasInHull_1 ++ []
def dkwX2_hasInHull_0 : List UInt8 := [3, 62, 29, 42, 180, 0, 49, 162, 0, 37, 42, 180, 0, 9, 29, 46, 27, 104, 42, 180, 0, 15, 29, 46]
abbrev dktX2_hasInHull_0 : List UInt8 := dkwX2_hasInHull_0 ++ dktX2_hasInHull_1
theorem dksX2_hasInHull_0 : cX2_hasInHull.data.toList.drop 0 = dktX2_hasInHull_0 := by decide +kernel
theorem dksX2_hasInHull_1 : cX2_hasInHull.data.toList.drop 24 = dktX2_hasInHull_1 := dk_seg dksX2_hasInHull_0 24 rfl rfl
theorem dX2_hasInHull_0 : decode cX2_hasInHull 0 = .ok (.iconst 0, 1) := dk_3 (dk_at dksX2_hasInHull_0 0 rfl rfl)
theorem dX2_hasInHull_1 : decode cX2_hasInHull 1 = .ok (.istore_n 3, 1) := dk_62 (dk_at dksX2_hasInHull_0 1 rfl rfl)
theorem dX2_hasInHull_2 : decode cX2_hasInHull 2 = .ok (.iload_n 3, 1) := dk_29 (dk_at dksX2_hasInHull_0 2 rfl rfl)
theorem dX2_hasInHull_3 : decode cX2_hasInHull 3 = .ok (.aload_n 0, 1) := dk_42 (dk_at dksX2_hasInHull_0 3 rfl rfl)
theorem dX2_hasInHull_4 : decode cX2_hasInHull 4 = .ok (.getfield 49, 3) := dk_180 0 49 (dk_at dksX2_hasInHull_0 4 rfl rfl)
theorem dX2_hasInHull_7 : decode cX2_hasInHull 7 = .ok (.if_icmp .ge 37, 3) := dk_162 0 37 (dk_at dksX2_hasInHull_0 7 rfl rfl)
theorem dX2_hasInHull_10 : decode cX2_hasInHull 10 = .ok (.aload_n 0, 1) := dk_42 (dk_at dksX2_hasInHull_0 10 rfl rfl)
theorem dX2_hasInHull_11 : decode cX2_hasInHull 11 = .ok (.getfield 9, 3) := dk_180 0 9 (dk_at dksX2_hasInHull_0 11 rfl rfl)
theorem dX2_hasInHull_14 : decode cX2_hasInHull 14 = .ok (.iload_n 3, 1) := dk_29 (dk_at dksX2_hasInHull_0 14 rfl rfl)
theorem dX2_hasInHull_15 : decode cX2_hasInHull 15 = .ok (.iaload, 1) := dk_46 (dk_at dksX2_hasInHull_0 15 rfl rfl)
theorem dX2_hasInHull_16 : decode cX2_hasInHull 16 = .ok (.iload_n 1, 1) := dk_27 (dk_at dksX2_hasInHull_0 16 rfl rfl)
theorem dX2_hasInHull_17 : decode cX2_hasInHull 17 = .ok (.imul, 1) := dk_104 (dk_at dksX2_hasInHull_0 17 rfl rfl)
theorem dX2_hasInHull_18 : decode cX2_hasInHull 18 = .ok (.aload_n 0, 1) := dk_42 (dk_at dksX2_hasInHull_0 18 rfl rfl)
theorem dX2_hasInHull_19 : decode cX2_hasInHull 19 = .ok (.getfield 15, 3) := dk_180 0 15 (dk_at dksX2_hasInHull_0 19 rfl rfl)
theorem dX2_hasInHull_22 : decode cX2_hasInHull 22 = .ok (.iload_n 3, 1) := dk_29 (dk_at dksX2_hasInHull_0 22 rfl rfl)
theorem dX2_hasInHull_23 : decode cX2_hasInHull 23 = .ok (.iaload, 1) := dk_46 (dk_at dksX2_hasInHull_0 23 rfl rfl)
theorem dX2_hasInHull_24 : decode cX2_hasInHull 24 = .ok (.iload_n 2, 1) := dk_28 (dk_at dksX2_hasInHull_1 0 rfl rfl)
theorem dX2_hasInHull_25 : decode cX2_hasInHull 25 = .ok (.imul, 1) := dk_104 (dk_at dksX2_hasInHull_1 1 rfl rfl)
theorem dX2_hasInHull_26 : decode cX2_hasInHull 26 = .ok (.iadd, 1) := dk_96 (dk_at dksX2_hasInHull_1 2 rfl rfl)
theorem dX2_hasInHull_27 : decode cX2_hasInHull 27 = .ok (.aload_n 0, 1) := dk_42 (dk_at dksX2_hasInHull_1 3 rfl rfl)
theorem dX2_hasInHull_28 : decode cX2_hasInHull 28 = .ok (.getfield 18, 3) := dk_180 0 18 (dk_at dksX2_hasInHull_1 4 rfl rfl)
theorem dX2_hasInHull_31 : decode cX2_hasInHull 31 = .ok (.iload_n 3, 1) := dk_29 (dk_at dksX2_hasInHull_1 7 rfl rfl)
theorem dX2_hasInHull_32 : decode cX2_hasInHull 32 = .ok (.iaload, 1) := dk_46 (dk_at dksX2_hasInHull_1 8 rfl rfl)
theorem dX2_hasInHull_33 : decode cX2_hasInHull 33 = .ok (.if_icmp .ge 5, 3) := dk_162 0 5 (dk_at dksX2_hasInHull_1 9 rfl rfl)
theorem dX2_hasInHull_36 : decode cX2_hasInHull 36 = .ok (.iconst 0, 1) := dk_3 (dk_at dksX2_hasInHull_1 12 rfl rfl)
theorem dX2_hasInHull_37 : decode cX2_hasInHull 37 = .ok (.ireturn, 1) := dk_172 (dk_at dksX2_hasInHull_1 13 rfl rfl)
theorem dX2_hasInHull_38 : decode cX2_hasInHull 38 = .ok (.iinc 3 1, 3) := dk_132 3 1 (dk_at dksX2_hasInHull_1 14 rfl rfl)
theorem dX2_hasInHull_41 : decode cX2_hasInHull 41 = .ok (.goto (-39), 3) := dk_167 255 217 (dk_at dksX2_hasInHull_1 17 rfl rfl)
theorem dX2_hasInHull_44 : decode cX2_hasInHull 44 = .ok (.iconst 1, 1) := dk_4 (dk_at dksX2_hasInHull_1 20 rfl rfl)
theorem dX2_hasInHull_45 : decode cX2_hasInHull 45 = .ok (.ireturn, 1) := dk_172 (dk_at dksX2_hasInHull_1 21 rfl rfl)
abbrev cX2_isClosed : ByteArray := prog_6_method_7_code
def yX2_isClosed : MethodName := ⟨RX2, "isClosed", "()Z"⟩
def dkwX2_isClosed_2 : List UInt8 := [132, 1, 1, 167, 255, 210, 4, 172]
abbrev dktX2_isClosed_2 : List UInt8 := dkwX2_isClosed_2 ++ []
def dkwX2_isClosed_1 : List UInt8 := [153, 0, 17, 42, 180, 0, 27, 27, 28, 182, 0, 72, 154, 0, 5, 3, 172, 132, 2, 1, 167, 255, 224]
abbrev dktX2_isClosed_1 : List UInt8 := dkwX2_isClosed_1 ++ dktX2_isClosed_2
def dkwX2_isClosed_0 : List UInt8 := [3, 60, 27, 16, 9, 163, 0, 46, 3, 61, 28, 16, 9, 163, 0, 32, 42, 27, 28, 182, 0, 68]
abbrev dktX2_isClosed_0 : List UInt8 := dkwX2_isClosed_0 ++ dktX2_isClosed_1
theorem dksX2_isClosed_0 : cX2_isClosed.data.toList.drop 0 = dktX2_isClosed_0 := by decide +kernel
theorem dksX2_isClosed_1 : cX2_isClosed.data.toList.drop 22 = dktX2_isClosed_1 := dk_seg dksX2_isClosed_0 22 rfl rfl
theorem dksX2_isClosed_2 : cX2_isClosed.data.toList.drop 45 = dktX2_isClosed_2 := dk_seg dksX2_isClosed_1 23 rfl rfl
theorem dX2_isClosed_0 : decode cX2_isClosed 0 = .ok (.iconst 0, 1) := dk_3 (dk_at dksX2_isClosed_0 0 rfl rfl)
theorem dX2_isClosed_1 : decode cX2_isClosed 1 = .ok (.istore_n 1, 1) := dk_60 (dk_at dksX2_isClosed_0 1 rfl rfl)
theorem dX2_isClosed_2 : decode cX2_isClosed 2 = .ok (.iload_n 1, 1) := dk_27 (dk_at dksX2_isClosed_0 2 rfl rfl)
theorem dX2_isClosed_3 : decode cX2_isClosed 3 = .ok (.bipush 9, 2) := dk_16 9 (dk_at dksX2_isClosed_0 3 rfl rfl)
theorem dX2_isClosed_5 : decode cX2_isClosed 5 = .ok (.if_icmp .gt 46, 3) := dk_163 0 46 (dk_at dksX2_isClosed_0 5 rfl rfl)
theorem dX2_isClosed_8 : decode cX2_isClosed 8 = .ok (.iconst 0, 1) := dk_3 (dk_at dksX2_isClosed_0 8 rfl rfl)
theorem dX2_isClosed_9 : decode cX2_isClosed 9 = .ok (.istore_n 2, 1) := dk_61 (dk_at dksX2_isClosed_0 9 rfl rfl)
theorem dX2_isClosed_10 : decode cX2_isClosed 10 = .ok (.iload_n 2, 1) := dk_28 (dk_at dksX2_isClosed_0 10 rfl rfl)
theorem dX2_isClosed_11 : decode cX2_isClosed 11 = .ok (.bipush 9, 2) := dk_16 9 (dk_at dksX2_isClosed_0 11 rfl rfl)
theorem dX2_isClosed_13 : decode cX2_isClosed 13 = .ok (.if_icmp .gt 32, 3) := dk_163 0 32 (dk_at dksX2_isClosed_0 13 rfl rfl)
theorem dX2_isClosed_16 : decode cX2_isClosed 16 = .ok (.aload_n 0, 1) := dk_42 (dk_at dksX2_isClosed_0 16 rfl rfl)
theorem dX2_isClosed_17 : decode cX2_isClosed 17 = .ok (.iload_n 1, 1) := dk_27 (dk_at dksX2_isClosed_0 17 rfl rfl)
theorem dX2_isClosed_18 : decode cX2_isClosed 18 = .ok (.iload_n 2, 1) := dk_28 (dk_at dksX2_isClosed_0 18 rfl rfl)
theorem dX2_isClosed_19 : decode cX2_isClosed 19 = .ok (.invokevirtual 68, 3) := dk_182 0 68 (dk_at dksX2_isClosed_0 19 rfl rfl)
theorem dX2_isClosed_22 : decode cX2_isClosed 22 = .ok (.ifCond .eq 17, 3) := dk_153 0 17 (dk_at dksX2_isClosed_1 0 rfl rfl)
theorem dX2_isClosed_25 : decode cX2_isClosed 25 = .ok (.aload_n 0, 1) := dk_42 (dk_at dksX2_isClosed_1 3 rfl rfl)
theorem dX2_isClosed_26 : decode cX2_isClosed 26 = .ok (.getfield 27, 3) := dk_180 0 27 (dk_at dksX2_isClosed_1 4 rfl rfl)
theorem dX2_isClosed_29 : decode cX2_isClosed 29 = .ok (.iload_n 1, 1) := dk_27 (dk_at dksX2_isClosed_1 7 rfl rfl)
theorem dX2_isClosed_30 : decode cX2_isClosed 30 = .ok (.iload_n 2, 1) := dk_28 (dk_at dksX2_isClosed_1 8 rfl rfl)
theorem dX2_isClosed_31 : decode cX2_isClosed 31 = .ok (.invokevirtual 72, 3) := dk_182 0 72 (dk_at dksX2_isClosed_1 9 rfl rfl)
theorem dX2_isClosed_34 : decode cX2_isClosed 34 = .ok (.ifCond .ne 5, 3) := dk_154 0 5 (dk_at dksX2_isClosed_1 12 rfl rfl)
theorem dX2_isClosed_37 : decode cX2_isClosed 37 = .ok (.iconst 0, 1) := dk_3 (dk_at dksX2_isClosed_1 15 rfl rfl)
theorem dX2_isClosed_38 : decode cX2_isClosed 38 = .ok (.ireturn, 1) := dk_172 (dk_at dksX2_isClosed_1 16 rfl rfl)
theorem dX2_isClosed_39 : decode cX2_isClosed 39 = .ok (.iinc 2 1, 3) := dk_132 2 1 (dk_at dksX2_isClosed_1 17 rfl rfl)
theorem dX2_isClosed_42 : decode cX2_isClosed 42 = .ok (.goto (-32), 3) := dk_167 255 224 (dk_at dksX2_isClosed_1 20 rfl rfl)
theorem dX2_isClosed_45 : decode cX2_isClosed 45 = .ok (.iinc 1 1, 3) := dk_132 1 1 (dk_at dksX2_isClosed_2 0 rfl rfl)
theorem dX2_isClosed_48 : decode cX2_isClosed 48 = .ok (.goto (-46), 3) := dk_167 255 210 (dk_at dksX2_isClosed_2 3 rfl rfl)
theorem dX2_isClosed_51 : decode cX2_isClosed 51 = .ok (.iconst 1, 1) := dk_4 (dk_at dksX2_isClosed_2 6 rfl rfl)
theorem dX2_isClosed_52 : decode cX2_isClosed 52 = .ok (.ireturn, 1) := dk_172 (dk_at dksX2_isClosed_2 7 rfl rfl)
abbrev cX2_lists : ByteArray := prog_6_method_16_code
def yX2_lists : MethodName := ⟨RX2, "lists", "()I"⟩
def dkwX2_lists_1 : List UInt8 := [182, 0, 112, 153, 0, 7, 42, 182, 0, 115, 132, 1, 1, 167, 255, 228, 42, 180, 0, 109, 172]
abbrev dktX2_lists_1 : List UInt8 := dkwX2_lists_1 ++ []
def dkwX2_lists_0 : List UInt8 := [42, 3, 181, 0, 109, 3, 60, 27, 16, 100, 162, 0, 28, 42, 27, 16, 10, 108, 27, 16, 10, 112]
abbrev dktX2_lists_0 : List UInt8 := dkwX2_lists_0 ++ dktX2_lists_1
theorem dksX2_lists_0 : cX2_lists.data.toList.drop 0 = dktX2_lists_0 := by decide +kernel
theorem dksX2_lists_1 : cX2_lists.data.toList.drop 22 = dktX2_lists_1 := dk_seg dksX2_lists_0 22 rfl rfl
theorem dX2_lists_0 : decode cX2_lists 0 = .ok (.aload_n 0, 1) := dk_42 (dk_at dksX2_lists_0 0 rfl rfl)
theorem dX2_lists_1 : decode cX2_lists 1 = .ok (.iconst 0, 1) := dk_3 (dk_at dksX2_lists_0 1 rfl rfl)
theorem dX2_lists_2 : decode cX2_lists 2 = .ok (.putfield 109, 3) := dk_181 0 109 (dk_at dksX2_lists_0 2 rfl rfl)
theorem dX2_lists_5 : decode cX2_lists 5 = .ok (.iconst 0, 1) := dk_3 (dk_at dksX2_lists_0 5 rfl rfl)
theorem dX2_lists_6 : decode cX2_lists 6 = .ok (.istore_n 1, 1) := dk_60 (dk_at dksX2_lists_0 6 rfl rfl)
theorem dX2_lists_7 : decode cX2_lists 7 = .ok (.iload_n 1, 1) := dk_27 (dk_at dksX2_lists_0 7 rfl rfl)
theorem dX2_lists_8 : decode cX2_lists 8 = .ok (.bipush 100, 2) := dk_16 100 (dk_at dksX2_lists_0 8 rfl rfl)
theorem dX2_lists_10 : decode cX2_lists 10 = .ok (.if_icmp .ge 28, 3) := dk_162 0 28 (dk_at dksX2_lists_0 10 rfl rfl)
theorem dX2_lists_13 : decode cX2_lists 13 = .ok (.aload_n 0, 1) := dk_42 (dk_at dksX2_lists_0 13 rfl rfl)
theorem dX2_lists_14 : decode cX2_lists 14 = .ok (.iload_n 1, 1) := dk_27 (dk_at dksX2_lists_0 14 rfl rfl)
theorem dX2_lists_15 : decode cX2_lists 15 = .ok (.bipush 10, 2) := dk_16 10 (dk_at dksX2_lists_0 15 rfl rfl)
theorem dX2_lists_17 : decode cX2_lists 17 = .ok (.idiv, 1) := dk_108 (dk_at dksX2_lists_0 17 rfl rfl)
theorem dX2_lists_18 : decode cX2_lists 18 = .ok (.iload_n 1, 1) := dk_27 (dk_at dksX2_lists_0 18 rfl rfl)
theorem dX2_lists_19 : decode cX2_lists 19 = .ok (.bipush 10, 2) := dk_16 10 (dk_at dksX2_lists_0 19 rfl rfl)
theorem dX2_lists_21 : decode cX2_lists 21 = .ok (.irem, 1) := dk_112 (dk_at dksX2_lists_0 21 rfl rfl)
theorem dX2_lists_22 : decode cX2_lists 22 = .ok (.invokevirtual 112, 3) := dk_182 0 112 (dk_at dksX2_lists_1 0 rfl rfl)
theorem dX2_lists_25 : decode cX2_lists 25 = .ok (.ifCond .eq 7, 3) := dk_153 0 7 (dk_at dksX2_lists_1 3 rfl rfl)
theorem dX2_lists_28 : decode cX2_lists 28 = .ok (.aload_n 0, 1) := dk_42 (dk_at dksX2_lists_1 6 rfl rfl)
theorem dX2_lists_29 : decode cX2_lists 29 = .ok (.invokevirtual 115, 3) := dk_182 0 115 (dk_at dksX2_lists_1 7 rfl rfl)
theorem dX2_lists_32 : decode cX2_lists 32 = .ok (.iinc 1 1, 3) := dk_132 1 1 (dk_at dksX2_lists_1 10 rfl rfl)
theorem dX2_lists_35 : decode cX2_lists 35 = .ok (.goto (-28), 3) := dk_167 255 228 (dk_at dksX2_lists_1 13 rfl rfl)
theorem dX2_lists_38 : decode cX2_lists 38 = .ok (.aload_n 0, 1) := dk_42 (dk_at dksX2_lists_1 16 rfl rfl)
theorem dX2_lists_39 : decode cX2_lists 39 = .ok (.getfield 109, 3) := dk_180 0 109 (dk_at dksX2_lists_1 17 rfl rfl)
theorem dX2_lists_42 : decode cX2_lists 42 = .ok (.ireturn, 1) := dk_172 (dk_at dksX2_lists_1 20 rfl rfl)
abbrev cX2_jumps : ByteArray := prog_6_method_14_code
def yX2_jumps : MethodName := ⟨RX2, "jumps", "(II)Z"⟩
def dkwX2_jumps_4 : List UInt8 := [153, 0, 7, 4, 167, 0, 4, 3, 172]
abbrev dktX2_jumps_4 : List UInt8 := dkwX2_jumps_4 ++ []
def dkwX2_jumps_3 : List UInt8 := [181, 0, 106, 42, 42, 180, 0, 18, 29, 46, 181, 0, 103, 132, 3, 1, 167, 255, 177, 42, 180, 0, 103]
abbrev dktX2_jumps_3 : List UInt8 := dkwX2_jumps_3 ++ dktX2_jumps_4
def dkwX2_jumps_2 : List UInt8 := [180, 0, 103, 104, 42, 180, 0, 106, 42, 180, 0, 18, 29, 46, 104, 161, 0, 6, 167, 0, 19, 42, 21, 4]
abbrev dktX2_jumps_2 : List UInt8 := dkwX2_jumps_2 ++ dktX2_jumps_3
def dkwX2_jumps_1 : List UInt8 := [167, 0, 59, 42, 29, 27, 28, 182, 0, 75, 54, 4, 42, 180, 0, 103, 153, 0, 27, 21, 4, 42]
abbrev dktX2_jumps_1 : List UInt8 := dkwX2_jumps_1 ++ dktX2_jumps_2
def dkwX2_jumps_0 : List UInt8 := [42, 3, 181, 0, 103, 3, 62, 29, 42, 180, 0, 49, 162, 0, 77, 42, 180, 0, 18, 29, 46, 154, 0, 6]
abbrev dktX2_jumps_0 : List UInt8 := dkwX2_jumps_0 ++ dktX2_jumps_1
theorem dksX2_jumps_0 : cX2_jumps.data.toList.drop 0 = dktX2_jumps_0 := by decide +kernel
theorem dksX2_jumps_1 : cX2_jumps.data.toList.drop 24 = dktX2_jumps_1 := dk_seg dksX2_jumps_0 24 rfl rfl
theorem dksX2_jumps_2 : cX2_jumps.data.toList.drop 46 = dktX2_jumps_2 := dk_seg dksX2_jumps_1 22 rfl rfl
theorem dksX2_jumps_3 : cX2_jumps.data.toList.drop 70 = dktX2_jumps_3 := dk_seg dksX2_jumps_2 24 rfl rfl
theorem dksX2_jumps_4 : cX2_jumps.data.toList.drop 93 = dktX2_jumps_4 := dk_seg dksX2_jumps_3 23 rfl rfl
theorem dX2_jumps_0 : decode cX2_jumps 0 = .ok (.aload_n 0, 1) := dk_42 (dk_at dksX2_jumps_0 0 rfl rfl)
theorem dX2_jumps_1 : decode cX2_jumps 1 = .ok (.iconst 0, 1) := dk_3 (dk_at dksX2_jumps_0 1 rfl rfl)
theorem dX2_jumps_2 : decode cX2_jumps 2 = .ok (.putfield 103, 3) := dk_181 0 103 (dk_at dksX2_jumps_0 2 rfl rfl)
theorem dX2_jumps_5 : decode cX2_jumps 5 = .ok (.iconst 0, 1) := dk_3 (dk_at dksX2_jumps_0 5 rfl rfl)
theorem dX2_jumps_6 : decode cX2_jumps 6 = .ok (.istore_n 3, 1) := dk_62 (dk_at dksX2_jumps_0 6 rfl rfl)
theorem dX2_jumps_7 : decode cX2_jumps 7 = .ok (.iload_n 3, 1) := dk_29 (dk_at dksX2_jumps_0 7 rfl rfl)
theorem dX2_jumps_8 : decode cX2_jumps 8 = .ok (.aload_n 0, 1) := dk_42 (dk_at dksX2_jumps_0 8 rfl rfl)
theorem dX2_jumps_9 : decode cX2_jumps 9 = .ok (.getfield 49, 3) := dk_180 0 49 (dk_at dksX2_jumps_0 9 rfl rfl)
theorem dX2_jumps_12 : decode cX2_jumps 12 = .ok (.if_icmp .ge 77, 3) := dk_162 0 77 (dk_at dksX2_jumps_0 12 rfl rfl)
theorem dX2_jumps_15 : decode cX2_jumps 15 = .ok (.aload_n 0, 1) := dk_42 (dk_at dksX2_jumps_0 15 rfl rfl)
theorem dX2_jumps_16 : decode cX2_jumps 16 = .ok (.getfield 18, 3) := dk_180 0 18 (dk_at dksX2_jumps_0 16 rfl rfl)
theorem dX2_jumps_19 : decode cX2_jumps 19 = .ok (.iload_n 3, 1) := dk_29 (dk_at dksX2_jumps_0 19 rfl rfl)
theorem dX2_jumps_20 : decode cX2_jumps 20 = .ok (.iaload, 1) := dk_46 (dk_at dksX2_jumps_0 20 rfl rfl)
theorem dX2_jumps_21 : decode cX2_jumps 21 = .ok (.ifCond .ne 6, 3) := dk_154 0 6 (dk_at dksX2_jumps_0 21 rfl rfl)
theorem dX2_jumps_24 : decode cX2_jumps 24 = .ok (.goto 59, 3) := dk_167 0 59 (dk_at dksX2_jumps_1 0 rfl rfl)
theorem dX2_jumps_27 : decode cX2_jumps 27 = .ok (.aload_n 0, 1) := dk_42 (dk_at dksX2_jumps_1 3 rfl rfl)
theorem dX2_jumps_28 : decode cX2_jumps 28 = .ok (.iload_n 3, 1) := dk_29 (dk_at dksX2_jumps_1 4 rfl rfl)
theorem dX2_jumps_29 : decode cX2_jumps 29 = .ok (.iload_n 1, 1) := dk_27 (dk_at dksX2_jumps_1 5 rfl rfl)
theorem dX2_jumps_30 : decode cX2_jumps 30 = .ok (.iload_n 2, 1) := dk_28 (dk_at dksX2_jumps_1 6 rfl rfl)
theorem dX2_jumps_31 : decode cX2_jumps 31 = .ok (.invokevirtual 75, 3) := dk_182 0 75 (dk_at dksX2_jumps_1 7 rfl rfl)
theorem dX2_jumps_34 : decode cX2_jumps 34 = .ok (.istore 4, 2) := dk_54 4 (dk_at dksX2_jumps_1 10 rfl rfl)
theorem dX2_jumps_36 : decode cX2_jumps 36 = .ok (.aload_n 0, 1) := dk_42 (dk_at dksX2_jumps_1 12 rfl rfl)
theorem dX2_jumps_37 : decode cX2_jumps 37 = .ok (.getfield 103, 3) := dk_180 0 103 (dk_at dksX2_jumps_1 13 rfl rfl)
theorem dX2_jumps_40 : decode cX2_jumps 40 = .ok (.ifCond .eq 27, 3) := dk_153 0 27 (dk_at dksX2_jumps_1 16 rfl rfl)
theorem dX2_jumps_43 : decode cX2_jumps 43 = .ok (.iload 4, 2) := dk_21 4 (dk_at dksX2_jumps_1 19 rfl rfl)
theorem dX2_jumps_45 : decode cX2_jumps 45 = .ok (.aload_n 0, 1) := dk_42 (dk_at dksX2_jumps_1 21 rfl rfl)
theorem dX2_jumps_46 : decode cX2_jumps 46 = .ok (.getfield 103, 3) := dk_180 0 103 (dk_at dksX2_jumps_2 0 rfl rfl)
theorem dX2_jumps_49 : decode cX2_jumps 49 = .ok (.imul, 1) := dk_104 (dk_at dksX2_jumps_2 3 rfl rfl)
theorem dX2_jumps_50 : decode cX2_jumps 50 = .ok (.aload_n 0, 1) := dk_42 (dk_at dksX2_jumps_2 4 rfl rfl)
theorem dX2_jumps_51 : decode cX2_jumps 51 = .ok (.getfield 106, 3) := dk_180 0 106 (dk_at dksX2_jumps_2 5 rfl rfl)
theorem dX2_jumps_54 : decode cX2_jumps 54 = .ok (.aload_n 0, 1) := dk_42 (dk_at dksX2_jumps_2 8 rfl rfl)
theorem dX2_jumps_55 : decode cX2_jumps 55 = .ok (.getfield 18, 3) := dk_180 0 18 (dk_at dksX2_jumps_2 9 rfl rfl)
theorem dX2_jumps_58 : decode cX2_jumps 58 = .ok (.iload_n 3, 1) := dk_29 (dk_at dksX2_jumps_2 12 rfl rfl)
theorem dX2_jumps_59 : decode cX2_jumps 59 = .ok (.iaload, 1) := dk_46 (dk_at dksX2_jumps_2 13 rfl rfl)
theorem dX2_jumps_60 : decode cX2_jumps 60 = .ok (.imul, 1) := dk_104 (dk_at dksX2_jumps_2 14 rfl rfl)
theorem dX2_jumps_61 : decode cX2_jumps 61 = .ok (.if_icmp .lt 6, 3) := dk_161 0 6 (dk_at dksX2_jumps_2 15 rfl rfl)
theorem dX2_jumps_64 : decode cX2_jumps 64 = .ok (.goto 19, 3) := dk_167 0 19 (dk_at dksX2_jumps_2 18 rfl rfl)
theorem dX2_jumps_67 : decode cX2_jumps 67 = .ok (.aload_n 0, 1) := dk_42 (dk_at dksX2_jumps_2 21 rfl rfl)
theorem dX2_jumps_68 : decode cX2_jumps 68 = .ok (.iload 4, 2) := dk_21 4 (dk_at dksX2_jumps_2 22 rfl rfl)
theorem dX2_jumps_70 : decode cX2_jumps 70 = .ok (.putfield 106, 3) := dk_181 0 106 (dk_at dksX2_jumps_3 0 rfl rfl)
theorem dX2_jumps_73 : decode cX2_jumps 73 = .ok (.aload_n 0, 1) := dk_42 (dk_at dksX2_jumps_3 3 rfl rfl)
theorem dX2_jumps_74 : decode cX2_jumps 74 = .ok (.aload_n 0, 1) := dk_42 (dk_at dksX2_jumps_3 4 rfl rfl)
theorem dX2_jumps_75 : decode cX2_jumps 75 = .ok (.getfield 18, 3) := dk_180 0 18 (dk_at dksX2_jumps_3 5 rfl rfl)
theorem dX2_jumps_78 : decode cX2_jumps 78 = .ok (.iload_n 3, 1) := dk_29 (dk_at dksX2_jumps_3 8 rfl rfl)
theorem dX2_jumps_79 : decode cX2_jumps 79 = .ok (.iaload, 1) := dk_46 (dk_at dksX2_jumps_3 9 rfl rfl)
theorem dX2_jumps_80 : decode cX2_jumps 80 = .ok (.putfield 103, 3) := dk_181 0 103 (dk_at dksX2_jumps_3 10 rfl rfl)
theorem dX2_jumps_83 : decode cX2_jumps 83 = .ok (.iinc 3 1, 3) := dk_132 3 1 (dk_at dksX2_jumps_3 13 rfl rfl)
theorem dX2_jumps_86 : decode cX2_jumps 86 = .ok (.goto (-79), 3) := dk_167 255 177 (dk_at dksX2_jumps_3 16 rfl rfl)
theorem dX2_jumps_89 : decode cX2_jumps 89 = .ok (.aload_n 0, 1) := dk_42 (dk_at dksX2_jumps_3 19 rfl rfl)
theorem dX2_jumps_90 : decode cX2_jumps 90 = .ok (.getfield 103, 3) := dk_180 0 103 (dk_at dksX2_jumps_3 20 rfl rfl)
theorem dX2_jumps_93 : decode cX2_jumps 93 = .ok (.ifCond .eq 7, 3) := dk_153 0 7 (dk_at dksX2_jumps_4 0 rfl rfl)
theorem dX2_jumps_96 : decode cX2_jumps 96 = .ok (.iconst 1, 1) := dk_4 (dk_at dksX2_jumps_4 3 rfl rfl)
theorem dX2_jumps_97 : decode cX2_jumps 97 = .ok (.goto 4, 3) := dk_167 0 4 (dk_at dksX2_jumps_4 4 rfl rfl)
theorem dX2_jumps_100 : decode cX2_jumps 100 = .ok (.iconst 0, 1) := dk_3 (dk_at dksX2_jumps_4 7 rfl rfl)
theorem dX2_jumps_101 : decode cX2_jumps 101 = .ok (.ireturn, 1) := dk_172 (dk_at dksX2_jumps_4 8 rfl rfl)
abbrev cX2_weight : ByteArray := prog_6_method_8_code
def yX2_weight : MethodName := ⟨RX2, "weight", "(III)I"⟩
def dkwX2_weight_0 : List UInt8 := [42, 180, 0, 9, 27, 46, 28, 4, 96, 104, 42, 180, 0, 15, 27, 46, 29, 4, 96, 104, 96, 172]
abbrev dktX2_weight_0 : List UInt8 := dkwX2_weight_0 ++ []
theorem dksX2_weight_0 : cX2_weight.data.toList.drop 0 = dktX2_weight_0 := by decide +kernel
theorem dX2_weight_0 : decode cX2_weight 0 = .ok (.aload_n 0, 1) := dk_42 (dk_at dksX2_weight_0 0 rfl rfl)
theorem dX2_weight_1 : decode cX2_weight 1 = .ok (.getfield 9, 3) := dk_180 0 9 (dk_at dksX2_weight_0 1 rfl rfl)
theorem dX2_weight_4 : decode cX2_weight 4 = .ok (.iload_n 1, 1) := dk_27 (dk_at dksX2_weight_0 4 rfl rfl)
theorem dX2_weight_5 : decode cX2_weight 5 = .ok (.iaload, 1) := dk_46 (dk_at dksX2_weight_0 5 rfl rfl)
theorem dX2_weight_6 : decode cX2_weight 6 = .ok (.iload_n 2, 1) := dk_28 (dk_at dksX2_weight_0 6 rfl rfl)
theorem dX2_weight_7 : decode cX2_weight 7 = .ok (.iconst 1, 1) := dk_4 (dk_at dksX2_weight_0 7 rfl rfl)
theorem dX2_weight_8 : decode cX2_weight 8 = .ok (.iadd, 1) := dk_96 (dk_at dksX2_weight_0 8 rfl rfl)
theorem dX2_weight_9 : decode cX2_weight 9 = .ok (.imul, 1) := dk_104 (dk_at dksX2_weight_0 9 rfl rfl)
theorem dX2_weight_10 : decode cX2_weight 10 = .ok (.aload_n 0, 1) := dk_42 (dk_at dksX2_weight_0 10 rfl rfl)
theorem dX2_weight_11 : decode cX2_weight 11 = .ok (.getfield 15, 3) := dk_180 0 15 (dk_at dksX2_weight_0 11 rfl rfl)
theorem dX2_weight_14 : decode cX2_weight 14 = .ok (.iload_n 1, 1) := dk_27 (dk_at dksX2_weight_0 14 rfl rfl)
theorem dX2_weight_15 : decode cX2_weight 15 = .ok (.iaload, 1) := dk_46 (dk_at dksX2_weight_0 15 rfl rfl)
theorem dX2_weight_16 : decode cX2_weight 16 = .ok (.iload_n 3, 1) := dk_29 (dk_at dksX2_weight_0 16 rfl rfl)
theorem dX2_weight_17 : decode cX2_weight 17 = .ok (.iconst 1, 1) := dk_4 (dk_at dksX2_weight_0 17 rfl rfl)
theorem dX2_weight_18 : decode cX2_weight 18 = .ok (.iadd, 1) := dk_96 (dk_at dksX2_weight_0 18 rfl rfl)
theorem dX2_weight_19 : decode cX2_weight 19 = .ok (.imul, 1) := dk_104 (dk_at dksX2_weight_0 19 rfl rfl)
theorem dX2_weight_20 : decode cX2_weight 20 = .ok (.iadd, 1) := dk_96 (dk_at dksX2_weight_0 20 rfl rfl)
theorem dX2_weight_21 : decode cX2_weight 21 = .ok (.ireturn, 1) := dk_172 (dk_at dksX2_weight_0 21 rfl rfl)
abbrev cX2_notes : ByteArray := prog_6_method_15_code
def yX2_notes : MethodName := ⟨RX2, "notes", "()V"⟩
def dkwX2_notes_6 : List UInt8 := [180, 0, 103, 79, 42, 89, 180, 0, 109, 4, 96, 181, 0, 109, 177]
abbrev dktX2_notes_6 : List UInt8 := dkwX2_notes_6 ++ []
def dkwX2_notes_5 : List UInt8 := [132, 2, 255, 167, 255, 220, 42, 180, 0, 21, 27, 42, 180, 0, 106, 79, 42, 180, 0, 24, 27, 42]
abbrev dktX2_notes_5 : List UInt8 := dkwX2_notes_5 ++ dktX2_notes_6
def dkwX2_notes_4 : List UInt8 := [42, 180, 0, 21, 28, 4, 100, 46, 79, 42, 180, 0, 24, 28, 42, 180, 0, 24, 28, 4, 100, 46, 79]
abbrev dktX2_notes_4 : List UInt8 := dkwX2_notes_4 ++ dktX2_notes_5
def dkwX2_notes_3 : List UInt8 := [27, 4, 100, 46, 104, 160, 0, 4, 177, 42, 180, 0, 109, 61, 28, 27, 164, 0, 37, 42, 180, 0, 21, 28]
abbrev dktX2_notes_3 : List UInt8 := dkwX2_notes_3 ++ dktX2_notes_4
def dkwX2_notes_2 : List UInt8 := [158, 0, 33, 42, 180, 0, 21, 27, 4, 100, 46, 42, 180, 0, 103, 104, 42, 180, 0, 106, 42, 180, 0, 24]
abbrev dktX2_notes_2 : List UInt8 := dkwX2_notes_2 ++ dktX2_notes_3
def dkwX2_notes_1 : List UInt8 := [180, 0, 106, 42, 180, 0, 24, 27, 4, 100, 46, 104, 164, 0, 9, 132, 1, 255, 167, 255, 220, 27]
abbrev dktX2_notes_1 : List UInt8 := dkwX2_notes_1 ++ dktX2_notes_2
def dkwX2_notes_0 : List UInt8 := [42, 180, 0, 109, 60, 27, 158, 0, 38, 42, 180, 0, 21, 27, 4, 100, 46, 42, 180, 0, 103, 104, 42]
abbrev dktX2_notes_0 : List UInt8 := dkwX2_notes_0 ++ dktX2_notes_1
theorem dksX2_notes_0 : cX2_notes.data.toList.drop 0 = dktX2_notes_0 := by decide +kernel
theorem dksX2_notes_1 : cX2_notes.data.toList.drop 23 = dktX2_notes_1 := dk_seg dksX2_notes_0 23 rfl rfl
theorem dksX2_notes_2 : cX2_notes.data.toList.drop 45 = dktX2_notes_2 := dk_seg dksX2_notes_1 22 rfl rfl
theorem dksX2_notes_3 : cX2_notes.data.toList.drop 69 = dktX2_notes_3 := dk_seg dksX2_notes_2 24 rfl rfl
theorem dksX2_notes_4 : cX2_notes.data.toList.drop 93 = dktX2_notes_4 := dk_seg dksX2_notes_3 24 rfl rfl
theorem dksX2_notes_5 : cX2_notes.data.toList.drop 116 = dktX2_notes_5 := dk_seg dksX2_notes_4 23 rfl rfl
theorem dksX2_notes_6 : cX2_notes.data.toList.drop 138 = dktX2_notes_6 := dk_seg dksX2_notes_5 22 rfl rfl
theorem dX2_notes_0 : decode cX2_notes 0 = .ok (.aload_n 0, 1) := dk_42 (dk_at dksX2_notes_0 0 rfl rfl)
theorem dX2_notes_1 : decode cX2_notes 1 = .ok (.getfield 109, 3) := dk_180 0 109 (dk_at dksX2_notes_0 1 rfl rfl)
theorem dX2_notes_4 : decode cX2_notes 4 = .ok (.istore_n 1, 1) := dk_60 (dk_at dksX2_notes_0 4 rfl rfl)
theorem dX2_notes_5 : decode cX2_notes 5 = .ok (.iload_n 1, 1) := dk_27 (dk_at dksX2_notes_0 5 rfl rfl)
theorem dX2_notes_6 : decode cX2_notes 6 = .ok (.ifCond .le 38, 3) := dk_158 0 38 (dk_at dksX2_notes_0 6 rfl rfl)
theorem dX2_notes_9 : decode cX2_notes 9 = .ok (.aload_n 0, 1) := dk_42 (dk_at dksX2_notes_0 9 rfl rfl)
theorem dX2_notes_10 : decode cX2_notes 10 = .ok (.getfield 21, 3) := dk_180 0 21 (dk_at dksX2_notes_0 10 rfl rfl)
theorem dX2_notes_13 : decode cX2_notes 13 = .ok (.iload_n 1, 1) := dk_27 (dk_at dksX2_notes_0 13 rfl rfl)
theorem dX2_notes_14 : decode cX2_notes 14 = .ok (.iconst 1, 1) := dk_4 (dk_at dksX2_notes_0 14 rfl rfl)
theorem dX2_notes_15 : decode cX2_notes 15 = .ok (.isub, 1) := dk_100 (dk_at dksX2_notes_0 15 rfl rfl)
theorem dX2_notes_16 : decode cX2_notes 16 = .ok (.iaload, 1) := dk_46 (dk_at dksX2_notes_0 16 rfl rfl)
theorem dX2_notes_17 : decode cX2_notes 17 = .ok (.aload_n 0, 1) := dk_42 (dk_at dksX2_notes_0 17 rfl rfl)
theorem dX2_notes_18 : decode cX2_notes 18 = .ok (.getfield 103, 3) := dk_180 0 103 (dk_at dksX2_notes_0 18 rfl rfl)
theorem dX2_notes_21 : decode cX2_notes 21 = .ok (.imul, 1) := dk_104 (dk_at dksX2_notes_0 21 rfl rfl)
theorem dX2_notes_22 : decode cX2_notes 22 = .ok (.aload_n 0, 1) := dk_42 (dk_at dksX2_notes_0 22 rfl rfl)
theorem dX2_notes_23 : decode cX2_notes 23 = .ok (.getfield 106, 3) := dk_180 0 106 (dk_at dksX2_notes_1 0 rfl rfl)
theorem dX2_notes_26 : decode cX2_notes 26 = .ok (.aload_n 0, 1) := dk_42 (dk_at dksX2_notes_1 3 rfl rfl)
theorem dX2_notes_27 : decode cX2_notes 27 = .ok (.getfield 24, 3) := dk_180 0 24 (dk_at dksX2_notes_1 4 rfl rfl)
theorem dX2_notes_30 : decode cX2_notes 30 = .ok (.iload_n 1, 1) := dk_27 (dk_at dksX2_notes_1 7 rfl rfl)
theorem dX2_notes_31 : decode cX2_notes 31 = .ok (.iconst 1, 1) := dk_4 (dk_at dksX2_notes_1 8 rfl rfl)
theorem dX2_notes_32 : decode cX2_notes 32 = .ok (.isub, 1) := dk_100 (dk_at dksX2_notes_1 9 rfl rfl)
theorem dX2_notes_33 : decode cX2_notes 33 = .ok (.iaload, 1) := dk_46 (dk_at dksX2_notes_1 10 rfl rfl)
theorem dX2_notes_34 : decode cX2_notes 34 = .ok (.imul, 1) := dk_104 (dk_at dksX2_notes_1 11 rfl rfl)
theorem dX2_notes_35 : decode cX2_notes 35 = .ok (.if_icmp .le 9, 3) := dk_164 0 9 (dk_at dksX2_notes_1 12 rfl rfl)
theorem dX2_notes_38 : decode cX2_notes 38 = .ok (.iinc 1 (-1), 3) := dk_132 1 255 (dk_at dksX2_notes_1 15 rfl rfl)
theorem dX2_notes_41 : decode cX2_notes 41 = .ok (.goto (-36), 3) := dk_167 255 220 (dk_at dksX2_notes_1 18 rfl rfl)
theorem dX2_notes_44 : decode cX2_notes 44 = .ok (.iload_n 1, 1) := dk_27 (dk_at dksX2_notes_1 21 rfl rfl)
theorem dX2_notes_45 : decode cX2_notes 45 = .ok (.ifCond .le 33, 3) := dk_158 0 33 (dk_at dksX2_notes_2 0 rfl rfl)
theorem dX2_notes_48 : decode cX2_notes 48 = .ok (.aload_n 0, 1) := dk_42 (dk_at dksX2_notes_2 3 rfl rfl)
theorem dX2_notes_49 : decode cX2_notes 49 = .ok (.getfield 21, 3) := dk_180 0 21 (dk_at dksX2_notes_2 4 rfl rfl)
theorem dX2_notes_52 : decode cX2_notes 52 = .ok (.iload_n 1, 1) := dk_27 (dk_at dksX2_notes_2 7 rfl rfl)
theorem dX2_notes_53 : decode cX2_notes 53 = .ok (.iconst 1, 1) := dk_4 (dk_at dksX2_notes_2 8 rfl rfl)
theorem dX2_notes_54 : decode cX2_notes 54 = .ok (.isub, 1) := dk_100 (dk_at dksX2_notes_2 9 rfl rfl)
theorem dX2_notes_55 : decode cX2_notes 55 = .ok (.iaload, 1) := dk_46 (dk_at dksX2_notes_2 10 rfl rfl)
theorem dX2_notes_56 : decode cX2_notes 56 = .ok (.aload_n 0, 1) := dk_42 (dk_at dksX2_notes_2 11 rfl rfl)
theorem dX2_notes_57 : decode cX2_notes 57 = .ok (.getfield 103, 3) := dk_180 0 103 (dk_at dksX2_notes_2 12 rfl rfl)
theorem dX2_notes_60 : decode cX2_notes 60 = .ok (.imul, 1) := dk_104 (dk_at dksX2_notes_2 15 rfl rfl)
theorem dX2_notes_61 : decode cX2_notes 61 = .ok (.aload_n 0, 1) := dk_42 (dk_at dksX2_notes_2 16 rfl rfl)
theorem dX2_notes_62 : decode cX2_notes 62 = .ok (.getfield 106, 3) := dk_180 0 106 (dk_at dksX2_notes_2 17 rfl rfl)
theorem dX2_notes_65 : decode cX2_notes 65 = .ok (.aload_n 0, 1) := dk_42 (dk_at dksX2_notes_2 20 rfl rfl)
theorem dX2_notes_66 : decode cX2_notes 66 = .ok (.getfield 24, 3) := dk_180 0 24 (dk_at dksX2_notes_2 21 rfl rfl)
theorem dX2_notes_69 : decode cX2_notes 69 = .ok (.iload_n 1, 1) := dk_27 (dk_at dksX2_notes_3 0 rfl rfl)
theorem dX2_notes_70 : decode cX2_notes 70 = .ok (.iconst 1, 1) := dk_4 (dk_at dksX2_notes_3 1 rfl rfl)
theorem dX2_notes_71 : decode cX2_notes 71 = .ok (.isub, 1) := dk_100 (dk_at dksX2_notes_3 2 rfl rfl)
theorem dX2_notes_72 : decode cX2_notes 72 = .ok (.iaload, 1) := dk_46 (dk_at dksX2_notes_3 3 rfl rfl)
theorem dX2_notes_73 : decode cX2_notes 73 = .ok (.imul, 1) := dk_104 (dk_at dksX2_notes_3 4 rfl rfl)
theorem dX2_notes_74 : decode cX2_notes 74 = .ok (.if_icmp .ne 4, 3) := dk_160 0 4 (dk_at dksX2_notes_3 5 rfl rfl)
theorem dX2_notes_77 : decode cX2_notes 77 = .ok (.return_, 1) := dk_177 (dk_at dksX2_notes_3 8 rfl rfl)
theorem dX2_notes_78 : decode cX2_notes 78 = .ok (.aload_n 0, 1) := dk_42 (dk_at dksX2_notes_3 9 rfl rfl)
theorem dX2_notes_79 : decode cX2_notes 79 = .ok (.getfield 109, 3) := dk_180 0 109 (dk_at dksX2_notes_3 10 rfl rfl)
theorem dX2_notes_82 : decode cX2_notes 82 = .ok (.istore_n 2, 1) := dk_61 (dk_at dksX2_notes_3 13 rfl rfl)
theorem dX2_notes_83 : decode cX2_notes 83 = .ok (.iload_n 2, 1) := dk_28 (dk_at dksX2_notes_3 14 rfl rfl)
theorem dX2_notes_84 : decode cX2_notes 84 = .ok (.iload_n 1, 1) := dk_27 (dk_at dksX2_notes_3 15 rfl rfl)
theorem dX2_notes_85 : decode cX2_notes 85 = .ok (.if_icmp .le 37, 3) := dk_164 0 37 (dk_at dksX2_notes_3 16 rfl rfl)
theorem dX2_notes_88 : decode cX2_notes 88 = .ok (.aload_n 0, 1) := dk_42 (dk_at dksX2_notes_3 19 rfl rfl)
theorem dX2_notes_89 : decode cX2_notes 89 = .ok (.getfield 21, 3) := dk_180 0 21 (dk_at dksX2_notes_3 20 rfl rfl)
theorem dX2_notes_92 : decode cX2_notes 92 = .ok (.iload_n 2, 1) := dk_28 (dk_at dksX2_notes_3 23 rfl rfl)
theorem dX2_notes_93 : decode cX2_notes 93 = .ok (.aload_n 0, 1) := dk_42 (dk_at dksX2_notes_4 0 rfl rfl)
theorem dX2_notes_94 : decode cX2_notes 94 = .ok (.getfield 21, 3) := dk_180 0 21 (dk_at dksX2_notes_4 1 rfl rfl)
theorem dX2_notes_97 : decode cX2_notes 97 = .ok (.iload_n 2, 1) := dk_28 (dk_at dksX2_notes_4 4 rfl rfl)
theorem dX2_notes_98 : decode cX2_notes 98 = .ok (.iconst 1, 1) := dk_4 (dk_at dksX2_notes_4 5 rfl rfl)
theorem dX2_notes_99 : decode cX2_notes 99 = .ok (.isub, 1) := dk_100 (dk_at dksX2_notes_4 6 rfl rfl)
theorem dX2_notes_100 : decode cX2_notes 100 = .ok (.iaload, 1) := dk_46 (dk_at dksX2_notes_4 7 rfl rfl)
theorem dX2_notes_101 : decode cX2_notes 101 = .ok (.iastore, 1) := dk_79 (dk_at dksX2_notes_4 8 rfl rfl)
theorem dX2_notes_102 : decode cX2_notes 102 = .ok (.aload_n 0, 1) := dk_42 (dk_at dksX2_notes_4 9 rfl rfl)
theorem dX2_notes_103 : decode cX2_notes 103 = .ok (.getfield 24, 3) := dk_180 0 24 (dk_at dksX2_notes_4 10 rfl rfl)
theorem dX2_notes_106 : decode cX2_notes 106 = .ok (.iload_n 2, 1) := dk_28 (dk_at dksX2_notes_4 13 rfl rfl)
theorem dX2_notes_107 : decode cX2_notes 107 = .ok (.aload_n 0, 1) := dk_42 (dk_at dksX2_notes_4 14 rfl rfl)
theorem dX2_notes_108 : decode cX2_notes 108 = .ok (.getfield 24, 3) := dk_180 0 24 (dk_at dksX2_notes_4 15 rfl rfl)
theorem dX2_notes_111 : decode cX2_notes 111 = .ok (.iload_n 2, 1) := dk_28 (dk_at dksX2_notes_4 18 rfl rfl)
theorem dX2_notes_112 : decode cX2_notes 112 = .ok (.iconst 1, 1) := dk_4 (dk_at dksX2_notes_4 19 rfl rfl)
theorem dX2_notes_113 : decode cX2_notes 113 = .ok (.isub, 1) := dk_100 (dk_at dksX2_notes_4 20 rfl rfl)
theorem dX2_notes_114 : decode cX2_notes 114 = .ok (.iaload, 1) := dk_46 (dk_at dksX2_notes_4 21 rfl rfl)
theorem dX2_notes_115 : decode cX2_notes 115 = .ok (.iastore, 1) := dk_79 (dk_at dksX2_notes_4 22 rfl rfl)
theorem dX2_notes_116 : decode cX2_notes 116 = .ok (.iinc 2 (-1), 3) := dk_132 2 255 (dk_at dksX2_notes_5 0 rfl rfl)
theorem dX2_notes_119 : decode cX2_notes 119 = .ok (.goto (-36), 3) := dk_167 255 220 (dk_at dksX2_notes_5 3 rfl rfl)
theorem dX2_notes_122 : decode cX2_notes 122 = .ok (.aload_n 0, 1) := dk_42 (dk_at dksX2_notes_5 6 rfl rfl)
theorem dX2_notes_123 : decode cX2_notes 123 = .ok (.getfield 21, 3) := dk_180 0 21 (dk_at dksX2_notes_5 7 rfl rfl)
theorem dX2_notes_126 : decode cX2_notes 126 = .ok (.iload_n 1, 1) := dk_27 (dk_at dksX2_notes_5 10 rfl rfl)
theorem dX2_notes_127 : decode cX2_notes 127 = .ok (.aload_n 0, 1) := dk_42 (dk_at dksX2_notes_5 11 rfl rfl)
theorem dX2_notes_128 : decode cX2_notes 128 = .ok (.getfield 106, 3) := dk_180 0 106 (dk_at dksX2_notes_5 12 rfl rfl)
theorem dX2_notes_131 : decode cX2_notes 131 = .ok (.iastore, 1) := dk_79 (dk_at dksX2_notes_5 15 rfl rfl)
theorem dX2_notes_132 : decode cX2_notes 132 = .ok (.aload_n 0, 1) := dk_42 (dk_at dksX2_notes_5 16 rfl rfl)
theorem dX2_notes_133 : decode cX2_notes 133 = .ok (.getfield 24, 3) := dk_180 0 24 (dk_at dksX2_notes_5 17 rfl rfl)
theorem dX2_notes_136 : decode cX2_notes 136 = .ok (.iload_n 1, 1) := dk_27 (dk_at dksX2_notes_5 20 rfl rfl)
theorem dX2_notes_137 : decode cX2_notes 137 = .ok (.aload_n 0, 1) := dk_42 (dk_at dksX2_notes_5 21 rfl rfl)
theorem dX2_notes_138 : decode cX2_notes 138 = .ok (.getfield 103, 3) := dk_180 0 103 (dk_at dksX2_notes_6 0 rfl rfl)
theorem dX2_notes_141 : decode cX2_notes 141 = .ok (.iastore, 1) := dk_79 (dk_at dksX2_notes_6 3 rfl rfl)
theorem dX2_notes_142 : decode cX2_notes 142 = .ok (.aload_n 0, 1) := dk_42 (dk_at dksX2_notes_6 4 rfl rfl)
theorem dX2_notes_143 : decode cX2_notes 143 = .ok (.dup, 1) := dk_89 (dk_at dksX2_notes_6 5 rfl rfl)
theorem dX2_notes_144 : decode cX2_notes 144 = .ok (.getfield 109, 3) := dk_180 0 109 (dk_at dksX2_notes_6 6 rfl rfl)
theorem dX2_notes_147 : decode cX2_notes 147 = .ok (.iconst 1, 1) := dk_4 (dk_at dksX2_notes_6 9 rfl rfl)
theorem dX2_notes_148 : decode cX2_notes 148 = .ok (.iadd, 1) := dk_96 (dk_at dksX2_notes_6 10 rfl rfl)
theorem dX2_notes_149 : decode cX2_notes 149 = .ok (.putfield 109, 3) := dk_181 0 109 (dk_at dksX2_notes_6 11 rfl rfl)
theorem dX2_notes_152 : decode cX2_notes 152 = .ok (.return_, 1) := dk_177 (dk_at dksX2_notes_6 14 rfl rfl)
abbrev cX2_bars : ByteArray := prog_6_method_11_code
def yX2_bars : MethodName := ⟨RX2, "bars", "(IIII)V"⟩
def dkwX2_bars_1 : List UInt8 := [132, 5, 1, 167, 255, 233, 177]
abbrev dktX2_bars_1 : List UInt8 := dkwX2_bars_1 ++ []
def dkwX2_bars_0 : List UInt8 := [3, 54, 5, 21, 5, 42, 180, 0, 49, 162, 0, 20, 42, 21, 5, 27, 28, 29, 21, 4, 182, 0, 97]
abbrev dktX2_bars_0 : List UInt8 := dkwX2_bars_0 ++ dktX2_bars_1
theorem dksX2_bars_0 : cX2_bars.data.toList.drop 0 = dktX2_bars_0 := by decide +kernel
theorem dksX2_bars_1 : cX2_bars.data.toList.drop 23 = dktX2_bars_1 := dk_seg dksX2_bars_0 23 rfl rfl
theorem dX2_bars_0 : decode cX2_bars 0 = .ok (.iconst 0, 1) := dk_3 (dk_at dksX2_bars_0 0 rfl rfl)
theorem dX2_bars_1 : decode cX2_bars 1 = .ok (.istore 5, 2) := dk_54 5 (dk_at dksX2_bars_0 1 rfl rfl)
theorem dX2_bars_3 : decode cX2_bars 3 = .ok (.iload 5, 2) := dk_21 5 (dk_at dksX2_bars_0 3 rfl rfl)
theorem dX2_bars_5 : decode cX2_bars 5 = .ok (.aload_n 0, 1) := dk_42 (dk_at dksX2_bars_0 5 rfl rfl)
theorem dX2_bars_6 : decode cX2_bars 6 = .ok (.getfield 49, 3) := dk_180 0 49 (dk_at dksX2_bars_0 6 rfl rfl)
theorem dX2_bars_9 : decode cX2_bars 9 = .ok (.if_icmp .ge 20, 3) := dk_162 0 20 (dk_at dksX2_bars_0 9 rfl rfl)
theorem dX2_bars_12 : decode cX2_bars 12 = .ok (.aload_n 0, 1) := dk_42 (dk_at dksX2_bars_0 12 rfl rfl)
theorem dX2_bars_13 : decode cX2_bars 13 = .ok (.iload 5, 2) := dk_21 5 (dk_at dksX2_bars_0 13 rfl rfl)
theorem dX2_bars_15 : decode cX2_bars 15 = .ok (.iload_n 1, 1) := dk_27 (dk_at dksX2_bars_0 15 rfl rfl)
theorem dX2_bars_16 : decode cX2_bars 16 = .ok (.iload_n 2, 1) := dk_28 (dk_at dksX2_bars_0 16 rfl rfl)
theorem dX2_bars_17 : decode cX2_bars 17 = .ok (.iload_n 3, 1) := dk_29 (dk_at dksX2_bars_0 17 rfl rfl)
theorem dX2_bars_18 : decode cX2_bars 18 = .ok (.iload 4, 2) := dk_21 4 (dk_at dksX2_bars_0 18 rfl rfl)
theorem dX2_bars_20 : decode cX2_bars 20 = .ok (.invokevirtual 97, 3) := dk_182 0 97 (dk_at dksX2_bars_0 20 rfl rfl)
theorem dX2_bars_23 : decode cX2_bars 23 = .ok (.iinc 5 1, 3) := dk_132 5 1 (dk_at dksX2_bars_1 0 rfl rfl)
theorem dX2_bars_26 : decode cX2_bars 26 = .ok (.goto (-23), 3) := dk_167 255 233 (dk_at dksX2_bars_1 3 rfl rfl)
theorem dX2_bars_29 : decode cX2_bars 29 = .ok (.return_, 1) := dk_177 (dk_at dksX2_bars_1 6 rfl rfl)
abbrev cX2_asks : ByteArray := prog_6_method_10_code
def yX2_asks : MethodName := ⟨RX2, "asks", "(IIIII)V"⟩
def dkwX2_asks_1 : List UInt8 := [183, 0, 96, 191, 177]
abbrev dktX2_asks_1 : List UInt8 := dkwX2_asks_1 ++ []
def dkwX2_asks_0 : List UInt8 := [42, 27, 28, 29, 21, 4, 21, 5, 182, 0, 90, 167, 0, 16, 58, 6, 187, 0, 94, 89, 27, 25, 6]
abbrev dktX2_asks_0 : List UInt8 := dkwX2_asks_0 ++ dktX2_asks_1
theorem dksX2_asks_0 : cX2_asks.data.toList.drop 0 = dktX2_asks_0 := by decide +kernel
theorem dksX2_asks_1 : cX2_asks.data.toList.drop 23 = dktX2_asks_1 := dk_seg dksX2_asks_0 23 rfl rfl
theorem dX2_asks_0 : decode cX2_asks 0 = .ok (.aload_n 0, 1) := dk_42 (dk_at dksX2_asks_0 0 rfl rfl)
theorem dX2_asks_1 : decode cX2_asks 1 = .ok (.iload_n 1, 1) := dk_27 (dk_at dksX2_asks_0 1 rfl rfl)
theorem dX2_asks_2 : decode cX2_asks 2 = .ok (.iload_n 2, 1) := dk_28 (dk_at dksX2_asks_0 2 rfl rfl)
theorem dX2_asks_3 : decode cX2_asks 3 = .ok (.iload_n 3, 1) := dk_29 (dk_at dksX2_asks_0 3 rfl rfl)
theorem dX2_asks_4 : decode cX2_asks 4 = .ok (.iload 4, 2) := dk_21 4 (dk_at dksX2_asks_0 4 rfl rfl)
theorem dX2_asks_6 : decode cX2_asks 6 = .ok (.iload 5, 2) := dk_21 5 (dk_at dksX2_asks_0 6 rfl rfl)
theorem dX2_asks_8 : decode cX2_asks 8 = .ok (.invokevirtual 90, 3) := dk_182 0 90 (dk_at dksX2_asks_0 8 rfl rfl)
theorem dX2_asks_11 : decode cX2_asks 11 = .ok (.goto 16, 3) := dk_167 0 16 (dk_at dksX2_asks_0 11 rfl rfl)
theorem dX2_asks_14 : decode cX2_asks 14 = .ok (.astore 6, 2) := dk_58 6 (dk_at dksX2_asks_0 14 rfl rfl)
theorem dX2_asks_16 : decode cX2_asks 16 = .ok (.new 94, 3) := dk_187 0 94 (dk_at dksX2_asks_0 16 rfl rfl)
theorem dX2_asks_19 : decode cX2_asks 19 = .ok (.dup, 1) := dk_89 (dk_at dksX2_asks_0 19 rfl rfl)
theorem dX2_asks_20 : decode cX2_asks 20 = .ok (.iload_n 1, 1) := dk_27 (dk_at dksX2_asks_0 20 rfl rfl)
theorem dX2_asks_21 : decode cX2_asks 21 = .ok (.aload 6, 2) := dk_25 6 (dk_at dksX2_asks_0 21 rfl rfl)
theorem dX2_asks_23 : decode cX2_asks 23 = .ok (.invokespecial 96, 3) := dk_183 0 96 (dk_at dksX2_asks_1 0 rfl rfl)
theorem dX2_asks_26 : decode cX2_asks 26 = .ok (.athrow, 1) := dk_191 (dk_at dksX2_asks_1 3 rfl rfl)
theorem dX2_asks_27 : decode cX2_asks 27 = .ok (.return_, 1) := dk_177 (dk_at dksX2_asks_1 4 rfl rfl)
abbrev cX2_weighs : ByteArray := prog_6_method_9_code
def yX2_weighs : MethodName := ⟨RX2, "weighs", "(IIIII)V"⟩
def dkwX2_weighs_3 : List UInt8 := [183, 0, 86, 183, 0, 89, 191]
abbrev dktX2_weighs_3 : List UInt8 := dkwX2_weighs_3 ++ []
def dkwX2_weighs_2 : List UInt8 := [180, 0, 18, 27, 46, 187, 0, 81, 89, 21, 4, 187, 0, 81, 89, 21, 5, 183, 0, 83, 183, 0, 86]
abbrev dktX2_weighs_2 : List UInt8 := dkwX2_weighs_2 ++ dktX2_weighs_3
def dkwX2_weighs_1 : List UInt8 := [21, 4, 42, 180, 0, 18, 27, 46, 104, 164, 0, 4, 177, 187, 0, 79, 89, 21, 6, 187, 0, 81, 89, 42]
abbrev dktX2_weighs_1 : List UInt8 := dkwX2_weighs_1 ++ dktX2_weighs_2
def dkwX2_weighs_0 : List UInt8 := [42, 27, 28, 29, 182, 0, 75, 54, 6, 42, 180, 0, 18, 27, 46, 153, 0, 20, 21, 6, 21, 5, 104]
abbrev dktX2_weighs_0 : List UInt8 := dkwX2_weighs_0 ++ dktX2_weighs_1
theorem dksX2_weighs_0 : cX2_weighs.data.toList.drop 0 = dktX2_weighs_0 := by decide +kernel
theorem dksX2_weighs_1 : cX2_weighs.data.toList.drop 23 = dktX2_weighs_1 := dk_seg dksX2_weighs_0 23 rfl rfl
theorem dksX2_weighs_2 : cX2_weighs.data.toList.drop 47 = dktX2_weighs_2 := dk_seg dksX2_weighs_1 24 rfl rfl
theorem dksX2_weighs_3 : cX2_weighs.data.toList.drop 70 = dktX2_weighs_3 := dk_seg dksX2_weighs_2 23 rfl rfl
theorem dX2_weighs_0 : decode cX2_weighs 0 = .ok (.aload_n 0, 1) := dk_42 (dk_at dksX2_weighs_0 0 rfl rfl)
theorem dX2_weighs_1 : decode cX2_weighs 1 = .ok (.iload_n 1, 1) := dk_27 (dk_at dksX2_weighs_0 1 rfl rfl)
theorem dX2_weighs_2 : decode cX2_weighs 2 = .ok (.iload_n 2, 1) := dk_28 (dk_at dksX2_weighs_0 2 rfl rfl)
theorem dX2_weighs_3 : decode cX2_weighs 3 = .ok (.iload_n 3, 1) := dk_29 (dk_at dksX2_weighs_0 3 rfl rfl)
theorem dX2_weighs_4 : decode cX2_weighs 4 = .ok (.invokevirtual 75, 3) := dk_182 0 75 (dk_at dksX2_weighs_0 4 rfl rfl)
theorem dX2_weighs_7 : decode cX2_weighs 7 = .ok (.istore 6, 2) := dk_54 6 (dk_at dksX2_weighs_0 7 rfl rfl)
theorem dX2_weighs_9 : decode cX2_weighs 9 = .ok (.aload_n 0, 1) := dk_42 (dk_at dksX2_weighs_0 9 rfl rfl)
theorem dX2_weighs_10 : decode cX2_weighs 10 = .ok (.getfield 18, 3) := dk_180 0 18 (dk_at dksX2_weighs_0 10 rfl rfl)
theorem dX2_weighs_13 : decode cX2_weighs 13 = .ok (.iload_n 1, 1) := dk_27 (dk_at dksX2_weighs_0 13 rfl rfl)
theorem dX2_weighs_14 : decode cX2_weighs 14 = .ok (.iaload, 1) := dk_46 (dk_at dksX2_weighs_0 14 rfl rfl)
theorem dX2_weighs_15 : decode cX2_weighs 15 = .ok (.ifCond .eq 20, 3) := dk_153 0 20 (dk_at dksX2_weighs_0 15 rfl rfl)
theorem dX2_weighs_18 : decode cX2_weighs 18 = .ok (.iload 6, 2) := dk_21 6 (dk_at dksX2_weighs_0 18 rfl rfl)
theorem dX2_weighs_20 : decode cX2_weighs 20 = .ok (.iload 5, 2) := dk_21 5 (dk_at dksX2_weighs_0 20 rfl rfl)
theorem dX2_weighs_22 : decode cX2_weighs 22 = .ok (.imul, 1) := dk_104 (dk_at dksX2_weighs_0 22 rfl rfl)
theorem dX2_weighs_23 : decode cX2_weighs 23 = .ok (.iload 4, 2) := dk_21 4 (dk_at dksX2_weighs_1 0 rfl rfl)
theorem dX2_weighs_25 : decode cX2_weighs 25 = .ok (.aload_n 0, 1) := dk_42 (dk_at dksX2_weighs_1 2 rfl rfl)
theorem dX2_weighs_26 : decode cX2_weighs 26 = .ok (.getfield 18, 3) := dk_180 0 18 (dk_at dksX2_weighs_1 3 rfl rfl)
theorem dX2_weighs_29 : decode cX2_weighs 29 = .ok (.iload_n 1, 1) := dk_27 (dk_at dksX2_weighs_1 6 rfl rfl)
theorem dX2_weighs_30 : decode cX2_weighs 30 = .ok (.iaload, 1) := dk_46 (dk_at dksX2_weighs_1 7 rfl rfl)
theorem dX2_weighs_31 : decode cX2_weighs 31 = .ok (.imul, 1) := dk_104 (dk_at dksX2_weighs_1 8 rfl rfl)
theorem dX2_weighs_32 : decode cX2_weighs 32 = .ok (.if_icmp .le 4, 3) := dk_164 0 4 (dk_at dksX2_weighs_1 9 rfl rfl)
theorem dX2_weighs_35 : decode cX2_weighs 35 = .ok (.return_, 1) := dk_177 (dk_at dksX2_weighs_1 12 rfl rfl)
theorem dX2_weighs_36 : decode cX2_weighs 36 = .ok (.new 79, 3) := dk_187 0 79 (dk_at dksX2_weighs_1 13 rfl rfl)
theorem dX2_weighs_39 : decode cX2_weighs 39 = .ok (.dup, 1) := dk_89 (dk_at dksX2_weighs_1 16 rfl rfl)
theorem dX2_weighs_40 : decode cX2_weighs 40 = .ok (.iload 6, 2) := dk_21 6 (dk_at dksX2_weighs_1 17 rfl rfl)
theorem dX2_weighs_42 : decode cX2_weighs 42 = .ok (.new 81, 3) := dk_187 0 81 (dk_at dksX2_weighs_1 19 rfl rfl)
theorem dX2_weighs_45 : decode cX2_weighs 45 = .ok (.dup, 1) := dk_89 (dk_at dksX2_weighs_1 22 rfl rfl)
theorem dX2_weighs_46 : decode cX2_weighs 46 = .ok (.aload_n 0, 1) := dk_42 (dk_at dksX2_weighs_1 23 rfl rfl)
theorem dX2_weighs_47 : decode cX2_weighs 47 = .ok (.getfield 18, 3) := dk_180 0 18 (dk_at dksX2_weighs_2 0 rfl rfl)
theorem dX2_weighs_50 : decode cX2_weighs 50 = .ok (.iload_n 1, 1) := dk_27 (dk_at dksX2_weighs_2 3 rfl rfl)
theorem dX2_weighs_51 : decode cX2_weighs 51 = .ok (.iaload, 1) := dk_46 (dk_at dksX2_weighs_2 4 rfl rfl)
theorem dX2_weighs_52 : decode cX2_weighs 52 = .ok (.new 81, 3) := dk_187 0 81 (dk_at dksX2_weighs_2 5 rfl rfl)
theorem dX2_weighs_55 : decode cX2_weighs 55 = .ok (.dup, 1) := dk_89 (dk_at dksX2_weighs_2 8 rfl rfl)
theorem dX2_weighs_56 : decode cX2_weighs 56 = .ok (.iload 4, 2) := dk_21 4 (dk_at dksX2_weighs_2 9 rfl rfl)
theorem dX2_weighs_58 : decode cX2_weighs 58 = .ok (.new 81, 3) := dk_187 0 81 (dk_at dksX2_weighs_2 11 rfl rfl)
theorem dX2_weighs_61 : decode cX2_weighs 61 = .ok (.dup, 1) := dk_89 (dk_at dksX2_weighs_2 14 rfl rfl)
theorem dX2_weighs_62 : decode cX2_weighs 62 = .ok (.iload 5, 2) := dk_21 5 (dk_at dksX2_weighs_2 15 rfl rfl)
theorem dX2_weighs_64 : decode cX2_weighs 64 = .ok (.invokespecial 83, 3) := dk_183 0 83 (dk_at dksX2_weighs_2 17 rfl rfl)
theorem dX2_weighs_67 : decode cX2_weighs 67 = .ok (.invokespecial 86, 3) := dk_183 0 86 (dk_at dksX2_weighs_2 20 rfl rfl)
theorem dX2_weighs_70 : decode cX2_weighs 70 = .ok (.invokespecial 86, 3) := dk_183 0 86 (dk_at dksX2_weighs_3 0 rfl rfl)
theorem dX2_weighs_73 : decode cX2_weighs 73 = .ok (.invokespecial 89, 3) := dk_183 0 89 (dk_at dksX2_weighs_3 3 rfl rfl)
theorem dX2_weighs_76 : decode cX2_weighs 76 = .ok (.athrow, 1) := dk_191 (dk_at dksX2_weighs_3 6 rfl rfl)
abbrev cX2_lacks : ByteArray := prog_6_method_13_code
def yX2_lacks : MethodName := ⟨RX2, "lacks", "(II)I"⟩
def dkwX2_lacks_1 : List UInt8 := [27, 28, 182, 0, 100, 153, 0, 7, 3, 167, 0, 4, 4, 96, 62, 132, 4, 1, 167, 255, 219, 29, 172]
abbrev dktX2_lacks_1 : List UInt8 := dkwX2_lacks_1 ++ []
def dkwX2_lacks_0 : List UInt8 := [3, 62, 3, 54, 4, 21, 4, 16, 100, 162, 0, 36, 29, 42, 21, 4, 16, 10, 108, 21, 4, 16, 10, 112]
abbrev dktX2_lacks_0 : List UInt8 := dkwX2_lacks_0 ++ dktX2_lacks_1
theorem dksX2_lacks_0 : cX2_lacks.data.toList.drop 0 = dktX2_lacks_0 := by decide +kernel
theorem dksX2_lacks_1 : cX2_lacks.data.toList.drop 24 = dktX2_lacks_1 := dk_seg dksX2_lacks_0 24 rfl rfl
theorem dX2_lacks_0 : decode cX2_lacks 0 = .ok (.iconst 0, 1) := dk_3 (dk_at dksX2_lacks_0 0 rfl rfl)
theorem dX2_lacks_1 : decode cX2_lacks 1 = .ok (.istore_n 3, 1) := dk_62 (dk_at dksX2_lacks_0 1 rfl rfl)
theorem dX2_lacks_2 : decode cX2_lacks 2 = .ok (.iconst 0, 1) := dk_3 (dk_at dksX2_lacks_0 2 rfl rfl)
theorem dX2_lacks_3 : decode cX2_lacks 3 = .ok (.istore 4, 2) := dk_54 4 (dk_at dksX2_lacks_0 3 rfl rfl)
theorem dX2_lacks_5 : decode cX2_lacks 5 = .ok (.iload 4, 2) := dk_21 4 (dk_at dksX2_lacks_0 5 rfl rfl)
theorem dX2_lacks_7 : decode cX2_lacks 7 = .ok (.bipush 100, 2) := dk_16 100 (dk_at dksX2_lacks_0 7 rfl rfl)
theorem dX2_lacks_9 : decode cX2_lacks 9 = .ok (.if_icmp .ge 36, 3) := dk_162 0 36 (dk_at dksX2_lacks_0 9 rfl rfl)
theorem dX2_lacks_12 : decode cX2_lacks 12 = .ok (.iload_n 3, 1) := dk_29 (dk_at dksX2_lacks_0 12 rfl rfl)
theorem dX2_lacks_13 : decode cX2_lacks 13 = .ok (.aload_n 0, 1) := dk_42 (dk_at dksX2_lacks_0 13 rfl rfl)
theorem dX2_lacks_14 : decode cX2_lacks 14 = .ok (.iload 4, 2) := dk_21 4 (dk_at dksX2_lacks_0 14 rfl rfl)
theorem dX2_lacks_16 : decode cX2_lacks 16 = .ok (.bipush 10, 2) := dk_16 10 (dk_at dksX2_lacks_0 16 rfl rfl)
theorem dX2_lacks_18 : decode cX2_lacks 18 = .ok (.idiv, 1) := dk_108 (dk_at dksX2_lacks_0 18 rfl rfl)
theorem dX2_lacks_19 : decode cX2_lacks 19 = .ok (.iload 4, 2) := dk_21 4 (dk_at dksX2_lacks_0 19 rfl rfl)
theorem dX2_lacks_21 : decode cX2_lacks 21 = .ok (.bipush 10, 2) := dk_16 10 (dk_at dksX2_lacks_0 21 rfl rfl)
theorem dX2_lacks_23 : decode cX2_lacks 23 = .ok (.irem, 1) := dk_112 (dk_at dksX2_lacks_0 23 rfl rfl)
theorem dX2_lacks_24 : decode cX2_lacks 24 = .ok (.iload_n 1, 1) := dk_27 (dk_at dksX2_lacks_1 0 rfl rfl)
theorem dX2_lacks_25 : decode cX2_lacks 25 = .ok (.iload_n 2, 1) := dk_28 (dk_at dksX2_lacks_1 1 rfl rfl)
theorem dX2_lacks_26 : decode cX2_lacks 26 = .ok (.invokevirtual 100, 3) := dk_182 0 100 (dk_at dksX2_lacks_1 2 rfl rfl)
theorem dX2_lacks_29 : decode cX2_lacks 29 = .ok (.ifCond .eq 7, 3) := dk_153 0 7 (dk_at dksX2_lacks_1 5 rfl rfl)
theorem dX2_lacks_32 : decode cX2_lacks 32 = .ok (.iconst 0, 1) := dk_3 (dk_at dksX2_lacks_1 8 rfl rfl)
theorem dX2_lacks_33 : decode cX2_lacks 33 = .ok (.goto 4, 3) := dk_167 0 4 (dk_at dksX2_lacks_1 9 rfl rfl)
theorem dX2_lacks_36 : decode cX2_lacks 36 = .ok (.iconst 1, 1) := dk_4 (dk_at dksX2_lacks_1 12 rfl rfl)
theorem dX2_lacks_37 : decode cX2_lacks 37 = .ok (.iadd, 1) := dk_96 (dk_at dksX2_lacks_1 13 rfl rfl)
theorem dX2_lacks_38 : decode cX2_lacks 38 = .ok (.istore_n 3, 1) := dk_62 (dk_at dksX2_lacks_1 14 rfl rfl)
theorem dX2_lacks_39 : decode cX2_lacks 39 = .ok (.iinc 4 1, 3) := dk_132 4 1 (dk_at dksX2_lacks_1 15 rfl rfl)
theorem dX2_lacks_42 : decode cX2_lacks 42 = .ok (.goto (-37), 3) := dk_167 255 219 (dk_at dksX2_lacks_1 18 rfl rfl)
theorem dX2_lacks_45 : decode cX2_lacks 45 = .ok (.iload_n 3, 1) := dk_29 (dk_at dksX2_lacks_1 21 rfl rfl)
theorem dX2_lacks_46 : decode cX2_lacks 46 = .ok (.ireturn, 1) := dk_172 (dk_at dksX2_lacks_1 22 rfl rfl)
abbrev cX2_holds : ByteArray := prog_6_method_12_code
def yX2_holds : MethodName := ⟨RX2, "holds", "(IIII)Z"⟩
def dkwX2_holds_2 : List UInt8 := [132, 5, 1, 167, 255, 209, 4, 172]
abbrev dktX2_holds_2 : List UInt8 := dkwX2_holds_2 ++ []
def dkwX2_holds_1 : List UInt8 := [21, 5, 27, 28, 182, 0, 75, 21, 4, 104, 29, 42, 180, 0, 18, 21, 5, 46, 104, 163, 0, 5, 3, 172]
abbrev dktX2_holds_1 : List UInt8 := dkwX2_holds_1 ++ dktX2_holds_2
def dkwX2_holds_0 : List UInt8 := [3, 54, 5, 21, 5, 42, 180, 0, 49, 162, 0, 44, 42, 180, 0, 18, 21, 5, 46, 158, 0, 28, 42]
abbrev dktX2_holds_0 : List UInt8 := dkwX2_holds_0 ++ dktX2_holds_1
theorem dksX2_holds_0 : cX2_holds.data.toList.drop 0 = dktX2_holds_0 := by decide +kernel
theorem dksX2_holds_1 : cX2_holds.data.toList.drop 23 = dktX2_holds_1 := dk_seg dksX2_holds_0 23 rfl rfl
theorem dksX2_holds_2 : cX2_holds.data.toList.drop 47 = dktX2_holds_2 := dk_seg dksX2_holds_1 24 rfl rfl
theorem dX2_holds_0 : decode cX2_holds 0 = .ok (.iconst 0, 1) := dk_3 (dk_at dksX2_holds_0 0 rfl rfl)
theorem dX2_holds_1 : decode cX2_holds 1 = .ok (.istore 5, 2) := dk_54 5 (dk_at dksX2_holds_0 1 rfl rfl)
theorem dX2_holds_3 : decode cX2_holds 3 = .ok (.iload 5, 2) := dk_21 5 (dk_at dksX2_holds_0 3 rfl rfl)
theorem dX2_holds_5 : decode cX2_holds 5 = .ok (.aload_n 0, 1) := dk_42 (dk_at dksX2_holds_0 5 rfl rfl)
theorem dX2_holds_6 : decode cX2_holds 6 = .ok (.getfield 49, 3) := dk_180 0 49 (dk_at dksX2_holds_0 6 rfl rfl)
theorem dX2_holds_9 : decode cX2_holds 9 = .ok (.if_icmp .ge 44, 3) := dk_162 0 44 (dk_at dksX2_holds_0 9 rfl rfl)
theorem dX2_holds_12 : decode cX2_holds 12 = .ok (.aload_n 0, 1) := dk_42 (dk_at dksX2_holds_0 12 rfl rfl)
theorem dX2_holds_13 : decode cX2_holds 13 = .ok (.getfield 18, 3) := dk_180 0 18 (dk_at dksX2_holds_0 13 rfl rfl)
theorem dX2_holds_16 : decode cX2_holds 16 = .ok (.iload 5, 2) := dk_21 5 (dk_at dksX2_holds_0 16 rfl rfl)
theorem dX2_holds_18 : decode cX2_holds 18 = .ok (.iaload, 1) := dk_46 (dk_at dksX2_holds_0 18 rfl rfl)
theorem dX2_holds_19 : decode cX2_holds 19 = .ok (.ifCond .le 28, 3) := dk_158 0 28 (dk_at dksX2_holds_0 19 rfl rfl)
theorem dX2_holds_22 : decode cX2_holds 22 = .ok (.aload_n 0, 1) := dk_42 (dk_at dksX2_holds_0 22 rfl rfl)
theorem dX2_holds_23 : decode cX2_holds 23 = .ok (.iload 5, 2) := dk_21 5 (dk_at dksX2_holds_1 0 rfl rfl)
theorem dX2_holds_25 : decode cX2_holds 25 = .ok (.iload_n 1, 1) := dk_27 (dk_at dksX2_holds_1 2 rfl rfl)
theorem dX2_holds_26 : decode cX2_holds 26 = .ok (.iload_n 2, 1) := dk_28 (dk_at dksX2_holds_1 3 rfl rfl)
theorem dX2_holds_27 : decode cX2_holds 27 = .ok (.invokevirtual 75, 3) := dk_182 0 75 (dk_at dksX2_holds_1 4 rfl rfl)
theorem dX2_holds_30 : decode cX2_holds 30 = .ok (.iload 4, 2) := dk_21 4 (dk_at dksX2_holds_1 7 rfl rfl)
theorem dX2_holds_32 : decode cX2_holds 32 = .ok (.imul, 1) := dk_104 (dk_at dksX2_holds_1 9 rfl rfl)
theorem dX2_holds_33 : decode cX2_holds 33 = .ok (.iload_n 3, 1) := dk_29 (dk_at dksX2_holds_1 10 rfl rfl)
theorem dX2_holds_34 : decode cX2_holds 34 = .ok (.aload_n 0, 1) := dk_42 (dk_at dksX2_holds_1 11 rfl rfl)
theorem dX2_holds_35 : decode cX2_holds 35 = .ok (.getfield 18, 3) := dk_180 0 18 (dk_at dksX2_holds_1 12 rfl rfl)
theorem dX2_holds_38 : decode cX2_holds 38 = .ok (.iload 5, 2) := dk_21 5 (dk_at dksX2_holds_1 15 rfl rfl)
theorem dX2_holds_40 : decode cX2_holds 40 = .ok (.iaload, 1) := dk_46 (dk_at dksX2_holds_1 17 rfl rfl)
theorem dX2_holds_41 : decode cX2_holds 41 = .ok (.imul, 1) := dk_104 (dk_at dksX2_holds_1 18 rfl rfl)
theorem dX2_holds_42 : decode cX2_holds 42 = .ok (.if_icmp .gt 5, 3) := dk_163 0 5 (dk_at dksX2_holds_1 19 rfl rfl)
theorem dX2_holds_45 : decode cX2_holds 45 = .ok (.iconst 0, 1) := dk_3 (dk_at dksX2_holds_1 22 rfl rfl)
theorem dX2_holds_46 : decode cX2_holds 46 = .ok (.ireturn, 1) := dk_172 (dk_at dksX2_holds_1 23 rfl rfl)
theorem dX2_holds_47 : decode cX2_holds 47 = .ok (.iinc 5 1, 3) := dk_132 5 1 (dk_at dksX2_holds_2 0 rfl rfl)
theorem dX2_holds_50 : decode cX2_holds 50 = .ok (.goto (-47), 3) := dk_167 255 209 (dk_at dksX2_holds_2 3 rfl rfl)
theorem dX2_holds_53 : decode cX2_holds 53 = .ok (.iconst 1, 1) := dk_4 (dk_at dksX2_holds_2 6 rfl rfl)
theorem dX2_holds_54 : decode cX2_holds 54 = .ok (.ireturn, 1) := dk_172 (dk_at dksX2_holds_2 7 rfl rfl)
theorem q68 : (Jvm.Cond.initialized "TermIdeals$Faces") ∈ lw_all := lw_g (lw_at lw_m1 3 rfl) rfl
theorem q110 : (Jvm.Cond.fieldLinkNest "TermIdeals$Faces" (37 : Nat) "TermIdeals$Ideal" "as" "[I" "TermIdeals") ∈ lw_tbl := lw_at lw_m1 45 rfl
theorem q113 : (Jvm.Cond.fieldLinkNest "TermIdeals$Faces" (40 : Nat) "TermIdeals$Ideal" "bs" "[I" "TermIdeals") ∈ lw_tbl := lw_at lw_m1 48 rfl
theorem q115 : (Jvm.Cond.fieldLinkNest "TermIdeals$Faces" (31 : Nat) "TermIdeals$Ideal" "many" "I" "TermIdeals") ∈ lw_tbl := lw_at lw_m1 50 rfl
theorem q127 : (Jvm.Cond.instantiable "TermIdeals$Faces" (10 : Nat)) ∈ lw_all := lw_g (lw_at lw_m1 62 rfl) rfl
theorem q129 : (Jvm.Cond.instanceMethod ({ cls := "TermIdeals$Faces", name := "<init>", desc := "()V" } : Jvm.MethodName)) ∈ lw_all := lw_g (lw_at lw_m1 64 rfl) rfl
theorem q130 : (Jvm.Cond.code ({ cls := "TermIdeals$Faces", name := "<init>", desc := "()V" } : Jvm.MethodName) prog_6_method_1_code (1 : Nat) (Option.none : Option Jvm.ClassFile.FieldType)) ∈ lw_all := lw_g (lw_at lw_m1 65 rfl) rfl
theorem q131 : (Jvm.Cond.methodLink "TermIdeals$Faces" (3 : Nat) ({ cls := "java/lang/Object", name := "<init>", desc := "()V" } : Jvm.MethodName)) ∈ lw_all := lw_g (lw_at lw_m1 66 rfl) rfl
theorem q132 : (Jvm.Cond.fieldLink "TermIdeals$Faces" (27 : Nat) "TermIdeals$Faces" "of" "LTermIdeals$Ideal;") ∈ lw_all := lw_g (lw_at lw_m1 67 rfl) rfl
theorem q133 : (Jvm.Cond.fieldLink "TermIdeals$Faces" (9 : Nat) "TermIdeals$Faces" "ss" "[I") ∈ lw_all := lw_g (lw_at lw_m1 68 rfl) rfl
theorem q135 : (Jvm.Cond.fieldLink "TermIdeals$Faces" (15 : Nat) "TermIdeals$Faces" "ts" "[I") ∈ lw_all := lw_g (lw_at lw_m1 70 rfl) rfl
theorem q137 : (Jvm.Cond.fieldLink "TermIdeals$Faces" (18 : Nat) "TermIdeals$Faces" "levels" "[I") ∈ lw_all := lw_g (lw_at lw_m1 72 rfl) rfl
theorem q139 : (Jvm.Cond.fieldLink "TermIdeals$Faces" (49 : Nat) "TermIdeals$Faces" "many" "I") ∈ lw_all := lw_g (lw_at lw_m1 74 rfl) rfl
theorem q141 : (Jvm.Cond.fieldLink "TermIdeals$Faces" (106 : Nat) "TermIdeals$Faces" "up" "I") ∈ lw_all := lw_g (lw_at lw_m1 76 rfl) rfl
theorem q143 : (Jvm.Cond.fieldLink "TermIdeals$Faces" (103 : Nat) "TermIdeals$Faces" "low" "I") ∈ lw_all := lw_g (lw_at lw_m1 78 rfl) rfl
theorem q145 : (Jvm.Cond.fieldLink "TermIdeals$Faces" (21 : Nat) "TermIdeals$Faces" "ups" "[I") ∈ lw_all := lw_g (lw_at lw_m1 80 rfl) rfl
theorem q147 : (Jvm.Cond.fieldLink "TermIdeals$Faces" (24 : Nat) "TermIdeals$Faces" "lows" "[I") ∈ lw_all := lw_g (lw_at lw_m1 82 rfl) rfl
theorem q149 : (Jvm.Cond.fieldLink "TermIdeals$Faces" (109 : Nat) "TermIdeals$Faces" "manyJumps" "I") ∈ lw_all := lw_g (lw_at lw_m1 84 rfl) rfl
theorem q150 : (Jvm.Cond.lays "TermIdeals$Faces" "TermIdeals$Faces" "of" "LTermIdeals$Ideal;") ∈ lw_all := lw_g (lw_at lw_m1 85 rfl) rfl
theorem q151 : (Jvm.Cond.soleField "TermIdeals$Faces" "of") ∈ lw_all := lw_g (lw_at lw_m1 86 rfl) rfl
theorem q152 : (Jvm.Cond.laysFinal "TermIdeals$Faces" "TermIdeals$Faces" "ss" "[I") ∈ lw_all := lw_g (lw_at lw_m1 87 rfl) rfl
theorem q153 : (Jvm.Cond.soleField "TermIdeals$Faces" "ss") ∈ lw_all := lw_g (lw_at lw_m1 88 rfl) rfl
theorem q154 : (Jvm.Cond.laysFinal "TermIdeals$Faces" "TermIdeals$Faces" "ts" "[I") ∈ lw_all := lw_g (lw_at lw_m1 89 rfl) rfl
theorem q155 : (Jvm.Cond.soleField "TermIdeals$Faces" "ts") ∈ lw_all := lw_g (lw_at lw_m1 90 rfl) rfl
theorem q156 : (Jvm.Cond.laysFinal "TermIdeals$Faces" "TermIdeals$Faces" "levels" "[I") ∈ lw_all := lw_g (lw_at lw_m1 91 rfl) rfl
theorem q157 : (Jvm.Cond.soleField "TermIdeals$Faces" "levels") ∈ lw_all := lw_g (lw_at lw_m1 92 rfl) rfl
theorem q158 : (Jvm.Cond.lays "TermIdeals$Faces" "TermIdeals$Faces" "many" "I") ∈ lw_all := lw_g (lw_at lw_m1 93 rfl) rfl
theorem q159 : (Jvm.Cond.soleField "TermIdeals$Faces" "many") ∈ lw_all := lw_g (lw_at lw_m1 94 rfl) rfl
theorem q160 : (Jvm.Cond.lays "TermIdeals$Faces" "TermIdeals$Faces" "up" "I") ∈ lw_all := lw_g (lw_at lw_m1 95 rfl) rfl
theorem q161 : (Jvm.Cond.soleField "TermIdeals$Faces" "up") ∈ lw_all := lw_g (lw_at lw_m1 96 rfl) rfl
theorem q162 : (Jvm.Cond.lays "TermIdeals$Faces" "TermIdeals$Faces" "low" "I") ∈ lw_all := lw_g (lw_at lw_m1 97 rfl) rfl
theorem q163 : (Jvm.Cond.soleField "TermIdeals$Faces" "low") ∈ lw_all := lw_g (lw_at lw_m1 98 rfl) rfl
theorem q164 : (Jvm.Cond.laysFinal "TermIdeals$Faces" "TermIdeals$Faces" "ups" "[I") ∈ lw_all := lw_g (lw_at lw_m1 99 rfl) rfl
theorem q165 : (Jvm.Cond.soleField "TermIdeals$Faces" "ups") ∈ lw_all := lw_g (lw_at lw_m1 100 rfl) rfl
theorem q166 : (Jvm.Cond.laysFinal "TermIdeals$Faces" "TermIdeals$Faces" "lows" "[I") ∈ lw_all := lw_g (lw_at lw_m1 101 rfl) rfl
theorem q167 : (Jvm.Cond.soleField "TermIdeals$Faces" "lows") ∈ lw_all := lw_g (lw_at lw_m1 102 rfl) rfl
theorem q168 : (Jvm.Cond.lays "TermIdeals$Faces" "TermIdeals$Faces" "manyJumps" "I") ∈ lw_all := lw_g (lw_at lw_m1 103 rfl) rfl
theorem q169 : (Jvm.Cond.soleField "TermIdeals$Faces" "manyJumps") ∈ lw_all := lw_g (lw_at lw_m1 104 rfl) rfl
theorem q170 : (Jvm.Cond.superclass "TermIdeals$Faces" "java/lang/Object") ∈ lw_all := lw_g (lw_at lw_m1 105 rfl) rfl
theorem q358 : (Jvm.Cond.instanceMethod ({ cls := "TermIdeals$Faces", name := "looks", desc := "(LTermIdeals$Ideal;)LTermIdeals$Faces;" } : Jvm.MethodName)) ∈ lw_all := lw_g (lw_at lw_m2 53 rfl) rfl
theorem q359 : (Jvm.Cond.selects "TermIdeals$Faces" ({ cls := "TermIdeals$Faces", name := "looks", desc := "(LTermIdeals$Ideal;)LTermIdeals$Faces;" } : Jvm.MethodName) ({ cls := "TermIdeals$Faces", name := "looks", desc := "(LTermIdeals$Ideal;)LTermIdeals$Faces;" } : Jvm.MethodName)) ∈ lw_all := lw_g (lw_at lw_m2 54 rfl) rfl
theorem q360 : (Jvm.Cond.code ({ cls := "TermIdeals$Faces", name := "looks", desc := "(LTermIdeals$Ideal;)LTermIdeals$Faces;" } : Jvm.MethodName) prog_6_method_5_code (4 : Nat) (Option.some (Jvm.ClassFile.FieldType.object "TermIdeals$Faces"))) ∈ lw_all := lw_g (lw_at lw_m2 55 rfl) rfl
theorem q361 : (Jvm.Cond.classLink "TermIdeals$Faces" (53 : Nat) "TermIdeals$Empty") ∈ lw_all := lw_g (lw_at lw_m2 56 rfl) rfl
theorem q421 : (Jvm.Cond.methodLinkNest "TermIdeals$Faces" (55 : Nat) ({ cls := "TermIdeals$Empty", name := "<init>", desc := "()V" } : Jvm.MethodName) "TermIdeals") ∈ lw_tbl := lw_at lw_m2 116 rfl
theorem q441 : (Jvm.Cond.methodLink "TermIdeals$Faces" (56 : Nat) ({ cls := "TermIdeals$Faces", name := "comes", desc := "(II)V" } : Jvm.MethodName)) ∈ lw_all := lw_g (lw_at lw_m2 136 rfl) rfl
theorem q442 : (Jvm.Cond.privateMethod ({ cls := "TermIdeals$Faces", name := "comes", desc := "(II)V" } : Jvm.MethodName)) ∈ lw_tbl := lw_at lw_m2 137 rfl
theorem q443 : (Jvm.Cond.instanceMethod ({ cls := "TermIdeals$Faces", name := "comes", desc := "(II)V" } : Jvm.MethodName)) ∈ lw_all := lw_g (lw_at lw_m2 138 rfl) rfl
theorem q444 : (Jvm.Cond.code ({ cls := "TermIdeals$Faces", name := "comes", desc := "(II)V" } : Jvm.MethodName) prog_6_method_4_code (4 : Nat) (Option.none : Option Jvm.ClassFile.FieldType)) ∈ lw_all := lw_g (lw_at lw_m2 139 rfl) rfl
theorem q445 : (Jvm.Cond.methodLink "TermIdeals$Faces" (50 : Nat) ({ cls := "TermIdeals$Faces", name := "level", desc := "(II)I" } : Jvm.MethodName)) ∈ lw_all := lw_g (lw_at lw_m2 140 rfl) rfl
theorem q446 : (Jvm.Cond.privateMethod ({ cls := "TermIdeals$Faces", name := "level", desc := "(II)I" } : Jvm.MethodName)) ∈ lw_tbl := lw_at lw_m2 141 rfl
theorem q447 : (Jvm.Cond.instanceMethod ({ cls := "TermIdeals$Faces", name := "level", desc := "(II)I" } : Jvm.MethodName)) ∈ lw_all := lw_g (lw_at lw_m2 142 rfl) rfl
theorem q448 : (Jvm.Cond.code ({ cls := "TermIdeals$Faces", name := "level", desc := "(II)I" } : Jvm.MethodName) prog_6_method_2_code (5 : Nat) (Option.some Jvm.ClassFile.FieldType.int)) ∈ lw_all := lw_g (lw_at lw_m2 143 rfl) rfl
theorem q449 : (Jvm.Cond.methodLink "TermIdeals$Faces" (43 : Nat) ({ cls := "java/lang/Math", name := "min", desc := "(II)I" } : Jvm.MethodName)) ∈ lw_all := lw_g (lw_at lw_m2 144 rfl) rfl
theorem q452 : (Jvm.Cond.methodLinkNest "TermIdeals$Faces" (60 : Nat) ({ cls := "TermIdeals", name := "divisor", desc := "(JJ)J" } : Jvm.MethodName) "TermIdeals") ∈ lw_tbl := lw_at lw_m2 147 rfl
theorem q455 : (Jvm.Cond.methodLink "TermIdeals$Faces" (64 : Nat) ({ cls := "TermIdeals$Faces", name := "isFace", desc := "(III)Z" } : Jvm.MethodName)) ∈ lw_all := lw_g (lw_at lw_m2 150 rfl) rfl
theorem q456 : (Jvm.Cond.privateMethod ({ cls := "TermIdeals$Faces", name := "isFace", desc := "(III)Z" } : Jvm.MethodName)) ∈ lw_tbl := lw_at lw_m2 151 rfl
theorem q457 : (Jvm.Cond.instanceMethod ({ cls := "TermIdeals$Faces", name := "isFace", desc := "(III)Z" } : Jvm.MethodName)) ∈ lw_all := lw_g (lw_at lw_m2 152 rfl) rfl
theorem q458 : (Jvm.Cond.code ({ cls := "TermIdeals$Faces", name := "isFace", desc := "(III)Z" } : Jvm.MethodName) prog_6_method_3_code (6 : Nat) (Option.some Jvm.ClassFile.FieldType.boolean)) ∈ lw_all := lw_g (lw_at lw_m2 153 rfl) rfl
theorem q464 : (Jvm.Cond.instanceMethod ({ cls := "TermIdeals$Faces", name := "hasInHull", desc := "(II)Z" } : Jvm.MethodName)) ∈ lw_all := lw_g (lw_at lw_m2 159 rfl) rfl
theorem q465 : (Jvm.Cond.selects "TermIdeals$Faces" ({ cls := "TermIdeals$Faces", name := "hasInHull", desc := "(II)Z" } : Jvm.MethodName) ({ cls := "TermIdeals$Faces", name := "hasInHull", desc := "(II)Z" } : Jvm.MethodName)) ∈ lw_all := lw_g (lw_at lw_m2 160 rfl) rfl
theorem q466 : (Jvm.Cond.code ({ cls := "TermIdeals$Faces", name := "hasInHull", desc := "(II)Z" } : Jvm.MethodName) prog_6_method_6_code (4 : Nat) (Option.some Jvm.ClassFile.FieldType.boolean)) ∈ lw_all := lw_g (lw_at lw_m2 161 rfl) rfl
theorem q598 : (Jvm.Cond.instanceMethod ({ cls := "TermIdeals$Faces", name := "isClosed", desc := "()Z" } : Jvm.MethodName)) ∈ lw_all := lw_g (lw_at lw_m3 53 rfl) rfl
theorem q599 : (Jvm.Cond.selects "TermIdeals$Faces" ({ cls := "TermIdeals$Faces", name := "isClosed", desc := "()Z" } : Jvm.MethodName) ({ cls := "TermIdeals$Faces", name := "isClosed", desc := "()Z" } : Jvm.MethodName)) ∈ lw_all := lw_g (lw_at lw_m3 54 rfl) rfl
theorem q600 : (Jvm.Cond.code ({ cls := "TermIdeals$Faces", name := "isClosed", desc := "()Z" } : Jvm.MethodName) prog_6_method_7_code (3 : Nat) (Option.some Jvm.ClassFile.FieldType.boolean)) ∈ lw_all := lw_g (lw_at lw_m3 55 rfl) rfl
theorem q601 : (Jvm.Cond.methodLink "TermIdeals$Faces" (68 : Nat) ({ cls := "TermIdeals$Faces", name := "hasInHull", desc := "(II)Z" } : Jvm.MethodName)) ∈ lw_all := lw_g (lw_at lw_m3 56 rfl) rfl
theorem q602 : (Jvm.Cond.methodLink "TermIdeals$Faces" (72 : Nat) ({ cls := "TermIdeals$Ideal", name := "holds", desc := "(II)Z" } : Jvm.MethodName)) ∈ lw_all := lw_g (lw_at lw_m3 57 rfl) rfl
theorem q607 : (Jvm.Cond.instanceMethod ({ cls := "TermIdeals$Faces", name := "lists", desc := "()I" } : Jvm.MethodName)) ∈ lw_all := lw_g (lw_at lw_m3 62 rfl) rfl
theorem q608 : (Jvm.Cond.selects "TermIdeals$Faces" ({ cls := "TermIdeals$Faces", name := "lists", desc := "()I" } : Jvm.MethodName) ({ cls := "TermIdeals$Faces", name := "lists", desc := "()I" } : Jvm.MethodName)) ∈ lw_all := lw_g (lw_at lw_m3 63 rfl) rfl
theorem q609 : (Jvm.Cond.code ({ cls := "TermIdeals$Faces", name := "lists", desc := "()I" } : Jvm.MethodName) prog_6_method_16_code (2 : Nat) (Option.some Jvm.ClassFile.FieldType.int)) ∈ lw_all := lw_g (lw_at lw_m3 64 rfl) rfl
theorem q610 : (Jvm.Cond.methodLink "TermIdeals$Faces" (112 : Nat) ({ cls := "TermIdeals$Faces", name := "jumps", desc := "(II)Z" } : Jvm.MethodName)) ∈ lw_all := lw_g (lw_at lw_m3 65 rfl) rfl
theorem q611 : (Jvm.Cond.instanceMethod ({ cls := "TermIdeals$Faces", name := "jumps", desc := "(II)Z" } : Jvm.MethodName)) ∈ lw_all := lw_g (lw_at lw_m3 66 rfl) rfl
theorem q612 : (Jvm.Cond.selects "TermIdeals$Faces" ({ cls := "TermIdeals$Faces", name := "jumps", desc := "(II)Z" } : Jvm.MethodName) ({ cls := "TermIdeals$Faces", name := "jumps", desc := "(II)Z" } : Jvm.MethodName)) ∈ lw_all := lw_g (lw_at lw_m3 67 rfl) rfl
theorem q613 : (Jvm.Cond.code ({ cls := "TermIdeals$Faces", name := "jumps", desc := "(II)Z" } : Jvm.MethodName) prog_6_method_14_code (5 : Nat) (Option.some Jvm.ClassFile.FieldType.boolean)) ∈ lw_all := lw_g (lw_at lw_m3 68 rfl) rfl
theorem q614 : (Jvm.Cond.methodLink "TermIdeals$Faces" (75 : Nat) ({ cls := "TermIdeals$Faces", name := "weight", desc := "(III)I" } : Jvm.MethodName)) ∈ lw_all := lw_g (lw_at lw_m3 69 rfl) rfl
theorem q615 : (Jvm.Cond.privateMethod ({ cls := "TermIdeals$Faces", name := "weight", desc := "(III)I" } : Jvm.MethodName)) ∈ lw_tbl := lw_at lw_m3 70 rfl
theorem q616 : (Jvm.Cond.instanceMethod ({ cls := "TermIdeals$Faces", name := "weight", desc := "(III)I" } : Jvm.MethodName)) ∈ lw_all := lw_g (lw_at lw_m3 71 rfl) rfl
theorem q617 : (Jvm.Cond.code ({ cls := "TermIdeals$Faces", name := "weight", desc := "(III)I" } : Jvm.MethodName) prog_6_method_8_code (4 : Nat) (Option.some Jvm.ClassFile.FieldType.int)) ∈ lw_all := lw_g (lw_at lw_m3 72 rfl) rfl
theorem q618 : (Jvm.Cond.methodLink "TermIdeals$Faces" (115 : Nat) ({ cls := "TermIdeals$Faces", name := "notes", desc := "()V" } : Jvm.MethodName)) ∈ lw_all := lw_g (lw_at lw_m3 73 rfl) rfl
theorem q619 : (Jvm.Cond.privateMethod ({ cls := "TermIdeals$Faces", name := "notes", desc := "()V" } : Jvm.MethodName)) ∈ lw_tbl := lw_at lw_m3 74 rfl
theorem q620 : (Jvm.Cond.instanceMethod ({ cls := "TermIdeals$Faces", name := "notes", desc := "()V" } : Jvm.MethodName)) ∈ lw_all := lw_g (lw_at lw_m3 75 rfl) rfl
theorem q621 : (Jvm.Cond.code ({ cls := "TermIdeals$Faces", name := "notes", desc := "()V" } : Jvm.MethodName) prog_6_method_15_code (3 : Nat) (Option.none : Option Jvm.ClassFile.FieldType)) ∈ lw_all := lw_g (lw_at lw_m3 76 rfl) rfl
theorem q644 : (Jvm.Cond.instanceMethod ({ cls := "TermIdeals$Faces", name := "bars", desc := "(IIII)V" } : Jvm.MethodName)) ∈ lw_all := lw_g (lw_at lw_m3 99 rfl) rfl
theorem q645 : (Jvm.Cond.selects "TermIdeals$Faces" ({ cls := "TermIdeals$Faces", name := "bars", desc := "(IIII)V" } : Jvm.MethodName) ({ cls := "TermIdeals$Faces", name := "bars", desc := "(IIII)V" } : Jvm.MethodName)) ∈ lw_all := lw_g (lw_at lw_m3 100 rfl) rfl
theorem q646 : (Jvm.Cond.code ({ cls := "TermIdeals$Faces", name := "bars", desc := "(IIII)V" } : Jvm.MethodName) prog_6_method_11_code (6 : Nat) (Option.none : Option Jvm.ClassFile.FieldType)) ∈ lw_all := lw_g (lw_at lw_m3 101 rfl) rfl
theorem q647 : (Jvm.Cond.methodLink "TermIdeals$Faces" (97 : Nat) ({ cls := "TermIdeals$Faces", name := "asks", desc := "(IIIII)V" } : Jvm.MethodName)) ∈ lw_all := lw_g (lw_at lw_m3 102 rfl) rfl
theorem q648 : (Jvm.Cond.privateMethod ({ cls := "TermIdeals$Faces", name := "asks", desc := "(IIIII)V" } : Jvm.MethodName)) ∈ lw_tbl := lw_at lw_m3 103 rfl
theorem q649 : (Jvm.Cond.instanceMethod ({ cls := "TermIdeals$Faces", name := "asks", desc := "(IIIII)V" } : Jvm.MethodName)) ∈ lw_all := lw_g (lw_at lw_m3 104 rfl) rfl
theorem q650 : (Jvm.Cond.codeWith ({ cls := "TermIdeals$Faces", name := "asks", desc := "(IIIII)V" } : Jvm.MethodName) prog_6_method_10_code (7 : Nat) (Option.none : Option Jvm.ClassFile.FieldType) [((0 : Nat), (11 : Nat), (14 : Nat), (79 : Nat))]) ∈ lw_all := lw_g (lw_at lw_m3 105 rfl) rfl
theorem q651 : (Jvm.Cond.classLink "TermIdeals$Faces" (79 : Nat) "TermIdeals$Light") ∈ lw_all := lw_g (lw_at lw_m3 106 rfl) rfl
theorem q652 : (Jvm.Cond.methodLink "TermIdeals$Faces" (90 : Nat) ({ cls := "TermIdeals$Faces", name := "weighs", desc := "(IIIII)V" } : Jvm.MethodName)) ∈ lw_all := lw_g (lw_at lw_m3 107 rfl) rfl
theorem q653 : (Jvm.Cond.privateMethod ({ cls := "TermIdeals$Faces", name := "weighs", desc := "(IIIII)V" } : Jvm.MethodName)) ∈ lw_tbl := lw_at lw_m3 108 rfl
theorem q654 : (Jvm.Cond.instanceMethod ({ cls := "TermIdeals$Faces", name := "weighs", desc := "(IIIII)V" } : Jvm.MethodName)) ∈ lw_all := lw_g (lw_at lw_m3 109 rfl) rfl
theorem q655 : (Jvm.Cond.code ({ cls := "TermIdeals$Faces", name := "weighs", desc := "(IIIII)V" } : Jvm.MethodName) prog_6_method_9_code (7 : Nat) (Option.none : Option Jvm.ClassFile.FieldType)) ∈ lw_all := lw_g (lw_at lw_m3 110 rfl) rfl
theorem q664 : (Jvm.Cond.classLink "TermIdeals$Faces" (81 : Nat) "TermIdeals$Reason") ∈ lw_all := lw_g (lw_at lw_m3 119 rfl) rfl
theorem q673 : (Jvm.Cond.methodLink "TermIdeals$Faces" (83 : Nat) ({ cls := "TermIdeals$Reason", name := "<init>", desc := "(I)V" } : Jvm.MethodName)) ∈ lw_all := lw_g (lw_at lw_m3 128 rfl) rfl
theorem q682 : (Jvm.Cond.methodLink "TermIdeals$Faces" (86 : Nat) ({ cls := "TermIdeals$Reason", name := "<init>", desc := "(ILTermIdeals$Reason;)V" } : Jvm.MethodName)) ∈ lw_all := lw_g (lw_at lw_m3 137 rfl) rfl
theorem q691 : (Jvm.Cond.methodLink "TermIdeals$Faces" (89 : Nat) ({ cls := "TermIdeals$Light", name := "<init>", desc := "(ILTermIdeals$Reason;)V" } : Jvm.MethodName)) ∈ lw_all := lw_g (lw_at lw_m3 146 rfl) rfl
theorem q698 : (Jvm.Cond.classLink "TermIdeals$Faces" (94 : Nat) "TermIdeals$Barred") ∈ lw_all := lw_g (lw_at lw_m3 153 rfl) rfl
theorem q707 : (Jvm.Cond.methodLink "TermIdeals$Faces" (96 : Nat) ({ cls := "TermIdeals$Barred", name := "<init>", desc := "(ILTermIdeals$Reason;)V" } : Jvm.MethodName)) ∈ lw_all := lw_g (lw_at lw_m3 162 rfl) rfl
theorem q763 : (Jvm.Cond.instanceMethod ({ cls := "TermIdeals$Faces", name := "lacks", desc := "(II)I" } : Jvm.MethodName)) ∈ lw_all := lw_g (lw_at lw_m3 218 rfl) rfl
theorem q764 : (Jvm.Cond.selects "TermIdeals$Faces" ({ cls := "TermIdeals$Faces", name := "lacks", desc := "(II)I" } : Jvm.MethodName) ({ cls := "TermIdeals$Faces", name := "lacks", desc := "(II)I" } : Jvm.MethodName)) ∈ lw_all := lw_g (lw_at lw_m3 219 rfl) rfl
theorem q765 : (Jvm.Cond.code ({ cls := "TermIdeals$Faces", name := "lacks", desc := "(II)I" } : Jvm.MethodName) prog_6_method_13_code (5 : Nat) (Option.some Jvm.ClassFile.FieldType.int)) ∈ lw_all := lw_g (lw_at lw_m3 220 rfl) rfl
theorem q766 : (Jvm.Cond.methodLink "TermIdeals$Faces" (100 : Nat) ({ cls := "TermIdeals$Faces", name := "holds", desc := "(IIII)Z" } : Jvm.MethodName)) ∈ lw_all := lw_g (lw_at lw_m3 221 rfl) rfl
theorem q767 : (Jvm.Cond.instanceMethod ({ cls := "TermIdeals$Faces", name := "holds", desc := "(IIII)Z" } : Jvm.MethodName)) ∈ lw_all := lw_g (lw_at lw_m3 222 rfl) rfl
theorem q768 : (Jvm.Cond.selects "TermIdeals$Faces" ({ cls := "TermIdeals$Faces", name := "holds", desc := "(IIII)Z" } : Jvm.MethodName) ({ cls := "TermIdeals$Faces", name := "holds", desc := "(IIII)Z" } : Jvm.MethodName)) ∈ lw_all := lw_g (lw_at lw_m3 223 rfl) rfl
theorem q769 : (Jvm.Cond.code ({ cls := "TermIdeals$Faces", name := "holds", desc := "(IIII)Z" } : Jvm.MethodName) prog_6_method_12_code (6 : Nat) (Option.some Jvm.ClassFile.FieldType.boolean)) ∈ lw_all := lw_g (lw_at lw_m3 224 rfl) rfl
theorem in_X2 : ∀ w ∈ wsX20, w ∈ lw_all := lw_in wsX20 [150, 152, 154, 156, 158, 160, 162, 164, 166, 168] (by decide +kernel) (by decide +kernel)
/-! TermIdeals$Deeds -/
set_option maxRecDepth 100000
def RX3 : String := "TermIdeals$Deeds"
def TX3 : u_T := fun k => match k with
  | 0 => ("TermIdeals$Deeds", "were", "[LTermIdeals$Ideal;", true)
  | 1 => ("TermIdeals$Deeds", "which", "[I", true)
  | _ => ("TermIdeals$Deeds", "many", "I", false)
def tyX3 : Nat → FieldType := fun k => match k with
  | 0 => .array (.object "TermIdeals$Ideal")
  | 1 => .array .int
  | _ => .int
abbrev wsX30 : List Cond := u_ws RX3 TX3 3
theorem nmX3 : ∀ a, a < 3 → ∀ b, b < 3 → a ≠ b → (TX3 a).2.1 ≠ (TX3 b).2.1 := by decide +kernel
theorem tyX3_ok : ∀ k, k < 3 → parseFieldDescriptor (TX3 k).2.2.1 = some (tyX3 k) := by decide +kernel
abbrev cX3_init : ByteArray := prog_4_method_1_code
def yX3_init : MethodName := ⟨RX3, "<init>", "()V"⟩
def dkwX3_init_2 : List UInt8 := [177]
abbrev dktX3_init_2 : List UInt8 := dkwX3_init_2 ++ []
def dkwX3_init_1 : List UInt8 := [16, 10, 162, 0, 22, 42, 180, 0, 11, 27, 187, 0, 9, 89, 183, 0, 21, 83, 132, 1, 1, 167, 255, 234]
abbrev dktX3_init_1 : List UInt8 := dkwX3_init_1 ++ dktX3_init_2
def dkwX3_init_0 : List UInt8 := [42, 183, 0, 3, 42, 16, 10, 189, 0, 9, 181, 0, 11, 42, 16, 10, 188, 10, 181, 0, 17, 3, 60, 27]
abbrev dktX3_init_0 : List UInt8 := dkwX3_init_0 ++ dktX3_init_1
theorem dksX3_init_0 : cX3_init.data.toList.drop 0 = dktX3_init_0 := by decide +kernel
theorem dksX3_init_1 : cX3_init.data.toList.drop 24 = dktX3_init_1 := dk_seg dksX3_init_0 24 rfl rfl
theorem dksX3_init_2 : cX3_init.data.toList.drop 48 = dktX3_init_2 := dk_seg dksX3_init_1 24 rfl rfl
theorem dX3_init_0 : decode cX3_init 0 = .ok (.aload_n 0, 1) := dk_42 (dk_at dksX3_init_0 0 rfl rfl)
theorem dX3_init_1 : decode cX3_init 1 = .ok (.invokespecial 3, 3) := dk_183 0 3 (dk_at dksX3_init_0 1 rfl rfl)
theorem dX3_init_4 : decode cX3_init 4 = .ok (.aload_n 0, 1) := dk_42 (dk_at dksX3_init_0 4 rfl rfl)
theorem dX3_init_5 : decode cX3_init 5 = .ok (.bipush 10, 2) := dk_16 10 (dk_at dksX3_init_0 5 rfl rfl)
theorem dX3_init_7 : decode cX3_init 7 = .ok (.anewarray 9, 3) := dk_189 0 9 (dk_at dksX3_init_0 7 rfl rfl)
theorem dX3_init_10 : decode cX3_init 10 = .ok (.putfield 11, 3) := dk_181 0 11 (dk_at dksX3_init_0 10 rfl rfl)
theorem dX3_init_13 : decode cX3_init 13 = .ok (.aload_n 0, 1) := dk_42 (dk_at dksX3_init_0 13 rfl rfl)
theorem dX3_init_14 : decode cX3_init 14 = .ok (.bipush 10, 2) := dk_16 10 (dk_at dksX3_init_0 14 rfl rfl)
theorem dX3_init_16 : decode cX3_init 16 = .ok (.newarray .int, 2) := dk_188_10 (dk_at dksX3_init_0 16 rfl rfl)
theorem dX3_init_18 : decode cX3_init 18 = .ok (.putfield 17, 3) := dk_181 0 17 (dk_at dksX3_init_0 18 rfl rfl)
theorem dX3_init_21 : decode cX3_init 21 = .ok (.iconst 0, 1) := dk_3 (dk_at dksX3_init_0 21 rfl rfl)
theorem dX3_init_22 : decode cX3_init 22 = .ok (.istore_n 1, 1) := dk_60 (dk_at dksX3_init_0 22 rfl rfl)
theorem dX3_init_23 : decode cX3_init 23 = .ok (.iload_n 1, 1) := dk_27 (dk_at dksX3_init_0 23 rfl rfl)
theorem dX3_init_24 : decode cX3_init 24 = .ok (.bipush 10, 2) := dk_16 10 (dk_at dksX3_init_1 0 rfl rfl)
theorem dX3_init_26 : decode cX3_init 26 = .ok (.if_icmp .ge 22, 3) := dk_162 0 22 (dk_at dksX3_init_1 2 rfl rfl)
theorem dX3_init_29 : decode cX3_init 29 = .ok (.aload_n 0, 1) := dk_42 (dk_at dksX3_init_1 5 rfl rfl)
theorem dX3_init_30 : decode cX3_init 30 = .ok (.getfield 11, 3) := dk_180 0 11 (dk_at dksX3_init_1 6 rfl rfl)
theorem dX3_init_33 : decode cX3_init 33 = .ok (.iload_n 1, 1) := dk_27 (dk_at dksX3_init_1 9 rfl rfl)
theorem dX3_init_34 : decode cX3_init 34 = .ok (.new 9, 3) := dk_187 0 9 (dk_at dksX3_init_1 10 rfl rfl)
theorem dX3_init_37 : decode cX3_init 37 = .ok (.dup, 1) := dk_89 (dk_at dksX3_init_1 13 rfl rfl)
theorem dX3_init_38 : decode cX3_init 38 = .ok (.invokespecial 21, 3) := dk_183 0 21 (dk_at dksX3_init_1 14 rfl rfl)
theorem dX3_init_41 : decode cX3_init 41 = .ok (.aastore, 1) := dk_83 (dk_at dksX3_init_1 17 rfl rfl)
theorem dX3_init_42 : decode cX3_init 42 = .ok (.iinc 1 1, 3) := dk_132 1 1 (dk_at dksX3_init_1 18 rfl rfl)
theorem dX3_init_45 : decode cX3_init 45 = .ok (.goto (-22), 3) := dk_167 255 234 (dk_at dksX3_init_1 21 rfl rfl)
theorem dX3_init_48 : decode cX3_init 48 = .ok (.return_, 1) := dk_177 (dk_at dksX3_init_2 0 rfl rfl)
abbrev cX3_keeps : ByteArray := prog_4_method_2_code
def yX3_keeps : MethodName := ⟨RX3, "keeps", "(ILTermIdeals$Ideal;)V"⟩
def dkwX3_keeps_4 : List UInt8 := [182, 0, 26, 42, 180, 0, 17, 42, 180, 0, 22, 27, 79, 42, 89, 180, 0, 22, 4, 96, 181, 0, 22, 177]
abbrev dktX3_keeps_4 : List UInt8 := dkwX3_keeps_4 ++ []
def dkwX3_keeps_3 : List UInt8 := [45, 83, 42, 89, 180, 0, 22, 4, 100, 181, 0, 22, 42, 180, 0, 11, 42, 180, 0, 22, 50, 44]
abbrev dktX3_keeps_3 : List UInt8 := dkwX3_keeps_3 ++ dktX3_keeps_4
def dkwX3_keeps_2 : List UInt8 := [21, 4, 4, 100, 42, 180, 0, 17, 21, 4, 46, 79, 132, 4, 1, 167, 255, 214, 42, 180, 0, 11, 16, 9]
abbrev dktX3_keeps_2 : List UInt8 := dkwX3_keeps_2 ++ dktX3_keeps_3
def dkwX3_keeps_1 : List UInt8 := [162, 0, 41, 42, 180, 0, 11, 21, 4, 4, 100, 42, 180, 0, 11, 21, 4, 50, 83, 42, 180, 0, 17]
abbrev dktX3_keeps_1 : List UInt8 := dkwX3_keeps_1 ++ dktX3_keeps_2
def dkwX3_keeps_0 : List UInt8 := [42, 180, 0, 22, 16, 10, 160, 0, 76, 42, 180, 0, 11, 3, 50, 78, 4, 54, 4, 21, 4, 16, 10]
abbrev dktX3_keeps_0 : List UInt8 := dkwX3_keeps_0 ++ dktX3_keeps_1
theorem dksX3_keeps_0 : cX3_keeps.data.toList.drop 0 = dktX3_keeps_0 := by decide +kernel
theorem dksX3_keeps_1 : cX3_keeps.data.toList.drop 23 = dktX3_keeps_1 := dk_seg dksX3_keeps_0 23 rfl rfl
theorem dksX3_keeps_2 : cX3_keeps.data.toList.drop 46 = dktX3_keeps_2 := dk_seg dksX3_keeps_1 23 rfl rfl
theorem dksX3_keeps_3 : cX3_keeps.data.toList.drop 70 = dktX3_keeps_3 := dk_seg dksX3_keeps_2 24 rfl rfl
theorem dksX3_keeps_4 : cX3_keeps.data.toList.drop 92 = dktX3_keeps_4 := dk_seg dksX3_keeps_3 22 rfl rfl
theorem dX3_keeps_0 : decode cX3_keeps 0 = .ok (.aload_n 0, 1) := dk_42 (dk_at dksX3_keeps_0 0 rfl rfl)
theorem dX3_keeps_1 : decode cX3_keeps 1 = .ok (.getfield 22, 3) := dk_180 0 22 (dk_at dksX3_keeps_0 1 rfl rfl)
theorem dX3_keeps_4 : decode cX3_keeps 4 = .ok (.bipush 10, 2) := dk_16 10 (dk_at dksX3_keeps_0 4 rfl rfl)
theorem dX3_keeps_6 : decode cX3_keeps 6 = .ok (.if_icmp .ne 76, 3) := dk_160 0 76 (dk_at dksX3_keeps_0 6 rfl rfl)
theorem dX3_keeps_9 : decode cX3_keeps 9 = .ok (.aload_n 0, 1) := dk_42 (dk_at dksX3_keeps_0 9 rfl rfl)
theorem dX3_keeps_10 : decode cX3_keeps 10 = .ok (.getfield 11, 3) := dk_180 0 11 (dk_at dksX3_keeps_0 10 rfl rfl)
theorem dX3_keeps_13 : decode cX3_keeps 13 = .ok (.iconst 0, 1) := dk_3 (dk_at dksX3_keeps_0 13 rfl rfl)
theorem dX3_keeps_14 : decode cX3_keeps 14 = .ok (.aaload, 1) := dk_50 (dk_at dksX3_keeps_0 14 rfl rfl)
theorem dX3_keeps_15 : decode cX3_keeps 15 = .ok (.astore_n 3, 1) := dk_78 (dk_at dksX3_keeps_0 15 rfl rfl)
theorem dX3_keeps_16 : decode cX3_keeps 16 = .ok (.iconst 1, 1) := dk_4 (dk_at dksX3_keeps_0 16 rfl rfl)
theorem dX3_keeps_17 : decode cX3_keeps 17 = .ok (.istore 4, 2) := dk_54 4 (dk_at dksX3_keeps_0 17 rfl rfl)
theorem dX3_keeps_19 : decode cX3_keeps 19 = .ok (.iload 4, 2) := dk_21 4 (dk_at dksX3_keeps_0 19 rfl rfl)
theorem dX3_keeps_21 : decode cX3_keeps 21 = .ok (.bipush 10, 2) := dk_16 10 (dk_at dksX3_keeps_0 21 rfl rfl)
theorem dX3_keeps_23 : decode cX3_keeps 23 = .ok (.if_icmp .ge 41, 3) := dk_162 0 41 (dk_at dksX3_keeps_1 0 rfl rfl)
theorem dX3_keeps_26 : decode cX3_keeps 26 = .ok (.aload_n 0, 1) := dk_42 (dk_at dksX3_keeps_1 3 rfl rfl)
theorem dX3_keeps_27 : decode cX3_keeps 27 = .ok (.getfield 11, 3) := dk_180 0 11 (dk_at dksX3_keeps_1 4 rfl rfl)
theorem dX3_keeps_30 : decode cX3_keeps 30 = .ok (.iload 4, 2) := dk_21 4 (dk_at dksX3_keeps_1 7 rfl rfl)
theorem dX3_keeps_32 : decode cX3_keeps 32 = .ok (.iconst 1, 1) := dk_4 (dk_at dksX3_keeps_1 9 rfl rfl)
theorem dX3_keeps_33 : decode cX3_keeps 33 = .ok (.isub, 1) := dk_100 (dk_at dksX3_keeps_1 10 rfl rfl)
theorem dX3_keeps_34 : decode cX3_keeps 34 = .ok (.aload_n 0, 1) := dk_42 (dk_at dksX3_keeps_1 11 rfl rfl)
theorem dX3_keeps_35 : decode cX3_keeps 35 = .ok (.getfield 11, 3) := dk_180 0 11 (dk_at dksX3_keeps_1 12 rfl rfl)
theorem dX3_keeps_38 : decode cX3_keeps 38 = .ok (.iload 4, 2) := dk_21 4 (dk_at dksX3_keeps_1 15 rfl rfl)
theorem dX3_keeps_40 : decode cX3_keeps 40 = .ok (.aaload, 1) := dk_50 (dk_at dksX3_keeps_1 17 rfl rfl)
theorem dX3_keeps_41 : decode cX3_keeps 41 = .ok (.aastore, 1) := dk_83 (dk_at dksX3_keeps_1 18 rfl rfl)
theorem dX3_keeps_42 : decode cX3_keeps 42 = .ok (.aload_n 0, 1) := dk_42 (dk_at dksX3_keeps_1 19 rfl rfl)
theorem dX3_keeps_43 : decode cX3_keeps 43 = .ok (.getfield 17, 3) := dk_180 0 17 (dk_at dksX3_keeps_1 20 rfl rfl)
theorem dX3_keeps_46 : decode cX3_keeps 46 = .ok (.iload 4, 2) := dk_21 4 (dk_at dksX3_keeps_2 0 rfl rfl)
theorem dX3_keeps_48 : decode cX3_keeps 48 = .ok (.iconst 1, 1) := dk_4 (dk_at dksX3_keeps_2 2 rfl rfl)
theorem dX3_keeps_49 : decode cX3_keeps 49 = .ok (.isub, 1) := dk_100 (dk_at dksX3_keeps_2 3 rfl rfl)
theorem dX3_keeps_50 : decode cX3_keeps 50 = .ok (.aload_n 0, 1) := dk_42 (dk_at dksX3_keeps_2 4 rfl rfl)
theorem dX3_keeps_51 : decode cX3_keeps 51 = .ok (.getfield 17, 3) := dk_180 0 17 (dk_at dksX3_keeps_2 5 rfl rfl)
theorem dX3_keeps_54 : decode cX3_keeps 54 = .ok (.iload 4, 2) := dk_21 4 (dk_at dksX3_keeps_2 8 rfl rfl)
theorem dX3_keeps_56 : decode cX3_keeps 56 = .ok (.iaload, 1) := dk_46 (dk_at dksX3_keeps_2 10 rfl rfl)
theorem dX3_keeps_57 : decode cX3_keeps 57 = .ok (.iastore, 1) := dk_79 (dk_at dksX3_keeps_2 11 rfl rfl)
theorem dX3_keeps_58 : decode cX3_keeps 58 = .ok (.iinc 4 1, 3) := dk_132 4 1 (dk_at dksX3_keeps_2 12 rfl rfl)
theorem dX3_keeps_61 : decode cX3_keeps 61 = .ok (.goto (-42), 3) := dk_167 255 214 (dk_at dksX3_keeps_2 15 rfl rfl)
theorem dX3_keeps_64 : decode cX3_keeps 64 = .ok (.aload_n 0, 1) := dk_42 (dk_at dksX3_keeps_2 18 rfl rfl)
theorem dX3_keeps_65 : decode cX3_keeps 65 = .ok (.getfield 11, 3) := dk_180 0 11 (dk_at dksX3_keeps_2 19 rfl rfl)
theorem dX3_keeps_68 : decode cX3_keeps 68 = .ok (.bipush 9, 2) := dk_16 9 (dk_at dksX3_keeps_2 22 rfl rfl)
theorem dX3_keeps_70 : decode cX3_keeps 70 = .ok (.aload_n 3, 1) := dk_45 (dk_at dksX3_keeps_3 0 rfl rfl)
theorem dX3_keeps_71 : decode cX3_keeps 71 = .ok (.aastore, 1) := dk_83 (dk_at dksX3_keeps_3 1 rfl rfl)
theorem dX3_keeps_72 : decode cX3_keeps 72 = .ok (.aload_n 0, 1) := dk_42 (dk_at dksX3_keeps_3 2 rfl rfl)
theorem dX3_keeps_73 : decode cX3_keeps 73 = .ok (.dup, 1) := dk_89 (dk_at dksX3_keeps_3 3 rfl rfl)
theorem dX3_keeps_74 : decode cX3_keeps 74 = .ok (.getfield 22, 3) := dk_180 0 22 (dk_at dksX3_keeps_3 4 rfl rfl)
theorem dX3_keeps_77 : decode cX3_keeps 77 = .ok (.iconst 1, 1) := dk_4 (dk_at dksX3_keeps_3 7 rfl rfl)
theorem dX3_keeps_78 : decode cX3_keeps 78 = .ok (.isub, 1) := dk_100 (dk_at dksX3_keeps_3 8 rfl rfl)
theorem dX3_keeps_79 : decode cX3_keeps 79 = .ok (.putfield 22, 3) := dk_181 0 22 (dk_at dksX3_keeps_3 9 rfl rfl)
theorem dX3_keeps_82 : decode cX3_keeps 82 = .ok (.aload_n 0, 1) := dk_42 (dk_at dksX3_keeps_3 12 rfl rfl)
theorem dX3_keeps_83 : decode cX3_keeps 83 = .ok (.getfield 11, 3) := dk_180 0 11 (dk_at dksX3_keeps_3 13 rfl rfl)
theorem dX3_keeps_86 : decode cX3_keeps 86 = .ok (.aload_n 0, 1) := dk_42 (dk_at dksX3_keeps_3 16 rfl rfl)
theorem dX3_keeps_87 : decode cX3_keeps 87 = .ok (.getfield 22, 3) := dk_180 0 22 (dk_at dksX3_keeps_3 17 rfl rfl)
theorem dX3_keeps_90 : decode cX3_keeps 90 = .ok (.aaload, 1) := dk_50 (dk_at dksX3_keeps_3 20 rfl rfl)
theorem dX3_keeps_91 : decode cX3_keeps 91 = .ok (.aload_n 2, 1) := dk_44 (dk_at dksX3_keeps_3 21 rfl rfl)
theorem dX3_keeps_92 : decode cX3_keeps 92 = .ok (.invokevirtual 26, 3) := dk_182 0 26 (dk_at dksX3_keeps_4 0 rfl rfl)
theorem dX3_keeps_95 : decode cX3_keeps 95 = .ok (.aload_n 0, 1) := dk_42 (dk_at dksX3_keeps_4 3 rfl rfl)
theorem dX3_keeps_96 : decode cX3_keeps 96 = .ok (.getfield 17, 3) := dk_180 0 17 (dk_at dksX3_keeps_4 4 rfl rfl)
theorem dX3_keeps_99 : decode cX3_keeps 99 = .ok (.aload_n 0, 1) := dk_42 (dk_at dksX3_keeps_4 7 rfl rfl)
theorem dX3_keeps_100 : decode cX3_keeps 100 = .ok (.getfield 22, 3) := dk_180 0 22 (dk_at dksX3_keeps_4 8 rfl rfl)
theorem dX3_keeps_103 : decode cX3_keeps 103 = .ok (.iload_n 1, 1) := dk_27 (dk_at dksX3_keeps_4 11 rfl rfl)
theorem dX3_keeps_104 : decode cX3_keeps 104 = .ok (.iastore, 1) := dk_79 (dk_at dksX3_keeps_4 12 rfl rfl)
theorem dX3_keeps_105 : decode cX3_keeps 105 = .ok (.aload_n 0, 1) := dk_42 (dk_at dksX3_keeps_4 13 rfl rfl)
theorem dX3_keeps_106 : decode cX3_keeps 106 = .ok (.dup, 1) := dk_89 (dk_at dksX3_keeps_4 14 rfl rfl)
theorem dX3_keeps_107 : decode cX3_keeps 107 = .ok (.getfield 22, 3) := dk_180 0 22 (dk_at dksX3_keeps_4 15 rfl rfl)
theorem dX3_keeps_110 : decode cX3_keeps 110 = .ok (.iconst 1, 1) := dk_4 (dk_at dksX3_keeps_4 18 rfl rfl)
theorem dX3_keeps_111 : decode cX3_keeps 111 = .ok (.iadd, 1) := dk_96 (dk_at dksX3_keeps_4 19 rfl rfl)
theorem dX3_keeps_112 : decode cX3_keeps 112 = .ok (.putfield 22, 3) := dk_181 0 22 (dk_at dksX3_keeps_4 20 rfl rfl)
theorem dX3_keeps_115 : decode cX3_keeps 115 = .ok (.return_, 1) := dk_177 (dk_at dksX3_keeps_4 23 rfl rfl)
abbrev cX3_back : ByteArray := prog_4_method_3_code
def yX3_back : MethodName := ⟨RX3, "back", "([LTermIdeals$Ideal;)V"⟩
def dkwX3_back_1 : List UInt8 := [180, 0, 11, 42, 180, 0, 22, 50, 182, 0, 26, 177]
abbrev dktX3_back_1 : List UInt8 := dkwX3_back_1 ++ []
def dkwX3_back_0 : List UInt8 := [42, 89, 180, 0, 22, 4, 100, 181, 0, 22, 43, 42, 180, 0, 17, 42, 180, 0, 22, 46, 50, 42]
abbrev dktX3_back_0 : List UInt8 := dkwX3_back_0 ++ dktX3_back_1
theorem dksX3_back_0 : cX3_back.data.toList.drop 0 = dktX3_back_0 := by decide +kernel
theorem dksX3_back_1 : cX3_back.data.toList.drop 22 = dktX3_back_1 := dk_seg dksX3_back_0 22 rfl rfl
theorem dX3_back_0 : decode cX3_back 0 = .ok (.aload_n 0, 1) := dk_42 (dk_at dksX3_back_0 0 rfl rfl)
theorem dX3_back_1 : decode cX3_back 1 = .ok (.dup, 1) := dk_89 (dk_at dksX3_back_0 1 rfl rfl)
theorem dX3_back_2 : decode cX3_back 2 = .ok (.getfield 22, 3) := dk_180 0 22 (dk_at dksX3_back_0 2 rfl rfl)
theorem dX3_back_5 : decode cX3_back 5 = .ok (.iconst 1, 1) := dk_4 (dk_at dksX3_back_0 5 rfl rfl)
theorem dX3_back_6 : decode cX3_back 6 = .ok (.isub, 1) := dk_100 (dk_at dksX3_back_0 6 rfl rfl)
theorem dX3_back_7 : decode cX3_back 7 = .ok (.putfield 22, 3) := dk_181 0 22 (dk_at dksX3_back_0 7 rfl rfl)
theorem dX3_back_10 : decode cX3_back 10 = .ok (.aload_n 1, 1) := dk_43 (dk_at dksX3_back_0 10 rfl rfl)
theorem dX3_back_11 : decode cX3_back 11 = .ok (.aload_n 0, 1) := dk_42 (dk_at dksX3_back_0 11 rfl rfl)
theorem dX3_back_12 : decode cX3_back 12 = .ok (.getfield 17, 3) := dk_180 0 17 (dk_at dksX3_back_0 12 rfl rfl)
theorem dX3_back_15 : decode cX3_back 15 = .ok (.aload_n 0, 1) := dk_42 (dk_at dksX3_back_0 15 rfl rfl)
theorem dX3_back_16 : decode cX3_back 16 = .ok (.getfield 22, 3) := dk_180 0 22 (dk_at dksX3_back_0 16 rfl rfl)
theorem dX3_back_19 : decode cX3_back 19 = .ok (.iaload, 1) := dk_46 (dk_at dksX3_back_0 19 rfl rfl)
theorem dX3_back_20 : decode cX3_back 20 = .ok (.aaload, 1) := dk_50 (dk_at dksX3_back_0 20 rfl rfl)
theorem dX3_back_21 : decode cX3_back 21 = .ok (.aload_n 0, 1) := dk_42 (dk_at dksX3_back_0 21 rfl rfl)
theorem dX3_back_22 : decode cX3_back 22 = .ok (.getfield 11, 3) := dk_180 0 11 (dk_at dksX3_back_1 0 rfl rfl)
theorem dX3_back_25 : decode cX3_back 25 = .ok (.aload_n 0, 1) := dk_42 (dk_at dksX3_back_1 3 rfl rfl)
theorem dX3_back_26 : decode cX3_back 26 = .ok (.getfield 22, 3) := dk_180 0 22 (dk_at dksX3_back_1 4 rfl rfl)
theorem dX3_back_29 : decode cX3_back 29 = .ok (.aaload, 1) := dk_50 (dk_at dksX3_back_1 7 rfl rfl)
theorem dX3_back_30 : decode cX3_back 30 = .ok (.invokevirtual 26, 3) := dk_182 0 26 (dk_at dksX3_back_1 8 rfl rfl)
theorem dX3_back_33 : decode cX3_back 33 = .ok (.return_, 1) := dk_177 (dk_at dksX3_back_1 11 rfl rfl)
theorem q69 : (Jvm.Cond.initialized "TermIdeals$Deeds") ∈ lw_all := lw_g (lw_at lw_m1 4 rfl) rfl
theorem q172 : (Jvm.Cond.instantiable "TermIdeals$Deeds" (3 : Nat)) ∈ lw_all := lw_g (lw_at lw_m1 107 rfl) rfl
theorem q174 : (Jvm.Cond.instanceMethod ({ cls := "TermIdeals$Deeds", name := "<init>", desc := "()V" } : Jvm.MethodName)) ∈ lw_all := lw_g (lw_at lw_m1 109 rfl) rfl
theorem q175 : (Jvm.Cond.code ({ cls := "TermIdeals$Deeds", name := "<init>", desc := "()V" } : Jvm.MethodName) prog_4_method_1_code (2 : Nat) (Option.none : Option Jvm.ClassFile.FieldType)) ∈ lw_all := lw_g (lw_at lw_m1 110 rfl) rfl
theorem q176 : (Jvm.Cond.methodLink "TermIdeals$Deeds" (3 : Nat) ({ cls := "java/lang/Object", name := "<init>", desc := "()V" } : Jvm.MethodName)) ∈ lw_all := lw_g (lw_at lw_m1 111 rfl) rfl
theorem q177 : (Jvm.Cond.classLink "TermIdeals$Deeds" (9 : Nat) "TermIdeals$Ideal") ∈ lw_all := lw_g (lw_at lw_m1 112 rfl) rfl
theorem q178 : (Jvm.Cond.methodLinkNest "TermIdeals$Deeds" (21 : Nat) ({ cls := "TermIdeals$Ideal", name := "<init>", desc := "()V" } : Jvm.MethodName) "TermIdeals") ∈ lw_tbl := lw_at lw_m1 113 rfl
theorem q179 : (Jvm.Cond.fieldLink "TermIdeals$Deeds" (11 : Nat) "TermIdeals$Deeds" "were" "[LTermIdeals$Ideal;") ∈ lw_all := lw_g (lw_at lw_m1 114 rfl) rfl
theorem q180 : (Jvm.Cond.fieldLink "TermIdeals$Deeds" (17 : Nat) "TermIdeals$Deeds" "which" "[I") ∈ lw_all := lw_g (lw_at lw_m1 115 rfl) rfl
theorem q181 : (Jvm.Cond.fieldLink "TermIdeals$Deeds" (22 : Nat) "TermIdeals$Deeds" "many" "I") ∈ lw_all := lw_g (lw_at lw_m1 116 rfl) rfl
theorem q183 : (Jvm.Cond.laysFinal "TermIdeals$Deeds" "TermIdeals$Deeds" "were" "[LTermIdeals$Ideal;") ∈ lw_all := lw_g (lw_at lw_m1 118 rfl) rfl
theorem q184 : (Jvm.Cond.soleField "TermIdeals$Deeds" "were") ∈ lw_all := lw_g (lw_at lw_m1 119 rfl) rfl
theorem q185 : (Jvm.Cond.laysFinal "TermIdeals$Deeds" "TermIdeals$Deeds" "which" "[I") ∈ lw_all := lw_g (lw_at lw_m1 120 rfl) rfl
theorem q186 : (Jvm.Cond.soleField "TermIdeals$Deeds" "which") ∈ lw_all := lw_g (lw_at lw_m1 121 rfl) rfl
theorem q187 : (Jvm.Cond.lays "TermIdeals$Deeds" "TermIdeals$Deeds" "many" "I") ∈ lw_all := lw_g (lw_at lw_m1 122 rfl) rfl
theorem q188 : (Jvm.Cond.soleField "TermIdeals$Deeds" "many") ∈ lw_all := lw_g (lw_at lw_m1 123 rfl) rfl
theorem q189 : (Jvm.Cond.superclass "TermIdeals$Deeds" "java/lang/Object") ∈ lw_all := lw_g (lw_at lw_m1 124 rfl) rfl
theorem q313 : (Jvm.Cond.instanceMethod ({ cls := "TermIdeals$Deeds", name := "keeps", desc := "(ILTermIdeals$Ideal;)V" } : Jvm.MethodName)) ∈ lw_all := lw_g (lw_at lw_m2 8 rfl) rfl
theorem q314 : (Jvm.Cond.selects "TermIdeals$Deeds" ({ cls := "TermIdeals$Deeds", name := "keeps", desc := "(ILTermIdeals$Ideal;)V" } : Jvm.MethodName) ({ cls := "TermIdeals$Deeds", name := "keeps", desc := "(ILTermIdeals$Ideal;)V" } : Jvm.MethodName)) ∈ lw_all := lw_g (lw_at lw_m2 9 rfl) rfl
theorem q315 : (Jvm.Cond.code ({ cls := "TermIdeals$Deeds", name := "keeps", desc := "(ILTermIdeals$Ideal;)V" } : Jvm.MethodName) prog_4_method_2_code (5 : Nat) (Option.none : Option Jvm.ClassFile.FieldType)) ∈ lw_all := lw_g (lw_at lw_m2 10 rfl) rfl
theorem q316 : (Jvm.Cond.methodLink "TermIdeals$Deeds" (26 : Nat) ({ cls := "TermIdeals$Ideal", name := "takes", desc := "(LTermIdeals$Ideal;)V" } : Jvm.MethodName)) ∈ lw_all := lw_g (lw_at lw_m2 11 rfl) rfl
theorem q472 : (Jvm.Cond.instanceMethod ({ cls := "TermIdeals$Deeds", name := "back", desc := "([LTermIdeals$Ideal;)V" } : Jvm.MethodName)) ∈ lw_all := lw_g (lw_at lw_m2 167 rfl) rfl
theorem q473 : (Jvm.Cond.selects "TermIdeals$Deeds" ({ cls := "TermIdeals$Deeds", name := "back", desc := "([LTermIdeals$Ideal;)V" } : Jvm.MethodName) ({ cls := "TermIdeals$Deeds", name := "back", desc := "([LTermIdeals$Ideal;)V" } : Jvm.MethodName)) ∈ lw_all := lw_g (lw_at lw_m2 168 rfl) rfl
theorem q474 : (Jvm.Cond.code ({ cls := "TermIdeals$Deeds", name := "back", desc := "([LTermIdeals$Ideal;)V" } : Jvm.MethodName) prog_4_method_3_code (2 : Nat) (Option.none : Option Jvm.ClassFile.FieldType)) ∈ lw_all := lw_g (lw_at lw_m2 169 rfl) rfl
theorem in_X3 : ∀ w ∈ wsX30, w ∈ lw_all := lw_in wsX30 [183, 185, 187] (by decide +kernel) (by decide +kernel)
/-! TermIdeals$Stairs -/
set_option maxRecDepth 100000
def RX4 : String := "TermIdeals$Stairs"
def TX4 : u_T := fun k => match k with
  | _ => ("TermIdeals$Stairs", "at", "[I", true)
def tyX4 : Nat → FieldType := fun k => match k with
  | _ => .array .int
abbrev wsX40 : List Cond := u_ws RX4 TX4 1
theorem nmX4 : ∀ a, a < 1 → ∀ b, b < 1 → a ≠ b → (TX4 a).2.1 ≠ (TX4 b).2.1 := by decide +kernel
theorem tyX4_ok : ∀ k, k < 1 → parseFieldDescriptor (TX4 k).2.2.1 = some (tyX4 k) := by decide +kernel
abbrev cX4_init : ByteArray := prog_14_method_1_code
def yX4_init : MethodName := ⟨RX4, "<init>", "()V"⟩
def dkwX4_init_0 : List UInt8 := [42, 183, 0, 3, 42, 16, 61, 188, 10, 181, 0, 9, 177]
abbrev dktX4_init_0 : List UInt8 := dkwX4_init_0 ++ []
theorem dksX4_init_0 : cX4_init.data.toList.drop 0 = dktX4_init_0 := by decide +kernel
theorem dX4_init_0 : decode cX4_init 0 = .ok (.aload_n 0, 1) := dk_42 (dk_at dksX4_init_0 0 rfl rfl)
theorem dX4_init_1 : decode cX4_init 1 = .ok (.invokespecial 3, 3) := dk_183 0 3 (dk_at dksX4_init_0 1 rfl rfl)
theorem dX4_init_4 : decode cX4_init 4 = .ok (.aload_n 0, 1) := dk_42 (dk_at dksX4_init_0 4 rfl rfl)
theorem dX4_init_5 : decode cX4_init 5 = .ok (.bipush 61, 2) := dk_16 61 (dk_at dksX4_init_0 5 rfl rfl)
theorem dX4_init_7 : decode cX4_init 7 = .ok (.newarray .int, 2) := dk_188_10 (dk_at dksX4_init_0 7 rfl rfl)
theorem dX4_init_9 : decode cX4_init 9 = .ok (.putfield 9, 3) := dk_181 0 9 (dk_at dksX4_init_0 9 rfl rfl)
theorem dX4_init_12 : decode cX4_init 12 = .ok (.return_, 1) := dk_177 (dk_at dksX4_init_0 12 rfl rfl)
abbrev cX4_of : ByteArray := prog_14_method_3_code
def yX4_of : MethodName := ⟨RX4, "of", "(LTermIdeals$Ideal;)LTermIdeals$Stairs;"⟩
def dkwX4_of_1 : List UInt8 := [167, 255, 236, 42, 176]
abbrev dktX4_of_1 : List UInt8 := dkwX4_of_1 ++ []
def dkwX4_of_0 : List UInt8 := [3, 61, 28, 16, 61, 162, 0, 20, 42, 180, 0, 9, 28, 43, 28, 182, 0, 21, 79, 132, 2, 1]
abbrev dktX4_of_0 : List UInt8 := dkwX4_of_0 ++ dktX4_of_1
theorem dksX4_of_0 : cX4_of.data.toList.drop 0 = dktX4_of_0 := by decide +kernel
theorem dksX4_of_1 : cX4_of.data.toList.drop 22 = dktX4_of_1 := dk_seg dksX4_of_0 22 rfl rfl
theorem dX4_of_0 : decode cX4_of 0 = .ok (.iconst 0, 1) := dk_3 (dk_at dksX4_of_0 0 rfl rfl)
theorem dX4_of_1 : decode cX4_of 1 = .ok (.istore_n 2, 1) := dk_61 (dk_at dksX4_of_0 1 rfl rfl)
theorem dX4_of_2 : decode cX4_of 2 = .ok (.iload_n 2, 1) := dk_28 (dk_at dksX4_of_0 2 rfl rfl)
theorem dX4_of_3 : decode cX4_of 3 = .ok (.bipush 61, 2) := dk_16 61 (dk_at dksX4_of_0 3 rfl rfl)
theorem dX4_of_5 : decode cX4_of 5 = .ok (.if_icmp .ge 20, 3) := dk_162 0 20 (dk_at dksX4_of_0 5 rfl rfl)
theorem dX4_of_8 : decode cX4_of 8 = .ok (.aload_n 0, 1) := dk_42 (dk_at dksX4_of_0 8 rfl rfl)
theorem dX4_of_9 : decode cX4_of 9 = .ok (.getfield 9, 3) := dk_180 0 9 (dk_at dksX4_of_0 9 rfl rfl)
theorem dX4_of_12 : decode cX4_of 12 = .ok (.iload_n 2, 1) := dk_28 (dk_at dksX4_of_0 12 rfl rfl)
theorem dX4_of_13 : decode cX4_of 13 = .ok (.aload_n 1, 1) := dk_43 (dk_at dksX4_of_0 13 rfl rfl)
theorem dX4_of_14 : decode cX4_of 14 = .ok (.iload_n 2, 1) := dk_28 (dk_at dksX4_of_0 14 rfl rfl)
theorem dX4_of_15 : decode cX4_of 15 = .ok (.invokevirtual 21, 3) := dk_182 0 21 (dk_at dksX4_of_0 15 rfl rfl)
theorem dX4_of_18 : decode cX4_of 18 = .ok (.iastore, 1) := dk_79 (dk_at dksX4_of_0 18 rfl rfl)
theorem dX4_of_19 : decode cX4_of 19 = .ok (.iinc 2 1, 3) := dk_132 2 1 (dk_at dksX4_of_0 19 rfl rfl)
theorem dX4_of_22 : decode cX4_of 22 = .ok (.goto (-20), 3) := dk_167 255 236 (dk_at dksX4_of_1 0 rfl rfl)
theorem dX4_of_25 : decode cX4_of 25 = .ok (.aload_n 0, 1) := dk_42 (dk_at dksX4_of_1 3 rfl rfl)
theorem dX4_of_26 : decode cX4_of 26 = .ok (.areturn, 1) := dk_176 (dk_at dksX4_of_1 4 rfl rfl)
abbrev cX4_sum : ByteArray := prog_14_method_5_code
def yX4_sum : MethodName := ⟨RX4, "sum", "(LTermIdeals$Stairs;LTermIdeals$Stairs;)V"⟩
def dkwX4_sum_1 : List UInt8 := [46, 184, 0, 27, 79, 132, 3, 1, 167, 255, 226, 177]
abbrev dktX4_sum_1 : List UInt8 := dkwX4_sum_1 ++ []
def dkwX4_sum_0 : List UInt8 := [3, 62, 29, 16, 61, 162, 0, 30, 42, 180, 0, 9, 29, 43, 180, 0, 9, 29, 46, 44, 180, 0, 9, 29]
abbrev dktX4_sum_0 : List UInt8 := dkwX4_sum_0 ++ dktX4_sum_1
theorem dksX4_sum_0 : cX4_sum.data.toList.drop 0 = dktX4_sum_0 := by decide +kernel
theorem dksX4_sum_1 : cX4_sum.data.toList.drop 24 = dktX4_sum_1 := dk_seg dksX4_sum_0 24 rfl rfl
theorem dX4_sum_0 : decode cX4_sum 0 = .ok (.iconst 0, 1) := dk_3 (dk_at dksX4_sum_0 0 rfl rfl)
theorem dX4_sum_1 : decode cX4_sum 1 = .ok (.istore_n 3, 1) := dk_62 (dk_at dksX4_sum_0 1 rfl rfl)
theorem dX4_sum_2 : decode cX4_sum 2 = .ok (.iload_n 3, 1) := dk_29 (dk_at dksX4_sum_0 2 rfl rfl)
theorem dX4_sum_3 : decode cX4_sum 3 = .ok (.bipush 61, 2) := dk_16 61 (dk_at dksX4_sum_0 3 rfl rfl)
theorem dX4_sum_5 : decode cX4_sum 5 = .ok (.if_icmp .ge 30, 3) := dk_162 0 30 (dk_at dksX4_sum_0 5 rfl rfl)
theorem dX4_sum_8 : decode cX4_sum 8 = .ok (.aload_n 0, 1) := dk_42 (dk_at dksX4_sum_0 8 rfl rfl)
theorem dX4_sum_9 : decode cX4_sum 9 = .ok (.getfield 9, 3) := dk_180 0 9 (dk_at dksX4_sum_0 9 rfl rfl)
theorem dX4_sum_12 : decode cX4_sum 12 = .ok (.iload_n 3, 1) := dk_29 (dk_at dksX4_sum_0 12 rfl rfl)
theorem dX4_sum_13 : decode cX4_sum 13 = .ok (.aload_n 1, 1) := dk_43 (dk_at dksX4_sum_0 13 rfl rfl)
theorem dX4_sum_14 : decode cX4_sum 14 = .ok (.getfield 9, 3) := dk_180 0 9 (dk_at dksX4_sum_0 14 rfl rfl)
theorem dX4_sum_17 : decode cX4_sum 17 = .ok (.iload_n 3, 1) := dk_29 (dk_at dksX4_sum_0 17 rfl rfl)
theorem dX4_sum_18 : decode cX4_sum 18 = .ok (.iaload, 1) := dk_46 (dk_at dksX4_sum_0 18 rfl rfl)
theorem dX4_sum_19 : decode cX4_sum 19 = .ok (.aload_n 2, 1) := dk_44 (dk_at dksX4_sum_0 19 rfl rfl)
theorem dX4_sum_20 : decode cX4_sum 20 = .ok (.getfield 9, 3) := dk_180 0 9 (dk_at dksX4_sum_0 20 rfl rfl)
theorem dX4_sum_23 : decode cX4_sum 23 = .ok (.iload_n 3, 1) := dk_29 (dk_at dksX4_sum_0 23 rfl rfl)
theorem dX4_sum_24 : decode cX4_sum 24 = .ok (.iaload, 1) := dk_46 (dk_at dksX4_sum_1 0 rfl rfl)
theorem dX4_sum_25 : decode cX4_sum 25 = .ok (.invokestatic 27, 3) := dk_184 0 27 (dk_at dksX4_sum_1 1 rfl rfl)
theorem dX4_sum_28 : decode cX4_sum 28 = .ok (.iastore, 1) := dk_79 (dk_at dksX4_sum_1 4 rfl rfl)
theorem dX4_sum_29 : decode cX4_sum 29 = .ok (.iinc 3 1, 3) := dk_132 3 1 (dk_at dksX4_sum_1 5 rfl rfl)
theorem dX4_sum_32 : decode cX4_sum 32 = .ok (.goto (-30), 3) := dk_167 255 226 (dk_at dksX4_sum_1 8 rfl rfl)
theorem dX4_sum_35 : decode cX4_sum 35 = .ok (.return_, 1) := dk_177 (dk_at dksX4_sum_1 11 rfl rfl)
abbrev cX4_product : ByteArray := prog_14_method_6_code
def yX4_product : MethodName := ⟨RX4, "product", "(LTermIdeals$Stairs;LTermIdeals$Stairs;)V"⟩
def dkwX4_product_3 : List UInt8 := [167, 255, 191, 177]
abbrev dktX4_product_3 : List UInt8 := dkwX4_product_3 ++ []
def dkwX4_product_2 : List UInt8 := [180, 0, 9, 29, 21, 4, 100, 46, 96, 184, 0, 27, 79, 132, 4, 1, 167, 255, 215, 132, 3, 1]
abbrev dktX4_product_2 : List UInt8 := dkwX4_product_2 ++ dktX4_product_3
def dkwX4_product_1 : List UInt8 := [163, 0, 41, 42, 180, 0, 9, 29, 42, 180, 0, 9, 29, 46, 43, 180, 0, 9, 21, 4, 46, 44]
abbrev dktX4_product_1 : List UInt8 := dkwX4_product_1 ++ dktX4_product_2
def dkwX4_product_0 : List UInt8 := [3, 62, 29, 16, 61, 162, 0, 65, 42, 180, 0, 9, 29, 17, 39, 15, 79, 3, 54, 4, 21, 4, 29]
abbrev dktX4_product_0 : List UInt8 := dkwX4_product_0 ++ dktX4_product_1
theorem dksX4_product_0 : cX4_product.data.toList.drop 0 = dktX4_product_0 := by decide +kernel
theorem dksX4_product_1 : cX4_product.data.toList.drop 23 = dktX4_product_1 := dk_seg dksX4_product_0 23 rfl rfl
theorem dksX4_product_2 : cX4_product.data.toList.drop 45 = dktX4_product_2 := dk_seg dksX4_product_1 22 rfl rfl
theorem dksX4_product_3 : cX4_product.data.toList.drop 67 = dktX4_product_3 := dk_seg dksX4_product_2 22 rfl rfl
theorem dX4_product_0 : decode cX4_product 0 = .ok (.iconst 0, 1) := dk_3 (dk_at dksX4_product_0 0 rfl rfl)
theorem dX4_product_1 : decode cX4_product 1 = .ok (.istore_n 3, 1) := dk_62 (dk_at dksX4_product_0 1 rfl rfl)
theorem dX4_product_2 : decode cX4_product 2 = .ok (.iload_n 3, 1) := dk_29 (dk_at dksX4_product_0 2 rfl rfl)
theorem dX4_product_3 : decode cX4_product 3 = .ok (.bipush 61, 2) := dk_16 61 (dk_at dksX4_product_0 3 rfl rfl)
theorem dX4_product_5 : decode cX4_product 5 = .ok (.if_icmp .ge 65, 3) := dk_162 0 65 (dk_at dksX4_product_0 5 rfl rfl)
theorem dX4_product_8 : decode cX4_product 8 = .ok (.aload_n 0, 1) := dk_42 (dk_at dksX4_product_0 8 rfl rfl)
theorem dX4_product_9 : decode cX4_product 9 = .ok (.getfield 9, 3) := dk_180 0 9 (dk_at dksX4_product_0 9 rfl rfl)
theorem dX4_product_12 : decode cX4_product 12 = .ok (.iload_n 3, 1) := dk_29 (dk_at dksX4_product_0 12 rfl rfl)
theorem dX4_product_13 : decode cX4_product 13 = .ok (.sipush 9999, 3) := dk_17 39 15 (dk_at dksX4_product_0 13 rfl rfl)
theorem dX4_product_16 : decode cX4_product 16 = .ok (.iastore, 1) := dk_79 (dk_at dksX4_product_0 16 rfl rfl)
theorem dX4_product_17 : decode cX4_product 17 = .ok (.iconst 0, 1) := dk_3 (dk_at dksX4_product_0 17 rfl rfl)
theorem dX4_product_18 : decode cX4_product 18 = .ok (.istore 4, 2) := dk_54 4 (dk_at dksX4_product_0 18 rfl rfl)
theorem dX4_product_20 : decode cX4_product 20 = .ok (.iload 4, 2) := dk_21 4 (dk_at dksX4_product_0 20 rfl rfl)
theorem dX4_product_22 : decode cX4_product 22 = .ok (.iload_n 3, 1) := dk_29 (dk_at dksX4_product_0 22 rfl rfl)
theorem dX4_product_23 : decode cX4_product 23 = .ok (.if_icmp .gt 41, 3) := dk_163 0 41 (dk_at dksX4_product_1 0 rfl rfl)
theorem dX4_product_26 : decode cX4_product 26 = .ok (.aload_n 0, 1) := dk_42 (dk_at dksX4_product_1 3 rfl rfl)
theorem dX4_product_27 : decode cX4_product 27 = .ok (.getfield 9, 3) := dk_180 0 9 (dk_at dksX4_product_1 4 rfl rfl)
theorem dX4_product_30 : decode cX4_product 30 = .ok (.iload_n 3, 1) := dk_29 (dk_at dksX4_product_1 7 rfl rfl)
theorem dX4_product_31 : decode cX4_product 31 = .ok (.aload_n 0, 1) := dk_42 (dk_at dksX4_product_1 8 rfl rfl)
theorem dX4_product_32 : decode cX4_product 32 = .ok (.getfield 9, 3) := dk_180 0 9 (dk_at dksX4_product_1 9 rfl rfl)
theorem dX4_product_35 : decode cX4_product 35 = .ok (.iload_n 3, 1) := dk_29 (dk_at dksX4_product_1 12 rfl rfl)
theorem dX4_product_36 : decode cX4_product 36 = .ok (.iaload, 1) := dk_46 (dk_at dksX4_product_1 13 rfl rfl)
theorem dX4_product_37 : decode cX4_product 37 = .ok (.aload_n 1, 1) := dk_43 (dk_at dksX4_product_1 14 rfl rfl)
theorem dX4_product_38 : decode cX4_product 38 = .ok (.getfield 9, 3) := dk_180 0 9 (dk_at dksX4_product_1 15 rfl rfl)
theorem dX4_product_41 : decode cX4_product 41 = .ok (.iload 4, 2) := dk_21 4 (dk_at dksX4_product_1 18 rfl rfl)
theorem dX4_product_43 : decode cX4_product 43 = .ok (.iaload, 1) := dk_46 (dk_at dksX4_product_1 20 rfl rfl)
theorem dX4_product_44 : decode cX4_product 44 = .ok (.aload_n 2, 1) := dk_44 (dk_at dksX4_product_1 21 rfl rfl)
theorem dX4_product_45 : decode cX4_product 45 = .ok (.getfield 9, 3) := dk_180 0 9 (dk_at dksX4_product_2 0 rfl rfl)
theorem dX4_product_48 : decode cX4_product 48 = .ok (.iload_n 3, 1) := dk_29 (dk_at dksX4_product_2 3 rfl rfl)
theorem dX4_product_49 : decode cX4_product 49 = .ok (.iload 4, 2) := dk_21 4 (dk_at dksX4_product_2 4 rfl rfl)
theorem dX4_product_51 : decode cX4_product 51 = .ok (.isub, 1) := dk_100 (dk_at dksX4_product_2 6 rfl rfl)
theorem dX4_product_52 : decode cX4_product 52 = .ok (.iaload, 1) := dk_46 (dk_at dksX4_product_2 7 rfl rfl)
theorem dX4_product_53 : decode cX4_product 53 = .ok (.iadd, 1) := dk_96 (dk_at dksX4_product_2 8 rfl rfl)
theorem dX4_product_54 : decode cX4_product 54 = .ok (.invokestatic 27, 3) := dk_184 0 27 (dk_at dksX4_product_2 9 rfl rfl)
theorem dX4_product_57 : decode cX4_product 57 = .ok (.iastore, 1) := dk_79 (dk_at dksX4_product_2 12 rfl rfl)
theorem dX4_product_58 : decode cX4_product 58 = .ok (.iinc 4 1, 3) := dk_132 4 1 (dk_at dksX4_product_2 13 rfl rfl)
theorem dX4_product_61 : decode cX4_product 61 = .ok (.goto (-41), 3) := dk_167 255 215 (dk_at dksX4_product_2 16 rfl rfl)
theorem dX4_product_64 : decode cX4_product 64 = .ok (.iinc 3 1, 3) := dk_132 3 1 (dk_at dksX4_product_2 19 rfl rfl)
theorem dX4_product_67 : decode cX4_product 67 = .ok (.goto (-65), 3) := dk_167 255 191 (dk_at dksX4_product_3 0 rfl rfl)
theorem dX4_product_70 : decode cX4_product 70 = .ok (.return_, 1) := dk_177 (dk_at dksX4_product_3 3 rfl rfl)
abbrev cX4_all : ByteArray := prog_14_method_4_code
def yX4_all : MethodName := ⟨RX4, "all", "()V"⟩
def dkwX4_all_0 : List UInt8 := [3, 60, 27, 16, 61, 162, 0, 16, 42, 180, 0, 9, 27, 3, 79, 132, 1, 1, 167, 255, 240, 177]
abbrev dktX4_all_0 : List UInt8 := dkwX4_all_0 ++ []
theorem dksX4_all_0 : cX4_all.data.toList.drop 0 = dktX4_all_0 := by decide +kernel
theorem dX4_all_0 : decode cX4_all 0 = .ok (.iconst 0, 1) := dk_3 (dk_at dksX4_all_0 0 rfl rfl)
theorem dX4_all_1 : decode cX4_all 1 = .ok (.istore_n 1, 1) := dk_60 (dk_at dksX4_all_0 1 rfl rfl)
theorem dX4_all_2 : decode cX4_all 2 = .ok (.iload_n 1, 1) := dk_27 (dk_at dksX4_all_0 2 rfl rfl)
theorem dX4_all_3 : decode cX4_all 3 = .ok (.bipush 61, 2) := dk_16 61 (dk_at dksX4_all_0 3 rfl rfl)
theorem dX4_all_5 : decode cX4_all 5 = .ok (.if_icmp .ge 16, 3) := dk_162 0 16 (dk_at dksX4_all_0 5 rfl rfl)
theorem dX4_all_8 : decode cX4_all 8 = .ok (.aload_n 0, 1) := dk_42 (dk_at dksX4_all_0 8 rfl rfl)
theorem dX4_all_9 : decode cX4_all 9 = .ok (.getfield 9, 3) := dk_180 0 9 (dk_at dksX4_all_0 9 rfl rfl)
theorem dX4_all_12 : decode cX4_all 12 = .ok (.iload_n 1, 1) := dk_27 (dk_at dksX4_all_0 12 rfl rfl)
theorem dX4_all_13 : decode cX4_all 13 = .ok (.iconst 0, 1) := dk_3 (dk_at dksX4_all_0 13 rfl rfl)
theorem dX4_all_14 : decode cX4_all 14 = .ok (.iastore, 1) := dk_79 (dk_at dksX4_all_0 14 rfl rfl)
theorem dX4_all_15 : decode cX4_all 15 = .ok (.iinc 1 1, 3) := dk_132 1 1 (dk_at dksX4_all_0 15 rfl rfl)
theorem dX4_all_18 : decode cX4_all 18 = .ok (.goto (-16), 3) := dk_167 255 240 (dk_at dksX4_all_0 18 rfl rfl)
theorem dX4_all_21 : decode cX4_all 21 = .ok (.return_, 1) := dk_177 (dk_at dksX4_all_0 21 rfl rfl)
abbrev cX4_takes : ByteArray := prog_14_method_2_code
def yX4_takes : MethodName := ⟨RX4, "takes", "(LTermIdeals$Stairs;)V"⟩
def dkwX4_takes_0 : List UInt8 := [43, 180, 0, 9, 3, 42, 180, 0, 9, 3, 16, 61, 184, 0, 15, 177]
abbrev dktX4_takes_0 : List UInt8 := dkwX4_takes_0 ++ []
theorem dksX4_takes_0 : cX4_takes.data.toList.drop 0 = dktX4_takes_0 := by decide +kernel
theorem dX4_takes_0 : decode cX4_takes 0 = .ok (.aload_n 1, 1) := dk_43 (dk_at dksX4_takes_0 0 rfl rfl)
theorem dX4_takes_1 : decode cX4_takes 1 = .ok (.getfield 9, 3) := dk_180 0 9 (dk_at dksX4_takes_0 1 rfl rfl)
theorem dX4_takes_4 : decode cX4_takes 4 = .ok (.iconst 0, 1) := dk_3 (dk_at dksX4_takes_0 4 rfl rfl)
theorem dX4_takes_5 : decode cX4_takes 5 = .ok (.aload_n 0, 1) := dk_42 (dk_at dksX4_takes_0 5 rfl rfl)
theorem dX4_takes_6 : decode cX4_takes 6 = .ok (.getfield 9, 3) := dk_180 0 9 (dk_at dksX4_takes_0 6 rfl rfl)
theorem dX4_takes_9 : decode cX4_takes 9 = .ok (.iconst 0, 1) := dk_3 (dk_at dksX4_takes_0 9 rfl rfl)
theorem dX4_takes_10 : decode cX4_takes 10 = .ok (.bipush 61, 2) := dk_16 61 (dk_at dksX4_takes_0 10 rfl rfl)
theorem dX4_takes_12 : decode cX4_takes 12 = .ok (.invokestatic 15, 3) := dk_184 0 15 (dk_at dksX4_takes_0 12 rfl rfl)
theorem dX4_takes_15 : decode cX4_takes 15 = .ok (.return_, 1) := dk_177 (dk_at dksX4_takes_0 15 rfl rfl)
abbrev cX4_isAs : ByteArray := prog_14_method_7_code
def yX4_isAs : MethodName := ⟨RX4, "isAs", "(LTermIdeals$Stairs;)Z"⟩
def dkwX4_isAs_1 : List UInt8 := [172, 132, 2, 1, 167, 255, 230, 4, 172]
abbrev dktX4_isAs_1 : List UInt8 := dkwX4_isAs_1 ++ []
def dkwX4_isAs_0 : List UInt8 := [3, 61, 28, 16, 61, 162, 0, 26, 42, 180, 0, 9, 28, 46, 43, 180, 0, 9, 28, 46, 159, 0, 5, 3]
abbrev dktX4_isAs_0 : List UInt8 := dkwX4_isAs_0 ++ dktX4_isAs_1
theorem dksX4_isAs_0 : cX4_isAs.data.toList.drop 0 = dktX4_isAs_0 := by decide +kernel
theorem dksX4_isAs_1 : cX4_isAs.data.toList.drop 24 = dktX4_isAs_1 := dk_seg dksX4_isAs_0 24 rfl rfl
theorem dX4_isAs_0 : decode cX4_isAs 0 = .ok (.iconst 0, 1) := dk_3 (dk_at dksX4_isAs_0 0 rfl rfl)
theorem dX4_isAs_1 : decode cX4_isAs 1 = .ok (.istore_n 2, 1) := dk_61 (dk_at dksX4_isAs_0 1 rfl rfl)
theorem dX4_isAs_2 : decode cX4_isAs 2 = .ok (.iload_n 2, 1) := dk_28 (dk_at dksX4_isAs_0 2 rfl rfl)
theorem dX4_isAs_3 : decode cX4_isAs 3 = .ok (.bipush 61, 2) := dk_16 61 (dk_at dksX4_isAs_0 3 rfl rfl)
theorem dX4_isAs_5 : decode cX4_isAs 5 = .ok (.if_icmp .ge 26, 3) := dk_162 0 26 (dk_at dksX4_isAs_0 5 rfl rfl)
theorem dX4_isAs_8 : decode cX4_isAs 8 = .ok (.aload_n 0, 1) := dk_42 (dk_at dksX4_isAs_0 8 rfl rfl)
theorem dX4_isAs_9 : decode cX4_isAs 9 = .ok (.getfield 9, 3) := dk_180 0 9 (dk_at dksX4_isAs_0 9 rfl rfl)
theorem dX4_isAs_12 : decode cX4_isAs 12 = .ok (.iload_n 2, 1) := dk_28 (dk_at dksX4_isAs_0 12 rfl rfl)
theorem dX4_isAs_13 : decode cX4_isAs 13 = .ok (.iaload, 1) := dk_46 (dk_at dksX4_isAs_0 13 rfl rfl)
theorem dX4_isAs_14 : decode cX4_isAs 14 = .ok (.aload_n 1, 1) := dk_43 (dk_at dksX4_isAs_0 14 rfl rfl)
theorem dX4_isAs_15 : decode cX4_isAs 15 = .ok (.getfield 9, 3) := dk_180 0 9 (dk_at dksX4_isAs_0 15 rfl rfl)
theorem dX4_isAs_18 : decode cX4_isAs 18 = .ok (.iload_n 2, 1) := dk_28 (dk_at dksX4_isAs_0 18 rfl rfl)
theorem dX4_isAs_19 : decode cX4_isAs 19 = .ok (.iaload, 1) := dk_46 (dk_at dksX4_isAs_0 19 rfl rfl)
theorem dX4_isAs_20 : decode cX4_isAs 20 = .ok (.if_icmp .eq 5, 3) := dk_159 0 5 (dk_at dksX4_isAs_0 20 rfl rfl)
theorem dX4_isAs_23 : decode cX4_isAs 23 = .ok (.iconst 0, 1) := dk_3 (dk_at dksX4_isAs_0 23 rfl rfl)
theorem dX4_isAs_24 : decode cX4_isAs 24 = .ok (.ireturn, 1) := dk_172 (dk_at dksX4_isAs_1 0 rfl rfl)
theorem dX4_isAs_25 : decode cX4_isAs 25 = .ok (.iinc 2 1, 3) := dk_132 2 1 (dk_at dksX4_isAs_1 1 rfl rfl)
theorem dX4_isAs_28 : decode cX4_isAs 28 = .ok (.goto (-26), 3) := dk_167 255 230 (dk_at dksX4_isAs_1 4 rfl rfl)
theorem dX4_isAs_31 : decode cX4_isAs 31 = .ok (.iconst 1, 1) := dk_4 (dk_at dksX4_isAs_1 7 rfl rfl)
theorem dX4_isAs_32 : decode cX4_isAs 32 = .ok (.ireturn, 1) := dk_172 (dk_at dksX4_isAs_1 8 rfl rfl)
theorem q70 : (Jvm.Cond.initialized "TermIdeals$Stairs") ∈ lw_all := lw_g (lw_at lw_m1 5 rfl) rfl
theorem q191 : (Jvm.Cond.instantiable "TermIdeals$Stairs" (1 : Nat)) ∈ lw_all := lw_g (lw_at lw_m1 126 rfl) rfl
theorem q193 : (Jvm.Cond.instanceMethod ({ cls := "TermIdeals$Stairs", name := "<init>", desc := "()V" } : Jvm.MethodName)) ∈ lw_all := lw_g (lw_at lw_m1 128 rfl) rfl
theorem q194 : (Jvm.Cond.code ({ cls := "TermIdeals$Stairs", name := "<init>", desc := "()V" } : Jvm.MethodName) prog_14_method_1_code (1 : Nat) (Option.none : Option Jvm.ClassFile.FieldType)) ∈ lw_all := lw_g (lw_at lw_m1 129 rfl) rfl
theorem q195 : (Jvm.Cond.methodLink "TermIdeals$Stairs" (3 : Nat) ({ cls := "java/lang/Object", name := "<init>", desc := "()V" } : Jvm.MethodName)) ∈ lw_all := lw_g (lw_at lw_m1 130 rfl) rfl
theorem q196 : (Jvm.Cond.fieldLink "TermIdeals$Stairs" (9 : Nat) "TermIdeals$Stairs" "at" "[I") ∈ lw_all := lw_g (lw_at lw_m1 131 rfl) rfl
theorem q198 : (Jvm.Cond.laysFinal "TermIdeals$Stairs" "TermIdeals$Stairs" "at" "[I") ∈ lw_all := lw_g (lw_at lw_m1 133 rfl) rfl
theorem q199 : (Jvm.Cond.soleField "TermIdeals$Stairs" "at") ∈ lw_all := lw_g (lw_at lw_m1 134 rfl) rfl
theorem q200 : (Jvm.Cond.superclass "TermIdeals$Stairs" "java/lang/Object") ∈ lw_all := lw_g (lw_at lw_m1 135 rfl) rfl
theorem q775 : (Jvm.Cond.instanceMethod ({ cls := "TermIdeals$Stairs", name := "of", desc := "(LTermIdeals$Ideal;)LTermIdeals$Stairs;" } : Jvm.MethodName)) ∈ lw_all := lw_g (lw_at lw_m3 230 rfl) rfl
theorem q776 : (Jvm.Cond.selects "TermIdeals$Stairs" ({ cls := "TermIdeals$Stairs", name := "of", desc := "(LTermIdeals$Ideal;)LTermIdeals$Stairs;" } : Jvm.MethodName) ({ cls := "TermIdeals$Stairs", name := "of", desc := "(LTermIdeals$Ideal;)LTermIdeals$Stairs;" } : Jvm.MethodName)) ∈ lw_all := lw_g (lw_at lw_m3 231 rfl) rfl
theorem q777 : (Jvm.Cond.code ({ cls := "TermIdeals$Stairs", name := "of", desc := "(LTermIdeals$Ideal;)LTermIdeals$Stairs;" } : Jvm.MethodName) prog_14_method_3_code (3 : Nat) (Option.some (Jvm.ClassFile.FieldType.object "TermIdeals$Stairs"))) ∈ lw_all := lw_g (lw_at lw_m3 232 rfl) rfl
theorem q778 : (Jvm.Cond.methodLink "TermIdeals$Stairs" (21 : Nat) ({ cls := "TermIdeals$Ideal", name := "height", desc := "(I)I" } : Jvm.MethodName)) ∈ lw_all := lw_g (lw_at lw_m3 233 rfl) rfl
theorem q784 : (Jvm.Cond.instanceMethod ({ cls := "TermIdeals$Stairs", name := "sum", desc := "(LTermIdeals$Stairs;LTermIdeals$Stairs;)V" } : Jvm.MethodName)) ∈ lw_all := lw_g (lw_at lw_m3 239 rfl) rfl
theorem q785 : (Jvm.Cond.selects "TermIdeals$Stairs" ({ cls := "TermIdeals$Stairs", name := "sum", desc := "(LTermIdeals$Stairs;LTermIdeals$Stairs;)V" } : Jvm.MethodName) ({ cls := "TermIdeals$Stairs", name := "sum", desc := "(LTermIdeals$Stairs;LTermIdeals$Stairs;)V" } : Jvm.MethodName)) ∈ lw_all := lw_g (lw_at lw_m4 0 rfl) rfl
theorem q786 : (Jvm.Cond.code ({ cls := "TermIdeals$Stairs", name := "sum", desc := "(LTermIdeals$Stairs;LTermIdeals$Stairs;)V" } : Jvm.MethodName) prog_14_method_5_code (4 : Nat) (Option.none : Option Jvm.ClassFile.FieldType)) ∈ lw_all := lw_g (lw_at lw_m4 1 rfl) rfl
theorem q787 : (Jvm.Cond.methodLink "TermIdeals$Stairs" (27 : Nat) ({ cls := "java/lang/Math", name := "min", desc := "(II)I" } : Jvm.MethodName)) ∈ lw_all := lw_g (lw_at lw_m4 2 rfl) rfl
theorem q789 : (Jvm.Cond.instanceMethod ({ cls := "TermIdeals$Stairs", name := "product", desc := "(LTermIdeals$Stairs;LTermIdeals$Stairs;)V" } : Jvm.MethodName)) ∈ lw_all := lw_g (lw_at lw_m4 4 rfl) rfl
theorem q790 : (Jvm.Cond.selects "TermIdeals$Stairs" ({ cls := "TermIdeals$Stairs", name := "product", desc := "(LTermIdeals$Stairs;LTermIdeals$Stairs;)V" } : Jvm.MethodName) ({ cls := "TermIdeals$Stairs", name := "product", desc := "(LTermIdeals$Stairs;LTermIdeals$Stairs;)V" } : Jvm.MethodName)) ∈ lw_all := lw_g (lw_at lw_m4 5 rfl) rfl
theorem q791 : (Jvm.Cond.code ({ cls := "TermIdeals$Stairs", name := "product", desc := "(LTermIdeals$Stairs;LTermIdeals$Stairs;)V" } : Jvm.MethodName) prog_14_method_6_code (5 : Nat) (Option.none : Option Jvm.ClassFile.FieldType)) ∈ lw_all := lw_g (lw_at lw_m4 6 rfl) rfl
theorem q797 : (Jvm.Cond.instanceMethod ({ cls := "TermIdeals$Stairs", name := "all", desc := "()V" } : Jvm.MethodName)) ∈ lw_all := lw_g (lw_at lw_m4 12 rfl) rfl
theorem q798 : (Jvm.Cond.selects "TermIdeals$Stairs" ({ cls := "TermIdeals$Stairs", name := "all", desc := "()V" } : Jvm.MethodName) ({ cls := "TermIdeals$Stairs", name := "all", desc := "()V" } : Jvm.MethodName)) ∈ lw_all := lw_g (lw_at lw_m4 13 rfl) rfl
theorem q799 : (Jvm.Cond.code ({ cls := "TermIdeals$Stairs", name := "all", desc := "()V" } : Jvm.MethodName) prog_14_method_4_code (2 : Nat) (Option.none : Option Jvm.ClassFile.FieldType)) ∈ lw_all := lw_g (lw_at lw_m4 14 rfl) rfl
theorem q801 : (Jvm.Cond.instanceMethod ({ cls := "TermIdeals$Stairs", name := "takes", desc := "(LTermIdeals$Stairs;)V" } : Jvm.MethodName)) ∈ lw_all := lw_g (lw_at lw_m4 16 rfl) rfl
theorem q802 : (Jvm.Cond.selects "TermIdeals$Stairs" ({ cls := "TermIdeals$Stairs", name := "takes", desc := "(LTermIdeals$Stairs;)V" } : Jvm.MethodName) ({ cls := "TermIdeals$Stairs", name := "takes", desc := "(LTermIdeals$Stairs;)V" } : Jvm.MethodName)) ∈ lw_all := lw_g (lw_at lw_m4 17 rfl) rfl
theorem q803 : (Jvm.Cond.code ({ cls := "TermIdeals$Stairs", name := "takes", desc := "(LTermIdeals$Stairs;)V" } : Jvm.MethodName) prog_14_method_2_code (2 : Nat) (Option.none : Option Jvm.ClassFile.FieldType)) ∈ lw_all := lw_g (lw_at lw_m4 18 rfl) rfl
theorem q804 : (Jvm.Cond.methodLink "TermIdeals$Stairs" (15 : Nat) ({ cls := "java/lang/System", name := "arraycopy", desc := "(Ljava/lang/Object;ILjava/lang/Object;II)V" } : Jvm.MethodName)) ∈ lw_all := lw_g (lw_at lw_m4 19 rfl) rfl
theorem q822 : (Jvm.Cond.instanceMethod ({ cls := "TermIdeals$Stairs", name := "isAs", desc := "(LTermIdeals$Stairs;)Z" } : Jvm.MethodName)) ∈ lw_all := lw_g (lw_at lw_m4 37 rfl) rfl
theorem q823 : (Jvm.Cond.selects "TermIdeals$Stairs" ({ cls := "TermIdeals$Stairs", name := "isAs", desc := "(LTermIdeals$Stairs;)Z" } : Jvm.MethodName) ({ cls := "TermIdeals$Stairs", name := "isAs", desc := "(LTermIdeals$Stairs;)Z" } : Jvm.MethodName)) ∈ lw_all := lw_g (lw_at lw_m4 38 rfl) rfl
theorem q824 : (Jvm.Cond.code ({ cls := "TermIdeals$Stairs", name := "isAs", desc := "(LTermIdeals$Stairs;)Z" } : Jvm.MethodName) prog_14_method_7_code (3 : Nat) (Option.some Jvm.ClassFile.FieldType.boolean)) ∈ lw_all := lw_g (lw_at lw_m4 39 rfl) rfl
theorem in_X4 : ∀ w ∈ wsX40, w ∈ lw_all := lw_in wsX40 [198] (by decide +kernel) (by decide +kernel)
/-! TermIdeals$Rows -/
set_option maxRecDepth 100000
def RX5 : String := "TermIdeals$Rows"
def TX5 : u_T := fun k => match k with
  | 0 => ("TermIdeals$Rows", "firsts", "[I", true)
  | 1 => ("TermIdeals$Rows", "seconds", "[I", true)
  | 2 => ("TermIdeals$Rows", "thirds", "[I", true)
  | _ => ("TermIdeals$Rows", "many", "I", false)
def tyX5 : Nat → FieldType := fun k => match k with
  | 0 => .array .int
  | 1 => .array .int
  | 2 => .array .int
  | _ => .int
abbrev wsX50 : List Cond := u_ws RX5 TX5 4
theorem nmX5 : ∀ a, a < 4 → ∀ b, b < 4 → a ≠ b → (TX5 a).2.1 ≠ (TX5 b).2.1 := by decide +kernel
theorem tyX5_ok : ∀ k, k < 4 → parseFieldDescriptor (TX5 k).2.2.1 = some (tyX5 k) := by decide +kernel
abbrev cX5_init : ByteArray := prog_13_method_1_code
def yX5_init : MethodName := ⟨RX5, "<init>", "(I)V"⟩
def dkwX5_init_1 : List UInt8 := [181, 0, 18, 177]
abbrev dktX5_init_1 : List UInt8 := dkwX5_init_1 ++ []
def dkwX5_init_0 : List UInt8 := [42, 183, 0, 3, 42, 27, 188, 10, 181, 0, 9, 42, 27, 188, 10, 181, 0, 15, 42, 27, 188, 10]
abbrev dktX5_init_0 : List UInt8 := dkwX5_init_0 ++ dktX5_init_1
theorem dksX5_init_0 : cX5_init.data.toList.drop 0 = dktX5_init_0 := by decide +kernel
theorem dksX5_init_1 : cX5_init.data.toList.drop 22 = dktX5_init_1 := dk_seg dksX5_init_0 22 rfl rfl
theorem dX5_init_0 : decode cX5_init 0 = .ok (.aload_n 0, 1) := dk_42 (dk_at dksX5_init_0 0 rfl rfl)
theorem dX5_init_1 : decode cX5_init 1 = .ok (.invokespecial 3, 3) := dk_183 0 3 (dk_at dksX5_init_0 1 rfl rfl)
theorem dX5_init_4 : decode cX5_init 4 = .ok (.aload_n 0, 1) := dk_42 (dk_at dksX5_init_0 4 rfl rfl)
theorem dX5_init_5 : decode cX5_init 5 = .ok (.iload_n 1, 1) := dk_27 (dk_at dksX5_init_0 5 rfl rfl)
theorem dX5_init_6 : decode cX5_init 6 = .ok (.newarray .int, 2) := dk_188_10 (dk_at dksX5_init_0 6 rfl rfl)
theorem dX5_init_8 : decode cX5_init 8 = .ok (.putfield 9, 3) := dk_181 0 9 (dk_at dksX5_init_0 8 rfl rfl)
theorem dX5_init_11 : decode cX5_init 11 = .ok (.aload_n 0, 1) := dk_42 (dk_at dksX5_init_0 11 rfl rfl)
theorem dX5_init_12 : decode cX5_init 12 = .ok (.iload_n 1, 1) := dk_27 (dk_at dksX5_init_0 12 rfl rfl)
theorem dX5_init_13 : decode cX5_init 13 = .ok (.newarray .int, 2) := dk_188_10 (dk_at dksX5_init_0 13 rfl rfl)
theorem dX5_init_15 : decode cX5_init 15 = .ok (.putfield 15, 3) := dk_181 0 15 (dk_at dksX5_init_0 15 rfl rfl)
theorem dX5_init_18 : decode cX5_init 18 = .ok (.aload_n 0, 1) := dk_42 (dk_at dksX5_init_0 18 rfl rfl)
theorem dX5_init_19 : decode cX5_init 19 = .ok (.iload_n 1, 1) := dk_27 (dk_at dksX5_init_0 19 rfl rfl)
theorem dX5_init_20 : decode cX5_init 20 = .ok (.newarray .int, 2) := dk_188_10 (dk_at dksX5_init_0 20 rfl rfl)
theorem dX5_init_22 : decode cX5_init 22 = .ok (.putfield 18, 3) := dk_181 0 18 (dk_at dksX5_init_1 0 rfl rfl)
theorem dX5_init_25 : decode cX5_init 25 = .ok (.return_, 1) := dk_177 (dk_at dksX5_init_1 3 rfl rfl)
abbrev cX5_none : ByteArray := prog_13_method_3_code
def yX5_none : MethodName := ⟨RX5, "none", "()I"⟩
def dkwX5_none_0 : List UInt8 := [42, 3, 181, 0, 21, 3, 172]
abbrev dktX5_none_0 : List UInt8 := dkwX5_none_0 ++ []
theorem dksX5_none_0 : cX5_none.data.toList.drop 0 = dktX5_none_0 := by decide +kernel
theorem dX5_none_0 : decode cX5_none 0 = .ok (.aload_n 0, 1) := dk_42 (dk_at dksX5_none_0 0 rfl rfl)
theorem dX5_none_1 : decode cX5_none 1 = .ok (.iconst 0, 1) := dk_3 (dk_at dksX5_none_0 1 rfl rfl)
theorem dX5_none_2 : decode cX5_none 2 = .ok (.putfield 21, 3) := dk_181 0 21 (dk_at dksX5_none_0 2 rfl rfl)
theorem dX5_none_5 : decode cX5_none 5 = .ok (.iconst 0, 1) := dk_3 (dk_at dksX5_none_0 5 rfl rfl)
theorem dX5_none_6 : decode cX5_none 6 = .ok (.ireturn, 1) := dk_172 (dk_at dksX5_none_0 6 rfl rfl)
abbrev cX5_adds : ByteArray := prog_13_method_2_code
def yX5_adds : MethodName := ⟨RX5, "adds", "(III)I"⟩
def dkwX5_adds_2 : List UInt8 := [180, 0, 21, 4, 96, 181, 0, 21, 42, 180, 0, 21, 172]
abbrev dktX5_adds_2 : List UInt8 := dkwX5_adds_2 ++ []
def dkwX5_adds_1 : List UInt8 := [79, 42, 180, 0, 15, 42, 180, 0, 21, 28, 79, 42, 180, 0, 18, 42, 180, 0, 21, 29, 79, 42, 89]
abbrev dktX5_adds_1 : List UInt8 := dkwX5_adds_1 ++ dktX5_adds_2
def dkwX5_adds_0 : List UInt8 := [42, 180, 0, 21, 42, 180, 0, 9, 190, 160, 0, 6, 16, 252, 172, 42, 180, 0, 9, 42, 180, 0, 21, 27]
abbrev dktX5_adds_0 : List UInt8 := dkwX5_adds_0 ++ dktX5_adds_1
theorem dksX5_adds_0 : cX5_adds.data.toList.drop 0 = dktX5_adds_0 := by decide +kernel
theorem dksX5_adds_1 : cX5_adds.data.toList.drop 24 = dktX5_adds_1 := dk_seg dksX5_adds_0 24 rfl rfl
theorem dksX5_adds_2 : cX5_adds.data.toList.drop 47 = dktX5_adds_2 := dk_seg dksX5_adds_1 23 rfl rfl
theorem dX5_adds_0 : decode cX5_adds 0 = .ok (.aload_n 0, 1) := dk_42 (dk_at dksX5_adds_0 0 rfl rfl)
theorem dX5_adds_1 : decode cX5_adds 1 = .ok (.getfield 21, 3) := dk_180 0 21 (dk_at dksX5_adds_0 1 rfl rfl)
theorem dX5_adds_4 : decode cX5_adds 4 = .ok (.aload_n 0, 1) := dk_42 (dk_at dksX5_adds_0 4 rfl rfl)
theorem dX5_adds_5 : decode cX5_adds 5 = .ok (.getfield 9, 3) := dk_180 0 9 (dk_at dksX5_adds_0 5 rfl rfl)
theorem dX5_adds_8 : decode cX5_adds 8 = .ok (.arraylength, 1) := dk_190 (dk_at dksX5_adds_0 8 rfl rfl)
theorem dX5_adds_9 : decode cX5_adds 9 = .ok (.if_icmp .ne 6, 3) := dk_160 0 6 (dk_at dksX5_adds_0 9 rfl rfl)
theorem dX5_adds_12 : decode cX5_adds 12 = .ok (.bipush (-4), 2) := dk_16 252 (dk_at dksX5_adds_0 12 rfl rfl)
theorem dX5_adds_14 : decode cX5_adds 14 = .ok (.ireturn, 1) := dk_172 (dk_at dksX5_adds_0 14 rfl rfl)
theorem dX5_adds_15 : decode cX5_adds 15 = .ok (.aload_n 0, 1) := dk_42 (dk_at dksX5_adds_0 15 rfl rfl)
theorem dX5_adds_16 : decode cX5_adds 16 = .ok (.getfield 9, 3) := dk_180 0 9 (dk_at dksX5_adds_0 16 rfl rfl)
theorem dX5_adds_19 : decode cX5_adds 19 = .ok (.aload_n 0, 1) := dk_42 (dk_at dksX5_adds_0 19 rfl rfl)
theorem dX5_adds_20 : decode cX5_adds 20 = .ok (.getfield 21, 3) := dk_180 0 21 (dk_at dksX5_adds_0 20 rfl rfl)
theorem dX5_adds_23 : decode cX5_adds 23 = .ok (.iload_n 1, 1) := dk_27 (dk_at dksX5_adds_0 23 rfl rfl)
theorem dX5_adds_24 : decode cX5_adds 24 = .ok (.iastore, 1) := dk_79 (dk_at dksX5_adds_1 0 rfl rfl)
theorem dX5_adds_25 : decode cX5_adds 25 = .ok (.aload_n 0, 1) := dk_42 (dk_at dksX5_adds_1 1 rfl rfl)
theorem dX5_adds_26 : decode cX5_adds 26 = .ok (.getfield 15, 3) := dk_180 0 15 (dk_at dksX5_adds_1 2 rfl rfl)
theorem dX5_adds_29 : decode cX5_adds 29 = .ok (.aload_n 0, 1) := dk_42 (dk_at dksX5_adds_1 5 rfl rfl)
theorem dX5_adds_30 : decode cX5_adds 30 = .ok (.getfield 21, 3) := dk_180 0 21 (dk_at dksX5_adds_1 6 rfl rfl)
theorem dX5_adds_33 : decode cX5_adds 33 = .ok (.iload_n 2, 1) := dk_28 (dk_at dksX5_adds_1 9 rfl rfl)
theorem dX5_adds_34 : decode cX5_adds 34 = .ok (.iastore, 1) := dk_79 (dk_at dksX5_adds_1 10 rfl rfl)
theorem dX5_adds_35 : decode cX5_adds 35 = .ok (.aload_n 0, 1) := dk_42 (dk_at dksX5_adds_1 11 rfl rfl)
theorem dX5_adds_36 : decode cX5_adds 36 = .ok (.getfield 18, 3) := dk_180 0 18 (dk_at dksX5_adds_1 12 rfl rfl)
theorem dX5_adds_39 : decode cX5_adds 39 = .ok (.aload_n 0, 1) := dk_42 (dk_at dksX5_adds_1 15 rfl rfl)
theorem dX5_adds_40 : decode cX5_adds 40 = .ok (.getfield 21, 3) := dk_180 0 21 (dk_at dksX5_adds_1 16 rfl rfl)
theorem dX5_adds_43 : decode cX5_adds 43 = .ok (.iload_n 3, 1) := dk_29 (dk_at dksX5_adds_1 19 rfl rfl)
theorem dX5_adds_44 : decode cX5_adds 44 = .ok (.iastore, 1) := dk_79 (dk_at dksX5_adds_1 20 rfl rfl)
theorem dX5_adds_45 : decode cX5_adds 45 = .ok (.aload_n 0, 1) := dk_42 (dk_at dksX5_adds_1 21 rfl rfl)
theorem dX5_adds_46 : decode cX5_adds 46 = .ok (.dup, 1) := dk_89 (dk_at dksX5_adds_1 22 rfl rfl)
theorem dX5_adds_47 : decode cX5_adds 47 = .ok (.getfield 21, 3) := dk_180 0 21 (dk_at dksX5_adds_2 0 rfl rfl)
theorem dX5_adds_50 : decode cX5_adds 50 = .ok (.iconst 1, 1) := dk_4 (dk_at dksX5_adds_2 3 rfl rfl)
theorem dX5_adds_51 : decode cX5_adds 51 = .ok (.iadd, 1) := dk_96 (dk_at dksX5_adds_2 4 rfl rfl)
theorem dX5_adds_52 : decode cX5_adds 52 = .ok (.putfield 21, 3) := dk_181 0 21 (dk_at dksX5_adds_2 5 rfl rfl)
theorem dX5_adds_55 : decode cX5_adds 55 = .ok (.aload_n 0, 1) := dk_42 (dk_at dksX5_adds_2 8 rfl rfl)
theorem dX5_adds_56 : decode cX5_adds 56 = .ok (.getfield 21, 3) := dk_180 0 21 (dk_at dksX5_adds_2 9 rfl rfl)
theorem dX5_adds_59 : decode cX5_adds 59 = .ok (.ireturn, 1) := dk_172 (dk_at dksX5_adds_2 12 rfl rfl)
abbrev cX5_takes : ByteArray := prog_13_method_4_code
def yX5_takes : MethodName := ⟨RX5, "takes", "(LTermIdeals$Rows;)V"⟩
def dkwX5_takes_2 : List UInt8 := [180, 0, 18, 190, 184, 0, 25, 42, 43, 180, 0, 21, 181, 0, 21, 177]
abbrev dktX5_takes_2 : List UInt8 := dkwX5_takes_2 ++ []
def dkwX5_takes_1 : List UInt8 := [180, 0, 15, 3, 42, 180, 0, 15, 190, 184, 0, 25, 43, 180, 0, 18, 3, 42, 180, 0, 18, 3, 42]
abbrev dktX5_takes_1 : List UInt8 := dkwX5_takes_1 ++ dktX5_takes_2
def dkwX5_takes_0 : List UInt8 := [43, 180, 0, 9, 3, 42, 180, 0, 9, 3, 42, 180, 0, 9, 190, 184, 0, 25, 43, 180, 0, 15, 3, 42]
abbrev dktX5_takes_0 : List UInt8 := dkwX5_takes_0 ++ dktX5_takes_1
theorem dksX5_takes_0 : cX5_takes.data.toList.drop 0 = dktX5_takes_0 := by decide +kernel
theorem dksX5_takes_1 : cX5_takes.data.toList.drop 24 = dktX5_takes_1 := dk_seg dksX5_takes_0 24 rfl rfl
theorem dksX5_takes_2 : cX5_takes.data.toList.drop 47 = dktX5_takes_2 := dk_seg dksX5_takes_1 23 rfl rfl
theorem dX5_takes_0 : decode cX5_takes 0 = .ok (.aload_n 1, 1) := dk_43 (dk_at dksX5_takes_0 0 rfl rfl)
theorem dX5_takes_1 : decode cX5_takes 1 = .ok (.getfield 9, 3) := dk_180 0 9 (dk_at dksX5_takes_0 1 rfl rfl)
theorem dX5_takes_4 : decode cX5_takes 4 = .ok (.iconst 0, 1) := dk_3 (dk_at dksX5_takes_0 4 rfl rfl)
theorem dX5_takes_5 : decode cX5_takes 5 = .ok (.aload_n 0, 1) := dk_42 (dk_at dksX5_takes_0 5 rfl rfl)
theorem dX5_takes_6 : decode cX5_takes 6 = .ok (.getfield 9, 3) := dk_180 0 9 (dk_at dksX5_takes_0 6 rfl rfl)
theorem dX5_takes_9 : decode cX5_takes 9 = .ok (.iconst 0, 1) := dk_3 (dk_at dksX5_takes_0 9 rfl rfl)
theorem dX5_takes_10 : decode cX5_takes 10 = .ok (.aload_n 0, 1) := dk_42 (dk_at dksX5_takes_0 10 rfl rfl)
theorem dX5_takes_11 : decode cX5_takes 11 = .ok (.getfield 9, 3) := dk_180 0 9 (dk_at dksX5_takes_0 11 rfl rfl)
theorem dX5_takes_14 : decode cX5_takes 14 = .ok (.arraylength, 1) := dk_190 (dk_at dksX5_takes_0 14 rfl rfl)
theorem dX5_takes_15 : decode cX5_takes 15 = .ok (.invokestatic 25, 3) := dk_184 0 25 (dk_at dksX5_takes_0 15 rfl rfl)
theorem dX5_takes_18 : decode cX5_takes 18 = .ok (.aload_n 1, 1) := dk_43 (dk_at dksX5_takes_0 18 rfl rfl)
theorem dX5_takes_19 : decode cX5_takes 19 = .ok (.getfield 15, 3) := dk_180 0 15 (dk_at dksX5_takes_0 19 rfl rfl)
theorem dX5_takes_22 : decode cX5_takes 22 = .ok (.iconst 0, 1) := dk_3 (dk_at dksX5_takes_0 22 rfl rfl)
theorem dX5_takes_23 : decode cX5_takes 23 = .ok (.aload_n 0, 1) := dk_42 (dk_at dksX5_takes_0 23 rfl rfl)
theorem dX5_takes_24 : decode cX5_takes 24 = .ok (.getfield 15, 3) := dk_180 0 15 (dk_at dksX5_takes_1 0 rfl rfl)
theorem dX5_takes_27 : decode cX5_takes 27 = .ok (.iconst 0, 1) := dk_3 (dk_at dksX5_takes_1 3 rfl rfl)
theorem dX5_takes_28 : decode cX5_takes 28 = .ok (.aload_n 0, 1) := dk_42 (dk_at dksX5_takes_1 4 rfl rfl)
theorem dX5_takes_29 : decode cX5_takes 29 = .ok (.getfield 15, 3) := dk_180 0 15 (dk_at dksX5_takes_1 5 rfl rfl)
theorem dX5_takes_32 : decode cX5_takes 32 = .ok (.arraylength, 1) := dk_190 (dk_at dksX5_takes_1 8 rfl rfl)
theorem dX5_takes_33 : decode cX5_takes 33 = .ok (.invokestatic 25, 3) := dk_184 0 25 (dk_at dksX5_takes_1 9 rfl rfl)
theorem dX5_takes_36 : decode cX5_takes 36 = .ok (.aload_n 1, 1) := dk_43 (dk_at dksX5_takes_1 12 rfl rfl)
theorem dX5_takes_37 : decode cX5_takes 37 = .ok (.getfield 18, 3) := dk_180 0 18 (dk_at dksX5_takes_1 13 rfl rfl)
theorem dX5_takes_40 : decode cX5_takes 40 = .ok (.iconst 0, 1) := dk_3 (dk_at dksX5_takes_1 16 rfl rfl)
theorem dX5_takes_41 : decode cX5_takes 41 = .ok (.aload_n 0, 1) := dk_42 (dk_at dksX5_takes_1 17 rfl rfl)
theorem dX5_takes_42 : decode cX5_takes 42 = .ok (.getfield 18, 3) := dk_180 0 18 (dk_at dksX5_takes_1 18 rfl rfl)
theorem dX5_takes_45 : decode cX5_takes 45 = .ok (.iconst 0, 1) := dk_3 (dk_at dksX5_takes_1 21 rfl rfl)
theorem dX5_takes_46 : decode cX5_takes 46 = .ok (.aload_n 0, 1) := dk_42 (dk_at dksX5_takes_1 22 rfl rfl)
theorem dX5_takes_47 : decode cX5_takes 47 = .ok (.getfield 18, 3) := dk_180 0 18 (dk_at dksX5_takes_2 0 rfl rfl)
theorem dX5_takes_50 : decode cX5_takes 50 = .ok (.arraylength, 1) := dk_190 (dk_at dksX5_takes_2 3 rfl rfl)
theorem dX5_takes_51 : decode cX5_takes 51 = .ok (.invokestatic 25, 3) := dk_184 0 25 (dk_at dksX5_takes_2 4 rfl rfl)
theorem dX5_takes_54 : decode cX5_takes 54 = .ok (.aload_n 0, 1) := dk_42 (dk_at dksX5_takes_2 7 rfl rfl)
theorem dX5_takes_55 : decode cX5_takes 55 = .ok (.aload_n 1, 1) := dk_43 (dk_at dksX5_takes_2 8 rfl rfl)
theorem dX5_takes_56 : decode cX5_takes 56 = .ok (.getfield 21, 3) := dk_180 0 21 (dk_at dksX5_takes_2 9 rfl rfl)
theorem dX5_takes_59 : decode cX5_takes 59 = .ok (.putfield 21, 3) := dk_181 0 21 (dk_at dksX5_takes_2 12 rfl rfl)
theorem dX5_takes_62 : decode cX5_takes 62 = .ok (.return_, 1) := dk_177 (dk_at dksX5_takes_2 15 rfl rfl)
theorem q71 : (Jvm.Cond.initialized "TermIdeals$Rows") ∈ lw_all := lw_g (lw_at lw_m1 6 rfl) rfl
theorem q202 : (Jvm.Cond.instantiable "TermIdeals$Rows" (4 : Nat)) ∈ lw_all := lw_g (lw_at lw_m1 137 rfl) rfl
theorem q204 : (Jvm.Cond.instanceMethod ({ cls := "TermIdeals$Rows", name := "<init>", desc := "(I)V" } : Jvm.MethodName)) ∈ lw_all := lw_g (lw_at lw_m1 139 rfl) rfl
theorem q205 : (Jvm.Cond.code ({ cls := "TermIdeals$Rows", name := "<init>", desc := "(I)V" } : Jvm.MethodName) prog_13_method_1_code (2 : Nat) (Option.none : Option Jvm.ClassFile.FieldType)) ∈ lw_all := lw_g (lw_at lw_m1 140 rfl) rfl
theorem q206 : (Jvm.Cond.methodLink "TermIdeals$Rows" (3 : Nat) ({ cls := "java/lang/Object", name := "<init>", desc := "()V" } : Jvm.MethodName)) ∈ lw_all := lw_g (lw_at lw_m1 141 rfl) rfl
theorem q207 : (Jvm.Cond.fieldLink "TermIdeals$Rows" (9 : Nat) "TermIdeals$Rows" "firsts" "[I") ∈ lw_all := lw_g (lw_at lw_m1 142 rfl) rfl
theorem q209 : (Jvm.Cond.fieldLink "TermIdeals$Rows" (15 : Nat) "TermIdeals$Rows" "seconds" "[I") ∈ lw_all := lw_g (lw_at lw_m1 144 rfl) rfl
theorem q211 : (Jvm.Cond.fieldLink "TermIdeals$Rows" (18 : Nat) "TermIdeals$Rows" "thirds" "[I") ∈ lw_all := lw_g (lw_at lw_m1 146 rfl) rfl
theorem q213 : (Jvm.Cond.fieldLink "TermIdeals$Rows" (21 : Nat) "TermIdeals$Rows" "many" "I") ∈ lw_all := lw_g (lw_at lw_m1 148 rfl) rfl
theorem q215 : (Jvm.Cond.laysFinal "TermIdeals$Rows" "TermIdeals$Rows" "firsts" "[I") ∈ lw_all := lw_g (lw_at lw_m1 150 rfl) rfl
theorem q216 : (Jvm.Cond.soleField "TermIdeals$Rows" "firsts") ∈ lw_all := lw_g (lw_at lw_m1 151 rfl) rfl
theorem q217 : (Jvm.Cond.laysFinal "TermIdeals$Rows" "TermIdeals$Rows" "seconds" "[I") ∈ lw_all := lw_g (lw_at lw_m1 152 rfl) rfl
theorem q218 : (Jvm.Cond.soleField "TermIdeals$Rows" "seconds") ∈ lw_all := lw_g (lw_at lw_m1 153 rfl) rfl
theorem q219 : (Jvm.Cond.laysFinal "TermIdeals$Rows" "TermIdeals$Rows" "thirds" "[I") ∈ lw_all := lw_g (lw_at lw_m1 154 rfl) rfl
theorem q220 : (Jvm.Cond.soleField "TermIdeals$Rows" "thirds") ∈ lw_all := lw_g (lw_at lw_m1 155 rfl) rfl
theorem q221 : (Jvm.Cond.lays "TermIdeals$Rows" "TermIdeals$Rows" "many" "I") ∈ lw_all := lw_g (lw_at lw_m1 156 rfl) rfl
theorem q222 : (Jvm.Cond.soleField "TermIdeals$Rows" "many") ∈ lw_all := lw_g (lw_at lw_m1 157 rfl) rfl
theorem q223 : (Jvm.Cond.superclass "TermIdeals$Rows" "java/lang/Object") ∈ lw_all := lw_g (lw_at lw_m1 158 rfl) rfl
theorem q830 : (Jvm.Cond.instanceMethod ({ cls := "TermIdeals$Rows", name := "none", desc := "()I" } : Jvm.MethodName)) ∈ lw_all := lw_g (lw_at lw_m4 45 rfl) rfl
theorem q831 : (Jvm.Cond.selects "TermIdeals$Rows" ({ cls := "TermIdeals$Rows", name := "none", desc := "()I" } : Jvm.MethodName) ({ cls := "TermIdeals$Rows", name := "none", desc := "()I" } : Jvm.MethodName)) ∈ lw_all := lw_g (lw_at lw_m4 46 rfl) rfl
theorem q832 : (Jvm.Cond.code ({ cls := "TermIdeals$Rows", name := "none", desc := "()I" } : Jvm.MethodName) prog_13_method_3_code (1 : Nat) (Option.some Jvm.ClassFile.FieldType.int)) ∈ lw_all := lw_g (lw_at lw_m4 47 rfl) rfl
theorem q834 : (Jvm.Cond.instanceMethod ({ cls := "TermIdeals$Rows", name := "adds", desc := "(III)I" } : Jvm.MethodName)) ∈ lw_all := lw_g (lw_at lw_m4 49 rfl) rfl
theorem q835 : (Jvm.Cond.selects "TermIdeals$Rows" ({ cls := "TermIdeals$Rows", name := "adds", desc := "(III)I" } : Jvm.MethodName) ({ cls := "TermIdeals$Rows", name := "adds", desc := "(III)I" } : Jvm.MethodName)) ∈ lw_all := lw_g (lw_at lw_m4 50 rfl) rfl
theorem q836 : (Jvm.Cond.code ({ cls := "TermIdeals$Rows", name := "adds", desc := "(III)I" } : Jvm.MethodName) prog_13_method_2_code (4 : Nat) (Option.some Jvm.ClassFile.FieldType.int)) ∈ lw_all := lw_g (lw_at lw_m4 51 rfl) rfl
theorem q975 : (Jvm.Cond.instanceMethod ({ cls := "TermIdeals$Rows", name := "takes", desc := "(LTermIdeals$Rows;)V" } : Jvm.MethodName)) ∈ lw_all := lw_g (lw_at lw_m4 190 rfl) rfl
theorem q976 : (Jvm.Cond.selects "TermIdeals$Rows" ({ cls := "TermIdeals$Rows", name := "takes", desc := "(LTermIdeals$Rows;)V" } : Jvm.MethodName) ({ cls := "TermIdeals$Rows", name := "takes", desc := "(LTermIdeals$Rows;)V" } : Jvm.MethodName)) ∈ lw_all := lw_g (lw_at lw_m4 191 rfl) rfl
theorem q977 : (Jvm.Cond.code ({ cls := "TermIdeals$Rows", name := "takes", desc := "(LTermIdeals$Rows;)V" } : Jvm.MethodName) prog_13_method_4_code (2 : Nat) (Option.none : Option Jvm.ClassFile.FieldType)) ∈ lw_all := lw_g (lw_at lw_m4 192 rfl) rfl
theorem q978 : (Jvm.Cond.methodLink "TermIdeals$Rows" (25 : Nat) ({ cls := "java/lang/System", name := "arraycopy", desc := "(Ljava/lang/Object;ILjava/lang/Object;II)V" } : Jvm.MethodName)) ∈ lw_all := lw_g (lw_at lw_m4 193 rfl) rfl
theorem in_X5 : ∀ w ∈ wsX50, w ∈ lw_all := lw_in wsX50 [215, 217, 219, 221] (by decide +kernel) (by decide +kernel)
/-! TermIdeals$Tape -/
set_option maxRecDepth 100000
def RX6 : String := "TermIdeals$Tape"
def TX6 : u_T := fun k => match k with
  | _ => ("TermIdeals$Tape", "row", "Ljava/lang/Object;", false)
def tyX6 : Nat → FieldType := fun k => match k with
  | _ => .object "java/lang/Object"
abbrev wsX60 : List Cond := u_ws RX6 TX6 1
theorem nmX6 : ∀ a, a < 1 → ∀ b, b < 1 → a ≠ b → (TX6 a).2.1 ≠ (TX6 b).2.1 := by decide +kernel
theorem tyX6_ok : ∀ k, k < 1 → parseFieldDescriptor (TX6 k).2.2.1 = some (tyX6 k) := by decide +kernel
abbrev cX6_init : ByteArray := prog_15_method_1_code
def yX6_init : MethodName := ⟨RX6, "<init>", "()V"⟩
theorem dX6_init_0 : decode cX6_init 0 = .ok (.aload_n 0, 1) := by decide +kernel
theorem dX6_init_1 : decode cX6_init 1 = .ok (.invokespecial 3, 3) := by decide +kernel
theorem dX6_init_4 : decode cX6_init 4 = .ok (.return_, 1) := by decide +kernel
abbrev cX6_has : ByteArray := prog_15_method_3_code
def yX6_has : MethodName := ⟨RX6, "has", "(I)V"⟩
def dkwX6_has_1 : List UInt8 := [100, 184, 0, 34, 154, 0, 13, 187, 0, 25, 89, 16, 243, 183, 0, 27, 191, 177]
abbrev dktX6_has_1 : List UInt8 := dkwX6_has_1 ++ []
def dkwX6_has_0 : List UInt8 := [42, 180, 0, 9, 199, 0, 13, 187, 0, 25, 89, 16, 245, 183, 0, 27, 191, 27, 3, 42, 182, 0, 30, 4]
abbrev dktX6_has_0 : List UInt8 := dkwX6_has_0 ++ dktX6_has_1
theorem dksX6_has_0 : cX6_has.data.toList.drop 0 = dktX6_has_0 := by decide +kernel
theorem dksX6_has_1 : cX6_has.data.toList.drop 24 = dktX6_has_1 := dk_seg dksX6_has_0 24 rfl rfl
theorem dX6_has_0 : decode cX6_has 0 = .ok (.aload_n 0, 1) := dk_42 (dk_at dksX6_has_0 0 rfl rfl)
theorem dX6_has_1 : decode cX6_has 1 = .ok (.getfield 9, 3) := dk_180 0 9 (dk_at dksX6_has_0 1 rfl rfl)
theorem dX6_has_4 : decode cX6_has 4 = .ok (.ifnonnull 13, 3) := dk_199 0 13 (dk_at dksX6_has_0 4 rfl rfl)
theorem dX6_has_7 : decode cX6_has 7 = .ok (.new 25, 3) := dk_187 0 25 (dk_at dksX6_has_0 7 rfl rfl)
theorem dX6_has_10 : decode cX6_has 10 = .ok (.dup, 1) := dk_89 (dk_at dksX6_has_0 10 rfl rfl)
theorem dX6_has_11 : decode cX6_has 11 = .ok (.bipush (-11), 2) := dk_16 245 (dk_at dksX6_has_0 11 rfl rfl)
theorem dX6_has_13 : decode cX6_has 13 = .ok (.invokespecial 27, 3) := dk_183 0 27 (dk_at dksX6_has_0 13 rfl rfl)
theorem dX6_has_16 : decode cX6_has 16 = .ok (.athrow, 1) := dk_191 (dk_at dksX6_has_0 16 rfl rfl)
theorem dX6_has_17 : decode cX6_has 17 = .ok (.iload_n 1, 1) := dk_27 (dk_at dksX6_has_0 17 rfl rfl)
theorem dX6_has_18 : decode cX6_has 18 = .ok (.iconst 0, 1) := dk_3 (dk_at dksX6_has_0 18 rfl rfl)
theorem dX6_has_19 : decode cX6_has 19 = .ok (.aload_n 0, 1) := dk_42 (dk_at dksX6_has_0 19 rfl rfl)
theorem dX6_has_20 : decode cX6_has 20 = .ok (.invokevirtual 30, 3) := dk_182 0 30 (dk_at dksX6_has_0 20 rfl rfl)
theorem dX6_has_23 : decode cX6_has 23 = .ok (.iconst 1, 1) := dk_4 (dk_at dksX6_has_0 23 rfl rfl)
theorem dX6_has_24 : decode cX6_has 24 = .ok (.isub, 1) := dk_100 (dk_at dksX6_has_1 0 rfl rfl)
theorem dX6_has_25 : decode cX6_has 25 = .ok (.invokestatic 34, 3) := dk_184 0 34 (dk_at dksX6_has_1 1 rfl rfl)
theorem dX6_has_28 : decode cX6_has 28 = .ok (.ifCond .ne 13, 3) := dk_154 0 13 (dk_at dksX6_has_1 4 rfl rfl)
theorem dX6_has_31 : decode cX6_has 31 = .ok (.new 25, 3) := dk_187 0 25 (dk_at dksX6_has_1 7 rfl rfl)
theorem dX6_has_34 : decode cX6_has 34 = .ok (.dup, 1) := dk_89 (dk_at dksX6_has_1 10 rfl rfl)
theorem dX6_has_35 : decode cX6_has 35 = .ok (.bipush (-13), 2) := dk_16 243 (dk_at dksX6_has_1 11 rfl rfl)
theorem dX6_has_37 : decode cX6_has 37 = .ok (.invokespecial 27, 3) := dk_183 0 27 (dk_at dksX6_has_1 13 rfl rfl)
theorem dX6_has_40 : decode cX6_has 40 = .ok (.athrow, 1) := dk_191 (dk_at dksX6_has_1 16 rfl rfl)
theorem dX6_has_41 : decode cX6_has 41 = .ok (.return_, 1) := dk_177 (dk_at dksX6_has_1 17 rfl rfl)
abbrev cX6_size : ByteArray := prog_15_method_2_code
def yX6_size : MethodName := ⟨RX6, "size", "()I"⟩
def dkwX6_size_3 : List UInt8 := [153, 0, 13, 44, 192, 0, 21, 76, 43, 190, 167, 0, 11, 42, 180, 0, 9, 192, 0, 23, 190, 172]
abbrev dktX6_size_3 : List UInt8 := dkwX6_size_3 ++ []
def dkwX6_size_2 : List UInt8 := [193, 0, 19, 153, 0, 11, 44, 192, 0, 19, 76, 43, 190, 172, 42, 180, 0, 9, 77, 44, 193, 0, 21]
abbrev dktX6_size_2 : List UInt8 := dkwX6_size_2 ++ dktX6_size_3
def dkwX6_size_1 : List UInt8 := [77, 44, 193, 0, 17, 153, 0, 11, 44, 192, 0, 17, 76, 43, 190, 172, 42, 180, 0, 9, 77, 44]
abbrev dktX6_size_1 : List UInt8 := dkwX6_size_1 ++ dktX6_size_2
def dkwX6_size_0 : List UInt8 := [42, 180, 0, 9, 77, 44, 193, 0, 15, 153, 0, 11, 44, 192, 0, 15, 76, 43, 190, 172, 42, 180, 0, 9]
abbrev dktX6_size_0 : List UInt8 := dkwX6_size_0 ++ dktX6_size_1
theorem dksX6_size_0 : cX6_size.data.toList.drop 0 = dktX6_size_0 := by decide +kernel
theorem dksX6_size_1 : cX6_size.data.toList.drop 24 = dktX6_size_1 := dk_seg dksX6_size_0 24 rfl rfl
theorem dksX6_size_2 : cX6_size.data.toList.drop 46 = dktX6_size_2 := dk_seg dksX6_size_1 22 rfl rfl
theorem dksX6_size_3 : cX6_size.data.toList.drop 69 = dktX6_size_3 := dk_seg dksX6_size_2 23 rfl rfl
theorem dX6_size_0 : decode cX6_size 0 = .ok (.aload_n 0, 1) := dk_42 (dk_at dksX6_size_0 0 rfl rfl)
theorem dX6_size_1 : decode cX6_size 1 = .ok (.getfield 9, 3) := dk_180 0 9 (dk_at dksX6_size_0 1 rfl rfl)
theorem dX6_size_4 : decode cX6_size 4 = .ok (.astore_n 2, 1) := dk_77 (dk_at dksX6_size_0 4 rfl rfl)
theorem dX6_size_5 : decode cX6_size 5 = .ok (.aload_n 2, 1) := dk_44 (dk_at dksX6_size_0 5 rfl rfl)
theorem dX6_size_6 : decode cX6_size 6 = .ok (.instanceof 15, 3) := dk_193 0 15 (dk_at dksX6_size_0 6 rfl rfl)
theorem dX6_size_9 : decode cX6_size 9 = .ok (.ifCond .eq 11, 3) := dk_153 0 11 (dk_at dksX6_size_0 9 rfl rfl)
theorem dX6_size_12 : decode cX6_size 12 = .ok (.aload_n 2, 1) := dk_44 (dk_at dksX6_size_0 12 rfl rfl)
theorem dX6_size_13 : decode cX6_size 13 = .ok (.checkcast 15, 3) := dk_192 0 15 (dk_at dksX6_size_0 13 rfl rfl)
theorem dX6_size_16 : decode cX6_size 16 = .ok (.astore_n 1, 1) := dk_76 (dk_at dksX6_size_0 16 rfl rfl)
theorem dX6_size_17 : decode cX6_size 17 = .ok (.aload_n 1, 1) := dk_43 (dk_at dksX6_size_0 17 rfl rfl)
theorem dX6_size_18 : decode cX6_size 18 = .ok (.arraylength, 1) := dk_190 (dk_at dksX6_size_0 18 rfl rfl)
theorem dX6_size_19 : decode cX6_size 19 = .ok (.ireturn, 1) := dk_172 (dk_at dksX6_size_0 19 rfl rfl)
theorem dX6_size_20 : decode cX6_size 20 = .ok (.aload_n 0, 1) := dk_42 (dk_at dksX6_size_0 20 rfl rfl)
theorem dX6_size_21 : decode cX6_size 21 = .ok (.getfield 9, 3) := dk_180 0 9 (dk_at dksX6_size_0 21 rfl rfl)
theorem dX6_size_24 : decode cX6_size 24 = .ok (.astore_n 2, 1) := dk_77 (dk_at dksX6_size_1 0 rfl rfl)
theorem dX6_size_25 : decode cX6_size 25 = .ok (.aload_n 2, 1) := dk_44 (dk_at dksX6_size_1 1 rfl rfl)
theorem dX6_size_26 : decode cX6_size 26 = .ok (.instanceof 17, 3) := dk_193 0 17 (dk_at dksX6_size_1 2 rfl rfl)
theorem dX6_size_29 : decode cX6_size 29 = .ok (.ifCond .eq 11, 3) := dk_153 0 11 (dk_at dksX6_size_1 5 rfl rfl)
theorem dX6_size_32 : decode cX6_size 32 = .ok (.aload_n 2, 1) := dk_44 (dk_at dksX6_size_1 8 rfl rfl)
theorem dX6_size_33 : decode cX6_size 33 = .ok (.checkcast 17, 3) := dk_192 0 17 (dk_at dksX6_size_1 9 rfl rfl)
theorem dX6_size_36 : decode cX6_size 36 = .ok (.astore_n 1, 1) := dk_76 (dk_at dksX6_size_1 12 rfl rfl)
theorem dX6_size_37 : decode cX6_size 37 = .ok (.aload_n 1, 1) := dk_43 (dk_at dksX6_size_1 13 rfl rfl)
theorem dX6_size_38 : decode cX6_size 38 = .ok (.arraylength, 1) := dk_190 (dk_at dksX6_size_1 14 rfl rfl)
theorem dX6_size_39 : decode cX6_size 39 = .ok (.ireturn, 1) := dk_172 (dk_at dksX6_size_1 15 rfl rfl)
theorem dX6_size_40 : decode cX6_size 40 = .ok (.aload_n 0, 1) := dk_42 (dk_at dksX6_size_1 16 rfl rfl)
theorem dX6_size_41 : decode cX6_size 41 = .ok (.getfield 9, 3) := dk_180 0 9 (dk_at dksX6_size_1 17 rfl rfl)
theorem dX6_size_44 : decode cX6_size 44 = .ok (.astore_n 2, 1) := dk_77 (dk_at dksX6_size_1 20 rfl rfl)
theorem dX6_size_45 : decode cX6_size 45 = .ok (.aload_n 2, 1) := dk_44 (dk_at dksX6_size_1 21 rfl rfl)
theorem dX6_size_46 : decode cX6_size 46 = .ok (.instanceof 19, 3) := dk_193 0 19 (dk_at dksX6_size_2 0 rfl rfl)
theorem dX6_size_49 : decode cX6_size 49 = .ok (.ifCond .eq 11, 3) := dk_153 0 11 (dk_at dksX6_size_2 3 rfl rfl)
theorem dX6_size_52 : decode cX6_size 52 = .ok (.aload_n 2, 1) := dk_44 (dk_at dksX6_size_2 6 rfl rfl)
theorem dX6_size_53 : decode cX6_size 53 = .ok (.checkcast 19, 3) := dk_192 0 19 (dk_at dksX6_size_2 7 rfl rfl)
theorem dX6_size_56 : decode cX6_size 56 = .ok (.astore_n 1, 1) := dk_76 (dk_at dksX6_size_2 10 rfl rfl)
theorem dX6_size_57 : decode cX6_size 57 = .ok (.aload_n 1, 1) := dk_43 (dk_at dksX6_size_2 11 rfl rfl)
theorem dX6_size_58 : decode cX6_size 58 = .ok (.arraylength, 1) := dk_190 (dk_at dksX6_size_2 12 rfl rfl)
theorem dX6_size_59 : decode cX6_size 59 = .ok (.ireturn, 1) := dk_172 (dk_at dksX6_size_2 13 rfl rfl)
theorem dX6_size_60 : decode cX6_size 60 = .ok (.aload_n 0, 1) := dk_42 (dk_at dksX6_size_2 14 rfl rfl)
theorem dX6_size_61 : decode cX6_size 61 = .ok (.getfield 9, 3) := dk_180 0 9 (dk_at dksX6_size_2 15 rfl rfl)
theorem dX6_size_64 : decode cX6_size 64 = .ok (.astore_n 2, 1) := dk_77 (dk_at dksX6_size_2 18 rfl rfl)
theorem dX6_size_65 : decode cX6_size 65 = .ok (.aload_n 2, 1) := dk_44 (dk_at dksX6_size_2 19 rfl rfl)
theorem dX6_size_66 : decode cX6_size 66 = .ok (.instanceof 21, 3) := dk_193 0 21 (dk_at dksX6_size_2 20 rfl rfl)
theorem dX6_size_69 : decode cX6_size 69 = .ok (.ifCond .eq 13, 3) := dk_153 0 13 (dk_at dksX6_size_3 0 rfl rfl)
theorem dX6_size_72 : decode cX6_size 72 = .ok (.aload_n 2, 1) := dk_44 (dk_at dksX6_size_3 3 rfl rfl)
theorem dX6_size_73 : decode cX6_size 73 = .ok (.checkcast 21, 3) := dk_192 0 21 (dk_at dksX6_size_3 4 rfl rfl)
theorem dX6_size_76 : decode cX6_size 76 = .ok (.astore_n 1, 1) := dk_76 (dk_at dksX6_size_3 7 rfl rfl)
theorem dX6_size_77 : decode cX6_size 77 = .ok (.aload_n 1, 1) := dk_43 (dk_at dksX6_size_3 8 rfl rfl)
theorem dX6_size_78 : decode cX6_size 78 = .ok (.arraylength, 1) := dk_190 (dk_at dksX6_size_3 9 rfl rfl)
theorem dX6_size_79 : decode cX6_size 79 = .ok (.goto 11, 3) := dk_167 0 11 (dk_at dksX6_size_3 10 rfl rfl)
theorem dX6_size_82 : decode cX6_size 82 = .ok (.aload_n 0, 1) := dk_42 (dk_at dksX6_size_3 13 rfl rfl)
theorem dX6_size_83 : decode cX6_size 83 = .ok (.getfield 9, 3) := dk_180 0 9 (dk_at dksX6_size_3 14 rfl rfl)
theorem dX6_size_86 : decode cX6_size 86 = .ok (.checkcast 23, 3) := dk_192 0 23 (dk_at dksX6_size_3 17 rfl rfl)
theorem dX6_size_89 : decode cX6_size 89 = .ok (.arraylength, 1) := dk_190 (dk_at dksX6_size_3 20 rfl rfl)
theorem dX6_size_90 : decode cX6_size 90 = .ok (.ireturn, 1) := dk_172 (dk_at dksX6_size_3 21 rfl rfl)
theorem q72 : (Jvm.Cond.initialized "TermIdeals$Tape") ∈ lw_all := lw_g (lw_at lw_m1 7 rfl) rfl
theorem q227 : (Jvm.Cond.instantiable "TermIdeals$Tape" (1 : Nat)) ∈ lw_all := lw_g (lw_at lw_m1 162 rfl) rfl
theorem q229 : (Jvm.Cond.instanceMethod ({ cls := "TermIdeals$Tape", name := "<init>", desc := "()V" } : Jvm.MethodName)) ∈ lw_all := lw_g (lw_at lw_m1 164 rfl) rfl
theorem q230 : (Jvm.Cond.code ({ cls := "TermIdeals$Tape", name := "<init>", desc := "()V" } : Jvm.MethodName) prog_15_method_1_code (1 : Nat) (Option.none : Option Jvm.ClassFile.FieldType)) ∈ lw_all := lw_g (lw_at lw_m1 165 rfl) rfl
theorem q231 : (Jvm.Cond.methodLink "TermIdeals$Tape" (3 : Nat) ({ cls := "java/lang/Object", name := "<init>", desc := "()V" } : Jvm.MethodName)) ∈ lw_all := lw_g (lw_at lw_m1 166 rfl) rfl
theorem q232 : (Jvm.Cond.fieldLink "TermIdeals$Tape" (9 : Nat) "TermIdeals$Tape" "row" "Ljava/lang/Object;") ∈ lw_all := lw_g (lw_at lw_m1 167 rfl) rfl
theorem q234 : (Jvm.Cond.lays "TermIdeals$Tape" "TermIdeals$Tape" "row" "Ljava/lang/Object;") ∈ lw_all := lw_g (lw_at lw_m1 169 rfl) rfl
theorem q235 : (Jvm.Cond.soleField "TermIdeals$Tape" "row") ∈ lw_all := lw_g (lw_at lw_m1 170 rfl) rfl
theorem q236 : (Jvm.Cond.superclass "TermIdeals$Tape" "java/lang/Object") ∈ lw_all := lw_g (lw_at lw_m1 171 rfl) rfl
theorem q1021 : (Jvm.Cond.privateMethod ({ cls := "TermIdeals$Tape", name := "has", desc := "(I)V" } : Jvm.MethodName)) ∈ lw_tbl := lw_at lw_m4 236 rfl
theorem q1022 : (Jvm.Cond.instanceMethod ({ cls := "TermIdeals$Tape", name := "has", desc := "(I)V" } : Jvm.MethodName)) ∈ lw_all := lw_g (lw_at lw_m4 237 rfl) rfl
theorem q1023 : (Jvm.Cond.code ({ cls := "TermIdeals$Tape", name := "has", desc := "(I)V" } : Jvm.MethodName) prog_15_method_3_code (2 : Nat) (Option.none : Option Jvm.ClassFile.FieldType)) ∈ lw_all := lw_g (lw_at lw_m4 238 rfl) rfl
theorem q1024 : (Jvm.Cond.classLink "TermIdeals$Tape" (25 : Nat) "TermIdeals$Off") ∈ lw_all := lw_g (lw_at lw_m4 239 rfl) rfl
theorem q1033 : (Jvm.Cond.methodLink "TermIdeals$Tape" (27 : Nat) ({ cls := "TermIdeals$Off", name := "<init>", desc := "(I)V" } : Jvm.MethodName)) ∈ lw_all := lw_g (lw_at lw_m5 8 rfl) rfl
theorem q1043 : (Jvm.Cond.methodLink "TermIdeals$Tape" (30 : Nat) ({ cls := "TermIdeals$Tape", name := "size", desc := "()I" } : Jvm.MethodName)) ∈ lw_all := lw_g (lw_at lw_m5 18 rfl) rfl
theorem q1044 : (Jvm.Cond.privateMethod ({ cls := "TermIdeals$Tape", name := "size", desc := "()I" } : Jvm.MethodName)) ∈ lw_tbl := lw_at lw_m5 19 rfl
theorem q1045 : (Jvm.Cond.instanceMethod ({ cls := "TermIdeals$Tape", name := "size", desc := "()I" } : Jvm.MethodName)) ∈ lw_all := lw_g (lw_at lw_m5 20 rfl) rfl
theorem q1046 : (Jvm.Cond.code ({ cls := "TermIdeals$Tape", name := "size", desc := "()I" } : Jvm.MethodName) prog_15_method_2_code (3 : Nat) (Option.some Jvm.ClassFile.FieldType.int)) ∈ lw_all := lw_g (lw_at lw_m5 21 rfl) rfl
theorem q1047 : (Jvm.Cond.classLink "TermIdeals$Tape" (15 : Nat) "[B") ∈ lw_all := lw_g (lw_at lw_m5 22 rfl) rfl
theorem q1048 : (Jvm.Cond.classLink "TermIdeals$Tape" (17 : Nat) "[S") ∈ lw_all := lw_g (lw_at lw_m5 23 rfl) rfl
theorem q1049 : (Jvm.Cond.classLink "TermIdeals$Tape" (19 : Nat) "[I") ∈ lw_all := lw_g (lw_at lw_m5 24 rfl) rfl
theorem q1050 : (Jvm.Cond.classLink "TermIdeals$Tape" (21 : Nat) "[J") ∈ lw_all := lw_g (lw_at lw_m5 25 rfl) rfl
theorem q1051 : (Jvm.Cond.classLink "TermIdeals$Tape" (23 : Nat) "[Z") ∈ lw_all := lw_g (lw_at lw_m5 26 rfl) rfl
theorem q1052 : (Jvm.Cond.methodLinkNest "TermIdeals$Tape" (34 : Nat) ({ cls := "TermIdeals", name := "in", desc := "(III)Z" } : Jvm.MethodName) "TermIdeals") ∈ lw_tbl := lw_at lw_m5 27 rfl
theorem in_X6 : ∀ w ∈ wsX60, w ∈ lw_all := lw_in wsX60 [234] (by decide +kernel) (by decide +kernel)
/-! TermIdeals$Empty -/
set_option maxRecDepth 100000
def RX8 : String := "TermIdeals$Empty"
def TX8 : u_T := fun k => match k with
  | 0 => ("java/lang/Throwable", "cause", "Ljava/lang/Throwable;", false)
  | 1 => ("java/lang/Throwable", "stackTrace", "[Ljava/lang/StackTraceElement;", false)
  | 2 => ("java/lang/Throwable", "suppressedExceptions", "Ljava/util/List;", false)
  | 3 => ("java/lang/Throwable", "detailMessage", "Ljava/lang/String;", false)
  | 4 => ("java/lang/Throwable", "backtrace", "Ljava/lang/Object;", false)
  | _ => ("java/lang/Throwable", "depth", "I", false)
def tyX8 : Nat → FieldType := fun k => match k with
  | 0 => .object "java/lang/Throwable"
  | 1 => .array (.object "java/lang/StackTraceElement")
  | 2 => .object "java/util/List"
  | 3 => .object "java/lang/String"
  | 4 => .object "java/lang/Object"
  | _ => .int
abbrev wsX80 : List Cond := u_ws RX8 TX8 6
theorem nmX8 : ∀ a, a < 6 → ∀ b, b < 6 → a ≠ b → (TX8 a).2.1 ≠ (TX8 b).2.1 := by decide +kernel
theorem tyX8_ok : ∀ k, k < 6 → parseFieldDescriptor (TX8 k).2.2.1 = some (tyX8 k) := by decide +kernel
abbrev cX8_init : ByteArray := prog_5_method_1_code
def yX8_init : MethodName := ⟨RX8, "<init>", "()V"⟩
theorem dX8_init_0 : decode cX8_init 0 = .ok (.aload_n 0, 1) := by decide +kernel
theorem dX8_init_1 : decode cX8_init 1 = .ok (.invokespecial 1, 3) := by decide +kernel
theorem dX8_init_4 : decode cX8_init 4 = .ok (.return_, 1) := by decide +kernel
theorem q77 : (Jvm.Cond.initialized "TermIdeals$Empty") ∈ lw_all := lw_g (lw_at lw_m1 12 rfl) rfl
theorem q362 : (Jvm.Cond.instantiable "TermIdeals$Empty" (6 : Nat)) ∈ lw_all := lw_g (lw_at lw_m2 57 rfl) rfl
theorem q363 : (Jvm.Cond.castable "TermIdeals$Empty" "TermIdeals$Empty") ∈ lw_tbl := lw_at lw_m2 58 rfl
theorem q368 : (Jvm.Cond.selects "TermIdeals$Empty" ({ cls := "java/lang/Throwable", name := "fillInStackTrace", desc := "(I)Ljava/lang/Throwable;" } : Jvm.MethodName) ({ cls := "java/lang/Throwable", name := "fillInStackTrace", desc := "(I)Ljava/lang/Throwable;" } : Jvm.MethodName)) ∈ lw_all := lw_g (lw_at lw_m2 63 rfl) rfl
theorem q369 : (Jvm.Cond.selects "TermIdeals$Empty" ({ cls := "java/lang/Throwable", name := "fillInStackTrace", desc := "()Ljava/lang/Throwable;" } : Jvm.MethodName) ({ cls := "java/lang/Throwable", name := "fillInStackTrace", desc := "()Ljava/lang/Throwable;" } : Jvm.MethodName)) ∈ lw_all := lw_g (lw_at lw_m2 64 rfl) rfl
theorem q370 : (Jvm.Cond.lays "TermIdeals$Empty" "java/lang/Throwable" "cause" "Ljava/lang/Throwable;") ∈ lw_all := lw_g (lw_at lw_m2 65 rfl) rfl
theorem q372 : (Jvm.Cond.lays "TermIdeals$Empty" "java/lang/Throwable" "stackTrace" "[Ljava/lang/StackTraceElement;") ∈ lw_all := lw_g (lw_at lw_m2 67 rfl) rfl
theorem q374 : (Jvm.Cond.lays "TermIdeals$Empty" "java/lang/Throwable" "suppressedExceptions" "Ljava/util/List;") ∈ lw_all := lw_g (lw_at lw_m2 69 rfl) rfl
theorem q376 : (Jvm.Cond.lays "TermIdeals$Empty" "java/lang/Throwable" "detailMessage" "Ljava/lang/String;") ∈ lw_all := lw_g (lw_at lw_m2 71 rfl) rfl
theorem q378 : (Jvm.Cond.lays "TermIdeals$Empty" "java/lang/Throwable" "backtrace" "Ljava/lang/Object;") ∈ lw_all := lw_g (lw_at lw_m2 73 rfl) rfl
theorem q422 : (Jvm.Cond.instanceMethod ({ cls := "TermIdeals$Empty", name := "<init>", desc := "()V" } : Jvm.MethodName)) ∈ lw_all := lw_g (lw_at lw_m2 117 rfl) rfl
theorem q423 : (Jvm.Cond.code ({ cls := "TermIdeals$Empty", name := "<init>", desc := "()V" } : Jvm.MethodName) prog_5_method_1_code (1 : Nat) (Option.none : Option Jvm.ClassFile.FieldType)) ∈ lw_all := lw_g (lw_at lw_m2 118 rfl) rfl
theorem q424 : (Jvm.Cond.methodLink "TermIdeals$Empty" (1 : Nat) ({ cls := "java/lang/Exception", name := "<init>", desc := "()V" } : Jvm.MethodName)) ∈ lw_all := lw_g (lw_at lw_m2 119 rfl) rfl
theorem q437 : (Jvm.Cond.lays "TermIdeals$Empty" "java/lang/Throwable" "depth" "I") ∈ lw_all := lw_g (lw_at lw_m2 132 rfl) rfl
theorem q440 : (Jvm.Cond.superclass "TermIdeals$Empty" "java/lang/Exception") ∈ lw_all := lw_g (lw_at lw_m2 135 rfl) rfl
theorem q725 : (Jvm.Cond.selects "TermIdeals$Empty" ({ cls := "java/lang/Throwable", name := "getCause", desc := "()Ljava/lang/Throwable;" } : Jvm.MethodName) ({ cls := "java/lang/Throwable", name := "getCause", desc := "()Ljava/lang/Throwable;" } : Jvm.MethodName)) ∈ lw_all := lw_g (lw_at lw_m3 180 rfl) rfl
theorem in_X8 : ∀ w ∈ wsX80, w ∈ lw_all := lw_in wsX80 [370, 372, 374, 376, 378, 437] (by decide +kernel) (by decide +kernel)
/-! TermIdeals$Reader -/
set_option maxRecDepth 100000
def RX9 : String := "TermIdeals$Reader"
def TX9 : u_T := fun k => match k with
  | 0 => ("TermIdeals$Reader", "text", "[B", true)
  | 1 => ("TermIdeals$Reader", "size", "I", true)
  | 2 => ("TermIdeals$Reader", "at", "I", false)
  | 3 => ("TermIdeals$Reader", "read", "[LTermIdeals$Clause;", true)
  | _ => ("TermIdeals$Reader", "many", "I", false)
def tyX9 : Nat → FieldType := fun k => match k with
  | 0 => .array .byte
  | 1 => .int
  | 2 => .int
  | 3 => .array (.object "TermIdeals$Clause")
  | _ => .int
abbrev wsX90 : List Cond := u_ws RX9 TX9 5
theorem nmX9 : ∀ a, a < 5 → ∀ b, b < 5 → a ≠ b → (TX9 a).2.1 ≠ (TX9 b).2.1 := by decide +kernel
theorem tyX9_ok : ∀ k, k < 5 → parseFieldDescriptor (TX9 k).2.2.1 = some (tyX9 k) := by decide +kernel
abbrev cX9_init : ByteArray := prog_11_method_1_code
def yX9_init : MethodName := ⟨RX9, "<init>", "([BI)V"⟩
def dkwX9_init_0 : List UInt8 := [42, 183, 0, 3, 42, 16, 12, 189, 0, 9, 181, 0, 11, 42, 43, 181, 0, 17, 42, 28, 181, 0, 21, 177]
abbrev dktX9_init_0 : List UInt8 := dkwX9_init_0 ++ []
theorem dksX9_init_0 : cX9_init.data.toList.drop 0 = dktX9_init_0 := by decide +kernel
theorem dX9_init_0 : decode cX9_init 0 = .ok (.aload_n 0, 1) := dk_42 (dk_at dksX9_init_0 0 rfl rfl)
theorem dX9_init_1 : decode cX9_init 1 = .ok (.invokespecial 3, 3) := dk_183 0 3 (dk_at dksX9_init_0 1 rfl rfl)
theorem dX9_init_4 : decode cX9_init 4 = .ok (.aload_n 0, 1) := dk_42 (dk_at dksX9_init_0 4 rfl rfl)
theorem dX9_init_5 : decode cX9_init 5 = .ok (.bipush 12, 2) := dk_16 12 (dk_at dksX9_init_0 5 rfl rfl)
theorem dX9_init_7 : decode cX9_init 7 = .ok (.anewarray 9, 3) := dk_189 0 9 (dk_at dksX9_init_0 7 rfl rfl)
theorem dX9_init_10 : decode cX9_init 10 = .ok (.putfield 11, 3) := dk_181 0 11 (dk_at dksX9_init_0 10 rfl rfl)
theorem dX9_init_13 : decode cX9_init 13 = .ok (.aload_n 0, 1) := dk_42 (dk_at dksX9_init_0 13 rfl rfl)
theorem dX9_init_14 : decode cX9_init 14 = .ok (.aload_n 1, 1) := dk_43 (dk_at dksX9_init_0 14 rfl rfl)
theorem dX9_init_15 : decode cX9_init 15 = .ok (.putfield 17, 3) := dk_181 0 17 (dk_at dksX9_init_0 15 rfl rfl)
theorem dX9_init_18 : decode cX9_init 18 = .ok (.aload_n 0, 1) := dk_42 (dk_at dksX9_init_0 18 rfl rfl)
theorem dX9_init_19 : decode cX9_init 19 = .ok (.iload_n 2, 1) := dk_28 (dk_at dksX9_init_0 19 rfl rfl)
theorem dX9_init_20 : decode cX9_init 20 = .ok (.putfield 21, 3) := dk_181 0 21 (dk_at dksX9_init_0 20 rfl rfl)
theorem dX9_init_23 : decode cX9_init 23 = .ok (.return_, 1) := dk_177 (dk_at dksX9_init_0 23 rfl rfl)
abbrev cX9_whole : ByteArray := prog_11_method_5_code
def yX9_whole : MethodName := ⟨RX9, "whole", "()LTermIdeals$Reader;"⟩
def dkwX9_whole_3 : List UInt8 := [180, 0, 25, 42, 180, 0, 21, 162, 0, 15, 187, 0, 36, 89, 42, 180, 0, 25, 183, 0, 38, 191, 42, 176]
abbrev dktX9_whole_3 : List UInt8 := dkwX9_whole_3 ++ []
def dkwX9_whole_2 : List UInt8 := [180, 0, 51, 42, 182, 0, 47, 83, 42, 89, 180, 0, 51, 4, 96, 181, 0, 51, 167, 255, 205, 42]
abbrev dktX9_whole_2 : List UInt8 := dkwX9_whole_2 ++ dktX9_whole_3
def dkwX9_whole_1 : List UInt8 := [42, 182, 0, 28, 16, 59, 160, 0, 39, 42, 89, 180, 0, 25, 4, 96, 181, 0, 25, 42, 180, 0, 11, 42]
abbrev dktX9_whole_1 : List UInt8 := dkwX9_whole_1 ++ dktX9_whole_2
def dkwX9_whole_0 : List UInt8 := [42, 180, 0, 11, 3, 42, 182, 0, 47, 83, 42, 4, 181, 0, 51, 42, 180, 0, 51, 16, 12, 162, 0, 48]
abbrev dktX9_whole_0 : List UInt8 := dkwX9_whole_0 ++ dktX9_whole_1
theorem dksX9_whole_0 : cX9_whole.data.toList.drop 0 = dktX9_whole_0 := by decide +kernel
theorem dksX9_whole_1 : cX9_whole.data.toList.drop 24 = dktX9_whole_1 := dk_seg dksX9_whole_0 24 rfl rfl
theorem dksX9_whole_2 : cX9_whole.data.toList.drop 48 = dktX9_whole_2 := dk_seg dksX9_whole_1 24 rfl rfl
theorem dksX9_whole_3 : cX9_whole.data.toList.drop 70 = dktX9_whole_3 := dk_seg dksX9_whole_2 22 rfl rfl
theorem dX9_whole_0 : decode cX9_whole 0 = .ok (.aload_n 0, 1) := dk_42 (dk_at dksX9_whole_0 0 rfl rfl)
theorem dX9_whole_1 : decode cX9_whole 1 = .ok (.getfield 11, 3) := dk_180 0 11 (dk_at dksX9_whole_0 1 rfl rfl)
theorem dX9_whole_4 : decode cX9_whole 4 = .ok (.iconst 0, 1) := dk_3 (dk_at dksX9_whole_0 4 rfl rfl)
theorem dX9_whole_5 : decode cX9_whole 5 = .ok (.aload_n 0, 1) := dk_42 (dk_at dksX9_whole_0 5 rfl rfl)
theorem dX9_whole_6 : decode cX9_whole 6 = .ok (.invokevirtual 47, 3) := dk_182 0 47 (dk_at dksX9_whole_0 6 rfl rfl)
theorem dX9_whole_9 : decode cX9_whole 9 = .ok (.aastore, 1) := dk_83 (dk_at dksX9_whole_0 9 rfl rfl)
theorem dX9_whole_10 : decode cX9_whole 10 = .ok (.aload_n 0, 1) := dk_42 (dk_at dksX9_whole_0 10 rfl rfl)
theorem dX9_whole_11 : decode cX9_whole 11 = .ok (.iconst 1, 1) := dk_4 (dk_at dksX9_whole_0 11 rfl rfl)
theorem dX9_whole_12 : decode cX9_whole 12 = .ok (.putfield 51, 3) := dk_181 0 51 (dk_at dksX9_whole_0 12 rfl rfl)
theorem dX9_whole_15 : decode cX9_whole 15 = .ok (.aload_n 0, 1) := dk_42 (dk_at dksX9_whole_0 15 rfl rfl)
theorem dX9_whole_16 : decode cX9_whole 16 = .ok (.getfield 51, 3) := dk_180 0 51 (dk_at dksX9_whole_0 16 rfl rfl)
theorem dX9_whole_19 : decode cX9_whole 19 = .ok (.bipush 12, 2) := dk_16 12 (dk_at dksX9_whole_0 19 rfl rfl)
theorem dX9_whole_21 : decode cX9_whole 21 = .ok (.if_icmp .ge 48, 3) := dk_162 0 48 (dk_at dksX9_whole_0 21 rfl rfl)
theorem dX9_whole_24 : decode cX9_whole 24 = .ok (.aload_n 0, 1) := dk_42 (dk_at dksX9_whole_1 0 rfl rfl)
theorem dX9_whole_25 : decode cX9_whole 25 = .ok (.invokevirtual 28, 3) := dk_182 0 28 (dk_at dksX9_whole_1 1 rfl rfl)
theorem dX9_whole_28 : decode cX9_whole 28 = .ok (.bipush 59, 2) := dk_16 59 (dk_at dksX9_whole_1 4 rfl rfl)
theorem dX9_whole_30 : decode cX9_whole 30 = .ok (.if_icmp .ne 39, 3) := dk_160 0 39 (dk_at dksX9_whole_1 6 rfl rfl)
theorem dX9_whole_33 : decode cX9_whole 33 = .ok (.aload_n 0, 1) := dk_42 (dk_at dksX9_whole_1 9 rfl rfl)
theorem dX9_whole_34 : decode cX9_whole 34 = .ok (.dup, 1) := dk_89 (dk_at dksX9_whole_1 10 rfl rfl)
theorem dX9_whole_35 : decode cX9_whole 35 = .ok (.getfield 25, 3) := dk_180 0 25 (dk_at dksX9_whole_1 11 rfl rfl)
theorem dX9_whole_38 : decode cX9_whole 38 = .ok (.iconst 1, 1) := dk_4 (dk_at dksX9_whole_1 14 rfl rfl)
theorem dX9_whole_39 : decode cX9_whole 39 = .ok (.iadd, 1) := dk_96 (dk_at dksX9_whole_1 15 rfl rfl)
theorem dX9_whole_40 : decode cX9_whole 40 = .ok (.putfield 25, 3) := dk_181 0 25 (dk_at dksX9_whole_1 16 rfl rfl)
theorem dX9_whole_43 : decode cX9_whole 43 = .ok (.aload_n 0, 1) := dk_42 (dk_at dksX9_whole_1 19 rfl rfl)
theorem dX9_whole_44 : decode cX9_whole 44 = .ok (.getfield 11, 3) := dk_180 0 11 (dk_at dksX9_whole_1 20 rfl rfl)
theorem dX9_whole_47 : decode cX9_whole 47 = .ok (.aload_n 0, 1) := dk_42 (dk_at dksX9_whole_1 23 rfl rfl)
theorem dX9_whole_48 : decode cX9_whole 48 = .ok (.getfield 51, 3) := dk_180 0 51 (dk_at dksX9_whole_2 0 rfl rfl)
theorem dX9_whole_51 : decode cX9_whole 51 = .ok (.aload_n 0, 1) := dk_42 (dk_at dksX9_whole_2 3 rfl rfl)
theorem dX9_whole_52 : decode cX9_whole 52 = .ok (.invokevirtual 47, 3) := dk_182 0 47 (dk_at dksX9_whole_2 4 rfl rfl)
theorem dX9_whole_55 : decode cX9_whole 55 = .ok (.aastore, 1) := dk_83 (dk_at dksX9_whole_2 7 rfl rfl)
theorem dX9_whole_56 : decode cX9_whole 56 = .ok (.aload_n 0, 1) := dk_42 (dk_at dksX9_whole_2 8 rfl rfl)
theorem dX9_whole_57 : decode cX9_whole 57 = .ok (.dup, 1) := dk_89 (dk_at dksX9_whole_2 9 rfl rfl)
theorem dX9_whole_58 : decode cX9_whole 58 = .ok (.getfield 51, 3) := dk_180 0 51 (dk_at dksX9_whole_2 10 rfl rfl)
theorem dX9_whole_61 : decode cX9_whole 61 = .ok (.iconst 1, 1) := dk_4 (dk_at dksX9_whole_2 13 rfl rfl)
theorem dX9_whole_62 : decode cX9_whole 62 = .ok (.iadd, 1) := dk_96 (dk_at dksX9_whole_2 14 rfl rfl)
theorem dX9_whole_63 : decode cX9_whole 63 = .ok (.putfield 51, 3) := dk_181 0 51 (dk_at dksX9_whole_2 15 rfl rfl)
theorem dX9_whole_66 : decode cX9_whole 66 = .ok (.goto (-51), 3) := dk_167 255 205 (dk_at dksX9_whole_2 18 rfl rfl)
theorem dX9_whole_69 : decode cX9_whole 69 = .ok (.aload_n 0, 1) := dk_42 (dk_at dksX9_whole_2 21 rfl rfl)
theorem dX9_whole_70 : decode cX9_whole 70 = .ok (.getfield 25, 3) := dk_180 0 25 (dk_at dksX9_whole_3 0 rfl rfl)
theorem dX9_whole_73 : decode cX9_whole 73 = .ok (.aload_n 0, 1) := dk_42 (dk_at dksX9_whole_3 3 rfl rfl)
theorem dX9_whole_74 : decode cX9_whole 74 = .ok (.getfield 21, 3) := dk_180 0 21 (dk_at dksX9_whole_3 4 rfl rfl)
theorem dX9_whole_77 : decode cX9_whole 77 = .ok (.if_icmp .ge 15, 3) := dk_162 0 15 (dk_at dksX9_whole_3 7 rfl rfl)
theorem dX9_whole_80 : decode cX9_whole 80 = .ok (.new 36, 3) := dk_187 0 36 (dk_at dksX9_whole_3 10 rfl rfl)
theorem dX9_whole_83 : decode cX9_whole 83 = .ok (.dup, 1) := dk_89 (dk_at dksX9_whole_3 13 rfl rfl)
theorem dX9_whole_84 : decode cX9_whole 84 = .ok (.aload_n 0, 1) := dk_42 (dk_at dksX9_whole_3 14 rfl rfl)
theorem dX9_whole_85 : decode cX9_whole 85 = .ok (.getfield 25, 3) := dk_180 0 25 (dk_at dksX9_whole_3 15 rfl rfl)
theorem dX9_whole_88 : decode cX9_whole 88 = .ok (.invokespecial 38, 3) := dk_183 0 38 (dk_at dksX9_whole_3 18 rfl rfl)
theorem dX9_whole_91 : decode cX9_whole 91 = .ok (.athrow, 1) := dk_191 (dk_at dksX9_whole_3 21 rfl rfl)
theorem dX9_whole_92 : decode cX9_whole 92 = .ok (.aload_n 0, 1) := dk_42 (dk_at dksX9_whole_3 22 rfl rfl)
theorem dX9_whole_93 : decode cX9_whole 93 = .ok (.areturn, 1) := dk_176 (dk_at dksX9_whole_3 23 rfl rfl)
abbrev cX9_clause : ByteArray := prog_11_method_4_code
def yX9_clause : MethodName := ⟨RX9, "clause", "()LTermIdeals$Clause;"⟩
def dkwX9_clause_5 : List UInt8 := [183, 0, 44, 176, 187, 0, 36, 89, 28, 183, 0, 38, 191]
abbrev dktX9_clause_5 : List UInt8 := dkwX9_clause_5 ++ []
def dkwX9_clause_4 : List UInt8 := [187, 0, 9, 89, 27, 42, 182, 0, 41, 3, 3, 183, 0, 44, 176, 187, 0, 9, 89, 27, 3, 3, 3]
abbrev dktX9_clause_4 : List UInt8 := dkwX9_clause_4 ++ dktX9_clause_5
def dkwX9_clause_3 : List UInt8 := [183, 0, 44, 176, 42, 182, 0, 41, 62, 187, 0, 9, 89, 27, 29, 42, 182, 0, 41, 3, 183, 0, 44, 176]
abbrev dktX9_clause_3 : List UInt8 := dkwX9_clause_3 ++ dktX9_clause_4
def dkwX9_clause_2 : List UInt8 := [42, 182, 0, 41, 62, 42, 182, 0, 41, 54, 4, 187, 0, 9, 89, 27, 29, 21, 4, 42, 182, 0, 41]
abbrev dktX9_clause_2 : List UInt8 := dkwX9_clause_2 ++ dktX9_clause_3
def dkwX9_clause_1 : List UInt8 := [171, 0, 0, 0, 0, 0, 133, 0, 0, 0, 6, 0, 0, 0, 43, 0, 0, 0, 59, 0, 0, 0, 45, 0, 0, 0, 86, 0, 0, 0, 99, 0, 0, 0, 106, 0, 0, 0, 109, 0, 0, 0, 106, 0, 0, 0, 117, 0, 0, 0, 121, 0, 0, 0, 122, 0, 0, 0, 106]
abbrev dktX9_clause_1 : List UInt8 := dkwX9_clause_1 ++ dktX9_clause_2
def dkwX9_clause_0 : List UInt8 := [42, 182, 0, 28, 60, 42, 180, 0, 25, 61, 42, 89, 180, 0, 25, 4, 96, 181, 0, 25, 27]
abbrev dktX9_clause_0 : List UInt8 := dkwX9_clause_0 ++ dktX9_clause_1
theorem dksX9_clause_0 : cX9_clause.data.toList.drop 0 = dktX9_clause_0 := by decide +kernel
theorem dksX9_clause_1 : cX9_clause.data.toList.drop 21 = dktX9_clause_1 := dk_seg dksX9_clause_0 21 rfl rfl
theorem dksX9_clause_2 : cX9_clause.data.toList.drop 80 = dktX9_clause_2 := dk_seg dksX9_clause_1 59 rfl rfl
theorem dksX9_clause_3 : cX9_clause.data.toList.drop 103 = dktX9_clause_3 := dk_seg dksX9_clause_2 23 rfl rfl
theorem dksX9_clause_4 : cX9_clause.data.toList.drop 127 = dktX9_clause_4 := dk_seg dksX9_clause_3 24 rfl rfl
theorem dksX9_clause_5 : cX9_clause.data.toList.drop 150 = dktX9_clause_5 := dk_seg dksX9_clause_4 23 rfl rfl
theorem dX9_clause_0 : decode cX9_clause 0 = .ok (.aload_n 0, 1) := dk_42 (dk_at dksX9_clause_0 0 rfl rfl)
theorem dX9_clause_1 : decode cX9_clause 1 = .ok (.invokevirtual 28, 3) := dk_182 0 28 (dk_at dksX9_clause_0 1 rfl rfl)
theorem dX9_clause_4 : decode cX9_clause 4 = .ok (.istore_n 1, 1) := dk_60 (dk_at dksX9_clause_0 4 rfl rfl)
theorem dX9_clause_5 : decode cX9_clause 5 = .ok (.aload_n 0, 1) := dk_42 (dk_at dksX9_clause_0 5 rfl rfl)
theorem dX9_clause_6 : decode cX9_clause 6 = .ok (.getfield 25, 3) := dk_180 0 25 (dk_at dksX9_clause_0 6 rfl rfl)
theorem dX9_clause_9 : decode cX9_clause 9 = .ok (.istore_n 2, 1) := dk_61 (dk_at dksX9_clause_0 9 rfl rfl)
theorem dX9_clause_10 : decode cX9_clause 10 = .ok (.aload_n 0, 1) := dk_42 (dk_at dksX9_clause_0 10 rfl rfl)
theorem dX9_clause_11 : decode cX9_clause 11 = .ok (.dup, 1) := dk_89 (dk_at dksX9_clause_0 11 rfl rfl)
theorem dX9_clause_12 : decode cX9_clause 12 = .ok (.getfield 25, 3) := dk_180 0 25 (dk_at dksX9_clause_0 12 rfl rfl)
theorem dX9_clause_15 : decode cX9_clause 15 = .ok (.iconst 1, 1) := dk_4 (dk_at dksX9_clause_0 15 rfl rfl)
theorem dX9_clause_16 : decode cX9_clause 16 = .ok (.iadd, 1) := dk_96 (dk_at dksX9_clause_0 16 rfl rfl)
theorem dX9_clause_17 : decode cX9_clause 17 = .ok (.putfield 25, 3) := dk_181 0 25 (dk_at dksX9_clause_0 17 rfl rfl)
theorem dX9_clause_20 : decode cX9_clause 20 = .ok (.iload_n 1, 1) := dk_27 (dk_at dksX9_clause_0 20 rfl rfl)
theorem dX9_clause_21 : decode cX9_clause 21 = .ok (.lookupswitch 133 #[(43, 59), (45, 86), (99, 106), (109, 106), (117, 121), (122, 106)], 59) := by decide +kernel
theorem dX9_clause_80 : decode cX9_clause 80 = .ok (.aload_n 0, 1) := dk_42 (dk_at dksX9_clause_2 0 rfl rfl)
theorem dX9_clause_81 : decode cX9_clause 81 = .ok (.invokevirtual 41, 3) := dk_182 0 41 (dk_at dksX9_clause_2 1 rfl rfl)
theorem dX9_clause_84 : decode cX9_clause 84 = .ok (.istore_n 3, 1) := dk_62 (dk_at dksX9_clause_2 4 rfl rfl)
theorem dX9_clause_85 : decode cX9_clause 85 = .ok (.aload_n 0, 1) := dk_42 (dk_at dksX9_clause_2 5 rfl rfl)
theorem dX9_clause_86 : decode cX9_clause 86 = .ok (.invokevirtual 41, 3) := dk_182 0 41 (dk_at dksX9_clause_2 6 rfl rfl)
theorem dX9_clause_89 : decode cX9_clause 89 = .ok (.istore 4, 2) := dk_54 4 (dk_at dksX9_clause_2 9 rfl rfl)
theorem dX9_clause_91 : decode cX9_clause 91 = .ok (.new 9, 3) := dk_187 0 9 (dk_at dksX9_clause_2 11 rfl rfl)
theorem dX9_clause_94 : decode cX9_clause 94 = .ok (.dup, 1) := dk_89 (dk_at dksX9_clause_2 14 rfl rfl)
theorem dX9_clause_95 : decode cX9_clause 95 = .ok (.iload_n 1, 1) := dk_27 (dk_at dksX9_clause_2 15 rfl rfl)
theorem dX9_clause_96 : decode cX9_clause 96 = .ok (.iload_n 3, 1) := dk_29 (dk_at dksX9_clause_2 16 rfl rfl)
theorem dX9_clause_97 : decode cX9_clause 97 = .ok (.iload 4, 2) := dk_21 4 (dk_at dksX9_clause_2 17 rfl rfl)
theorem dX9_clause_99 : decode cX9_clause 99 = .ok (.aload_n 0, 1) := dk_42 (dk_at dksX9_clause_2 19 rfl rfl)
theorem dX9_clause_100 : decode cX9_clause 100 = .ok (.invokevirtual 41, 3) := dk_182 0 41 (dk_at dksX9_clause_2 20 rfl rfl)
theorem dX9_clause_103 : decode cX9_clause 103 = .ok (.invokespecial 44, 3) := dk_183 0 44 (dk_at dksX9_clause_3 0 rfl rfl)
theorem dX9_clause_106 : decode cX9_clause 106 = .ok (.areturn, 1) := dk_176 (dk_at dksX9_clause_3 3 rfl rfl)
theorem dX9_clause_107 : decode cX9_clause 107 = .ok (.aload_n 0, 1) := dk_42 (dk_at dksX9_clause_3 4 rfl rfl)
theorem dX9_clause_108 : decode cX9_clause 108 = .ok (.invokevirtual 41, 3) := dk_182 0 41 (dk_at dksX9_clause_3 5 rfl rfl)
theorem dX9_clause_111 : decode cX9_clause 111 = .ok (.istore_n 3, 1) := dk_62 (dk_at dksX9_clause_3 8 rfl rfl)
theorem dX9_clause_112 : decode cX9_clause 112 = .ok (.new 9, 3) := dk_187 0 9 (dk_at dksX9_clause_3 9 rfl rfl)
theorem dX9_clause_115 : decode cX9_clause 115 = .ok (.dup, 1) := dk_89 (dk_at dksX9_clause_3 12 rfl rfl)
theorem dX9_clause_116 : decode cX9_clause 116 = .ok (.iload_n 1, 1) := dk_27 (dk_at dksX9_clause_3 13 rfl rfl)
theorem dX9_clause_117 : decode cX9_clause 117 = .ok (.iload_n 3, 1) := dk_29 (dk_at dksX9_clause_3 14 rfl rfl)
theorem dX9_clause_118 : decode cX9_clause 118 = .ok (.aload_n 0, 1) := dk_42 (dk_at dksX9_clause_3 15 rfl rfl)
theorem dX9_clause_119 : decode cX9_clause 119 = .ok (.invokevirtual 41, 3) := dk_182 0 41 (dk_at dksX9_clause_3 16 rfl rfl)
theorem dX9_clause_122 : decode cX9_clause 122 = .ok (.iconst 0, 1) := dk_3 (dk_at dksX9_clause_3 19 rfl rfl)
theorem dX9_clause_123 : decode cX9_clause 123 = .ok (.invokespecial 44, 3) := dk_183 0 44 (dk_at dksX9_clause_3 20 rfl rfl)
theorem dX9_clause_126 : decode cX9_clause 126 = .ok (.areturn, 1) := dk_176 (dk_at dksX9_clause_3 23 rfl rfl)
theorem dX9_clause_127 : decode cX9_clause 127 = .ok (.new 9, 3) := dk_187 0 9 (dk_at dksX9_clause_4 0 rfl rfl)
theorem dX9_clause_130 : decode cX9_clause 130 = .ok (.dup, 1) := dk_89 (dk_at dksX9_clause_4 3 rfl rfl)
theorem dX9_clause_131 : decode cX9_clause 131 = .ok (.iload_n 1, 1) := dk_27 (dk_at dksX9_clause_4 4 rfl rfl)
theorem dX9_clause_132 : decode cX9_clause 132 = .ok (.aload_n 0, 1) := dk_42 (dk_at dksX9_clause_4 5 rfl rfl)
theorem dX9_clause_133 : decode cX9_clause 133 = .ok (.invokevirtual 41, 3) := dk_182 0 41 (dk_at dksX9_clause_4 6 rfl rfl)
theorem dX9_clause_136 : decode cX9_clause 136 = .ok (.iconst 0, 1) := dk_3 (dk_at dksX9_clause_4 9 rfl rfl)
theorem dX9_clause_137 : decode cX9_clause 137 = .ok (.iconst 0, 1) := dk_3 (dk_at dksX9_clause_4 10 rfl rfl)
theorem dX9_clause_138 : decode cX9_clause 138 = .ok (.invokespecial 44, 3) := dk_183 0 44 (dk_at dksX9_clause_4 11 rfl rfl)
theorem dX9_clause_141 : decode cX9_clause 141 = .ok (.areturn, 1) := dk_176 (dk_at dksX9_clause_4 14 rfl rfl)
theorem dX9_clause_142 : decode cX9_clause 142 = .ok (.new 9, 3) := dk_187 0 9 (dk_at dksX9_clause_4 15 rfl rfl)
theorem dX9_clause_145 : decode cX9_clause 145 = .ok (.dup, 1) := dk_89 (dk_at dksX9_clause_4 18 rfl rfl)
theorem dX9_clause_146 : decode cX9_clause 146 = .ok (.iload_n 1, 1) := dk_27 (dk_at dksX9_clause_4 19 rfl rfl)
theorem dX9_clause_147 : decode cX9_clause 147 = .ok (.iconst 0, 1) := dk_3 (dk_at dksX9_clause_4 20 rfl rfl)
theorem dX9_clause_148 : decode cX9_clause 148 = .ok (.iconst 0, 1) := dk_3 (dk_at dksX9_clause_4 21 rfl rfl)
theorem dX9_clause_149 : decode cX9_clause 149 = .ok (.iconst 0, 1) := dk_3 (dk_at dksX9_clause_4 22 rfl rfl)
theorem dX9_clause_150 : decode cX9_clause 150 = .ok (.invokespecial 44, 3) := dk_183 0 44 (dk_at dksX9_clause_5 0 rfl rfl)
theorem dX9_clause_153 : decode cX9_clause 153 = .ok (.areturn, 1) := dk_176 (dk_at dksX9_clause_5 3 rfl rfl)
theorem dX9_clause_154 : decode cX9_clause 154 = .ok (.new 36, 3) := dk_187 0 36 (dk_at dksX9_clause_5 4 rfl rfl)
theorem dX9_clause_157 : decode cX9_clause 157 = .ok (.dup, 1) := dk_89 (dk_at dksX9_clause_5 7 rfl rfl)
theorem dX9_clause_158 : decode cX9_clause 158 = .ok (.iload_n 2, 1) := dk_28 (dk_at dksX9_clause_5 8 rfl rfl)
theorem dX9_clause_159 : decode cX9_clause 159 = .ok (.invokespecial 38, 3) := dk_183 0 38 (dk_at dksX9_clause_5 9 rfl rfl)
theorem dX9_clause_162 : decode cX9_clause 162 = .ok (.athrow, 1) := dk_191 (dk_at dksX9_clause_5 12 rfl rfl)
abbrev cX9_here : ByteArray := prog_11_method_2_code
def yX9_here : MethodName := ⟨RX9, "here", "()I"⟩
def dkwX9_here_1 : List UInt8 := [172]
abbrev dktX9_here_1 : List UInt8 := dkwX9_here_1 ++ []
def dkwX9_here_0 : List UInt8 := [42, 180, 0, 25, 42, 180, 0, 21, 162, 0, 15, 42, 180, 0, 17, 42, 180, 0, 25, 51, 167, 0, 4, 2]
abbrev dktX9_here_0 : List UInt8 := dkwX9_here_0 ++ dktX9_here_1
theorem dksX9_here_0 : cX9_here.data.toList.drop 0 = dktX9_here_0 := by decide +kernel
theorem dksX9_here_1 : cX9_here.data.toList.drop 24 = dktX9_here_1 := dk_seg dksX9_here_0 24 rfl rfl
theorem dX9_here_0 : decode cX9_here 0 = .ok (.aload_n 0, 1) := dk_42 (dk_at dksX9_here_0 0 rfl rfl)
theorem dX9_here_1 : decode cX9_here 1 = .ok (.getfield 25, 3) := dk_180 0 25 (dk_at dksX9_here_0 1 rfl rfl)
theorem dX9_here_4 : decode cX9_here 4 = .ok (.aload_n 0, 1) := dk_42 (dk_at dksX9_here_0 4 rfl rfl)
theorem dX9_here_5 : decode cX9_here 5 = .ok (.getfield 21, 3) := dk_180 0 21 (dk_at dksX9_here_0 5 rfl rfl)
theorem dX9_here_8 : decode cX9_here 8 = .ok (.if_icmp .ge 15, 3) := dk_162 0 15 (dk_at dksX9_here_0 8 rfl rfl)
theorem dX9_here_11 : decode cX9_here 11 = .ok (.aload_n 0, 1) := dk_42 (dk_at dksX9_here_0 11 rfl rfl)
theorem dX9_here_12 : decode cX9_here 12 = .ok (.getfield 17, 3) := dk_180 0 17 (dk_at dksX9_here_0 12 rfl rfl)
theorem dX9_here_15 : decode cX9_here 15 = .ok (.aload_n 0, 1) := dk_42 (dk_at dksX9_here_0 15 rfl rfl)
theorem dX9_here_16 : decode cX9_here 16 = .ok (.getfield 25, 3) := dk_180 0 25 (dk_at dksX9_here_0 16 rfl rfl)
theorem dX9_here_19 : decode cX9_here 19 = .ok (.baload, 1) := dk_51 (dk_at dksX9_here_0 19 rfl rfl)
theorem dX9_here_20 : decode cX9_here 20 = .ok (.goto 4, 3) := dk_167 0 4 (dk_at dksX9_here_0 20 rfl rfl)
theorem dX9_here_23 : decode cX9_here 23 = .ok (.iconst (-1), 1) := dk_2 (dk_at dksX9_here_0 23 rfl rfl)
theorem dX9_here_24 : decode cX9_here 24 = .ok (.ireturn, 1) := dk_172 (dk_at dksX9_here_1 0 rfl rfl)
abbrev cX9_digit : ByteArray := prog_11_method_3_code
def yX9_digit : MethodName := ⟨RX9, "digit", "()I"⟩
def dkwX9_digit_1 : List UInt8 := [183, 0, 38, 191, 42, 180, 0, 17, 42, 89, 180, 0, 25, 90, 4, 96, 181, 0, 25, 51, 16, 48, 100, 172]
abbrev dktX9_digit_1 : List UInt8 := dkwX9_digit_1 ++ []
def dkwX9_digit_0 : List UInt8 := [42, 182, 0, 28, 16, 48, 16, 57, 184, 0, 32, 154, 0, 15, 187, 0, 36, 89, 42, 180, 0, 25]
abbrev dktX9_digit_0 : List UInt8 := dkwX9_digit_0 ++ dktX9_digit_1
theorem dksX9_digit_0 : cX9_digit.data.toList.drop 0 = dktX9_digit_0 := by decide +kernel
theorem dksX9_digit_1 : cX9_digit.data.toList.drop 22 = dktX9_digit_1 := dk_seg dksX9_digit_0 22 rfl rfl
theorem dX9_digit_0 : decode cX9_digit 0 = .ok (.aload_n 0, 1) := dk_42 (dk_at dksX9_digit_0 0 rfl rfl)
theorem dX9_digit_1 : decode cX9_digit 1 = .ok (.invokevirtual 28, 3) := dk_182 0 28 (dk_at dksX9_digit_0 1 rfl rfl)
theorem dX9_digit_4 : decode cX9_digit 4 = .ok (.bipush 48, 2) := dk_16 48 (dk_at dksX9_digit_0 4 rfl rfl)
theorem dX9_digit_6 : decode cX9_digit 6 = .ok (.bipush 57, 2) := dk_16 57 (dk_at dksX9_digit_0 6 rfl rfl)
theorem dX9_digit_8 : decode cX9_digit 8 = .ok (.invokestatic 32, 3) := dk_184 0 32 (dk_at dksX9_digit_0 8 rfl rfl)
theorem dX9_digit_11 : decode cX9_digit 11 = .ok (.ifCond .ne 15, 3) := dk_154 0 15 (dk_at dksX9_digit_0 11 rfl rfl)
theorem dX9_digit_14 : decode cX9_digit 14 = .ok (.new 36, 3) := dk_187 0 36 (dk_at dksX9_digit_0 14 rfl rfl)
theorem dX9_digit_17 : decode cX9_digit 17 = .ok (.dup, 1) := dk_89 (dk_at dksX9_digit_0 17 rfl rfl)
theorem dX9_digit_18 : decode cX9_digit 18 = .ok (.aload_n 0, 1) := dk_42 (dk_at dksX9_digit_0 18 rfl rfl)
theorem dX9_digit_19 : decode cX9_digit 19 = .ok (.getfield 25, 3) := dk_180 0 25 (dk_at dksX9_digit_0 19 rfl rfl)
theorem dX9_digit_22 : decode cX9_digit 22 = .ok (.invokespecial 38, 3) := dk_183 0 38 (dk_at dksX9_digit_1 0 rfl rfl)
theorem dX9_digit_25 : decode cX9_digit 25 = .ok (.athrow, 1) := dk_191 (dk_at dksX9_digit_1 3 rfl rfl)
theorem dX9_digit_26 : decode cX9_digit 26 = .ok (.aload_n 0, 1) := dk_42 (dk_at dksX9_digit_1 4 rfl rfl)
theorem dX9_digit_27 : decode cX9_digit 27 = .ok (.getfield 17, 3) := dk_180 0 17 (dk_at dksX9_digit_1 5 rfl rfl)
theorem dX9_digit_30 : decode cX9_digit 30 = .ok (.aload_n 0, 1) := dk_42 (dk_at dksX9_digit_1 8 rfl rfl)
theorem dX9_digit_31 : decode cX9_digit 31 = .ok (.dup, 1) := dk_89 (dk_at dksX9_digit_1 9 rfl rfl)
theorem dX9_digit_32 : decode cX9_digit 32 = .ok (.getfield 25, 3) := dk_180 0 25 (dk_at dksX9_digit_1 10 rfl rfl)
theorem dX9_digit_35 : decode cX9_digit 35 = .ok (.dup_x1, 1) := dk_90 (dk_at dksX9_digit_1 13 rfl rfl)
theorem dX9_digit_36 : decode cX9_digit 36 = .ok (.iconst 1, 1) := dk_4 (dk_at dksX9_digit_1 14 rfl rfl)
theorem dX9_digit_37 : decode cX9_digit 37 = .ok (.iadd, 1) := dk_96 (dk_at dksX9_digit_1 15 rfl rfl)
theorem dX9_digit_38 : decode cX9_digit 38 = .ok (.putfield 25, 3) := dk_181 0 25 (dk_at dksX9_digit_1 16 rfl rfl)
theorem dX9_digit_41 : decode cX9_digit 41 = .ok (.baload, 1) := dk_51 (dk_at dksX9_digit_1 19 rfl rfl)
theorem dX9_digit_42 : decode cX9_digit 42 = .ok (.bipush 48, 2) := dk_16 48 (dk_at dksX9_digit_1 20 rfl rfl)
theorem dX9_digit_44 : decode cX9_digit 44 = .ok (.isub, 1) := dk_100 (dk_at dksX9_digit_1 22 rfl rfl)
theorem dX9_digit_45 : decode cX9_digit 45 = .ok (.ireturn, 1) := dk_172 (dk_at dksX9_digit_1 23 rfl rfl)
abbrev cX9_does : ByteArray := prog_11_method_6_code
def yX9_does : MethodName := ⟨RX9, "does", "(LTermIdeals;)I"⟩
def dkwX9_does_1 : List UInt8 := [153, 0, 7, 4, 167, 0, 4, 3, 96, 61, 132, 3, 1, 167, 255, 224, 28, 172]
abbrev dktX9_does_1 : List UInt8 := dkwX9_does_1 ++ []
def dkwX9_does_0 : List UInt8 := [3, 61, 3, 62, 29, 42, 180, 0, 51, 162, 0, 30, 28, 42, 180, 0, 11, 29, 50, 43, 182, 0, 54]
abbrev dktX9_does_0 : List UInt8 := dkwX9_does_0 ++ dktX9_does_1
theorem dksX9_does_0 : cX9_does.data.toList.drop 0 = dktX9_does_0 := by decide +kernel
theorem dksX9_does_1 : cX9_does.data.toList.drop 23 = dktX9_does_1 := dk_seg dksX9_does_0 23 rfl rfl
theorem dX9_does_0 : decode cX9_does 0 = .ok (.iconst 0, 1) := dk_3 (dk_at dksX9_does_0 0 rfl rfl)
theorem dX9_does_1 : decode cX9_does 1 = .ok (.istore_n 2, 1) := dk_61 (dk_at dksX9_does_0 1 rfl rfl)
theorem dX9_does_2 : decode cX9_does 2 = .ok (.iconst 0, 1) := dk_3 (dk_at dksX9_does_0 2 rfl rfl)
theorem dX9_does_3 : decode cX9_does 3 = .ok (.istore_n 3, 1) := dk_62 (dk_at dksX9_does_0 3 rfl rfl)
theorem dX9_does_4 : decode cX9_does 4 = .ok (.iload_n 3, 1) := dk_29 (dk_at dksX9_does_0 4 rfl rfl)
theorem dX9_does_5 : decode cX9_does 5 = .ok (.aload_n 0, 1) := dk_42 (dk_at dksX9_does_0 5 rfl rfl)
theorem dX9_does_6 : decode cX9_does 6 = .ok (.getfield 51, 3) := dk_180 0 51 (dk_at dksX9_does_0 6 rfl rfl)
theorem dX9_does_9 : decode cX9_does 9 = .ok (.if_icmp .ge 30, 3) := dk_162 0 30 (dk_at dksX9_does_0 9 rfl rfl)
theorem dX9_does_12 : decode cX9_does 12 = .ok (.iload_n 2, 1) := dk_28 (dk_at dksX9_does_0 12 rfl rfl)
theorem dX9_does_13 : decode cX9_does 13 = .ok (.aload_n 0, 1) := dk_42 (dk_at dksX9_does_0 13 rfl rfl)
theorem dX9_does_14 : decode cX9_does 14 = .ok (.getfield 11, 3) := dk_180 0 11 (dk_at dksX9_does_0 14 rfl rfl)
theorem dX9_does_17 : decode cX9_does 17 = .ok (.iload_n 3, 1) := dk_29 (dk_at dksX9_does_0 17 rfl rfl)
theorem dX9_does_18 : decode cX9_does 18 = .ok (.aaload, 1) := dk_50 (dk_at dksX9_does_0 18 rfl rfl)
theorem dX9_does_19 : decode cX9_does 19 = .ok (.aload_n 1, 1) := dk_43 (dk_at dksX9_does_0 19 rfl rfl)
theorem dX9_does_20 : decode cX9_does 20 = .ok (.invokevirtual 54, 3) := dk_182 0 54 (dk_at dksX9_does_0 20 rfl rfl)
theorem dX9_does_23 : decode cX9_does 23 = .ok (.ifCond .eq 7, 3) := dk_153 0 7 (dk_at dksX9_does_1 0 rfl rfl)
theorem dX9_does_26 : decode cX9_does 26 = .ok (.iconst 1, 1) := dk_4 (dk_at dksX9_does_1 3 rfl rfl)
theorem dX9_does_27 : decode cX9_does 27 = .ok (.goto 4, 3) := dk_167 0 4 (dk_at dksX9_does_1 4 rfl rfl)
theorem dX9_does_30 : decode cX9_does 30 = .ok (.iconst 0, 1) := dk_3 (dk_at dksX9_does_1 7 rfl rfl)
theorem dX9_does_31 : decode cX9_does 31 = .ok (.iadd, 1) := dk_96 (dk_at dksX9_does_1 8 rfl rfl)
theorem dX9_does_32 : decode cX9_does 32 = .ok (.istore_n 2, 1) := dk_61 (dk_at dksX9_does_1 9 rfl rfl)
theorem dX9_does_33 : decode cX9_does 33 = .ok (.iinc 3 1, 3) := dk_132 3 1 (dk_at dksX9_does_1 10 rfl rfl)
theorem dX9_does_36 : decode cX9_does 36 = .ok (.goto (-32), 3) := dk_167 255 224 (dk_at dksX9_does_1 13 rfl rfl)
theorem dX9_does_39 : decode cX9_does 39 = .ok (.iload_n 2, 1) := dk_28 (dk_at dksX9_does_1 16 rfl rfl)
theorem dX9_does_40 : decode cX9_does 40 = .ok (.ireturn, 1) := dk_172 (dk_at dksX9_does_1 17 rfl rfl)
theorem q79 : (Jvm.Cond.initialized "TermIdeals$Reader") ∈ lw_all := lw_g (lw_at lw_m1 14 rfl) rfl
theorem q485 : (Jvm.Cond.instantiable "TermIdeals$Reader" (5 : Nat)) ∈ lw_all := lw_g (lw_at lw_m2 180 rfl) rfl
theorem q487 : (Jvm.Cond.instanceMethod ({ cls := "TermIdeals$Reader", name := "<init>", desc := "([BI)V" } : Jvm.MethodName)) ∈ lw_all := lw_g (lw_at lw_m2 182 rfl) rfl
theorem q488 : (Jvm.Cond.code ({ cls := "TermIdeals$Reader", name := "<init>", desc := "([BI)V" } : Jvm.MethodName) prog_11_method_1_code (3 : Nat) (Option.none : Option Jvm.ClassFile.FieldType)) ∈ lw_all := lw_g (lw_at lw_m2 183 rfl) rfl
theorem q489 : (Jvm.Cond.methodLink "TermIdeals$Reader" (3 : Nat) ({ cls := "java/lang/Object", name := "<init>", desc := "()V" } : Jvm.MethodName)) ∈ lw_all := lw_g (lw_at lw_m2 184 rfl) rfl
theorem q490 : (Jvm.Cond.classLink "TermIdeals$Reader" (9 : Nat) "TermIdeals$Clause") ∈ lw_all := lw_g (lw_at lw_m2 185 rfl) rfl
theorem q492 : (Jvm.Cond.fieldLink "TermIdeals$Reader" (17 : Nat) "TermIdeals$Reader" "text" "[B") ∈ lw_all := lw_g (lw_at lw_m2 187 rfl) rfl
theorem q493 : (Jvm.Cond.fieldLink "TermIdeals$Reader" (21 : Nat) "TermIdeals$Reader" "size" "I") ∈ lw_all := lw_g (lw_at lw_m2 188 rfl) rfl
theorem q494 : (Jvm.Cond.fieldLink "TermIdeals$Reader" (25 : Nat) "TermIdeals$Reader" "at" "I") ∈ lw_all := lw_g (lw_at lw_m2 189 rfl) rfl
theorem q495 : (Jvm.Cond.fieldLink "TermIdeals$Reader" (11 : Nat) "TermIdeals$Reader" "read" "[LTermIdeals$Clause;") ∈ lw_all := lw_g (lw_at lw_m2 190 rfl) rfl
theorem q496 : (Jvm.Cond.fieldLink "TermIdeals$Reader" (51 : Nat) "TermIdeals$Reader" "many" "I") ∈ lw_all := lw_g (lw_at lw_m2 191 rfl) rfl
theorem q497 : (Jvm.Cond.laysFinal "TermIdeals$Reader" "TermIdeals$Reader" "text" "[B") ∈ lw_all := lw_g (lw_at lw_m2 192 rfl) rfl
theorem q498 : (Jvm.Cond.soleField "TermIdeals$Reader" "text") ∈ lw_all := lw_g (lw_at lw_m2 193 rfl) rfl
theorem q499 : (Jvm.Cond.laysFinal "TermIdeals$Reader" "TermIdeals$Reader" "size" "I") ∈ lw_all := lw_g (lw_at lw_m2 194 rfl) rfl
theorem q500 : (Jvm.Cond.soleField "TermIdeals$Reader" "size") ∈ lw_all := lw_g (lw_at lw_m2 195 rfl) rfl
theorem q501 : (Jvm.Cond.lays "TermIdeals$Reader" "TermIdeals$Reader" "at" "I") ∈ lw_all := lw_g (lw_at lw_m2 196 rfl) rfl
theorem q502 : (Jvm.Cond.soleField "TermIdeals$Reader" "at") ∈ lw_all := lw_g (lw_at lw_m2 197 rfl) rfl
theorem q503 : (Jvm.Cond.laysFinal "TermIdeals$Reader" "TermIdeals$Reader" "read" "[LTermIdeals$Clause;") ∈ lw_all := lw_g (lw_at lw_m2 198 rfl) rfl
theorem q504 : (Jvm.Cond.soleField "TermIdeals$Reader" "read") ∈ lw_all := lw_g (lw_at lw_m2 199 rfl) rfl
theorem q505 : (Jvm.Cond.lays "TermIdeals$Reader" "TermIdeals$Reader" "many" "I") ∈ lw_all := lw_g (lw_at lw_m2 200 rfl) rfl
theorem q506 : (Jvm.Cond.soleField "TermIdeals$Reader" "many") ∈ lw_all := lw_g (lw_at lw_m2 201 rfl) rfl
theorem q507 : (Jvm.Cond.superclass "TermIdeals$Reader" "java/lang/Object") ∈ lw_all := lw_g (lw_at lw_m2 202 rfl) rfl
theorem q509 : (Jvm.Cond.instanceMethod ({ cls := "TermIdeals$Reader", name := "whole", desc := "()LTermIdeals$Reader;" } : Jvm.MethodName)) ∈ lw_all := lw_g (lw_at lw_m2 204 rfl) rfl
theorem q510 : (Jvm.Cond.selects "TermIdeals$Reader" ({ cls := "TermIdeals$Reader", name := "whole", desc := "()LTermIdeals$Reader;" } : Jvm.MethodName) ({ cls := "TermIdeals$Reader", name := "whole", desc := "()LTermIdeals$Reader;" } : Jvm.MethodName)) ∈ lw_all := lw_g (lw_at lw_m2 205 rfl) rfl
theorem q511 : (Jvm.Cond.code ({ cls := "TermIdeals$Reader", name := "whole", desc := "()LTermIdeals$Reader;" } : Jvm.MethodName) prog_11_method_5_code (1 : Nat) (Option.some (Jvm.ClassFile.FieldType.object "TermIdeals$Reader"))) ∈ lw_all := lw_g (lw_at lw_m2 206 rfl) rfl
theorem q512 : (Jvm.Cond.methodLink "TermIdeals$Reader" (47 : Nat) ({ cls := "TermIdeals$Reader", name := "clause", desc := "()LTermIdeals$Clause;" } : Jvm.MethodName)) ∈ lw_all := lw_g (lw_at lw_m2 207 rfl) rfl
theorem q513 : (Jvm.Cond.privateMethod ({ cls := "TermIdeals$Reader", name := "clause", desc := "()LTermIdeals$Clause;" } : Jvm.MethodName)) ∈ lw_tbl := lw_at lw_m2 208 rfl
theorem q514 : (Jvm.Cond.instanceMethod ({ cls := "TermIdeals$Reader", name := "clause", desc := "()LTermIdeals$Clause;" } : Jvm.MethodName)) ∈ lw_all := lw_g (lw_at lw_m2 209 rfl) rfl
theorem q515 : (Jvm.Cond.code ({ cls := "TermIdeals$Reader", name := "clause", desc := "()LTermIdeals$Clause;" } : Jvm.MethodName) prog_11_method_4_code (5 : Nat) (Option.some (Jvm.ClassFile.FieldType.object "TermIdeals$Clause"))) ∈ lw_all := lw_g (lw_at lw_m2 210 rfl) rfl
theorem q516 : (Jvm.Cond.methodLink "TermIdeals$Reader" (28 : Nat) ({ cls := "TermIdeals$Reader", name := "here", desc := "()I" } : Jvm.MethodName)) ∈ lw_all := lw_g (lw_at lw_m2 211 rfl) rfl
theorem q517 : (Jvm.Cond.privateMethod ({ cls := "TermIdeals$Reader", name := "here", desc := "()I" } : Jvm.MethodName)) ∈ lw_tbl := lw_at lw_m2 212 rfl
theorem q518 : (Jvm.Cond.instanceMethod ({ cls := "TermIdeals$Reader", name := "here", desc := "()I" } : Jvm.MethodName)) ∈ lw_all := lw_g (lw_at lw_m2 213 rfl) rfl
theorem q519 : (Jvm.Cond.code ({ cls := "TermIdeals$Reader", name := "here", desc := "()I" } : Jvm.MethodName) prog_11_method_2_code (1 : Nat) (Option.some Jvm.ClassFile.FieldType.int)) ∈ lw_all := lw_g (lw_at lw_m2 214 rfl) rfl
theorem q520 : (Jvm.Cond.methodLink "TermIdeals$Reader" (41 : Nat) ({ cls := "TermIdeals$Reader", name := "digit", desc := "()I" } : Jvm.MethodName)) ∈ lw_all := lw_g (lw_at lw_m2 215 rfl) rfl
theorem q521 : (Jvm.Cond.privateMethod ({ cls := "TermIdeals$Reader", name := "digit", desc := "()I" } : Jvm.MethodName)) ∈ lw_tbl := lw_at lw_m2 216 rfl
theorem q522 : (Jvm.Cond.instanceMethod ({ cls := "TermIdeals$Reader", name := "digit", desc := "()I" } : Jvm.MethodName)) ∈ lw_all := lw_g (lw_at lw_m2 217 rfl) rfl
theorem q523 : (Jvm.Cond.code ({ cls := "TermIdeals$Reader", name := "digit", desc := "()I" } : Jvm.MethodName) prog_11_method_3_code (1 : Nat) (Option.some Jvm.ClassFile.FieldType.int)) ∈ lw_all := lw_g (lw_at lw_m2 218 rfl) rfl
theorem q524 : (Jvm.Cond.methodLinkNest "TermIdeals$Reader" (32 : Nat) ({ cls := "TermIdeals", name := "in", desc := "(III)Z" } : Jvm.MethodName) "TermIdeals") ∈ lw_tbl := lw_at lw_m2 219 rfl
theorem q525 : (Jvm.Cond.classLink "TermIdeals$Reader" (36 : Nat) "TermIdeals$Misread") ∈ lw_all := lw_g (lw_at lw_m2 220 rfl) rfl
theorem q534 : (Jvm.Cond.methodLink "TermIdeals$Reader" (38 : Nat) ({ cls := "TermIdeals$Misread", name := "<init>", desc := "(I)V" } : Jvm.MethodName)) ∈ lw_all := lw_g (lw_at lw_m2 229 rfl) rfl
theorem q545 : (Jvm.Cond.methodLink "TermIdeals$Reader" (44 : Nat) ({ cls := "TermIdeals$Clause", name := "<init>", desc := "(IIII)V" } : Jvm.MethodName)) ∈ lw_all := lw_g (lw_at lw_m3 0 rfl) rfl
theorem q563 : (Jvm.Cond.instanceMethod ({ cls := "TermIdeals$Reader", name := "does", desc := "(LTermIdeals;)I" } : Jvm.MethodName)) ∈ lw_all := lw_g (lw_at lw_m3 18 rfl) rfl
theorem q564 : (Jvm.Cond.selects "TermIdeals$Reader" ({ cls := "TermIdeals$Reader", name := "does", desc := "(LTermIdeals;)I" } : Jvm.MethodName) ({ cls := "TermIdeals$Reader", name := "does", desc := "(LTermIdeals;)I" } : Jvm.MethodName)) ∈ lw_all := lw_g (lw_at lw_m3 19 rfl) rfl
theorem q565 : (Jvm.Cond.code ({ cls := "TermIdeals$Reader", name := "does", desc := "(LTermIdeals;)I" } : Jvm.MethodName) prog_11_method_6_code (4 : Nat) (Option.some Jvm.ClassFile.FieldType.int)) ∈ lw_all := lw_g (lw_at lw_m3 20 rfl) rfl
theorem q566 : (Jvm.Cond.methodLink "TermIdeals$Reader" (54 : Nat) ({ cls := "TermIdeals$Clause", name := "does", desc := "(LTermIdeals;)Z" } : Jvm.MethodName)) ∈ lw_all := lw_g (lw_at lw_m3 21 rfl) rfl
theorem in_X9 : ∀ w ∈ wsX90, w ∈ lw_all := lw_in wsX90 [497, 499, 501, 503, 505] (by decide +kernel) (by decide +kernel)
/-! TermIdeals$Misread -/
set_option maxRecDepth 100000
def RX10 : String := "TermIdeals$Misread"
def TX10 : u_T := fun k => match k with
  | 0 => ("java/lang/Throwable", "cause", "Ljava/lang/Throwable;", false)
  | 1 => ("java/lang/Throwable", "stackTrace", "[Ljava/lang/StackTraceElement;", false)
  | 2 => ("java/lang/Throwable", "suppressedExceptions", "Ljava/util/List;", false)
  | 3 => ("java/lang/Throwable", "detailMessage", "Ljava/lang/String;", false)
  | 4 => ("java/lang/Throwable", "backtrace", "Ljava/lang/Object;", false)
  | 5 => ("java/lang/Throwable", "depth", "I", false)
  | _ => ("TermIdeals$Misread", "place", "I", true)
def tyX10 : Nat → FieldType := fun k => match k with
  | 0 => .object "java/lang/Throwable"
  | 1 => .array (.object "java/lang/StackTraceElement")
  | 2 => .object "java/util/List"
  | 3 => .object "java/lang/String"
  | 4 => .object "java/lang/Object"
  | 5 => .int
  | _ => .int
abbrev wsX100 : List Cond := u_ws RX10 TX10 7
theorem nmX10 : ∀ a, a < 7 → ∀ b, b < 7 → a ≠ b → (TX10 a).2.1 ≠ (TX10 b).2.1 := by decide +kernel
theorem tyX10_ok : ∀ k, k < 7 → parseFieldDescriptor (TX10 k).2.2.1 = some (tyX10 k) := by decide +kernel
abbrev cX10_init : ByteArray := prog_9_method_1_code
def yX10_init : MethodName := ⟨RX10, "<init>", "(I)V"⟩
def dkwX10_init_0 : List UInt8 := [42, 183, 0, 1, 42, 27, 181, 0, 7, 177]
abbrev dktX10_init_0 : List UInt8 := dkwX10_init_0 ++ []
theorem dksX10_init_0 : cX10_init.data.toList.drop 0 = dktX10_init_0 := by decide +kernel
theorem dX10_init_0 : decode cX10_init 0 = .ok (.aload_n 0, 1) := dk_42 (dk_at dksX10_init_0 0 rfl rfl)
theorem dX10_init_1 : decode cX10_init 1 = .ok (.invokespecial 1, 3) := dk_183 0 1 (dk_at dksX10_init_0 1 rfl rfl)
theorem dX10_init_4 : decode cX10_init 4 = .ok (.aload_n 0, 1) := dk_42 (dk_at dksX10_init_0 4 rfl rfl)
theorem dX10_init_5 : decode cX10_init 5 = .ok (.iload_n 1, 1) := dk_27 (dk_at dksX10_init_0 5 rfl rfl)
theorem dX10_init_6 : decode cX10_init 6 = .ok (.putfield 7, 3) := dk_181 0 7 (dk_at dksX10_init_0 6 rfl rfl)
theorem dX10_init_9 : decode cX10_init 9 = .ok (.return_, 1) := dk_177 (dk_at dksX10_init_0 9 rfl rfl)
theorem q80 : (Jvm.Cond.initialized "TermIdeals$Misread") ∈ lw_all := lw_g (lw_at lw_m1 15 rfl) rfl
theorem q394 : (Jvm.Cond.selects "TermIdeals$Misread" ({ cls := "java/lang/Throwable", name := "fillInStackTrace", desc := "()Ljava/lang/Throwable;" } : Jvm.MethodName) ({ cls := "java/lang/Throwable", name := "fillInStackTrace", desc := "()Ljava/lang/Throwable;" } : Jvm.MethodName)) ∈ lw_all := lw_g (lw_at lw_m2 89 rfl) rfl
theorem q526 : (Jvm.Cond.instantiable "TermIdeals$Misread" (7 : Nat)) ∈ lw_all := lw_g (lw_at lw_m2 221 rfl) rfl
theorem q527 : (Jvm.Cond.castable "TermIdeals$Misread" "TermIdeals$Misread") ∈ lw_tbl := lw_at lw_m2 222 rfl
theorem q528 : (Jvm.Cond.selects "TermIdeals$Misread" ({ cls := "java/lang/Throwable", name := "fillInStackTrace", desc := "(I)Ljava/lang/Throwable;" } : Jvm.MethodName) ({ cls := "java/lang/Throwable", name := "fillInStackTrace", desc := "(I)Ljava/lang/Throwable;" } : Jvm.MethodName)) ∈ lw_all := lw_g (lw_at lw_m2 223 rfl) rfl
theorem q529 : (Jvm.Cond.lays "TermIdeals$Misread" "java/lang/Throwable" "cause" "Ljava/lang/Throwable;") ∈ lw_all := lw_g (lw_at lw_m2 224 rfl) rfl
theorem q530 : (Jvm.Cond.lays "TermIdeals$Misread" "java/lang/Throwable" "stackTrace" "[Ljava/lang/StackTraceElement;") ∈ lw_all := lw_g (lw_at lw_m2 225 rfl) rfl
theorem q531 : (Jvm.Cond.lays "TermIdeals$Misread" "java/lang/Throwable" "suppressedExceptions" "Ljava/util/List;") ∈ lw_all := lw_g (lw_at lw_m2 226 rfl) rfl
theorem q532 : (Jvm.Cond.lays "TermIdeals$Misread" "java/lang/Throwable" "detailMessage" "Ljava/lang/String;") ∈ lw_all := lw_g (lw_at lw_m2 227 rfl) rfl
theorem q533 : (Jvm.Cond.lays "TermIdeals$Misread" "java/lang/Throwable" "backtrace" "Ljava/lang/Object;") ∈ lw_all := lw_g (lw_at lw_m2 228 rfl) rfl
theorem q535 : (Jvm.Cond.instanceMethod ({ cls := "TermIdeals$Misread", name := "<init>", desc := "(I)V" } : Jvm.MethodName)) ∈ lw_all := lw_g (lw_at lw_m2 230 rfl) rfl
theorem q536 : (Jvm.Cond.code ({ cls := "TermIdeals$Misread", name := "<init>", desc := "(I)V" } : Jvm.MethodName) prog_9_method_1_code (2 : Nat) (Option.none : Option Jvm.ClassFile.FieldType)) ∈ lw_all := lw_g (lw_at lw_m2 231 rfl) rfl
theorem q537 : (Jvm.Cond.methodLink "TermIdeals$Misread" (1 : Nat) ({ cls := "java/lang/Exception", name := "<init>", desc := "()V" } : Jvm.MethodName)) ∈ lw_all := lw_g (lw_at lw_m2 232 rfl) rfl
theorem q538 : (Jvm.Cond.fieldLink "TermIdeals$Misread" (7 : Nat) "TermIdeals$Misread" "place" "I") ∈ lw_all := lw_g (lw_at lw_m2 233 rfl) rfl
theorem q540 : (Jvm.Cond.laysFinal "TermIdeals$Misread" "TermIdeals$Misread" "place" "I") ∈ lw_all := lw_g (lw_at lw_m2 235 rfl) rfl
theorem q541 : (Jvm.Cond.soleField "TermIdeals$Misread" "place") ∈ lw_all := lw_g (lw_at lw_m2 236 rfl) rfl
theorem q542 : (Jvm.Cond.lays "TermIdeals$Misread" "java/lang/Throwable" "depth" "I") ∈ lw_all := lw_g (lw_at lw_m2 237 rfl) rfl
theorem q543 : (Jvm.Cond.superclass "TermIdeals$Misread" "java/lang/Exception") ∈ lw_all := lw_g (lw_at lw_m2 238 rfl) rfl
theorem q727 : (Jvm.Cond.selects "TermIdeals$Misread" ({ cls := "java/lang/Throwable", name := "getCause", desc := "()Ljava/lang/Throwable;" } : Jvm.MethodName) ({ cls := "java/lang/Throwable", name := "getCause", desc := "()Ljava/lang/Throwable;" } : Jvm.MethodName)) ∈ lw_all := lw_g (lw_at lw_m3 182 rfl) rfl
theorem in_X10 : ∀ w ∈ wsX100, w ∈ lw_all := lw_in wsX100 [529, 530, 531, 532, 533, 542, 540] (by decide +kernel) (by decide +kernel)
/-! TermIdeals$Clause -/
set_option maxRecDepth 100000
def RX11 : String := "TermIdeals$Clause"
def TX11 : u_T := fun k => match k with
  | 0 => ("TermIdeals$Clause", "sign", "I", true)
  | 1 => ("TermIdeals$Clause", "ideal", "I", true)
  | 2 => ("TermIdeals$Clause", "first", "I", true)
  | _ => ("TermIdeals$Clause", "second", "I", true)
def tyX11 : Nat → FieldType := fun k => match k with
  | 0 => .int
  | 1 => .int
  | 2 => .int
  | _ => .int
abbrev wsX110 : List Cond := u_ws RX11 TX11 4
theorem nmX11 : ∀ a, a < 4 → ∀ b, b < 4 → a ≠ b → (TX11 a).2.1 ≠ (TX11 b).2.1 := by decide +kernel
theorem tyX11_ok : ∀ k, k < 4 → parseFieldDescriptor (TX11 k).2.2.1 = some (tyX11 k) := by decide +kernel
abbrev cX11_init : ByteArray := prog_3_method_1_code
def yX11_init : MethodName := ⟨RX11, "<init>", "(IIII)V"⟩
def dkwX11_init_1 : List UInt8 := [181, 0, 19, 177]
abbrev dktX11_init_1 : List UInt8 := dkwX11_init_1 ++ []
def dkwX11_init_0 : List UInt8 := [42, 183, 0, 1, 42, 27, 181, 0, 7, 42, 28, 181, 0, 13, 42, 29, 181, 0, 16, 42, 21, 4]
abbrev dktX11_init_0 : List UInt8 := dkwX11_init_0 ++ dktX11_init_1
theorem dksX11_init_0 : cX11_init.data.toList.drop 0 = dktX11_init_0 := by decide +kernel
theorem dksX11_init_1 : cX11_init.data.toList.drop 22 = dktX11_init_1 := dk_seg dksX11_init_0 22 rfl rfl
theorem dX11_init_0 : decode cX11_init 0 = .ok (.aload_n 0, 1) := dk_42 (dk_at dksX11_init_0 0 rfl rfl)
theorem dX11_init_1 : decode cX11_init 1 = .ok (.invokespecial 1, 3) := dk_183 0 1 (dk_at dksX11_init_0 1 rfl rfl)
theorem dX11_init_4 : decode cX11_init 4 = .ok (.aload_n 0, 1) := dk_42 (dk_at dksX11_init_0 4 rfl rfl)
theorem dX11_init_5 : decode cX11_init 5 = .ok (.iload_n 1, 1) := dk_27 (dk_at dksX11_init_0 5 rfl rfl)
theorem dX11_init_6 : decode cX11_init 6 = .ok (.putfield 7, 3) := dk_181 0 7 (dk_at dksX11_init_0 6 rfl rfl)
theorem dX11_init_9 : decode cX11_init 9 = .ok (.aload_n 0, 1) := dk_42 (dk_at dksX11_init_0 9 rfl rfl)
theorem dX11_init_10 : decode cX11_init 10 = .ok (.iload_n 2, 1) := dk_28 (dk_at dksX11_init_0 10 rfl rfl)
theorem dX11_init_11 : decode cX11_init 11 = .ok (.putfield 13, 3) := dk_181 0 13 (dk_at dksX11_init_0 11 rfl rfl)
theorem dX11_init_14 : decode cX11_init 14 = .ok (.aload_n 0, 1) := dk_42 (dk_at dksX11_init_0 14 rfl rfl)
theorem dX11_init_15 : decode cX11_init 15 = .ok (.iload_n 3, 1) := dk_29 (dk_at dksX11_init_0 15 rfl rfl)
theorem dX11_init_16 : decode cX11_init 16 = .ok (.putfield 16, 3) := dk_181 0 16 (dk_at dksX11_init_0 16 rfl rfl)
theorem dX11_init_19 : decode cX11_init 19 = .ok (.aload_n 0, 1) := dk_42 (dk_at dksX11_init_0 19 rfl rfl)
theorem dX11_init_20 : decode cX11_init 20 = .ok (.iload 4, 2) := dk_21 4 (dk_at dksX11_init_0 20 rfl rfl)
theorem dX11_init_22 : decode cX11_init 22 = .ok (.putfield 19, 3) := dk_181 0 19 (dk_at dksX11_init_1 0 rfl rfl)
theorem dX11_init_25 : decode cX11_init 25 = .ok (.return_, 1) := dk_177 (dk_at dksX11_init_1 3 rfl rfl)
abbrev cX11_does : ByteArray := prog_3_method_2_code
def yX11_does : MethodName := ⟨RX11, "does", "(LTermIdeals;)Z"⟩
def dkwX11_does_6 : List UInt8 := [3, 172, 43, 182, 0, 42, 155, 0, 7, 4, 167, 0, 4, 3, 172]
abbrev dktX11_does_6 : List UInt8 := dkwX11_does_6 ++ []
def dkwX11_does_5 : List UInt8 := [155, 0, 7, 4, 167, 0, 4, 3, 172, 43, 42, 180, 0, 13, 182, 0, 39, 155, 0, 7, 4, 167, 0, 4]
abbrev dktX11_does_5 : List UInt8 := dkwX11_does_5 ++ dktX11_does_6
def dkwX11_does_4 : List UInt8 := [180, 0, 13, 182, 0, 32, 155, 0, 7, 4, 167, 0, 4, 3, 172, 43, 42, 180, 0, 13, 182, 0, 36]
abbrev dktX11_does_4 : List UInt8 := dkwX11_does_4 ++ dktX11_does_5
def dkwX11_does_3 : List UInt8 := [172, 43, 42, 180, 0, 13, 42, 180, 0, 16, 182, 0, 28, 155, 0, 7, 4, 167, 0, 4, 3, 172, 43, 42]
abbrev dktX11_does_3 : List UInt8 := dkwX11_does_3 ++ dktX11_does_4
def dkwX11_does_2 : List UInt8 := [43, 42, 180, 0, 13, 42, 180, 0, 16, 42, 180, 0, 19, 182, 0, 22, 155, 0, 7, 4, 167, 0, 4, 3]
abbrev dktX11_does_2 : List UInt8 := dkwX11_does_2 ++ dktX11_does_3
def dkwX11_does_1 : List UInt8 := [171, 0, 0, 0, 0, 0, 0, 149, 0, 0, 0, 5, 0, 0, 0, 43, 0, 0, 0, 52, 0, 0, 0, 45, 0, 0, 0, 77, 0, 0, 0, 99, 0, 0, 0, 115, 0, 0, 0, 109, 0, 0, 0, 132, 0, 0, 0, 122, 0, 0, 0, 98]
abbrev dktX11_does_1 : List UInt8 := dkwX11_does_1 ++ dktX11_does_2
def dkwX11_does_0 : List UInt8 := [42, 180, 0, 7]
abbrev dktX11_does_0 : List UInt8 := dkwX11_does_0 ++ dktX11_does_1
theorem dksX11_does_0 : cX11_does.data.toList.drop 0 = dktX11_does_0 := by decide +kernel
theorem dksX11_does_1 : cX11_does.data.toList.drop 4 = dktX11_does_1 := dk_seg dksX11_does_0 4 rfl rfl
theorem dksX11_does_2 : cX11_does.data.toList.drop 56 = dktX11_does_2 := dk_seg dksX11_does_1 52 rfl rfl
theorem dksX11_does_3 : cX11_does.data.toList.drop 80 = dktX11_does_3 := dk_seg dksX11_does_2 24 rfl rfl
theorem dksX11_does_4 : cX11_does.data.toList.drop 104 = dktX11_does_4 := dk_seg dksX11_does_3 24 rfl rfl
theorem dksX11_does_5 : cX11_does.data.toList.drop 127 = dktX11_does_5 := dk_seg dksX11_does_4 23 rfl rfl
theorem dksX11_does_6 : cX11_does.data.toList.drop 151 = dktX11_does_6 := dk_seg dksX11_does_5 24 rfl rfl
theorem dX11_does_0 : decode cX11_does 0 = .ok (.aload_n 0, 1) := dk_42 (dk_at dksX11_does_0 0 rfl rfl)
theorem dX11_does_1 : decode cX11_does 1 = .ok (.getfield 7, 3) := dk_180 0 7 (dk_at dksX11_does_0 1 rfl rfl)
theorem dX11_does_4 : decode cX11_does 4 = .ok (.lookupswitch 149 #[(43, 52), (45, 77), (99, 115), (109, 132), (122, 98)], 52) := by decide +kernel
theorem dX11_does_56 : decode cX11_does 56 = .ok (.aload_n 1, 1) := dk_43 (dk_at dksX11_does_2 0 rfl rfl)
theorem dX11_does_57 : decode cX11_does 57 = .ok (.aload_n 0, 1) := dk_42 (dk_at dksX11_does_2 1 rfl rfl)
theorem dX11_does_58 : decode cX11_does 58 = .ok (.getfield 13, 3) := dk_180 0 13 (dk_at dksX11_does_2 2 rfl rfl)
theorem dX11_does_61 : decode cX11_does 61 = .ok (.aload_n 0, 1) := dk_42 (dk_at dksX11_does_2 5 rfl rfl)
theorem dX11_does_62 : decode cX11_does 62 = .ok (.getfield 16, 3) := dk_180 0 16 (dk_at dksX11_does_2 6 rfl rfl)
theorem dX11_does_65 : decode cX11_does 65 = .ok (.aload_n 0, 1) := dk_42 (dk_at dksX11_does_2 9 rfl rfl)
theorem dX11_does_66 : decode cX11_does 66 = .ok (.getfield 19, 3) := dk_180 0 19 (dk_at dksX11_does_2 10 rfl rfl)
theorem dX11_does_69 : decode cX11_does 69 = .ok (.invokevirtual 22, 3) := dk_182 0 22 (dk_at dksX11_does_2 13 rfl rfl)
theorem dX11_does_72 : decode cX11_does 72 = .ok (.ifCond .lt 7, 3) := dk_155 0 7 (dk_at dksX11_does_2 16 rfl rfl)
theorem dX11_does_75 : decode cX11_does 75 = .ok (.iconst 1, 1) := dk_4 (dk_at dksX11_does_2 19 rfl rfl)
theorem dX11_does_76 : decode cX11_does 76 = .ok (.goto 4, 3) := dk_167 0 4 (dk_at dksX11_does_2 20 rfl rfl)
theorem dX11_does_79 : decode cX11_does 79 = .ok (.iconst 0, 1) := dk_3 (dk_at dksX11_does_2 23 rfl rfl)
theorem dX11_does_80 : decode cX11_does 80 = .ok (.ireturn, 1) := dk_172 (dk_at dksX11_does_3 0 rfl rfl)
theorem dX11_does_81 : decode cX11_does 81 = .ok (.aload_n 1, 1) := dk_43 (dk_at dksX11_does_3 1 rfl rfl)
theorem dX11_does_82 : decode cX11_does 82 = .ok (.aload_n 0, 1) := dk_42 (dk_at dksX11_does_3 2 rfl rfl)
theorem dX11_does_83 : decode cX11_does 83 = .ok (.getfield 13, 3) := dk_180 0 13 (dk_at dksX11_does_3 3 rfl rfl)
theorem dX11_does_86 : decode cX11_does 86 = .ok (.aload_n 0, 1) := dk_42 (dk_at dksX11_does_3 6 rfl rfl)
theorem dX11_does_87 : decode cX11_does 87 = .ok (.getfield 16, 3) := dk_180 0 16 (dk_at dksX11_does_3 7 rfl rfl)
theorem dX11_does_90 : decode cX11_does 90 = .ok (.invokevirtual 28, 3) := dk_182 0 28 (dk_at dksX11_does_3 10 rfl rfl)
theorem dX11_does_93 : decode cX11_does 93 = .ok (.ifCond .lt 7, 3) := dk_155 0 7 (dk_at dksX11_does_3 13 rfl rfl)
theorem dX11_does_96 : decode cX11_does 96 = .ok (.iconst 1, 1) := dk_4 (dk_at dksX11_does_3 16 rfl rfl)
theorem dX11_does_97 : decode cX11_does 97 = .ok (.goto 4, 3) := dk_167 0 4 (dk_at dksX11_does_3 17 rfl rfl)
theorem dX11_does_100 : decode cX11_does 100 = .ok (.iconst 0, 1) := dk_3 (dk_at dksX11_does_3 20 rfl rfl)
theorem dX11_does_101 : decode cX11_does 101 = .ok (.ireturn, 1) := dk_172 (dk_at dksX11_does_3 21 rfl rfl)
theorem dX11_does_102 : decode cX11_does 102 = .ok (.aload_n 1, 1) := dk_43 (dk_at dksX11_does_3 22 rfl rfl)
theorem dX11_does_103 : decode cX11_does 103 = .ok (.aload_n 0, 1) := dk_42 (dk_at dksX11_does_3 23 rfl rfl)
theorem dX11_does_104 : decode cX11_does 104 = .ok (.getfield 13, 3) := dk_180 0 13 (dk_at dksX11_does_4 0 rfl rfl)
theorem dX11_does_107 : decode cX11_does 107 = .ok (.invokevirtual 32, 3) := dk_182 0 32 (dk_at dksX11_does_4 3 rfl rfl)
theorem dX11_does_110 : decode cX11_does 110 = .ok (.ifCond .lt 7, 3) := dk_155 0 7 (dk_at dksX11_does_4 6 rfl rfl)
theorem dX11_does_113 : decode cX11_does 113 = .ok (.iconst 1, 1) := dk_4 (dk_at dksX11_does_4 9 rfl rfl)
theorem dX11_does_114 : decode cX11_does 114 = .ok (.goto 4, 3) := dk_167 0 4 (dk_at dksX11_does_4 10 rfl rfl)
theorem dX11_does_117 : decode cX11_does 117 = .ok (.iconst 0, 1) := dk_3 (dk_at dksX11_does_4 13 rfl rfl)
theorem dX11_does_118 : decode cX11_does 118 = .ok (.ireturn, 1) := dk_172 (dk_at dksX11_does_4 14 rfl rfl)
theorem dX11_does_119 : decode cX11_does 119 = .ok (.aload_n 1, 1) := dk_43 (dk_at dksX11_does_4 15 rfl rfl)
theorem dX11_does_120 : decode cX11_does 120 = .ok (.aload_n 0, 1) := dk_42 (dk_at dksX11_does_4 16 rfl rfl)
theorem dX11_does_121 : decode cX11_does 121 = .ok (.getfield 13, 3) := dk_180 0 13 (dk_at dksX11_does_4 17 rfl rfl)
theorem dX11_does_124 : decode cX11_does 124 = .ok (.invokevirtual 36, 3) := dk_182 0 36 (dk_at dksX11_does_4 20 rfl rfl)
theorem dX11_does_127 : decode cX11_does 127 = .ok (.ifCond .lt 7, 3) := dk_155 0 7 (dk_at dksX11_does_5 0 rfl rfl)
theorem dX11_does_130 : decode cX11_does 130 = .ok (.iconst 1, 1) := dk_4 (dk_at dksX11_does_5 3 rfl rfl)
theorem dX11_does_131 : decode cX11_does 131 = .ok (.goto 4, 3) := dk_167 0 4 (dk_at dksX11_does_5 4 rfl rfl)
theorem dX11_does_134 : decode cX11_does 134 = .ok (.iconst 0, 1) := dk_3 (dk_at dksX11_does_5 7 rfl rfl)
theorem dX11_does_135 : decode cX11_does 135 = .ok (.ireturn, 1) := dk_172 (dk_at dksX11_does_5 8 rfl rfl)
theorem dX11_does_136 : decode cX11_does 136 = .ok (.aload_n 1, 1) := dk_43 (dk_at dksX11_does_5 9 rfl rfl)
theorem dX11_does_137 : decode cX11_does 137 = .ok (.aload_n 0, 1) := dk_42 (dk_at dksX11_does_5 10 rfl rfl)
theorem dX11_does_138 : decode cX11_does 138 = .ok (.getfield 13, 3) := dk_180 0 13 (dk_at dksX11_does_5 11 rfl rfl)
theorem dX11_does_141 : decode cX11_does 141 = .ok (.invokevirtual 39, 3) := dk_182 0 39 (dk_at dksX11_does_5 14 rfl rfl)
theorem dX11_does_144 : decode cX11_does 144 = .ok (.ifCond .lt 7, 3) := dk_155 0 7 (dk_at dksX11_does_5 17 rfl rfl)
theorem dX11_does_147 : decode cX11_does 147 = .ok (.iconst 1, 1) := dk_4 (dk_at dksX11_does_5 20 rfl rfl)
theorem dX11_does_148 : decode cX11_does 148 = .ok (.goto 4, 3) := dk_167 0 4 (dk_at dksX11_does_5 21 rfl rfl)
theorem dX11_does_151 : decode cX11_does 151 = .ok (.iconst 0, 1) := dk_3 (dk_at dksX11_does_6 0 rfl rfl)
theorem dX11_does_152 : decode cX11_does 152 = .ok (.ireturn, 1) := dk_172 (dk_at dksX11_does_6 1 rfl rfl)
theorem dX11_does_153 : decode cX11_does 153 = .ok (.aload_n 1, 1) := dk_43 (dk_at dksX11_does_6 2 rfl rfl)
theorem dX11_does_154 : decode cX11_does 154 = .ok (.invokevirtual 42, 3) := dk_182 0 42 (dk_at dksX11_does_6 3 rfl rfl)
theorem dX11_does_157 : decode cX11_does 157 = .ok (.ifCond .lt 7, 3) := dk_155 0 7 (dk_at dksX11_does_6 6 rfl rfl)
theorem dX11_does_160 : decode cX11_does 160 = .ok (.iconst 1, 1) := dk_4 (dk_at dksX11_does_6 9 rfl rfl)
theorem dX11_does_161 : decode cX11_does 161 = .ok (.goto 4, 3) := dk_167 0 4 (dk_at dksX11_does_6 10 rfl rfl)
theorem dX11_does_164 : decode cX11_does 164 = .ok (.iconst 0, 1) := dk_3 (dk_at dksX11_does_6 13 rfl rfl)
theorem dX11_does_165 : decode cX11_does 165 = .ok (.ireturn, 1) := dk_172 (dk_at dksX11_does_6 14 rfl rfl)
theorem q81 : (Jvm.Cond.initialized "TermIdeals$Clause") ∈ lw_all := lw_g (lw_at lw_m1 16 rfl) rfl
theorem q544 : (Jvm.Cond.instantiable "TermIdeals$Clause" (4 : Nat)) ∈ lw_all := lw_g (lw_at lw_m2 239 rfl) rfl
theorem q546 : (Jvm.Cond.instanceMethod ({ cls := "TermIdeals$Clause", name := "<init>", desc := "(IIII)V" } : Jvm.MethodName)) ∈ lw_all := lw_g (lw_at lw_m3 1 rfl) rfl
theorem q547 : (Jvm.Cond.code ({ cls := "TermIdeals$Clause", name := "<init>", desc := "(IIII)V" } : Jvm.MethodName) prog_3_method_1_code (5 : Nat) (Option.none : Option Jvm.ClassFile.FieldType)) ∈ lw_all := lw_g (lw_at lw_m3 2 rfl) rfl
theorem q548 : (Jvm.Cond.methodLink "TermIdeals$Clause" (1 : Nat) ({ cls := "java/lang/Object", name := "<init>", desc := "()V" } : Jvm.MethodName)) ∈ lw_all := lw_g (lw_at lw_m3 3 rfl) rfl
theorem q549 : (Jvm.Cond.fieldLink "TermIdeals$Clause" (7 : Nat) "TermIdeals$Clause" "sign" "I") ∈ lw_all := lw_g (lw_at lw_m3 4 rfl) rfl
theorem q550 : (Jvm.Cond.fieldLink "TermIdeals$Clause" (13 : Nat) "TermIdeals$Clause" "ideal" "I") ∈ lw_all := lw_g (lw_at lw_m3 5 rfl) rfl
theorem q551 : (Jvm.Cond.fieldLink "TermIdeals$Clause" (16 : Nat) "TermIdeals$Clause" "first" "I") ∈ lw_all := lw_g (lw_at lw_m3 6 rfl) rfl
theorem q552 : (Jvm.Cond.fieldLink "TermIdeals$Clause" (19 : Nat) "TermIdeals$Clause" "second" "I") ∈ lw_all := lw_g (lw_at lw_m3 7 rfl) rfl
theorem q553 : (Jvm.Cond.laysFinal "TermIdeals$Clause" "TermIdeals$Clause" "sign" "I") ∈ lw_all := lw_g (lw_at lw_m3 8 rfl) rfl
theorem q554 : (Jvm.Cond.soleField "TermIdeals$Clause" "sign") ∈ lw_all := lw_g (lw_at lw_m3 9 rfl) rfl
theorem q555 : (Jvm.Cond.laysFinal "TermIdeals$Clause" "TermIdeals$Clause" "ideal" "I") ∈ lw_all := lw_g (lw_at lw_m3 10 rfl) rfl
theorem q556 : (Jvm.Cond.soleField "TermIdeals$Clause" "ideal") ∈ lw_all := lw_g (lw_at lw_m3 11 rfl) rfl
theorem q557 : (Jvm.Cond.laysFinal "TermIdeals$Clause" "TermIdeals$Clause" "first" "I") ∈ lw_all := lw_g (lw_at lw_m3 12 rfl) rfl
theorem q558 : (Jvm.Cond.soleField "TermIdeals$Clause" "first") ∈ lw_all := lw_g (lw_at lw_m3 13 rfl) rfl
theorem q559 : (Jvm.Cond.laysFinal "TermIdeals$Clause" "TermIdeals$Clause" "second" "I") ∈ lw_all := lw_g (lw_at lw_m3 14 rfl) rfl
theorem q560 : (Jvm.Cond.soleField "TermIdeals$Clause" "second") ∈ lw_all := lw_g (lw_at lw_m3 15 rfl) rfl
theorem q561 : (Jvm.Cond.superclass "TermIdeals$Clause" "java/lang/Object") ∈ lw_all := lw_g (lw_at lw_m3 16 rfl) rfl
theorem q567 : (Jvm.Cond.instanceMethod ({ cls := "TermIdeals$Clause", name := "does", desc := "(LTermIdeals;)Z" } : Jvm.MethodName)) ∈ lw_all := lw_g (lw_at lw_m3 22 rfl) rfl
theorem q568 : (Jvm.Cond.selects "TermIdeals$Clause" ({ cls := "TermIdeals$Clause", name := "does", desc := "(LTermIdeals;)Z" } : Jvm.MethodName) ({ cls := "TermIdeals$Clause", name := "does", desc := "(LTermIdeals;)Z" } : Jvm.MethodName)) ∈ lw_all := lw_g (lw_at lw_m3 23 rfl) rfl
theorem q569 : (Jvm.Cond.code ({ cls := "TermIdeals$Clause", name := "does", desc := "(LTermIdeals;)Z" } : Jvm.MethodName) prog_3_method_2_code (2 : Nat) (Option.some Jvm.ClassFile.FieldType.boolean)) ∈ lw_all := lw_g (lw_at lw_m3 24 rfl) rfl
theorem q570 : (Jvm.Cond.methodLink "TermIdeals$Clause" (22 : Nat) ({ cls := "TermIdeals", name := "generate", desc := "(III)I" } : Jvm.MethodName)) ∈ lw_all := lw_g (lw_at lw_m3 25 rfl) rfl
theorem q571 : (Jvm.Cond.methodLink "TermIdeals$Clause" (28 : Nat) ({ cls := "TermIdeals", name := "drop", desc := "(II)I" } : Jvm.MethodName)) ∈ lw_all := lw_g (lw_at lw_m3 26 rfl) rfl
theorem q572 : (Jvm.Cond.methodLink "TermIdeals$Clause" (32 : Nat) ({ cls := "TermIdeals", name := "clear", desc := "(I)I" } : Jvm.MethodName)) ∈ lw_all := lw_g (lw_at lw_m3 27 rfl) rfl
theorem q573 : (Jvm.Cond.methodLink "TermIdeals$Clause" (36 : Nat) ({ cls := "TermIdeals", name := "close", desc := "(I)I" } : Jvm.MethodName)) ∈ lw_all := lw_g (lw_at lw_m3 28 rfl) rfl
theorem q574 : (Jvm.Cond.methodLink "TermIdeals$Clause" (39 : Nat) ({ cls := "TermIdeals", name := "merge", desc := "(I)I" } : Jvm.MethodName)) ∈ lw_all := lw_g (lw_at lw_m3 29 rfl) rfl
theorem q575 : (Jvm.Cond.methodLink "TermIdeals$Clause" (42 : Nat) ({ cls := "TermIdeals", name := "back", desc := "()I" } : Jvm.MethodName)) ∈ lw_all := lw_g (lw_at lw_m3 30 rfl) rfl
theorem in_X11 : ∀ w ∈ wsX110, w ∈ lw_all := lw_in wsX110 [553, 555, 557, 559] (by decide +kernel) (by decide +kernel)
/-! TermIdeals$Reason -/
set_option maxRecDepth 100000
def RX12 : String := "TermIdeals$Reason"
def TX12 : u_T := fun k => match k with
  | 0 => ("java/lang/Throwable", "cause", "Ljava/lang/Throwable;", false)
  | 1 => ("java/lang/Throwable", "stackTrace", "[Ljava/lang/StackTraceElement;", false)
  | 2 => ("java/lang/Throwable", "suppressedExceptions", "Ljava/util/List;", false)
  | 3 => ("java/lang/Throwable", "detailMessage", "Ljava/lang/String;", false)
  | 4 => ("java/lang/Throwable", "backtrace", "Ljava/lang/Object;", false)
  | 5 => ("java/lang/Throwable", "depth", "I", false)
  | _ => ("TermIdeals$Reason", "code", "I", true)
def tyX12 : Nat → FieldType := fun k => match k with
  | 0 => .object "java/lang/Throwable"
  | 1 => .array (.object "java/lang/StackTraceElement")
  | 2 => .object "java/util/List"
  | 3 => .object "java/lang/String"
  | 4 => .object "java/lang/Object"
  | 5 => .int
  | _ => .int
abbrev wsX120 : List Cond := u_ws RX12 TX12 7
theorem nmX12 : ∀ a, a < 7 → ∀ b, b < 7 → a ≠ b → (TX12 a).2.1 ≠ (TX12 b).2.1 := by decide +kernel
theorem tyX12_ok : ∀ k, k < 7 → parseFieldDescriptor (TX12 k).2.2.1 = some (tyX12 k) := by decide +kernel
abbrev cX12_init : ByteArray := prog_12_method_1_code
def yX12_init : MethodName := ⟨RX12, "<init>", "(I)V"⟩
def dkwX12_init_0 : List UInt8 := [42, 183, 0, 1, 42, 27, 181, 0, 7, 177]
abbrev dktX12_init_0 : List UInt8 := dkwX12_init_0 ++ []
theorem dksX12_init_0 : cX12_init.data.toList.drop 0 = dktX12_init_0 := by decide +kernel
theorem dX12_init_0 : decode cX12_init 0 = .ok (.aload_n 0, 1) := dk_42 (dk_at dksX12_init_0 0 rfl rfl)
theorem dX12_init_1 : decode cX12_init 1 = .ok (.invokespecial 1, 3) := dk_183 0 1 (dk_at dksX12_init_0 1 rfl rfl)
theorem dX12_init_4 : decode cX12_init 4 = .ok (.aload_n 0, 1) := dk_42 (dk_at dksX12_init_0 4 rfl rfl)
theorem dX12_init_5 : decode cX12_init 5 = .ok (.iload_n 1, 1) := dk_27 (dk_at dksX12_init_0 5 rfl rfl)
theorem dX12_init_6 : decode cX12_init 6 = .ok (.putfield 7, 3) := dk_181 0 7 (dk_at dksX12_init_0 6 rfl rfl)
theorem dX12_init_9 : decode cX12_init 9 = .ok (.return_, 1) := dk_177 (dk_at dksX12_init_0 9 rfl rfl)
abbrev cX12_init_2 : ByteArray := prog_12_method_2_code
def yX12_init_2 : MethodName := ⟨RX12, "<init>", "(ILTermIdeals$Reason;)V"⟩
def dkwX12_init_2_0 : List UInt8 := [42, 1, 44, 183, 0, 13, 42, 27, 181, 0, 7, 177]
abbrev dktX12_init_2_0 : List UInt8 := dkwX12_init_2_0 ++ []
theorem dksX12_init_2_0 : cX12_init_2.data.toList.drop 0 = dktX12_init_2_0 := by decide +kernel
theorem dX12_init_2_0 : decode cX12_init_2 0 = .ok (.aload_n 0, 1) := dk_42 (dk_at dksX12_init_2_0 0 rfl rfl)
theorem dX12_init_2_1 : decode cX12_init_2 1 = .ok (.aconst_null, 1) := dk_1 (dk_at dksX12_init_2_0 1 rfl rfl)
theorem dX12_init_2_2 : decode cX12_init_2 2 = .ok (.aload_n 2, 1) := dk_44 (dk_at dksX12_init_2_0 2 rfl rfl)
theorem dX12_init_2_3 : decode cX12_init_2 3 = .ok (.invokespecial 13, 3) := dk_183 0 13 (dk_at dksX12_init_2_0 3 rfl rfl)
theorem dX12_init_2_6 : decode cX12_init_2 6 = .ok (.aload_n 0, 1) := dk_42 (dk_at dksX12_init_2_0 6 rfl rfl)
theorem dX12_init_2_7 : decode cX12_init_2 7 = .ok (.iload_n 1, 1) := dk_27 (dk_at dksX12_init_2_0 7 rfl rfl)
theorem dX12_init_2_8 : decode cX12_init_2 8 = .ok (.putfield 7, 3) := dk_181 0 7 (dk_at dksX12_init_2_0 8 rfl rfl)
theorem dX12_init_2_11 : decode cX12_init_2 11 = .ok (.return_, 1) := dk_177 (dk_at dksX12_init_2_0 11 rfl rfl)
abbrev cX12_code : ByteArray := prog_12_method_3_code
def yX12_code : MethodName := ⟨RX12, "code", "()I"⟩
theorem dX12_code_0 : decode cX12_code 0 = .ok (.aload_n 0, 1) := by decide +kernel
theorem dX12_code_1 : decode cX12_code 1 = .ok (.getfield 7, 3) := by decide +kernel
theorem dX12_code_4 : decode cX12_code 4 = .ok (.ireturn, 1) := by decide +kernel
theorem q82 : (Jvm.Cond.initialized "TermIdeals$Reason") ∈ lw_all := lw_g (lw_at lw_m1 17 rfl) rfl
theorem q396 : (Jvm.Cond.selects "TermIdeals$Reason" ({ cls := "java/lang/Throwable", name := "fillInStackTrace", desc := "()Ljava/lang/Throwable;" } : Jvm.MethodName) ({ cls := "java/lang/Throwable", name := "fillInStackTrace", desc := "()Ljava/lang/Throwable;" } : Jvm.MethodName)) ∈ lw_all := lw_g (lw_at lw_m2 91 rfl) rfl
theorem q665 : (Jvm.Cond.instantiable "TermIdeals$Reason" (7 : Nat)) ∈ lw_all := lw_g (lw_at lw_m3 120 rfl) rfl
theorem q666 : (Jvm.Cond.castable "TermIdeals$Reason" "TermIdeals$Reason") ∈ lw_tbl := lw_at lw_m3 121 rfl
theorem q667 : (Jvm.Cond.selects "TermIdeals$Reason" ({ cls := "java/lang/Throwable", name := "fillInStackTrace", desc := "(I)Ljava/lang/Throwable;" } : Jvm.MethodName) ({ cls := "java/lang/Throwable", name := "fillInStackTrace", desc := "(I)Ljava/lang/Throwable;" } : Jvm.MethodName)) ∈ lw_all := lw_g (lw_at lw_m3 122 rfl) rfl
theorem q668 : (Jvm.Cond.lays "TermIdeals$Reason" "java/lang/Throwable" "cause" "Ljava/lang/Throwable;") ∈ lw_all := lw_g (lw_at lw_m3 123 rfl) rfl
theorem q669 : (Jvm.Cond.lays "TermIdeals$Reason" "java/lang/Throwable" "stackTrace" "[Ljava/lang/StackTraceElement;") ∈ lw_all := lw_g (lw_at lw_m3 124 rfl) rfl
theorem q670 : (Jvm.Cond.lays "TermIdeals$Reason" "java/lang/Throwable" "suppressedExceptions" "Ljava/util/List;") ∈ lw_all := lw_g (lw_at lw_m3 125 rfl) rfl
theorem q671 : (Jvm.Cond.lays "TermIdeals$Reason" "java/lang/Throwable" "detailMessage" "Ljava/lang/String;") ∈ lw_all := lw_g (lw_at lw_m3 126 rfl) rfl
theorem q672 : (Jvm.Cond.lays "TermIdeals$Reason" "java/lang/Throwable" "backtrace" "Ljava/lang/Object;") ∈ lw_all := lw_g (lw_at lw_m3 127 rfl) rfl
theorem q674 : (Jvm.Cond.instanceMethod ({ cls := "TermIdeals$Reason", name := "<init>", desc := "(I)V" } : Jvm.MethodName)) ∈ lw_all := lw_g (lw_at lw_m3 129 rfl) rfl
theorem q675 : (Jvm.Cond.code ({ cls := "TermIdeals$Reason", name := "<init>", desc := "(I)V" } : Jvm.MethodName) prog_12_method_1_code (2 : Nat) (Option.none : Option Jvm.ClassFile.FieldType)) ∈ lw_all := lw_g (lw_at lw_m3 130 rfl) rfl
theorem q676 : (Jvm.Cond.methodLink "TermIdeals$Reason" (1 : Nat) ({ cls := "java/lang/Exception", name := "<init>", desc := "()V" } : Jvm.MethodName)) ∈ lw_all := lw_g (lw_at lw_m3 131 rfl) rfl
theorem q677 : (Jvm.Cond.fieldLink "TermIdeals$Reason" (7 : Nat) "TermIdeals$Reason" "code" "I") ∈ lw_all := lw_g (lw_at lw_m3 132 rfl) rfl
theorem q678 : (Jvm.Cond.laysFinal "TermIdeals$Reason" "TermIdeals$Reason" "code" "I") ∈ lw_all := lw_g (lw_at lw_m3 133 rfl) rfl
theorem q679 : (Jvm.Cond.soleField "TermIdeals$Reason" "code") ∈ lw_all := lw_g (lw_at lw_m3 134 rfl) rfl
theorem q680 : (Jvm.Cond.lays "TermIdeals$Reason" "java/lang/Throwable" "depth" "I") ∈ lw_all := lw_g (lw_at lw_m3 135 rfl) rfl
theorem q681 : (Jvm.Cond.superclass "TermIdeals$Reason" "java/lang/Exception") ∈ lw_all := lw_g (lw_at lw_m3 136 rfl) rfl
theorem q683 : (Jvm.Cond.instanceMethod ({ cls := "TermIdeals$Reason", name := "<init>", desc := "(ILTermIdeals$Reason;)V" } : Jvm.MethodName)) ∈ lw_all := lw_g (lw_at lw_m3 138 rfl) rfl
theorem q684 : (Jvm.Cond.code ({ cls := "TermIdeals$Reason", name := "<init>", desc := "(ILTermIdeals$Reason;)V" } : Jvm.MethodName) prog_12_method_2_code (3 : Nat) (Option.none : Option Jvm.ClassFile.FieldType)) ∈ lw_all := lw_g (lw_at lw_m3 139 rfl) rfl
theorem q685 : (Jvm.Cond.methodLink "TermIdeals$Reason" (13 : Nat) ({ cls := "java/lang/Exception", name := "<init>", desc := "(Ljava/lang/String;Ljava/lang/Throwable;)V" } : Jvm.MethodName)) ∈ lw_all := lw_g (lw_at lw_m3 140 rfl) rfl
theorem q729 : (Jvm.Cond.selects "TermIdeals$Reason" ({ cls := "java/lang/Throwable", name := "getCause", desc := "()Ljava/lang/Throwable;" } : Jvm.MethodName) ({ cls := "java/lang/Throwable", name := "getCause", desc := "()Ljava/lang/Throwable;" } : Jvm.MethodName)) ∈ lw_all := lw_g (lw_at lw_m3 184 rfl) rfl
theorem q738 : (Jvm.Cond.instanceMethod ({ cls := "TermIdeals$Reason", name := "code", desc := "()I" } : Jvm.MethodName)) ∈ lw_all := lw_g (lw_at lw_m3 193 rfl) rfl
theorem q739 : (Jvm.Cond.selects "TermIdeals$Reason" ({ cls := "TermIdeals$Reason", name := "code", desc := "()I" } : Jvm.MethodName) ({ cls := "TermIdeals$Reason", name := "code", desc := "()I" } : Jvm.MethodName)) ∈ lw_all := lw_g (lw_at lw_m3 194 rfl) rfl
theorem q740 : (Jvm.Cond.sameMethod "TermIdeals$Reason" "TermIdeals$Reason" "code" "()I") ∈ lw_all := lw_g (lw_at lw_m3 195 rfl) rfl
theorem q743 : (Jvm.Cond.code ({ cls := "TermIdeals$Reason", name := "code", desc := "()I" } : Jvm.MethodName) prog_12_method_3_code (1 : Nat) (Option.some Jvm.ClassFile.FieldType.int)) ∈ lw_all := lw_g (lw_at lw_m3 198 rfl) rfl
theorem in_X12 : ∀ w ∈ wsX120, w ∈ lw_all := lw_in wsX120 [668, 669, 670, 671, 672, 680, 678] (by decide +kernel) (by decide +kernel)
/-! TermIdeals$Light -/
set_option maxRecDepth 100000
def RX13 : String := "TermIdeals$Light"
def TX13 : u_T := fun k => match k with
  | 0 => ("java/lang/Throwable", "cause", "Ljava/lang/Throwable;", false)
  | 1 => ("java/lang/Throwable", "stackTrace", "[Ljava/lang/StackTraceElement;", false)
  | 2 => ("java/lang/Throwable", "suppressedExceptions", "Ljava/util/List;", false)
  | 3 => ("java/lang/Throwable", "detailMessage", "Ljava/lang/String;", false)
  | 4 => ("java/lang/Throwable", "backtrace", "Ljava/lang/Object;", false)
  | 5 => ("java/lang/Throwable", "depth", "I", false)
  | _ => ("TermIdeals$Reason", "code", "I", true)
def tyX13 : Nat → FieldType := fun k => match k with
  | 0 => .object "java/lang/Throwable"
  | 1 => .array (.object "java/lang/StackTraceElement")
  | 2 => .object "java/util/List"
  | 3 => .object "java/lang/String"
  | 4 => .object "java/lang/Object"
  | 5 => .int
  | _ => .int
abbrev wsX130 : List Cond := u_ws RX13 TX13 7
theorem nmX13 : ∀ a, a < 7 → ∀ b, b < 7 → a ≠ b → (TX13 a).2.1 ≠ (TX13 b).2.1 := by decide +kernel
theorem tyX13_ok : ∀ k, k < 7 → parseFieldDescriptor (TX13 k).2.2.1 = some (tyX13 k) := by decide +kernel
abbrev cX13_init : ByteArray := prog_8_method_1_code
def yX13_init : MethodName := ⟨RX13, "<init>", "(ILTermIdeals$Reason;)V"⟩
def dkwX13_init_0 : List UInt8 := [42, 27, 44, 183, 0, 1, 177]
abbrev dktX13_init_0 : List UInt8 := dkwX13_init_0 ++ []
theorem dksX13_init_0 : cX13_init.data.toList.drop 0 = dktX13_init_0 := by decide +kernel
theorem dX13_init_0 : decode cX13_init 0 = .ok (.aload_n 0, 1) := dk_42 (dk_at dksX13_init_0 0 rfl rfl)
theorem dX13_init_1 : decode cX13_init 1 = .ok (.iload_n 1, 1) := dk_27 (dk_at dksX13_init_0 1 rfl rfl)
theorem dX13_init_2 : decode cX13_init 2 = .ok (.aload_n 2, 1) := dk_44 (dk_at dksX13_init_0 2 rfl rfl)
theorem dX13_init_3 : decode cX13_init 3 = .ok (.invokespecial 1, 3) := dk_183 0 1 (dk_at dksX13_init_0 3 rfl rfl)
theorem dX13_init_6 : decode cX13_init 6 = .ok (.return_, 1) := dk_177 (dk_at dksX13_init_0 6 rfl rfl)
theorem q83 : (Jvm.Cond.initialized "TermIdeals$Light") ∈ lw_all := lw_g (lw_at lw_m1 18 rfl) rfl
theorem q393 : (Jvm.Cond.selects "TermIdeals$Light" ({ cls := "java/lang/Throwable", name := "fillInStackTrace", desc := "()Ljava/lang/Throwable;" } : Jvm.MethodName) ({ cls := "java/lang/Throwable", name := "fillInStackTrace", desc := "()Ljava/lang/Throwable;" } : Jvm.MethodName)) ∈ lw_all := lw_g (lw_at lw_m2 88 rfl) rfl
theorem q656 : (Jvm.Cond.instantiable "TermIdeals$Light" (7 : Nat)) ∈ lw_all := lw_g (lw_at lw_m3 111 rfl) rfl
theorem q657 : (Jvm.Cond.castable "TermIdeals$Light" "TermIdeals$Light") ∈ lw_tbl := lw_at lw_m3 112 rfl
theorem q658 : (Jvm.Cond.selects "TermIdeals$Light" ({ cls := "java/lang/Throwable", name := "fillInStackTrace", desc := "(I)Ljava/lang/Throwable;" } : Jvm.MethodName) ({ cls := "java/lang/Throwable", name := "fillInStackTrace", desc := "(I)Ljava/lang/Throwable;" } : Jvm.MethodName)) ∈ lw_all := lw_g (lw_at lw_m3 113 rfl) rfl
theorem q659 : (Jvm.Cond.lays "TermIdeals$Light" "java/lang/Throwable" "cause" "Ljava/lang/Throwable;") ∈ lw_all := lw_g (lw_at lw_m3 114 rfl) rfl
theorem q660 : (Jvm.Cond.lays "TermIdeals$Light" "java/lang/Throwable" "stackTrace" "[Ljava/lang/StackTraceElement;") ∈ lw_all := lw_g (lw_at lw_m3 115 rfl) rfl
theorem q661 : (Jvm.Cond.lays "TermIdeals$Light" "java/lang/Throwable" "suppressedExceptions" "Ljava/util/List;") ∈ lw_all := lw_g (lw_at lw_m3 116 rfl) rfl
theorem q662 : (Jvm.Cond.lays "TermIdeals$Light" "java/lang/Throwable" "detailMessage" "Ljava/lang/String;") ∈ lw_all := lw_g (lw_at lw_m3 117 rfl) rfl
theorem q663 : (Jvm.Cond.lays "TermIdeals$Light" "java/lang/Throwable" "backtrace" "Ljava/lang/Object;") ∈ lw_all := lw_g (lw_at lw_m3 118 rfl) rfl
theorem q692 : (Jvm.Cond.instanceMethod ({ cls := "TermIdeals$Light", name := "<init>", desc := "(ILTermIdeals$Reason;)V" } : Jvm.MethodName)) ∈ lw_all := lw_g (lw_at lw_m3 147 rfl) rfl
theorem q693 : (Jvm.Cond.code ({ cls := "TermIdeals$Light", name := "<init>", desc := "(ILTermIdeals$Reason;)V" } : Jvm.MethodName) prog_8_method_1_code (3 : Nat) (Option.none : Option Jvm.ClassFile.FieldType)) ∈ lw_all := lw_g (lw_at lw_m3 148 rfl) rfl
theorem q694 : (Jvm.Cond.methodLink "TermIdeals$Light" (1 : Nat) ({ cls := "TermIdeals$Reason", name := "<init>", desc := "(ILTermIdeals$Reason;)V" } : Jvm.MethodName)) ∈ lw_all := lw_g (lw_at lw_m3 149 rfl) rfl
theorem q695 : (Jvm.Cond.laysFinal "TermIdeals$Light" "TermIdeals$Reason" "code" "I") ∈ lw_all := lw_g (lw_at lw_m3 150 rfl) rfl
theorem q696 : (Jvm.Cond.lays "TermIdeals$Light" "java/lang/Throwable" "depth" "I") ∈ lw_all := lw_g (lw_at lw_m3 151 rfl) rfl
theorem q697 : (Jvm.Cond.superclass "TermIdeals$Light" "TermIdeals$Reason") ∈ lw_all := lw_g (lw_at lw_m3 152 rfl) rfl
theorem q726 : (Jvm.Cond.selects "TermIdeals$Light" ({ cls := "java/lang/Throwable", name := "getCause", desc := "()Ljava/lang/Throwable;" } : Jvm.MethodName) ({ cls := "java/lang/Throwable", name := "getCause", desc := "()Ljava/lang/Throwable;" } : Jvm.MethodName)) ∈ lw_all := lw_g (lw_at lw_m3 181 rfl) rfl
theorem q742 : (Jvm.Cond.selects "TermIdeals$Light" ({ cls := "TermIdeals$Reason", name := "code", desc := "()I" } : Jvm.MethodName) ({ cls := "TermIdeals$Reason", name := "code", desc := "()I" } : Jvm.MethodName)) ∈ lw_all := lw_g (lw_at lw_m3 197 rfl) rfl
theorem q1580 : (Jvm.Cond.castable "TermIdeals$Light" "TermIdeals$Reason") ∈ lw_tbl := lw_at lw_m7 75 rfl
theorem in_X13 : ∀ w ∈ wsX130, w ∈ lw_all := lw_in wsX130 [659, 660, 661, 662, 663, 696, 695] (by decide +kernel) (by decide +kernel)
/-! TermIdeals$Barred -/
set_option maxRecDepth 100000
def RX14 : String := "TermIdeals$Barred"
def TX14 : u_T := fun k => match k with
  | 0 => ("java/lang/Throwable", "cause", "Ljava/lang/Throwable;", false)
  | 1 => ("java/lang/Throwable", "stackTrace", "[Ljava/lang/StackTraceElement;", false)
  | 2 => ("java/lang/Throwable", "suppressedExceptions", "Ljava/util/List;", false)
  | 3 => ("java/lang/Throwable", "detailMessage", "Ljava/lang/String;", false)
  | 4 => ("java/lang/Throwable", "backtrace", "Ljava/lang/Object;", false)
  | 5 => ("java/lang/Throwable", "depth", "I", false)
  | _ => ("TermIdeals$Reason", "code", "I", true)
def tyX14 : Nat → FieldType := fun k => match k with
  | 0 => .object "java/lang/Throwable"
  | 1 => .array (.object "java/lang/StackTraceElement")
  | 2 => .object "java/util/List"
  | 3 => .object "java/lang/String"
  | 4 => .object "java/lang/Object"
  | 5 => .int
  | _ => .int
abbrev wsX140 : List Cond := u_ws RX14 TX14 7
theorem nmX14 : ∀ a, a < 7 → ∀ b, b < 7 → a ≠ b → (TX14 a).2.1 ≠ (TX14 b).2.1 := by decide +kernel
theorem tyX14_ok : ∀ k, k < 7 → parseFieldDescriptor (TX14 k).2.2.1 = some (tyX14 k) := by decide +kernel
abbrev cX14_init : ByteArray := prog_2_method_1_code
def yX14_init : MethodName := ⟨RX14, "<init>", "(ILTermIdeals$Reason;)V"⟩
def dkwX14_init_0 : List UInt8 := [42, 27, 44, 183, 0, 1, 177]
abbrev dktX14_init_0 : List UInt8 := dkwX14_init_0 ++ []
theorem dksX14_init_0 : cX14_init.data.toList.drop 0 = dktX14_init_0 := by decide +kernel
theorem dX14_init_0 : decode cX14_init 0 = .ok (.aload_n 0, 1) := dk_42 (dk_at dksX14_init_0 0 rfl rfl)
theorem dX14_init_1 : decode cX14_init 1 = .ok (.iload_n 1, 1) := dk_27 (dk_at dksX14_init_0 1 rfl rfl)
theorem dX14_init_2 : decode cX14_init 2 = .ok (.aload_n 2, 1) := dk_44 (dk_at dksX14_init_0 2 rfl rfl)
theorem dX14_init_3 : decode cX14_init 3 = .ok (.invokespecial 1, 3) := dk_183 0 1 (dk_at dksX14_init_0 3 rfl rfl)
theorem dX14_init_6 : decode cX14_init 6 = .ok (.return_, 1) := dk_177 (dk_at dksX14_init_0 6 rfl rfl)
theorem q84 : (Jvm.Cond.initialized "TermIdeals$Barred") ∈ lw_all := lw_g (lw_at lw_m1 19 rfl) rfl
theorem q392 : (Jvm.Cond.selects "TermIdeals$Barred" ({ cls := "java/lang/Throwable", name := "fillInStackTrace", desc := "()Ljava/lang/Throwable;" } : Jvm.MethodName) ({ cls := "java/lang/Throwable", name := "fillInStackTrace", desc := "()Ljava/lang/Throwable;" } : Jvm.MethodName)) ∈ lw_all := lw_g (lw_at lw_m2 87 rfl) rfl
theorem q699 : (Jvm.Cond.instantiable "TermIdeals$Barred" (7 : Nat)) ∈ lw_all := lw_g (lw_at lw_m3 154 rfl) rfl
theorem q700 : (Jvm.Cond.castable "TermIdeals$Barred" "TermIdeals$Barred") ∈ lw_tbl := lw_at lw_m3 155 rfl
theorem q701 : (Jvm.Cond.selects "TermIdeals$Barred" ({ cls := "java/lang/Throwable", name := "fillInStackTrace", desc := "(I)Ljava/lang/Throwable;" } : Jvm.MethodName) ({ cls := "java/lang/Throwable", name := "fillInStackTrace", desc := "(I)Ljava/lang/Throwable;" } : Jvm.MethodName)) ∈ lw_all := lw_g (lw_at lw_m3 156 rfl) rfl
theorem q702 : (Jvm.Cond.lays "TermIdeals$Barred" "java/lang/Throwable" "cause" "Ljava/lang/Throwable;") ∈ lw_all := lw_g (lw_at lw_m3 157 rfl) rfl
theorem q703 : (Jvm.Cond.lays "TermIdeals$Barred" "java/lang/Throwable" "stackTrace" "[Ljava/lang/StackTraceElement;") ∈ lw_all := lw_g (lw_at lw_m3 158 rfl) rfl
theorem q704 : (Jvm.Cond.lays "TermIdeals$Barred" "java/lang/Throwable" "suppressedExceptions" "Ljava/util/List;") ∈ lw_all := lw_g (lw_at lw_m3 159 rfl) rfl
theorem q705 : (Jvm.Cond.lays "TermIdeals$Barred" "java/lang/Throwable" "detailMessage" "Ljava/lang/String;") ∈ lw_all := lw_g (lw_at lw_m3 160 rfl) rfl
theorem q706 : (Jvm.Cond.lays "TermIdeals$Barred" "java/lang/Throwable" "backtrace" "Ljava/lang/Object;") ∈ lw_all := lw_g (lw_at lw_m3 161 rfl) rfl
theorem q708 : (Jvm.Cond.instanceMethod ({ cls := "TermIdeals$Barred", name := "<init>", desc := "(ILTermIdeals$Reason;)V" } : Jvm.MethodName)) ∈ lw_all := lw_g (lw_at lw_m3 163 rfl) rfl
theorem q709 : (Jvm.Cond.code ({ cls := "TermIdeals$Barred", name := "<init>", desc := "(ILTermIdeals$Reason;)V" } : Jvm.MethodName) prog_2_method_1_code (3 : Nat) (Option.none : Option Jvm.ClassFile.FieldType)) ∈ lw_all := lw_g (lw_at lw_m3 164 rfl) rfl
theorem q710 : (Jvm.Cond.methodLink "TermIdeals$Barred" (1 : Nat) ({ cls := "TermIdeals$Reason", name := "<init>", desc := "(ILTermIdeals$Reason;)V" } : Jvm.MethodName)) ∈ lw_all := lw_g (lw_at lw_m3 165 rfl) rfl
theorem q711 : (Jvm.Cond.laysFinal "TermIdeals$Barred" "TermIdeals$Reason" "code" "I") ∈ lw_all := lw_g (lw_at lw_m3 166 rfl) rfl
theorem q712 : (Jvm.Cond.lays "TermIdeals$Barred" "java/lang/Throwable" "depth" "I") ∈ lw_all := lw_g (lw_at lw_m3 167 rfl) rfl
theorem q713 : (Jvm.Cond.superclass "TermIdeals$Barred" "TermIdeals$Reason") ∈ lw_all := lw_g (lw_at lw_m3 168 rfl) rfl
theorem q724 : (Jvm.Cond.selects "TermIdeals$Barred" ({ cls := "java/lang/Throwable", name := "getCause", desc := "()Ljava/lang/Throwable;" } : Jvm.MethodName) ({ cls := "java/lang/Throwable", name := "getCause", desc := "()Ljava/lang/Throwable;" } : Jvm.MethodName)) ∈ lw_all := lw_g (lw_at lw_m3 179 rfl) rfl
theorem q741 : (Jvm.Cond.selects "TermIdeals$Barred" ({ cls := "TermIdeals$Reason", name := "code", desc := "()I" } : Jvm.MethodName) ({ cls := "TermIdeals$Reason", name := "code", desc := "()I" } : Jvm.MethodName)) ∈ lw_all := lw_g (lw_at lw_m3 196 rfl) rfl
theorem q1579 : (Jvm.Cond.castable "TermIdeals$Barred" "TermIdeals$Reason") ∈ lw_tbl := lw_at lw_m7 74 rfl
theorem in_X14 : ∀ w ∈ wsX140, w ∈ lw_all := lw_in wsX140 [702, 703, 704, 705, 706, 712, 711] (by decide +kernel) (by decide +kernel)
/-! TermIdeals$Off -/
set_option maxRecDepth 100000
def RX15 : String := "TermIdeals$Off"
def TX15 : u_T := fun k => match k with
  | 0 => ("java/lang/Throwable", "cause", "Ljava/lang/Throwable;", false)
  | 1 => ("java/lang/Throwable", "stackTrace", "[Ljava/lang/StackTraceElement;", false)
  | 2 => ("java/lang/Throwable", "suppressedExceptions", "Ljava/util/List;", false)
  | 3 => ("java/lang/Throwable", "detailMessage", "Ljava/lang/String;", false)
  | 4 => ("java/lang/Throwable", "backtrace", "Ljava/lang/Object;", false)
  | 5 => ("java/lang/Throwable", "depth", "I", false)
  | _ => ("TermIdeals$Off", "place", "I", true)
def tyX15 : Nat → FieldType := fun k => match k with
  | 0 => .object "java/lang/Throwable"
  | 1 => .array (.object "java/lang/StackTraceElement")
  | 2 => .object "java/util/List"
  | 3 => .object "java/lang/String"
  | 4 => .object "java/lang/Object"
  | 5 => .int
  | _ => .int
abbrev wsX150 : List Cond := u_ws RX15 TX15 7
theorem nmX15 : ∀ a, a < 7 → ∀ b, b < 7 → a ≠ b → (TX15 a).2.1 ≠ (TX15 b).2.1 := by decide +kernel
theorem tyX15_ok : ∀ k, k < 7 → parseFieldDescriptor (TX15 k).2.2.1 = some (tyX15 k) := by decide +kernel
abbrev cX15_init : ByteArray := prog_10_method_1_code
def yX15_init : MethodName := ⟨RX15, "<init>", "(I)V"⟩
def dkwX15_init_0 : List UInt8 := [42, 183, 0, 1, 42, 27, 181, 0, 7, 177]
abbrev dktX15_init_0 : List UInt8 := dkwX15_init_0 ++ []
theorem dksX15_init_0 : cX15_init.data.toList.drop 0 = dktX15_init_0 := by decide +kernel
theorem dX15_init_0 : decode cX15_init 0 = .ok (.aload_n 0, 1) := dk_42 (dk_at dksX15_init_0 0 rfl rfl)
theorem dX15_init_1 : decode cX15_init 1 = .ok (.invokespecial 1, 3) := dk_183 0 1 (dk_at dksX15_init_0 1 rfl rfl)
theorem dX15_init_4 : decode cX15_init 4 = .ok (.aload_n 0, 1) := dk_42 (dk_at dksX15_init_0 4 rfl rfl)
theorem dX15_init_5 : decode cX15_init 5 = .ok (.iload_n 1, 1) := dk_27 (dk_at dksX15_init_0 5 rfl rfl)
theorem dX15_init_6 : decode cX15_init 6 = .ok (.putfield 7, 3) := dk_181 0 7 (dk_at dksX15_init_0 6 rfl rfl)
theorem dX15_init_9 : decode cX15_init 9 = .ok (.return_, 1) := dk_177 (dk_at dksX15_init_0 9 rfl rfl)
theorem q92 : (Jvm.Cond.initialized "TermIdeals$Off") ∈ lw_all := lw_g (lw_at lw_m1 27 rfl) rfl
theorem q395 : (Jvm.Cond.selects "TermIdeals$Off" ({ cls := "java/lang/Throwable", name := "fillInStackTrace", desc := "()Ljava/lang/Throwable;" } : Jvm.MethodName) ({ cls := "java/lang/Throwable", name := "fillInStackTrace", desc := "()Ljava/lang/Throwable;" } : Jvm.MethodName)) ∈ lw_all := lw_g (lw_at lw_m2 90 rfl) rfl
theorem q728 : (Jvm.Cond.selects "TermIdeals$Off" ({ cls := "java/lang/Throwable", name := "getCause", desc := "()Ljava/lang/Throwable;" } : Jvm.MethodName) ({ cls := "java/lang/Throwable", name := "getCause", desc := "()Ljava/lang/Throwable;" } : Jvm.MethodName)) ∈ lw_all := lw_g (lw_at lw_m3 183 rfl) rfl
theorem q1025 : (Jvm.Cond.instantiable "TermIdeals$Off" (7 : Nat)) ∈ lw_all := lw_g (lw_at lw_m5 0 rfl) rfl
theorem q1026 : (Jvm.Cond.castable "TermIdeals$Off" "TermIdeals$Off") ∈ lw_tbl := lw_at lw_m5 1 rfl
theorem q1027 : (Jvm.Cond.selects "TermIdeals$Off" ({ cls := "java/lang/Throwable", name := "fillInStackTrace", desc := "(I)Ljava/lang/Throwable;" } : Jvm.MethodName) ({ cls := "java/lang/Throwable", name := "fillInStackTrace", desc := "(I)Ljava/lang/Throwable;" } : Jvm.MethodName)) ∈ lw_all := lw_g (lw_at lw_m5 2 rfl) rfl
theorem q1028 : (Jvm.Cond.lays "TermIdeals$Off" "java/lang/Throwable" "cause" "Ljava/lang/Throwable;") ∈ lw_all := lw_g (lw_at lw_m5 3 rfl) rfl
theorem q1029 : (Jvm.Cond.lays "TermIdeals$Off" "java/lang/Throwable" "stackTrace" "[Ljava/lang/StackTraceElement;") ∈ lw_all := lw_g (lw_at lw_m5 4 rfl) rfl
theorem q1030 : (Jvm.Cond.lays "TermIdeals$Off" "java/lang/Throwable" "suppressedExceptions" "Ljava/util/List;") ∈ lw_all := lw_g (lw_at lw_m5 5 rfl) rfl
theorem q1031 : (Jvm.Cond.lays "TermIdeals$Off" "java/lang/Throwable" "detailMessage" "Ljava/lang/String;") ∈ lw_all := lw_g (lw_at lw_m5 6 rfl) rfl
theorem q1032 : (Jvm.Cond.lays "TermIdeals$Off" "java/lang/Throwable" "backtrace" "Ljava/lang/Object;") ∈ lw_all := lw_g (lw_at lw_m5 7 rfl) rfl
theorem q1034 : (Jvm.Cond.instanceMethod ({ cls := "TermIdeals$Off", name := "<init>", desc := "(I)V" } : Jvm.MethodName)) ∈ lw_all := lw_g (lw_at lw_m5 9 rfl) rfl
theorem q1035 : (Jvm.Cond.code ({ cls := "TermIdeals$Off", name := "<init>", desc := "(I)V" } : Jvm.MethodName) prog_10_method_1_code (2 : Nat) (Option.none : Option Jvm.ClassFile.FieldType)) ∈ lw_all := lw_g (lw_at lw_m5 10 rfl) rfl
theorem q1036 : (Jvm.Cond.methodLink "TermIdeals$Off" (1 : Nat) ({ cls := "java/lang/RuntimeException", name := "<init>", desc := "()V" } : Jvm.MethodName)) ∈ lw_all := lw_g (lw_at lw_m5 11 rfl) rfl
theorem q1037 : (Jvm.Cond.fieldLink "TermIdeals$Off" (7 : Nat) "TermIdeals$Off" "place" "I") ∈ lw_all := lw_g (lw_at lw_m5 12 rfl) rfl
theorem q1039 : (Jvm.Cond.laysFinal "TermIdeals$Off" "TermIdeals$Off" "place" "I") ∈ lw_all := lw_g (lw_at lw_m5 14 rfl) rfl
theorem q1040 : (Jvm.Cond.soleField "TermIdeals$Off" "place") ∈ lw_all := lw_g (lw_at lw_m5 15 rfl) rfl
theorem q1041 : (Jvm.Cond.lays "TermIdeals$Off" "java/lang/Throwable" "depth" "I") ∈ lw_all := lw_g (lw_at lw_m5 16 rfl) rfl
theorem q1042 : (Jvm.Cond.superclass "TermIdeals$Off" "java/lang/RuntimeException") ∈ lw_all := lw_g (lw_at lw_m5 17 rfl) rfl
theorem in_X15 : ∀ w ∈ wsX150, w ∈ lw_all := lw_in wsX150 [1028, 1029, 1030, 1031, 1032, 1041, 1039] (by decide +kernel) (by decide +kernel)
