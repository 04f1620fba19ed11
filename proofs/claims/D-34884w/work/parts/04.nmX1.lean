/-! CartelWatch -/
set_option maxRecDepth 100000
def RX1 : String := "CartelWatch"
def TX1 : u_T := fun k => match k with
  | 0 => ("CartelWatch", "tenders", "Ljava/util/List;", true)
  | 1 => ("CartelWatch", "files", "Ljava/util/List;", true)
  | 2 => ("CartelWatch", "paid", "[I", true)
  | _ => ("CartelWatch", "mark", "I", false)
def tyX1 : Nat → FieldType := fun k => match k with
  | 0 => .object "java/util/List"
  | 1 => .object "java/util/List"
  | 2 => .array .int
  | _ => .int
abbrev wsX10 : List Cond := u_ws RX1 TX1 4
theorem nmX1 : ∀ a, a < 4 → ∀ b, b < 4 → a ≠ b → (TX1 a).2.1 ≠ (TX1 b).2.1 := by decide +kernel
theorem tyX1_ok : ∀ k, k < 4 → parseFieldDescriptor (TX1 k).2.2.1 = some (tyX1 k) := by decide +kernel
abbrev cX1_init : ByteArray := prog_1_method_2_code
def yX1_init : MethodName := ⟨RX1, "<init>", "()V"⟩
def dkwX1_init_1 : List UInt8 := [181, 0, 32, 42, 16, 7, 188, 10, 181, 0, 35, 42, 16, 10, 181, 0, 39, 177]
abbrev dktX1_init_1 : List UInt8 := dkwX1_init_1 ++ []
def dkwX1_init_0 : List UInt8 := [42, 183, 0, 17, 42, 187, 0, 23, 89, 183, 0, 25, 181, 0, 26, 42, 187, 0, 23, 89, 183, 0, 25]
abbrev dktX1_init_0 : List UInt8 := dkwX1_init_0 ++ dktX1_init_1
theorem dksX1_init_0 : cX1_init.data.toList.drop 0 = dktX1_init_0 := by decide +kernel
theorem dksX1_init_1 : cX1_init.data.toList.drop 23 = dktX1_init_1 := dk_seg dksX1_init_0 23 rfl rfl
theorem dX1_init_0 : decode cX1_init 0 = .ok (.aload_n 0, 1) := dk_42 (dk_at dksX1_init_0 0 rfl rfl)
theorem dX1_init_1 : decode cX1_init 1 = .ok (.invokespecial 17, 3) := dk_183 0 17 (dk_at dksX1_init_0 1 rfl rfl)
theorem dX1_init_4 : decode cX1_init 4 = .ok (.aload_n 0, 1) := dk_42 (dk_at dksX1_init_0 4 rfl rfl)
theorem dX1_init_5 : decode cX1_init 5 = .ok (.new 23, 3) := dk_187 0 23 (dk_at dksX1_init_0 5 rfl rfl)
theorem dX1_init_8 : decode cX1_init 8 = .ok (.dup, 1) := dk_89 (dk_at dksX1_init_0 8 rfl rfl)
theorem dX1_init_9 : decode cX1_init 9 = .ok (.invokespecial 25, 3) := dk_183 0 25 (dk_at dksX1_init_0 9 rfl rfl)
theorem dX1_init_12 : decode cX1_init 12 = .ok (.putfield 26, 3) := dk_181 0 26 (dk_at dksX1_init_0 12 rfl rfl)
theorem dX1_init_15 : decode cX1_init 15 = .ok (.aload_n 0, 1) := dk_42 (dk_at dksX1_init_0 15 rfl rfl)
theorem dX1_init_16 : decode cX1_init 16 = .ok (.new 23, 3) := dk_187 0 23 (dk_at dksX1_init_0 16 rfl rfl)
theorem dX1_init_19 : decode cX1_init 19 = .ok (.dup, 1) := dk_89 (dk_at dksX1_init_0 19 rfl rfl)
theorem dX1_init_20 : decode cX1_init 20 = .ok (.invokespecial 25, 3) := dk_183 0 25 (dk_at dksX1_init_0 20 rfl rfl)
theorem dX1_init_23 : decode cX1_init 23 = .ok (.putfield 32, 3) := dk_181 0 32 (dk_at dksX1_init_1 0 rfl rfl)
theorem dX1_init_26 : decode cX1_init 26 = .ok (.aload_n 0, 1) := dk_42 (dk_at dksX1_init_1 3 rfl rfl)
theorem dX1_init_27 : decode cX1_init 27 = .ok (.bipush 7, 2) := dk_16 7 (dk_at dksX1_init_1 4 rfl rfl)
theorem dX1_init_29 : decode cX1_init 29 = .ok (.newarray .int, 2) := dk_188_10 (dk_at dksX1_init_1 6 rfl rfl)
theorem dX1_init_31 : decode cX1_init 31 = .ok (.putfield 35, 3) := dk_181 0 35 (dk_at dksX1_init_1 8 rfl rfl)
theorem dX1_init_34 : decode cX1_init 34 = .ok (.aload_n 0, 1) := dk_42 (dk_at dksX1_init_1 11 rfl rfl)
theorem dX1_init_35 : decode cX1_init 35 = .ok (.bipush 10, 2) := dk_16 10 (dk_at dksX1_init_1 12 rfl rfl)
theorem dX1_init_37 : decode cX1_init 37 = .ok (.putfield 39, 3) := dk_181 0 39 (dk_at dksX1_init_1 14 rfl rfl)
theorem dX1_init_40 : decode cX1_init 40 = .ok (.return_, 1) := dk_177 (dk_at dksX1_init_1 17 rfl rfl)
abbrev cX1_worst : ByteArray := prog_1_method_22_code
def yX1_worst : MethodName := ⟨RX1, "worst", "()I"⟩
def dkwX1_worst_3 : List UInt8 := [132, 3, 1, 167, 255, 188, 27, 172]
abbrev dktX1_worst_3 : List UInt8 := dkwX1_worst_3 ++ []
def dkwX1_worst_2 : List UInt8 := [29, 104, 21, 4, 96, 167, 0, 4, 27, 60, 28, 21, 5, 184, 0, 167, 61, 132, 4, 1, 167, 255, 205]
abbrev dktX1_worst_2 : List UInt8 := dkwX1_worst_2 ++ dktX1_worst_3
def dkwX1_worst_1 : List UInt8 := [42, 187, 0, 60, 89, 29, 21, 4, 183, 0, 62, 182, 0, 163, 54, 5, 21, 5, 28, 164, 0, 13, 16, 10]
abbrev dktX1_worst_1 : List UInt8 := dkwX1_worst_1 ++ dktX1_worst_2
def dkwX1_worst_0 : List UInt8 := [2, 60, 3, 61, 3, 62, 29, 16, 7, 162, 0, 68, 29, 4, 96, 54, 4, 21, 4, 16, 7, 162, 0, 50]
abbrev dktX1_worst_0 : List UInt8 := dkwX1_worst_0 ++ dktX1_worst_1
theorem dksX1_worst_0 : cX1_worst.data.toList.drop 0 = dktX1_worst_0 := by decide +kernel
theorem dksX1_worst_1 : cX1_worst.data.toList.drop 24 = dktX1_worst_1 := dk_seg dksX1_worst_0 24 rfl rfl
theorem dksX1_worst_2 : cX1_worst.data.toList.drop 48 = dktX1_worst_2 := dk_seg dksX1_worst_1 24 rfl rfl
theorem dksX1_worst_3 : cX1_worst.data.toList.drop 71 = dktX1_worst_3 := dk_seg dksX1_worst_2 23 rfl rfl
theorem dX1_worst_0 : decode cX1_worst 0 = .ok (.iconst (-1), 1) := dk_2 (dk_at dksX1_worst_0 0 rfl rfl)
theorem dX1_worst_1 : decode cX1_worst 1 = .ok (.istore_n 1, 1) := dk_60 (dk_at dksX1_worst_0 1 rfl rfl)
theorem dX1_worst_2 : decode cX1_worst 2 = .ok (.iconst 0, 1) := dk_3 (dk_at dksX1_worst_0 2 rfl rfl)
theorem dX1_worst_3 : decode cX1_worst 3 = .ok (.istore_n 2, 1) := dk_61 (dk_at dksX1_worst_0 3 rfl rfl)
theorem dX1_worst_4 : decode cX1_worst 4 = .ok (.iconst 0, 1) := dk_3 (dk_at dksX1_worst_0 4 rfl rfl)
theorem dX1_worst_5 : decode cX1_worst 5 = .ok (.istore_n 3, 1) := dk_62 (dk_at dksX1_worst_0 5 rfl rfl)
theorem dX1_worst_6 : decode cX1_worst 6 = .ok (.iload_n 3, 1) := dk_29 (dk_at dksX1_worst_0 6 rfl rfl)
theorem dX1_worst_7 : decode cX1_worst 7 = .ok (.bipush 7, 2) := dk_16 7 (dk_at dksX1_worst_0 7 rfl rfl)
theorem dX1_worst_9 : decode cX1_worst 9 = .ok (.if_icmp .ge 68, 3) := dk_162 0 68 (dk_at dksX1_worst_0 9 rfl rfl)
theorem dX1_worst_12 : decode cX1_worst 12 = .ok (.iload_n 3, 1) := dk_29 (dk_at dksX1_worst_0 12 rfl rfl)
theorem dX1_worst_13 : decode cX1_worst 13 = .ok (.iconst 1, 1) := dk_4 (dk_at dksX1_worst_0 13 rfl rfl)
theorem dX1_worst_14 : decode cX1_worst 14 = .ok (.iadd, 1) := dk_96 (dk_at dksX1_worst_0 14 rfl rfl)
theorem dX1_worst_15 : decode cX1_worst 15 = .ok (.istore 4, 2) := dk_54 4 (dk_at dksX1_worst_0 15 rfl rfl)
theorem dX1_worst_17 : decode cX1_worst 17 = .ok (.iload 4, 2) := dk_21 4 (dk_at dksX1_worst_0 17 rfl rfl)
theorem dX1_worst_19 : decode cX1_worst 19 = .ok (.bipush 7, 2) := dk_16 7 (dk_at dksX1_worst_0 19 rfl rfl)
theorem dX1_worst_21 : decode cX1_worst 21 = .ok (.if_icmp .ge 50, 3) := dk_162 0 50 (dk_at dksX1_worst_0 21 rfl rfl)
theorem dX1_worst_24 : decode cX1_worst 24 = .ok (.aload_n 0, 1) := dk_42 (dk_at dksX1_worst_1 0 rfl rfl)
theorem dX1_worst_25 : decode cX1_worst 25 = .ok (.new 60, 3) := dk_187 0 60 (dk_at dksX1_worst_1 1 rfl rfl)
theorem dX1_worst_28 : decode cX1_worst 28 = .ok (.dup, 1) := dk_89 (dk_at dksX1_worst_1 4 rfl rfl)
theorem dX1_worst_29 : decode cX1_worst 29 = .ok (.iload_n 3, 1) := dk_29 (dk_at dksX1_worst_1 5 rfl rfl)
theorem dX1_worst_30 : decode cX1_worst 30 = .ok (.iload 4, 2) := dk_21 4 (dk_at dksX1_worst_1 6 rfl rfl)
theorem dX1_worst_32 : decode cX1_worst 32 = .ok (.invokespecial 62, 3) := dk_183 0 62 (dk_at dksX1_worst_1 8 rfl rfl)
theorem dX1_worst_35 : decode cX1_worst 35 = .ok (.invokevirtual 163, 3) := dk_182 0 163 (dk_at dksX1_worst_1 11 rfl rfl)
theorem dX1_worst_38 : decode cX1_worst 38 = .ok (.istore 5, 2) := dk_54 5 (dk_at dksX1_worst_1 14 rfl rfl)
theorem dX1_worst_40 : decode cX1_worst 40 = .ok (.iload 5, 2) := dk_21 5 (dk_at dksX1_worst_1 16 rfl rfl)
theorem dX1_worst_42 : decode cX1_worst 42 = .ok (.iload_n 2, 1) := dk_28 (dk_at dksX1_worst_1 18 rfl rfl)
theorem dX1_worst_43 : decode cX1_worst 43 = .ok (.if_icmp .le 13, 3) := dk_164 0 13 (dk_at dksX1_worst_1 19 rfl rfl)
theorem dX1_worst_46 : decode cX1_worst 46 = .ok (.bipush 10, 2) := dk_16 10 (dk_at dksX1_worst_1 22 rfl rfl)
theorem dX1_worst_48 : decode cX1_worst 48 = .ok (.iload_n 3, 1) := dk_29 (dk_at dksX1_worst_2 0 rfl rfl)
theorem dX1_worst_49 : decode cX1_worst 49 = .ok (.imul, 1) := dk_104 (dk_at dksX1_worst_2 1 rfl rfl)
theorem dX1_worst_50 : decode cX1_worst 50 = .ok (.iload 4, 2) := dk_21 4 (dk_at dksX1_worst_2 2 rfl rfl)
theorem dX1_worst_52 : decode cX1_worst 52 = .ok (.iadd, 1) := dk_96 (dk_at dksX1_worst_2 4 rfl rfl)
theorem dX1_worst_53 : decode cX1_worst 53 = .ok (.goto 4, 3) := dk_167 0 4 (dk_at dksX1_worst_2 5 rfl rfl)
theorem dX1_worst_56 : decode cX1_worst 56 = .ok (.iload_n 1, 1) := dk_27 (dk_at dksX1_worst_2 8 rfl rfl)
theorem dX1_worst_57 : decode cX1_worst 57 = .ok (.istore_n 1, 1) := dk_60 (dk_at dksX1_worst_2 9 rfl rfl)
theorem dX1_worst_58 : decode cX1_worst 58 = .ok (.iload_n 2, 1) := dk_28 (dk_at dksX1_worst_2 10 rfl rfl)
theorem dX1_worst_59 : decode cX1_worst 59 = .ok (.iload 5, 2) := dk_21 5 (dk_at dksX1_worst_2 11 rfl rfl)
theorem dX1_worst_61 : decode cX1_worst 61 = .ok (.invokestatic 167, 3) := dk_184 0 167 (dk_at dksX1_worst_2 13 rfl rfl)
theorem dX1_worst_64 : decode cX1_worst 64 = .ok (.istore_n 2, 1) := dk_61 (dk_at dksX1_worst_2 16 rfl rfl)
theorem dX1_worst_65 : decode cX1_worst 65 = .ok (.iinc 4 1, 3) := dk_132 4 1 (dk_at dksX1_worst_2 17 rfl rfl)
theorem dX1_worst_68 : decode cX1_worst 68 = .ok (.goto (-51), 3) := dk_167 255 205 (dk_at dksX1_worst_2 20 rfl rfl)
theorem dX1_worst_71 : decode cX1_worst 71 = .ok (.iinc 3 1, 3) := dk_132 3 1 (dk_at dksX1_worst_3 0 rfl rfl)
theorem dX1_worst_74 : decode cX1_worst 74 = .ok (.goto (-68), 3) := dk_167 255 188 (dk_at dksX1_worst_3 3 rfl rfl)
theorem dX1_worst_77 : decode cX1_worst 77 = .ok (.iload_n 1, 1) := dk_27 (dk_at dksX1_worst_3 6 rfl rfl)
theorem dX1_worst_78 : decode cX1_worst 78 = .ok (.ireturn, 1) := dk_172 (dk_at dksX1_worst_3 7 rfl rfl)
abbrev cX1_suspicionOf : ByteArray := prog_1_method_18_code
def yX1_suspicionOf : MethodName := ⟨RX1, "suspicionOf", "(LCartelWatch$Pair;)I"⟩
def dkwX1_suspicionOf_1 : List UInt8 := [96, 61, 132, 3, 1, 167, 255, 231, 28, 172]
abbrev dktX1_suspicionOf_1 : List UInt8 := dkwX1_suspicionOf_1 ++ []
def dkwX1_suspicionOf_0 : List UInt8 := [3, 61, 3, 62, 29, 42, 180, 0, 26, 185, 0, 1, 1, 0, 162, 0, 18, 28, 42, 29, 43, 182, 0, 156]
abbrev dktX1_suspicionOf_0 : List UInt8 := dkwX1_suspicionOf_0 ++ dktX1_suspicionOf_1
theorem dksX1_suspicionOf_0 : cX1_suspicionOf.data.toList.drop 0 = dktX1_suspicionOf_0 := by decide +kernel
theorem dksX1_suspicionOf_1 : cX1_suspicionOf.data.toList.drop 24 = dktX1_suspicionOf_1 := dk_seg dksX1_suspicionOf_0 24 rfl rfl
theorem dX1_suspicionOf_0 : decode cX1_suspicionOf 0 = .ok (.iconst 0, 1) := dk_3 (dk_at dksX1_suspicionOf_0 0 rfl rfl)
theorem dX1_suspicionOf_1 : decode cX1_suspicionOf 1 = .ok (.istore_n 2, 1) := dk_61 (dk_at dksX1_suspicionOf_0 1 rfl rfl)
theorem dX1_suspicionOf_2 : decode cX1_suspicionOf 2 = .ok (.iconst 0, 1) := dk_3 (dk_at dksX1_suspicionOf_0 2 rfl rfl)
theorem dX1_suspicionOf_3 : decode cX1_suspicionOf 3 = .ok (.istore_n 3, 1) := dk_62 (dk_at dksX1_suspicionOf_0 3 rfl rfl)
theorem dX1_suspicionOf_4 : decode cX1_suspicionOf 4 = .ok (.iload_n 3, 1) := dk_29 (dk_at dksX1_suspicionOf_0 4 rfl rfl)
theorem dX1_suspicionOf_5 : decode cX1_suspicionOf 5 = .ok (.aload_n 0, 1) := dk_42 (dk_at dksX1_suspicionOf_0 5 rfl rfl)
theorem dX1_suspicionOf_6 : decode cX1_suspicionOf 6 = .ok (.getfield 26, 3) := dk_180 0 26 (dk_at dksX1_suspicionOf_0 6 rfl rfl)
theorem dX1_suspicionOf_9 : decode cX1_suspicionOf 9 = .ok (.invokeinterface 1 1, 5) := by decide +kernel
theorem dX1_suspicionOf_14 : decode cX1_suspicionOf 14 = .ok (.if_icmp .ge 18, 3) := dk_162 0 18 (dk_at dksX1_suspicionOf_0 14 rfl rfl)
theorem dX1_suspicionOf_17 : decode cX1_suspicionOf 17 = .ok (.iload_n 2, 1) := dk_28 (dk_at dksX1_suspicionOf_0 17 rfl rfl)
theorem dX1_suspicionOf_18 : decode cX1_suspicionOf 18 = .ok (.aload_n 0, 1) := dk_42 (dk_at dksX1_suspicionOf_0 18 rfl rfl)
theorem dX1_suspicionOf_19 : decode cX1_suspicionOf 19 = .ok (.iload_n 3, 1) := dk_29 (dk_at dksX1_suspicionOf_0 19 rfl rfl)
theorem dX1_suspicionOf_20 : decode cX1_suspicionOf 20 = .ok (.aload_n 1, 1) := dk_43 (dk_at dksX1_suspicionOf_0 20 rfl rfl)
theorem dX1_suspicionOf_21 : decode cX1_suspicionOf 21 = .ok (.invokevirtual 156, 3) := dk_182 0 156 (dk_at dksX1_suspicionOf_0 21 rfl rfl)
theorem dX1_suspicionOf_24 : decode cX1_suspicionOf 24 = .ok (.iadd, 1) := dk_96 (dk_at dksX1_suspicionOf_1 0 rfl rfl)
theorem dX1_suspicionOf_25 : decode cX1_suspicionOf 25 = .ok (.istore_n 2, 1) := dk_61 (dk_at dksX1_suspicionOf_1 1 rfl rfl)
theorem dX1_suspicionOf_26 : decode cX1_suspicionOf 26 = .ok (.iinc 3 1, 3) := dk_132 3 1 (dk_at dksX1_suspicionOf_1 2 rfl rfl)
theorem dX1_suspicionOf_29 : decode cX1_suspicionOf 29 = .ok (.goto (-25), 3) := dk_167 255 231 (dk_at dksX1_suspicionOf_1 5 rfl rfl)
theorem dX1_suspicionOf_32 : decode cX1_suspicionOf 32 = .ok (.iload_n 2, 1) := dk_28 (dk_at dksX1_suspicionOf_1 8 rfl rfl)
theorem dX1_suspicionOf_33 : decode cX1_suspicionOf 33 = .ok (.ireturn, 1) := dk_172 (dk_at dksX1_suspicionOf_1 9 rfl rfl)
abbrev cX1_signOf : ByteArray := prog_1_method_17_code
def yX1_signOf : MethodName := ⟨RX1, "signOf", "(ILCartelWatch$Pair;)I"⟩
def dkwX1_signOf_7 : List UInt8 := [172]
abbrev dktX1_signOf_7 : List UInt8 := dkwX1_signOf_7 ++ []
def dkwX1_signOf_6 : List UInt8 := [180, 0, 120, 21, 4, 160, 0, 17, 45, 180, 0, 95, 21, 4, 50, 198, 0, 7, 6, 167, 0, 4, 3, 96]
abbrev dktX1_signOf_6 : List UInt8 := dkwX1_signOf_6 ++ dktX1_signOf_7
def dkwX1_signOf_5 : List UInt8 := [42, 27, 44, 182, 0, 152, 21, 4, 160, 0, 7, 7, 167, 0, 4, 3, 96, 54, 5, 21, 5, 45]
abbrev dktX1_signOf_5 : List UInt8 := dkwX1_signOf_5 ++ dktX1_signOf_6
def dkwX1_signOf_4 : List UInt8 := [21, 6, 8, 45, 182, 0, 123, 104, 16, 100, 108, 163, 0, 7, 5, 167, 0, 4, 3, 96, 54, 5, 21, 5]
abbrev dktX1_signOf_4 : List UInt8 := dkwX1_signOf_4 ++ dktX1_signOf_5
def dkwX1_signOf_3 : List UInt8 := [180, 0, 95, 21, 4, 50, 180, 0, 111, 45, 182, 0, 123, 100, 54, 6, 21, 5, 21, 6, 158, 0, 21]
abbrev dktX1_signOf_3 : List UInt8 := dkwX1_signOf_3 ++ dktX1_signOf_4
def dkwX1_signOf_2 : List UInt8 := [182, 0, 149, 153, 0, 7, 4, 167, 0, 4, 3, 54, 5, 45, 21, 4, 182, 0, 104, 153, 0, 70, 45]
abbrev dktX1_signOf_2 : List UInt8 := dkwX1_signOf_2 ++ dktX1_signOf_3
def dkwX1_signOf_1 : List UInt8 := [180, 0, 117, 182, 0, 143, 154, 0, 5, 3, 172, 44, 45, 180, 0, 117, 182, 0, 146, 54, 4, 45, 21, 4]
abbrev dktX1_signOf_1 : List UInt8 := dkwX1_signOf_1 ++ dktX1_signOf_2
def dkwX1_signOf_0 : List UInt8 := [42, 180, 0, 26, 27, 185, 0, 7, 2, 0, 192, 0, 79, 78, 45, 180, 0, 117, 2, 159, 0, 14, 44, 45]
abbrev dktX1_signOf_0 : List UInt8 := dkwX1_signOf_0 ++ dktX1_signOf_1
theorem dksX1_signOf_0 : cX1_signOf.data.toList.drop 0 = dktX1_signOf_0 := by decide +kernel
theorem dksX1_signOf_1 : cX1_signOf.data.toList.drop 24 = dktX1_signOf_1 := dk_seg dksX1_signOf_0 24 rfl rfl
theorem dksX1_signOf_2 : cX1_signOf.data.toList.drop 48 = dktX1_signOf_2 := dk_seg dksX1_signOf_1 24 rfl rfl
theorem dksX1_signOf_3 : cX1_signOf.data.toList.drop 71 = dktX1_signOf_3 := dk_seg dksX1_signOf_2 23 rfl rfl
theorem dksX1_signOf_4 : cX1_signOf.data.toList.drop 94 = dktX1_signOf_4 := dk_seg dksX1_signOf_3 23 rfl rfl
theorem dksX1_signOf_5 : cX1_signOf.data.toList.drop 118 = dktX1_signOf_5 := dk_seg dksX1_signOf_4 24 rfl rfl
theorem dksX1_signOf_6 : cX1_signOf.data.toList.drop 140 = dktX1_signOf_6 := dk_seg dksX1_signOf_5 22 rfl rfl
theorem dksX1_signOf_7 : cX1_signOf.data.toList.drop 164 = dktX1_signOf_7 := dk_seg dksX1_signOf_6 24 rfl rfl
theorem dX1_signOf_0 : decode cX1_signOf 0 = .ok (.aload_n 0, 1) := dk_42 (dk_at dksX1_signOf_0 0 rfl rfl)
theorem dX1_signOf_1 : decode cX1_signOf 1 = .ok (.getfield 26, 3) := dk_180 0 26 (dk_at dksX1_signOf_0 1 rfl rfl)
theorem dX1_signOf_4 : decode cX1_signOf 4 = .ok (.iload_n 1, 1) := dk_27 (dk_at dksX1_signOf_0 4 rfl rfl)
theorem dX1_signOf_5 : decode cX1_signOf 5 = .ok (.invokeinterface 7 2, 5) := by decide +kernel
theorem dX1_signOf_10 : decode cX1_signOf 10 = .ok (.checkcast 79, 3) := dk_192 0 79 (dk_at dksX1_signOf_0 10 rfl rfl)
theorem dX1_signOf_13 : decode cX1_signOf 13 = .ok (.astore_n 3, 1) := dk_78 (dk_at dksX1_signOf_0 13 rfl rfl)
theorem dX1_signOf_14 : decode cX1_signOf 14 = .ok (.aload_n 3, 1) := dk_45 (dk_at dksX1_signOf_0 14 rfl rfl)
theorem dX1_signOf_15 : decode cX1_signOf 15 = .ok (.getfield 117, 3) := dk_180 0 117 (dk_at dksX1_signOf_0 15 rfl rfl)
theorem dX1_signOf_18 : decode cX1_signOf 18 = .ok (.iconst (-1), 1) := dk_2 (dk_at dksX1_signOf_0 18 rfl rfl)
theorem dX1_signOf_19 : decode cX1_signOf 19 = .ok (.if_icmp .eq 14, 3) := dk_159 0 14 (dk_at dksX1_signOf_0 19 rfl rfl)
theorem dX1_signOf_22 : decode cX1_signOf 22 = .ok (.aload_n 2, 1) := dk_44 (dk_at dksX1_signOf_0 22 rfl rfl)
theorem dX1_signOf_23 : decode cX1_signOf 23 = .ok (.aload_n 3, 1) := dk_45 (dk_at dksX1_signOf_0 23 rfl rfl)
theorem dX1_signOf_24 : decode cX1_signOf 24 = .ok (.getfield 117, 3) := dk_180 0 117 (dk_at dksX1_signOf_1 0 rfl rfl)
theorem dX1_signOf_27 : decode cX1_signOf 27 = .ok (.invokevirtual 143, 3) := dk_182 0 143 (dk_at dksX1_signOf_1 3 rfl rfl)
theorem dX1_signOf_30 : decode cX1_signOf 30 = .ok (.ifCond .ne 5, 3) := dk_154 0 5 (dk_at dksX1_signOf_1 6 rfl rfl)
theorem dX1_signOf_33 : decode cX1_signOf 33 = .ok (.iconst 0, 1) := dk_3 (dk_at dksX1_signOf_1 9 rfl rfl)
theorem dX1_signOf_34 : decode cX1_signOf 34 = .ok (.ireturn, 1) := dk_172 (dk_at dksX1_signOf_1 10 rfl rfl)
theorem dX1_signOf_35 : decode cX1_signOf 35 = .ok (.aload_n 2, 1) := dk_44 (dk_at dksX1_signOf_1 11 rfl rfl)
theorem dX1_signOf_36 : decode cX1_signOf 36 = .ok (.aload_n 3, 1) := dk_45 (dk_at dksX1_signOf_1 12 rfl rfl)
theorem dX1_signOf_37 : decode cX1_signOf 37 = .ok (.getfield 117, 3) := dk_180 0 117 (dk_at dksX1_signOf_1 13 rfl rfl)
theorem dX1_signOf_40 : decode cX1_signOf 40 = .ok (.invokevirtual 146, 3) := dk_182 0 146 (dk_at dksX1_signOf_1 16 rfl rfl)
theorem dX1_signOf_43 : decode cX1_signOf 43 = .ok (.istore 4, 2) := dk_54 4 (dk_at dksX1_signOf_1 19 rfl rfl)
theorem dX1_signOf_45 : decode cX1_signOf 45 = .ok (.aload_n 3, 1) := dk_45 (dk_at dksX1_signOf_1 21 rfl rfl)
theorem dX1_signOf_46 : decode cX1_signOf 46 = .ok (.iload 4, 2) := dk_21 4 (dk_at dksX1_signOf_1 22 rfl rfl)
theorem dX1_signOf_48 : decode cX1_signOf 48 = .ok (.invokevirtual 149, 3) := dk_182 0 149 (dk_at dksX1_signOf_2 0 rfl rfl)
theorem dX1_signOf_51 : decode cX1_signOf 51 = .ok (.ifCond .eq 7, 3) := dk_153 0 7 (dk_at dksX1_signOf_2 3 rfl rfl)
theorem dX1_signOf_54 : decode cX1_signOf 54 = .ok (.iconst 1, 1) := dk_4 (dk_at dksX1_signOf_2 6 rfl rfl)
theorem dX1_signOf_55 : decode cX1_signOf 55 = .ok (.goto 4, 3) := dk_167 0 4 (dk_at dksX1_signOf_2 7 rfl rfl)
theorem dX1_signOf_58 : decode cX1_signOf 58 = .ok (.iconst 0, 1) := dk_3 (dk_at dksX1_signOf_2 10 rfl rfl)
theorem dX1_signOf_59 : decode cX1_signOf 59 = .ok (.istore 5, 2) := dk_54 5 (dk_at dksX1_signOf_2 11 rfl rfl)
theorem dX1_signOf_61 : decode cX1_signOf 61 = .ok (.aload_n 3, 1) := dk_45 (dk_at dksX1_signOf_2 13 rfl rfl)
theorem dX1_signOf_62 : decode cX1_signOf 62 = .ok (.iload 4, 2) := dk_21 4 (dk_at dksX1_signOf_2 14 rfl rfl)
theorem dX1_signOf_64 : decode cX1_signOf 64 = .ok (.invokevirtual 104, 3) := dk_182 0 104 (dk_at dksX1_signOf_2 16 rfl rfl)
theorem dX1_signOf_67 : decode cX1_signOf 67 = .ok (.ifCond .eq 70, 3) := dk_153 0 70 (dk_at dksX1_signOf_2 19 rfl rfl)
theorem dX1_signOf_70 : decode cX1_signOf 70 = .ok (.aload_n 3, 1) := dk_45 (dk_at dksX1_signOf_2 22 rfl rfl)
theorem dX1_signOf_71 : decode cX1_signOf 71 = .ok (.getfield 95, 3) := dk_180 0 95 (dk_at dksX1_signOf_3 0 rfl rfl)
theorem dX1_signOf_74 : decode cX1_signOf 74 = .ok (.iload 4, 2) := dk_21 4 (dk_at dksX1_signOf_3 3 rfl rfl)
theorem dX1_signOf_76 : decode cX1_signOf 76 = .ok (.aaload, 1) := dk_50 (dk_at dksX1_signOf_3 5 rfl rfl)
theorem dX1_signOf_77 : decode cX1_signOf 77 = .ok (.getfield 111, 3) := dk_180 0 111 (dk_at dksX1_signOf_3 6 rfl rfl)
theorem dX1_signOf_80 : decode cX1_signOf 80 = .ok (.aload_n 3, 1) := dk_45 (dk_at dksX1_signOf_3 9 rfl rfl)
theorem dX1_signOf_81 : decode cX1_signOf 81 = .ok (.invokevirtual 123, 3) := dk_182 0 123 (dk_at dksX1_signOf_3 10 rfl rfl)
theorem dX1_signOf_84 : decode cX1_signOf 84 = .ok (.isub, 1) := dk_100 (dk_at dksX1_signOf_3 13 rfl rfl)
theorem dX1_signOf_85 : decode cX1_signOf 85 = .ok (.istore 6, 2) := dk_54 6 (dk_at dksX1_signOf_3 14 rfl rfl)
theorem dX1_signOf_87 : decode cX1_signOf 87 = .ok (.iload 5, 2) := dk_21 5 (dk_at dksX1_signOf_3 16 rfl rfl)
theorem dX1_signOf_89 : decode cX1_signOf 89 = .ok (.iload 6, 2) := dk_21 6 (dk_at dksX1_signOf_3 18 rfl rfl)
theorem dX1_signOf_91 : decode cX1_signOf 91 = .ok (.ifCond .le 21, 3) := dk_158 0 21 (dk_at dksX1_signOf_3 20 rfl rfl)
theorem dX1_signOf_94 : decode cX1_signOf 94 = .ok (.iload 6, 2) := dk_21 6 (dk_at dksX1_signOf_4 0 rfl rfl)
theorem dX1_signOf_96 : decode cX1_signOf 96 = .ok (.iconst 5, 1) := dk_8 (dk_at dksX1_signOf_4 2 rfl rfl)
theorem dX1_signOf_97 : decode cX1_signOf 97 = .ok (.aload_n 3, 1) := dk_45 (dk_at dksX1_signOf_4 3 rfl rfl)
theorem dX1_signOf_98 : decode cX1_signOf 98 = .ok (.invokevirtual 123, 3) := dk_182 0 123 (dk_at dksX1_signOf_4 4 rfl rfl)
theorem dX1_signOf_101 : decode cX1_signOf 101 = .ok (.imul, 1) := dk_104 (dk_at dksX1_signOf_4 7 rfl rfl)
theorem dX1_signOf_102 : decode cX1_signOf 102 = .ok (.bipush 100, 2) := dk_16 100 (dk_at dksX1_signOf_4 8 rfl rfl)
theorem dX1_signOf_104 : decode cX1_signOf 104 = .ok (.idiv, 1) := dk_108 (dk_at dksX1_signOf_4 10 rfl rfl)
theorem dX1_signOf_105 : decode cX1_signOf 105 = .ok (.if_icmp .gt 7, 3) := dk_163 0 7 (dk_at dksX1_signOf_4 11 rfl rfl)
theorem dX1_signOf_108 : decode cX1_signOf 108 = .ok (.iconst 2, 1) := dk_5 (dk_at dksX1_signOf_4 14 rfl rfl)
theorem dX1_signOf_109 : decode cX1_signOf 109 = .ok (.goto 4, 3) := dk_167 0 4 (dk_at dksX1_signOf_4 15 rfl rfl)
theorem dX1_signOf_112 : decode cX1_signOf 112 = .ok (.iconst 0, 1) := dk_3 (dk_at dksX1_signOf_4 18 rfl rfl)
theorem dX1_signOf_113 : decode cX1_signOf 113 = .ok (.iadd, 1) := dk_96 (dk_at dksX1_signOf_4 19 rfl rfl)
theorem dX1_signOf_114 : decode cX1_signOf 114 = .ok (.istore 5, 2) := dk_54 5 (dk_at dksX1_signOf_4 20 rfl rfl)
theorem dX1_signOf_116 : decode cX1_signOf 116 = .ok (.iload 5, 2) := dk_21 5 (dk_at dksX1_signOf_4 22 rfl rfl)
theorem dX1_signOf_118 : decode cX1_signOf 118 = .ok (.aload_n 0, 1) := dk_42 (dk_at dksX1_signOf_5 0 rfl rfl)
theorem dX1_signOf_119 : decode cX1_signOf 119 = .ok (.iload_n 1, 1) := dk_27 (dk_at dksX1_signOf_5 1 rfl rfl)
theorem dX1_signOf_120 : decode cX1_signOf 120 = .ok (.aload_n 2, 1) := dk_44 (dk_at dksX1_signOf_5 2 rfl rfl)
theorem dX1_signOf_121 : decode cX1_signOf 121 = .ok (.invokevirtual 152, 3) := dk_182 0 152 (dk_at dksX1_signOf_5 3 rfl rfl)
theorem dX1_signOf_124 : decode cX1_signOf 124 = .ok (.iload 4, 2) := dk_21 4 (dk_at dksX1_signOf_5 6 rfl rfl)
theorem dX1_signOf_126 : decode cX1_signOf 126 = .ok (.if_icmp .ne 7, 3) := dk_160 0 7 (dk_at dksX1_signOf_5 8 rfl rfl)
theorem dX1_signOf_129 : decode cX1_signOf 129 = .ok (.iconst 4, 1) := dk_7 (dk_at dksX1_signOf_5 11 rfl rfl)
theorem dX1_signOf_130 : decode cX1_signOf 130 = .ok (.goto 4, 3) := dk_167 0 4 (dk_at dksX1_signOf_5 12 rfl rfl)
theorem dX1_signOf_133 : decode cX1_signOf 133 = .ok (.iconst 0, 1) := dk_3 (dk_at dksX1_signOf_5 15 rfl rfl)
theorem dX1_signOf_134 : decode cX1_signOf 134 = .ok (.iadd, 1) := dk_96 (dk_at dksX1_signOf_5 16 rfl rfl)
theorem dX1_signOf_135 : decode cX1_signOf 135 = .ok (.istore 5, 2) := dk_54 5 (dk_at dksX1_signOf_5 17 rfl rfl)
theorem dX1_signOf_137 : decode cX1_signOf 137 = .ok (.iload 5, 2) := dk_21 5 (dk_at dksX1_signOf_5 19 rfl rfl)
theorem dX1_signOf_139 : decode cX1_signOf 139 = .ok (.aload_n 3, 1) := dk_45 (dk_at dksX1_signOf_5 21 rfl rfl)
theorem dX1_signOf_140 : decode cX1_signOf 140 = .ok (.getfield 120, 3) := dk_180 0 120 (dk_at dksX1_signOf_6 0 rfl rfl)
theorem dX1_signOf_143 : decode cX1_signOf 143 = .ok (.iload 4, 2) := dk_21 4 (dk_at dksX1_signOf_6 3 rfl rfl)
theorem dX1_signOf_145 : decode cX1_signOf 145 = .ok (.if_icmp .ne 17, 3) := dk_160 0 17 (dk_at dksX1_signOf_6 5 rfl rfl)
theorem dX1_signOf_148 : decode cX1_signOf 148 = .ok (.aload_n 3, 1) := dk_45 (dk_at dksX1_signOf_6 8 rfl rfl)
theorem dX1_signOf_149 : decode cX1_signOf 149 = .ok (.getfield 95, 3) := dk_180 0 95 (dk_at dksX1_signOf_6 9 rfl rfl)
theorem dX1_signOf_152 : decode cX1_signOf 152 = .ok (.iload 4, 2) := dk_21 4 (dk_at dksX1_signOf_6 12 rfl rfl)
theorem dX1_signOf_154 : decode cX1_signOf 154 = .ok (.aaload, 1) := dk_50 (dk_at dksX1_signOf_6 14 rfl rfl)
theorem dX1_signOf_155 : decode cX1_signOf 155 = .ok (.ifnull 7, 3) := dk_198 0 7 (dk_at dksX1_signOf_6 15 rfl rfl)
theorem dX1_signOf_158 : decode cX1_signOf 158 = .ok (.iconst 3, 1) := dk_6 (dk_at dksX1_signOf_6 18 rfl rfl)
theorem dX1_signOf_159 : decode cX1_signOf 159 = .ok (.goto 4, 3) := dk_167 0 4 (dk_at dksX1_signOf_6 19 rfl rfl)
theorem dX1_signOf_162 : decode cX1_signOf 162 = .ok (.iconst 0, 1) := dk_3 (dk_at dksX1_signOf_6 22 rfl rfl)
theorem dX1_signOf_163 : decode cX1_signOf 163 = .ok (.iadd, 1) := dk_96 (dk_at dksX1_signOf_6 23 rfl rfl)
theorem dX1_signOf_164 : decode cX1_signOf 164 = .ok (.ireturn, 1) := dk_172 (dk_at dksX1_signOf_7 0 rfl rfl)
abbrev cX1_winnerBefore : ByteArray := prog_1_method_16_code
def yX1_winnerBefore : MethodName := ⟨RX1, "winnerBefore", "(ILCartelWatch$Pair;)I"⟩
def dkwX1_winnerBefore_2 : List UInt8 := [25, 5, 180, 0, 117, 167, 0, 4, 29, 62, 132, 4, 1, 167, 255, 203, 29, 172]
abbrev dktX1_winnerBefore_2 : List UInt8 := dkwX1_winnerBefore_2 ++ []
def dkwX1_winnerBefore_1 : List UInt8 := [192, 0, 79, 58, 5, 25, 5, 180, 0, 117, 2, 159, 0, 20, 44, 25, 5, 182, 0, 140, 153, 0, 11]
abbrev dktX1_winnerBefore_1 : List UInt8 := dkwX1_winnerBefore_1 ++ dktX1_winnerBefore_2
def dkwX1_winnerBefore_0 : List UInt8 := [2, 62, 3, 54, 4, 21, 4, 27, 162, 0, 53, 42, 180, 0, 26, 21, 4, 185, 0, 7, 2, 0]
abbrev dktX1_winnerBefore_0 : List UInt8 := dkwX1_winnerBefore_0 ++ dktX1_winnerBefore_1
theorem dksX1_winnerBefore_0 : cX1_winnerBefore.data.toList.drop 0 = dktX1_winnerBefore_0 := by decide +kernel
theorem dksX1_winnerBefore_1 : cX1_winnerBefore.data.toList.drop 22 = dktX1_winnerBefore_1 := dk_seg dksX1_winnerBefore_0 22 rfl rfl
theorem dksX1_winnerBefore_2 : cX1_winnerBefore.data.toList.drop 45 = dktX1_winnerBefore_2 := dk_seg dksX1_winnerBefore_1 23 rfl rfl
theorem dX1_winnerBefore_0 : decode cX1_winnerBefore 0 = .ok (.iconst (-1), 1) := dk_2 (dk_at dksX1_winnerBefore_0 0 rfl rfl)
theorem dX1_winnerBefore_1 : decode cX1_winnerBefore 1 = .ok (.istore_n 3, 1) := dk_62 (dk_at dksX1_winnerBefore_0 1 rfl rfl)
theorem dX1_winnerBefore_2 : decode cX1_winnerBefore 2 = .ok (.iconst 0, 1) := dk_3 (dk_at dksX1_winnerBefore_0 2 rfl rfl)
theorem dX1_winnerBefore_3 : decode cX1_winnerBefore 3 = .ok (.istore 4, 2) := dk_54 4 (dk_at dksX1_winnerBefore_0 3 rfl rfl)
theorem dX1_winnerBefore_5 : decode cX1_winnerBefore 5 = .ok (.iload 4, 2) := dk_21 4 (dk_at dksX1_winnerBefore_0 5 rfl rfl)
theorem dX1_winnerBefore_7 : decode cX1_winnerBefore 7 = .ok (.iload_n 1, 1) := dk_27 (dk_at dksX1_winnerBefore_0 7 rfl rfl)
theorem dX1_winnerBefore_8 : decode cX1_winnerBefore 8 = .ok (.if_icmp .ge 53, 3) := dk_162 0 53 (dk_at dksX1_winnerBefore_0 8 rfl rfl)
theorem dX1_winnerBefore_11 : decode cX1_winnerBefore 11 = .ok (.aload_n 0, 1) := dk_42 (dk_at dksX1_winnerBefore_0 11 rfl rfl)
theorem dX1_winnerBefore_12 : decode cX1_winnerBefore 12 = .ok (.getfield 26, 3) := dk_180 0 26 (dk_at dksX1_winnerBefore_0 12 rfl rfl)
theorem dX1_winnerBefore_15 : decode cX1_winnerBefore 15 = .ok (.iload 4, 2) := dk_21 4 (dk_at dksX1_winnerBefore_0 15 rfl rfl)
theorem dX1_winnerBefore_17 : decode cX1_winnerBefore 17 = .ok (.invokeinterface 7 2, 5) := by decide +kernel
theorem dX1_winnerBefore_22 : decode cX1_winnerBefore 22 = .ok (.checkcast 79, 3) := dk_192 0 79 (dk_at dksX1_winnerBefore_1 0 rfl rfl)
theorem dX1_winnerBefore_25 : decode cX1_winnerBefore 25 = .ok (.astore 5, 2) := dk_58 5 (dk_at dksX1_winnerBefore_1 3 rfl rfl)
theorem dX1_winnerBefore_27 : decode cX1_winnerBefore 27 = .ok (.aload 5, 2) := dk_25 5 (dk_at dksX1_winnerBefore_1 5 rfl rfl)
theorem dX1_winnerBefore_29 : decode cX1_winnerBefore 29 = .ok (.getfield 117, 3) := dk_180 0 117 (dk_at dksX1_winnerBefore_1 7 rfl rfl)
theorem dX1_winnerBefore_32 : decode cX1_winnerBefore 32 = .ok (.iconst (-1), 1) := dk_2 (dk_at dksX1_winnerBefore_1 10 rfl rfl)
theorem dX1_winnerBefore_33 : decode cX1_winnerBefore 33 = .ok (.if_icmp .eq 20, 3) := dk_159 0 20 (dk_at dksX1_winnerBefore_1 11 rfl rfl)
theorem dX1_winnerBefore_36 : decode cX1_winnerBefore 36 = .ok (.aload_n 2, 1) := dk_44 (dk_at dksX1_winnerBefore_1 14 rfl rfl)
theorem dX1_winnerBefore_37 : decode cX1_winnerBefore 37 = .ok (.aload 5, 2) := dk_25 5 (dk_at dksX1_winnerBefore_1 15 rfl rfl)
theorem dX1_winnerBefore_39 : decode cX1_winnerBefore 39 = .ok (.invokevirtual 140, 3) := dk_182 0 140 (dk_at dksX1_winnerBefore_1 17 rfl rfl)
theorem dX1_winnerBefore_42 : decode cX1_winnerBefore 42 = .ok (.ifCond .eq 11, 3) := dk_153 0 11 (dk_at dksX1_winnerBefore_1 20 rfl rfl)
theorem dX1_winnerBefore_45 : decode cX1_winnerBefore 45 = .ok (.aload 5, 2) := dk_25 5 (dk_at dksX1_winnerBefore_2 0 rfl rfl)
theorem dX1_winnerBefore_47 : decode cX1_winnerBefore 47 = .ok (.getfield 117, 3) := dk_180 0 117 (dk_at dksX1_winnerBefore_2 2 rfl rfl)
theorem dX1_winnerBefore_50 : decode cX1_winnerBefore 50 = .ok (.goto 4, 3) := dk_167 0 4 (dk_at dksX1_winnerBefore_2 5 rfl rfl)
theorem dX1_winnerBefore_53 : decode cX1_winnerBefore 53 = .ok (.iload_n 3, 1) := dk_29 (dk_at dksX1_winnerBefore_2 8 rfl rfl)
theorem dX1_winnerBefore_54 : decode cX1_winnerBefore 54 = .ok (.istore_n 3, 1) := dk_62 (dk_at dksX1_winnerBefore_2 9 rfl rfl)
theorem dX1_winnerBefore_55 : decode cX1_winnerBefore 55 = .ok (.iinc 4 1, 3) := dk_132 4 1 (dk_at dksX1_winnerBefore_2 10 rfl rfl)
theorem dX1_winnerBefore_58 : decode cX1_winnerBefore 58 = .ok (.goto (-53), 3) := dk_167 255 203 (dk_at dksX1_winnerBefore_2 13 rfl rfl)
theorem dX1_winnerBefore_61 : decode cX1_winnerBefore 61 = .ok (.iload_n 3, 1) := dk_29 (dk_at dksX1_winnerBefore_2 16 rfl rfl)
theorem dX1_winnerBefore_62 : decode cX1_winnerBefore 62 = .ok (.ireturn, 1) := dk_172 (dk_at dksX1_winnerBefore_2 17 rfl rfl)
abbrev cX1_open : ByteArray := prog_1_method_8_code
def yX1_open : MethodName := ⟨RX1, "open", "()I"⟩
def dkwX1_open_2 : List UInt8 := [185, 0, 1, 1, 0, 4, 100, 172]
abbrev dktX1_open_2 : List UInt8 := dkwX1_open_2 ++ []
def dkwX1_open_1 : List UInt8 := [180, 0, 26, 187, 0, 79, 89, 183, 0, 81, 185, 0, 82, 2, 0, 87, 42, 180, 0, 26]
abbrev dktX1_open_1 : List UInt8 := dkwX1_open_1 ++ dktX1_open_2
def dkwX1_open_0 : List UInt8 := [42, 180, 0, 26, 185, 0, 1, 1, 0, 16, 30, 162, 0, 7, 4, 167, 0, 4, 3, 184, 0, 75, 42]
abbrev dktX1_open_0 : List UInt8 := dkwX1_open_0 ++ dktX1_open_1
theorem dksX1_open_0 : cX1_open.data.toList.drop 0 = dktX1_open_0 := by decide +kernel
theorem dksX1_open_1 : cX1_open.data.toList.drop 23 = dktX1_open_1 := dk_seg dksX1_open_0 23 rfl rfl
theorem dksX1_open_2 : cX1_open.data.toList.drop 43 = dktX1_open_2 := dk_seg dksX1_open_1 20 rfl rfl
theorem dX1_open_0 : decode cX1_open 0 = .ok (.aload_n 0, 1) := dk_42 (dk_at dksX1_open_0 0 rfl rfl)
theorem dX1_open_1 : decode cX1_open 1 = .ok (.getfield 26, 3) := dk_180 0 26 (dk_at dksX1_open_0 1 rfl rfl)
theorem dX1_open_4 : decode cX1_open 4 = .ok (.invokeinterface 1 1, 5) := by decide +kernel
theorem dX1_open_9 : decode cX1_open 9 = .ok (.bipush 30, 2) := dk_16 30 (dk_at dksX1_open_0 9 rfl rfl)
theorem dX1_open_11 : decode cX1_open 11 = .ok (.if_icmp .ge 7, 3) := dk_162 0 7 (dk_at dksX1_open_0 11 rfl rfl)
theorem dX1_open_14 : decode cX1_open 14 = .ok (.iconst 1, 1) := dk_4 (dk_at dksX1_open_0 14 rfl rfl)
theorem dX1_open_15 : decode cX1_open 15 = .ok (.goto 4, 3) := dk_167 0 4 (dk_at dksX1_open_0 15 rfl rfl)
theorem dX1_open_18 : decode cX1_open 18 = .ok (.iconst 0, 1) := dk_3 (dk_at dksX1_open_0 18 rfl rfl)
theorem dX1_open_19 : decode cX1_open 19 = .ok (.invokestatic 75, 3) := dk_184 0 75 (dk_at dksX1_open_0 19 rfl rfl)
theorem dX1_open_22 : decode cX1_open 22 = .ok (.aload_n 0, 1) := dk_42 (dk_at dksX1_open_0 22 rfl rfl)
theorem dX1_open_23 : decode cX1_open 23 = .ok (.getfield 26, 3) := dk_180 0 26 (dk_at dksX1_open_1 0 rfl rfl)
theorem dX1_open_26 : decode cX1_open 26 = .ok (.new 79, 3) := dk_187 0 79 (dk_at dksX1_open_1 3 rfl rfl)
theorem dX1_open_29 : decode cX1_open 29 = .ok (.dup, 1) := dk_89 (dk_at dksX1_open_1 6 rfl rfl)
theorem dX1_open_30 : decode cX1_open 30 = .ok (.invokespecial 81, 3) := dk_183 0 81 (dk_at dksX1_open_1 7 rfl rfl)
theorem dX1_open_33 : decode cX1_open 33 = .ok (.invokeinterface 82 2, 5) := by decide +kernel
theorem dX1_open_38 : decode cX1_open 38 = .ok (.pop, 1) := dk_87 (dk_at dksX1_open_1 15 rfl rfl)
theorem dX1_open_39 : decode cX1_open 39 = .ok (.aload_n 0, 1) := dk_42 (dk_at dksX1_open_1 16 rfl rfl)
theorem dX1_open_40 : decode cX1_open 40 = .ok (.getfield 26, 3) := dk_180 0 26 (dk_at dksX1_open_1 17 rfl rfl)
theorem dX1_open_43 : decode cX1_open 43 = .ok (.invokeinterface 1 1, 5) := by decide +kernel
theorem dX1_open_48 : decode cX1_open 48 = .ok (.iconst 1, 1) := dk_4 (dk_at dksX1_open_2 5 rfl rfl)
theorem dX1_open_49 : decode cX1_open 49 = .ok (.isub, 1) := dk_100 (dk_at dksX1_open_2 6 rfl rfl)
theorem dX1_open_50 : decode cX1_open 50 = .ok (.ireturn, 1) := dk_172 (dk_at dksX1_open_2 7 rfl rfl)
abbrev cX1_must : ByteArray := prog_1_method_7_code
def yX1_must : MethodName := ⟨RX1, "must", "(Z)V"⟩
def dkwX1_must_0 : List UInt8 := [26, 154, 0, 13, 187, 0, 70, 89, 18, 72, 183, 0, 74, 191, 177]
abbrev dktX1_must_0 : List UInt8 := dkwX1_must_0 ++ []
theorem dksX1_must_0 : cX1_must.data.toList.drop 0 = dktX1_must_0 := by decide +kernel
theorem dX1_must_0 : decode cX1_must 0 = .ok (.iload_n 0, 1) := dk_26 (dk_at dksX1_must_0 0 rfl rfl)
theorem dX1_must_1 : decode cX1_must 1 = .ok (.ifCond .ne 13, 3) := dk_154 0 13 (dk_at dksX1_must_0 1 rfl rfl)
theorem dX1_must_4 : decode cX1_must 4 = .ok (.new 70, 3) := dk_187 0 70 (dk_at dksX1_must_0 4 rfl rfl)
theorem dX1_must_7 : decode cX1_must 7 = .ok (.dup, 1) := dk_89 (dk_at dksX1_must_0 7 rfl rfl)
theorem dX1_must_8 : decode cX1_must 8 = .ok (.ldc 72, 2) := dk_18 72 (dk_at dksX1_must_0 8 rfl rfl)
theorem dX1_must_10 : decode cX1_must 10 = .ok (.invokespecial 74, 3) := dk_183 0 74 (dk_at dksX1_must_0 10 rfl rfl)
theorem dX1_must_13 : decode cX1_must 13 = .ok (.athrow, 1) := dk_191 (dk_at dksX1_must_0 13 rfl rfl)
theorem dX1_must_14 : decode cX1_must 14 = .ok (.return_, 1) := dk_177 (dk_at dksX1_must_0 14 rfl rfl)
abbrev cX1_bid : ByteArray := prog_1_method_9_code
def yX1_bid : MethodName := ⟨RX1, "bid", "(III)I"⟩
def dkwX1_bid_4 : List UInt8 := [4, 167, 0, 4, 3, 96, 54, 5, 132, 6, 1, 167, 255, 226, 21, 5, 172]
abbrev dktX1_bid_4 : List UInt8 := dkwX1_bid_4 ++ []
def dkwX1_bid_3 : List UInt8 := [54, 5, 3, 54, 6, 21, 6, 16, 7, 162, 0, 29, 21, 5, 25, 4, 21, 6, 182, 0, 104, 153, 0, 7]
abbrev dktX1_bid_3 : List UInt8 := dkwX1_bid_3 ++ dktX1_bid_4
def dkwX1_bid_2 : List UInt8 := [167, 0, 4, 3, 184, 0, 75, 25, 4, 180, 0, 95, 28, 187, 0, 99, 89, 29, 183, 0, 101, 83, 3]
abbrev dktX1_bid_2 : List UInt8 := dkwX1_bid_2 ++ dktX1_bid_3
def dkwX1_bid_1 : List UInt8 := [184, 0, 50, 87, 25, 4, 180, 0, 91, 153, 0, 17, 25, 4, 180, 0, 95, 28, 50, 199, 0, 7, 4]
abbrev dktX1_bid_1 : List UInt8 := dkwX1_bid_1 ++ dktX1_bid_2
def dkwX1_bid_0 : List UInt8 := [42, 180, 0, 26, 27, 184, 0, 86, 192, 0, 79, 58, 4, 28, 184, 0, 54, 87, 29, 4, 18, 90]
abbrev dktX1_bid_0 : List UInt8 := dkwX1_bid_0 ++ dktX1_bid_1
theorem dksX1_bid_0 : cX1_bid.data.toList.drop 0 = dktX1_bid_0 := by decide +kernel
theorem dksX1_bid_1 : cX1_bid.data.toList.drop 22 = dktX1_bid_1 := dk_seg dksX1_bid_0 22 rfl rfl
theorem dksX1_bid_2 : cX1_bid.data.toList.drop 45 = dktX1_bid_2 := dk_seg dksX1_bid_1 23 rfl rfl
theorem dksX1_bid_3 : cX1_bid.data.toList.drop 68 = dktX1_bid_3 := dk_seg dksX1_bid_2 23 rfl rfl
theorem dksX1_bid_4 : cX1_bid.data.toList.drop 92 = dktX1_bid_4 := dk_seg dksX1_bid_3 24 rfl rfl
theorem dX1_bid_0 : decode cX1_bid 0 = .ok (.aload_n 0, 1) := dk_42 (dk_at dksX1_bid_0 0 rfl rfl)
theorem dX1_bid_1 : decode cX1_bid 1 = .ok (.getfield 26, 3) := dk_180 0 26 (dk_at dksX1_bid_0 1 rfl rfl)
theorem dX1_bid_4 : decode cX1_bid 4 = .ok (.iload_n 1, 1) := dk_27 (dk_at dksX1_bid_0 4 rfl rfl)
theorem dX1_bid_5 : decode cX1_bid 5 = .ok (.invokestatic 86, 3) := dk_184 0 86 (dk_at dksX1_bid_0 5 rfl rfl)
theorem dX1_bid_8 : decode cX1_bid 8 = .ok (.checkcast 79, 3) := dk_192 0 79 (dk_at dksX1_bid_0 8 rfl rfl)
theorem dX1_bid_11 : decode cX1_bid 11 = .ok (.astore 4, 2) := dk_58 4 (dk_at dksX1_bid_0 11 rfl rfl)
theorem dX1_bid_13 : decode cX1_bid 13 = .ok (.iload_n 2, 1) := dk_28 (dk_at dksX1_bid_0 13 rfl rfl)
theorem dX1_bid_14 : decode cX1_bid 14 = .ok (.invokestatic 54, 3) := dk_184 0 54 (dk_at dksX1_bid_0 14 rfl rfl)
theorem dX1_bid_17 : decode cX1_bid 17 = .ok (.pop, 1) := dk_87 (dk_at dksX1_bid_0 17 rfl rfl)
theorem dX1_bid_18 : decode cX1_bid 18 = .ok (.iload_n 3, 1) := dk_29 (dk_at dksX1_bid_0 18 rfl rfl)
theorem dX1_bid_19 : decode cX1_bid 19 = .ok (.iconst 1, 1) := dk_4 (dk_at dksX1_bid_0 19 rfl rfl)
theorem dX1_bid_20 : decode cX1_bid 20 = .ok (.ldc 90, 2) := dk_18 90 (dk_at dksX1_bid_0 20 rfl rfl)
theorem dX1_bid_22 : decode cX1_bid 22 = .ok (.invokestatic 50, 3) := dk_184 0 50 (dk_at dksX1_bid_1 0 rfl rfl)
theorem dX1_bid_25 : decode cX1_bid 25 = .ok (.pop, 1) := dk_87 (dk_at dksX1_bid_1 3 rfl rfl)
theorem dX1_bid_26 : decode cX1_bid 26 = .ok (.aload 4, 2) := dk_25 4 (dk_at dksX1_bid_1 4 rfl rfl)
theorem dX1_bid_28 : decode cX1_bid 28 = .ok (.getfield 91, 3) := dk_180 0 91 (dk_at dksX1_bid_1 6 rfl rfl)
theorem dX1_bid_31 : decode cX1_bid 31 = .ok (.ifCond .eq 17, 3) := dk_153 0 17 (dk_at dksX1_bid_1 9 rfl rfl)
theorem dX1_bid_34 : decode cX1_bid 34 = .ok (.aload 4, 2) := dk_25 4 (dk_at dksX1_bid_1 12 rfl rfl)
theorem dX1_bid_36 : decode cX1_bid 36 = .ok (.getfield 95, 3) := dk_180 0 95 (dk_at dksX1_bid_1 14 rfl rfl)
theorem dX1_bid_39 : decode cX1_bid 39 = .ok (.iload_n 2, 1) := dk_28 (dk_at dksX1_bid_1 17 rfl rfl)
theorem dX1_bid_40 : decode cX1_bid 40 = .ok (.aaload, 1) := dk_50 (dk_at dksX1_bid_1 18 rfl rfl)
theorem dX1_bid_41 : decode cX1_bid 41 = .ok (.ifnonnull 7, 3) := dk_199 0 7 (dk_at dksX1_bid_1 19 rfl rfl)
theorem dX1_bid_44 : decode cX1_bid 44 = .ok (.iconst 1, 1) := dk_4 (dk_at dksX1_bid_1 22 rfl rfl)
theorem dX1_bid_45 : decode cX1_bid 45 = .ok (.goto 4, 3) := dk_167 0 4 (dk_at dksX1_bid_2 0 rfl rfl)
theorem dX1_bid_48 : decode cX1_bid 48 = .ok (.iconst 0, 1) := dk_3 (dk_at dksX1_bid_2 3 rfl rfl)
theorem dX1_bid_49 : decode cX1_bid 49 = .ok (.invokestatic 75, 3) := dk_184 0 75 (dk_at dksX1_bid_2 4 rfl rfl)
theorem dX1_bid_52 : decode cX1_bid 52 = .ok (.aload 4, 2) := dk_25 4 (dk_at dksX1_bid_2 7 rfl rfl)
theorem dX1_bid_54 : decode cX1_bid 54 = .ok (.getfield 95, 3) := dk_180 0 95 (dk_at dksX1_bid_2 9 rfl rfl)
theorem dX1_bid_57 : decode cX1_bid 57 = .ok (.iload_n 2, 1) := dk_28 (dk_at dksX1_bid_2 12 rfl rfl)
theorem dX1_bid_58 : decode cX1_bid 58 = .ok (.new 99, 3) := dk_187 0 99 (dk_at dksX1_bid_2 13 rfl rfl)
theorem dX1_bid_61 : decode cX1_bid 61 = .ok (.dup, 1) := dk_89 (dk_at dksX1_bid_2 16 rfl rfl)
theorem dX1_bid_62 : decode cX1_bid 62 = .ok (.iload_n 3, 1) := dk_29 (dk_at dksX1_bid_2 17 rfl rfl)
theorem dX1_bid_63 : decode cX1_bid 63 = .ok (.invokespecial 101, 3) := dk_183 0 101 (dk_at dksX1_bid_2 18 rfl rfl)
theorem dX1_bid_66 : decode cX1_bid 66 = .ok (.aastore, 1) := dk_83 (dk_at dksX1_bid_2 21 rfl rfl)
theorem dX1_bid_67 : decode cX1_bid 67 = .ok (.iconst 0, 1) := dk_3 (dk_at dksX1_bid_2 22 rfl rfl)
theorem dX1_bid_68 : decode cX1_bid 68 = .ok (.istore 5, 2) := dk_54 5 (dk_at dksX1_bid_3 0 rfl rfl)
theorem dX1_bid_70 : decode cX1_bid 70 = .ok (.iconst 0, 1) := dk_3 (dk_at dksX1_bid_3 2 rfl rfl)
theorem dX1_bid_71 : decode cX1_bid 71 = .ok (.istore 6, 2) := dk_54 6 (dk_at dksX1_bid_3 3 rfl rfl)
theorem dX1_bid_73 : decode cX1_bid 73 = .ok (.iload 6, 2) := dk_21 6 (dk_at dksX1_bid_3 5 rfl rfl)
theorem dX1_bid_75 : decode cX1_bid 75 = .ok (.bipush 7, 2) := dk_16 7 (dk_at dksX1_bid_3 7 rfl rfl)
theorem dX1_bid_77 : decode cX1_bid 77 = .ok (.if_icmp .ge 29, 3) := dk_162 0 29 (dk_at dksX1_bid_3 9 rfl rfl)
theorem dX1_bid_80 : decode cX1_bid 80 = .ok (.iload 5, 2) := dk_21 5 (dk_at dksX1_bid_3 12 rfl rfl)
theorem dX1_bid_82 : decode cX1_bid 82 = .ok (.aload 4, 2) := dk_25 4 (dk_at dksX1_bid_3 14 rfl rfl)
theorem dX1_bid_84 : decode cX1_bid 84 = .ok (.iload 6, 2) := dk_21 6 (dk_at dksX1_bid_3 16 rfl rfl)
theorem dX1_bid_86 : decode cX1_bid 86 = .ok (.invokevirtual 104, 3) := dk_182 0 104 (dk_at dksX1_bid_3 18 rfl rfl)
theorem dX1_bid_89 : decode cX1_bid 89 = .ok (.ifCond .eq 7, 3) := dk_153 0 7 (dk_at dksX1_bid_3 21 rfl rfl)
theorem dX1_bid_92 : decode cX1_bid 92 = .ok (.iconst 1, 1) := dk_4 (dk_at dksX1_bid_4 0 rfl rfl)
theorem dX1_bid_93 : decode cX1_bid 93 = .ok (.goto 4, 3) := dk_167 0 4 (dk_at dksX1_bid_4 1 rfl rfl)
theorem dX1_bid_96 : decode cX1_bid 96 = .ok (.iconst 0, 1) := dk_3 (dk_at dksX1_bid_4 4 rfl rfl)
theorem dX1_bid_97 : decode cX1_bid 97 = .ok (.iadd, 1) := dk_96 (dk_at dksX1_bid_4 5 rfl rfl)
theorem dX1_bid_98 : decode cX1_bid 98 = .ok (.istore 5, 2) := dk_54 5 (dk_at dksX1_bid_4 6 rfl rfl)
theorem dX1_bid_100 : decode cX1_bid 100 = .ok (.iinc 6 1, 3) := dk_132 6 1 (dk_at dksX1_bid_4 8 rfl rfl)
theorem dX1_bid_103 : decode cX1_bid 103 = .ok (.goto (-30), 3) := dk_167 255 226 (dk_at dksX1_bid_4 11 rfl rfl)
theorem dX1_bid_106 : decode cX1_bid 106 = .ok (.iload 5, 2) := dk_21 5 (dk_at dksX1_bid_4 14 rfl rfl)
theorem dX1_bid_108 : decode cX1_bid 108 = .ok (.ireturn, 1) := dk_172 (dk_at dksX1_bid_4 16 rfl rfl)
abbrev cX1_at : ByteArray := prog_1_method_6_code
def yX1_at : MethodName := ⟨RX1, "at", "(Ljava/util/List;I)Ljava/lang/Object;"⟩
def dkwX1_at_1 : List UInt8 := [42, 27, 185, 0, 7, 2, 0, 176]
abbrev dktX1_at_1 : List UInt8 := dkwX1_at_1 ++ []
def dkwX1_at_0 : List UInt8 := [27, 155, 0, 13, 27, 42, 185, 0, 1, 1, 0, 161, 0, 13, 187, 0, 65, 89, 18, 67, 183, 0, 69, 191]
abbrev dktX1_at_0 : List UInt8 := dkwX1_at_0 ++ dktX1_at_1
theorem dksX1_at_0 : cX1_at.data.toList.drop 0 = dktX1_at_0 := by decide +kernel
theorem dksX1_at_1 : cX1_at.data.toList.drop 24 = dktX1_at_1 := dk_seg dksX1_at_0 24 rfl rfl
theorem dX1_at_0 : decode cX1_at 0 = .ok (.iload_n 1, 1) := dk_27 (dk_at dksX1_at_0 0 rfl rfl)
theorem dX1_at_1 : decode cX1_at 1 = .ok (.ifCond .lt 13, 3) := dk_155 0 13 (dk_at dksX1_at_0 1 rfl rfl)
theorem dX1_at_4 : decode cX1_at 4 = .ok (.iload_n 1, 1) := dk_27 (dk_at dksX1_at_0 4 rfl rfl)
theorem dX1_at_5 : decode cX1_at 5 = .ok (.aload_n 0, 1) := dk_42 (dk_at dksX1_at_0 5 rfl rfl)
theorem dX1_at_6 : decode cX1_at 6 = .ok (.invokeinterface 1 1, 5) := by decide +kernel
theorem dX1_at_11 : decode cX1_at 11 = .ok (.if_icmp .lt 13, 3) := dk_161 0 13 (dk_at dksX1_at_0 11 rfl rfl)
theorem dX1_at_14 : decode cX1_at 14 = .ok (.new 65, 3) := dk_187 0 65 (dk_at dksX1_at_0 14 rfl rfl)
theorem dX1_at_17 : decode cX1_at 17 = .ok (.dup, 1) := dk_89 (dk_at dksX1_at_0 17 rfl rfl)
theorem dX1_at_18 : decode cX1_at 18 = .ok (.ldc 67, 2) := dk_18 67 (dk_at dksX1_at_0 18 rfl rfl)
theorem dX1_at_20 : decode cX1_at 20 = .ok (.invokespecial 69, 3) := dk_183 0 69 (dk_at dksX1_at_0 20 rfl rfl)
theorem dX1_at_23 : decode cX1_at 23 = .ok (.athrow, 1) := dk_191 (dk_at dksX1_at_0 23 rfl rfl)
theorem dX1_at_24 : decode cX1_at 24 = .ok (.aload_n 0, 1) := dk_42 (dk_at dksX1_at_1 0 rfl rfl)
theorem dX1_at_25 : decode cX1_at 25 = .ok (.iload_n 1, 1) := dk_27 (dk_at dksX1_at_1 1 rfl rfl)
theorem dX1_at_26 : decode cX1_at 26 = .ok (.invokeinterface 7 2, 5) := by decide +kernel
theorem dX1_at_31 : decode cX1_at 31 = .ok (.areturn, 1) := dk_176 (dk_at dksX1_at_1 7 rfl rfl)
abbrev cX1_bidder : ByteArray := prog_1_method_4_code
def yX1_bidder : MethodName := ⟨RX1, "bidder", "(I)I"⟩
def dkwX1_bidder_0 : List UInt8 := [26, 3, 16, 6, 184, 0, 50, 172]
abbrev dktX1_bidder_0 : List UInt8 := dkwX1_bidder_0 ++ []
theorem dksX1_bidder_0 : cX1_bidder.data.toList.drop 0 = dktX1_bidder_0 := by decide +kernel
theorem dX1_bidder_0 : decode cX1_bidder 0 = .ok (.iload_n 0, 1) := dk_26 (dk_at dksX1_bidder_0 0 rfl rfl)
theorem dX1_bidder_1 : decode cX1_bidder 1 = .ok (.iconst 0, 1) := dk_3 (dk_at dksX1_bidder_0 1 rfl rfl)
theorem dX1_bidder_2 : decode cX1_bidder 2 = .ok (.bipush 6, 2) := dk_16 6 (dk_at dksX1_bidder_0 2 rfl rfl)
theorem dX1_bidder_4 : decode cX1_bidder 4 = .ok (.invokestatic 50, 3) := dk_184 0 50 (dk_at dksX1_bidder_0 4 rfl rfl)
theorem dX1_bidder_7 : decode cX1_bidder 7 = .ok (.ireturn, 1) := dk_172 (dk_at dksX1_bidder_0 7 rfl rfl)
abbrev cX1_in : ByteArray := prog_1_method_3_code
def yX1_in : MethodName := ⟨RX1, "in", "(III)I"⟩
def dkwX1_in_0 : List UInt8 := [26, 27, 161, 0, 8, 26, 28, 164, 0, 13, 187, 0, 43, 89, 18, 45, 183, 0, 47, 191, 26, 172]
abbrev dktX1_in_0 : List UInt8 := dkwX1_in_0 ++ []
theorem dksX1_in_0 : cX1_in.data.toList.drop 0 = dktX1_in_0 := by decide +kernel
theorem dX1_in_0 : decode cX1_in 0 = .ok (.iload_n 0, 1) := dk_26 (dk_at dksX1_in_0 0 rfl rfl)
theorem dX1_in_1 : decode cX1_in 1 = .ok (.iload_n 1, 1) := dk_27 (dk_at dksX1_in_0 1 rfl rfl)
theorem dX1_in_2 : decode cX1_in 2 = .ok (.if_icmp .lt 8, 3) := dk_161 0 8 (dk_at dksX1_in_0 2 rfl rfl)
theorem dX1_in_5 : decode cX1_in 5 = .ok (.iload_n 0, 1) := dk_26 (dk_at dksX1_in_0 5 rfl rfl)
theorem dX1_in_6 : decode cX1_in 6 = .ok (.iload_n 2, 1) := dk_28 (dk_at dksX1_in_0 6 rfl rfl)
theorem dX1_in_7 : decode cX1_in 7 = .ok (.if_icmp .le 13, 3) := dk_164 0 13 (dk_at dksX1_in_0 7 rfl rfl)
theorem dX1_in_10 : decode cX1_in 10 = .ok (.new 43, 3) := dk_187 0 43 (dk_at dksX1_in_0 10 rfl rfl)
theorem dX1_in_13 : decode cX1_in 13 = .ok (.dup, 1) := dk_89 (dk_at dksX1_in_0 13 rfl rfl)
theorem dX1_in_14 : decode cX1_in 14 = .ok (.ldc 45, 2) := dk_18 45 (dk_at dksX1_in_0 14 rfl rfl)
theorem dX1_in_16 : decode cX1_in 16 = .ok (.invokespecial 47, 3) := dk_183 0 47 (dk_at dksX1_in_0 16 rfl rfl)
theorem dX1_in_19 : decode cX1_in 19 = .ok (.athrow, 1) := dk_191 (dk_at dksX1_in_0 19 rfl rfl)
theorem dX1_in_20 : decode cX1_in 20 = .ok (.iload_n 0, 1) := dk_26 (dk_at dksX1_in_0 20 rfl rfl)
theorem dX1_in_21 : decode cX1_in 21 = .ok (.ireturn, 1) := dk_172 (dk_at dksX1_in_0 21 rfl rfl)
abbrev cX1_withdraw : ByteArray := prog_1_method_10_code
def yX1_withdraw : MethodName := ⟨RX1, "withdraw", "(II)I"⟩
def dkwX1_withdraw_2 : List UInt8 := [181, 0, 108, 45, 180, 0, 95, 28, 50, 180, 0, 111, 172]
abbrev dktX1_withdraw_2 : List UInt8 := dkwX1_withdraw_2 ++ []
def dkwX1_withdraw_1 : List UInt8 := [45, 28, 182, 0, 104, 153, 0, 7, 4, 167, 0, 4, 3, 184, 0, 75, 45, 180, 0, 95, 28, 50, 4]
abbrev dktX1_withdraw_1 : List UInt8 := dkwX1_withdraw_1 ++ dktX1_withdraw_2
def dkwX1_withdraw_0 : List UInt8 := [42, 180, 0, 26, 27, 184, 0, 86, 192, 0, 79, 78, 28, 184, 0, 54, 87, 45, 180, 0, 91, 153, 0, 15]
abbrev dktX1_withdraw_0 : List UInt8 := dkwX1_withdraw_0 ++ dktX1_withdraw_1
theorem dksX1_withdraw_0 : cX1_withdraw.data.toList.drop 0 = dktX1_withdraw_0 := by decide +kernel
theorem dksX1_withdraw_1 : cX1_withdraw.data.toList.drop 24 = dktX1_withdraw_1 := dk_seg dksX1_withdraw_0 24 rfl rfl
theorem dksX1_withdraw_2 : cX1_withdraw.data.toList.drop 47 = dktX1_withdraw_2 := dk_seg dksX1_withdraw_1 23 rfl rfl
theorem dX1_withdraw_0 : decode cX1_withdraw 0 = .ok (.aload_n 0, 1) := dk_42 (dk_at dksX1_withdraw_0 0 rfl rfl)
theorem dX1_withdraw_1 : decode cX1_withdraw 1 = .ok (.getfield 26, 3) := dk_180 0 26 (dk_at dksX1_withdraw_0 1 rfl rfl)
theorem dX1_withdraw_4 : decode cX1_withdraw 4 = .ok (.iload_n 1, 1) := dk_27 (dk_at dksX1_withdraw_0 4 rfl rfl)
theorem dX1_withdraw_5 : decode cX1_withdraw 5 = .ok (.invokestatic 86, 3) := dk_184 0 86 (dk_at dksX1_withdraw_0 5 rfl rfl)
theorem dX1_withdraw_8 : decode cX1_withdraw 8 = .ok (.checkcast 79, 3) := dk_192 0 79 (dk_at dksX1_withdraw_0 8 rfl rfl)
theorem dX1_withdraw_11 : decode cX1_withdraw 11 = .ok (.astore_n 3, 1) := dk_78 (dk_at dksX1_withdraw_0 11 rfl rfl)
theorem dX1_withdraw_12 : decode cX1_withdraw 12 = .ok (.iload_n 2, 1) := dk_28 (dk_at dksX1_withdraw_0 12 rfl rfl)
theorem dX1_withdraw_13 : decode cX1_withdraw 13 = .ok (.invokestatic 54, 3) := dk_184 0 54 (dk_at dksX1_withdraw_0 13 rfl rfl)
theorem dX1_withdraw_16 : decode cX1_withdraw 16 = .ok (.pop, 1) := dk_87 (dk_at dksX1_withdraw_0 16 rfl rfl)
theorem dX1_withdraw_17 : decode cX1_withdraw 17 = .ok (.aload_n 3, 1) := dk_45 (dk_at dksX1_withdraw_0 17 rfl rfl)
theorem dX1_withdraw_18 : decode cX1_withdraw 18 = .ok (.getfield 91, 3) := dk_180 0 91 (dk_at dksX1_withdraw_0 18 rfl rfl)
theorem dX1_withdraw_21 : decode cX1_withdraw 21 = .ok (.ifCond .eq 15, 3) := dk_153 0 15 (dk_at dksX1_withdraw_0 21 rfl rfl)
theorem dX1_withdraw_24 : decode cX1_withdraw 24 = .ok (.aload_n 3, 1) := dk_45 (dk_at dksX1_withdraw_1 0 rfl rfl)
theorem dX1_withdraw_25 : decode cX1_withdraw 25 = .ok (.iload_n 2, 1) := dk_28 (dk_at dksX1_withdraw_1 1 rfl rfl)
theorem dX1_withdraw_26 : decode cX1_withdraw 26 = .ok (.invokevirtual 104, 3) := dk_182 0 104 (dk_at dksX1_withdraw_1 2 rfl rfl)
theorem dX1_withdraw_29 : decode cX1_withdraw 29 = .ok (.ifCond .eq 7, 3) := dk_153 0 7 (dk_at dksX1_withdraw_1 5 rfl rfl)
theorem dX1_withdraw_32 : decode cX1_withdraw 32 = .ok (.iconst 1, 1) := dk_4 (dk_at dksX1_withdraw_1 8 rfl rfl)
theorem dX1_withdraw_33 : decode cX1_withdraw 33 = .ok (.goto 4, 3) := dk_167 0 4 (dk_at dksX1_withdraw_1 9 rfl rfl)
theorem dX1_withdraw_36 : decode cX1_withdraw 36 = .ok (.iconst 0, 1) := dk_3 (dk_at dksX1_withdraw_1 12 rfl rfl)
theorem dX1_withdraw_37 : decode cX1_withdraw 37 = .ok (.invokestatic 75, 3) := dk_184 0 75 (dk_at dksX1_withdraw_1 13 rfl rfl)
theorem dX1_withdraw_40 : decode cX1_withdraw 40 = .ok (.aload_n 3, 1) := dk_45 (dk_at dksX1_withdraw_1 16 rfl rfl)
theorem dX1_withdraw_41 : decode cX1_withdraw 41 = .ok (.getfield 95, 3) := dk_180 0 95 (dk_at dksX1_withdraw_1 17 rfl rfl)
theorem dX1_withdraw_44 : decode cX1_withdraw 44 = .ok (.iload_n 2, 1) := dk_28 (dk_at dksX1_withdraw_1 20 rfl rfl)
theorem dX1_withdraw_45 : decode cX1_withdraw 45 = .ok (.aaload, 1) := dk_50 (dk_at dksX1_withdraw_1 21 rfl rfl)
theorem dX1_withdraw_46 : decode cX1_withdraw 46 = .ok (.iconst 1, 1) := dk_4 (dk_at dksX1_withdraw_1 22 rfl rfl)
theorem dX1_withdraw_47 : decode cX1_withdraw 47 = .ok (.putfield 108, 3) := dk_181 0 108 (dk_at dksX1_withdraw_2 0 rfl rfl)
theorem dX1_withdraw_50 : decode cX1_withdraw 50 = .ok (.aload_n 3, 1) := dk_45 (dk_at dksX1_withdraw_2 3 rfl rfl)
theorem dX1_withdraw_51 : decode cX1_withdraw 51 = .ok (.getfield 95, 3) := dk_180 0 95 (dk_at dksX1_withdraw_2 4 rfl rfl)
theorem dX1_withdraw_54 : decode cX1_withdraw 54 = .ok (.iload_n 2, 1) := dk_28 (dk_at dksX1_withdraw_2 7 rfl rfl)
theorem dX1_withdraw_55 : decode cX1_withdraw 55 = .ok (.aaload, 1) := dk_50 (dk_at dksX1_withdraw_2 8 rfl rfl)
theorem dX1_withdraw_56 : decode cX1_withdraw 56 = .ok (.getfield 111, 3) := dk_180 0 111 (dk_at dksX1_withdraw_2 9 rfl rfl)
theorem dX1_withdraw_59 : decode cX1_withdraw 59 = .ok (.ireturn, 1) := dk_172 (dk_at dksX1_withdraw_2 12 rfl rfl)
abbrev cX1_award : ByteArray := prog_1_method_11_code
def yX1_award : MethodName := ⟨RX1, "award", "(I)I"⟩
def dkwX1_award_1 : List UInt8 := [44, 44, 182, 0, 114, 181, 0, 117, 44, 180, 0, 117, 172]
abbrev dktX1_award_1 : List UInt8 := dkwX1_award_1 ++ []
def dkwX1_award_0 : List UInt8 := [42, 180, 0, 26, 27, 184, 0, 86, 192, 0, 79, 77, 44, 180, 0, 91, 184, 0, 75, 44, 3, 181, 0, 91]
abbrev dktX1_award_0 : List UInt8 := dkwX1_award_0 ++ dktX1_award_1
theorem dksX1_award_0 : cX1_award.data.toList.drop 0 = dktX1_award_0 := by decide +kernel
theorem dksX1_award_1 : cX1_award.data.toList.drop 24 = dktX1_award_1 := dk_seg dksX1_award_0 24 rfl rfl
theorem dX1_award_0 : decode cX1_award 0 = .ok (.aload_n 0, 1) := dk_42 (dk_at dksX1_award_0 0 rfl rfl)
theorem dX1_award_1 : decode cX1_award 1 = .ok (.getfield 26, 3) := dk_180 0 26 (dk_at dksX1_award_0 1 rfl rfl)
theorem dX1_award_4 : decode cX1_award 4 = .ok (.iload_n 1, 1) := dk_27 (dk_at dksX1_award_0 4 rfl rfl)
theorem dX1_award_5 : decode cX1_award 5 = .ok (.invokestatic 86, 3) := dk_184 0 86 (dk_at dksX1_award_0 5 rfl rfl)
theorem dX1_award_8 : decode cX1_award 8 = .ok (.checkcast 79, 3) := dk_192 0 79 (dk_at dksX1_award_0 8 rfl rfl)
theorem dX1_award_11 : decode cX1_award 11 = .ok (.astore_n 2, 1) := dk_77 (dk_at dksX1_award_0 11 rfl rfl)
theorem dX1_award_12 : decode cX1_award 12 = .ok (.aload_n 2, 1) := dk_44 (dk_at dksX1_award_0 12 rfl rfl)
theorem dX1_award_13 : decode cX1_award 13 = .ok (.getfield 91, 3) := dk_180 0 91 (dk_at dksX1_award_0 13 rfl rfl)
theorem dX1_award_16 : decode cX1_award 16 = .ok (.invokestatic 75, 3) := dk_184 0 75 (dk_at dksX1_award_0 16 rfl rfl)
theorem dX1_award_19 : decode cX1_award 19 = .ok (.aload_n 2, 1) := dk_44 (dk_at dksX1_award_0 19 rfl rfl)
theorem dX1_award_20 : decode cX1_award 20 = .ok (.iconst 0, 1) := dk_3 (dk_at dksX1_award_0 20 rfl rfl)
theorem dX1_award_21 : decode cX1_award 21 = .ok (.putfield 91, 3) := dk_181 0 91 (dk_at dksX1_award_0 21 rfl rfl)
theorem dX1_award_24 : decode cX1_award 24 = .ok (.aload_n 2, 1) := dk_44 (dk_at dksX1_award_1 0 rfl rfl)
theorem dX1_award_25 : decode cX1_award 25 = .ok (.aload_n 2, 1) := dk_44 (dk_at dksX1_award_1 1 rfl rfl)
theorem dX1_award_26 : decode cX1_award 26 = .ok (.invokevirtual 114, 3) := dk_182 0 114 (dk_at dksX1_award_1 2 rfl rfl)
theorem dX1_award_29 : decode cX1_award 29 = .ok (.putfield 117, 3) := dk_181 0 117 (dk_at dksX1_award_1 5 rfl rfl)
theorem dX1_award_32 : decode cX1_award 32 = .ok (.aload_n 2, 1) := dk_44 (dk_at dksX1_award_1 8 rfl rfl)
theorem dX1_award_33 : decode cX1_award 33 = .ok (.getfield 117, 3) := dk_180 0 117 (dk_at dksX1_award_1 9 rfl rfl)
theorem dX1_award_36 : decode cX1_award 36 = .ok (.ireturn, 1) := dk_172 (dk_at dksX1_award_1 12 rfl rfl)
abbrev cX1_passOn : ByteArray := prog_1_method_12_code
def yX1_passOn : MethodName := ⟨RX1, "passOn", "(III)I"⟩
def dkwX1_passOn_3 : List UInt8 := [183, 0, 47, 191, 25, 4, 28, 181, 0, 120, 25, 4, 29, 181, 0, 127, 25, 4, 180, 0, 117, 172]
abbrev dktX1_passOn_3 : List UInt8 := dkwX1_passOn_3 ++ []
def dkwX1_passOn_2 : List UInt8 := [182, 0, 123, 184, 0, 50, 87, 28, 25, 4, 180, 0, 117, 160, 0, 13, 187, 0, 43, 89, 18, 125]
abbrev dktX1_passOn_2 : List UInt8 := dkwX1_passOn_2 ++ dktX1_passOn_3
def dkwX1_passOn_1 : List UInt8 := [180, 0, 120, 2, 160, 0, 7, 4, 167, 0, 4, 3, 184, 0, 75, 28, 184, 0, 54, 87, 29, 4, 25, 4]
abbrev dktX1_passOn_1 : List UInt8 := dkwX1_passOn_1 ++ dktX1_passOn_2
def dkwX1_passOn_0 : List UInt8 := [42, 180, 0, 26, 27, 184, 0, 86, 192, 0, 79, 58, 4, 25, 4, 180, 0, 117, 2, 159, 0, 16, 25, 4]
abbrev dktX1_passOn_0 : List UInt8 := dkwX1_passOn_0 ++ dktX1_passOn_1
theorem dksX1_passOn_0 : cX1_passOn.data.toList.drop 0 = dktX1_passOn_0 := by decide +kernel
theorem dksX1_passOn_1 : cX1_passOn.data.toList.drop 24 = dktX1_passOn_1 := dk_seg dksX1_passOn_0 24 rfl rfl
theorem dksX1_passOn_2 : cX1_passOn.data.toList.drop 48 = dktX1_passOn_2 := dk_seg dksX1_passOn_1 24 rfl rfl
theorem dksX1_passOn_3 : cX1_passOn.data.toList.drop 70 = dktX1_passOn_3 := dk_seg dksX1_passOn_2 22 rfl rfl
theorem dX1_passOn_0 : decode cX1_passOn 0 = .ok (.aload_n 0, 1) := dk_42 (dk_at dksX1_passOn_0 0 rfl rfl)
theorem dX1_passOn_1 : decode cX1_passOn 1 = .ok (.getfield 26, 3) := dk_180 0 26 (dk_at dksX1_passOn_0 1 rfl rfl)
theorem dX1_passOn_4 : decode cX1_passOn 4 = .ok (.iload_n 1, 1) := dk_27 (dk_at dksX1_passOn_0 4 rfl rfl)
theorem dX1_passOn_5 : decode cX1_passOn 5 = .ok (.invokestatic 86, 3) := dk_184 0 86 (dk_at dksX1_passOn_0 5 rfl rfl)
theorem dX1_passOn_8 : decode cX1_passOn 8 = .ok (.checkcast 79, 3) := dk_192 0 79 (dk_at dksX1_passOn_0 8 rfl rfl)
theorem dX1_passOn_11 : decode cX1_passOn 11 = .ok (.astore 4, 2) := dk_58 4 (dk_at dksX1_passOn_0 11 rfl rfl)
theorem dX1_passOn_13 : decode cX1_passOn 13 = .ok (.aload 4, 2) := dk_25 4 (dk_at dksX1_passOn_0 13 rfl rfl)
theorem dX1_passOn_15 : decode cX1_passOn 15 = .ok (.getfield 117, 3) := dk_180 0 117 (dk_at dksX1_passOn_0 15 rfl rfl)
theorem dX1_passOn_18 : decode cX1_passOn 18 = .ok (.iconst (-1), 1) := dk_2 (dk_at dksX1_passOn_0 18 rfl rfl)
theorem dX1_passOn_19 : decode cX1_passOn 19 = .ok (.if_icmp .eq 16, 3) := dk_159 0 16 (dk_at dksX1_passOn_0 19 rfl rfl)
theorem dX1_passOn_22 : decode cX1_passOn 22 = .ok (.aload 4, 2) := dk_25 4 (dk_at dksX1_passOn_0 22 rfl rfl)
theorem dX1_passOn_24 : decode cX1_passOn 24 = .ok (.getfield 120, 3) := dk_180 0 120 (dk_at dksX1_passOn_1 0 rfl rfl)
theorem dX1_passOn_27 : decode cX1_passOn 27 = .ok (.iconst (-1), 1) := dk_2 (dk_at dksX1_passOn_1 3 rfl rfl)
theorem dX1_passOn_28 : decode cX1_passOn 28 = .ok (.if_icmp .ne 7, 3) := dk_160 0 7 (dk_at dksX1_passOn_1 4 rfl rfl)
theorem dX1_passOn_31 : decode cX1_passOn 31 = .ok (.iconst 1, 1) := dk_4 (dk_at dksX1_passOn_1 7 rfl rfl)
theorem dX1_passOn_32 : decode cX1_passOn 32 = .ok (.goto 4, 3) := dk_167 0 4 (dk_at dksX1_passOn_1 8 rfl rfl)
theorem dX1_passOn_35 : decode cX1_passOn 35 = .ok (.iconst 0, 1) := dk_3 (dk_at dksX1_passOn_1 11 rfl rfl)
theorem dX1_passOn_36 : decode cX1_passOn 36 = .ok (.invokestatic 75, 3) := dk_184 0 75 (dk_at dksX1_passOn_1 12 rfl rfl)
theorem dX1_passOn_39 : decode cX1_passOn 39 = .ok (.iload_n 2, 1) := dk_28 (dk_at dksX1_passOn_1 15 rfl rfl)
theorem dX1_passOn_40 : decode cX1_passOn 40 = .ok (.invokestatic 54, 3) := dk_184 0 54 (dk_at dksX1_passOn_1 16 rfl rfl)
theorem dX1_passOn_43 : decode cX1_passOn 43 = .ok (.pop, 1) := dk_87 (dk_at dksX1_passOn_1 19 rfl rfl)
theorem dX1_passOn_44 : decode cX1_passOn 44 = .ok (.iload_n 3, 1) := dk_29 (dk_at dksX1_passOn_1 20 rfl rfl)
theorem dX1_passOn_45 : decode cX1_passOn 45 = .ok (.iconst 1, 1) := dk_4 (dk_at dksX1_passOn_1 21 rfl rfl)
theorem dX1_passOn_46 : decode cX1_passOn 46 = .ok (.aload 4, 2) := dk_25 4 (dk_at dksX1_passOn_1 22 rfl rfl)
theorem dX1_passOn_48 : decode cX1_passOn 48 = .ok (.invokevirtual 123, 3) := dk_182 0 123 (dk_at dksX1_passOn_2 0 rfl rfl)
theorem dX1_passOn_51 : decode cX1_passOn 51 = .ok (.invokestatic 50, 3) := dk_184 0 50 (dk_at dksX1_passOn_2 3 rfl rfl)
theorem dX1_passOn_54 : decode cX1_passOn 54 = .ok (.pop, 1) := dk_87 (dk_at dksX1_passOn_2 6 rfl rfl)
theorem dX1_passOn_55 : decode cX1_passOn 55 = .ok (.iload_n 2, 1) := dk_28 (dk_at dksX1_passOn_2 7 rfl rfl)
theorem dX1_passOn_56 : decode cX1_passOn 56 = .ok (.aload 4, 2) := dk_25 4 (dk_at dksX1_passOn_2 8 rfl rfl)
theorem dX1_passOn_58 : decode cX1_passOn 58 = .ok (.getfield 117, 3) := dk_180 0 117 (dk_at dksX1_passOn_2 10 rfl rfl)
theorem dX1_passOn_61 : decode cX1_passOn 61 = .ok (.if_icmp .ne 13, 3) := dk_160 0 13 (dk_at dksX1_passOn_2 13 rfl rfl)
theorem dX1_passOn_64 : decode cX1_passOn 64 = .ok (.new 43, 3) := dk_187 0 43 (dk_at dksX1_passOn_2 16 rfl rfl)
theorem dX1_passOn_67 : decode cX1_passOn 67 = .ok (.dup, 1) := dk_89 (dk_at dksX1_passOn_2 19 rfl rfl)
theorem dX1_passOn_68 : decode cX1_passOn 68 = .ok (.ldc 125, 2) := dk_18 125 (dk_at dksX1_passOn_2 20 rfl rfl)
theorem dX1_passOn_70 : decode cX1_passOn 70 = .ok (.invokespecial 47, 3) := dk_183 0 47 (dk_at dksX1_passOn_3 0 rfl rfl)
theorem dX1_passOn_73 : decode cX1_passOn 73 = .ok (.athrow, 1) := dk_191 (dk_at dksX1_passOn_3 3 rfl rfl)
theorem dX1_passOn_74 : decode cX1_passOn 74 = .ok (.aload 4, 2) := dk_25 4 (dk_at dksX1_passOn_3 4 rfl rfl)
theorem dX1_passOn_76 : decode cX1_passOn 76 = .ok (.iload_n 2, 1) := dk_28 (dk_at dksX1_passOn_3 6 rfl rfl)
theorem dX1_passOn_77 : decode cX1_passOn 77 = .ok (.putfield 120, 3) := dk_181 0 120 (dk_at dksX1_passOn_3 7 rfl rfl)
theorem dX1_passOn_80 : decode cX1_passOn 80 = .ok (.aload 4, 2) := dk_25 4 (dk_at dksX1_passOn_3 10 rfl rfl)
theorem dX1_passOn_82 : decode cX1_passOn 82 = .ok (.iload_n 3, 1) := dk_29 (dk_at dksX1_passOn_3 12 rfl rfl)
theorem dX1_passOn_83 : decode cX1_passOn 83 = .ok (.putfield 127, 3) := dk_181 0 127 (dk_at dksX1_passOn_3 13 rfl rfl)
theorem dX1_passOn_86 : decode cX1_passOn 86 = .ok (.aload 4, 2) := dk_25 4 (dk_at dksX1_passOn_3 16 rfl rfl)
theorem dX1_passOn_88 : decode cX1_passOn 88 = .ok (.getfield 117, 3) := dk_180 0 117 (dk_at dksX1_passOn_3 18 rfl rfl)
theorem dX1_passOn_91 : decode cX1_passOn 91 = .ok (.ireturn, 1) := dk_172 (dk_at dksX1_passOn_3 21 rfl rfl)
abbrev cX1_turnover : ByteArray := prog_1_method_14_code
def yX1_turnover : MethodName := ⟨RX1, "turnover", "(I)I"⟩
def dkwX1_turnover_0 : List UInt8 := [42, 27, 184, 0, 54, 182, 0, 136, 172]
abbrev dktX1_turnover_0 : List UInt8 := dkwX1_turnover_0 ++ []
theorem dksX1_turnover_0 : cX1_turnover.data.toList.drop 0 = dktX1_turnover_0 := by decide +kernel
theorem dX1_turnover_0 : decode cX1_turnover 0 = .ok (.aload_n 0, 1) := dk_42 (dk_at dksX1_turnover_0 0 rfl rfl)
theorem dX1_turnover_1 : decode cX1_turnover 1 = .ok (.iload_n 1, 1) := dk_27 (dk_at dksX1_turnover_0 1 rfl rfl)
theorem dX1_turnover_2 : decode cX1_turnover 2 = .ok (.invokestatic 54, 3) := dk_184 0 54 (dk_at dksX1_turnover_0 2 rfl rfl)
theorem dX1_turnover_5 : decode cX1_turnover 5 = .ok (.invokevirtual 136, 3) := dk_182 0 136 (dk_at dksX1_turnover_0 5 rfl rfl)
theorem dX1_turnover_8 : decode cX1_turnover 8 = .ok (.ireturn, 1) := dk_172 (dk_at dksX1_turnover_0 8 rfl rfl)
abbrev cX1_turnoverOf : ByteArray := prog_1_method_13_code
def yX1_turnoverOf : MethodName := ⟨RX1, "turnoverOf", "(I)I"⟩
def dkwX1_turnoverOf_0 : List UInt8 := [42, 180, 0, 26, 27, 186, 0, 130, 0, 0, 184, 0, 133, 172]
abbrev dktX1_turnoverOf_0 : List UInt8 := dkwX1_turnoverOf_0 ++ []
theorem dksX1_turnoverOf_0 : cX1_turnoverOf.data.toList.drop 0 = dktX1_turnoverOf_0 := by decide +kernel
theorem dX1_turnoverOf_0 : decode cX1_turnoverOf 0 = .ok (.aload_n 0, 1) := dk_42 (dk_at dksX1_turnoverOf_0 0 rfl rfl)
theorem dX1_turnoverOf_1 : decode cX1_turnoverOf 1 = .ok (.getfield 26, 3) := dk_180 0 26 (dk_at dksX1_turnoverOf_0 1 rfl rfl)
theorem dX1_turnoverOf_4 : decode cX1_turnoverOf 4 = .ok (.iload_n 1, 1) := dk_27 (dk_at dksX1_turnoverOf_0 4 rfl rfl)
theorem dX1_turnoverOf_5 : decode cX1_turnoverOf 5 = .ok (.invokedynamic 130, 5) := by decide +kernel
theorem dX1_turnoverOf_10 : decode cX1_turnoverOf 10 = .ok (.invokestatic 133, 3) := dk_184 0 133 (dk_at dksX1_turnoverOf_0 10 rfl rfl)
theorem dX1_turnoverOf_13 : decode cX1_turnoverOf 13 = .ok (.ireturn, 1) := dk_172 (dk_at dksX1_turnoverOf_0 13 rfl rfl)
abbrev cX1_lambda_turnoverOf_0 : ByteArray := prog_1_method_34_code
def yX1_lambda_turnoverOf_0 : MethodName := ⟨RX1, "lambda$turnoverOf$0", "(ILCartelWatch$Tender;)I"⟩
def dkwX1_lambda_turnoverOf_0_0 : List UInt8 := [43, 26, 182, 0, 227, 172]
abbrev dktX1_lambda_turnoverOf_0_0 : List UInt8 := dkwX1_lambda_turnoverOf_0_0 ++ []
theorem dksX1_lambda_turnoverOf_0_0 : cX1_lambda_turnoverOf_0.data.toList.drop 0 = dktX1_lambda_turnoverOf_0_0 := by decide +kernel
theorem dX1_lambda_turnoverOf_0_0 : decode cX1_lambda_turnoverOf_0 0 = .ok (.aload_n 1, 1) := dk_43 (dk_at dksX1_lambda_turnoverOf_0_0 0 rfl rfl)
theorem dX1_lambda_turnoverOf_0_1 : decode cX1_lambda_turnoverOf_0 1 = .ok (.iload_n 0, 1) := dk_26 (dk_at dksX1_lambda_turnoverOf_0_0 1 rfl rfl)
theorem dX1_lambda_turnoverOf_0_2 : decode cX1_lambda_turnoverOf_0 2 = .ok (.invokevirtual 227, 3) := dk_182 0 227 (dk_at dksX1_lambda_turnoverOf_0_0 2 rfl rfl)
theorem dX1_lambda_turnoverOf_0_5 : decode cX1_lambda_turnoverOf_0 5 = .ok (.ireturn, 1) := dk_172 (dk_at dksX1_lambda_turnoverOf_0_0 5 rfl rfl)
abbrev cX1_sum : ByteArray := prog_1_method_1_code
def yX1_sum : MethodName := ⟨RX1, "sum", "(Ljava/util/List;LCartelWatch$Measure;)I"⟩
def dkwX1_sum_1 : List UInt8 := [185, 0, 11, 2, 0, 96, 61, 132, 3, 1, 167, 255, 227, 28, 172]
abbrev dktX1_sum_1 : List UInt8 := dkwX1_sum_1 ++ []
def dkwX1_sum_0 : List UInt8 := [3, 61, 3, 62, 29, 42, 185, 0, 1, 1, 0, 162, 0, 25, 28, 43, 42, 29, 185, 0, 7, 2, 0]
abbrev dktX1_sum_0 : List UInt8 := dkwX1_sum_0 ++ dktX1_sum_1
theorem dksX1_sum_0 : cX1_sum.data.toList.drop 0 = dktX1_sum_0 := by decide +kernel
theorem dksX1_sum_1 : cX1_sum.data.toList.drop 23 = dktX1_sum_1 := dk_seg dksX1_sum_0 23 rfl rfl
theorem dX1_sum_0 : decode cX1_sum 0 = .ok (.iconst 0, 1) := dk_3 (dk_at dksX1_sum_0 0 rfl rfl)
theorem dX1_sum_1 : decode cX1_sum 1 = .ok (.istore_n 2, 1) := dk_61 (dk_at dksX1_sum_0 1 rfl rfl)
theorem dX1_sum_2 : decode cX1_sum 2 = .ok (.iconst 0, 1) := dk_3 (dk_at dksX1_sum_0 2 rfl rfl)
theorem dX1_sum_3 : decode cX1_sum 3 = .ok (.istore_n 3, 1) := dk_62 (dk_at dksX1_sum_0 3 rfl rfl)
theorem dX1_sum_4 : decode cX1_sum 4 = .ok (.iload_n 3, 1) := dk_29 (dk_at dksX1_sum_0 4 rfl rfl)
theorem dX1_sum_5 : decode cX1_sum 5 = .ok (.aload_n 0, 1) := dk_42 (dk_at dksX1_sum_0 5 rfl rfl)
theorem dX1_sum_6 : decode cX1_sum 6 = .ok (.invokeinterface 1 1, 5) := by decide +kernel
theorem dX1_sum_11 : decode cX1_sum 11 = .ok (.if_icmp .ge 25, 3) := dk_162 0 25 (dk_at dksX1_sum_0 11 rfl rfl)
theorem dX1_sum_14 : decode cX1_sum 14 = .ok (.iload_n 2, 1) := dk_28 (dk_at dksX1_sum_0 14 rfl rfl)
theorem dX1_sum_15 : decode cX1_sum 15 = .ok (.aload_n 1, 1) := dk_43 (dk_at dksX1_sum_0 15 rfl rfl)
theorem dX1_sum_16 : decode cX1_sum 16 = .ok (.aload_n 0, 1) := dk_42 (dk_at dksX1_sum_0 16 rfl rfl)
theorem dX1_sum_17 : decode cX1_sum 17 = .ok (.iload_n 3, 1) := dk_29 (dk_at dksX1_sum_0 17 rfl rfl)
theorem dX1_sum_18 : decode cX1_sum 18 = .ok (.invokeinterface 7 2, 5) := by decide +kernel
theorem dX1_sum_23 : decode cX1_sum 23 = .ok (.invokeinterface 11 2, 5) := by decide +kernel
theorem dX1_sum_28 : decode cX1_sum 28 = .ok (.iadd, 1) := dk_96 (dk_at dksX1_sum_1 5 rfl rfl)
theorem dX1_sum_29 : decode cX1_sum 29 = .ok (.istore_n 2, 1) := dk_61 (dk_at dksX1_sum_1 6 rfl rfl)
theorem dX1_sum_30 : decode cX1_sum 30 = .ok (.iinc 3 1, 3) := dk_132 3 1 (dk_at dksX1_sum_1 7 rfl rfl)
theorem dX1_sum_33 : decode cX1_sum 33 = .ok (.goto (-29), 3) := dk_167 255 227 (dk_at dksX1_sum_1 10 rfl rfl)
theorem dX1_sum_36 : decode cX1_sum 36 = .ok (.iload_n 2, 1) := dk_28 (dk_at dksX1_sum_1 13 rfl rfl)
theorem dX1_sum_37 : decode cX1_sum 37 = .ok (.ireturn, 1) := dk_172 (dk_at dksX1_sum_1 14 rfl rfl)
abbrev cX1_won : ByteArray := prog_1_method_15_code
def yX1_won : MethodName := ⟨RX1, "won", "(I)I"⟩
def dkwX1_won_0 : List UInt8 := [27, 184, 0, 54, 87, 42, 180, 0, 26, 27, 186, 0, 139, 0, 0, 184, 0, 133, 172]
abbrev dktX1_won_0 : List UInt8 := dkwX1_won_0 ++ []
theorem dksX1_won_0 : cX1_won.data.toList.drop 0 = dktX1_won_0 := by decide +kernel
theorem dX1_won_0 : decode cX1_won 0 = .ok (.iload_n 1, 1) := dk_27 (dk_at dksX1_won_0 0 rfl rfl)
theorem dX1_won_1 : decode cX1_won 1 = .ok (.invokestatic 54, 3) := dk_184 0 54 (dk_at dksX1_won_0 1 rfl rfl)
theorem dX1_won_4 : decode cX1_won 4 = .ok (.pop, 1) := dk_87 (dk_at dksX1_won_0 4 rfl rfl)
theorem dX1_won_5 : decode cX1_won 5 = .ok (.aload_n 0, 1) := dk_42 (dk_at dksX1_won_0 5 rfl rfl)
theorem dX1_won_6 : decode cX1_won 6 = .ok (.getfield 26, 3) := dk_180 0 26 (dk_at dksX1_won_0 6 rfl rfl)
theorem dX1_won_9 : decode cX1_won 9 = .ok (.iload_n 1, 1) := dk_27 (dk_at dksX1_won_0 9 rfl rfl)
theorem dX1_won_10 : decode cX1_won 10 = .ok (.invokedynamic 139, 5) := by decide +kernel
theorem dX1_won_15 : decode cX1_won 15 = .ok (.invokestatic 133, 3) := dk_184 0 133 (dk_at dksX1_won_0 15 rfl rfl)
theorem dX1_won_18 : decode cX1_won 18 = .ok (.ireturn, 1) := dk_172 (dk_at dksX1_won_0 18 rfl rfl)
abbrev cX1_lambda_won_1 : ByteArray := prog_1_method_33_code
def yX1_lambda_won_1 : MethodName := ⟨RX1, "lambda$won$1", "(ILCartelWatch$Tender;)I"⟩
def dkwX1_lambda_won_1_0 : List UInt8 := [43, 180, 0, 117, 26, 160, 0, 7, 4, 167, 0, 4, 3, 172]
abbrev dktX1_lambda_won_1_0 : List UInt8 := dkwX1_lambda_won_1_0 ++ []
theorem dksX1_lambda_won_1_0 : cX1_lambda_won_1.data.toList.drop 0 = dktX1_lambda_won_1_0 := by decide +kernel
theorem dX1_lambda_won_1_0 : decode cX1_lambda_won_1 0 = .ok (.aload_n 1, 1) := dk_43 (dk_at dksX1_lambda_won_1_0 0 rfl rfl)
theorem dX1_lambda_won_1_1 : decode cX1_lambda_won_1 1 = .ok (.getfield 117, 3) := dk_180 0 117 (dk_at dksX1_lambda_won_1_0 1 rfl rfl)
theorem dX1_lambda_won_1_4 : decode cX1_lambda_won_1 4 = .ok (.iload_n 0, 1) := dk_26 (dk_at dksX1_lambda_won_1_0 4 rfl rfl)
theorem dX1_lambda_won_1_5 : decode cX1_lambda_won_1 5 = .ok (.if_icmp .ne 7, 3) := dk_160 0 7 (dk_at dksX1_lambda_won_1_0 5 rfl rfl)
theorem dX1_lambda_won_1_8 : decode cX1_lambda_won_1 8 = .ok (.iconst 1, 1) := dk_4 (dk_at dksX1_lambda_won_1_0 8 rfl rfl)
theorem dX1_lambda_won_1_9 : decode cX1_lambda_won_1 9 = .ok (.goto 4, 3) := dk_167 0 4 (dk_at dksX1_lambda_won_1_0 9 rfl rfl)
theorem dX1_lambda_won_1_12 : decode cX1_lambda_won_1 12 = .ok (.iconst 0, 1) := dk_3 (dk_at dksX1_lambda_won_1_0 12 rfl rfl)
theorem dX1_lambda_won_1_13 : decode cX1_lambda_won_1 13 = .ok (.ireturn, 1) := dk_172 (dk_at dksX1_lambda_won_1_0 13 rfl rfl)
abbrev cX1_suspicion : ByteArray := prog_1_method_19_code
def yX1_suspicion : MethodName := ⟨RX1, "suspicion", "(II)I"⟩
def dkwX1_suspicion_0 : List UInt8 := [42, 27, 28, 184, 0, 159, 182, 0, 163, 172]
abbrev dktX1_suspicion_0 : List UInt8 := dkwX1_suspicion_0 ++ []
theorem dksX1_suspicion_0 : cX1_suspicion.data.toList.drop 0 = dktX1_suspicion_0 := by decide +kernel
theorem dX1_suspicion_0 : decode cX1_suspicion 0 = .ok (.aload_n 0, 1) := dk_42 (dk_at dksX1_suspicion_0 0 rfl rfl)
theorem dX1_suspicion_1 : decode cX1_suspicion 1 = .ok (.iload_n 1, 1) := dk_27 (dk_at dksX1_suspicion_0 1 rfl rfl)
theorem dX1_suspicion_2 : decode cX1_suspicion 2 = .ok (.iload_n 2, 1) := dk_28 (dk_at dksX1_suspicion_0 2 rfl rfl)
theorem dX1_suspicion_3 : decode cX1_suspicion 3 = .ok (.invokestatic 159, 3) := dk_184 0 159 (dk_at dksX1_suspicion_0 3 rfl rfl)
theorem dX1_suspicion_6 : decode cX1_suspicion 6 = .ok (.invokevirtual 163, 3) := dk_182 0 163 (dk_at dksX1_suspicion_0 6 rfl rfl)
theorem dX1_suspicion_9 : decode cX1_suspicion 9 = .ok (.ireturn, 1) := dk_172 (dk_at dksX1_suspicion_0 9 rfl rfl)
abbrev cX1_pair : ByteArray := prog_1_method_5_code
def yX1_pair : MethodName := ⟨RX1, "pair", "(II)LCartelWatch$Pair;"⟩
def dkwX1_pair_1 : List UInt8 := [191, 187, 0, 60, 89, 26, 27, 183, 0, 62, 176]
abbrev dktX1_pair_1 : List UInt8 := dkwX1_pair_1 ++ []
def dkwX1_pair_0 : List UInt8 := [26, 184, 0, 54, 87, 27, 184, 0, 54, 87, 26, 27, 160, 0, 13, 187, 0, 43, 89, 18, 58, 183, 0, 47]
abbrev dktX1_pair_0 : List UInt8 := dkwX1_pair_0 ++ dktX1_pair_1
theorem dksX1_pair_0 : cX1_pair.data.toList.drop 0 = dktX1_pair_0 := by decide +kernel
theorem dksX1_pair_1 : cX1_pair.data.toList.drop 24 = dktX1_pair_1 := dk_seg dksX1_pair_0 24 rfl rfl
theorem dX1_pair_0 : decode cX1_pair 0 = .ok (.iload_n 0, 1) := dk_26 (dk_at dksX1_pair_0 0 rfl rfl)
theorem dX1_pair_1 : decode cX1_pair 1 = .ok (.invokestatic 54, 3) := dk_184 0 54 (dk_at dksX1_pair_0 1 rfl rfl)
theorem dX1_pair_4 : decode cX1_pair 4 = .ok (.pop, 1) := dk_87 (dk_at dksX1_pair_0 4 rfl rfl)
theorem dX1_pair_5 : decode cX1_pair 5 = .ok (.iload_n 1, 1) := dk_27 (dk_at dksX1_pair_0 5 rfl rfl)
theorem dX1_pair_6 : decode cX1_pair 6 = .ok (.invokestatic 54, 3) := dk_184 0 54 (dk_at dksX1_pair_0 6 rfl rfl)
theorem dX1_pair_9 : decode cX1_pair 9 = .ok (.pop, 1) := dk_87 (dk_at dksX1_pair_0 9 rfl rfl)
theorem dX1_pair_10 : decode cX1_pair 10 = .ok (.iload_n 0, 1) := dk_26 (dk_at dksX1_pair_0 10 rfl rfl)
theorem dX1_pair_11 : decode cX1_pair 11 = .ok (.iload_n 1, 1) := dk_27 (dk_at dksX1_pair_0 11 rfl rfl)
theorem dX1_pair_12 : decode cX1_pair 12 = .ok (.if_icmp .ne 13, 3) := dk_160 0 13 (dk_at dksX1_pair_0 12 rfl rfl)
theorem dX1_pair_15 : decode cX1_pair 15 = .ok (.new 43, 3) := dk_187 0 43 (dk_at dksX1_pair_0 15 rfl rfl)
theorem dX1_pair_18 : decode cX1_pair 18 = .ok (.dup, 1) := dk_89 (dk_at dksX1_pair_0 18 rfl rfl)
theorem dX1_pair_19 : decode cX1_pair 19 = .ok (.ldc 58, 2) := dk_18 58 (dk_at dksX1_pair_0 19 rfl rfl)
theorem dX1_pair_21 : decode cX1_pair 21 = .ok (.invokespecial 47, 3) := dk_183 0 47 (dk_at dksX1_pair_0 21 rfl rfl)
theorem dX1_pair_24 : decode cX1_pair 24 = .ok (.athrow, 1) := dk_191 (dk_at dksX1_pair_1 0 rfl rfl)
theorem dX1_pair_25 : decode cX1_pair 25 = .ok (.new 60, 3) := dk_187 0 60 (dk_at dksX1_pair_1 1 rfl rfl)
theorem dX1_pair_28 : decode cX1_pair 28 = .ok (.dup, 1) := dk_89 (dk_at dksX1_pair_1 4 rfl rfl)
theorem dX1_pair_29 : decode cX1_pair 29 = .ok (.iload_n 0, 1) := dk_26 (dk_at dksX1_pair_1 5 rfl rfl)
theorem dX1_pair_30 : decode cX1_pair 30 = .ok (.iload_n 1, 1) := dk_27 (dk_at dksX1_pair_1 6 rfl rfl)
theorem dX1_pair_31 : decode cX1_pair 31 = .ok (.invokespecial 62, 3) := dk_183 0 62 (dk_at dksX1_pair_1 7 rfl rfl)
theorem dX1_pair_34 : decode cX1_pair 34 = .ok (.areturn, 1) := dk_176 (dk_at dksX1_pair_1 10 rfl rfl)
abbrev cX1_sign : ByteArray := prog_1_method_20_code
def yX1_sign : MethodName := ⟨RX1, "sign", "(III)I"⟩
def dkwX1_sign_0 : List UInt8 := [42, 180, 0, 26, 27, 184, 0, 86, 87, 42, 27, 28, 29, 184, 0, 159, 182, 0, 156, 172]
abbrev dktX1_sign_0 : List UInt8 := dkwX1_sign_0 ++ []
theorem dksX1_sign_0 : cX1_sign.data.toList.drop 0 = dktX1_sign_0 := by decide +kernel
theorem dX1_sign_0 : decode cX1_sign 0 = .ok (.aload_n 0, 1) := dk_42 (dk_at dksX1_sign_0 0 rfl rfl)
theorem dX1_sign_1 : decode cX1_sign 1 = .ok (.getfield 26, 3) := dk_180 0 26 (dk_at dksX1_sign_0 1 rfl rfl)
theorem dX1_sign_4 : decode cX1_sign 4 = .ok (.iload_n 1, 1) := dk_27 (dk_at dksX1_sign_0 4 rfl rfl)
theorem dX1_sign_5 : decode cX1_sign 5 = .ok (.invokestatic 86, 3) := dk_184 0 86 (dk_at dksX1_sign_0 5 rfl rfl)
theorem dX1_sign_8 : decode cX1_sign 8 = .ok (.pop, 1) := dk_87 (dk_at dksX1_sign_0 8 rfl rfl)
theorem dX1_sign_9 : decode cX1_sign 9 = .ok (.aload_n 0, 1) := dk_42 (dk_at dksX1_sign_0 9 rfl rfl)
theorem dX1_sign_10 : decode cX1_sign 10 = .ok (.iload_n 1, 1) := dk_27 (dk_at dksX1_sign_0 10 rfl rfl)
theorem dX1_sign_11 : decode cX1_sign 11 = .ok (.iload_n 2, 1) := dk_28 (dk_at dksX1_sign_0 11 rfl rfl)
theorem dX1_sign_12 : decode cX1_sign 12 = .ok (.iload_n 3, 1) := dk_29 (dk_at dksX1_sign_0 12 rfl rfl)
theorem dX1_sign_13 : decode cX1_sign 13 = .ok (.invokestatic 159, 3) := dk_184 0 159 (dk_at dksX1_sign_0 13 rfl rfl)
theorem dX1_sign_16 : decode cX1_sign 16 = .ok (.invokevirtual 156, 3) := dk_182 0 156 (dk_at dksX1_sign_0 16 rfl rfl)
theorem dX1_sign_19 : decode cX1_sign 19 = .ok (.ireturn, 1) := dk_172 (dk_at dksX1_sign_0 19 rfl rfl)
abbrev cX1_setMark : ByteArray := prog_1_method_21_code
def yX1_setMark : MethodName := ⟨RX1, "setMark", "(I)I"⟩
def dkwX1_setMark_0 : List UInt8 := [27, 4, 17, 3, 232, 184, 0, 50, 87, 42, 180, 0, 39, 61, 42, 27, 181, 0, 39, 28, 172]
abbrev dktX1_setMark_0 : List UInt8 := dkwX1_setMark_0 ++ []
theorem dksX1_setMark_0 : cX1_setMark.data.toList.drop 0 = dktX1_setMark_0 := by decide +kernel
theorem dX1_setMark_0 : decode cX1_setMark 0 = .ok (.iload_n 1, 1) := dk_27 (dk_at dksX1_setMark_0 0 rfl rfl)
theorem dX1_setMark_1 : decode cX1_setMark 1 = .ok (.iconst 1, 1) := dk_4 (dk_at dksX1_setMark_0 1 rfl rfl)
theorem dX1_setMark_2 : decode cX1_setMark 2 = .ok (.sipush 1000, 3) := dk_17 3 232 (dk_at dksX1_setMark_0 2 rfl rfl)
theorem dX1_setMark_5 : decode cX1_setMark 5 = .ok (.invokestatic 50, 3) := dk_184 0 50 (dk_at dksX1_setMark_0 5 rfl rfl)
theorem dX1_setMark_8 : decode cX1_setMark 8 = .ok (.pop, 1) := dk_87 (dk_at dksX1_setMark_0 8 rfl rfl)
theorem dX1_setMark_9 : decode cX1_setMark 9 = .ok (.aload_n 0, 1) := dk_42 (dk_at dksX1_setMark_0 9 rfl rfl)
theorem dX1_setMark_10 : decode cX1_setMark 10 = .ok (.getfield 39, 3) := dk_180 0 39 (dk_at dksX1_setMark_0 10 rfl rfl)
theorem dX1_setMark_13 : decode cX1_setMark 13 = .ok (.istore_n 2, 1) := dk_61 (dk_at dksX1_setMark_0 13 rfl rfl)
theorem dX1_setMark_14 : decode cX1_setMark 14 = .ok (.aload_n 0, 1) := dk_42 (dk_at dksX1_setMark_0 14 rfl rfl)
theorem dX1_setMark_15 : decode cX1_setMark 15 = .ok (.iload_n 1, 1) := dk_27 (dk_at dksX1_setMark_0 15 rfl rfl)
theorem dX1_setMark_16 : decode cX1_setMark 16 = .ok (.putfield 39, 3) := dk_181 0 39 (dk_at dksX1_setMark_0 16 rfl rfl)
theorem dX1_setMark_19 : decode cX1_setMark 19 = .ok (.iload_n 2, 1) := dk_28 (dk_at dksX1_setMark_0 19 rfl rfl)
theorem dX1_setMark_20 : decode cX1_setMark 20 = .ok (.ireturn, 1) := dk_172 (dk_at dksX1_setMark_0 20 rfl rfl)
abbrev cX1_file : ByteArray := prog_1_method_23_code
def yX1_file : MethodName := ⟨RX1, "file", "(II)I"⟩
def dkwX1_file_6 : List UInt8 := [42, 180, 0, 32, 185, 0, 1, 1, 0, 4, 100, 172]
abbrev dktX1_file_6 : List UInt8 := dkwX1_file_6 ++ []
def dkwX1_file_5 : List UInt8 := [185, 0, 82, 2, 0, 87, 132, 6, 1, 167, 255, 204, 42, 180, 0, 32, 25, 5, 185, 0, 82, 2, 0, 87]
abbrev dktX1_file_5 : List UInt8 := dkwX1_file_5 ++ dktX1_file_6
def dkwX1_file_4 : List UInt8 := [158, 0, 28, 25, 5, 180, 0, 181, 42, 180, 0, 26, 21, 6, 185, 0, 7, 2, 0, 192, 0, 79]
abbrev dktX1_file_4 : List UInt8 := dkwX1_file_4 ++ dktX1_file_5
def dkwX1_file_3 : List UInt8 := [3, 54, 6, 21, 6, 42, 180, 0, 26, 185, 0, 1, 1, 0, 162, 0, 44, 42, 21, 6, 45, 182, 0, 156]
abbrev dktX1_file_3 : List UInt8 := dkwX1_file_3 ++ dktX1_file_4
def dkwX1_file_2 : List UInt8 := [180, 0, 39, 161, 0, 7, 4, 167, 0, 4, 3, 184, 0, 75, 187, 0, 176, 89, 45, 183, 0, 178, 58, 5]
abbrev dktX1_file_2 : List UInt8 := dkwX1_file_2 ++ dktX1_file_3
def dkwX1_file_1 : List UInt8 := [154, 0, 33, 42, 180, 0, 32, 185, 0, 1, 1, 0, 16, 20, 162, 0, 19, 42, 45, 182, 0, 163, 42]
abbrev dktX1_file_1 : List UInt8 := dkwX1_file_1 ++ dktX1_file_2
def dkwX1_file_0 : List UInt8 := [27, 28, 184, 0, 159, 78, 42, 180, 0, 32, 27, 28, 186, 0, 173, 0, 0, 184, 0, 133, 54, 4, 21, 4]
abbrev dktX1_file_0 : List UInt8 := dkwX1_file_0 ++ dktX1_file_1
theorem dksX1_file_0 : cX1_file.data.toList.drop 0 = dktX1_file_0 := by decide +kernel
theorem dksX1_file_1 : cX1_file.data.toList.drop 24 = dktX1_file_1 := dk_seg dksX1_file_0 24 rfl rfl
theorem dksX1_file_2 : cX1_file.data.toList.drop 47 = dktX1_file_2 := dk_seg dksX1_file_1 23 rfl rfl
theorem dksX1_file_3 : cX1_file.data.toList.drop 71 = dktX1_file_3 := dk_seg dksX1_file_2 24 rfl rfl
theorem dksX1_file_4 : cX1_file.data.toList.drop 95 = dktX1_file_4 := dk_seg dksX1_file_3 24 rfl rfl
theorem dksX1_file_5 : cX1_file.data.toList.drop 117 = dktX1_file_5 := dk_seg dksX1_file_4 22 rfl rfl
theorem dksX1_file_6 : cX1_file.data.toList.drop 141 = dktX1_file_6 := dk_seg dksX1_file_5 24 rfl rfl
theorem dX1_file_0 : decode cX1_file 0 = .ok (.iload_n 1, 1) := dk_27 (dk_at dksX1_file_0 0 rfl rfl)
theorem dX1_file_1 : decode cX1_file 1 = .ok (.iload_n 2, 1) := dk_28 (dk_at dksX1_file_0 1 rfl rfl)
theorem dX1_file_2 : decode cX1_file 2 = .ok (.invokestatic 159, 3) := dk_184 0 159 (dk_at dksX1_file_0 2 rfl rfl)
theorem dX1_file_5 : decode cX1_file 5 = .ok (.astore_n 3, 1) := dk_78 (dk_at dksX1_file_0 5 rfl rfl)
theorem dX1_file_6 : decode cX1_file 6 = .ok (.aload_n 0, 1) := dk_42 (dk_at dksX1_file_0 6 rfl rfl)
theorem dX1_file_7 : decode cX1_file 7 = .ok (.getfield 32, 3) := dk_180 0 32 (dk_at dksX1_file_0 7 rfl rfl)
theorem dX1_file_10 : decode cX1_file 10 = .ok (.iload_n 1, 1) := dk_27 (dk_at dksX1_file_0 10 rfl rfl)
theorem dX1_file_11 : decode cX1_file 11 = .ok (.iload_n 2, 1) := dk_28 (dk_at dksX1_file_0 11 rfl rfl)
theorem dX1_file_12 : decode cX1_file 12 = .ok (.invokedynamic 173, 5) := by decide +kernel
theorem dX1_file_17 : decode cX1_file 17 = .ok (.invokestatic 133, 3) := dk_184 0 133 (dk_at dksX1_file_0 17 rfl rfl)
theorem dX1_file_20 : decode cX1_file 20 = .ok (.istore 4, 2) := dk_54 4 (dk_at dksX1_file_0 20 rfl rfl)
theorem dX1_file_22 : decode cX1_file 22 = .ok (.iload 4, 2) := dk_21 4 (dk_at dksX1_file_0 22 rfl rfl)
theorem dX1_file_24 : decode cX1_file 24 = .ok (.ifCond .ne 33, 3) := dk_154 0 33 (dk_at dksX1_file_1 0 rfl rfl)
theorem dX1_file_27 : decode cX1_file 27 = .ok (.aload_n 0, 1) := dk_42 (dk_at dksX1_file_1 3 rfl rfl)
theorem dX1_file_28 : decode cX1_file 28 = .ok (.getfield 32, 3) := dk_180 0 32 (dk_at dksX1_file_1 4 rfl rfl)
theorem dX1_file_31 : decode cX1_file 31 = .ok (.invokeinterface 1 1, 5) := by decide +kernel
theorem dX1_file_36 : decode cX1_file 36 = .ok (.bipush 20, 2) := dk_16 20 (dk_at dksX1_file_1 12 rfl rfl)
theorem dX1_file_38 : decode cX1_file 38 = .ok (.if_icmp .ge 19, 3) := dk_162 0 19 (dk_at dksX1_file_1 14 rfl rfl)
theorem dX1_file_41 : decode cX1_file 41 = .ok (.aload_n 0, 1) := dk_42 (dk_at dksX1_file_1 17 rfl rfl)
theorem dX1_file_42 : decode cX1_file 42 = .ok (.aload_n 3, 1) := dk_45 (dk_at dksX1_file_1 18 rfl rfl)
theorem dX1_file_43 : decode cX1_file 43 = .ok (.invokevirtual 163, 3) := dk_182 0 163 (dk_at dksX1_file_1 19 rfl rfl)
theorem dX1_file_46 : decode cX1_file 46 = .ok (.aload_n 0, 1) := dk_42 (dk_at dksX1_file_1 22 rfl rfl)
theorem dX1_file_47 : decode cX1_file 47 = .ok (.getfield 39, 3) := dk_180 0 39 (dk_at dksX1_file_2 0 rfl rfl)
theorem dX1_file_50 : decode cX1_file 50 = .ok (.if_icmp .lt 7, 3) := dk_161 0 7 (dk_at dksX1_file_2 3 rfl rfl)
theorem dX1_file_53 : decode cX1_file 53 = .ok (.iconst 1, 1) := dk_4 (dk_at dksX1_file_2 6 rfl rfl)
theorem dX1_file_54 : decode cX1_file 54 = .ok (.goto 4, 3) := dk_167 0 4 (dk_at dksX1_file_2 7 rfl rfl)
theorem dX1_file_57 : decode cX1_file 57 = .ok (.iconst 0, 1) := dk_3 (dk_at dksX1_file_2 10 rfl rfl)
theorem dX1_file_58 : decode cX1_file 58 = .ok (.invokestatic 75, 3) := dk_184 0 75 (dk_at dksX1_file_2 11 rfl rfl)
theorem dX1_file_61 : decode cX1_file 61 = .ok (.new 176, 3) := dk_187 0 176 (dk_at dksX1_file_2 14 rfl rfl)
theorem dX1_file_64 : decode cX1_file 64 = .ok (.dup, 1) := dk_89 (dk_at dksX1_file_2 17 rfl rfl)
theorem dX1_file_65 : decode cX1_file 65 = .ok (.aload_n 3, 1) := dk_45 (dk_at dksX1_file_2 18 rfl rfl)
theorem dX1_file_66 : decode cX1_file 66 = .ok (.invokespecial 178, 3) := dk_183 0 178 (dk_at dksX1_file_2 19 rfl rfl)
theorem dX1_file_69 : decode cX1_file 69 = .ok (.astore 5, 2) := dk_58 5 (dk_at dksX1_file_2 22 rfl rfl)
theorem dX1_file_71 : decode cX1_file 71 = .ok (.iconst 0, 1) := dk_3 (dk_at dksX1_file_3 0 rfl rfl)
theorem dX1_file_72 : decode cX1_file 72 = .ok (.istore 6, 2) := dk_54 6 (dk_at dksX1_file_3 1 rfl rfl)
theorem dX1_file_74 : decode cX1_file 74 = .ok (.iload 6, 2) := dk_21 6 (dk_at dksX1_file_3 3 rfl rfl)
theorem dX1_file_76 : decode cX1_file 76 = .ok (.aload_n 0, 1) := dk_42 (dk_at dksX1_file_3 5 rfl rfl)
theorem dX1_file_77 : decode cX1_file 77 = .ok (.getfield 26, 3) := dk_180 0 26 (dk_at dksX1_file_3 6 rfl rfl)
theorem dX1_file_80 : decode cX1_file 80 = .ok (.invokeinterface 1 1, 5) := by decide +kernel
theorem dX1_file_85 : decode cX1_file 85 = .ok (.if_icmp .ge 44, 3) := dk_162 0 44 (dk_at dksX1_file_3 14 rfl rfl)
theorem dX1_file_88 : decode cX1_file 88 = .ok (.aload_n 0, 1) := dk_42 (dk_at dksX1_file_3 17 rfl rfl)
theorem dX1_file_89 : decode cX1_file 89 = .ok (.iload 6, 2) := dk_21 6 (dk_at dksX1_file_3 18 rfl rfl)
theorem dX1_file_91 : decode cX1_file 91 = .ok (.aload_n 3, 1) := dk_45 (dk_at dksX1_file_3 20 rfl rfl)
theorem dX1_file_92 : decode cX1_file 92 = .ok (.invokevirtual 156, 3) := dk_182 0 156 (dk_at dksX1_file_3 21 rfl rfl)
theorem dX1_file_95 : decode cX1_file 95 = .ok (.ifCond .le 28, 3) := dk_158 0 28 (dk_at dksX1_file_4 0 rfl rfl)
theorem dX1_file_98 : decode cX1_file 98 = .ok (.aload 5, 2) := dk_25 5 (dk_at dksX1_file_4 3 rfl rfl)
theorem dX1_file_100 : decode cX1_file 100 = .ok (.getfield 181, 3) := dk_180 0 181 (dk_at dksX1_file_4 5 rfl rfl)
theorem dX1_file_103 : decode cX1_file 103 = .ok (.aload_n 0, 1) := dk_42 (dk_at dksX1_file_4 8 rfl rfl)
theorem dX1_file_104 : decode cX1_file 104 = .ok (.getfield 26, 3) := dk_180 0 26 (dk_at dksX1_file_4 9 rfl rfl)
theorem dX1_file_107 : decode cX1_file 107 = .ok (.iload 6, 2) := dk_21 6 (dk_at dksX1_file_4 12 rfl rfl)
theorem dX1_file_109 : decode cX1_file 109 = .ok (.invokeinterface 7 2, 5) := by decide +kernel
theorem dX1_file_114 : decode cX1_file 114 = .ok (.checkcast 79, 3) := dk_192 0 79 (dk_at dksX1_file_4 19 rfl rfl)
theorem dX1_file_117 : decode cX1_file 117 = .ok (.invokeinterface 82 2, 5) := by decide +kernel
theorem dX1_file_122 : decode cX1_file 122 = .ok (.pop, 1) := dk_87 (dk_at dksX1_file_5 5 rfl rfl)
theorem dX1_file_123 : decode cX1_file 123 = .ok (.iinc 6 1, 3) := dk_132 6 1 (dk_at dksX1_file_5 6 rfl rfl)
theorem dX1_file_126 : decode cX1_file 126 = .ok (.goto (-52), 3) := dk_167 255 204 (dk_at dksX1_file_5 9 rfl rfl)
theorem dX1_file_129 : decode cX1_file 129 = .ok (.aload_n 0, 1) := dk_42 (dk_at dksX1_file_5 12 rfl rfl)
theorem dX1_file_130 : decode cX1_file 130 = .ok (.getfield 32, 3) := dk_180 0 32 (dk_at dksX1_file_5 13 rfl rfl)
theorem dX1_file_133 : decode cX1_file 133 = .ok (.aload 5, 2) := dk_25 5 (dk_at dksX1_file_5 16 rfl rfl)
theorem dX1_file_135 : decode cX1_file 135 = .ok (.invokeinterface 82 2, 5) := by decide +kernel
theorem dX1_file_140 : decode cX1_file 140 = .ok (.pop, 1) := dk_87 (dk_at dksX1_file_5 23 rfl rfl)
theorem dX1_file_141 : decode cX1_file 141 = .ok (.aload_n 0, 1) := dk_42 (dk_at dksX1_file_6 0 rfl rfl)
theorem dX1_file_142 : decode cX1_file 142 = .ok (.getfield 32, 3) := dk_180 0 32 (dk_at dksX1_file_6 1 rfl rfl)
theorem dX1_file_145 : decode cX1_file 145 = .ok (.invokeinterface 1 1, 5) := by decide +kernel
theorem dX1_file_150 : decode cX1_file 150 = .ok (.iconst 1, 1) := dk_4 (dk_at dksX1_file_6 9 rfl rfl)
theorem dX1_file_151 : decode cX1_file 151 = .ok (.isub, 1) := dk_100 (dk_at dksX1_file_6 10 rfl rfl)
theorem dX1_file_152 : decode cX1_file 152 = .ok (.ireturn, 1) := dk_172 (dk_at dksX1_file_6 11 rfl rfl)
abbrev cX1_lambda_file_2 : ByteArray := prog_1_method_32_code
def yX1_lambda_file_2 : MethodName := ⟨RX1, "lambda$file$2", "(IILCartelWatch$Inquiry;)I"⟩
def dkwX1_lambda_file_2_1 : List UInt8 := [167, 0, 4, 3, 172]
abbrev dktX1_lambda_file_2_1 : List UInt8 := dkwX1_lambda_file_2_1 ++ []
def dkwX1_lambda_file_2_0 : List UInt8 := [44, 180, 0, 184, 26, 182, 0, 143, 153, 0, 18, 44, 180, 0, 184, 27, 182, 0, 143, 153, 0, 7, 4]
abbrev dktX1_lambda_file_2_0 : List UInt8 := dkwX1_lambda_file_2_0 ++ dktX1_lambda_file_2_1
theorem dksX1_lambda_file_2_0 : cX1_lambda_file_2.data.toList.drop 0 = dktX1_lambda_file_2_0 := by decide +kernel
theorem dksX1_lambda_file_2_1 : cX1_lambda_file_2.data.toList.drop 23 = dktX1_lambda_file_2_1 := dk_seg dksX1_lambda_file_2_0 23 rfl rfl
theorem dX1_lambda_file_2_0 : decode cX1_lambda_file_2 0 = .ok (.aload_n 2, 1) := dk_44 (dk_at dksX1_lambda_file_2_0 0 rfl rfl)
theorem dX1_lambda_file_2_1 : decode cX1_lambda_file_2 1 = .ok (.getfield 184, 3) := dk_180 0 184 (dk_at dksX1_lambda_file_2_0 1 rfl rfl)
theorem dX1_lambda_file_2_4 : decode cX1_lambda_file_2 4 = .ok (.iload_n 0, 1) := dk_26 (dk_at dksX1_lambda_file_2_0 4 rfl rfl)
theorem dX1_lambda_file_2_5 : decode cX1_lambda_file_2 5 = .ok (.invokevirtual 143, 3) := dk_182 0 143 (dk_at dksX1_lambda_file_2_0 5 rfl rfl)
theorem dX1_lambda_file_2_8 : decode cX1_lambda_file_2 8 = .ok (.ifCond .eq 18, 3) := dk_153 0 18 (dk_at dksX1_lambda_file_2_0 8 rfl rfl)
theorem dX1_lambda_file_2_11 : decode cX1_lambda_file_2 11 = .ok (.aload_n 2, 1) := dk_44 (dk_at dksX1_lambda_file_2_0 11 rfl rfl)
theorem dX1_lambda_file_2_12 : decode cX1_lambda_file_2 12 = .ok (.getfield 184, 3) := dk_180 0 184 (dk_at dksX1_lambda_file_2_0 12 rfl rfl)
theorem dX1_lambda_file_2_15 : decode cX1_lambda_file_2 15 = .ok (.iload_n 1, 1) := dk_27 (dk_at dksX1_lambda_file_2_0 15 rfl rfl)
theorem dX1_lambda_file_2_16 : decode cX1_lambda_file_2 16 = .ok (.invokevirtual 143, 3) := dk_182 0 143 (dk_at dksX1_lambda_file_2_0 16 rfl rfl)
theorem dX1_lambda_file_2_19 : decode cX1_lambda_file_2 19 = .ok (.ifCond .eq 7, 3) := dk_153 0 7 (dk_at dksX1_lambda_file_2_0 19 rfl rfl)
theorem dX1_lambda_file_2_22 : decode cX1_lambda_file_2 22 = .ok (.iconst 1, 1) := dk_4 (dk_at dksX1_lambda_file_2_0 22 rfl rfl)
theorem dX1_lambda_file_2_23 : decode cX1_lambda_file_2 23 = .ok (.goto 4, 3) := dk_167 0 4 (dk_at dksX1_lambda_file_2_1 0 rfl rfl)
theorem dX1_lambda_file_2_26 : decode cX1_lambda_file_2 26 = .ok (.iconst 0, 1) := dk_3 (dk_at dksX1_lambda_file_2_1 3 rfl rfl)
theorem dX1_lambda_file_2_27 : decode cX1_lambda_file_2 27 = .ok (.ireturn, 1) := dk_172 (dk_at dksX1_lambda_file_2_1 4 rfl rfl)
abbrev cX1_matters : ByteArray := prog_1_method_24_code
def yX1_matters : MethodName := ⟨RX1, "matters", "(I)I"⟩
def dkwX1_matters_0 : List UInt8 := [42, 180, 0, 32, 27, 184, 0, 86, 192, 0, 176, 77, 44, 180, 0, 181, 185, 0, 1, 1, 0, 172]
abbrev dktX1_matters_0 : List UInt8 := dkwX1_matters_0 ++ []
theorem dksX1_matters_0 : cX1_matters.data.toList.drop 0 = dktX1_matters_0 := by decide +kernel
theorem dX1_matters_0 : decode cX1_matters 0 = .ok (.aload_n 0, 1) := dk_42 (dk_at dksX1_matters_0 0 rfl rfl)
theorem dX1_matters_1 : decode cX1_matters 1 = .ok (.getfield 32, 3) := dk_180 0 32 (dk_at dksX1_matters_0 1 rfl rfl)
theorem dX1_matters_4 : decode cX1_matters 4 = .ok (.iload_n 1, 1) := dk_27 (dk_at dksX1_matters_0 4 rfl rfl)
theorem dX1_matters_5 : decode cX1_matters 5 = .ok (.invokestatic 86, 3) := dk_184 0 86 (dk_at dksX1_matters_0 5 rfl rfl)
theorem dX1_matters_8 : decode cX1_matters 8 = .ok (.checkcast 176, 3) := dk_192 0 176 (dk_at dksX1_matters_0 8 rfl rfl)
theorem dX1_matters_11 : decode cX1_matters 11 = .ok (.astore_n 2, 1) := dk_77 (dk_at dksX1_matters_0 11 rfl rfl)
theorem dX1_matters_12 : decode cX1_matters 12 = .ok (.aload_n 2, 1) := dk_44 (dk_at dksX1_matters_0 12 rfl rfl)
theorem dX1_matters_13 : decode cX1_matters 13 = .ok (.getfield 181, 3) := dk_180 0 181 (dk_at dksX1_matters_0 13 rfl rfl)
theorem dX1_matters_16 : decode cX1_matters 16 = .ok (.invokeinterface 1 1, 5) := by decide +kernel
theorem dX1_matters_21 : decode cX1_matters 21 = .ok (.ireturn, 1) := dk_172 (dk_at dksX1_matters_0 21 rfl rfl)
abbrev cX1_tell : ByteArray := prog_1_method_26_code
def yX1_tell : MethodName := ⟨RX1, "tell", "(III)Z"⟩
def dkwX1_tell_5 : List UInt8 := [25, 4, 180, 0, 205, 2, 160, 0, 7, 28, 167, 0, 8, 25, 4, 180, 0, 205, 181, 0, 205, 21, 6, 172]
abbrev dktX1_tell_5 : List UInt8 := dkwX1_tell_5 ++ []
def dkwX1_tell_4 : List UInt8 := [180, 0, 199, 25, 5, 185, 0, 82, 2, 0, 87, 25, 4, 180, 0, 202, 28, 92, 46, 4, 96, 79, 25, 4]
abbrev dktX1_tell_4 : List UInt8 := dkwX1_tell_4 ++ dktX1_tell_5
def dkwX1_tell_3 : List UInt8 := [185, 0, 196, 2, 0, 154, 0, 7, 4, 167, 0, 4, 3, 54, 6, 21, 6, 153, 0, 50, 25, 4]
abbrev dktX1_tell_3 : List UInt8 := dkwX1_tell_3 ++ dktX1_tell_4
def dkwX1_tell_2 : List UInt8 := [25, 4, 180, 0, 181, 25, 5, 185, 0, 196, 2, 0, 153, 0, 22, 25, 4, 180, 0, 199, 25, 5]
abbrev dktX1_tell_2 : List UInt8 := dkwX1_tell_2 ++ dktX1_tell_3
def dkwX1_tell_1 : List UInt8 := [58, 5, 25, 4, 28, 184, 0, 189, 25, 4, 180, 0, 193, 154, 0, 7, 4, 167, 0, 4, 3, 184, 0, 75]
abbrev dktX1_tell_1 : List UInt8 := dkwX1_tell_1 ++ dktX1_tell_2
def dkwX1_tell_0 : List UInt8 := [42, 180, 0, 32, 27, 184, 0, 86, 192, 0, 176, 58, 4, 42, 180, 0, 26, 29, 184, 0, 86, 192, 0, 79]
abbrev dktX1_tell_0 : List UInt8 := dkwX1_tell_0 ++ dktX1_tell_1
theorem dksX1_tell_0 : cX1_tell.data.toList.drop 0 = dktX1_tell_0 := by decide +kernel
theorem dksX1_tell_1 : cX1_tell.data.toList.drop 24 = dktX1_tell_1 := dk_seg dksX1_tell_0 24 rfl rfl
theorem dksX1_tell_2 : cX1_tell.data.toList.drop 48 = dktX1_tell_2 := dk_seg dksX1_tell_1 24 rfl rfl
theorem dksX1_tell_3 : cX1_tell.data.toList.drop 70 = dktX1_tell_3 := dk_seg dksX1_tell_2 22 rfl rfl
theorem dksX1_tell_4 : cX1_tell.data.toList.drop 92 = dktX1_tell_4 := dk_seg dksX1_tell_3 22 rfl rfl
theorem dksX1_tell_5 : cX1_tell.data.toList.drop 116 = dktX1_tell_5 := dk_seg dksX1_tell_4 24 rfl rfl
theorem dX1_tell_0 : decode cX1_tell 0 = .ok (.aload_n 0, 1) := dk_42 (dk_at dksX1_tell_0 0 rfl rfl)
theorem dX1_tell_1 : decode cX1_tell 1 = .ok (.getfield 32, 3) := dk_180 0 32 (dk_at dksX1_tell_0 1 rfl rfl)
theorem dX1_tell_4 : decode cX1_tell 4 = .ok (.iload_n 1, 1) := dk_27 (dk_at dksX1_tell_0 4 rfl rfl)
theorem dX1_tell_5 : decode cX1_tell 5 = .ok (.invokestatic 86, 3) := dk_184 0 86 (dk_at dksX1_tell_0 5 rfl rfl)
theorem dX1_tell_8 : decode cX1_tell 8 = .ok (.checkcast 176, 3) := dk_192 0 176 (dk_at dksX1_tell_0 8 rfl rfl)
theorem dX1_tell_11 : decode cX1_tell 11 = .ok (.astore 4, 2) := dk_58 4 (dk_at dksX1_tell_0 11 rfl rfl)
theorem dX1_tell_13 : decode cX1_tell 13 = .ok (.aload_n 0, 1) := dk_42 (dk_at dksX1_tell_0 13 rfl rfl)
theorem dX1_tell_14 : decode cX1_tell 14 = .ok (.getfield 26, 3) := dk_180 0 26 (dk_at dksX1_tell_0 14 rfl rfl)
theorem dX1_tell_17 : decode cX1_tell 17 = .ok (.iload_n 3, 1) := dk_29 (dk_at dksX1_tell_0 17 rfl rfl)
theorem dX1_tell_18 : decode cX1_tell 18 = .ok (.invokestatic 86, 3) := dk_184 0 86 (dk_at dksX1_tell_0 18 rfl rfl)
theorem dX1_tell_21 : decode cX1_tell 21 = .ok (.checkcast 79, 3) := dk_192 0 79 (dk_at dksX1_tell_0 21 rfl rfl)
theorem dX1_tell_24 : decode cX1_tell 24 = .ok (.astore 5, 2) := dk_58 5 (dk_at dksX1_tell_1 0 rfl rfl)
theorem dX1_tell_26 : decode cX1_tell 26 = .ok (.aload 4, 2) := dk_25 4 (dk_at dksX1_tell_1 2 rfl rfl)
theorem dX1_tell_28 : decode cX1_tell 28 = .ok (.iload_n 2, 1) := dk_28 (dk_at dksX1_tell_1 4 rfl rfl)
theorem dX1_tell_29 : decode cX1_tell 29 = .ok (.invokestatic 189, 3) := dk_184 0 189 (dk_at dksX1_tell_1 5 rfl rfl)
theorem dX1_tell_32 : decode cX1_tell 32 = .ok (.aload 4, 2) := dk_25 4 (dk_at dksX1_tell_1 8 rfl rfl)
theorem dX1_tell_34 : decode cX1_tell 34 = .ok (.getfield 193, 3) := dk_180 0 193 (dk_at dksX1_tell_1 10 rfl rfl)
theorem dX1_tell_37 : decode cX1_tell 37 = .ok (.ifCond .ne 7, 3) := dk_154 0 7 (dk_at dksX1_tell_1 13 rfl rfl)
theorem dX1_tell_40 : decode cX1_tell 40 = .ok (.iconst 1, 1) := dk_4 (dk_at dksX1_tell_1 16 rfl rfl)
theorem dX1_tell_41 : decode cX1_tell 41 = .ok (.goto 4, 3) := dk_167 0 4 (dk_at dksX1_tell_1 17 rfl rfl)
theorem dX1_tell_44 : decode cX1_tell 44 = .ok (.iconst 0, 1) := dk_3 (dk_at dksX1_tell_1 20 rfl rfl)
theorem dX1_tell_45 : decode cX1_tell 45 = .ok (.invokestatic 75, 3) := dk_184 0 75 (dk_at dksX1_tell_1 21 rfl rfl)
theorem dX1_tell_48 : decode cX1_tell 48 = .ok (.aload 4, 2) := dk_25 4 (dk_at dksX1_tell_2 0 rfl rfl)
theorem dX1_tell_50 : decode cX1_tell 50 = .ok (.getfield 181, 3) := dk_180 0 181 (dk_at dksX1_tell_2 2 rfl rfl)
theorem dX1_tell_53 : decode cX1_tell 53 = .ok (.aload 5, 2) := dk_25 5 (dk_at dksX1_tell_2 5 rfl rfl)
theorem dX1_tell_55 : decode cX1_tell 55 = .ok (.invokeinterface 196 2, 5) := by decide +kernel
theorem dX1_tell_60 : decode cX1_tell 60 = .ok (.ifCond .eq 22, 3) := dk_153 0 22 (dk_at dksX1_tell_2 12 rfl rfl)
theorem dX1_tell_63 : decode cX1_tell 63 = .ok (.aload 4, 2) := dk_25 4 (dk_at dksX1_tell_2 15 rfl rfl)
theorem dX1_tell_65 : decode cX1_tell 65 = .ok (.getfield 199, 3) := dk_180 0 199 (dk_at dksX1_tell_2 17 rfl rfl)
theorem dX1_tell_68 : decode cX1_tell 68 = .ok (.aload 5, 2) := dk_25 5 (dk_at dksX1_tell_2 20 rfl rfl)
theorem dX1_tell_70 : decode cX1_tell 70 = .ok (.invokeinterface 196 2, 5) := by decide +kernel
theorem dX1_tell_75 : decode cX1_tell 75 = .ok (.ifCond .ne 7, 3) := dk_154 0 7 (dk_at dksX1_tell_3 5 rfl rfl)
theorem dX1_tell_78 : decode cX1_tell 78 = .ok (.iconst 1, 1) := dk_4 (dk_at dksX1_tell_3 8 rfl rfl)
theorem dX1_tell_79 : decode cX1_tell 79 = .ok (.goto 4, 3) := dk_167 0 4 (dk_at dksX1_tell_3 9 rfl rfl)
theorem dX1_tell_82 : decode cX1_tell 82 = .ok (.iconst 0, 1) := dk_3 (dk_at dksX1_tell_3 12 rfl rfl)
theorem dX1_tell_83 : decode cX1_tell 83 = .ok (.istore 6, 2) := dk_54 6 (dk_at dksX1_tell_3 13 rfl rfl)
theorem dX1_tell_85 : decode cX1_tell 85 = .ok (.iload 6, 2) := dk_21 6 (dk_at dksX1_tell_3 15 rfl rfl)
theorem dX1_tell_87 : decode cX1_tell 87 = .ok (.ifCond .eq 50, 3) := dk_153 0 50 (dk_at dksX1_tell_3 17 rfl rfl)
theorem dX1_tell_90 : decode cX1_tell 90 = .ok (.aload 4, 2) := dk_25 4 (dk_at dksX1_tell_3 20 rfl rfl)
theorem dX1_tell_92 : decode cX1_tell 92 = .ok (.getfield 199, 3) := dk_180 0 199 (dk_at dksX1_tell_4 0 rfl rfl)
theorem dX1_tell_95 : decode cX1_tell 95 = .ok (.aload 5, 2) := dk_25 5 (dk_at dksX1_tell_4 3 rfl rfl)
theorem dX1_tell_97 : decode cX1_tell 97 = .ok (.invokeinterface 82 2, 5) := by decide +kernel
theorem dX1_tell_102 : decode cX1_tell 102 = .ok (.pop, 1) := dk_87 (dk_at dksX1_tell_4 10 rfl rfl)
theorem dX1_tell_103 : decode cX1_tell 103 = .ok (.aload 4, 2) := dk_25 4 (dk_at dksX1_tell_4 11 rfl rfl)
theorem dX1_tell_105 : decode cX1_tell 105 = .ok (.getfield 202, 3) := dk_180 0 202 (dk_at dksX1_tell_4 13 rfl rfl)
theorem dX1_tell_108 : decode cX1_tell 108 = .ok (.iload_n 2, 1) := dk_28 (dk_at dksX1_tell_4 16 rfl rfl)
theorem dX1_tell_109 : decode cX1_tell 109 = .ok (.dup2, 1) := dk_92 (dk_at dksX1_tell_4 17 rfl rfl)
theorem dX1_tell_110 : decode cX1_tell 110 = .ok (.iaload, 1) := dk_46 (dk_at dksX1_tell_4 18 rfl rfl)
theorem dX1_tell_111 : decode cX1_tell 111 = .ok (.iconst 1, 1) := dk_4 (dk_at dksX1_tell_4 19 rfl rfl)
theorem dX1_tell_112 : decode cX1_tell 112 = .ok (.iadd, 1) := dk_96 (dk_at dksX1_tell_4 20 rfl rfl)
theorem dX1_tell_113 : decode cX1_tell 113 = .ok (.iastore, 1) := dk_79 (dk_at dksX1_tell_4 21 rfl rfl)
theorem dX1_tell_114 : decode cX1_tell 114 = .ok (.aload 4, 2) := dk_25 4 (dk_at dksX1_tell_4 22 rfl rfl)
theorem dX1_tell_116 : decode cX1_tell 116 = .ok (.aload 4, 2) := dk_25 4 (dk_at dksX1_tell_5 0 rfl rfl)
theorem dX1_tell_118 : decode cX1_tell 118 = .ok (.getfield 205, 3) := dk_180 0 205 (dk_at dksX1_tell_5 2 rfl rfl)
theorem dX1_tell_121 : decode cX1_tell 121 = .ok (.iconst (-1), 1) := dk_2 (dk_at dksX1_tell_5 5 rfl rfl)
theorem dX1_tell_122 : decode cX1_tell 122 = .ok (.if_icmp .ne 7, 3) := dk_160 0 7 (dk_at dksX1_tell_5 6 rfl rfl)
theorem dX1_tell_125 : decode cX1_tell 125 = .ok (.iload_n 2, 1) := dk_28 (dk_at dksX1_tell_5 9 rfl rfl)
theorem dX1_tell_126 : decode cX1_tell 126 = .ok (.goto 8, 3) := dk_167 0 8 (dk_at dksX1_tell_5 10 rfl rfl)
theorem dX1_tell_129 : decode cX1_tell 129 = .ok (.aload 4, 2) := dk_25 4 (dk_at dksX1_tell_5 13 rfl rfl)
theorem dX1_tell_131 : decode cX1_tell 131 = .ok (.getfield 205, 3) := dk_180 0 205 (dk_at dksX1_tell_5 15 rfl rfl)
theorem dX1_tell_134 : decode cX1_tell 134 = .ok (.putfield 205, 3) := dk_181 0 205 (dk_at dksX1_tell_5 18 rfl rfl)
theorem dX1_tell_137 : decode cX1_tell 137 = .ok (.iload 6, 2) := dk_21 6 (dk_at dksX1_tell_5 21 rfl rfl)
theorem dX1_tell_139 : decode cX1_tell 139 = .ok (.ireturn, 1) := dk_172 (dk_at dksX1_tell_5 23 rfl rfl)
abbrev cX1_belongs : ByteArray := prog_1_method_25_code
def yX1_belongs : MethodName := ⟨RX1, "belongs", "(LCartelWatch$Inquiry;I)V"⟩
def dkwX1_belongs_0 : List UInt8 := [42, 180, 0, 184, 27, 182, 0, 143, 154, 0, 13, 187, 0, 43, 89, 18, 187, 183, 0, 47, 191, 177]
abbrev dktX1_belongs_0 : List UInt8 := dkwX1_belongs_0 ++ []
theorem dksX1_belongs_0 : cX1_belongs.data.toList.drop 0 = dktX1_belongs_0 := by decide +kernel
theorem dX1_belongs_0 : decode cX1_belongs 0 = .ok (.aload_n 0, 1) := dk_42 (dk_at dksX1_belongs_0 0 rfl rfl)
theorem dX1_belongs_1 : decode cX1_belongs 1 = .ok (.getfield 184, 3) := dk_180 0 184 (dk_at dksX1_belongs_0 1 rfl rfl)
theorem dX1_belongs_4 : decode cX1_belongs 4 = .ok (.iload_n 1, 1) := dk_27 (dk_at dksX1_belongs_0 4 rfl rfl)
theorem dX1_belongs_5 : decode cX1_belongs 5 = .ok (.invokevirtual 143, 3) := dk_182 0 143 (dk_at dksX1_belongs_0 5 rfl rfl)
theorem dX1_belongs_8 : decode cX1_belongs 8 = .ok (.ifCond .ne 13, 3) := dk_154 0 13 (dk_at dksX1_belongs_0 8 rfl rfl)
theorem dX1_belongs_11 : decode cX1_belongs 11 = .ok (.new 43, 3) := dk_187 0 43 (dk_at dksX1_belongs_0 11 rfl rfl)
theorem dX1_belongs_14 : decode cX1_belongs 14 = .ok (.dup, 1) := dk_89 (dk_at dksX1_belongs_0 14 rfl rfl)
theorem dX1_belongs_15 : decode cX1_belongs 15 = .ok (.ldc 187, 2) := dk_18 187 (dk_at dksX1_belongs_0 15 rfl rfl)
theorem dX1_belongs_17 : decode cX1_belongs 17 = .ok (.invokespecial 47, 3) := dk_183 0 47 (dk_at dksX1_belongs_0 17 rfl rfl)
theorem dX1_belongs_20 : decode cX1_belongs 20 = .ok (.athrow, 1) := dk_191 (dk_at dksX1_belongs_0 20 rfl rfl)
theorem dX1_belongs_21 : decode cX1_belongs 21 = .ok (.return_, 1) := dk_177 (dk_at dksX1_belongs_0 21 rfl rfl)
abbrev cX1_compensate : ByteArray := prog_1_method_27_code
def yX1_compensate : MethodName := ⟨RX1, "compensate", "(II)I"⟩
def dkwX1_compensate_1 : List UInt8 := [180, 0, 35, 27, 46, 172]
abbrev dktX1_compensate_1 : List UInt8 := dkwX1_compensate_1 ++ []
def dkwX1_compensate_0 : List UInt8 := [27, 184, 0, 54, 87, 28, 4, 18, 90, 184, 0, 50, 87, 42, 180, 0, 35, 27, 92, 46, 28, 96, 79, 42]
abbrev dktX1_compensate_0 : List UInt8 := dkwX1_compensate_0 ++ dktX1_compensate_1
theorem dksX1_compensate_0 : cX1_compensate.data.toList.drop 0 = dktX1_compensate_0 := by decide +kernel
theorem dksX1_compensate_1 : cX1_compensate.data.toList.drop 24 = dktX1_compensate_1 := dk_seg dksX1_compensate_0 24 rfl rfl
theorem dX1_compensate_0 : decode cX1_compensate 0 = .ok (.iload_n 1, 1) := dk_27 (dk_at dksX1_compensate_0 0 rfl rfl)
theorem dX1_compensate_1 : decode cX1_compensate 1 = .ok (.invokestatic 54, 3) := dk_184 0 54 (dk_at dksX1_compensate_0 1 rfl rfl)
theorem dX1_compensate_4 : decode cX1_compensate 4 = .ok (.pop, 1) := dk_87 (dk_at dksX1_compensate_0 4 rfl rfl)
theorem dX1_compensate_5 : decode cX1_compensate 5 = .ok (.iload_n 2, 1) := dk_28 (dk_at dksX1_compensate_0 5 rfl rfl)
theorem dX1_compensate_6 : decode cX1_compensate 6 = .ok (.iconst 1, 1) := dk_4 (dk_at dksX1_compensate_0 6 rfl rfl)
theorem dX1_compensate_7 : decode cX1_compensate 7 = .ok (.ldc 90, 2) := dk_18 90 (dk_at dksX1_compensate_0 7 rfl rfl)
theorem dX1_compensate_9 : decode cX1_compensate 9 = .ok (.invokestatic 50, 3) := dk_184 0 50 (dk_at dksX1_compensate_0 9 rfl rfl)
theorem dX1_compensate_12 : decode cX1_compensate 12 = .ok (.pop, 1) := dk_87 (dk_at dksX1_compensate_0 12 rfl rfl)
theorem dX1_compensate_13 : decode cX1_compensate 13 = .ok (.aload_n 0, 1) := dk_42 (dk_at dksX1_compensate_0 13 rfl rfl)
theorem dX1_compensate_14 : decode cX1_compensate 14 = .ok (.getfield 35, 3) := dk_180 0 35 (dk_at dksX1_compensate_0 14 rfl rfl)
theorem dX1_compensate_17 : decode cX1_compensate 17 = .ok (.iload_n 1, 1) := dk_27 (dk_at dksX1_compensate_0 17 rfl rfl)
theorem dX1_compensate_18 : decode cX1_compensate 18 = .ok (.dup2, 1) := dk_92 (dk_at dksX1_compensate_0 18 rfl rfl)
theorem dX1_compensate_19 : decode cX1_compensate 19 = .ok (.iaload, 1) := dk_46 (dk_at dksX1_compensate_0 19 rfl rfl)
theorem dX1_compensate_20 : decode cX1_compensate 20 = .ok (.iload_n 2, 1) := dk_28 (dk_at dksX1_compensate_0 20 rfl rfl)
theorem dX1_compensate_21 : decode cX1_compensate 21 = .ok (.iadd, 1) := dk_96 (dk_at dksX1_compensate_0 21 rfl rfl)
theorem dX1_compensate_22 : decode cX1_compensate 22 = .ok (.iastore, 1) := dk_79 (dk_at dksX1_compensate_0 22 rfl rfl)
theorem dX1_compensate_23 : decode cX1_compensate 23 = .ok (.aload_n 0, 1) := dk_42 (dk_at dksX1_compensate_0 23 rfl rfl)
theorem dX1_compensate_24 : decode cX1_compensate 24 = .ok (.getfield 35, 3) := dk_180 0 35 (dk_at dksX1_compensate_1 0 rfl rfl)
theorem dX1_compensate_27 : decode cX1_compensate 27 = .ok (.iload_n 1, 1) := dk_27 (dk_at dksX1_compensate_1 3 rfl rfl)
theorem dX1_compensate_28 : decode cX1_compensate 28 = .ok (.iaload, 1) := dk_46 (dk_at dksX1_compensate_1 4 rfl rfl)
theorem dX1_compensate_29 : decode cX1_compensate 29 = .ok (.ireturn, 1) := dk_172 (dk_at dksX1_compensate_1 5 rfl rfl)
abbrev cX1_close : ByteArray := prog_1_method_29_code
def yX1_close : MethodName := ⟨RX1, "close", "(I)I"⟩
def dkwX1_close_2 : List UInt8 := [180, 0, 184, 180, 0, 224, 182, 0, 220, 96, 172]
abbrev dktX1_close_2 : List UInt8 := dkwX1_close_2 ++ []
def dkwX1_close_1 : List UInt8 := [184, 0, 75, 44, 4, 181, 0, 193, 42, 44, 44, 180, 0, 184, 180, 0, 217, 182, 0, 220, 42, 44, 44]
abbrev dktX1_close_1 : List UInt8 := dkwX1_close_1 ++ dktX1_close_2
def dkwX1_close_0 : List UInt8 := [42, 180, 0, 32, 27, 184, 0, 86, 192, 0, 176, 77, 44, 180, 0, 193, 154, 0, 7, 4, 167, 0, 4, 3]
abbrev dktX1_close_0 : List UInt8 := dkwX1_close_0 ++ dktX1_close_1
theorem dksX1_close_0 : cX1_close.data.toList.drop 0 = dktX1_close_0 := by decide +kernel
theorem dksX1_close_1 : cX1_close.data.toList.drop 24 = dktX1_close_1 := dk_seg dksX1_close_0 24 rfl rfl
theorem dksX1_close_2 : cX1_close.data.toList.drop 47 = dktX1_close_2 := dk_seg dksX1_close_1 23 rfl rfl
theorem dX1_close_0 : decode cX1_close 0 = .ok (.aload_n 0, 1) := dk_42 (dk_at dksX1_close_0 0 rfl rfl)
theorem dX1_close_1 : decode cX1_close 1 = .ok (.getfield 32, 3) := dk_180 0 32 (dk_at dksX1_close_0 1 rfl rfl)
theorem dX1_close_4 : decode cX1_close 4 = .ok (.iload_n 1, 1) := dk_27 (dk_at dksX1_close_0 4 rfl rfl)
theorem dX1_close_5 : decode cX1_close 5 = .ok (.invokestatic 86, 3) := dk_184 0 86 (dk_at dksX1_close_0 5 rfl rfl)
theorem dX1_close_8 : decode cX1_close 8 = .ok (.checkcast 176, 3) := dk_192 0 176 (dk_at dksX1_close_0 8 rfl rfl)
theorem dX1_close_11 : decode cX1_close 11 = .ok (.astore_n 2, 1) := dk_77 (dk_at dksX1_close_0 11 rfl rfl)
theorem dX1_close_12 : decode cX1_close 12 = .ok (.aload_n 2, 1) := dk_44 (dk_at dksX1_close_0 12 rfl rfl)
theorem dX1_close_13 : decode cX1_close 13 = .ok (.getfield 193, 3) := dk_180 0 193 (dk_at dksX1_close_0 13 rfl rfl)
theorem dX1_close_16 : decode cX1_close 16 = .ok (.ifCond .ne 7, 3) := dk_154 0 7 (dk_at dksX1_close_0 16 rfl rfl)
theorem dX1_close_19 : decode cX1_close 19 = .ok (.iconst 1, 1) := dk_4 (dk_at dksX1_close_0 19 rfl rfl)
theorem dX1_close_20 : decode cX1_close 20 = .ok (.goto 4, 3) := dk_167 0 4 (dk_at dksX1_close_0 20 rfl rfl)
theorem dX1_close_23 : decode cX1_close 23 = .ok (.iconst 0, 1) := dk_3 (dk_at dksX1_close_0 23 rfl rfl)
theorem dX1_close_24 : decode cX1_close 24 = .ok (.invokestatic 75, 3) := dk_184 0 75 (dk_at dksX1_close_1 0 rfl rfl)
theorem dX1_close_27 : decode cX1_close 27 = .ok (.aload_n 2, 1) := dk_44 (dk_at dksX1_close_1 3 rfl rfl)
theorem dX1_close_28 : decode cX1_close 28 = .ok (.iconst 1, 1) := dk_4 (dk_at dksX1_close_1 4 rfl rfl)
theorem dX1_close_29 : decode cX1_close 29 = .ok (.putfield 193, 3) := dk_181 0 193 (dk_at dksX1_close_1 5 rfl rfl)
theorem dX1_close_32 : decode cX1_close 32 = .ok (.aload_n 0, 1) := dk_42 (dk_at dksX1_close_1 8 rfl rfl)
theorem dX1_close_33 : decode cX1_close 33 = .ok (.aload_n 2, 1) := dk_44 (dk_at dksX1_close_1 9 rfl rfl)
theorem dX1_close_34 : decode cX1_close 34 = .ok (.aload_n 2, 1) := dk_44 (dk_at dksX1_close_1 10 rfl rfl)
theorem dX1_close_35 : decode cX1_close 35 = .ok (.getfield 184, 3) := dk_180 0 184 (dk_at dksX1_close_1 11 rfl rfl)
theorem dX1_close_38 : decode cX1_close 38 = .ok (.getfield 217, 3) := dk_180 0 217 (dk_at dksX1_close_1 14 rfl rfl)
theorem dX1_close_41 : decode cX1_close 41 = .ok (.invokevirtual 220, 3) := dk_182 0 220 (dk_at dksX1_close_1 17 rfl rfl)
theorem dX1_close_44 : decode cX1_close 44 = .ok (.aload_n 0, 1) := dk_42 (dk_at dksX1_close_1 20 rfl rfl)
theorem dX1_close_45 : decode cX1_close 45 = .ok (.aload_n 2, 1) := dk_44 (dk_at dksX1_close_1 21 rfl rfl)
theorem dX1_close_46 : decode cX1_close 46 = .ok (.aload_n 2, 1) := dk_44 (dk_at dksX1_close_1 22 rfl rfl)
theorem dX1_close_47 : decode cX1_close 47 = .ok (.getfield 184, 3) := dk_180 0 184 (dk_at dksX1_close_2 0 rfl rfl)
theorem dX1_close_50 : decode cX1_close 50 = .ok (.getfield 224, 3) := dk_180 0 224 (dk_at dksX1_close_2 3 rfl rfl)
theorem dX1_close_53 : decode cX1_close 53 = .ok (.invokevirtual 220, 3) := dk_182 0 220 (dk_at dksX1_close_2 6 rfl rfl)
theorem dX1_close_56 : decode cX1_close 56 = .ok (.iadd, 1) := dk_96 (dk_at dksX1_close_2 9 rfl rfl)
theorem dX1_close_57 : decode cX1_close 57 = .ok (.ireturn, 1) := dk_172 (dk_at dksX1_close_2 10 rfl rfl)
abbrev cX1_fineFor : ByteArray := prog_1_method_28_code
def yX1_fineFor : MethodName := ⟨RX1, "fineFor", "(LCartelWatch$Inquiry;I)I"⟩
def dkwX1_fineFor_2 : List UInt8 := [172]
abbrev dktX1_fineFor_2 : List UInt8 := dkwX1_fineFor_2 ++ []
def dkwX1_fineFor_1 : List UInt8 := [180, 0, 35, 28, 92, 46, 21, 4, 100, 79, 43, 180, 0, 214, 28, 29, 21, 4, 100, 79, 29, 21, 4, 100]
abbrev dktX1_fineFor_1 : List UInt8 := dkwX1_fineFor_1 ++ dktX1_fineFor_2
def dkwX1_fineFor_0 : List UInt8 := [43, 28, 42, 28, 182, 0, 136, 182, 0, 208, 62, 29, 42, 180, 0, 35, 28, 46, 184, 0, 211, 54, 4, 42]
abbrev dktX1_fineFor_0 : List UInt8 := dkwX1_fineFor_0 ++ dktX1_fineFor_1
theorem dksX1_fineFor_0 : cX1_fineFor.data.toList.drop 0 = dktX1_fineFor_0 := by decide +kernel
theorem dksX1_fineFor_1 : cX1_fineFor.data.toList.drop 24 = dktX1_fineFor_1 := dk_seg dksX1_fineFor_0 24 rfl rfl
theorem dksX1_fineFor_2 : cX1_fineFor.data.toList.drop 48 = dktX1_fineFor_2 := dk_seg dksX1_fineFor_1 24 rfl rfl
theorem dX1_fineFor_0 : decode cX1_fineFor 0 = .ok (.aload_n 1, 1) := dk_43 (dk_at dksX1_fineFor_0 0 rfl rfl)
theorem dX1_fineFor_1 : decode cX1_fineFor 1 = .ok (.iload_n 2, 1) := dk_28 (dk_at dksX1_fineFor_0 1 rfl rfl)
theorem dX1_fineFor_2 : decode cX1_fineFor 2 = .ok (.aload_n 0, 1) := dk_42 (dk_at dksX1_fineFor_0 2 rfl rfl)
theorem dX1_fineFor_3 : decode cX1_fineFor 3 = .ok (.iload_n 2, 1) := dk_28 (dk_at dksX1_fineFor_0 3 rfl rfl)
theorem dX1_fineFor_4 : decode cX1_fineFor 4 = .ok (.invokevirtual 136, 3) := dk_182 0 136 (dk_at dksX1_fineFor_0 4 rfl rfl)
theorem dX1_fineFor_7 : decode cX1_fineFor 7 = .ok (.invokevirtual 208, 3) := dk_182 0 208 (dk_at dksX1_fineFor_0 7 rfl rfl)
theorem dX1_fineFor_10 : decode cX1_fineFor 10 = .ok (.istore_n 3, 1) := dk_62 (dk_at dksX1_fineFor_0 10 rfl rfl)
theorem dX1_fineFor_11 : decode cX1_fineFor 11 = .ok (.iload_n 3, 1) := dk_29 (dk_at dksX1_fineFor_0 11 rfl rfl)
theorem dX1_fineFor_12 : decode cX1_fineFor 12 = .ok (.aload_n 0, 1) := dk_42 (dk_at dksX1_fineFor_0 12 rfl rfl)
theorem dX1_fineFor_13 : decode cX1_fineFor 13 = .ok (.getfield 35, 3) := dk_180 0 35 (dk_at dksX1_fineFor_0 13 rfl rfl)
theorem dX1_fineFor_16 : decode cX1_fineFor 16 = .ok (.iload_n 2, 1) := dk_28 (dk_at dksX1_fineFor_0 16 rfl rfl)
theorem dX1_fineFor_17 : decode cX1_fineFor 17 = .ok (.iaload, 1) := dk_46 (dk_at dksX1_fineFor_0 17 rfl rfl)
theorem dX1_fineFor_18 : decode cX1_fineFor 18 = .ok (.invokestatic 211, 3) := dk_184 0 211 (dk_at dksX1_fineFor_0 18 rfl rfl)
theorem dX1_fineFor_21 : decode cX1_fineFor 21 = .ok (.istore 4, 2) := dk_54 4 (dk_at dksX1_fineFor_0 21 rfl rfl)
theorem dX1_fineFor_23 : decode cX1_fineFor 23 = .ok (.aload_n 0, 1) := dk_42 (dk_at dksX1_fineFor_0 23 rfl rfl)
theorem dX1_fineFor_24 : decode cX1_fineFor 24 = .ok (.getfield 35, 3) := dk_180 0 35 (dk_at dksX1_fineFor_1 0 rfl rfl)
theorem dX1_fineFor_27 : decode cX1_fineFor 27 = .ok (.iload_n 2, 1) := dk_28 (dk_at dksX1_fineFor_1 3 rfl rfl)
theorem dX1_fineFor_28 : decode cX1_fineFor 28 = .ok (.dup2, 1) := dk_92 (dk_at dksX1_fineFor_1 4 rfl rfl)
theorem dX1_fineFor_29 : decode cX1_fineFor 29 = .ok (.iaload, 1) := dk_46 (dk_at dksX1_fineFor_1 5 rfl rfl)
theorem dX1_fineFor_30 : decode cX1_fineFor 30 = .ok (.iload 4, 2) := dk_21 4 (dk_at dksX1_fineFor_1 6 rfl rfl)
theorem dX1_fineFor_32 : decode cX1_fineFor 32 = .ok (.isub, 1) := dk_100 (dk_at dksX1_fineFor_1 8 rfl rfl)
theorem dX1_fineFor_33 : decode cX1_fineFor 33 = .ok (.iastore, 1) := dk_79 (dk_at dksX1_fineFor_1 9 rfl rfl)
theorem dX1_fineFor_34 : decode cX1_fineFor 34 = .ok (.aload_n 1, 1) := dk_43 (dk_at dksX1_fineFor_1 10 rfl rfl)
theorem dX1_fineFor_35 : decode cX1_fineFor 35 = .ok (.getfield 214, 3) := dk_180 0 214 (dk_at dksX1_fineFor_1 11 rfl rfl)
theorem dX1_fineFor_38 : decode cX1_fineFor 38 = .ok (.iload_n 2, 1) := dk_28 (dk_at dksX1_fineFor_1 14 rfl rfl)
theorem dX1_fineFor_39 : decode cX1_fineFor 39 = .ok (.iload_n 3, 1) := dk_29 (dk_at dksX1_fineFor_1 15 rfl rfl)
theorem dX1_fineFor_40 : decode cX1_fineFor 40 = .ok (.iload 4, 2) := dk_21 4 (dk_at dksX1_fineFor_1 16 rfl rfl)
theorem dX1_fineFor_42 : decode cX1_fineFor 42 = .ok (.isub, 1) := dk_100 (dk_at dksX1_fineFor_1 18 rfl rfl)
theorem dX1_fineFor_43 : decode cX1_fineFor 43 = .ok (.iastore, 1) := dk_79 (dk_at dksX1_fineFor_1 19 rfl rfl)
theorem dX1_fineFor_44 : decode cX1_fineFor 44 = .ok (.iload_n 3, 1) := dk_29 (dk_at dksX1_fineFor_1 20 rfl rfl)
theorem dX1_fineFor_45 : decode cX1_fineFor 45 = .ok (.iload 4, 2) := dk_21 4 (dk_at dksX1_fineFor_1 21 rfl rfl)
theorem dX1_fineFor_47 : decode cX1_fineFor 47 = .ok (.isub, 1) := dk_100 (dk_at dksX1_fineFor_1 23 rfl rfl)
theorem dX1_fineFor_48 : decode cX1_fineFor 48 = .ok (.ireturn, 1) := dk_172 (dk_at dksX1_fineFor_2 0 rfl rfl)
abbrev cX1_fine : ByteArray := prog_1_method_30_code
def yX1_fine : MethodName := ⟨RX1, "fine", "(II)I"⟩
def dkwX1_fine_0 : List UInt8 := [42, 180, 0, 32, 27, 184, 0, 86, 192, 0, 176, 78, 45, 28, 184, 0, 189, 45, 180, 0, 214, 28, 46, 172]
abbrev dktX1_fine_0 : List UInt8 := dkwX1_fine_0 ++ []
theorem dksX1_fine_0 : cX1_fine.data.toList.drop 0 = dktX1_fine_0 := by decide +kernel
theorem dX1_fine_0 : decode cX1_fine 0 = .ok (.aload_n 0, 1) := dk_42 (dk_at dksX1_fine_0 0 rfl rfl)
theorem dX1_fine_1 : decode cX1_fine 1 = .ok (.getfield 32, 3) := dk_180 0 32 (dk_at dksX1_fine_0 1 rfl rfl)
theorem dX1_fine_4 : decode cX1_fine 4 = .ok (.iload_n 1, 1) := dk_27 (dk_at dksX1_fine_0 4 rfl rfl)
theorem dX1_fine_5 : decode cX1_fine 5 = .ok (.invokestatic 86, 3) := dk_184 0 86 (dk_at dksX1_fine_0 5 rfl rfl)
theorem dX1_fine_8 : decode cX1_fine 8 = .ok (.checkcast 176, 3) := dk_192 0 176 (dk_at dksX1_fine_0 8 rfl rfl)
theorem dX1_fine_11 : decode cX1_fine 11 = .ok (.astore_n 3, 1) := dk_78 (dk_at dksX1_fine_0 11 rfl rfl)
theorem dX1_fine_12 : decode cX1_fine 12 = .ok (.aload_n 3, 1) := dk_45 (dk_at dksX1_fine_0 12 rfl rfl)
theorem dX1_fine_13 : decode cX1_fine 13 = .ok (.iload_n 2, 1) := dk_28 (dk_at dksX1_fine_0 13 rfl rfl)
theorem dX1_fine_14 : decode cX1_fine 14 = .ok (.invokestatic 189, 3) := dk_184 0 189 (dk_at dksX1_fine_0 14 rfl rfl)
theorem dX1_fine_17 : decode cX1_fine 17 = .ok (.aload_n 3, 1) := dk_45 (dk_at dksX1_fine_0 17 rfl rfl)
theorem dX1_fine_18 : decode cX1_fine 18 = .ok (.getfield 214, 3) := dk_180 0 214 (dk_at dksX1_fine_0 18 rfl rfl)
theorem dX1_fine_21 : decode cX1_fine 21 = .ok (.iload_n 2, 1) := dk_28 (dk_at dksX1_fine_0 21 rfl rfl)
theorem dX1_fine_22 : decode cX1_fine 22 = .ok (.iaload, 1) := dk_46 (dk_at dksX1_fine_0 22 rfl rfl)
theorem dX1_fine_23 : decode cX1_fine 23 = .ok (.ireturn, 1) := dk_172 (dk_at dksX1_fine_0 23 rfl rfl)
abbrev cX1_firstTeller : ByteArray := prog_1_method_31_code
def yX1_firstTeller : MethodName := ⟨RX1, "firstTeller", "(I)I"⟩
def dkwX1_firstTeller_0 : List UInt8 := [42, 180, 0, 32, 27, 184, 0, 86, 192, 0, 176, 77, 44, 180, 0, 205, 172]
abbrev dktX1_firstTeller_0 : List UInt8 := dkwX1_firstTeller_0 ++ []
theorem dksX1_firstTeller_0 : cX1_firstTeller.data.toList.drop 0 = dktX1_firstTeller_0 := by decide +kernel
theorem dX1_firstTeller_0 : decode cX1_firstTeller 0 = .ok (.aload_n 0, 1) := dk_42 (dk_at dksX1_firstTeller_0 0 rfl rfl)
theorem dX1_firstTeller_1 : decode cX1_firstTeller 1 = .ok (.getfield 32, 3) := dk_180 0 32 (dk_at dksX1_firstTeller_0 1 rfl rfl)
theorem dX1_firstTeller_4 : decode cX1_firstTeller 4 = .ok (.iload_n 1, 1) := dk_27 (dk_at dksX1_firstTeller_0 4 rfl rfl)
theorem dX1_firstTeller_5 : decode cX1_firstTeller 5 = .ok (.invokestatic 86, 3) := dk_184 0 86 (dk_at dksX1_firstTeller_0 5 rfl rfl)
theorem dX1_firstTeller_8 : decode cX1_firstTeller 8 = .ok (.checkcast 176, 3) := dk_192 0 176 (dk_at dksX1_firstTeller_0 8 rfl rfl)
theorem dX1_firstTeller_11 : decode cX1_firstTeller 11 = .ok (.astore_n 2, 1) := dk_77 (dk_at dksX1_firstTeller_0 11 rfl rfl)
theorem dX1_firstTeller_12 : decode cX1_firstTeller 12 = .ok (.aload_n 2, 1) := dk_44 (dk_at dksX1_firstTeller_0 12 rfl rfl)
theorem dX1_firstTeller_13 : decode cX1_firstTeller 13 = .ok (.getfield 205, 3) := dk_180 0 205 (dk_at dksX1_firstTeller_0 13 rfl rfl)
theorem dX1_firstTeller_16 : decode cX1_firstTeller 16 = .ok (.ireturn, 1) := dk_172 (dk_at dksX1_firstTeller_0 16 rfl rfl)
theorem q22 : (Jvm.Cond.initialized "CartelWatch") ∈ lw_all := lw_g (lw_at lw_m1 1 rfl) rfl
theorem q47 : (Jvm.Cond.instantiable "CartelWatch" (4 : Nat)) ∈ lw_all := lw_g (lw_at lw_m1 26 rfl) rfl
theorem q49 : (Jvm.Cond.instanceMethod ({ cls := "CartelWatch", name := "<init>", desc := "()V" } : Jvm.MethodName)) ∈ lw_all := lw_g (lw_at lw_m1 28 rfl) rfl
theorem q50 : (Jvm.Cond.code ({ cls := "CartelWatch", name := "<init>", desc := "()V" } : Jvm.MethodName) prog_1_method_2_code (1 : Nat) (Option.none : Option Jvm.ClassFile.FieldType)) ∈ lw_all := lw_g (lw_at lw_m1 29 rfl) rfl
theorem q51 : (Jvm.Cond.methodLink "CartelWatch" (17 : Nat) ({ cls := "java/lang/Object", name := "<init>", desc := "()V" } : Jvm.MethodName)) ∈ lw_all := lw_g (lw_at lw_m1 30 rfl) rfl
theorem q54 : (Jvm.Cond.classLink "CartelWatch" (23 : Nat) "java/util/ArrayList") ∈ lw_all := lw_g (lw_at lw_m1 33 rfl) rfl
theorem q56 : (Jvm.Cond.methodLink "CartelWatch" (25 : Nat) ({ cls := "java/util/ArrayList", name := "<init>", desc := "()V" } : Jvm.MethodName)) ∈ lw_all := lw_g (lw_at lw_m1 35 rfl) rfl
theorem q80 : (Jvm.Cond.fieldLink "CartelWatch" (26 : Nat) "CartelWatch" "tenders" "Ljava/util/List;") ∈ lw_all := lw_g (lw_at lw_m1 59 rfl) rfl
theorem q81 : (Jvm.Cond.fieldLink "CartelWatch" (32 : Nat) "CartelWatch" "files" "Ljava/util/List;") ∈ lw_all := lw_g (lw_at lw_m1 60 rfl) rfl
theorem q82 : (Jvm.Cond.fieldLink "CartelWatch" (35 : Nat) "CartelWatch" "paid" "[I") ∈ lw_all := lw_g (lw_at lw_m1 61 rfl) rfl
theorem q83 : (Jvm.Cond.fieldLink "CartelWatch" (39 : Nat) "CartelWatch" "mark" "I") ∈ lw_all := lw_g (lw_at lw_m1 62 rfl) rfl
theorem q84 : (Jvm.Cond.laysFinal "CartelWatch" "CartelWatch" "tenders" "Ljava/util/List;") ∈ lw_all := lw_g (lw_at lw_m1 63 rfl) rfl
theorem q85 : (Jvm.Cond.soleField "CartelWatch" "tenders") ∈ lw_all := lw_g (lw_at lw_m1 64 rfl) rfl
theorem q86 : (Jvm.Cond.laysFinal "CartelWatch" "CartelWatch" "files" "Ljava/util/List;") ∈ lw_all := lw_g (lw_at lw_m1 65 rfl) rfl
theorem q87 : (Jvm.Cond.soleField "CartelWatch" "files") ∈ lw_all := lw_g (lw_at lw_m1 66 rfl) rfl
theorem q88 : (Jvm.Cond.laysFinal "CartelWatch" "CartelWatch" "paid" "[I") ∈ lw_all := lw_g (lw_at lw_m1 67 rfl) rfl
theorem q89 : (Jvm.Cond.soleField "CartelWatch" "paid") ∈ lw_all := lw_g (lw_at lw_m1 68 rfl) rfl
theorem q90 : (Jvm.Cond.lays "CartelWatch" "CartelWatch" "mark" "I") ∈ lw_all := lw_g (lw_at lw_m1 69 rfl) rfl
theorem q91 : (Jvm.Cond.soleField "CartelWatch" "mark") ∈ lw_all := lw_g (lw_at lw_m1 70 rfl) rfl
theorem q92 : (Jvm.Cond.superclass "CartelWatch" "java/lang/Object") ∈ lw_all := lw_g (lw_at lw_m1 71 rfl) rfl
theorem q95 : (Jvm.Cond.instanceMethod ({ cls := "CartelWatch", name := "worst", desc := "()I" } : Jvm.MethodName)) ∈ lw_all := lw_g (lw_at lw_m1 74 rfl) rfl
theorem q96 : (Jvm.Cond.selects "CartelWatch" ({ cls := "CartelWatch", name := "worst", desc := "()I" } : Jvm.MethodName) ({ cls := "CartelWatch", name := "worst", desc := "()I" } : Jvm.MethodName)) ∈ lw_all := lw_g (lw_at lw_m1 75 rfl) rfl
theorem q97 : (Jvm.Cond.code ({ cls := "CartelWatch", name := "worst", desc := "()I" } : Jvm.MethodName) prog_1_method_22_code (6 : Nat) (Option.some Jvm.ClassFile.FieldType.int)) ∈ lw_all := lw_g (lw_at lw_m1 76 rfl) rfl
theorem q98 : (Jvm.Cond.classLink "CartelWatch" (60 : Nat) "CartelWatch$Pair") ∈ lw_all := lw_g (lw_at lw_m1 77 rfl) rfl
theorem q100 : (Jvm.Cond.methodLink "CartelWatch" (62 : Nat) ({ cls := "CartelWatch$Pair", name := "<init>", desc := "(II)V" } : Jvm.MethodName)) ∈ lw_all := lw_g (lw_at lw_m1 79 rfl) rfl
theorem q111 : (Jvm.Cond.fieldLinkNest "CartelWatch" (217 : Nat) "CartelWatch$Pair" "low" "I" "CartelWatch") ∈ lw_tbl := lw_at lw_m1 90 rfl
theorem q113 : (Jvm.Cond.fieldLinkNest "CartelWatch" (224 : Nat) "CartelWatch$Pair" "high" "I" "CartelWatch") ∈ lw_tbl := lw_at lw_m1 92 rfl
theorem q119 : (Jvm.Cond.methodLink "CartelWatch" (163 : Nat) ({ cls := "CartelWatch", name := "suspicionOf", desc := "(LCartelWatch$Pair;)I" } : Jvm.MethodName)) ∈ lw_all := lw_g (lw_at lw_m1 98 rfl) rfl
theorem q120 : (Jvm.Cond.privateMethod ({ cls := "CartelWatch", name := "suspicionOf", desc := "(LCartelWatch$Pair;)I" } : Jvm.MethodName)) ∈ lw_tbl := lw_at lw_m1 99 rfl
theorem q121 : (Jvm.Cond.instanceMethod ({ cls := "CartelWatch", name := "suspicionOf", desc := "(LCartelWatch$Pair;)I" } : Jvm.MethodName)) ∈ lw_all := lw_g (lw_at lw_m1 100 rfl) rfl
theorem q122 : (Jvm.Cond.code ({ cls := "CartelWatch", name := "suspicionOf", desc := "(LCartelWatch$Pair;)I" } : Jvm.MethodName) prog_1_method_18_code (4 : Nat) (Option.some Jvm.ClassFile.FieldType.int)) ∈ lw_all := lw_g (lw_at lw_m1 101 rfl) rfl
theorem q123 : (Jvm.Cond.interfaceEntry "CartelWatch" (1 : Nat)) ∈ lw_tbl := lw_at lw_m1 102 rfl
theorem q124 : (Jvm.Cond.methodLink "CartelWatch" (1 : Nat) ({ cls := "java/util/List", name := "size", desc := "()I" } : Jvm.MethodName)) ∈ lw_all := lw_g (lw_at lw_m1 103 rfl) rfl
theorem q133 : (Jvm.Cond.methodLink "CartelWatch" (156 : Nat) ({ cls := "CartelWatch", name := "signOf", desc := "(ILCartelWatch$Pair;)I" } : Jvm.MethodName)) ∈ lw_all := lw_g (lw_at lw_m1 112 rfl) rfl
theorem q134 : (Jvm.Cond.privateMethod ({ cls := "CartelWatch", name := "signOf", desc := "(ILCartelWatch$Pair;)I" } : Jvm.MethodName)) ∈ lw_tbl := lw_at lw_m1 113 rfl
theorem q135 : (Jvm.Cond.instanceMethod ({ cls := "CartelWatch", name := "signOf", desc := "(ILCartelWatch$Pair;)I" } : Jvm.MethodName)) ∈ lw_all := lw_g (lw_at lw_m1 114 rfl) rfl
theorem q136 : (Jvm.Cond.code ({ cls := "CartelWatch", name := "signOf", desc := "(ILCartelWatch$Pair;)I" } : Jvm.MethodName) prog_1_method_17_code (7 : Nat) (Option.some Jvm.ClassFile.FieldType.int)) ∈ lw_all := lw_g (lw_at lw_m1 115 rfl) rfl
theorem q137 : (Jvm.Cond.interfaceEntry "CartelWatch" (7 : Nat)) ∈ lw_tbl := lw_at lw_m1 116 rfl
theorem q138 : (Jvm.Cond.methodLink "CartelWatch" (7 : Nat) ({ cls := "java/util/List", name := "get", desc := "(I)Ljava/lang/Object;" } : Jvm.MethodName)) ∈ lw_all := lw_g (lw_at lw_m1 117 rfl) rfl
theorem q156 : (Jvm.Cond.classLink "CartelWatch" (79 : Nat) "CartelWatch$Tender") ∈ lw_all := lw_g (lw_at lw_m1 135 rfl) rfl
theorem q157 : (Jvm.Cond.methodLink "CartelWatch" (143 : Nat) ({ cls := "CartelWatch$Pair", name := "has", desc := "(I)Z" } : Jvm.MethodName)) ∈ lw_all := lw_g (lw_at lw_m1 136 rfl) rfl
theorem q161 : (Jvm.Cond.methodLink "CartelWatch" (146 : Nat) ({ cls := "CartelWatch$Pair", name := "other", desc := "(I)I" } : Jvm.MethodName)) ∈ lw_all := lw_g (lw_at lw_m1 140 rfl) rfl
theorem q165 : (Jvm.Cond.methodLink "CartelWatch" (149 : Nat) ({ cls := "CartelWatch$Tender", name := "hasWithdrawn", desc := "(I)Z" } : Jvm.MethodName)) ∈ lw_all := lw_g (lw_at lw_m1 144 rfl) rfl
theorem q169 : (Jvm.Cond.methodLink "CartelWatch" (104 : Nat) ({ cls := "CartelWatch$Tender", name := "stands", desc := "(I)Z" } : Jvm.MethodName)) ∈ lw_all := lw_g (lw_at lw_m1 148 rfl) rfl
theorem q173 : (Jvm.Cond.methodLink "CartelWatch" (123 : Nat) ({ cls := "CartelWatch$Tender", name := "sum", desc := "()I" } : Jvm.MethodName)) ∈ lw_all := lw_g (lw_at lw_m1 152 rfl) rfl
theorem q177 : (Jvm.Cond.methodLink "CartelWatch" (152 : Nat) ({ cls := "CartelWatch", name := "winnerBefore", desc := "(ILCartelWatch$Pair;)I" } : Jvm.MethodName)) ∈ lw_all := lw_g (lw_at lw_m1 156 rfl) rfl
theorem q178 : (Jvm.Cond.privateMethod ({ cls := "CartelWatch", name := "winnerBefore", desc := "(ILCartelWatch$Pair;)I" } : Jvm.MethodName)) ∈ lw_tbl := lw_at lw_m1 157 rfl
theorem q179 : (Jvm.Cond.instanceMethod ({ cls := "CartelWatch", name := "winnerBefore", desc := "(ILCartelWatch$Pair;)I" } : Jvm.MethodName)) ∈ lw_all := lw_g (lw_at lw_m1 158 rfl) rfl
theorem q180 : (Jvm.Cond.code ({ cls := "CartelWatch", name := "winnerBefore", desc := "(ILCartelWatch$Pair;)I" } : Jvm.MethodName) prog_1_method_16_code (6 : Nat) (Option.some Jvm.ClassFile.FieldType.int)) ∈ lw_all := lw_g (lw_at lw_m1 159 rfl) rfl
theorem q181 : (Jvm.Cond.methodLink "CartelWatch" (140 : Nat) ({ cls := "CartelWatch$Pair", name := "stands", desc := "(LCartelWatch$Tender;)Z" } : Jvm.MethodName)) ∈ lw_all := lw_g (lw_at lw_m1 160 rfl) rfl
theorem q186 : (Jvm.Cond.methodLink "CartelWatch" (167 : Nat) ({ cls := "java/lang/Math", name := "max", desc := "(II)I" } : Jvm.MethodName)) ∈ lw_all := lw_g (lw_at lw_m1 165 rfl) rfl
theorem q192 : (Jvm.Cond.instanceMethod ({ cls := "CartelWatch", name := "open", desc := "()I" } : Jvm.MethodName)) ∈ lw_all := lw_g (lw_at lw_m1 171 rfl) rfl
theorem q193 : (Jvm.Cond.selects "CartelWatch" ({ cls := "CartelWatch", name := "open", desc := "()I" } : Jvm.MethodName) ({ cls := "CartelWatch", name := "open", desc := "()I" } : Jvm.MethodName)) ∈ lw_all := lw_g (lw_at lw_m1 172 rfl) rfl
theorem q194 : (Jvm.Cond.code ({ cls := "CartelWatch", name := "open", desc := "()I" } : Jvm.MethodName) prog_1_method_8_code (1 : Nat) (Option.some Jvm.ClassFile.FieldType.int)) ∈ lw_all := lw_g (lw_at lw_m1 173 rfl) rfl
theorem q195 : (Jvm.Cond.methodLink "CartelWatch" (75 : Nat) ({ cls := "CartelWatch", name := "must", desc := "(Z)V" } : Jvm.MethodName)) ∈ lw_all := lw_g (lw_at lw_m1 174 rfl) rfl
theorem q196 : (Jvm.Cond.static ({ cls := "CartelWatch", name := "must", desc := "(Z)V" } : Jvm.MethodName)) ∈ lw_all := lw_g (lw_at lw_m1 175 rfl) rfl
theorem q197 : (Jvm.Cond.code ({ cls := "CartelWatch", name := "must", desc := "(Z)V" } : Jvm.MethodName) prog_1_method_7_code (1 : Nat) (Option.none : Option Jvm.ClassFile.FieldType)) ∈ lw_all := lw_g (lw_at lw_m1 176 rfl) rfl
theorem q198 : (Jvm.Cond.classLink "CartelWatch" (70 : Nat) "java/lang/IllegalStateException") ∈ lw_all := lw_g (lw_at lw_m1 177 rfl) rfl
theorem q240 : (Jvm.Cond.stringRef "CartelWatch" (72 : Nat) "not now") ∈ lw_tbl := lw_at lw_m1 219 rfl
theorem q241 : (Jvm.Cond.methodLink "CartelWatch" (74 : Nat) ({ cls := "java/lang/IllegalStateException", name := "<init>", desc := "(Ljava/lang/String;)V" } : Jvm.MethodName)) ∈ lw_all := lw_g (lw_at lw_m1 220 rfl) rfl
theorem q268 : (Jvm.Cond.methodLinkNest "CartelWatch" (81 : Nat) ({ cls := "CartelWatch$Tender", name := "<init>", desc := "()V" } : Jvm.MethodName) "CartelWatch") ∈ lw_tbl := lw_at lw_m2 7 rfl
theorem q275 : (Jvm.Cond.fieldLinkNest "CartelWatch" (95 : Nat) "CartelWatch$Tender" "bids" "[LCartelWatch$Bid;" "CartelWatch") ∈ lw_tbl := lw_at lw_m2 14 rfl
theorem q277 : (Jvm.Cond.fieldLinkNest "CartelWatch" (91 : Nat) "CartelWatch$Tender" "open" "Z" "CartelWatch") ∈ lw_tbl := lw_at lw_m2 16 rfl
theorem q279 : (Jvm.Cond.fieldLinkNest "CartelWatch" (117 : Nat) "CartelWatch$Tender" "winner" "I" "CartelWatch") ∈ lw_tbl := lw_at lw_m2 18 rfl
theorem q281 : (Jvm.Cond.fieldLinkNest "CartelWatch" (120 : Nat) "CartelWatch$Tender" "passedTo" "I" "CartelWatch") ∈ lw_tbl := lw_at lw_m2 20 rfl
theorem q283 : (Jvm.Cond.fieldLinkNest "CartelWatch" (127 : Nat) "CartelWatch$Tender" "part" "I" "CartelWatch") ∈ lw_tbl := lw_at lw_m2 22 rfl
theorem q295 : (Jvm.Cond.interfaceEntry "CartelWatch" (82 : Nat)) ∈ lw_tbl := lw_at lw_m2 34 rfl
theorem q296 : (Jvm.Cond.methodLink "CartelWatch" (82 : Nat) ({ cls := "java/util/List", name := "add", desc := "(Ljava/lang/Object;)Z" } : Jvm.MethodName)) ∈ lw_all := lw_g (lw_at lw_m2 35 rfl) rfl
theorem q330 : (Jvm.Cond.selects "CartelWatch" ({ cls := "java/lang/Object", name := "getClass", desc := "()Ljava/lang/Class;" } : Jvm.MethodName) ({ cls := "java/lang/Object", name := "getClass", desc := "()Ljava/lang/Class;" } : Jvm.MethodName)) ∈ lw_all := lw_g (lw_at lw_m2 69 rfl) rfl
theorem q383 : (Jvm.Cond.instanceMethod ({ cls := "CartelWatch", name := "bid", desc := "(III)I" } : Jvm.MethodName)) ∈ lw_all := lw_g (lw_at lw_m2 122 rfl) rfl
theorem q384 : (Jvm.Cond.selects "CartelWatch" ({ cls := "CartelWatch", name := "bid", desc := "(III)I" } : Jvm.MethodName) ({ cls := "CartelWatch", name := "bid", desc := "(III)I" } : Jvm.MethodName)) ∈ lw_all := lw_g (lw_at lw_m2 123 rfl) rfl
theorem q385 : (Jvm.Cond.code ({ cls := "CartelWatch", name := "bid", desc := "(III)I" } : Jvm.MethodName) prog_1_method_9_code (7 : Nat) (Option.some Jvm.ClassFile.FieldType.int)) ∈ lw_all := lw_g (lw_at lw_m2 124 rfl) rfl
theorem q386 : (Jvm.Cond.methodLink "CartelWatch" (86 : Nat) ({ cls := "CartelWatch", name := "at", desc := "(Ljava/util/List;I)Ljava/lang/Object;" } : Jvm.MethodName)) ∈ lw_all := lw_g (lw_at lw_m2 125 rfl) rfl
theorem q387 : (Jvm.Cond.static ({ cls := "CartelWatch", name := "at", desc := "(Ljava/util/List;I)Ljava/lang/Object;" } : Jvm.MethodName)) ∈ lw_all := lw_g (lw_at lw_m2 126 rfl) rfl
theorem q388 : (Jvm.Cond.code ({ cls := "CartelWatch", name := "at", desc := "(Ljava/util/List;I)Ljava/lang/Object;" } : Jvm.MethodName) prog_1_method_6_code (2 : Nat) (Option.some (Jvm.ClassFile.FieldType.object "java/lang/Object"))) ∈ lw_all := lw_g (lw_at lw_m2 127 rfl) rfl
theorem q389 : (Jvm.Cond.classLink "CartelWatch" (65 : Nat) "java/lang/IndexOutOfBoundsException") ∈ lw_all := lw_g (lw_at lw_m2 128 rfl) rfl
theorem q398 : (Jvm.Cond.stringRef "CartelWatch" (67 : Nat) "no such thing") ∈ lw_tbl := lw_at lw_m2 137 rfl
theorem q399 : (Jvm.Cond.methodLink "CartelWatch" (69 : Nat) ({ cls := "java/lang/IndexOutOfBoundsException", name := "<init>", desc := "(Ljava/lang/String;)V" } : Jvm.MethodName)) ∈ lw_all := lw_g (lw_at lw_m2 138 rfl) rfl
theorem q402 : (Jvm.Cond.methodLink "CartelWatch" (54 : Nat) ({ cls := "CartelWatch", name := "bidder", desc := "(I)I" } : Jvm.MethodName)) ∈ lw_all := lw_g (lw_at lw_m2 141 rfl) rfl
theorem q403 : (Jvm.Cond.static ({ cls := "CartelWatch", name := "bidder", desc := "(I)I" } : Jvm.MethodName)) ∈ lw_all := lw_g (lw_at lw_m2 142 rfl) rfl
theorem q404 : (Jvm.Cond.code ({ cls := "CartelWatch", name := "bidder", desc := "(I)I" } : Jvm.MethodName) prog_1_method_4_code (1 : Nat) (Option.some Jvm.ClassFile.FieldType.int)) ∈ lw_all := lw_g (lw_at lw_m2 143 rfl) rfl
theorem q405 : (Jvm.Cond.methodLink "CartelWatch" (50 : Nat) ({ cls := "CartelWatch", name := "in", desc := "(III)I" } : Jvm.MethodName)) ∈ lw_all := lw_g (lw_at lw_m2 144 rfl) rfl
theorem q406 : (Jvm.Cond.static ({ cls := "CartelWatch", name := "in", desc := "(III)I" } : Jvm.MethodName)) ∈ lw_all := lw_g (lw_at lw_m2 145 rfl) rfl
theorem q407 : (Jvm.Cond.code ({ cls := "CartelWatch", name := "in", desc := "(III)I" } : Jvm.MethodName) prog_1_method_3_code (3 : Nat) (Option.some Jvm.ClassFile.FieldType.int)) ∈ lw_all := lw_g (lw_at lw_m2 146 rfl) rfl
theorem q408 : (Jvm.Cond.classLink "CartelWatch" (43 : Nat) "java/lang/IllegalArgumentException") ∈ lw_all := lw_g (lw_at lw_m2 147 rfl) rfl
theorem q417 : (Jvm.Cond.stringRef "CartelWatch" (45 : Nat) "out of range") ∈ lw_tbl := lw_at lw_m2 156 rfl
theorem q418 : (Jvm.Cond.methodLink "CartelWatch" (47 : Nat) ({ cls := "java/lang/IllegalArgumentException", name := "<init>", desc := "(Ljava/lang/String;)V" } : Jvm.MethodName)) ∈ lw_all := lw_g (lw_at lw_m2 157 rfl) rfl
theorem q424 : (Jvm.Cond.constant "CartelWatch" (90 : Nat) (100000 : Int32)) ∈ lw_all := lw_g (lw_at lw_m2 163 rfl) rfl
theorem q425 : (Jvm.Cond.classLink "CartelWatch" (99 : Nat) "CartelWatch$Bid") ∈ lw_all := lw_g (lw_at lw_m2 164 rfl) rfl
theorem q427 : (Jvm.Cond.methodLink "CartelWatch" (101 : Nat) ({ cls := "CartelWatch$Bid", name := "<init>", desc := "(I)V" } : Jvm.MethodName)) ∈ lw_all := lw_g (lw_at lw_m2 166 rfl) rfl
theorem q433 : (Jvm.Cond.fieldLinkNest "CartelWatch" (111 : Nat) "CartelWatch$Bid" "sum" "I" "CartelWatch") ∈ lw_tbl := lw_at lw_m2 172 rfl
theorem q435 : (Jvm.Cond.fieldLinkNest "CartelWatch" (108 : Nat) "CartelWatch$Bid" "withdrawn" "Z" "CartelWatch") ∈ lw_tbl := lw_at lw_m2 174 rfl
theorem q445 : (Jvm.Cond.instanceMethod ({ cls := "CartelWatch", name := "withdraw", desc := "(II)I" } : Jvm.MethodName)) ∈ lw_all := lw_g (lw_at lw_m2 184 rfl) rfl
theorem q446 : (Jvm.Cond.selects "CartelWatch" ({ cls := "CartelWatch", name := "withdraw", desc := "(II)I" } : Jvm.MethodName) ({ cls := "CartelWatch", name := "withdraw", desc := "(II)I" } : Jvm.MethodName)) ∈ lw_all := lw_g (lw_at lw_m2 185 rfl) rfl
theorem q447 : (Jvm.Cond.code ({ cls := "CartelWatch", name := "withdraw", desc := "(II)I" } : Jvm.MethodName) prog_1_method_10_code (4 : Nat) (Option.some Jvm.ClassFile.FieldType.int)) ∈ lw_all := lw_g (lw_at lw_m2 186 rfl) rfl
theorem q452 : (Jvm.Cond.instanceMethod ({ cls := "CartelWatch", name := "award", desc := "(I)I" } : Jvm.MethodName)) ∈ lw_all := lw_g (lw_at lw_m2 191 rfl) rfl
theorem q453 : (Jvm.Cond.selects "CartelWatch" ({ cls := "CartelWatch", name := "award", desc := "(I)I" } : Jvm.MethodName) ({ cls := "CartelWatch", name := "award", desc := "(I)I" } : Jvm.MethodName)) ∈ lw_all := lw_g (lw_at lw_m2 192 rfl) rfl
theorem q454 : (Jvm.Cond.code ({ cls := "CartelWatch", name := "award", desc := "(I)I" } : Jvm.MethodName) prog_1_method_11_code (3 : Nat) (Option.some Jvm.ClassFile.FieldType.int)) ∈ lw_all := lw_g (lw_at lw_m2 193 rfl) rfl
theorem q455 : (Jvm.Cond.methodLink "CartelWatch" (114 : Nat) ({ cls := "CartelWatch$Tender", name := "least", desc := "()I" } : Jvm.MethodName)) ∈ lw_all := lw_g (lw_at lw_m2 194 rfl) rfl
theorem q464 : (Jvm.Cond.instanceMethod ({ cls := "CartelWatch", name := "passOn", desc := "(III)I" } : Jvm.MethodName)) ∈ lw_all := lw_g (lw_at lw_m2 203 rfl) rfl
theorem q465 : (Jvm.Cond.selects "CartelWatch" ({ cls := "CartelWatch", name := "passOn", desc := "(III)I" } : Jvm.MethodName) ({ cls := "CartelWatch", name := "passOn", desc := "(III)I" } : Jvm.MethodName)) ∈ lw_all := lw_g (lw_at lw_m2 204 rfl) rfl
theorem q466 : (Jvm.Cond.code ({ cls := "CartelWatch", name := "passOn", desc := "(III)I" } : Jvm.MethodName) prog_1_method_12_code (5 : Nat) (Option.some Jvm.ClassFile.FieldType.int)) ∈ lw_all := lw_g (lw_at lw_m2 205 rfl) rfl
theorem q467 : (Jvm.Cond.stringRef "CartelWatch" (125 : Nat) "the winner") ∈ lw_tbl := lw_at lw_m2 206 rfl
theorem q472 : (Jvm.Cond.instanceMethod ({ cls := "CartelWatch", name := "turnover", desc := "(I)I" } : Jvm.MethodName)) ∈ lw_all := lw_g (lw_at lw_m2 211 rfl) rfl
theorem q473 : (Jvm.Cond.selects "CartelWatch" ({ cls := "CartelWatch", name := "turnover", desc := "(I)I" } : Jvm.MethodName) ({ cls := "CartelWatch", name := "turnover", desc := "(I)I" } : Jvm.MethodName)) ∈ lw_all := lw_g (lw_at lw_m2 212 rfl) rfl
theorem q474 : (Jvm.Cond.code ({ cls := "CartelWatch", name := "turnover", desc := "(I)I" } : Jvm.MethodName) prog_1_method_14_code (2 : Nat) (Option.some Jvm.ClassFile.FieldType.int)) ∈ lw_all := lw_g (lw_at lw_m2 213 rfl) rfl
theorem q475 : (Jvm.Cond.methodLink "CartelWatch" (136 : Nat) ({ cls := "CartelWatch", name := "turnoverOf", desc := "(I)I" } : Jvm.MethodName)) ∈ lw_all := lw_g (lw_at lw_m2 214 rfl) rfl
theorem q476 : (Jvm.Cond.privateMethod ({ cls := "CartelWatch", name := "turnoverOf", desc := "(I)I" } : Jvm.MethodName)) ∈ lw_tbl := lw_at lw_m2 215 rfl
theorem q477 : (Jvm.Cond.instanceMethod ({ cls := "CartelWatch", name := "turnoverOf", desc := "(I)I" } : Jvm.MethodName)) ∈ lw_all := lw_g (lw_at lw_m2 216 rfl) rfl
theorem q478 : (Jvm.Cond.code ({ cls := "CartelWatch", name := "turnoverOf", desc := "(I)I" } : Jvm.MethodName) prog_1_method_13_code (2 : Nat) (Option.some Jvm.ClassFile.FieldType.int)) ∈ lw_all := lw_g (lw_at lw_m2 217 rfl) rfl
theorem q479 : (Jvm.Cond.static ({ cls := "CartelWatch", name := "lambda$turnoverOf$0", desc := "(ILCartelWatch$Tender;)I" } : Jvm.MethodName)) ∈ lw_all := lw_g (lw_at lw_m2 218 rfl) rfl
theorem q480 : (Jvm.Cond.code ({ cls := "CartelWatch", name := "lambda$turnoverOf$0", desc := "(ILCartelWatch$Tender;)I" } : Jvm.MethodName) prog_1_method_34_code (2 : Nat) (Option.some Jvm.ClassFile.FieldType.int)) ∈ lw_all := lw_g (lw_at lw_m2 219 rfl) rfl
theorem q481 : (Jvm.Cond.methodLink "CartelWatch" (227 : Nat) ({ cls := "CartelWatch$Tender", name := "turnover", desc := "(I)I" } : Jvm.MethodName)) ∈ lw_all := lw_g (lw_at lw_m2 220 rfl) rfl
theorem q486 : (Jvm.Cond.methodLink "CartelWatch" (133 : Nat) ({ cls := "CartelWatch", name := "sum", desc := "(Ljava/util/List;LCartelWatch$Measure;)I" } : Jvm.MethodName)) ∈ lw_all := lw_g (lw_at lw_m2 225 rfl) rfl
theorem q487 : (Jvm.Cond.static ({ cls := "CartelWatch", name := "sum", desc := "(Ljava/util/List;LCartelWatch$Measure;)I" } : Jvm.MethodName)) ∈ lw_all := lw_g (lw_at lw_m2 226 rfl) rfl
theorem q488 : (Jvm.Cond.code ({ cls := "CartelWatch", name := "sum", desc := "(Ljava/util/List;LCartelWatch$Measure;)I" } : Jvm.MethodName) prog_1_method_1_code (4 : Nat) (Option.some Jvm.ClassFile.FieldType.int)) ∈ lw_all := lw_g (lw_at lw_m2 227 rfl) rfl
theorem q489 : (Jvm.Cond.interfaceEntry "CartelWatch" (11 : Nat)) ∈ lw_tbl := lw_at lw_m2 228 rfl
theorem q490 : (Jvm.Cond.methodLink "CartelWatch" (11 : Nat) ({ cls := "CartelWatch$Measure", name := "of", desc := "(Ljava/lang/Object;)I" } : Jvm.MethodName)) ∈ lw_all := lw_g (lw_at lw_m2 229 rfl) rfl
theorem q497 : (Jvm.Cond.instanceMethod ({ cls := "CartelWatch", name := "won", desc := "(I)I" } : Jvm.MethodName)) ∈ lw_all := lw_g (lw_at lw_m2 236 rfl) rfl
theorem q498 : (Jvm.Cond.selects "CartelWatch" ({ cls := "CartelWatch", name := "won", desc := "(I)I" } : Jvm.MethodName) ({ cls := "CartelWatch", name := "won", desc := "(I)I" } : Jvm.MethodName)) ∈ lw_all := lw_g (lw_at lw_m2 237 rfl) rfl
theorem q499 : (Jvm.Cond.code ({ cls := "CartelWatch", name := "won", desc := "(I)I" } : Jvm.MethodName) prog_1_method_15_code (2 : Nat) (Option.some Jvm.ClassFile.FieldType.int)) ∈ lw_all := lw_g (lw_at lw_m2 238 rfl) rfl
theorem q500 : (Jvm.Cond.static ({ cls := "CartelWatch", name := "lambda$won$1", desc := "(ILCartelWatch$Tender;)I" } : Jvm.MethodName)) ∈ lw_all := lw_g (lw_at lw_m2 239 rfl) rfl
theorem q501 : (Jvm.Cond.code ({ cls := "CartelWatch", name := "lambda$won$1", desc := "(ILCartelWatch$Tender;)I" } : Jvm.MethodName) prog_1_method_33_code (2 : Nat) (Option.some Jvm.ClassFile.FieldType.int)) ∈ lw_all := lw_g (lw_at lw_m3 0 rfl) rfl
theorem q506 : (Jvm.Cond.instanceMethod ({ cls := "CartelWatch", name := "suspicion", desc := "(II)I" } : Jvm.MethodName)) ∈ lw_all := lw_g (lw_at lw_m3 5 rfl) rfl
theorem q507 : (Jvm.Cond.selects "CartelWatch" ({ cls := "CartelWatch", name := "suspicion", desc := "(II)I" } : Jvm.MethodName) ({ cls := "CartelWatch", name := "suspicion", desc := "(II)I" } : Jvm.MethodName)) ∈ lw_all := lw_g (lw_at lw_m3 6 rfl) rfl
theorem q508 : (Jvm.Cond.code ({ cls := "CartelWatch", name := "suspicion", desc := "(II)I" } : Jvm.MethodName) prog_1_method_19_code (3 : Nat) (Option.some Jvm.ClassFile.FieldType.int)) ∈ lw_all := lw_g (lw_at lw_m3 7 rfl) rfl
theorem q509 : (Jvm.Cond.methodLink "CartelWatch" (159 : Nat) ({ cls := "CartelWatch", name := "pair", desc := "(II)LCartelWatch$Pair;" } : Jvm.MethodName)) ∈ lw_all := lw_g (lw_at lw_m3 8 rfl) rfl
theorem q510 : (Jvm.Cond.static ({ cls := "CartelWatch", name := "pair", desc := "(II)LCartelWatch$Pair;" } : Jvm.MethodName)) ∈ lw_all := lw_g (lw_at lw_m3 9 rfl) rfl
theorem q511 : (Jvm.Cond.code ({ cls := "CartelWatch", name := "pair", desc := "(II)LCartelWatch$Pair;" } : Jvm.MethodName) prog_1_method_5_code (2 : Nat) (Option.some (Jvm.ClassFile.FieldType.object "CartelWatch$Pair"))) ∈ lw_all := lw_g (lw_at lw_m3 10 rfl) rfl
theorem q512 : (Jvm.Cond.stringRef "CartelWatch" (58 : Nat) "the same bidder") ∈ lw_tbl := lw_at lw_m3 11 rfl
theorem q517 : (Jvm.Cond.instanceMethod ({ cls := "CartelWatch", name := "sign", desc := "(III)I" } : Jvm.MethodName)) ∈ lw_all := lw_g (lw_at lw_m3 16 rfl) rfl
theorem q518 : (Jvm.Cond.selects "CartelWatch" ({ cls := "CartelWatch", name := "sign", desc := "(III)I" } : Jvm.MethodName) ({ cls := "CartelWatch", name := "sign", desc := "(III)I" } : Jvm.MethodName)) ∈ lw_all := lw_g (lw_at lw_m3 17 rfl) rfl
theorem q519 : (Jvm.Cond.code ({ cls := "CartelWatch", name := "sign", desc := "(III)I" } : Jvm.MethodName) prog_1_method_20_code (4 : Nat) (Option.some Jvm.ClassFile.FieldType.int)) ∈ lw_all := lw_g (lw_at lw_m3 18 rfl) rfl
theorem q524 : (Jvm.Cond.instanceMethod ({ cls := "CartelWatch", name := "setMark", desc := "(I)I" } : Jvm.MethodName)) ∈ lw_all := lw_g (lw_at lw_m3 23 rfl) rfl
theorem q525 : (Jvm.Cond.selects "CartelWatch" ({ cls := "CartelWatch", name := "setMark", desc := "(I)I" } : Jvm.MethodName) ({ cls := "CartelWatch", name := "setMark", desc := "(I)I" } : Jvm.MethodName)) ∈ lw_all := lw_g (lw_at lw_m3 24 rfl) rfl
theorem q526 : (Jvm.Cond.code ({ cls := "CartelWatch", name := "setMark", desc := "(I)I" } : Jvm.MethodName) prog_1_method_21_code (3 : Nat) (Option.some Jvm.ClassFile.FieldType.int)) ∈ lw_all := lw_g (lw_at lw_m3 25 rfl) rfl
theorem q531 : (Jvm.Cond.instanceMethod ({ cls := "CartelWatch", name := "file", desc := "(II)I" } : Jvm.MethodName)) ∈ lw_all := lw_g (lw_at lw_m3 30 rfl) rfl
theorem q532 : (Jvm.Cond.selects "CartelWatch" ({ cls := "CartelWatch", name := "file", desc := "(II)I" } : Jvm.MethodName) ({ cls := "CartelWatch", name := "file", desc := "(II)I" } : Jvm.MethodName)) ∈ lw_all := lw_g (lw_at lw_m3 31 rfl) rfl
theorem q533 : (Jvm.Cond.code ({ cls := "CartelWatch", name := "file", desc := "(II)I" } : Jvm.MethodName) prog_1_method_23_code (7 : Nat) (Option.some Jvm.ClassFile.FieldType.int)) ∈ lw_all := lw_g (lw_at lw_m3 32 rfl) rfl
theorem q534 : (Jvm.Cond.static ({ cls := "CartelWatch", name := "lambda$file$2", desc := "(IILCartelWatch$Inquiry;)I" } : Jvm.MethodName)) ∈ lw_all := lw_g (lw_at lw_m3 33 rfl) rfl
theorem q535 : (Jvm.Cond.code ({ cls := "CartelWatch", name := "lambda$file$2", desc := "(IILCartelWatch$Inquiry;)I" } : Jvm.MethodName) prog_1_method_32_code (3 : Nat) (Option.some Jvm.ClassFile.FieldType.int)) ∈ lw_all := lw_g (lw_at lw_m3 34 rfl) rfl
theorem q536 : (Jvm.Cond.classLink "CartelWatch" (176 : Nat) "CartelWatch$Inquiry") ∈ lw_all := lw_g (lw_at lw_m3 35 rfl) rfl
theorem q538 : (Jvm.Cond.methodLink "CartelWatch" (178 : Nat) ({ cls := "CartelWatch$Inquiry", name := "<init>", desc := "(LCartelWatch$Pair;)V" } : Jvm.MethodName)) ∈ lw_all := lw_g (lw_at lw_m3 37 rfl) rfl
theorem q545 : (Jvm.Cond.fieldLinkNest "CartelWatch" (184 : Nat) "CartelWatch$Inquiry" "pair" "LCartelWatch$Pair;" "CartelWatch") ∈ lw_tbl := lw_at lw_m3 44 rfl
theorem q547 : (Jvm.Cond.fieldLinkNest "CartelWatch" (181 : Nat) "CartelWatch$Inquiry" "matters" "Ljava/util/List;" "CartelWatch") ∈ lw_tbl := lw_at lw_m3 46 rfl
theorem q549 : (Jvm.Cond.fieldLinkNest "CartelWatch" (199 : Nat) "CartelWatch$Inquiry" "told" "Ljava/util/List;" "CartelWatch") ∈ lw_tbl := lw_at lw_m3 48 rfl
theorem q551 : (Jvm.Cond.fieldLinkNest "CartelWatch" (202 : Nat) "CartelWatch$Inquiry" "tellings" "[I" "CartelWatch") ∈ lw_tbl := lw_at lw_m3 50 rfl
theorem q553 : (Jvm.Cond.fieldLinkNest "CartelWatch" (214 : Nat) "CartelWatch$Inquiry" "fines" "[I" "CartelWatch") ∈ lw_tbl := lw_at lw_m3 52 rfl
theorem q555 : (Jvm.Cond.fieldLinkNest "CartelWatch" (205 : Nat) "CartelWatch$Inquiry" "first" "I" "CartelWatch") ∈ lw_tbl := lw_at lw_m3 54 rfl
theorem q556 : (Jvm.Cond.fieldLinkNest "CartelWatch" (193 : Nat) "CartelWatch$Inquiry" "closed" "Z" "CartelWatch") ∈ lw_tbl := lw_at lw_m3 55 rfl
theorem q576 : (Jvm.Cond.instanceMethod ({ cls := "CartelWatch", name := "matters", desc := "(I)I" } : Jvm.MethodName)) ∈ lw_all := lw_g (lw_at lw_m3 75 rfl) rfl
theorem q577 : (Jvm.Cond.selects "CartelWatch" ({ cls := "CartelWatch", name := "matters", desc := "(I)I" } : Jvm.MethodName) ({ cls := "CartelWatch", name := "matters", desc := "(I)I" } : Jvm.MethodName)) ∈ lw_all := lw_g (lw_at lw_m3 76 rfl) rfl
theorem q578 : (Jvm.Cond.code ({ cls := "CartelWatch", name := "matters", desc := "(I)I" } : Jvm.MethodName) prog_1_method_24_code (3 : Nat) (Option.some Jvm.ClassFile.FieldType.int)) ∈ lw_all := lw_g (lw_at lw_m3 77 rfl) rfl
theorem q583 : (Jvm.Cond.instanceMethod ({ cls := "CartelWatch", name := "tell", desc := "(III)Z" } : Jvm.MethodName)) ∈ lw_all := lw_g (lw_at lw_m3 82 rfl) rfl
theorem q584 : (Jvm.Cond.selects "CartelWatch" ({ cls := "CartelWatch", name := "tell", desc := "(III)Z" } : Jvm.MethodName) ({ cls := "CartelWatch", name := "tell", desc := "(III)Z" } : Jvm.MethodName)) ∈ lw_all := lw_g (lw_at lw_m3 83 rfl) rfl
theorem q585 : (Jvm.Cond.code ({ cls := "CartelWatch", name := "tell", desc := "(III)Z" } : Jvm.MethodName) prog_1_method_26_code (7 : Nat) (Option.some Jvm.ClassFile.FieldType.boolean)) ∈ lw_all := lw_g (lw_at lw_m3 84 rfl) rfl
theorem q586 : (Jvm.Cond.methodLink "CartelWatch" (189 : Nat) ({ cls := "CartelWatch", name := "belongs", desc := "(LCartelWatch$Inquiry;I)V" } : Jvm.MethodName)) ∈ lw_all := lw_g (lw_at lw_m3 85 rfl) rfl
theorem q587 : (Jvm.Cond.static ({ cls := "CartelWatch", name := "belongs", desc := "(LCartelWatch$Inquiry;I)V" } : Jvm.MethodName)) ∈ lw_all := lw_g (lw_at lw_m3 86 rfl) rfl
theorem q588 : (Jvm.Cond.code ({ cls := "CartelWatch", name := "belongs", desc := "(LCartelWatch$Inquiry;I)V" } : Jvm.MethodName) prog_1_method_25_code (2 : Nat) (Option.none : Option Jvm.ClassFile.FieldType)) ∈ lw_all := lw_g (lw_at lw_m3 87 rfl) rfl
theorem q589 : (Jvm.Cond.stringRef "CartelWatch" (187 : Nat) "none of the pair") ∈ lw_tbl := lw_at lw_m3 88 rfl
theorem q590 : (Jvm.Cond.interfaceEntry "CartelWatch" (196 : Nat)) ∈ lw_tbl := lw_at lw_m3 89 rfl
theorem q591 : (Jvm.Cond.methodLink "CartelWatch" (196 : Nat) ({ cls := "java/util/List", name := "contains", desc := "(Ljava/lang/Object;)Z" } : Jvm.MethodName)) ∈ lw_all := lw_g (lw_at lw_m3 90 rfl) rfl
theorem q611 : (Jvm.Cond.selects "CartelWatch" ({ cls := "java/lang/Object", name := "equals", desc := "(Ljava/lang/Object;)Z" } : Jvm.MethodName) ({ cls := "java/lang/Object", name := "equals", desc := "(Ljava/lang/Object;)Z" } : Jvm.MethodName)) ∈ lw_all := lw_g (lw_at lw_m3 110 rfl) rfl
theorem q635 : (Jvm.Cond.instanceMethod ({ cls := "CartelWatch", name := "compensate", desc := "(II)I" } : Jvm.MethodName)) ∈ lw_all := lw_g (lw_at lw_m3 134 rfl) rfl
theorem q636 : (Jvm.Cond.selects "CartelWatch" ({ cls := "CartelWatch", name := "compensate", desc := "(II)I" } : Jvm.MethodName) ({ cls := "CartelWatch", name := "compensate", desc := "(II)I" } : Jvm.MethodName)) ∈ lw_all := lw_g (lw_at lw_m3 135 rfl) rfl
theorem q637 : (Jvm.Cond.code ({ cls := "CartelWatch", name := "compensate", desc := "(II)I" } : Jvm.MethodName) prog_1_method_27_code (3 : Nat) (Option.some Jvm.ClassFile.FieldType.int)) ∈ lw_all := lw_g (lw_at lw_m3 136 rfl) rfl
theorem q642 : (Jvm.Cond.instanceMethod ({ cls := "CartelWatch", name := "close", desc := "(I)I" } : Jvm.MethodName)) ∈ lw_all := lw_g (lw_at lw_m3 141 rfl) rfl
theorem q643 : (Jvm.Cond.selects "CartelWatch" ({ cls := "CartelWatch", name := "close", desc := "(I)I" } : Jvm.MethodName) ({ cls := "CartelWatch", name := "close", desc := "(I)I" } : Jvm.MethodName)) ∈ lw_all := lw_g (lw_at lw_m3 142 rfl) rfl
theorem q644 : (Jvm.Cond.code ({ cls := "CartelWatch", name := "close", desc := "(I)I" } : Jvm.MethodName) prog_1_method_29_code (3 : Nat) (Option.some Jvm.ClassFile.FieldType.int)) ∈ lw_all := lw_g (lw_at lw_m3 143 rfl) rfl
theorem q645 : (Jvm.Cond.methodLink "CartelWatch" (220 : Nat) ({ cls := "CartelWatch", name := "fineFor", desc := "(LCartelWatch$Inquiry;I)I" } : Jvm.MethodName)) ∈ lw_all := lw_g (lw_at lw_m3 144 rfl) rfl
theorem q646 : (Jvm.Cond.privateMethod ({ cls := "CartelWatch", name := "fineFor", desc := "(LCartelWatch$Inquiry;I)I" } : Jvm.MethodName)) ∈ lw_tbl := lw_at lw_m3 145 rfl
theorem q647 : (Jvm.Cond.instanceMethod ({ cls := "CartelWatch", name := "fineFor", desc := "(LCartelWatch$Inquiry;I)I" } : Jvm.MethodName)) ∈ lw_all := lw_g (lw_at lw_m3 146 rfl) rfl
theorem q648 : (Jvm.Cond.code ({ cls := "CartelWatch", name := "fineFor", desc := "(LCartelWatch$Inquiry;I)I" } : Jvm.MethodName) prog_1_method_28_code (5 : Nat) (Option.some Jvm.ClassFile.FieldType.int)) ∈ lw_all := lw_g (lw_at lw_m3 147 rfl) rfl
theorem q649 : (Jvm.Cond.methodLink "CartelWatch" (208 : Nat) ({ cls := "CartelWatch$Inquiry", name := "fineOf", desc := "(II)I" } : Jvm.MethodName)) ∈ lw_all := lw_g (lw_at lw_m3 148 rfl) rfl
theorem q655 : (Jvm.Cond.methodLink "CartelWatch" (211 : Nat) ({ cls := "java/lang/Math", name := "min", desc := "(II)I" } : Jvm.MethodName)) ∈ lw_all := lw_g (lw_at lw_m3 154 rfl) rfl
theorem q660 : (Jvm.Cond.instanceMethod ({ cls := "CartelWatch", name := "fine", desc := "(II)I" } : Jvm.MethodName)) ∈ lw_all := lw_g (lw_at lw_m3 159 rfl) rfl
theorem q661 : (Jvm.Cond.selects "CartelWatch" ({ cls := "CartelWatch", name := "fine", desc := "(II)I" } : Jvm.MethodName) ({ cls := "CartelWatch", name := "fine", desc := "(II)I" } : Jvm.MethodName)) ∈ lw_all := lw_g (lw_at lw_m3 160 rfl) rfl
theorem q662 : (Jvm.Cond.code ({ cls := "CartelWatch", name := "fine", desc := "(II)I" } : Jvm.MethodName) prog_1_method_30_code (4 : Nat) (Option.some Jvm.ClassFile.FieldType.int)) ∈ lw_all := lw_g (lw_at lw_m3 161 rfl) rfl
theorem q667 : (Jvm.Cond.instanceMethod ({ cls := "CartelWatch", name := "firstTeller", desc := "(I)I" } : Jvm.MethodName)) ∈ lw_all := lw_g (lw_at lw_m3 166 rfl) rfl
theorem q668 : (Jvm.Cond.selects "CartelWatch" ({ cls := "CartelWatch", name := "firstTeller", desc := "(I)I" } : Jvm.MethodName) ({ cls := "CartelWatch", name := "firstTeller", desc := "(I)I" } : Jvm.MethodName)) ∈ lw_all := lw_g (lw_at lw_m3 167 rfl) rfl
theorem q669 : (Jvm.Cond.code ({ cls := "CartelWatch", name := "firstTeller", desc := "(I)I" } : Jvm.MethodName) prog_1_method_31_code (3 : Nat) (Option.some Jvm.ClassFile.FieldType.int)) ∈ lw_all := lw_g (lw_at lw_m3 168 rfl) rfl
theorem q877 : (Jvm.Cond.castable "CartelWatch" "java/lang/Object") ∈ lw_tbl := lw_at lw_m4 136 rfl
theorem in_X1 : ∀ w ∈ wsX10, w ∈ lw_all := lw_in wsX10 [84, 86, 88, 90] (by decide +kernel) (by decide +kernel)
/-! CartelWatch$Tender -/
set_option maxRecDepth 100000
def RX3 : String := "CartelWatch$Tender"
def TX3 : u_T := fun k => match k with
  | 0 => ("CartelWatch$Tender", "bids", "[LCartelWatch$Bid;", true)
  | 1 => ("CartelWatch$Tender", "open", "Z", false)
  | 2 => ("CartelWatch$Tender", "winner", "I", false)
  | 3 => ("CartelWatch$Tender", "passedTo", "I", false)
  | _ => ("CartelWatch$Tender", "part", "I", false)
def tyX3 : Nat → FieldType := fun k => match k with
  | 0 => .array (.object "CartelWatch$Bid")
  | 1 => .boolean
  | 2 => .int
  | 3 => .int
  | _ => .int
abbrev wsX30 : List Cond := u_ws RX3 TX3 5
theorem nmX3 : ∀ a, a < 5 → ∀ b, b < 5 → a ≠ b → (TX3 a).2.1 ≠ (TX3 b).2.1 := by decide +kernel
theorem tyX3_ok : ∀ k, k < 5 → parseFieldDescriptor (TX3 k).2.2.1 = some (tyX3 k) := by decide +kernel
abbrev cX3_hasWithdrawn : ByteArray := prog_6_method_3_code
def yX3_hasWithdrawn : MethodName := ⟨RX3, "hasWithdrawn", "(I)Z"⟩
def dkwX3_hasWithdrawn_1 : List UInt8 := [167, 0, 4, 3, 172]
abbrev dktX3_hasWithdrawn_1 : List UInt8 := dkwX3_hasWithdrawn_1 ++ []
def dkwX3_hasWithdrawn_0 : List UInt8 := [42, 180, 0, 11, 27, 50, 198, 0, 19, 42, 180, 0, 11, 27, 50, 180, 0, 28, 153, 0, 7, 4]
abbrev dktX3_hasWithdrawn_0 : List UInt8 := dkwX3_hasWithdrawn_0 ++ dktX3_hasWithdrawn_1
theorem dksX3_hasWithdrawn_0 : cX3_hasWithdrawn.data.toList.drop 0 = dktX3_hasWithdrawn_0 := by decide +kernel
theorem dksX3_hasWithdrawn_1 : cX3_hasWithdrawn.data.toList.drop 22 = dktX3_hasWithdrawn_1 := dk_seg dksX3_hasWithdrawn_0 22 rfl rfl
theorem dX3_hasWithdrawn_0 : decode cX3_hasWithdrawn 0 = .ok (.aload_n 0, 1) := dk_42 (dk_at dksX3_hasWithdrawn_0 0 rfl rfl)
theorem dX3_hasWithdrawn_1 : decode cX3_hasWithdrawn 1 = .ok (.getfield 11, 3) := dk_180 0 11 (dk_at dksX3_hasWithdrawn_0 1 rfl rfl)
theorem dX3_hasWithdrawn_4 : decode cX3_hasWithdrawn 4 = .ok (.iload_n 1, 1) := dk_27 (dk_at dksX3_hasWithdrawn_0 4 rfl rfl)
theorem dX3_hasWithdrawn_5 : decode cX3_hasWithdrawn 5 = .ok (.aaload, 1) := dk_50 (dk_at dksX3_hasWithdrawn_0 5 rfl rfl)
theorem dX3_hasWithdrawn_6 : decode cX3_hasWithdrawn 6 = .ok (.ifnull 19, 3) := dk_198 0 19 (dk_at dksX3_hasWithdrawn_0 6 rfl rfl)
theorem dX3_hasWithdrawn_9 : decode cX3_hasWithdrawn 9 = .ok (.aload_n 0, 1) := dk_42 (dk_at dksX3_hasWithdrawn_0 9 rfl rfl)
theorem dX3_hasWithdrawn_10 : decode cX3_hasWithdrawn 10 = .ok (.getfield 11, 3) := dk_180 0 11 (dk_at dksX3_hasWithdrawn_0 10 rfl rfl)
theorem dX3_hasWithdrawn_13 : decode cX3_hasWithdrawn 13 = .ok (.iload_n 1, 1) := dk_27 (dk_at dksX3_hasWithdrawn_0 13 rfl rfl)
theorem dX3_hasWithdrawn_14 : decode cX3_hasWithdrawn 14 = .ok (.aaload, 1) := dk_50 (dk_at dksX3_hasWithdrawn_0 14 rfl rfl)
theorem dX3_hasWithdrawn_15 : decode cX3_hasWithdrawn 15 = .ok (.getfield 28, 3) := dk_180 0 28 (dk_at dksX3_hasWithdrawn_0 15 rfl rfl)
theorem dX3_hasWithdrawn_18 : decode cX3_hasWithdrawn 18 = .ok (.ifCond .eq 7, 3) := dk_153 0 7 (dk_at dksX3_hasWithdrawn_0 18 rfl rfl)
theorem dX3_hasWithdrawn_21 : decode cX3_hasWithdrawn 21 = .ok (.iconst 1, 1) := dk_4 (dk_at dksX3_hasWithdrawn_0 21 rfl rfl)
theorem dX3_hasWithdrawn_22 : decode cX3_hasWithdrawn 22 = .ok (.goto 4, 3) := dk_167 0 4 (dk_at dksX3_hasWithdrawn_1 0 rfl rfl)
theorem dX3_hasWithdrawn_25 : decode cX3_hasWithdrawn 25 = .ok (.iconst 0, 1) := dk_3 (dk_at dksX3_hasWithdrawn_1 3 rfl rfl)
theorem dX3_hasWithdrawn_26 : decode cX3_hasWithdrawn 26 = .ok (.ireturn, 1) := dk_172 (dk_at dksX3_hasWithdrawn_1 4 rfl rfl)
abbrev cX3_stands : ByteArray := prog_6_method_2_code
def yX3_stands : MethodName := ⟨RX3, "stands", "(I)Z"⟩
def dkwX3_stands_1 : List UInt8 := [167, 0, 4, 3, 172]
abbrev dktX3_stands_1 : List UInt8 := dkwX3_stands_1 ++ []
def dkwX3_stands_0 : List UInt8 := [42, 180, 0, 11, 27, 50, 198, 0, 19, 42, 180, 0, 11, 27, 50, 180, 0, 28, 154, 0, 7, 4]
abbrev dktX3_stands_0 : List UInt8 := dkwX3_stands_0 ++ dktX3_stands_1
theorem dksX3_stands_0 : cX3_stands.data.toList.drop 0 = dktX3_stands_0 := by decide +kernel
theorem dksX3_stands_1 : cX3_stands.data.toList.drop 22 = dktX3_stands_1 := dk_seg dksX3_stands_0 22 rfl rfl
theorem dX3_stands_0 : decode cX3_stands 0 = .ok (.aload_n 0, 1) := dk_42 (dk_at dksX3_stands_0 0 rfl rfl)
theorem dX3_stands_1 : decode cX3_stands 1 = .ok (.getfield 11, 3) := dk_180 0 11 (dk_at dksX3_stands_0 1 rfl rfl)
theorem dX3_stands_4 : decode cX3_stands 4 = .ok (.iload_n 1, 1) := dk_27 (dk_at dksX3_stands_0 4 rfl rfl)
theorem dX3_stands_5 : decode cX3_stands 5 = .ok (.aaload, 1) := dk_50 (dk_at dksX3_stands_0 5 rfl rfl)
theorem dX3_stands_6 : decode cX3_stands 6 = .ok (.ifnull 19, 3) := dk_198 0 19 (dk_at dksX3_stands_0 6 rfl rfl)
theorem dX3_stands_9 : decode cX3_stands 9 = .ok (.aload_n 0, 1) := dk_42 (dk_at dksX3_stands_0 9 rfl rfl)
theorem dX3_stands_10 : decode cX3_stands 10 = .ok (.getfield 11, 3) := dk_180 0 11 (dk_at dksX3_stands_0 10 rfl rfl)
theorem dX3_stands_13 : decode cX3_stands 13 = .ok (.iload_n 1, 1) := dk_27 (dk_at dksX3_stands_0 13 rfl rfl)
theorem dX3_stands_14 : decode cX3_stands 14 = .ok (.aaload, 1) := dk_50 (dk_at dksX3_stands_0 14 rfl rfl)
theorem dX3_stands_15 : decode cX3_stands 15 = .ok (.getfield 28, 3) := dk_180 0 28 (dk_at dksX3_stands_0 15 rfl rfl)
theorem dX3_stands_18 : decode cX3_stands 18 = .ok (.ifCond .ne 7, 3) := dk_154 0 7 (dk_at dksX3_stands_0 18 rfl rfl)
theorem dX3_stands_21 : decode cX3_stands 21 = .ok (.iconst 1, 1) := dk_4 (dk_at dksX3_stands_0 21 rfl rfl)
theorem dX3_stands_22 : decode cX3_stands 22 = .ok (.goto 4, 3) := dk_167 0 4 (dk_at dksX3_stands_1 0 rfl rfl)
theorem dX3_stands_25 : decode cX3_stands 25 = .ok (.iconst 0, 1) := dk_3 (dk_at dksX3_stands_1 3 rfl rfl)
theorem dX3_stands_26 : decode cX3_stands 26 = .ok (.ireturn, 1) := dk_172 (dk_at dksX3_stands_1 4 rfl rfl)
abbrev cX3_sum : ByteArray := prog_6_method_4_code
def yX3_sum : MethodName := ⟨RX3, "sum", "()I"⟩
def dkwX3_sum_0 : List UInt8 := [42, 180, 0, 11, 42, 180, 0, 21, 50, 180, 0, 31, 172]
abbrev dktX3_sum_0 : List UInt8 := dkwX3_sum_0 ++ []
theorem dksX3_sum_0 : cX3_sum.data.toList.drop 0 = dktX3_sum_0 := by decide +kernel
theorem dX3_sum_0 : decode cX3_sum 0 = .ok (.aload_n 0, 1) := dk_42 (dk_at dksX3_sum_0 0 rfl rfl)
theorem dX3_sum_1 : decode cX3_sum 1 = .ok (.getfield 11, 3) := dk_180 0 11 (dk_at dksX3_sum_0 1 rfl rfl)
theorem dX3_sum_4 : decode cX3_sum 4 = .ok (.aload_n 0, 1) := dk_42 (dk_at dksX3_sum_0 4 rfl rfl)
theorem dX3_sum_5 : decode cX3_sum 5 = .ok (.getfield 21, 3) := dk_180 0 21 (dk_at dksX3_sum_0 5 rfl rfl)
theorem dX3_sum_8 : decode cX3_sum 8 = .ok (.aaload, 1) := dk_50 (dk_at dksX3_sum_0 8 rfl rfl)
theorem dX3_sum_9 : decode cX3_sum 9 = .ok (.getfield 31, 3) := dk_180 0 31 (dk_at dksX3_sum_0 9 rfl rfl)
theorem dX3_sum_12 : decode cX3_sum 12 = .ok (.ireturn, 1) := dk_172 (dk_at dksX3_sum_0 12 rfl rfl)
abbrev cX3_init : ByteArray := prog_6_method_1_code
def yX3_init : MethodName := ⟨RX3, "<init>", "()V"⟩
def dkwX3_init_1 : List UInt8 := [2, 181, 0, 25, 177]
abbrev dktX3_init_1 : List UInt8 := dkwX3_init_1 ++ []
def dkwX3_init_0 : List UInt8 := [42, 183, 0, 3, 42, 16, 7, 189, 0, 9, 181, 0, 11, 42, 4, 181, 0, 17, 42, 2, 181, 0, 21, 42]
abbrev dktX3_init_0 : List UInt8 := dkwX3_init_0 ++ dktX3_init_1
theorem dksX3_init_0 : cX3_init.data.toList.drop 0 = dktX3_init_0 := by decide +kernel
theorem dksX3_init_1 : cX3_init.data.toList.drop 24 = dktX3_init_1 := dk_seg dksX3_init_0 24 rfl rfl
theorem dX3_init_0 : decode cX3_init 0 = .ok (.aload_n 0, 1) := dk_42 (dk_at dksX3_init_0 0 rfl rfl)
theorem dX3_init_1 : decode cX3_init 1 = .ok (.invokespecial 3, 3) := dk_183 0 3 (dk_at dksX3_init_0 1 rfl rfl)
theorem dX3_init_4 : decode cX3_init 4 = .ok (.aload_n 0, 1) := dk_42 (dk_at dksX3_init_0 4 rfl rfl)
theorem dX3_init_5 : decode cX3_init 5 = .ok (.bipush 7, 2) := dk_16 7 (dk_at dksX3_init_0 5 rfl rfl)
theorem dX3_init_7 : decode cX3_init 7 = .ok (.anewarray 9, 3) := dk_189 0 9 (dk_at dksX3_init_0 7 rfl rfl)
theorem dX3_init_10 : decode cX3_init 10 = .ok (.putfield 11, 3) := dk_181 0 11 (dk_at dksX3_init_0 10 rfl rfl)
theorem dX3_init_13 : decode cX3_init 13 = .ok (.aload_n 0, 1) := dk_42 (dk_at dksX3_init_0 13 rfl rfl)
theorem dX3_init_14 : decode cX3_init 14 = .ok (.iconst 1, 1) := dk_4 (dk_at dksX3_init_0 14 rfl rfl)
theorem dX3_init_15 : decode cX3_init 15 = .ok (.putfield 17, 3) := dk_181 0 17 (dk_at dksX3_init_0 15 rfl rfl)
theorem dX3_init_18 : decode cX3_init 18 = .ok (.aload_n 0, 1) := dk_42 (dk_at dksX3_init_0 18 rfl rfl)
theorem dX3_init_19 : decode cX3_init 19 = .ok (.iconst (-1), 1) := dk_2 (dk_at dksX3_init_0 19 rfl rfl)
theorem dX3_init_20 : decode cX3_init 20 = .ok (.putfield 21, 3) := dk_181 0 21 (dk_at dksX3_init_0 20 rfl rfl)
theorem dX3_init_23 : decode cX3_init 23 = .ok (.aload_n 0, 1) := dk_42 (dk_at dksX3_init_0 23 rfl rfl)
theorem dX3_init_24 : decode cX3_init 24 = .ok (.iconst (-1), 1) := dk_2 (dk_at dksX3_init_1 0 rfl rfl)
theorem dX3_init_25 : decode cX3_init 25 = .ok (.putfield 25, 3) := dk_181 0 25 (dk_at dksX3_init_1 1 rfl rfl)
theorem dX3_init_28 : decode cX3_init 28 = .ok (.return_, 1) := dk_177 (dk_at dksX3_init_1 4 rfl rfl)
abbrev cX3_least : ByteArray := prog_6_method_5_code
def yX3_least : MethodName := ⟨RX3, "least", "()I"⟩
def dkwX3_least_2 : List UInt8 := [3, 62, 29, 153, 0, 7, 28, 167, 0, 4, 27, 60, 132, 2, 1, 167, 255, 197, 27, 172]
abbrev dktX3_least_2 : List UInt8 := dkwX3_least_2 ++ []
def dkwX3_least_1 : List UInt8 := [180, 0, 11, 28, 50, 180, 0, 31, 42, 180, 0, 11, 27, 50, 180, 0, 31, 162, 0, 7, 4, 167, 0, 4]
abbrev dktX3_least_1 : List UInt8 := dkwX3_least_1 ++ dktX3_least_2
def dkwX3_least_0 : List UInt8 := [2, 60, 3, 61, 28, 16, 7, 162, 0, 59, 42, 28, 182, 0, 34, 153, 0, 33, 27, 2, 159, 0, 24, 42]
abbrev dktX3_least_0 : List UInt8 := dkwX3_least_0 ++ dktX3_least_1
theorem dksX3_least_0 : cX3_least.data.toList.drop 0 = dktX3_least_0 := by decide +kernel
theorem dksX3_least_1 : cX3_least.data.toList.drop 24 = dktX3_least_1 := dk_seg dksX3_least_0 24 rfl rfl
theorem dksX3_least_2 : cX3_least.data.toList.drop 48 = dktX3_least_2 := dk_seg dksX3_least_1 24 rfl rfl
theorem dX3_least_0 : decode cX3_least 0 = .ok (.iconst (-1), 1) := dk_2 (dk_at dksX3_least_0 0 rfl rfl)
theorem dX3_least_1 : decode cX3_least 1 = .ok (.istore_n 1, 1) := dk_60 (dk_at dksX3_least_0 1 rfl rfl)
theorem dX3_least_2 : decode cX3_least 2 = .ok (.iconst 0, 1) := dk_3 (dk_at dksX3_least_0 2 rfl rfl)
theorem dX3_least_3 : decode cX3_least 3 = .ok (.istore_n 2, 1) := dk_61 (dk_at dksX3_least_0 3 rfl rfl)
theorem dX3_least_4 : decode cX3_least 4 = .ok (.iload_n 2, 1) := dk_28 (dk_at dksX3_least_0 4 rfl rfl)
theorem dX3_least_5 : decode cX3_least 5 = .ok (.bipush 7, 2) := dk_16 7 (dk_at dksX3_least_0 5 rfl rfl)
theorem dX3_least_7 : decode cX3_least 7 = .ok (.if_icmp .ge 59, 3) := dk_162 0 59 (dk_at dksX3_least_0 7 rfl rfl)
theorem dX3_least_10 : decode cX3_least 10 = .ok (.aload_n 0, 1) := dk_42 (dk_at dksX3_least_0 10 rfl rfl)
theorem dX3_least_11 : decode cX3_least 11 = .ok (.iload_n 2, 1) := dk_28 (dk_at dksX3_least_0 11 rfl rfl)
theorem dX3_least_12 : decode cX3_least 12 = .ok (.invokevirtual 34, 3) := dk_182 0 34 (dk_at dksX3_least_0 12 rfl rfl)
theorem dX3_least_15 : decode cX3_least 15 = .ok (.ifCond .eq 33, 3) := dk_153 0 33 (dk_at dksX3_least_0 15 rfl rfl)
theorem dX3_least_18 : decode cX3_least 18 = .ok (.iload_n 1, 1) := dk_27 (dk_at dksX3_least_0 18 rfl rfl)
theorem dX3_least_19 : decode cX3_least 19 = .ok (.iconst (-1), 1) := dk_2 (dk_at dksX3_least_0 19 rfl rfl)
theorem dX3_least_20 : decode cX3_least 20 = .ok (.if_icmp .eq 24, 3) := dk_159 0 24 (dk_at dksX3_least_0 20 rfl rfl)
theorem dX3_least_23 : decode cX3_least 23 = .ok (.aload_n 0, 1) := dk_42 (dk_at dksX3_least_0 23 rfl rfl)
theorem dX3_least_24 : decode cX3_least 24 = .ok (.getfield 11, 3) := dk_180 0 11 (dk_at dksX3_least_1 0 rfl rfl)
theorem dX3_least_27 : decode cX3_least 27 = .ok (.iload_n 2, 1) := dk_28 (dk_at dksX3_least_1 3 rfl rfl)
theorem dX3_least_28 : decode cX3_least 28 = .ok (.aaload, 1) := dk_50 (dk_at dksX3_least_1 4 rfl rfl)
theorem dX3_least_29 : decode cX3_least 29 = .ok (.getfield 31, 3) := dk_180 0 31 (dk_at dksX3_least_1 5 rfl rfl)
theorem dX3_least_32 : decode cX3_least 32 = .ok (.aload_n 0, 1) := dk_42 (dk_at dksX3_least_1 8 rfl rfl)
theorem dX3_least_33 : decode cX3_least 33 = .ok (.getfield 11, 3) := dk_180 0 11 (dk_at dksX3_least_1 9 rfl rfl)
theorem dX3_least_36 : decode cX3_least 36 = .ok (.iload_n 1, 1) := dk_27 (dk_at dksX3_least_1 12 rfl rfl)
theorem dX3_least_37 : decode cX3_least 37 = .ok (.aaload, 1) := dk_50 (dk_at dksX3_least_1 13 rfl rfl)
theorem dX3_least_38 : decode cX3_least 38 = .ok (.getfield 31, 3) := dk_180 0 31 (dk_at dksX3_least_1 14 rfl rfl)
theorem dX3_least_41 : decode cX3_least 41 = .ok (.if_icmp .ge 7, 3) := dk_162 0 7 (dk_at dksX3_least_1 17 rfl rfl)
theorem dX3_least_44 : decode cX3_least 44 = .ok (.iconst 1, 1) := dk_4 (dk_at dksX3_least_1 20 rfl rfl)
theorem dX3_least_45 : decode cX3_least 45 = .ok (.goto 4, 3) := dk_167 0 4 (dk_at dksX3_least_1 21 rfl rfl)
theorem dX3_least_48 : decode cX3_least 48 = .ok (.iconst 0, 1) := dk_3 (dk_at dksX3_least_2 0 rfl rfl)
theorem dX3_least_49 : decode cX3_least 49 = .ok (.istore_n 3, 1) := dk_62 (dk_at dksX3_least_2 1 rfl rfl)
theorem dX3_least_50 : decode cX3_least 50 = .ok (.iload_n 3, 1) := dk_29 (dk_at dksX3_least_2 2 rfl rfl)
theorem dX3_least_51 : decode cX3_least 51 = .ok (.ifCond .eq 7, 3) := dk_153 0 7 (dk_at dksX3_least_2 3 rfl rfl)
theorem dX3_least_54 : decode cX3_least 54 = .ok (.iload_n 2, 1) := dk_28 (dk_at dksX3_least_2 6 rfl rfl)
theorem dX3_least_55 : decode cX3_least 55 = .ok (.goto 4, 3) := dk_167 0 4 (dk_at dksX3_least_2 7 rfl rfl)
theorem dX3_least_58 : decode cX3_least 58 = .ok (.iload_n 1, 1) := dk_27 (dk_at dksX3_least_2 10 rfl rfl)
theorem dX3_least_59 : decode cX3_least 59 = .ok (.istore_n 1, 1) := dk_60 (dk_at dksX3_least_2 11 rfl rfl)
theorem dX3_least_60 : decode cX3_least 60 = .ok (.iinc 2 1, 3) := dk_132 2 1 (dk_at dksX3_least_2 12 rfl rfl)
theorem dX3_least_63 : decode cX3_least 63 = .ok (.goto (-59), 3) := dk_167 255 197 (dk_at dksX3_least_2 15 rfl rfl)
theorem dX3_least_66 : decode cX3_least 66 = .ok (.iload_n 1, 1) := dk_27 (dk_at dksX3_least_2 18 rfl rfl)
theorem dX3_least_67 : decode cX3_least 67 = .ok (.ireturn, 1) := dk_172 (dk_at dksX3_least_2 19 rfl rfl)
abbrev cX3_turnover : ByteArray := prog_6_method_6_code
def yX3_turnover : MethodName := ⟨RX3, "turnover", "(I)I"⟩
def dkwX3_turnover_1 : List UInt8 := [180, 0, 25, 27, 160, 0, 10, 42, 180, 0, 41, 167, 0, 4, 3, 96, 172]
abbrev dktX3_turnover_1 : List UInt8 := dkwX3_turnover_1 ++ []
def dkwX3_turnover_0 : List UInt8 := [42, 180, 0, 21, 27, 160, 0, 15, 42, 182, 0, 38, 42, 180, 0, 41, 100, 167, 0, 4, 3, 61, 28, 42]
abbrev dktX3_turnover_0 : List UInt8 := dkwX3_turnover_0 ++ dktX3_turnover_1
theorem dksX3_turnover_0 : cX3_turnover.data.toList.drop 0 = dktX3_turnover_0 := by decide +kernel
theorem dksX3_turnover_1 : cX3_turnover.data.toList.drop 24 = dktX3_turnover_1 := dk_seg dksX3_turnover_0 24 rfl rfl
theorem dX3_turnover_0 : decode cX3_turnover 0 = .ok (.aload_n 0, 1) := dk_42 (dk_at dksX3_turnover_0 0 rfl rfl)
theorem dX3_turnover_1 : decode cX3_turnover 1 = .ok (.getfield 21, 3) := dk_180 0 21 (dk_at dksX3_turnover_0 1 rfl rfl)
theorem dX3_turnover_4 : decode cX3_turnover 4 = .ok (.iload_n 1, 1) := dk_27 (dk_at dksX3_turnover_0 4 rfl rfl)
theorem dX3_turnover_5 : decode cX3_turnover 5 = .ok (.if_icmp .ne 15, 3) := dk_160 0 15 (dk_at dksX3_turnover_0 5 rfl rfl)
theorem dX3_turnover_8 : decode cX3_turnover 8 = .ok (.aload_n 0, 1) := dk_42 (dk_at dksX3_turnover_0 8 rfl rfl)
theorem dX3_turnover_9 : decode cX3_turnover 9 = .ok (.invokevirtual 38, 3) := dk_182 0 38 (dk_at dksX3_turnover_0 9 rfl rfl)
theorem dX3_turnover_12 : decode cX3_turnover 12 = .ok (.aload_n 0, 1) := dk_42 (dk_at dksX3_turnover_0 12 rfl rfl)
theorem dX3_turnover_13 : decode cX3_turnover 13 = .ok (.getfield 41, 3) := dk_180 0 41 (dk_at dksX3_turnover_0 13 rfl rfl)
theorem dX3_turnover_16 : decode cX3_turnover 16 = .ok (.isub, 1) := dk_100 (dk_at dksX3_turnover_0 16 rfl rfl)
theorem dX3_turnover_17 : decode cX3_turnover 17 = .ok (.goto 4, 3) := dk_167 0 4 (dk_at dksX3_turnover_0 17 rfl rfl)
theorem dX3_turnover_20 : decode cX3_turnover 20 = .ok (.iconst 0, 1) := dk_3 (dk_at dksX3_turnover_0 20 rfl rfl)
theorem dX3_turnover_21 : decode cX3_turnover 21 = .ok (.istore_n 2, 1) := dk_61 (dk_at dksX3_turnover_0 21 rfl rfl)
theorem dX3_turnover_22 : decode cX3_turnover 22 = .ok (.iload_n 2, 1) := dk_28 (dk_at dksX3_turnover_0 22 rfl rfl)
theorem dX3_turnover_23 : decode cX3_turnover 23 = .ok (.aload_n 0, 1) := dk_42 (dk_at dksX3_turnover_0 23 rfl rfl)
theorem dX3_turnover_24 : decode cX3_turnover 24 = .ok (.getfield 25, 3) := dk_180 0 25 (dk_at dksX3_turnover_1 0 rfl rfl)
theorem dX3_turnover_27 : decode cX3_turnover 27 = .ok (.iload_n 1, 1) := dk_27 (dk_at dksX3_turnover_1 3 rfl rfl)
theorem dX3_turnover_28 : decode cX3_turnover 28 = .ok (.if_icmp .ne 10, 3) := dk_160 0 10 (dk_at dksX3_turnover_1 4 rfl rfl)
theorem dX3_turnover_31 : decode cX3_turnover 31 = .ok (.aload_n 0, 1) := dk_42 (dk_at dksX3_turnover_1 7 rfl rfl)
theorem dX3_turnover_32 : decode cX3_turnover 32 = .ok (.getfield 41, 3) := dk_180 0 41 (dk_at dksX3_turnover_1 8 rfl rfl)
theorem dX3_turnover_35 : decode cX3_turnover 35 = .ok (.goto 4, 3) := dk_167 0 4 (dk_at dksX3_turnover_1 11 rfl rfl)
theorem dX3_turnover_38 : decode cX3_turnover 38 = .ok (.iconst 0, 1) := dk_3 (dk_at dksX3_turnover_1 14 rfl rfl)
theorem dX3_turnover_39 : decode cX3_turnover 39 = .ok (.iadd, 1) := dk_96 (dk_at dksX3_turnover_1 15 rfl rfl)
theorem dX3_turnover_40 : decode cX3_turnover 40 = .ok (.ireturn, 1) := dk_172 (dk_at dksX3_turnover_1 16 rfl rfl)
theorem q31 : (Jvm.Cond.initialized "CartelWatch$Tender") ∈ lw_all := lw_g (lw_at lw_m1 10 rfl) rfl
theorem q166 : (Jvm.Cond.instanceMethod ({ cls := "CartelWatch$Tender", name := "hasWithdrawn", desc := "(I)Z" } : Jvm.MethodName)) ∈ lw_all := lw_g (lw_at lw_m1 145 rfl) rfl
theorem q167 : (Jvm.Cond.selects "CartelWatch$Tender" ({ cls := "CartelWatch$Tender", name := "hasWithdrawn", desc := "(I)Z" } : Jvm.MethodName) ({ cls := "CartelWatch$Tender", name := "hasWithdrawn", desc := "(I)Z" } : Jvm.MethodName)) ∈ lw_all := lw_g (lw_at lw_m1 146 rfl) rfl
theorem q168 : (Jvm.Cond.code ({ cls := "CartelWatch$Tender", name := "hasWithdrawn", desc := "(I)Z" } : Jvm.MethodName) prog_6_method_3_code (2 : Nat) (Option.some Jvm.ClassFile.FieldType.boolean)) ∈ lw_all := lw_g (lw_at lw_m1 147 rfl) rfl
theorem q170 : (Jvm.Cond.instanceMethod ({ cls := "CartelWatch$Tender", name := "stands", desc := "(I)Z" } : Jvm.MethodName)) ∈ lw_all := lw_g (lw_at lw_m1 149 rfl) rfl
theorem q171 : (Jvm.Cond.selects "CartelWatch$Tender" ({ cls := "CartelWatch$Tender", name := "stands", desc := "(I)Z" } : Jvm.MethodName) ({ cls := "CartelWatch$Tender", name := "stands", desc := "(I)Z" } : Jvm.MethodName)) ∈ lw_all := lw_g (lw_at lw_m1 150 rfl) rfl
theorem q172 : (Jvm.Cond.code ({ cls := "CartelWatch$Tender", name := "stands", desc := "(I)Z" } : Jvm.MethodName) prog_6_method_2_code (2 : Nat) (Option.some Jvm.ClassFile.FieldType.boolean)) ∈ lw_all := lw_g (lw_at lw_m1 151 rfl) rfl
theorem q174 : (Jvm.Cond.instanceMethod ({ cls := "CartelWatch$Tender", name := "sum", desc := "()I" } : Jvm.MethodName)) ∈ lw_all := lw_g (lw_at lw_m1 153 rfl) rfl
theorem q175 : (Jvm.Cond.selects "CartelWatch$Tender" ({ cls := "CartelWatch$Tender", name := "sum", desc := "()I" } : Jvm.MethodName) ({ cls := "CartelWatch$Tender", name := "sum", desc := "()I" } : Jvm.MethodName)) ∈ lw_all := lw_g (lw_at lw_m1 154 rfl) rfl
theorem q176 : (Jvm.Cond.code ({ cls := "CartelWatch$Tender", name := "sum", desc := "()I" } : Jvm.MethodName) prog_6_method_4_code (1 : Nat) (Option.some Jvm.ClassFile.FieldType.int)) ∈ lw_all := lw_g (lw_at lw_m1 155 rfl) rfl
theorem q267 : (Jvm.Cond.instantiable "CartelWatch$Tender" (5 : Nat)) ∈ lw_all := lw_g (lw_at lw_m2 6 rfl) rfl
theorem q269 : (Jvm.Cond.instanceMethod ({ cls := "CartelWatch$Tender", name := "<init>", desc := "()V" } : Jvm.MethodName)) ∈ lw_all := lw_g (lw_at lw_m2 8 rfl) rfl
theorem q270 : (Jvm.Cond.code ({ cls := "CartelWatch$Tender", name := "<init>", desc := "()V" } : Jvm.MethodName) prog_6_method_1_code (1 : Nat) (Option.none : Option Jvm.ClassFile.FieldType)) ∈ lw_all := lw_g (lw_at lw_m2 9 rfl) rfl
theorem q271 : (Jvm.Cond.methodLink "CartelWatch$Tender" (3 : Nat) ({ cls := "java/lang/Object", name := "<init>", desc := "()V" } : Jvm.MethodName)) ∈ lw_all := lw_g (lw_at lw_m2 10 rfl) rfl
theorem q272 : (Jvm.Cond.classLink "CartelWatch$Tender" (9 : Nat) "CartelWatch$Bid") ∈ lw_all := lw_g (lw_at lw_m2 11 rfl) rfl
theorem q274 : (Jvm.Cond.fieldLink "CartelWatch$Tender" (11 : Nat) "CartelWatch$Tender" "bids" "[LCartelWatch$Bid;") ∈ lw_all := lw_g (lw_at lw_m2 13 rfl) rfl
theorem q276 : (Jvm.Cond.fieldLink "CartelWatch$Tender" (17 : Nat) "CartelWatch$Tender" "open" "Z") ∈ lw_all := lw_g (lw_at lw_m2 15 rfl) rfl
theorem q278 : (Jvm.Cond.fieldLink "CartelWatch$Tender" (21 : Nat) "CartelWatch$Tender" "winner" "I") ∈ lw_all := lw_g (lw_at lw_m2 17 rfl) rfl
theorem q280 : (Jvm.Cond.fieldLink "CartelWatch$Tender" (25 : Nat) "CartelWatch$Tender" "passedTo" "I") ∈ lw_all := lw_g (lw_at lw_m2 19 rfl) rfl
theorem q282 : (Jvm.Cond.fieldLink "CartelWatch$Tender" (41 : Nat) "CartelWatch$Tender" "part" "I") ∈ lw_all := lw_g (lw_at lw_m2 21 rfl) rfl
theorem q284 : (Jvm.Cond.laysFinal "CartelWatch$Tender" "CartelWatch$Tender" "bids" "[LCartelWatch$Bid;") ∈ lw_all := lw_g (lw_at lw_m2 23 rfl) rfl
theorem q285 : (Jvm.Cond.soleField "CartelWatch$Tender" "bids") ∈ lw_all := lw_g (lw_at lw_m2 24 rfl) rfl
theorem q286 : (Jvm.Cond.lays "CartelWatch$Tender" "CartelWatch$Tender" "open" "Z") ∈ lw_all := lw_g (lw_at lw_m2 25 rfl) rfl
theorem q287 : (Jvm.Cond.soleField "CartelWatch$Tender" "open") ∈ lw_all := lw_g (lw_at lw_m2 26 rfl) rfl
theorem q288 : (Jvm.Cond.lays "CartelWatch$Tender" "CartelWatch$Tender" "winner" "I") ∈ lw_all := lw_g (lw_at lw_m2 27 rfl) rfl
theorem q289 : (Jvm.Cond.soleField "CartelWatch$Tender" "winner") ∈ lw_all := lw_g (lw_at lw_m2 28 rfl) rfl
theorem q290 : (Jvm.Cond.lays "CartelWatch$Tender" "CartelWatch$Tender" "passedTo" "I") ∈ lw_all := lw_g (lw_at lw_m2 29 rfl) rfl
theorem q291 : (Jvm.Cond.soleField "CartelWatch$Tender" "passedTo") ∈ lw_all := lw_g (lw_at lw_m2 30 rfl) rfl
theorem q292 : (Jvm.Cond.lays "CartelWatch$Tender" "CartelWatch$Tender" "part" "I") ∈ lw_all := lw_g (lw_at lw_m2 31 rfl) rfl
theorem q293 : (Jvm.Cond.soleField "CartelWatch$Tender" "part") ∈ lw_all := lw_g (lw_at lw_m2 32 rfl) rfl
theorem q294 : (Jvm.Cond.superclass "CartelWatch$Tender" "java/lang/Object") ∈ lw_all := lw_g (lw_at lw_m2 33 rfl) rfl
theorem q334 : (Jvm.Cond.selects "CartelWatch$Tender" ({ cls := "java/lang/Object", name := "getClass", desc := "()Ljava/lang/Class;" } : Jvm.MethodName) ({ cls := "java/lang/Object", name := "getClass", desc := "()Ljava/lang/Class;" } : Jvm.MethodName)) ∈ lw_all := lw_g (lw_at lw_m2 73 rfl) rfl
theorem q432 : (Jvm.Cond.fieldLinkNest "CartelWatch$Tender" (31 : Nat) "CartelWatch$Bid" "sum" "I" "CartelWatch") ∈ lw_tbl := lw_at lw_m2 171 rfl
theorem q434 : (Jvm.Cond.fieldLinkNest "CartelWatch$Tender" (28 : Nat) "CartelWatch$Bid" "withdrawn" "Z" "CartelWatch") ∈ lw_tbl := lw_at lw_m2 173 rfl
theorem q456 : (Jvm.Cond.instanceMethod ({ cls := "CartelWatch$Tender", name := "least", desc := "()I" } : Jvm.MethodName)) ∈ lw_all := lw_g (lw_at lw_m2 195 rfl) rfl
theorem q457 : (Jvm.Cond.selects "CartelWatch$Tender" ({ cls := "CartelWatch$Tender", name := "least", desc := "()I" } : Jvm.MethodName) ({ cls := "CartelWatch$Tender", name := "least", desc := "()I" } : Jvm.MethodName)) ∈ lw_all := lw_g (lw_at lw_m2 196 rfl) rfl
theorem q458 : (Jvm.Cond.code ({ cls := "CartelWatch$Tender", name := "least", desc := "()I" } : Jvm.MethodName) prog_6_method_5_code (4 : Nat) (Option.some Jvm.ClassFile.FieldType.int)) ∈ lw_all := lw_g (lw_at lw_m2 197 rfl) rfl
theorem q459 : (Jvm.Cond.methodLink "CartelWatch$Tender" (34 : Nat) ({ cls := "CartelWatch$Tender", name := "stands", desc := "(I)Z" } : Jvm.MethodName)) ∈ lw_all := lw_g (lw_at lw_m2 198 rfl) rfl
theorem q482 : (Jvm.Cond.instanceMethod ({ cls := "CartelWatch$Tender", name := "turnover", desc := "(I)I" } : Jvm.MethodName)) ∈ lw_all := lw_g (lw_at lw_m2 221 rfl) rfl
theorem q483 : (Jvm.Cond.selects "CartelWatch$Tender" ({ cls := "CartelWatch$Tender", name := "turnover", desc := "(I)I" } : Jvm.MethodName) ({ cls := "CartelWatch$Tender", name := "turnover", desc := "(I)I" } : Jvm.MethodName)) ∈ lw_all := lw_g (lw_at lw_m2 222 rfl) rfl
theorem q484 : (Jvm.Cond.code ({ cls := "CartelWatch$Tender", name := "turnover", desc := "(I)I" } : Jvm.MethodName) prog_6_method_6_code (3 : Nat) (Option.some Jvm.ClassFile.FieldType.int)) ∈ lw_all := lw_g (lw_at lw_m2 223 rfl) rfl
theorem q485 : (Jvm.Cond.methodLink "CartelWatch$Tender" (38 : Nat) ({ cls := "CartelWatch$Tender", name := "sum", desc := "()I" } : Jvm.MethodName)) ∈ lw_all := lw_g (lw_at lw_m2 224 rfl) rfl
theorem q615 : (Jvm.Cond.selects "CartelWatch$Tender" ({ cls := "java/lang/Object", name := "equals", desc := "(Ljava/lang/Object;)Z" } : Jvm.MethodName) ({ cls := "java/lang/Object", name := "equals", desc := "(Ljava/lang/Object;)Z" } : Jvm.MethodName)) ∈ lw_all := lw_g (lw_at lw_m3 114 rfl) rfl
theorem q881 : (Jvm.Cond.castable "CartelWatch$Tender" "java/lang/Object") ∈ lw_tbl := lw_at lw_m4 140 rfl
theorem in_X3 : ∀ w ∈ wsX30, w ∈ lw_all := lw_in wsX30 [284, 286, 288, 290, 292] (by decide +kernel) (by decide +kernel)
/-! CartelWatch$Bid -/
set_option maxRecDepth 100000
def RX4 : String := "CartelWatch$Bid"
def TX4 : u_T := fun k => match k with
  | 0 => ("CartelWatch$Bid", "sum", "I", true)
  | _ => ("CartelWatch$Bid", "withdrawn", "Z", false)
def tyX4 : Nat → FieldType := fun k => match k with
  | 0 => .int
  | _ => .boolean
abbrev wsX40 : List Cond := u_ws RX4 TX4 2
theorem nmX4 : ∀ a, a < 2 → ∀ b, b < 2 → a ≠ b → (TX4 a).2.1 ≠ (TX4 b).2.1 := by decide +kernel
theorem tyX4_ok : ∀ k, k < 2 → parseFieldDescriptor (TX4 k).2.2.1 = some (tyX4 k) := by decide +kernel
abbrev cX4_init : ByteArray := prog_2_method_1_code
def yX4_init : MethodName := ⟨RX4, "<init>", "(I)V"⟩
def dkwX4_init_0 : List UInt8 := [42, 183, 0, 1, 42, 27, 181, 0, 7, 177]
abbrev dktX4_init_0 : List UInt8 := dkwX4_init_0 ++ []
theorem dksX4_init_0 : cX4_init.data.toList.drop 0 = dktX4_init_0 := by decide +kernel
theorem dX4_init_0 : decode cX4_init 0 = .ok (.aload_n 0, 1) := dk_42 (dk_at dksX4_init_0 0 rfl rfl)
theorem dX4_init_1 : decode cX4_init 1 = .ok (.invokespecial 1, 3) := dk_183 0 1 (dk_at dksX4_init_0 1 rfl rfl)
theorem dX4_init_4 : decode cX4_init 4 = .ok (.aload_n 0, 1) := dk_42 (dk_at dksX4_init_0 4 rfl rfl)
theorem dX4_init_5 : decode cX4_init 5 = .ok (.iload_n 1, 1) := dk_27 (dk_at dksX4_init_0 5 rfl rfl)
theorem dX4_init_6 : decode cX4_init 6 = .ok (.putfield 7, 3) := dk_181 0 7 (dk_at dksX4_init_0 6 rfl rfl)
theorem dX4_init_9 : decode cX4_init 9 = .ok (.return_, 1) := dk_177 (dk_at dksX4_init_0 9 rfl rfl)
theorem q42 : (Jvm.Cond.initialized "CartelWatch$Bid") ∈ lw_all := lw_g (lw_at lw_m1 21 rfl) rfl
theorem q331 : (Jvm.Cond.selects "CartelWatch$Bid" ({ cls := "java/lang/Object", name := "getClass", desc := "()Ljava/lang/Class;" } : Jvm.MethodName) ({ cls := "java/lang/Object", name := "getClass", desc := "()Ljava/lang/Class;" } : Jvm.MethodName)) ∈ lw_all := lw_g (lw_at lw_m2 70 rfl) rfl
theorem q426 : (Jvm.Cond.instantiable "CartelWatch$Bid" (2 : Nat)) ∈ lw_all := lw_g (lw_at lw_m2 165 rfl) rfl
theorem q428 : (Jvm.Cond.instanceMethod ({ cls := "CartelWatch$Bid", name := "<init>", desc := "(I)V" } : Jvm.MethodName)) ∈ lw_all := lw_g (lw_at lw_m2 167 rfl) rfl
theorem q429 : (Jvm.Cond.code ({ cls := "CartelWatch$Bid", name := "<init>", desc := "(I)V" } : Jvm.MethodName) prog_2_method_1_code (2 : Nat) (Option.none : Option Jvm.ClassFile.FieldType)) ∈ lw_all := lw_g (lw_at lw_m2 168 rfl) rfl
theorem q430 : (Jvm.Cond.methodLink "CartelWatch$Bid" (1 : Nat) ({ cls := "java/lang/Object", name := "<init>", desc := "()V" } : Jvm.MethodName)) ∈ lw_all := lw_g (lw_at lw_m2 169 rfl) rfl
theorem q431 : (Jvm.Cond.fieldLink "CartelWatch$Bid" (7 : Nat) "CartelWatch$Bid" "sum" "I") ∈ lw_all := lw_g (lw_at lw_m2 170 rfl) rfl
theorem q436 : (Jvm.Cond.laysFinal "CartelWatch$Bid" "CartelWatch$Bid" "sum" "I") ∈ lw_all := lw_g (lw_at lw_m2 175 rfl) rfl
theorem q437 : (Jvm.Cond.soleField "CartelWatch$Bid" "sum") ∈ lw_all := lw_g (lw_at lw_m2 176 rfl) rfl
theorem q438 : (Jvm.Cond.lays "CartelWatch$Bid" "CartelWatch$Bid" "withdrawn" "Z") ∈ lw_all := lw_g (lw_at lw_m2 177 rfl) rfl
theorem q439 : (Jvm.Cond.soleField "CartelWatch$Bid" "withdrawn") ∈ lw_all := lw_g (lw_at lw_m2 178 rfl) rfl
theorem q440 : (Jvm.Cond.superclass "CartelWatch$Bid" "java/lang/Object") ∈ lw_all := lw_g (lw_at lw_m2 179 rfl) rfl
theorem q612 : (Jvm.Cond.selects "CartelWatch$Bid" ({ cls := "java/lang/Object", name := "equals", desc := "(Ljava/lang/Object;)Z" } : Jvm.MethodName) ({ cls := "java/lang/Object", name := "equals", desc := "(Ljava/lang/Object;)Z" } : Jvm.MethodName)) ∈ lw_all := lw_g (lw_at lw_m3 111 rfl) rfl
theorem q876 : (Jvm.Cond.castable "CartelWatch$Bid" "java/lang/Object") ∈ lw_tbl := lw_at lw_m4 135 rfl
theorem in_X4 : ∀ w ∈ wsX40, w ∈ lw_all := lw_in wsX40 [436, 438] (by decide +kernel) (by decide +kernel)
/-! CartelWatch$Pair -/
set_option maxRecDepth 100000
def RX5 : String := "CartelWatch$Pair"
def TX5 : u_T := fun k => match k with
  | 0 => ("CartelWatch$Pair", "low", "I", true)
  | _ => ("CartelWatch$Pair", "high", "I", true)
def tyX5 : Nat → FieldType := fun k => match k with
  | 0 => .int
  | _ => .int
abbrev wsX50 : List Cond := u_ws RX5 TX5 2
theorem nmX5 : ∀ a, a < 2 → ∀ b, b < 2 → a ≠ b → (TX5 a).2.1 ≠ (TX5 b).2.1 := by decide +kernel
theorem tyX5_ok : ∀ k, k < 2 → parseFieldDescriptor (TX5 k).2.2.1 = some (tyX5 k) := by decide +kernel
abbrev cX5_init : ByteArray := prog_5_method_1_code
def yX5_init : MethodName := ⟨RX5, "<init>", "(II)V"⟩
def dkwX5_init_0 : List UInt8 := [42, 183, 0, 1, 42, 27, 28, 184, 0, 7, 181, 0, 13, 42, 27, 28, 184, 0, 19, 181, 0, 22, 177]
abbrev dktX5_init_0 : List UInt8 := dkwX5_init_0 ++ []
theorem dksX5_init_0 : cX5_init.data.toList.drop 0 = dktX5_init_0 := by decide +kernel
theorem dX5_init_0 : decode cX5_init 0 = .ok (.aload_n 0, 1) := dk_42 (dk_at dksX5_init_0 0 rfl rfl)
theorem dX5_init_1 : decode cX5_init 1 = .ok (.invokespecial 1, 3) := dk_183 0 1 (dk_at dksX5_init_0 1 rfl rfl)
theorem dX5_init_4 : decode cX5_init 4 = .ok (.aload_n 0, 1) := dk_42 (dk_at dksX5_init_0 4 rfl rfl)
theorem dX5_init_5 : decode cX5_init 5 = .ok (.iload_n 1, 1) := dk_27 (dk_at dksX5_init_0 5 rfl rfl)
theorem dX5_init_6 : decode cX5_init 6 = .ok (.iload_n 2, 1) := dk_28 (dk_at dksX5_init_0 6 rfl rfl)
theorem dX5_init_7 : decode cX5_init 7 = .ok (.invokestatic 7, 3) := dk_184 0 7 (dk_at dksX5_init_0 7 rfl rfl)
theorem dX5_init_10 : decode cX5_init 10 = .ok (.putfield 13, 3) := dk_181 0 13 (dk_at dksX5_init_0 10 rfl rfl)
theorem dX5_init_13 : decode cX5_init 13 = .ok (.aload_n 0, 1) := dk_42 (dk_at dksX5_init_0 13 rfl rfl)
theorem dX5_init_14 : decode cX5_init 14 = .ok (.iload_n 1, 1) := dk_27 (dk_at dksX5_init_0 14 rfl rfl)
theorem dX5_init_15 : decode cX5_init 15 = .ok (.iload_n 2, 1) := dk_28 (dk_at dksX5_init_0 15 rfl rfl)
theorem dX5_init_16 : decode cX5_init 16 = .ok (.invokestatic 19, 3) := dk_184 0 19 (dk_at dksX5_init_0 16 rfl rfl)
theorem dX5_init_19 : decode cX5_init 19 = .ok (.putfield 22, 3) := dk_181 0 22 (dk_at dksX5_init_0 19 rfl rfl)
theorem dX5_init_22 : decode cX5_init 22 = .ok (.return_, 1) := dk_177 (dk_at dksX5_init_0 22 rfl rfl)
abbrev cX5_has : ByteArray := prog_5_method_2_code
def yX5_has : MethodName := ⟨RX5, "has", "(I)Z"⟩
def dkwX5_has_0 : List UInt8 := [27, 42, 180, 0, 13, 159, 0, 11, 27, 42, 180, 0, 22, 160, 0, 7, 4, 167, 0, 4, 3, 172]
abbrev dktX5_has_0 : List UInt8 := dkwX5_has_0 ++ []
theorem dksX5_has_0 : cX5_has.data.toList.drop 0 = dktX5_has_0 := by decide +kernel
theorem dX5_has_0 : decode cX5_has 0 = .ok (.iload_n 1, 1) := dk_27 (dk_at dksX5_has_0 0 rfl rfl)
theorem dX5_has_1 : decode cX5_has 1 = .ok (.aload_n 0, 1) := dk_42 (dk_at dksX5_has_0 1 rfl rfl)
theorem dX5_has_2 : decode cX5_has 2 = .ok (.getfield 13, 3) := dk_180 0 13 (dk_at dksX5_has_0 2 rfl rfl)
theorem dX5_has_5 : decode cX5_has 5 = .ok (.if_icmp .eq 11, 3) := dk_159 0 11 (dk_at dksX5_has_0 5 rfl rfl)
theorem dX5_has_8 : decode cX5_has 8 = .ok (.iload_n 1, 1) := dk_27 (dk_at dksX5_has_0 8 rfl rfl)
theorem dX5_has_9 : decode cX5_has 9 = .ok (.aload_n 0, 1) := dk_42 (dk_at dksX5_has_0 9 rfl rfl)
theorem dX5_has_10 : decode cX5_has 10 = .ok (.getfield 22, 3) := dk_180 0 22 (dk_at dksX5_has_0 10 rfl rfl)
theorem dX5_has_13 : decode cX5_has 13 = .ok (.if_icmp .ne 7, 3) := dk_160 0 7 (dk_at dksX5_has_0 13 rfl rfl)
theorem dX5_has_16 : decode cX5_has 16 = .ok (.iconst 1, 1) := dk_4 (dk_at dksX5_has_0 16 rfl rfl)
theorem dX5_has_17 : decode cX5_has 17 = .ok (.goto 4, 3) := dk_167 0 4 (dk_at dksX5_has_0 17 rfl rfl)
theorem dX5_has_20 : decode cX5_has 20 = .ok (.iconst 0, 1) := dk_3 (dk_at dksX5_has_0 20 rfl rfl)
theorem dX5_has_21 : decode cX5_has 21 = .ok (.ireturn, 1) := dk_172 (dk_at dksX5_has_0 21 rfl rfl)
abbrev cX5_other : ByteArray := prog_5_method_3_code
def yX5_other : MethodName := ⟨RX5, "other", "(I)I"⟩
def dkwX5_other_0 : List UInt8 := [27, 42, 180, 0, 13, 160, 0, 10, 42, 180, 0, 22, 167, 0, 7, 42, 180, 0, 13, 172]
abbrev dktX5_other_0 : List UInt8 := dkwX5_other_0 ++ []
theorem dksX5_other_0 : cX5_other.data.toList.drop 0 = dktX5_other_0 := by decide +kernel
theorem dX5_other_0 : decode cX5_other 0 = .ok (.iload_n 1, 1) := dk_27 (dk_at dksX5_other_0 0 rfl rfl)
theorem dX5_other_1 : decode cX5_other 1 = .ok (.aload_n 0, 1) := dk_42 (dk_at dksX5_other_0 1 rfl rfl)
theorem dX5_other_2 : decode cX5_other 2 = .ok (.getfield 13, 3) := dk_180 0 13 (dk_at dksX5_other_0 2 rfl rfl)
theorem dX5_other_5 : decode cX5_other 5 = .ok (.if_icmp .ne 10, 3) := dk_160 0 10 (dk_at dksX5_other_0 5 rfl rfl)
theorem dX5_other_8 : decode cX5_other 8 = .ok (.aload_n 0, 1) := dk_42 (dk_at dksX5_other_0 8 rfl rfl)
theorem dX5_other_9 : decode cX5_other 9 = .ok (.getfield 22, 3) := dk_180 0 22 (dk_at dksX5_other_0 9 rfl rfl)
theorem dX5_other_12 : decode cX5_other 12 = .ok (.goto 7, 3) := dk_167 0 7 (dk_at dksX5_other_0 12 rfl rfl)
theorem dX5_other_15 : decode cX5_other 15 = .ok (.aload_n 0, 1) := dk_42 (dk_at dksX5_other_0 15 rfl rfl)
theorem dX5_other_16 : decode cX5_other 16 = .ok (.getfield 13, 3) := dk_180 0 13 (dk_at dksX5_other_0 16 rfl rfl)
theorem dX5_other_19 : decode cX5_other 19 = .ok (.ireturn, 1) := dk_172 (dk_at dksX5_other_0 19 rfl rfl)
abbrev cX5_stands : ByteArray := prog_5_method_4_code
def yX5_stands : MethodName := ⟨RX5, "stands", "(LCartelWatch$Tender;)Z"⟩
def dkwX5_stands_1 : List UInt8 := [167, 0, 4, 3, 172]
abbrev dktX5_stands_1 : List UInt8 := dkwX5_stands_1 ++ []
def dkwX5_stands_0 : List UInt8 := [43, 42, 180, 0, 13, 182, 0, 25, 153, 0, 18, 43, 42, 180, 0, 22, 182, 0, 25, 153, 0, 7, 4]
abbrev dktX5_stands_0 : List UInt8 := dkwX5_stands_0 ++ dktX5_stands_1
theorem dksX5_stands_0 : cX5_stands.data.toList.drop 0 = dktX5_stands_0 := by decide +kernel
theorem dksX5_stands_1 : cX5_stands.data.toList.drop 23 = dktX5_stands_1 := dk_seg dksX5_stands_0 23 rfl rfl
theorem dX5_stands_0 : decode cX5_stands 0 = .ok (.aload_n 1, 1) := dk_43 (dk_at dksX5_stands_0 0 rfl rfl)
theorem dX5_stands_1 : decode cX5_stands 1 = .ok (.aload_n 0, 1) := dk_42 (dk_at dksX5_stands_0 1 rfl rfl)
theorem dX5_stands_2 : decode cX5_stands 2 = .ok (.getfield 13, 3) := dk_180 0 13 (dk_at dksX5_stands_0 2 rfl rfl)
theorem dX5_stands_5 : decode cX5_stands 5 = .ok (.invokevirtual 25, 3) := dk_182 0 25 (dk_at dksX5_stands_0 5 rfl rfl)
theorem dX5_stands_8 : decode cX5_stands 8 = .ok (.ifCond .eq 18, 3) := dk_153 0 18 (dk_at dksX5_stands_0 8 rfl rfl)
theorem dX5_stands_11 : decode cX5_stands 11 = .ok (.aload_n 1, 1) := dk_43 (dk_at dksX5_stands_0 11 rfl rfl)
theorem dX5_stands_12 : decode cX5_stands 12 = .ok (.aload_n 0, 1) := dk_42 (dk_at dksX5_stands_0 12 rfl rfl)
theorem dX5_stands_13 : decode cX5_stands 13 = .ok (.getfield 22, 3) := dk_180 0 22 (dk_at dksX5_stands_0 13 rfl rfl)
theorem dX5_stands_16 : decode cX5_stands 16 = .ok (.invokevirtual 25, 3) := dk_182 0 25 (dk_at dksX5_stands_0 16 rfl rfl)
theorem dX5_stands_19 : decode cX5_stands 19 = .ok (.ifCond .eq 7, 3) := dk_153 0 7 (dk_at dksX5_stands_0 19 rfl rfl)
theorem dX5_stands_22 : decode cX5_stands 22 = .ok (.iconst 1, 1) := dk_4 (dk_at dksX5_stands_0 22 rfl rfl)
theorem dX5_stands_23 : decode cX5_stands 23 = .ok (.goto 4, 3) := dk_167 0 4 (dk_at dksX5_stands_1 0 rfl rfl)
theorem dX5_stands_26 : decode cX5_stands 26 = .ok (.iconst 0, 1) := dk_3 (dk_at dksX5_stands_1 3 rfl rfl)
theorem dX5_stands_27 : decode cX5_stands 27 = .ok (.ireturn, 1) := dk_172 (dk_at dksX5_stands_1 4 rfl rfl)
theorem q43 : (Jvm.Cond.initialized "CartelWatch$Pair") ∈ lw_all := lw_g (lw_at lw_m1 22 rfl) rfl
theorem q99 : (Jvm.Cond.instantiable "CartelWatch$Pair" (2 : Nat)) ∈ lw_all := lw_g (lw_at lw_m1 78 rfl) rfl
theorem q101 : (Jvm.Cond.instanceMethod ({ cls := "CartelWatch$Pair", name := "<init>", desc := "(II)V" } : Jvm.MethodName)) ∈ lw_all := lw_g (lw_at lw_m1 80 rfl) rfl
theorem q102 : (Jvm.Cond.code ({ cls := "CartelWatch$Pair", name := "<init>", desc := "(II)V" } : Jvm.MethodName) prog_5_method_1_code (3 : Nat) (Option.none : Option Jvm.ClassFile.FieldType)) ∈ lw_all := lw_g (lw_at lw_m1 81 rfl) rfl
theorem q103 : (Jvm.Cond.methodLink "CartelWatch$Pair" (1 : Nat) ({ cls := "java/lang/Object", name := "<init>", desc := "()V" } : Jvm.MethodName)) ∈ lw_all := lw_g (lw_at lw_m1 82 rfl) rfl
theorem q104 : (Jvm.Cond.methodLink "CartelWatch$Pair" (7 : Nat) ({ cls := "java/lang/Math", name := "min", desc := "(II)I" } : Jvm.MethodName)) ∈ lw_all := lw_g (lw_at lw_m1 83 rfl) rfl
theorem q107 : (Jvm.Cond.methodLink "CartelWatch$Pair" (19 : Nat) ({ cls := "java/lang/Math", name := "max", desc := "(II)I" } : Jvm.MethodName)) ∈ lw_all := lw_g (lw_at lw_m1 86 rfl) rfl
theorem q110 : (Jvm.Cond.fieldLink "CartelWatch$Pair" (13 : Nat) "CartelWatch$Pair" "low" "I") ∈ lw_all := lw_g (lw_at lw_m1 89 rfl) rfl
theorem q112 : (Jvm.Cond.fieldLink "CartelWatch$Pair" (22 : Nat) "CartelWatch$Pair" "high" "I") ∈ lw_all := lw_g (lw_at lw_m1 91 rfl) rfl
theorem q114 : (Jvm.Cond.laysFinal "CartelWatch$Pair" "CartelWatch$Pair" "low" "I") ∈ lw_all := lw_g (lw_at lw_m1 93 rfl) rfl
theorem q115 : (Jvm.Cond.soleField "CartelWatch$Pair" "low") ∈ lw_all := lw_g (lw_at lw_m1 94 rfl) rfl
theorem q116 : (Jvm.Cond.laysFinal "CartelWatch$Pair" "CartelWatch$Pair" "high" "I") ∈ lw_all := lw_g (lw_at lw_m1 95 rfl) rfl
theorem q117 : (Jvm.Cond.soleField "CartelWatch$Pair" "high") ∈ lw_all := lw_g (lw_at lw_m1 96 rfl) rfl
theorem q118 : (Jvm.Cond.superclass "CartelWatch$Pair" "java/lang/Object") ∈ lw_all := lw_g (lw_at lw_m1 97 rfl) rfl
theorem q158 : (Jvm.Cond.instanceMethod ({ cls := "CartelWatch$Pair", name := "has", desc := "(I)Z" } : Jvm.MethodName)) ∈ lw_all := lw_g (lw_at lw_m1 137 rfl) rfl
theorem q159 : (Jvm.Cond.selects "CartelWatch$Pair" ({ cls := "CartelWatch$Pair", name := "has", desc := "(I)Z" } : Jvm.MethodName) ({ cls := "CartelWatch$Pair", name := "has", desc := "(I)Z" } : Jvm.MethodName)) ∈ lw_all := lw_g (lw_at lw_m1 138 rfl) rfl
theorem q160 : (Jvm.Cond.code ({ cls := "CartelWatch$Pair", name := "has", desc := "(I)Z" } : Jvm.MethodName) prog_5_method_2_code (2 : Nat) (Option.some Jvm.ClassFile.FieldType.boolean)) ∈ lw_all := lw_g (lw_at lw_m1 139 rfl) rfl
theorem q162 : (Jvm.Cond.instanceMethod ({ cls := "CartelWatch$Pair", name := "other", desc := "(I)I" } : Jvm.MethodName)) ∈ lw_all := lw_g (lw_at lw_m1 141 rfl) rfl
theorem q163 : (Jvm.Cond.selects "CartelWatch$Pair" ({ cls := "CartelWatch$Pair", name := "other", desc := "(I)I" } : Jvm.MethodName) ({ cls := "CartelWatch$Pair", name := "other", desc := "(I)I" } : Jvm.MethodName)) ∈ lw_all := lw_g (lw_at lw_m1 142 rfl) rfl
theorem q164 : (Jvm.Cond.code ({ cls := "CartelWatch$Pair", name := "other", desc := "(I)I" } : Jvm.MethodName) prog_5_method_3_code (2 : Nat) (Option.some Jvm.ClassFile.FieldType.int)) ∈ lw_all := lw_g (lw_at lw_m1 143 rfl) rfl
theorem q182 : (Jvm.Cond.instanceMethod ({ cls := "CartelWatch$Pair", name := "stands", desc := "(LCartelWatch$Tender;)Z" } : Jvm.MethodName)) ∈ lw_all := lw_g (lw_at lw_m1 161 rfl) rfl
theorem q183 : (Jvm.Cond.selects "CartelWatch$Pair" ({ cls := "CartelWatch$Pair", name := "stands", desc := "(LCartelWatch$Tender;)Z" } : Jvm.MethodName) ({ cls := "CartelWatch$Pair", name := "stands", desc := "(LCartelWatch$Tender;)Z" } : Jvm.MethodName)) ∈ lw_all := lw_g (lw_at lw_m1 162 rfl) rfl
theorem q184 : (Jvm.Cond.code ({ cls := "CartelWatch$Pair", name := "stands", desc := "(LCartelWatch$Tender;)Z" } : Jvm.MethodName) prog_5_method_4_code (2 : Nat) (Option.some Jvm.ClassFile.FieldType.boolean)) ∈ lw_all := lw_g (lw_at lw_m1 163 rfl) rfl
theorem q185 : (Jvm.Cond.methodLink "CartelWatch$Pair" (25 : Nat) ({ cls := "CartelWatch$Tender", name := "stands", desc := "(I)Z" } : Jvm.MethodName)) ∈ lw_all := lw_g (lw_at lw_m1 164 rfl) rfl
theorem q333 : (Jvm.Cond.selects "CartelWatch$Pair" ({ cls := "java/lang/Object", name := "getClass", desc := "()Ljava/lang/Class;" } : Jvm.MethodName) ({ cls := "java/lang/Object", name := "getClass", desc := "()Ljava/lang/Class;" } : Jvm.MethodName)) ∈ lw_all := lw_g (lw_at lw_m2 72 rfl) rfl
theorem q614 : (Jvm.Cond.selects "CartelWatch$Pair" ({ cls := "java/lang/Object", name := "equals", desc := "(Ljava/lang/Object;)Z" } : Jvm.MethodName) ({ cls := "java/lang/Object", name := "equals", desc := "(Ljava/lang/Object;)Z" } : Jvm.MethodName)) ∈ lw_all := lw_g (lw_at lw_m3 113 rfl) rfl
theorem q885 : (Jvm.Cond.castable "CartelWatch$Pair" "java/lang/Object") ∈ lw_tbl := lw_at lw_m4 144 rfl
theorem in_X5 : ∀ w ∈ wsX50, w ∈ lw_all := lw_in wsX50 [114, 116] (by decide +kernel) (by decide +kernel)
/-! CartelWatch$Inquiry -/
set_option maxRecDepth 100000
def RX6 : String := "CartelWatch$Inquiry"
def TX6 : u_T := fun k => match k with
  | 0 => ("CartelWatch$Inquiry", "pair", "LCartelWatch$Pair;", true)
  | 1 => ("CartelWatch$Inquiry", "matters", "Ljava/util/List;", true)
  | 2 => ("CartelWatch$Inquiry", "told", "Ljava/util/List;", true)
  | 3 => ("CartelWatch$Inquiry", "tellings", "[I", true)
  | 4 => ("CartelWatch$Inquiry", "fines", "[I", true)
  | 5 => ("CartelWatch$Inquiry", "first", "I", false)
  | _ => ("CartelWatch$Inquiry", "closed", "Z", false)
def tyX6 : Nat → FieldType := fun k => match k with
  | 0 => .object "CartelWatch$Pair"
  | 1 => .object "java/util/List"
  | 2 => .object "java/util/List"
  | 3 => .array .int
  | 4 => .array .int
  | 5 => .int
  | _ => .boolean
abbrev wsX60 : List Cond := u_ws RX6 TX6 7
theorem nmX6 : ∀ a, a < 7 → ∀ b, b < 7 → a ≠ b → (TX6 a).2.1 ≠ (TX6 b).2.1 := by decide +kernel
theorem tyX6_ok : ∀ k, k < 7 → parseFieldDescriptor (TX6 k).2.2.1 = some (tyX6 k) := by decide +kernel
abbrev cX6_init : ByteArray := prog_3_method_1_code
def yX6_init : MethodName := ⟨RX6, "<init>", "(LCartelWatch$Pair;)V"⟩
def dkwX6_init_2 : List UInt8 := [42, 43, 181, 0, 32, 177]
abbrev dktX6_init_2 : List UInt8 := dkwX6_init_2 ++ []
def dkwX6_init_1 : List UInt8 := [181, 0, 18, 42, 16, 7, 188, 10, 181, 0, 21, 42, 16, 7, 188, 10, 181, 0, 25, 42, 2, 181, 0, 28]
abbrev dktX6_init_1 : List UInt8 := dkwX6_init_1 ++ dktX6_init_2
def dkwX6_init_0 : List UInt8 := [42, 183, 0, 3, 42, 187, 0, 9, 89, 183, 0, 11, 181, 0, 12, 42, 187, 0, 9, 89, 183, 0, 11]
abbrev dktX6_init_0 : List UInt8 := dkwX6_init_0 ++ dktX6_init_1
theorem dksX6_init_0 : cX6_init.data.toList.drop 0 = dktX6_init_0 := by decide +kernel
theorem dksX6_init_1 : cX6_init.data.toList.drop 23 = dktX6_init_1 := dk_seg dksX6_init_0 23 rfl rfl
theorem dksX6_init_2 : cX6_init.data.toList.drop 47 = dktX6_init_2 := dk_seg dksX6_init_1 24 rfl rfl
theorem dX6_init_0 : decode cX6_init 0 = .ok (.aload_n 0, 1) := dk_42 (dk_at dksX6_init_0 0 rfl rfl)
theorem dX6_init_1 : decode cX6_init 1 = .ok (.invokespecial 3, 3) := dk_183 0 3 (dk_at dksX6_init_0 1 rfl rfl)
theorem dX6_init_4 : decode cX6_init 4 = .ok (.aload_n 0, 1) := dk_42 (dk_at dksX6_init_0 4 rfl rfl)
theorem dX6_init_5 : decode cX6_init 5 = .ok (.new 9, 3) := dk_187 0 9 (dk_at dksX6_init_0 5 rfl rfl)
theorem dX6_init_8 : decode cX6_init 8 = .ok (.dup, 1) := dk_89 (dk_at dksX6_init_0 8 rfl rfl)
theorem dX6_init_9 : decode cX6_init 9 = .ok (.invokespecial 11, 3) := dk_183 0 11 (dk_at dksX6_init_0 9 rfl rfl)
theorem dX6_init_12 : decode cX6_init 12 = .ok (.putfield 12, 3) := dk_181 0 12 (dk_at dksX6_init_0 12 rfl rfl)
theorem dX6_init_15 : decode cX6_init 15 = .ok (.aload_n 0, 1) := dk_42 (dk_at dksX6_init_0 15 rfl rfl)
theorem dX6_init_16 : decode cX6_init 16 = .ok (.new 9, 3) := dk_187 0 9 (dk_at dksX6_init_0 16 rfl rfl)
theorem dX6_init_19 : decode cX6_init 19 = .ok (.dup, 1) := dk_89 (dk_at dksX6_init_0 19 rfl rfl)
theorem dX6_init_20 : decode cX6_init 20 = .ok (.invokespecial 11, 3) := dk_183 0 11 (dk_at dksX6_init_0 20 rfl rfl)
theorem dX6_init_23 : decode cX6_init 23 = .ok (.putfield 18, 3) := dk_181 0 18 (dk_at dksX6_init_1 0 rfl rfl)
theorem dX6_init_26 : decode cX6_init 26 = .ok (.aload_n 0, 1) := dk_42 (dk_at dksX6_init_1 3 rfl rfl)
theorem dX6_init_27 : decode cX6_init 27 = .ok (.bipush 7, 2) := dk_16 7 (dk_at dksX6_init_1 4 rfl rfl)
theorem dX6_init_29 : decode cX6_init 29 = .ok (.newarray .int, 2) := dk_188_10 (dk_at dksX6_init_1 6 rfl rfl)
theorem dX6_init_31 : decode cX6_init 31 = .ok (.putfield 21, 3) := dk_181 0 21 (dk_at dksX6_init_1 8 rfl rfl)
theorem dX6_init_34 : decode cX6_init 34 = .ok (.aload_n 0, 1) := dk_42 (dk_at dksX6_init_1 11 rfl rfl)
theorem dX6_init_35 : decode cX6_init 35 = .ok (.bipush 7, 2) := dk_16 7 (dk_at dksX6_init_1 12 rfl rfl)
theorem dX6_init_37 : decode cX6_init 37 = .ok (.newarray .int, 2) := dk_188_10 (dk_at dksX6_init_1 14 rfl rfl)
theorem dX6_init_39 : decode cX6_init 39 = .ok (.putfield 25, 3) := dk_181 0 25 (dk_at dksX6_init_1 16 rfl rfl)
theorem dX6_init_42 : decode cX6_init 42 = .ok (.aload_n 0, 1) := dk_42 (dk_at dksX6_init_1 19 rfl rfl)
theorem dX6_init_43 : decode cX6_init 43 = .ok (.iconst (-1), 1) := dk_2 (dk_at dksX6_init_1 20 rfl rfl)
theorem dX6_init_44 : decode cX6_init 44 = .ok (.putfield 28, 3) := dk_181 0 28 (dk_at dksX6_init_1 21 rfl rfl)
theorem dX6_init_47 : decode cX6_init 47 = .ok (.aload_n 0, 1) := dk_42 (dk_at dksX6_init_2 0 rfl rfl)
theorem dX6_init_48 : decode cX6_init 48 = .ok (.aload_n 1, 1) := dk_43 (dk_at dksX6_init_2 1 rfl rfl)
theorem dX6_init_49 : decode cX6_init 49 = .ok (.putfield 32, 3) := dk_181 0 32 (dk_at dksX6_init_2 2 rfl rfl)
theorem dX6_init_52 : decode cX6_init 52 = .ok (.return_, 1) := dk_177 (dk_at dksX6_init_2 5 rfl rfl)
abbrev cX6_fineOf : ByteArray := prog_3_method_2_code
def yX6_fineOf : MethodName := ⟨RX6, "fineOf", "(II)I"⟩
def dkwX6_fineOf_2 : List UInt8 := [46, 158, 0, 11, 29, 29, 7, 108, 100, 167, 0, 4, 29, 172]
abbrev dktX6_fineOf_2 : List UInt8 := dkwX6_fineOf_2 ++ []
def dkwX6_fineOf_1 : List UInt8 := [180, 0, 12, 185, 0, 36, 1, 0, 161, 0, 7, 3, 167, 0, 6, 29, 5, 108, 172, 42, 180, 0, 21, 27]
abbrev dktX6_fineOf_1 : List UInt8 := dkwX6_fineOf_1 ++ dktX6_fineOf_2
def dkwX6_fineOf_0 : List UInt8 := [28, 16, 10, 108, 62, 27, 42, 180, 0, 28, 160, 0, 31, 5, 42, 180, 0, 21, 27, 46, 104, 42]
abbrev dktX6_fineOf_0 : List UInt8 := dkwX6_fineOf_0 ++ dktX6_fineOf_1
theorem dksX6_fineOf_0 : cX6_fineOf.data.toList.drop 0 = dktX6_fineOf_0 := by decide +kernel
theorem dksX6_fineOf_1 : cX6_fineOf.data.toList.drop 22 = dktX6_fineOf_1 := dk_seg dksX6_fineOf_0 22 rfl rfl
theorem dksX6_fineOf_2 : cX6_fineOf.data.toList.drop 46 = dktX6_fineOf_2 := dk_seg dksX6_fineOf_1 24 rfl rfl
theorem dX6_fineOf_0 : decode cX6_fineOf 0 = .ok (.iload_n 2, 1) := dk_28 (dk_at dksX6_fineOf_0 0 rfl rfl)
theorem dX6_fineOf_1 : decode cX6_fineOf 1 = .ok (.bipush 10, 2) := dk_16 10 (dk_at dksX6_fineOf_0 1 rfl rfl)
theorem dX6_fineOf_3 : decode cX6_fineOf 3 = .ok (.idiv, 1) := dk_108 (dk_at dksX6_fineOf_0 3 rfl rfl)
theorem dX6_fineOf_4 : decode cX6_fineOf 4 = .ok (.istore_n 3, 1) := dk_62 (dk_at dksX6_fineOf_0 4 rfl rfl)
theorem dX6_fineOf_5 : decode cX6_fineOf 5 = .ok (.iload_n 1, 1) := dk_27 (dk_at dksX6_fineOf_0 5 rfl rfl)
theorem dX6_fineOf_6 : decode cX6_fineOf 6 = .ok (.aload_n 0, 1) := dk_42 (dk_at dksX6_fineOf_0 6 rfl rfl)
theorem dX6_fineOf_7 : decode cX6_fineOf 7 = .ok (.getfield 28, 3) := dk_180 0 28 (dk_at dksX6_fineOf_0 7 rfl rfl)
theorem dX6_fineOf_10 : decode cX6_fineOf 10 = .ok (.if_icmp .ne 31, 3) := dk_160 0 31 (dk_at dksX6_fineOf_0 10 rfl rfl)
theorem dX6_fineOf_13 : decode cX6_fineOf 13 = .ok (.iconst 2, 1) := dk_5 (dk_at dksX6_fineOf_0 13 rfl rfl)
theorem dX6_fineOf_14 : decode cX6_fineOf 14 = .ok (.aload_n 0, 1) := dk_42 (dk_at dksX6_fineOf_0 14 rfl rfl)
theorem dX6_fineOf_15 : decode cX6_fineOf 15 = .ok (.getfield 21, 3) := dk_180 0 21 (dk_at dksX6_fineOf_0 15 rfl rfl)
theorem dX6_fineOf_18 : decode cX6_fineOf 18 = .ok (.iload_n 1, 1) := dk_27 (dk_at dksX6_fineOf_0 18 rfl rfl)
theorem dX6_fineOf_19 : decode cX6_fineOf 19 = .ok (.iaload, 1) := dk_46 (dk_at dksX6_fineOf_0 19 rfl rfl)
theorem dX6_fineOf_20 : decode cX6_fineOf 20 = .ok (.imul, 1) := dk_104 (dk_at dksX6_fineOf_0 20 rfl rfl)
theorem dX6_fineOf_21 : decode cX6_fineOf 21 = .ok (.aload_n 0, 1) := dk_42 (dk_at dksX6_fineOf_0 21 rfl rfl)
theorem dX6_fineOf_22 : decode cX6_fineOf 22 = .ok (.getfield 12, 3) := dk_180 0 12 (dk_at dksX6_fineOf_1 0 rfl rfl)
theorem dX6_fineOf_25 : decode cX6_fineOf 25 = .ok (.invokeinterface 36 1, 5) := by decide +kernel
theorem dX6_fineOf_30 : decode cX6_fineOf 30 = .ok (.if_icmp .lt 7, 3) := dk_161 0 7 (dk_at dksX6_fineOf_1 8 rfl rfl)
theorem dX6_fineOf_33 : decode cX6_fineOf 33 = .ok (.iconst 0, 1) := dk_3 (dk_at dksX6_fineOf_1 11 rfl rfl)
theorem dX6_fineOf_34 : decode cX6_fineOf 34 = .ok (.goto 6, 3) := dk_167 0 6 (dk_at dksX6_fineOf_1 12 rfl rfl)
theorem dX6_fineOf_37 : decode cX6_fineOf 37 = .ok (.iload_n 3, 1) := dk_29 (dk_at dksX6_fineOf_1 15 rfl rfl)
theorem dX6_fineOf_38 : decode cX6_fineOf 38 = .ok (.iconst 2, 1) := dk_5 (dk_at dksX6_fineOf_1 16 rfl rfl)
theorem dX6_fineOf_39 : decode cX6_fineOf 39 = .ok (.idiv, 1) := dk_108 (dk_at dksX6_fineOf_1 17 rfl rfl)
theorem dX6_fineOf_40 : decode cX6_fineOf 40 = .ok (.ireturn, 1) := dk_172 (dk_at dksX6_fineOf_1 18 rfl rfl)
theorem dX6_fineOf_41 : decode cX6_fineOf 41 = .ok (.aload_n 0, 1) := dk_42 (dk_at dksX6_fineOf_1 19 rfl rfl)
theorem dX6_fineOf_42 : decode cX6_fineOf 42 = .ok (.getfield 21, 3) := dk_180 0 21 (dk_at dksX6_fineOf_1 20 rfl rfl)
theorem dX6_fineOf_45 : decode cX6_fineOf 45 = .ok (.iload_n 1, 1) := dk_27 (dk_at dksX6_fineOf_1 23 rfl rfl)
theorem dX6_fineOf_46 : decode cX6_fineOf 46 = .ok (.iaload, 1) := dk_46 (dk_at dksX6_fineOf_2 0 rfl rfl)
theorem dX6_fineOf_47 : decode cX6_fineOf 47 = .ok (.ifCond .le 11, 3) := dk_158 0 11 (dk_at dksX6_fineOf_2 1 rfl rfl)
theorem dX6_fineOf_50 : decode cX6_fineOf 50 = .ok (.iload_n 3, 1) := dk_29 (dk_at dksX6_fineOf_2 4 rfl rfl)
theorem dX6_fineOf_51 : decode cX6_fineOf 51 = .ok (.iload_n 3, 1) := dk_29 (dk_at dksX6_fineOf_2 5 rfl rfl)
theorem dX6_fineOf_52 : decode cX6_fineOf 52 = .ok (.iconst 4, 1) := dk_7 (dk_at dksX6_fineOf_2 6 rfl rfl)
theorem dX6_fineOf_53 : decode cX6_fineOf 53 = .ok (.idiv, 1) := dk_108 (dk_at dksX6_fineOf_2 7 rfl rfl)
theorem dX6_fineOf_54 : decode cX6_fineOf 54 = .ok (.isub, 1) := dk_100 (dk_at dksX6_fineOf_2 8 rfl rfl)
theorem dX6_fineOf_55 : decode cX6_fineOf 55 = .ok (.goto 4, 3) := dk_167 0 4 (dk_at dksX6_fineOf_2 9 rfl rfl)
theorem dX6_fineOf_58 : decode cX6_fineOf 58 = .ok (.iload_n 3, 1) := dk_29 (dk_at dksX6_fineOf_2 12 rfl rfl)
theorem dX6_fineOf_59 : decode cX6_fineOf 59 = .ok (.ireturn, 1) := dk_172 (dk_at dksX6_fineOf_2 13 rfl rfl)
theorem q44 : (Jvm.Cond.initialized "CartelWatch$Inquiry") ∈ lw_all := lw_g (lw_at lw_m1 23 rfl) rfl
theorem q332 : (Jvm.Cond.selects "CartelWatch$Inquiry" ({ cls := "java/lang/Object", name := "getClass", desc := "()Ljava/lang/Class;" } : Jvm.MethodName) ({ cls := "java/lang/Object", name := "getClass", desc := "()Ljava/lang/Class;" } : Jvm.MethodName)) ∈ lw_all := lw_g (lw_at lw_m2 71 rfl) rfl
theorem q537 : (Jvm.Cond.instantiable "CartelWatch$Inquiry" (7 : Nat)) ∈ lw_all := lw_g (lw_at lw_m3 36 rfl) rfl
theorem q539 : (Jvm.Cond.instanceMethod ({ cls := "CartelWatch$Inquiry", name := "<init>", desc := "(LCartelWatch$Pair;)V" } : Jvm.MethodName)) ∈ lw_all := lw_g (lw_at lw_m3 38 rfl) rfl
theorem q540 : (Jvm.Cond.code ({ cls := "CartelWatch$Inquiry", name := "<init>", desc := "(LCartelWatch$Pair;)V" } : Jvm.MethodName) prog_3_method_1_code (2 : Nat) (Option.none : Option Jvm.ClassFile.FieldType)) ∈ lw_all := lw_g (lw_at lw_m3 39 rfl) rfl
theorem q541 : (Jvm.Cond.methodLink "CartelWatch$Inquiry" (3 : Nat) ({ cls := "java/lang/Object", name := "<init>", desc := "()V" } : Jvm.MethodName)) ∈ lw_all := lw_g (lw_at lw_m3 40 rfl) rfl
theorem q542 : (Jvm.Cond.classLink "CartelWatch$Inquiry" (9 : Nat) "java/util/ArrayList") ∈ lw_all := lw_g (lw_at lw_m3 41 rfl) rfl
theorem q543 : (Jvm.Cond.methodLink "CartelWatch$Inquiry" (11 : Nat) ({ cls := "java/util/ArrayList", name := "<init>", desc := "()V" } : Jvm.MethodName)) ∈ lw_all := lw_g (lw_at lw_m3 42 rfl) rfl
theorem q544 : (Jvm.Cond.fieldLink "CartelWatch$Inquiry" (32 : Nat) "CartelWatch$Inquiry" "pair" "LCartelWatch$Pair;") ∈ lw_all := lw_g (lw_at lw_m3 43 rfl) rfl
theorem q546 : (Jvm.Cond.fieldLink "CartelWatch$Inquiry" (12 : Nat) "CartelWatch$Inquiry" "matters" "Ljava/util/List;") ∈ lw_all := lw_g (lw_at lw_m3 45 rfl) rfl
theorem q548 : (Jvm.Cond.fieldLink "CartelWatch$Inquiry" (18 : Nat) "CartelWatch$Inquiry" "told" "Ljava/util/List;") ∈ lw_all := lw_g (lw_at lw_m3 47 rfl) rfl
theorem q550 : (Jvm.Cond.fieldLink "CartelWatch$Inquiry" (21 : Nat) "CartelWatch$Inquiry" "tellings" "[I") ∈ lw_all := lw_g (lw_at lw_m3 49 rfl) rfl
theorem q552 : (Jvm.Cond.fieldLink "CartelWatch$Inquiry" (25 : Nat) "CartelWatch$Inquiry" "fines" "[I") ∈ lw_all := lw_g (lw_at lw_m3 51 rfl) rfl
theorem q554 : (Jvm.Cond.fieldLink "CartelWatch$Inquiry" (28 : Nat) "CartelWatch$Inquiry" "first" "I") ∈ lw_all := lw_g (lw_at lw_m3 53 rfl) rfl
theorem q557 : (Jvm.Cond.laysFinal "CartelWatch$Inquiry" "CartelWatch$Inquiry" "pair" "LCartelWatch$Pair;") ∈ lw_all := lw_g (lw_at lw_m3 56 rfl) rfl
theorem q558 : (Jvm.Cond.soleField "CartelWatch$Inquiry" "pair") ∈ lw_all := lw_g (lw_at lw_m3 57 rfl) rfl
theorem q559 : (Jvm.Cond.laysFinal "CartelWatch$Inquiry" "CartelWatch$Inquiry" "matters" "Ljava/util/List;") ∈ lw_all := lw_g (lw_at lw_m3 58 rfl) rfl
theorem q560 : (Jvm.Cond.soleField "CartelWatch$Inquiry" "matters") ∈ lw_all := lw_g (lw_at lw_m3 59 rfl) rfl
theorem q561 : (Jvm.Cond.laysFinal "CartelWatch$Inquiry" "CartelWatch$Inquiry" "told" "Ljava/util/List;") ∈ lw_all := lw_g (lw_at lw_m3 60 rfl) rfl
theorem q562 : (Jvm.Cond.soleField "CartelWatch$Inquiry" "told") ∈ lw_all := lw_g (lw_at lw_m3 61 rfl) rfl
theorem q563 : (Jvm.Cond.laysFinal "CartelWatch$Inquiry" "CartelWatch$Inquiry" "tellings" "[I") ∈ lw_all := lw_g (lw_at lw_m3 62 rfl) rfl
theorem q564 : (Jvm.Cond.soleField "CartelWatch$Inquiry" "tellings") ∈ lw_all := lw_g (lw_at lw_m3 63 rfl) rfl
theorem q565 : (Jvm.Cond.laysFinal "CartelWatch$Inquiry" "CartelWatch$Inquiry" "fines" "[I") ∈ lw_all := lw_g (lw_at lw_m3 64 rfl) rfl
theorem q566 : (Jvm.Cond.soleField "CartelWatch$Inquiry" "fines") ∈ lw_all := lw_g (lw_at lw_m3 65 rfl) rfl
theorem q567 : (Jvm.Cond.lays "CartelWatch$Inquiry" "CartelWatch$Inquiry" "first" "I") ∈ lw_all := lw_g (lw_at lw_m3 66 rfl) rfl
theorem q568 : (Jvm.Cond.soleField "CartelWatch$Inquiry" "first") ∈ lw_all := lw_g (lw_at lw_m3 67 rfl) rfl
theorem q569 : (Jvm.Cond.lays "CartelWatch$Inquiry" "CartelWatch$Inquiry" "closed" "Z") ∈ lw_all := lw_g (lw_at lw_m3 68 rfl) rfl
theorem q570 : (Jvm.Cond.soleField "CartelWatch$Inquiry" "closed") ∈ lw_all := lw_g (lw_at lw_m3 69 rfl) rfl
theorem q571 : (Jvm.Cond.superclass "CartelWatch$Inquiry" "java/lang/Object") ∈ lw_all := lw_g (lw_at lw_m3 70 rfl) rfl
theorem q613 : (Jvm.Cond.selects "CartelWatch$Inquiry" ({ cls := "java/lang/Object", name := "equals", desc := "(Ljava/lang/Object;)Z" } : Jvm.MethodName) ({ cls := "java/lang/Object", name := "equals", desc := "(Ljava/lang/Object;)Z" } : Jvm.MethodName)) ∈ lw_all := lw_g (lw_at lw_m3 112 rfl) rfl
theorem q650 : (Jvm.Cond.instanceMethod ({ cls := "CartelWatch$Inquiry", name := "fineOf", desc := "(II)I" } : Jvm.MethodName)) ∈ lw_all := lw_g (lw_at lw_m3 149 rfl) rfl
theorem q651 : (Jvm.Cond.selects "CartelWatch$Inquiry" ({ cls := "CartelWatch$Inquiry", name := "fineOf", desc := "(II)I" } : Jvm.MethodName) ({ cls := "CartelWatch$Inquiry", name := "fineOf", desc := "(II)I" } : Jvm.MethodName)) ∈ lw_all := lw_g (lw_at lw_m3 150 rfl) rfl
theorem q652 : (Jvm.Cond.code ({ cls := "CartelWatch$Inquiry", name := "fineOf", desc := "(II)I" } : Jvm.MethodName) prog_3_method_2_code (4 : Nat) (Option.some Jvm.ClassFile.FieldType.int)) ∈ lw_all := lw_g (lw_at lw_m3 151 rfl) rfl
theorem q653 : (Jvm.Cond.interfaceEntry "CartelWatch$Inquiry" (36 : Nat)) ∈ lw_tbl := lw_at lw_m3 152 rfl
theorem q654 : (Jvm.Cond.methodLink "CartelWatch$Inquiry" (36 : Nat) ({ cls := "java/util/List", name := "size", desc := "()I" } : Jvm.MethodName)) ∈ lw_all := lw_g (lw_at lw_m3 153 rfl) rfl
theorem q886 : (Jvm.Cond.castable "CartelWatch$Inquiry" "java/lang/Object") ∈ lw_tbl := lw_at lw_m4 145 rfl
theorem in_X6 : ∀ w ∈ wsX60, w ∈ lw_all := lw_in wsX60 [557, 559, 561, 563, 565, 567, 569] (by decide +kernel) (by decide +kernel)
