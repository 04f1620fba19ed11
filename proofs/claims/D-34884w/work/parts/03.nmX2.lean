/-! CartelWatchModel -/
set_option maxRecDepth 100000
def RX2 : String := "CartelWatchModel"
def TX2 : u_T := fun k => match k with
  | 0 => ("CartelWatchModel", "thrown", "I", false)
  | 1 => ("CartelWatchModel", "tenders", "I", false)
  | 2 => ("CartelWatchModel", "state", "[I", true)
  | 3 => ("CartelWatchModel", "winner", "[I", true)
  | 4 => ("CartelWatchModel", "passed", "[I", true)
  | 5 => ("CartelWatchModel", "part", "[I", true)
  | 6 => ("CartelWatchModel", "sum", "[I", true)
  | 7 => ("CartelWatchModel", "gone", "[Z", true)
  | 8 => ("CartelWatchModel", "mark", "I", false)
  | 9 => ("CartelWatchModel", "files", "I", false)
  | 10 => ("CartelWatchModel", "one", "[I", true)
  | 11 => ("CartelWatchModel", "two", "[I", true)
  | 12 => ("CartelWatchModel", "matters", "[I", true)
  | 13 => ("CartelWatchModel", "told", "[I", true)
  | 14 => ("CartelWatchModel", "first", "[I", true)
  | 15 => ("CartelWatchModel", "news", "[I", true)
  | 16 => ("CartelWatchModel", "fines", "[I", true)
  | 17 => ("CartelWatchModel", "closed", "[Z", true)
  | _ => ("CartelWatchModel", "paid", "[I", true)
def tyX2 : Nat → FieldType := fun k => match k with
  | 0 => .int
  | 1 => .int
  | 2 => .array .int
  | 3 => .array .int
  | 4 => .array .int
  | 5 => .array .int
  | 6 => .array .int
  | 7 => .array .boolean
  | 8 => .int
  | 9 => .int
  | 10 => .array .int
  | 11 => .array .int
  | 12 => .array .int
  | 13 => .array .int
  | 14 => .array .int
  | 15 => .array .int
  | 16 => .array .int
  | 17 => .array .boolean
  | _ => .array .int
abbrev wsX20 : List Cond := u_ws RX2 TX2 19
set_option maxRecDepth 100000 in
theorem nmX2 : ∀ a, a < 19 → ∀ b, b < 19 → a ≠ b → (TX2 a).2.1 ≠ (TX2 b).2.1 := by decide +kernel
set_option maxRecDepth 100000 in
theorem tyX2_ok : ∀ k, k < 19 → parseFieldDescriptor (TX2 k).2.2.1 = some (tyX2 k) := by decide +kernel
abbrev cX2_init : ByteArray := prog_8_method_1_code
def yX2_init : MethodName := ⟨RX2, "<init>", "()V"⟩
def dkwX2_init_5 : List UInt8 := [16, 20, 188, 4, 181, 0, 54, 42, 16, 7, 188, 10, 181, 0, 57, 177]
abbrev dktX2_init_5 : List UInt8 := dkwX2_init_5 ++ []
def dkwX2_init_4 : List UInt8 := [16, 20, 188, 10, 181, 0, 45, 42, 16, 40, 188, 10, 181, 0, 48, 42, 16, 40, 188, 10, 181, 0, 51, 42]
abbrev dktX2_init_4 : List UInt8 := dkwX2_init_4 ++ dktX2_init_5
def dkwX2_init_3 : List UInt8 := [16, 20, 188, 10, 181, 0, 36, 42, 16, 20, 188, 10, 181, 0, 39, 42, 16, 20, 188, 10, 181, 0, 42, 42]
abbrev dktX2_init_3 : List UInt8 := dkwX2_init_3 ++ dktX2_init_4
def dkwX2_init_2 : List UInt8 := [17, 0, 210, 188, 4, 181, 0, 25, 42, 16, 10, 181, 0, 29, 42, 16, 20, 188, 10, 181, 0, 33, 42]
abbrev dktX2_init_2 : List UInt8 := dkwX2_init_2 ++ dktX2_init_3
def dkwX2_init_1 : List UInt8 := [188, 10, 181, 0, 16, 42, 16, 30, 188, 10, 181, 0, 19, 42, 17, 0, 210, 188, 10, 181, 0, 22, 42]
abbrev dktX2_init_1 : List UInt8 := dkwX2_init_1 ++ dktX2_init_2
def dkwX2_init_0 : List UInt8 := [42, 183, 0, 1, 42, 16, 30, 188, 10, 181, 0, 7, 42, 16, 30, 188, 10, 181, 0, 13, 42, 16, 30]
abbrev dktX2_init_0 : List UInt8 := dkwX2_init_0 ++ dktX2_init_1
theorem dksX2_init_0 : cX2_init.data.toList.drop 0 = dktX2_init_0 := by decide +kernel
theorem dksX2_init_1 : cX2_init.data.toList.drop 23 = dktX2_init_1 := dk_seg dksX2_init_0 23 rfl rfl
theorem dksX2_init_2 : cX2_init.data.toList.drop 46 = dktX2_init_2 := dk_seg dksX2_init_1 23 rfl rfl
theorem dksX2_init_3 : cX2_init.data.toList.drop 69 = dktX2_init_3 := dk_seg dksX2_init_2 23 rfl rfl
theorem dksX2_init_4 : cX2_init.data.toList.drop 93 = dktX2_init_4 := dk_seg dksX2_init_3 24 rfl rfl
theorem dksX2_init_5 : cX2_init.data.toList.drop 117 = dktX2_init_5 := dk_seg dksX2_init_4 24 rfl rfl
theorem dX2_init_0 : decode cX2_init 0 = .ok (.aload_n 0, 1) := dk_42 (dk_at dksX2_init_0 0 rfl rfl)
theorem dX2_init_1 : decode cX2_init 1 = .ok (.invokespecial 1, 3) := dk_183 0 1 (dk_at dksX2_init_0 1 rfl rfl)
theorem dX2_init_4 : decode cX2_init 4 = .ok (.aload_n 0, 1) := dk_42 (dk_at dksX2_init_0 4 rfl rfl)
theorem dX2_init_5 : decode cX2_init 5 = .ok (.bipush 30, 2) := dk_16 30 (dk_at dksX2_init_0 5 rfl rfl)
theorem dX2_init_7 : decode cX2_init 7 = .ok (.newarray .int, 2) := dk_188_10 (dk_at dksX2_init_0 7 rfl rfl)
theorem dX2_init_9 : decode cX2_init 9 = .ok (.putfield 7, 3) := dk_181 0 7 (dk_at dksX2_init_0 9 rfl rfl)
theorem dX2_init_12 : decode cX2_init 12 = .ok (.aload_n 0, 1) := dk_42 (dk_at dksX2_init_0 12 rfl rfl)
theorem dX2_init_13 : decode cX2_init 13 = .ok (.bipush 30, 2) := dk_16 30 (dk_at dksX2_init_0 13 rfl rfl)
theorem dX2_init_15 : decode cX2_init 15 = .ok (.newarray .int, 2) := dk_188_10 (dk_at dksX2_init_0 15 rfl rfl)
theorem dX2_init_17 : decode cX2_init 17 = .ok (.putfield 13, 3) := dk_181 0 13 (dk_at dksX2_init_0 17 rfl rfl)
theorem dX2_init_20 : decode cX2_init 20 = .ok (.aload_n 0, 1) := dk_42 (dk_at dksX2_init_0 20 rfl rfl)
theorem dX2_init_21 : decode cX2_init 21 = .ok (.bipush 30, 2) := dk_16 30 (dk_at dksX2_init_0 21 rfl rfl)
theorem dX2_init_23 : decode cX2_init 23 = .ok (.newarray .int, 2) := dk_188_10 (dk_at dksX2_init_1 0 rfl rfl)
theorem dX2_init_25 : decode cX2_init 25 = .ok (.putfield 16, 3) := dk_181 0 16 (dk_at dksX2_init_1 2 rfl rfl)
theorem dX2_init_28 : decode cX2_init 28 = .ok (.aload_n 0, 1) := dk_42 (dk_at dksX2_init_1 5 rfl rfl)
theorem dX2_init_29 : decode cX2_init 29 = .ok (.bipush 30, 2) := dk_16 30 (dk_at dksX2_init_1 6 rfl rfl)
theorem dX2_init_31 : decode cX2_init 31 = .ok (.newarray .int, 2) := dk_188_10 (dk_at dksX2_init_1 8 rfl rfl)
theorem dX2_init_33 : decode cX2_init 33 = .ok (.putfield 19, 3) := dk_181 0 19 (dk_at dksX2_init_1 10 rfl rfl)
theorem dX2_init_36 : decode cX2_init 36 = .ok (.aload_n 0, 1) := dk_42 (dk_at dksX2_init_1 13 rfl rfl)
theorem dX2_init_37 : decode cX2_init 37 = .ok (.sipush 210, 3) := dk_17 0 210 (dk_at dksX2_init_1 14 rfl rfl)
theorem dX2_init_40 : decode cX2_init 40 = .ok (.newarray .int, 2) := dk_188_10 (dk_at dksX2_init_1 17 rfl rfl)
theorem dX2_init_42 : decode cX2_init 42 = .ok (.putfield 22, 3) := dk_181 0 22 (dk_at dksX2_init_1 19 rfl rfl)
theorem dX2_init_45 : decode cX2_init 45 = .ok (.aload_n 0, 1) := dk_42 (dk_at dksX2_init_1 22 rfl rfl)
theorem dX2_init_46 : decode cX2_init 46 = .ok (.sipush 210, 3) := dk_17 0 210 (dk_at dksX2_init_2 0 rfl rfl)
theorem dX2_init_49 : decode cX2_init 49 = .ok (.newarray .boolean, 2) := dk_188_4 (dk_at dksX2_init_2 3 rfl rfl)
theorem dX2_init_51 : decode cX2_init 51 = .ok (.putfield 25, 3) := dk_181 0 25 (dk_at dksX2_init_2 5 rfl rfl)
theorem dX2_init_54 : decode cX2_init 54 = .ok (.aload_n 0, 1) := dk_42 (dk_at dksX2_init_2 8 rfl rfl)
theorem dX2_init_55 : decode cX2_init 55 = .ok (.bipush 10, 2) := dk_16 10 (dk_at dksX2_init_2 9 rfl rfl)
theorem dX2_init_57 : decode cX2_init 57 = .ok (.putfield 29, 3) := dk_181 0 29 (dk_at dksX2_init_2 11 rfl rfl)
theorem dX2_init_60 : decode cX2_init 60 = .ok (.aload_n 0, 1) := dk_42 (dk_at dksX2_init_2 14 rfl rfl)
theorem dX2_init_61 : decode cX2_init 61 = .ok (.bipush 20, 2) := dk_16 20 (dk_at dksX2_init_2 15 rfl rfl)
theorem dX2_init_63 : decode cX2_init 63 = .ok (.newarray .int, 2) := dk_188_10 (dk_at dksX2_init_2 17 rfl rfl)
theorem dX2_init_65 : decode cX2_init 65 = .ok (.putfield 33, 3) := dk_181 0 33 (dk_at dksX2_init_2 19 rfl rfl)
theorem dX2_init_68 : decode cX2_init 68 = .ok (.aload_n 0, 1) := dk_42 (dk_at dksX2_init_2 22 rfl rfl)
theorem dX2_init_69 : decode cX2_init 69 = .ok (.bipush 20, 2) := dk_16 20 (dk_at dksX2_init_3 0 rfl rfl)
theorem dX2_init_71 : decode cX2_init 71 = .ok (.newarray .int, 2) := dk_188_10 (dk_at dksX2_init_3 2 rfl rfl)
theorem dX2_init_73 : decode cX2_init 73 = .ok (.putfield 36, 3) := dk_181 0 36 (dk_at dksX2_init_3 4 rfl rfl)
theorem dX2_init_76 : decode cX2_init 76 = .ok (.aload_n 0, 1) := dk_42 (dk_at dksX2_init_3 7 rfl rfl)
theorem dX2_init_77 : decode cX2_init 77 = .ok (.bipush 20, 2) := dk_16 20 (dk_at dksX2_init_3 8 rfl rfl)
theorem dX2_init_79 : decode cX2_init 79 = .ok (.newarray .int, 2) := dk_188_10 (dk_at dksX2_init_3 10 rfl rfl)
theorem dX2_init_81 : decode cX2_init 81 = .ok (.putfield 39, 3) := dk_181 0 39 (dk_at dksX2_init_3 12 rfl rfl)
theorem dX2_init_84 : decode cX2_init 84 = .ok (.aload_n 0, 1) := dk_42 (dk_at dksX2_init_3 15 rfl rfl)
theorem dX2_init_85 : decode cX2_init 85 = .ok (.bipush 20, 2) := dk_16 20 (dk_at dksX2_init_3 16 rfl rfl)
theorem dX2_init_87 : decode cX2_init 87 = .ok (.newarray .int, 2) := dk_188_10 (dk_at dksX2_init_3 18 rfl rfl)
theorem dX2_init_89 : decode cX2_init 89 = .ok (.putfield 42, 3) := dk_181 0 42 (dk_at dksX2_init_3 20 rfl rfl)
theorem dX2_init_92 : decode cX2_init 92 = .ok (.aload_n 0, 1) := dk_42 (dk_at dksX2_init_3 23 rfl rfl)
theorem dX2_init_93 : decode cX2_init 93 = .ok (.bipush 20, 2) := dk_16 20 (dk_at dksX2_init_4 0 rfl rfl)
theorem dX2_init_95 : decode cX2_init 95 = .ok (.newarray .int, 2) := dk_188_10 (dk_at dksX2_init_4 2 rfl rfl)
theorem dX2_init_97 : decode cX2_init 97 = .ok (.putfield 45, 3) := dk_181 0 45 (dk_at dksX2_init_4 4 rfl rfl)
theorem dX2_init_100 : decode cX2_init 100 = .ok (.aload_n 0, 1) := dk_42 (dk_at dksX2_init_4 7 rfl rfl)
theorem dX2_init_101 : decode cX2_init 101 = .ok (.bipush 40, 2) := dk_16 40 (dk_at dksX2_init_4 8 rfl rfl)
theorem dX2_init_103 : decode cX2_init 103 = .ok (.newarray .int, 2) := dk_188_10 (dk_at dksX2_init_4 10 rfl rfl)
theorem dX2_init_105 : decode cX2_init 105 = .ok (.putfield 48, 3) := dk_181 0 48 (dk_at dksX2_init_4 12 rfl rfl)
theorem dX2_init_108 : decode cX2_init 108 = .ok (.aload_n 0, 1) := dk_42 (dk_at dksX2_init_4 15 rfl rfl)
theorem dX2_init_109 : decode cX2_init 109 = .ok (.bipush 40, 2) := dk_16 40 (dk_at dksX2_init_4 16 rfl rfl)
theorem dX2_init_111 : decode cX2_init 111 = .ok (.newarray .int, 2) := dk_188_10 (dk_at dksX2_init_4 18 rfl rfl)
theorem dX2_init_113 : decode cX2_init 113 = .ok (.putfield 51, 3) := dk_181 0 51 (dk_at dksX2_init_4 20 rfl rfl)
theorem dX2_init_116 : decode cX2_init 116 = .ok (.aload_n 0, 1) := dk_42 (dk_at dksX2_init_4 23 rfl rfl)
theorem dX2_init_117 : decode cX2_init 117 = .ok (.bipush 20, 2) := dk_16 20 (dk_at dksX2_init_5 0 rfl rfl)
theorem dX2_init_119 : decode cX2_init 119 = .ok (.newarray .boolean, 2) := dk_188_4 (dk_at dksX2_init_5 2 rfl rfl)
theorem dX2_init_121 : decode cX2_init 121 = .ok (.putfield 54, 3) := dk_181 0 54 (dk_at dksX2_init_5 4 rfl rfl)
theorem dX2_init_124 : decode cX2_init 124 = .ok (.aload_n 0, 1) := dk_42 (dk_at dksX2_init_5 7 rfl rfl)
theorem dX2_init_125 : decode cX2_init 125 = .ok (.bipush 7, 2) := dk_16 7 (dk_at dksX2_init_5 8 rfl rfl)
theorem dX2_init_127 : decode cX2_init 127 = .ok (.newarray .int, 2) := dk_188_10 (dk_at dksX2_init_5 10 rfl rfl)
theorem dX2_init_129 : decode cX2_init 129 = .ok (.putfield 57, 3) := dk_181 0 57 (dk_at dksX2_init_5 12 rfl rfl)
theorem dX2_init_132 : decode cX2_init 132 = .ok (.return_, 1) := dk_177 (dk_at dksX2_init_5 15 rfl rfl)
abbrev cX2_thrown : ByteArray := prog_8_method_2_code
def yX2_thrown : MethodName := ⟨RX2, "thrown", "()I"⟩
theorem dX2_thrown_0 : decode cX2_thrown 0 = .ok (.aload_n 0, 1) := by decide +kernel
theorem dX2_thrown_1 : decode cX2_thrown 1 = .ok (.getfield 60, 3) := by decide +kernel
theorem dX2_thrown_4 : decode cX2_thrown 4 = .ok (.ireturn, 1) := by decide +kernel
abbrev cX2_open : ByteArray := prog_8_method_9_code
def yX2_open : MethodName := ⟨RX2, "open", "()I"⟩
def dkwX2_open_1 : List UInt8 := [42, 180, 0, 67, 2, 79, 42, 89, 180, 0, 67, 4, 96, 181, 0, 67, 42, 180, 0, 67, 4, 100, 172]
abbrev dktX2_open_1 : List UInt8 := dkwX2_open_1 ++ []
def dkwX2_open_0 : List UInt8 := [42, 3, 181, 0, 60, 42, 180, 0, 67, 16, 30, 160, 0, 9, 42, 4, 182, 0, 77, 172, 42, 180, 0, 16]
abbrev dktX2_open_0 : List UInt8 := dkwX2_open_0 ++ dktX2_open_1
theorem dksX2_open_0 : cX2_open.data.toList.drop 0 = dktX2_open_0 := by decide +kernel
theorem dksX2_open_1 : cX2_open.data.toList.drop 24 = dktX2_open_1 := dk_seg dksX2_open_0 24 rfl rfl
theorem dX2_open_0 : decode cX2_open 0 = .ok (.aload_n 0, 1) := dk_42 (dk_at dksX2_open_0 0 rfl rfl)
theorem dX2_open_1 : decode cX2_open 1 = .ok (.iconst 0, 1) := dk_3 (dk_at dksX2_open_0 1 rfl rfl)
theorem dX2_open_2 : decode cX2_open 2 = .ok (.putfield 60, 3) := dk_181 0 60 (dk_at dksX2_open_0 2 rfl rfl)
theorem dX2_open_5 : decode cX2_open 5 = .ok (.aload_n 0, 1) := dk_42 (dk_at dksX2_open_0 5 rfl rfl)
theorem dX2_open_6 : decode cX2_open 6 = .ok (.getfield 67, 3) := dk_180 0 67 (dk_at dksX2_open_0 6 rfl rfl)
theorem dX2_open_9 : decode cX2_open 9 = .ok (.bipush 30, 2) := dk_16 30 (dk_at dksX2_open_0 9 rfl rfl)
theorem dX2_open_11 : decode cX2_open 11 = .ok (.if_icmp .ne 9, 3) := dk_160 0 9 (dk_at dksX2_open_0 11 rfl rfl)
theorem dX2_open_14 : decode cX2_open 14 = .ok (.aload_n 0, 1) := dk_42 (dk_at dksX2_open_0 14 rfl rfl)
theorem dX2_open_15 : decode cX2_open 15 = .ok (.iconst 1, 1) := dk_4 (dk_at dksX2_open_0 15 rfl rfl)
theorem dX2_open_16 : decode cX2_open 16 = .ok (.invokevirtual 77, 3) := dk_182 0 77 (dk_at dksX2_open_0 16 rfl rfl)
theorem dX2_open_19 : decode cX2_open 19 = .ok (.ireturn, 1) := dk_172 (dk_at dksX2_open_0 19 rfl rfl)
theorem dX2_open_20 : decode cX2_open 20 = .ok (.aload_n 0, 1) := dk_42 (dk_at dksX2_open_0 20 rfl rfl)
theorem dX2_open_21 : decode cX2_open 21 = .ok (.getfield 16, 3) := dk_180 0 16 (dk_at dksX2_open_0 21 rfl rfl)
theorem dX2_open_24 : decode cX2_open 24 = .ok (.aload_n 0, 1) := dk_42 (dk_at dksX2_open_1 0 rfl rfl)
theorem dX2_open_25 : decode cX2_open 25 = .ok (.getfield 67, 3) := dk_180 0 67 (dk_at dksX2_open_1 1 rfl rfl)
theorem dX2_open_28 : decode cX2_open 28 = .ok (.iconst (-1), 1) := dk_2 (dk_at dksX2_open_1 4 rfl rfl)
theorem dX2_open_29 : decode cX2_open 29 = .ok (.iastore, 1) := dk_79 (dk_at dksX2_open_1 5 rfl rfl)
theorem dX2_open_30 : decode cX2_open 30 = .ok (.aload_n 0, 1) := dk_42 (dk_at dksX2_open_1 6 rfl rfl)
theorem dX2_open_31 : decode cX2_open 31 = .ok (.dup, 1) := dk_89 (dk_at dksX2_open_1 7 rfl rfl)
theorem dX2_open_32 : decode cX2_open 32 = .ok (.getfield 67, 3) := dk_180 0 67 (dk_at dksX2_open_1 8 rfl rfl)
theorem dX2_open_35 : decode cX2_open 35 = .ok (.iconst 1, 1) := dk_4 (dk_at dksX2_open_1 11 rfl rfl)
theorem dX2_open_36 : decode cX2_open 36 = .ok (.iadd, 1) := dk_96 (dk_at dksX2_open_1 12 rfl rfl)
theorem dX2_open_37 : decode cX2_open 37 = .ok (.putfield 67, 3) := dk_181 0 67 (dk_at dksX2_open_1 13 rfl rfl)
theorem dX2_open_40 : decode cX2_open 40 = .ok (.aload_n 0, 1) := dk_42 (dk_at dksX2_open_1 16 rfl rfl)
theorem dX2_open_41 : decode cX2_open 41 = .ok (.getfield 67, 3) := dk_180 0 67 (dk_at dksX2_open_1 17 rfl rfl)
theorem dX2_open_44 : decode cX2_open 44 = .ok (.iconst 1, 1) := dk_4 (dk_at dksX2_open_1 20 rfl rfl)
theorem dX2_open_45 : decode cX2_open 45 = .ok (.isub, 1) := dk_100 (dk_at dksX2_open_1 21 rfl rfl)
theorem dX2_open_46 : decode cX2_open 46 = .ok (.ireturn, 1) := dk_172 (dk_at dksX2_open_1 22 rfl rfl)
abbrev cX2_fails : ByteArray := prog_8_method_3_code
def yX2_fails : MethodName := ⟨RX2, "fails", "(I)I"⟩
def dkwX2_fails_0 : List UInt8 := [42, 27, 181, 0, 60, 3, 172]
abbrev dktX2_fails_0 : List UInt8 := dkwX2_fails_0 ++ []
theorem dksX2_fails_0 : cX2_fails.data.toList.drop 0 = dktX2_fails_0 := by decide +kernel
theorem dX2_fails_0 : decode cX2_fails 0 = .ok (.aload_n 0, 1) := dk_42 (dk_at dksX2_fails_0 0 rfl rfl)
theorem dX2_fails_1 : decode cX2_fails 1 = .ok (.iload_n 1, 1) := dk_27 (dk_at dksX2_fails_0 1 rfl rfl)
theorem dX2_fails_2 : decode cX2_fails 2 = .ok (.putfield 60, 3) := dk_181 0 60 (dk_at dksX2_fails_0 2 rfl rfl)
theorem dX2_fails_5 : decode cX2_fails 5 = .ok (.iconst 0, 1) := dk_3 (dk_at dksX2_fails_0 5 rfl rfl)
theorem dX2_fails_6 : decode cX2_fails 6 = .ok (.ireturn, 1) := dk_172 (dk_at dksX2_fails_0 6 rfl rfl)
abbrev cX2_bid : ByteArray := prog_8_method_12_code
def yX2_bid : MethodName := ⟨RX2, "bid", "(III)I"⟩
def dkwX2_bid_3 : List UInt8 := [42, 180, 0, 22, 16, 7, 27, 104, 28, 96, 29, 79, 42, 27, 182, 0, 89, 172]
abbrev dktX2_bid_3 : List UInt8 := dkwX2_bid_3 ++ []
def dkwX2_bid_2 : List UInt8 := [46, 154, 0, 17, 42, 180, 0, 22, 16, 7, 27, 104, 28, 96, 46, 158, 0, 9, 42, 6, 182, 0, 77, 172]
abbrev dktX2_bid_2 : List UInt8 := dkwX2_bid_2 ++ dktX2_bid_3
def dkwX2_bid_1 : List UInt8 := [153, 0, 13, 29, 4, 18, 88, 184, 0, 63, 154, 0, 9, 42, 5, 182, 0, 77, 172, 42, 180, 0, 7, 27]
abbrev dktX2_bid_1 : List UInt8 := dkwX2_bid_1 ++ dktX2_bid_2
def dkwX2_bid_0 : List UInt8 := [42, 3, 181, 0, 60, 42, 27, 182, 0, 85, 154, 0, 9, 42, 4, 182, 0, 77, 172, 28, 184, 0, 73]
abbrev dktX2_bid_0 : List UInt8 := dkwX2_bid_0 ++ dktX2_bid_1
theorem dksX2_bid_0 : cX2_bid.data.toList.drop 0 = dktX2_bid_0 := by decide +kernel
theorem dksX2_bid_1 : cX2_bid.data.toList.drop 23 = dktX2_bid_1 := dk_seg dksX2_bid_0 23 rfl rfl
theorem dksX2_bid_2 : cX2_bid.data.toList.drop 47 = dktX2_bid_2 := dk_seg dksX2_bid_1 24 rfl rfl
theorem dksX2_bid_3 : cX2_bid.data.toList.drop 71 = dktX2_bid_3 := dk_seg dksX2_bid_2 24 rfl rfl
theorem dX2_bid_0 : decode cX2_bid 0 = .ok (.aload_n 0, 1) := dk_42 (dk_at dksX2_bid_0 0 rfl rfl)
theorem dX2_bid_1 : decode cX2_bid 1 = .ok (.iconst 0, 1) := dk_3 (dk_at dksX2_bid_0 1 rfl rfl)
theorem dX2_bid_2 : decode cX2_bid 2 = .ok (.putfield 60, 3) := dk_181 0 60 (dk_at dksX2_bid_0 2 rfl rfl)
theorem dX2_bid_5 : decode cX2_bid 5 = .ok (.aload_n 0, 1) := dk_42 (dk_at dksX2_bid_0 5 rfl rfl)
theorem dX2_bid_6 : decode cX2_bid 6 = .ok (.iload_n 1, 1) := dk_27 (dk_at dksX2_bid_0 6 rfl rfl)
theorem dX2_bid_7 : decode cX2_bid 7 = .ok (.invokevirtual 85, 3) := dk_182 0 85 (dk_at dksX2_bid_0 7 rfl rfl)
theorem dX2_bid_10 : decode cX2_bid 10 = .ok (.ifCond .ne 9, 3) := dk_154 0 9 (dk_at dksX2_bid_0 10 rfl rfl)
theorem dX2_bid_13 : decode cX2_bid 13 = .ok (.aload_n 0, 1) := dk_42 (dk_at dksX2_bid_0 13 rfl rfl)
theorem dX2_bid_14 : decode cX2_bid 14 = .ok (.iconst 1, 1) := dk_4 (dk_at dksX2_bid_0 14 rfl rfl)
theorem dX2_bid_15 : decode cX2_bid 15 = .ok (.invokevirtual 77, 3) := dk_182 0 77 (dk_at dksX2_bid_0 15 rfl rfl)
theorem dX2_bid_18 : decode cX2_bid 18 = .ok (.ireturn, 1) := dk_172 (dk_at dksX2_bid_0 18 rfl rfl)
theorem dX2_bid_19 : decode cX2_bid 19 = .ok (.iload_n 2, 1) := dk_28 (dk_at dksX2_bid_0 19 rfl rfl)
theorem dX2_bid_20 : decode cX2_bid 20 = .ok (.invokestatic 73, 3) := dk_184 0 73 (dk_at dksX2_bid_0 20 rfl rfl)
theorem dX2_bid_23 : decode cX2_bid 23 = .ok (.ifCond .eq 13, 3) := dk_153 0 13 (dk_at dksX2_bid_1 0 rfl rfl)
theorem dX2_bid_26 : decode cX2_bid 26 = .ok (.iload_n 3, 1) := dk_29 (dk_at dksX2_bid_1 3 rfl rfl)
theorem dX2_bid_27 : decode cX2_bid 27 = .ok (.iconst 1, 1) := dk_4 (dk_at dksX2_bid_1 4 rfl rfl)
theorem dX2_bid_28 : decode cX2_bid 28 = .ok (.ldc 88, 2) := dk_18 88 (dk_at dksX2_bid_1 5 rfl rfl)
theorem dX2_bid_30 : decode cX2_bid 30 = .ok (.invokestatic 63, 3) := dk_184 0 63 (dk_at dksX2_bid_1 7 rfl rfl)
theorem dX2_bid_33 : decode cX2_bid 33 = .ok (.ifCond .ne 9, 3) := dk_154 0 9 (dk_at dksX2_bid_1 10 rfl rfl)
theorem dX2_bid_36 : decode cX2_bid 36 = .ok (.aload_n 0, 1) := dk_42 (dk_at dksX2_bid_1 13 rfl rfl)
theorem dX2_bid_37 : decode cX2_bid 37 = .ok (.iconst 2, 1) := dk_5 (dk_at dksX2_bid_1 14 rfl rfl)
theorem dX2_bid_38 : decode cX2_bid 38 = .ok (.invokevirtual 77, 3) := dk_182 0 77 (dk_at dksX2_bid_1 15 rfl rfl)
theorem dX2_bid_41 : decode cX2_bid 41 = .ok (.ireturn, 1) := dk_172 (dk_at dksX2_bid_1 18 rfl rfl)
theorem dX2_bid_42 : decode cX2_bid 42 = .ok (.aload_n 0, 1) := dk_42 (dk_at dksX2_bid_1 19 rfl rfl)
theorem dX2_bid_43 : decode cX2_bid 43 = .ok (.getfield 7, 3) := dk_180 0 7 (dk_at dksX2_bid_1 20 rfl rfl)
theorem dX2_bid_46 : decode cX2_bid 46 = .ok (.iload_n 1, 1) := dk_27 (dk_at dksX2_bid_1 23 rfl rfl)
theorem dX2_bid_47 : decode cX2_bid 47 = .ok (.iaload, 1) := dk_46 (dk_at dksX2_bid_2 0 rfl rfl)
theorem dX2_bid_48 : decode cX2_bid 48 = .ok (.ifCond .ne 17, 3) := dk_154 0 17 (dk_at dksX2_bid_2 1 rfl rfl)
theorem dX2_bid_51 : decode cX2_bid 51 = .ok (.aload_n 0, 1) := dk_42 (dk_at dksX2_bid_2 4 rfl rfl)
theorem dX2_bid_52 : decode cX2_bid 52 = .ok (.getfield 22, 3) := dk_180 0 22 (dk_at dksX2_bid_2 5 rfl rfl)
theorem dX2_bid_55 : decode cX2_bid 55 = .ok (.bipush 7, 2) := dk_16 7 (dk_at dksX2_bid_2 8 rfl rfl)
theorem dX2_bid_57 : decode cX2_bid 57 = .ok (.iload_n 1, 1) := dk_27 (dk_at dksX2_bid_2 10 rfl rfl)
theorem dX2_bid_58 : decode cX2_bid 58 = .ok (.imul, 1) := dk_104 (dk_at dksX2_bid_2 11 rfl rfl)
theorem dX2_bid_59 : decode cX2_bid 59 = .ok (.iload_n 2, 1) := dk_28 (dk_at dksX2_bid_2 12 rfl rfl)
theorem dX2_bid_60 : decode cX2_bid 60 = .ok (.iadd, 1) := dk_96 (dk_at dksX2_bid_2 13 rfl rfl)
theorem dX2_bid_61 : decode cX2_bid 61 = .ok (.iaload, 1) := dk_46 (dk_at dksX2_bid_2 14 rfl rfl)
theorem dX2_bid_62 : decode cX2_bid 62 = .ok (.ifCond .le 9, 3) := dk_158 0 9 (dk_at dksX2_bid_2 15 rfl rfl)
theorem dX2_bid_65 : decode cX2_bid 65 = .ok (.aload_n 0, 1) := dk_42 (dk_at dksX2_bid_2 18 rfl rfl)
theorem dX2_bid_66 : decode cX2_bid 66 = .ok (.iconst 3, 1) := dk_6 (dk_at dksX2_bid_2 19 rfl rfl)
theorem dX2_bid_67 : decode cX2_bid 67 = .ok (.invokevirtual 77, 3) := dk_182 0 77 (dk_at dksX2_bid_2 20 rfl rfl)
theorem dX2_bid_70 : decode cX2_bid 70 = .ok (.ireturn, 1) := dk_172 (dk_at dksX2_bid_2 23 rfl rfl)
theorem dX2_bid_71 : decode cX2_bid 71 = .ok (.aload_n 0, 1) := dk_42 (dk_at dksX2_bid_3 0 rfl rfl)
theorem dX2_bid_72 : decode cX2_bid 72 = .ok (.getfield 22, 3) := dk_180 0 22 (dk_at dksX2_bid_3 1 rfl rfl)
theorem dX2_bid_75 : decode cX2_bid 75 = .ok (.bipush 7, 2) := dk_16 7 (dk_at dksX2_bid_3 4 rfl rfl)
theorem dX2_bid_77 : decode cX2_bid 77 = .ok (.iload_n 1, 1) := dk_27 (dk_at dksX2_bid_3 6 rfl rfl)
theorem dX2_bid_78 : decode cX2_bid 78 = .ok (.imul, 1) := dk_104 (dk_at dksX2_bid_3 7 rfl rfl)
theorem dX2_bid_79 : decode cX2_bid 79 = .ok (.iload_n 2, 1) := dk_28 (dk_at dksX2_bid_3 8 rfl rfl)
theorem dX2_bid_80 : decode cX2_bid 80 = .ok (.iadd, 1) := dk_96 (dk_at dksX2_bid_3 9 rfl rfl)
theorem dX2_bid_81 : decode cX2_bid 81 = .ok (.iload_n 3, 1) := dk_29 (dk_at dksX2_bid_3 10 rfl rfl)
theorem dX2_bid_82 : decode cX2_bid 82 = .ok (.iastore, 1) := dk_79 (dk_at dksX2_bid_3 11 rfl rfl)
theorem dX2_bid_83 : decode cX2_bid 83 = .ok (.aload_n 0, 1) := dk_42 (dk_at dksX2_bid_3 12 rfl rfl)
theorem dX2_bid_84 : decode cX2_bid 84 = .ok (.iload_n 1, 1) := dk_27 (dk_at dksX2_bid_3 13 rfl rfl)
theorem dX2_bid_85 : decode cX2_bid 85 = .ok (.invokevirtual 89, 3) := dk_182 0 89 (dk_at dksX2_bid_3 14 rfl rfl)
theorem dX2_bid_88 : decode cX2_bid 88 = .ok (.ireturn, 1) := dk_172 (dk_at dksX2_bid_3 17 rfl rfl)
abbrev cX2_isTender : ByteArray := prog_8_method_6_code
def yX2_isTender : MethodName := ⟨RX2, "isTender", "(I)Z"⟩
def dkwX2_isTender_0 : List UInt8 := [27, 3, 42, 180, 0, 67, 4, 100, 184, 0, 63, 172]
abbrev dktX2_isTender_0 : List UInt8 := dkwX2_isTender_0 ++ []
theorem dksX2_isTender_0 : cX2_isTender.data.toList.drop 0 = dktX2_isTender_0 := by decide +kernel
theorem dX2_isTender_0 : decode cX2_isTender 0 = .ok (.iload_n 1, 1) := dk_27 (dk_at dksX2_isTender_0 0 rfl rfl)
theorem dX2_isTender_1 : decode cX2_isTender 1 = .ok (.iconst 0, 1) := dk_3 (dk_at dksX2_isTender_0 1 rfl rfl)
theorem dX2_isTender_2 : decode cX2_isTender 2 = .ok (.aload_n 0, 1) := dk_42 (dk_at dksX2_isTender_0 2 rfl rfl)
theorem dX2_isTender_3 : decode cX2_isTender 3 = .ok (.getfield 67, 3) := dk_180 0 67 (dk_at dksX2_isTender_0 3 rfl rfl)
theorem dX2_isTender_6 : decode cX2_isTender 6 = .ok (.iconst 1, 1) := dk_4 (dk_at dksX2_isTender_0 6 rfl rfl)
theorem dX2_isTender_7 : decode cX2_isTender 7 = .ok (.isub, 1) := dk_100 (dk_at dksX2_isTender_0 7 rfl rfl)
theorem dX2_isTender_8 : decode cX2_isTender 8 = .ok (.invokestatic 63, 3) := dk_184 0 63 (dk_at dksX2_isTender_0 8 rfl rfl)
theorem dX2_isTender_11 : decode cX2_isTender 11 = .ok (.ireturn, 1) := dk_172 (dk_at dksX2_isTender_0 11 rfl rfl)
abbrev cX2_in : ByteArray := prog_8_method_4_code
def yX2_in : MethodName := ⟨RX2, "in", "(III)Z"⟩
def dkwX2_in_0 : List UInt8 := [26, 27, 161, 0, 12, 26, 28, 163, 0, 7, 4, 167, 0, 4, 3, 172]
abbrev dktX2_in_0 : List UInt8 := dkwX2_in_0 ++ []
theorem dksX2_in_0 : cX2_in.data.toList.drop 0 = dktX2_in_0 := by decide +kernel
theorem dX2_in_0 : decode cX2_in 0 = .ok (.iload_n 0, 1) := dk_26 (dk_at dksX2_in_0 0 rfl rfl)
theorem dX2_in_1 : decode cX2_in 1 = .ok (.iload_n 1, 1) := dk_27 (dk_at dksX2_in_0 1 rfl rfl)
theorem dX2_in_2 : decode cX2_in 2 = .ok (.if_icmp .lt 12, 3) := dk_161 0 12 (dk_at dksX2_in_0 2 rfl rfl)
theorem dX2_in_5 : decode cX2_in 5 = .ok (.iload_n 0, 1) := dk_26 (dk_at dksX2_in_0 5 rfl rfl)
theorem dX2_in_6 : decode cX2_in 6 = .ok (.iload_n 2, 1) := dk_28 (dk_at dksX2_in_0 6 rfl rfl)
theorem dX2_in_7 : decode cX2_in 7 = .ok (.if_icmp .gt 7, 3) := dk_163 0 7 (dk_at dksX2_in_0 7 rfl rfl)
theorem dX2_in_10 : decode cX2_in 10 = .ok (.iconst 1, 1) := dk_4 (dk_at dksX2_in_0 10 rfl rfl)
theorem dX2_in_11 : decode cX2_in 11 = .ok (.goto 4, 3) := dk_167 0 4 (dk_at dksX2_in_0 11 rfl rfl)
theorem dX2_in_14 : decode cX2_in 14 = .ok (.iconst 0, 1) := dk_3 (dk_at dksX2_in_0 14 rfl rfl)
theorem dX2_in_15 : decode cX2_in 15 = .ok (.ireturn, 1) := dk_172 (dk_at dksX2_in_0 15 rfl rfl)
abbrev cX2_isBidder : ByteArray := prog_8_method_5_code
def yX2_isBidder : MethodName := ⟨RX2, "isBidder", "(I)Z"⟩
def dkwX2_isBidder_0 : List UInt8 := [26, 3, 16, 6, 184, 0, 63, 172]
abbrev dktX2_isBidder_0 : List UInt8 := dkwX2_isBidder_0 ++ []
theorem dksX2_isBidder_0 : cX2_isBidder.data.toList.drop 0 = dktX2_isBidder_0 := by decide +kernel
theorem dX2_isBidder_0 : decode cX2_isBidder 0 = .ok (.iload_n 0, 1) := dk_26 (dk_at dksX2_isBidder_0 0 rfl rfl)
theorem dX2_isBidder_1 : decode cX2_isBidder 1 = .ok (.iconst 0, 1) := dk_3 (dk_at dksX2_isBidder_0 1 rfl rfl)
theorem dX2_isBidder_2 : decode cX2_isBidder 2 = .ok (.bipush 6, 2) := dk_16 6 (dk_at dksX2_isBidder_0 2 rfl rfl)
theorem dX2_isBidder_4 : decode cX2_isBidder 4 = .ok (.invokestatic 63, 3) := dk_184 0 63 (dk_at dksX2_isBidder_0 4 rfl rfl)
theorem dX2_isBidder_7 : decode cX2_isBidder 7 = .ok (.ireturn, 1) := dk_172 (dk_at dksX2_isBidder_0 7 rfl rfl)
abbrev cX2_countBids : ByteArray := prog_8_method_11_code
def yX2_countBids : MethodName := ⟨RX2, "countBids", "(I)I"⟩
def dkwX2_countBids_1 : List UInt8 := [3, 96, 61, 132, 3, 1, 167, 255, 230, 28, 172]
abbrev dktX2_countBids_1 : List UInt8 := dkwX2_countBids_1 ++ []
def dkwX2_countBids_0 : List UInt8 := [3, 61, 3, 62, 29, 16, 7, 162, 0, 26, 28, 42, 27, 29, 182, 0, 81, 153, 0, 7, 4, 167, 0, 4]
abbrev dktX2_countBids_0 : List UInt8 := dkwX2_countBids_0 ++ dktX2_countBids_1
theorem dksX2_countBids_0 : cX2_countBids.data.toList.drop 0 = dktX2_countBids_0 := by decide +kernel
theorem dksX2_countBids_1 : cX2_countBids.data.toList.drop 24 = dktX2_countBids_1 := dk_seg dksX2_countBids_0 24 rfl rfl
theorem dX2_countBids_0 : decode cX2_countBids 0 = .ok (.iconst 0, 1) := dk_3 (dk_at dksX2_countBids_0 0 rfl rfl)
theorem dX2_countBids_1 : decode cX2_countBids 1 = .ok (.istore_n 2, 1) := dk_61 (dk_at dksX2_countBids_0 1 rfl rfl)
theorem dX2_countBids_2 : decode cX2_countBids 2 = .ok (.iconst 0, 1) := dk_3 (dk_at dksX2_countBids_0 2 rfl rfl)
theorem dX2_countBids_3 : decode cX2_countBids 3 = .ok (.istore_n 3, 1) := dk_62 (dk_at dksX2_countBids_0 3 rfl rfl)
theorem dX2_countBids_4 : decode cX2_countBids 4 = .ok (.iload_n 3, 1) := dk_29 (dk_at dksX2_countBids_0 4 rfl rfl)
theorem dX2_countBids_5 : decode cX2_countBids 5 = .ok (.bipush 7, 2) := dk_16 7 (dk_at dksX2_countBids_0 5 rfl rfl)
theorem dX2_countBids_7 : decode cX2_countBids 7 = .ok (.if_icmp .ge 26, 3) := dk_162 0 26 (dk_at dksX2_countBids_0 7 rfl rfl)
theorem dX2_countBids_10 : decode cX2_countBids 10 = .ok (.iload_n 2, 1) := dk_28 (dk_at dksX2_countBids_0 10 rfl rfl)
theorem dX2_countBids_11 : decode cX2_countBids 11 = .ok (.aload_n 0, 1) := dk_42 (dk_at dksX2_countBids_0 11 rfl rfl)
theorem dX2_countBids_12 : decode cX2_countBids 12 = .ok (.iload_n 1, 1) := dk_27 (dk_at dksX2_countBids_0 12 rfl rfl)
theorem dX2_countBids_13 : decode cX2_countBids 13 = .ok (.iload_n 3, 1) := dk_29 (dk_at dksX2_countBids_0 13 rfl rfl)
theorem dX2_countBids_14 : decode cX2_countBids 14 = .ok (.invokevirtual 81, 3) := dk_182 0 81 (dk_at dksX2_countBids_0 14 rfl rfl)
theorem dX2_countBids_17 : decode cX2_countBids 17 = .ok (.ifCond .eq 7, 3) := dk_153 0 7 (dk_at dksX2_countBids_0 17 rfl rfl)
theorem dX2_countBids_20 : decode cX2_countBids 20 = .ok (.iconst 1, 1) := dk_4 (dk_at dksX2_countBids_0 20 rfl rfl)
theorem dX2_countBids_21 : decode cX2_countBids 21 = .ok (.goto 4, 3) := dk_167 0 4 (dk_at dksX2_countBids_0 21 rfl rfl)
theorem dX2_countBids_24 : decode cX2_countBids 24 = .ok (.iconst 0, 1) := dk_3 (dk_at dksX2_countBids_1 0 rfl rfl)
theorem dX2_countBids_25 : decode cX2_countBids 25 = .ok (.iadd, 1) := dk_96 (dk_at dksX2_countBids_1 1 rfl rfl)
theorem dX2_countBids_26 : decode cX2_countBids 26 = .ok (.istore_n 2, 1) := dk_61 (dk_at dksX2_countBids_1 2 rfl rfl)
theorem dX2_countBids_27 : decode cX2_countBids 27 = .ok (.iinc 3 1, 3) := dk_132 3 1 (dk_at dksX2_countBids_1 3 rfl rfl)
theorem dX2_countBids_30 : decode cX2_countBids 30 = .ok (.goto (-26), 3) := dk_167 255 230 (dk_at dksX2_countBids_1 6 rfl rfl)
theorem dX2_countBids_33 : decode cX2_countBids 33 = .ok (.iload_n 2, 1) := dk_28 (dk_at dksX2_countBids_1 9 rfl rfl)
theorem dX2_countBids_34 : decode cX2_countBids 34 = .ok (.ireturn, 1) := dk_172 (dk_at dksX2_countBids_1 10 rfl rfl)
abbrev cX2_stands : ByteArray := prog_8_method_10_code
def yX2_stands : MethodName := ⟨RX2, "stands", "(II)Z"⟩
def dkwX2_stands_1 : List UInt8 := [51, 154, 0, 7, 4, 167, 0, 4, 3, 172]
abbrev dktX2_stands_1 : List UInt8 := dkwX2_stands_1 ++ []
def dkwX2_stands_0 : List UInt8 := [42, 180, 0, 22, 16, 7, 27, 104, 28, 96, 46, 158, 0, 21, 42, 180, 0, 25, 16, 7, 27, 104, 28, 96]
abbrev dktX2_stands_0 : List UInt8 := dkwX2_stands_0 ++ dktX2_stands_1
theorem dksX2_stands_0 : cX2_stands.data.toList.drop 0 = dktX2_stands_0 := by decide +kernel
theorem dksX2_stands_1 : cX2_stands.data.toList.drop 24 = dktX2_stands_1 := dk_seg dksX2_stands_0 24 rfl rfl
theorem dX2_stands_0 : decode cX2_stands 0 = .ok (.aload_n 0, 1) := dk_42 (dk_at dksX2_stands_0 0 rfl rfl)
theorem dX2_stands_1 : decode cX2_stands 1 = .ok (.getfield 22, 3) := dk_180 0 22 (dk_at dksX2_stands_0 1 rfl rfl)
theorem dX2_stands_4 : decode cX2_stands 4 = .ok (.bipush 7, 2) := dk_16 7 (dk_at dksX2_stands_0 4 rfl rfl)
theorem dX2_stands_6 : decode cX2_stands 6 = .ok (.iload_n 1, 1) := dk_27 (dk_at dksX2_stands_0 6 rfl rfl)
theorem dX2_stands_7 : decode cX2_stands 7 = .ok (.imul, 1) := dk_104 (dk_at dksX2_stands_0 7 rfl rfl)
theorem dX2_stands_8 : decode cX2_stands 8 = .ok (.iload_n 2, 1) := dk_28 (dk_at dksX2_stands_0 8 rfl rfl)
theorem dX2_stands_9 : decode cX2_stands 9 = .ok (.iadd, 1) := dk_96 (dk_at dksX2_stands_0 9 rfl rfl)
theorem dX2_stands_10 : decode cX2_stands 10 = .ok (.iaload, 1) := dk_46 (dk_at dksX2_stands_0 10 rfl rfl)
theorem dX2_stands_11 : decode cX2_stands 11 = .ok (.ifCond .le 21, 3) := dk_158 0 21 (dk_at dksX2_stands_0 11 rfl rfl)
theorem dX2_stands_14 : decode cX2_stands 14 = .ok (.aload_n 0, 1) := dk_42 (dk_at dksX2_stands_0 14 rfl rfl)
theorem dX2_stands_15 : decode cX2_stands 15 = .ok (.getfield 25, 3) := dk_180 0 25 (dk_at dksX2_stands_0 15 rfl rfl)
theorem dX2_stands_18 : decode cX2_stands 18 = .ok (.bipush 7, 2) := dk_16 7 (dk_at dksX2_stands_0 18 rfl rfl)
theorem dX2_stands_20 : decode cX2_stands 20 = .ok (.iload_n 1, 1) := dk_27 (dk_at dksX2_stands_0 20 rfl rfl)
theorem dX2_stands_21 : decode cX2_stands 21 = .ok (.imul, 1) := dk_104 (dk_at dksX2_stands_0 21 rfl rfl)
theorem dX2_stands_22 : decode cX2_stands 22 = .ok (.iload_n 2, 1) := dk_28 (dk_at dksX2_stands_0 22 rfl rfl)
theorem dX2_stands_23 : decode cX2_stands 23 = .ok (.iadd, 1) := dk_96 (dk_at dksX2_stands_0 23 rfl rfl)
theorem dX2_stands_24 : decode cX2_stands 24 = .ok (.baload, 1) := dk_51 (dk_at dksX2_stands_1 0 rfl rfl)
theorem dX2_stands_25 : decode cX2_stands 25 = .ok (.ifCond .ne 7, 3) := dk_154 0 7 (dk_at dksX2_stands_1 1 rfl rfl)
theorem dX2_stands_28 : decode cX2_stands 28 = .ok (.iconst 1, 1) := dk_4 (dk_at dksX2_stands_1 4 rfl rfl)
theorem dX2_stands_29 : decode cX2_stands 29 = .ok (.goto 4, 3) := dk_167 0 4 (dk_at dksX2_stands_1 5 rfl rfl)
theorem dX2_stands_32 : decode cX2_stands 32 = .ok (.iconst 0, 1) := dk_3 (dk_at dksX2_stands_1 8 rfl rfl)
theorem dX2_stands_33 : decode cX2_stands 33 = .ok (.ireturn, 1) := dk_172 (dk_at dksX2_stands_1 9 rfl rfl)
abbrev cX2_withdraw : ByteArray := prog_8_method_13_code
def yX2_withdraw : MethodName := ⟨RX2, "withdraw", "(II)I"⟩
def dkwX2_withdraw_3 : List UInt8 := [180, 0, 22, 16, 7, 27, 104, 28, 96, 46, 172]
abbrev dktX2_withdraw_3 : List UInt8 := dkwX2_withdraw_3 ++ []
def dkwX2_withdraw_2 : List UInt8 := [154, 0, 9, 42, 6, 182, 0, 77, 172, 42, 180, 0, 25, 16, 7, 27, 104, 28, 96, 4, 84, 42]
abbrev dktX2_withdraw_2 : List UInt8 := dkwX2_withdraw_2 ++ dktX2_withdraw_3
def dkwX2_withdraw_1 : List UInt8 := [154, 0, 9, 42, 5, 182, 0, 77, 172, 42, 180, 0, 7, 27, 46, 154, 0, 12, 42, 27, 28, 182, 0, 81]
abbrev dktX2_withdraw_1 : List UInt8 := dkwX2_withdraw_1 ++ dktX2_withdraw_2
def dkwX2_withdraw_0 : List UInt8 := [42, 3, 181, 0, 60, 42, 27, 182, 0, 85, 154, 0, 9, 42, 4, 182, 0, 77, 172, 28, 184, 0, 73]
abbrev dktX2_withdraw_0 : List UInt8 := dkwX2_withdraw_0 ++ dktX2_withdraw_1
theorem dksX2_withdraw_0 : cX2_withdraw.data.toList.drop 0 = dktX2_withdraw_0 := by decide +kernel
theorem dksX2_withdraw_1 : cX2_withdraw.data.toList.drop 23 = dktX2_withdraw_1 := dk_seg dksX2_withdraw_0 23 rfl rfl
theorem dksX2_withdraw_2 : cX2_withdraw.data.toList.drop 47 = dktX2_withdraw_2 := dk_seg dksX2_withdraw_1 24 rfl rfl
theorem dksX2_withdraw_3 : cX2_withdraw.data.toList.drop 69 = dktX2_withdraw_3 := dk_seg dksX2_withdraw_2 22 rfl rfl
theorem dX2_withdraw_0 : decode cX2_withdraw 0 = .ok (.aload_n 0, 1) := dk_42 (dk_at dksX2_withdraw_0 0 rfl rfl)
theorem dX2_withdraw_1 : decode cX2_withdraw 1 = .ok (.iconst 0, 1) := dk_3 (dk_at dksX2_withdraw_0 1 rfl rfl)
theorem dX2_withdraw_2 : decode cX2_withdraw 2 = .ok (.putfield 60, 3) := dk_181 0 60 (dk_at dksX2_withdraw_0 2 rfl rfl)
theorem dX2_withdraw_5 : decode cX2_withdraw 5 = .ok (.aload_n 0, 1) := dk_42 (dk_at dksX2_withdraw_0 5 rfl rfl)
theorem dX2_withdraw_6 : decode cX2_withdraw 6 = .ok (.iload_n 1, 1) := dk_27 (dk_at dksX2_withdraw_0 6 rfl rfl)
theorem dX2_withdraw_7 : decode cX2_withdraw 7 = .ok (.invokevirtual 85, 3) := dk_182 0 85 (dk_at dksX2_withdraw_0 7 rfl rfl)
theorem dX2_withdraw_10 : decode cX2_withdraw 10 = .ok (.ifCond .ne 9, 3) := dk_154 0 9 (dk_at dksX2_withdraw_0 10 rfl rfl)
theorem dX2_withdraw_13 : decode cX2_withdraw 13 = .ok (.aload_n 0, 1) := dk_42 (dk_at dksX2_withdraw_0 13 rfl rfl)
theorem dX2_withdraw_14 : decode cX2_withdraw 14 = .ok (.iconst 1, 1) := dk_4 (dk_at dksX2_withdraw_0 14 rfl rfl)
theorem dX2_withdraw_15 : decode cX2_withdraw 15 = .ok (.invokevirtual 77, 3) := dk_182 0 77 (dk_at dksX2_withdraw_0 15 rfl rfl)
theorem dX2_withdraw_18 : decode cX2_withdraw 18 = .ok (.ireturn, 1) := dk_172 (dk_at dksX2_withdraw_0 18 rfl rfl)
theorem dX2_withdraw_19 : decode cX2_withdraw 19 = .ok (.iload_n 2, 1) := dk_28 (dk_at dksX2_withdraw_0 19 rfl rfl)
theorem dX2_withdraw_20 : decode cX2_withdraw 20 = .ok (.invokestatic 73, 3) := dk_184 0 73 (dk_at dksX2_withdraw_0 20 rfl rfl)
theorem dX2_withdraw_23 : decode cX2_withdraw 23 = .ok (.ifCond .ne 9, 3) := dk_154 0 9 (dk_at dksX2_withdraw_1 0 rfl rfl)
theorem dX2_withdraw_26 : decode cX2_withdraw 26 = .ok (.aload_n 0, 1) := dk_42 (dk_at dksX2_withdraw_1 3 rfl rfl)
theorem dX2_withdraw_27 : decode cX2_withdraw 27 = .ok (.iconst 2, 1) := dk_5 (dk_at dksX2_withdraw_1 4 rfl rfl)
theorem dX2_withdraw_28 : decode cX2_withdraw 28 = .ok (.invokevirtual 77, 3) := dk_182 0 77 (dk_at dksX2_withdraw_1 5 rfl rfl)
theorem dX2_withdraw_31 : decode cX2_withdraw 31 = .ok (.ireturn, 1) := dk_172 (dk_at dksX2_withdraw_1 8 rfl rfl)
theorem dX2_withdraw_32 : decode cX2_withdraw 32 = .ok (.aload_n 0, 1) := dk_42 (dk_at dksX2_withdraw_1 9 rfl rfl)
theorem dX2_withdraw_33 : decode cX2_withdraw 33 = .ok (.getfield 7, 3) := dk_180 0 7 (dk_at dksX2_withdraw_1 10 rfl rfl)
theorem dX2_withdraw_36 : decode cX2_withdraw 36 = .ok (.iload_n 1, 1) := dk_27 (dk_at dksX2_withdraw_1 13 rfl rfl)
theorem dX2_withdraw_37 : decode cX2_withdraw 37 = .ok (.iaload, 1) := dk_46 (dk_at dksX2_withdraw_1 14 rfl rfl)
theorem dX2_withdraw_38 : decode cX2_withdraw 38 = .ok (.ifCond .ne 12, 3) := dk_154 0 12 (dk_at dksX2_withdraw_1 15 rfl rfl)
theorem dX2_withdraw_41 : decode cX2_withdraw 41 = .ok (.aload_n 0, 1) := dk_42 (dk_at dksX2_withdraw_1 18 rfl rfl)
theorem dX2_withdraw_42 : decode cX2_withdraw 42 = .ok (.iload_n 1, 1) := dk_27 (dk_at dksX2_withdraw_1 19 rfl rfl)
theorem dX2_withdraw_43 : decode cX2_withdraw 43 = .ok (.iload_n 2, 1) := dk_28 (dk_at dksX2_withdraw_1 20 rfl rfl)
theorem dX2_withdraw_44 : decode cX2_withdraw 44 = .ok (.invokevirtual 81, 3) := dk_182 0 81 (dk_at dksX2_withdraw_1 21 rfl rfl)
theorem dX2_withdraw_47 : decode cX2_withdraw 47 = .ok (.ifCond .ne 9, 3) := dk_154 0 9 (dk_at dksX2_withdraw_2 0 rfl rfl)
theorem dX2_withdraw_50 : decode cX2_withdraw 50 = .ok (.aload_n 0, 1) := dk_42 (dk_at dksX2_withdraw_2 3 rfl rfl)
theorem dX2_withdraw_51 : decode cX2_withdraw 51 = .ok (.iconst 3, 1) := dk_6 (dk_at dksX2_withdraw_2 4 rfl rfl)
theorem dX2_withdraw_52 : decode cX2_withdraw 52 = .ok (.invokevirtual 77, 3) := dk_182 0 77 (dk_at dksX2_withdraw_2 5 rfl rfl)
theorem dX2_withdraw_55 : decode cX2_withdraw 55 = .ok (.ireturn, 1) := dk_172 (dk_at dksX2_withdraw_2 8 rfl rfl)
theorem dX2_withdraw_56 : decode cX2_withdraw 56 = .ok (.aload_n 0, 1) := dk_42 (dk_at dksX2_withdraw_2 9 rfl rfl)
theorem dX2_withdraw_57 : decode cX2_withdraw 57 = .ok (.getfield 25, 3) := dk_180 0 25 (dk_at dksX2_withdraw_2 10 rfl rfl)
theorem dX2_withdraw_60 : decode cX2_withdraw 60 = .ok (.bipush 7, 2) := dk_16 7 (dk_at dksX2_withdraw_2 13 rfl rfl)
theorem dX2_withdraw_62 : decode cX2_withdraw 62 = .ok (.iload_n 1, 1) := dk_27 (dk_at dksX2_withdraw_2 15 rfl rfl)
theorem dX2_withdraw_63 : decode cX2_withdraw 63 = .ok (.imul, 1) := dk_104 (dk_at dksX2_withdraw_2 16 rfl rfl)
theorem dX2_withdraw_64 : decode cX2_withdraw 64 = .ok (.iload_n 2, 1) := dk_28 (dk_at dksX2_withdraw_2 17 rfl rfl)
theorem dX2_withdraw_65 : decode cX2_withdraw 65 = .ok (.iadd, 1) := dk_96 (dk_at dksX2_withdraw_2 18 rfl rfl)
theorem dX2_withdraw_66 : decode cX2_withdraw 66 = .ok (.iconst 1, 1) := dk_4 (dk_at dksX2_withdraw_2 19 rfl rfl)
theorem dX2_withdraw_67 : decode cX2_withdraw 67 = .ok (.bastore, 1) := dk_84 (dk_at dksX2_withdraw_2 20 rfl rfl)
theorem dX2_withdraw_68 : decode cX2_withdraw 68 = .ok (.aload_n 0, 1) := dk_42 (dk_at dksX2_withdraw_2 21 rfl rfl)
theorem dX2_withdraw_69 : decode cX2_withdraw 69 = .ok (.getfield 22, 3) := dk_180 0 22 (dk_at dksX2_withdraw_3 0 rfl rfl)
theorem dX2_withdraw_72 : decode cX2_withdraw 72 = .ok (.bipush 7, 2) := dk_16 7 (dk_at dksX2_withdraw_3 3 rfl rfl)
theorem dX2_withdraw_74 : decode cX2_withdraw 74 = .ok (.iload_n 1, 1) := dk_27 (dk_at dksX2_withdraw_3 5 rfl rfl)
theorem dX2_withdraw_75 : decode cX2_withdraw 75 = .ok (.imul, 1) := dk_104 (dk_at dksX2_withdraw_3 6 rfl rfl)
theorem dX2_withdraw_76 : decode cX2_withdraw 76 = .ok (.iload_n 2, 1) := dk_28 (dk_at dksX2_withdraw_3 7 rfl rfl)
theorem dX2_withdraw_77 : decode cX2_withdraw 77 = .ok (.iadd, 1) := dk_96 (dk_at dksX2_withdraw_3 8 rfl rfl)
theorem dX2_withdraw_78 : decode cX2_withdraw 78 = .ok (.iaload, 1) := dk_46 (dk_at dksX2_withdraw_3 9 rfl rfl)
theorem dX2_withdraw_79 : decode cX2_withdraw 79 = .ok (.ireturn, 1) := dk_172 (dk_at dksX2_withdraw_3 10 rfl rfl)
abbrev cX2_award : ByteArray := prog_8_method_14_code
def yX2_award : MethodName := ⟨RX2, "award", "(I)I"⟩
def dkwX2_award_5 : List UInt8 := [160, 0, 7, 5, 167, 0, 4, 4, 79, 42, 180, 0, 13, 27, 28, 79, 28, 172]
abbrev dktX2_award_5 : List UInt8 := dkwX2_award_5 ++ []
def dkwX2_award_4 : List UInt8 := [153, 0, 7, 29, 167, 0, 4, 28, 61, 132, 3, 1, 167, 255, 190, 42, 180, 0, 7, 27, 28, 2]
abbrev dktX2_award_4 : List UInt8 := dkwX2_award_4 ++ dktX2_award_5
def dkwX2_award_3 : List UInt8 := [46, 162, 0, 7, 4, 167, 0, 4, 3, 54, 4, 42, 27, 29, 182, 0, 81, 153, 0, 12, 21, 4]
abbrev dktX2_award_3 : List UInt8 := dkwX2_award_3 ++ dktX2_award_4
def dkwX2_award_2 : List UInt8 := [159, 0, 28, 42, 180, 0, 22, 16, 7, 27, 104, 29, 96, 46, 42, 180, 0, 22, 16, 7, 27, 104, 28, 96]
abbrev dktX2_award_2 : List UInt8 := dkwX2_award_2 ++ dktX2_award_3
def dkwX2_award_1 : List UInt8 := [46, 153, 0, 9, 42, 5, 182, 0, 77, 172, 2, 61, 3, 62, 29, 16, 7, 162, 0, 66, 28, 2]
abbrev dktX2_award_1 : List UInt8 := dkwX2_award_1 ++ dktX2_award_2
def dkwX2_award_0 : List UInt8 := [42, 3, 181, 0, 60, 42, 27, 182, 0, 85, 154, 0, 9, 42, 4, 182, 0, 77, 172, 42, 180, 0, 7, 27]
abbrev dktX2_award_0 : List UInt8 := dkwX2_award_0 ++ dktX2_award_1
theorem dksX2_award_0 : cX2_award.data.toList.drop 0 = dktX2_award_0 := by decide +kernel
theorem dksX2_award_1 : cX2_award.data.toList.drop 24 = dktX2_award_1 := dk_seg dksX2_award_0 24 rfl rfl
theorem dksX2_award_2 : cX2_award.data.toList.drop 46 = dktX2_award_2 := dk_seg dksX2_award_1 22 rfl rfl
theorem dksX2_award_3 : cX2_award.data.toList.drop 70 = dktX2_award_3 := dk_seg dksX2_award_2 24 rfl rfl
theorem dksX2_award_4 : cX2_award.data.toList.drop 92 = dktX2_award_4 := dk_seg dksX2_award_3 22 rfl rfl
theorem dksX2_award_5 : cX2_award.data.toList.drop 114 = dktX2_award_5 := dk_seg dksX2_award_4 22 rfl rfl
theorem dX2_award_0 : decode cX2_award 0 = .ok (.aload_n 0, 1) := dk_42 (dk_at dksX2_award_0 0 rfl rfl)
theorem dX2_award_1 : decode cX2_award 1 = .ok (.iconst 0, 1) := dk_3 (dk_at dksX2_award_0 1 rfl rfl)
theorem dX2_award_2 : decode cX2_award 2 = .ok (.putfield 60, 3) := dk_181 0 60 (dk_at dksX2_award_0 2 rfl rfl)
theorem dX2_award_5 : decode cX2_award 5 = .ok (.aload_n 0, 1) := dk_42 (dk_at dksX2_award_0 5 rfl rfl)
theorem dX2_award_6 : decode cX2_award 6 = .ok (.iload_n 1, 1) := dk_27 (dk_at dksX2_award_0 6 rfl rfl)
theorem dX2_award_7 : decode cX2_award 7 = .ok (.invokevirtual 85, 3) := dk_182 0 85 (dk_at dksX2_award_0 7 rfl rfl)
theorem dX2_award_10 : decode cX2_award 10 = .ok (.ifCond .ne 9, 3) := dk_154 0 9 (dk_at dksX2_award_0 10 rfl rfl)
theorem dX2_award_13 : decode cX2_award 13 = .ok (.aload_n 0, 1) := dk_42 (dk_at dksX2_award_0 13 rfl rfl)
theorem dX2_award_14 : decode cX2_award 14 = .ok (.iconst 1, 1) := dk_4 (dk_at dksX2_award_0 14 rfl rfl)
theorem dX2_award_15 : decode cX2_award 15 = .ok (.invokevirtual 77, 3) := dk_182 0 77 (dk_at dksX2_award_0 15 rfl rfl)
theorem dX2_award_18 : decode cX2_award 18 = .ok (.ireturn, 1) := dk_172 (dk_at dksX2_award_0 18 rfl rfl)
theorem dX2_award_19 : decode cX2_award 19 = .ok (.aload_n 0, 1) := dk_42 (dk_at dksX2_award_0 19 rfl rfl)
theorem dX2_award_20 : decode cX2_award 20 = .ok (.getfield 7, 3) := dk_180 0 7 (dk_at dksX2_award_0 20 rfl rfl)
theorem dX2_award_23 : decode cX2_award 23 = .ok (.iload_n 1, 1) := dk_27 (dk_at dksX2_award_0 23 rfl rfl)
theorem dX2_award_24 : decode cX2_award 24 = .ok (.iaload, 1) := dk_46 (dk_at dksX2_award_1 0 rfl rfl)
theorem dX2_award_25 : decode cX2_award 25 = .ok (.ifCond .eq 9, 3) := dk_153 0 9 (dk_at dksX2_award_1 1 rfl rfl)
theorem dX2_award_28 : decode cX2_award 28 = .ok (.aload_n 0, 1) := dk_42 (dk_at dksX2_award_1 4 rfl rfl)
theorem dX2_award_29 : decode cX2_award 29 = .ok (.iconst 2, 1) := dk_5 (dk_at dksX2_award_1 5 rfl rfl)
theorem dX2_award_30 : decode cX2_award 30 = .ok (.invokevirtual 77, 3) := dk_182 0 77 (dk_at dksX2_award_1 6 rfl rfl)
theorem dX2_award_33 : decode cX2_award 33 = .ok (.ireturn, 1) := dk_172 (dk_at dksX2_award_1 9 rfl rfl)
theorem dX2_award_34 : decode cX2_award 34 = .ok (.iconst (-1), 1) := dk_2 (dk_at dksX2_award_1 10 rfl rfl)
theorem dX2_award_35 : decode cX2_award 35 = .ok (.istore_n 2, 1) := dk_61 (dk_at dksX2_award_1 11 rfl rfl)
theorem dX2_award_36 : decode cX2_award 36 = .ok (.iconst 0, 1) := dk_3 (dk_at dksX2_award_1 12 rfl rfl)
theorem dX2_award_37 : decode cX2_award 37 = .ok (.istore_n 3, 1) := dk_62 (dk_at dksX2_award_1 13 rfl rfl)
theorem dX2_award_38 : decode cX2_award 38 = .ok (.iload_n 3, 1) := dk_29 (dk_at dksX2_award_1 14 rfl rfl)
theorem dX2_award_39 : decode cX2_award 39 = .ok (.bipush 7, 2) := dk_16 7 (dk_at dksX2_award_1 15 rfl rfl)
theorem dX2_award_41 : decode cX2_award 41 = .ok (.if_icmp .ge 66, 3) := dk_162 0 66 (dk_at dksX2_award_1 17 rfl rfl)
theorem dX2_award_44 : decode cX2_award 44 = .ok (.iload_n 2, 1) := dk_28 (dk_at dksX2_award_1 20 rfl rfl)
theorem dX2_award_45 : decode cX2_award 45 = .ok (.iconst (-1), 1) := dk_2 (dk_at dksX2_award_1 21 rfl rfl)
theorem dX2_award_46 : decode cX2_award 46 = .ok (.if_icmp .eq 28, 3) := dk_159 0 28 (dk_at dksX2_award_2 0 rfl rfl)
theorem dX2_award_49 : decode cX2_award 49 = .ok (.aload_n 0, 1) := dk_42 (dk_at dksX2_award_2 3 rfl rfl)
theorem dX2_award_50 : decode cX2_award 50 = .ok (.getfield 22, 3) := dk_180 0 22 (dk_at dksX2_award_2 4 rfl rfl)
theorem dX2_award_53 : decode cX2_award 53 = .ok (.bipush 7, 2) := dk_16 7 (dk_at dksX2_award_2 7 rfl rfl)
theorem dX2_award_55 : decode cX2_award 55 = .ok (.iload_n 1, 1) := dk_27 (dk_at dksX2_award_2 9 rfl rfl)
theorem dX2_award_56 : decode cX2_award 56 = .ok (.imul, 1) := dk_104 (dk_at dksX2_award_2 10 rfl rfl)
theorem dX2_award_57 : decode cX2_award 57 = .ok (.iload_n 3, 1) := dk_29 (dk_at dksX2_award_2 11 rfl rfl)
theorem dX2_award_58 : decode cX2_award 58 = .ok (.iadd, 1) := dk_96 (dk_at dksX2_award_2 12 rfl rfl)
theorem dX2_award_59 : decode cX2_award 59 = .ok (.iaload, 1) := dk_46 (dk_at dksX2_award_2 13 rfl rfl)
theorem dX2_award_60 : decode cX2_award 60 = .ok (.aload_n 0, 1) := dk_42 (dk_at dksX2_award_2 14 rfl rfl)
theorem dX2_award_61 : decode cX2_award 61 = .ok (.getfield 22, 3) := dk_180 0 22 (dk_at dksX2_award_2 15 rfl rfl)
theorem dX2_award_64 : decode cX2_award 64 = .ok (.bipush 7, 2) := dk_16 7 (dk_at dksX2_award_2 18 rfl rfl)
theorem dX2_award_66 : decode cX2_award 66 = .ok (.iload_n 1, 1) := dk_27 (dk_at dksX2_award_2 20 rfl rfl)
theorem dX2_award_67 : decode cX2_award 67 = .ok (.imul, 1) := dk_104 (dk_at dksX2_award_2 21 rfl rfl)
theorem dX2_award_68 : decode cX2_award 68 = .ok (.iload_n 2, 1) := dk_28 (dk_at dksX2_award_2 22 rfl rfl)
theorem dX2_award_69 : decode cX2_award 69 = .ok (.iadd, 1) := dk_96 (dk_at dksX2_award_2 23 rfl rfl)
theorem dX2_award_70 : decode cX2_award 70 = .ok (.iaload, 1) := dk_46 (dk_at dksX2_award_3 0 rfl rfl)
theorem dX2_award_71 : decode cX2_award 71 = .ok (.if_icmp .ge 7, 3) := dk_162 0 7 (dk_at dksX2_award_3 1 rfl rfl)
theorem dX2_award_74 : decode cX2_award 74 = .ok (.iconst 1, 1) := dk_4 (dk_at dksX2_award_3 4 rfl rfl)
theorem dX2_award_75 : decode cX2_award 75 = .ok (.goto 4, 3) := dk_167 0 4 (dk_at dksX2_award_3 5 rfl rfl)
theorem dX2_award_78 : decode cX2_award 78 = .ok (.iconst 0, 1) := dk_3 (dk_at dksX2_award_3 8 rfl rfl)
theorem dX2_award_79 : decode cX2_award 79 = .ok (.istore 4, 2) := dk_54 4 (dk_at dksX2_award_3 9 rfl rfl)
theorem dX2_award_81 : decode cX2_award 81 = .ok (.aload_n 0, 1) := dk_42 (dk_at dksX2_award_3 11 rfl rfl)
theorem dX2_award_82 : decode cX2_award 82 = .ok (.iload_n 1, 1) := dk_27 (dk_at dksX2_award_3 12 rfl rfl)
theorem dX2_award_83 : decode cX2_award 83 = .ok (.iload_n 3, 1) := dk_29 (dk_at dksX2_award_3 13 rfl rfl)
theorem dX2_award_84 : decode cX2_award 84 = .ok (.invokevirtual 81, 3) := dk_182 0 81 (dk_at dksX2_award_3 14 rfl rfl)
theorem dX2_award_87 : decode cX2_award 87 = .ok (.ifCond .eq 12, 3) := dk_153 0 12 (dk_at dksX2_award_3 17 rfl rfl)
theorem dX2_award_90 : decode cX2_award 90 = .ok (.iload 4, 2) := dk_21 4 (dk_at dksX2_award_3 20 rfl rfl)
theorem dX2_award_92 : decode cX2_award 92 = .ok (.ifCond .eq 7, 3) := dk_153 0 7 (dk_at dksX2_award_4 0 rfl rfl)
theorem dX2_award_95 : decode cX2_award 95 = .ok (.iload_n 3, 1) := dk_29 (dk_at dksX2_award_4 3 rfl rfl)
theorem dX2_award_96 : decode cX2_award 96 = .ok (.goto 4, 3) := dk_167 0 4 (dk_at dksX2_award_4 4 rfl rfl)
theorem dX2_award_99 : decode cX2_award 99 = .ok (.iload_n 2, 1) := dk_28 (dk_at dksX2_award_4 7 rfl rfl)
theorem dX2_award_100 : decode cX2_award 100 = .ok (.istore_n 2, 1) := dk_61 (dk_at dksX2_award_4 8 rfl rfl)
theorem dX2_award_101 : decode cX2_award 101 = .ok (.iinc 3 1, 3) := dk_132 3 1 (dk_at dksX2_award_4 9 rfl rfl)
theorem dX2_award_104 : decode cX2_award 104 = .ok (.goto (-66), 3) := dk_167 255 190 (dk_at dksX2_award_4 12 rfl rfl)
theorem dX2_award_107 : decode cX2_award 107 = .ok (.aload_n 0, 1) := dk_42 (dk_at dksX2_award_4 15 rfl rfl)
theorem dX2_award_108 : decode cX2_award 108 = .ok (.getfield 7, 3) := dk_180 0 7 (dk_at dksX2_award_4 16 rfl rfl)
theorem dX2_award_111 : decode cX2_award 111 = .ok (.iload_n 1, 1) := dk_27 (dk_at dksX2_award_4 19 rfl rfl)
theorem dX2_award_112 : decode cX2_award 112 = .ok (.iload_n 2, 1) := dk_28 (dk_at dksX2_award_4 20 rfl rfl)
theorem dX2_award_113 : decode cX2_award 113 = .ok (.iconst (-1), 1) := dk_2 (dk_at dksX2_award_4 21 rfl rfl)
theorem dX2_award_114 : decode cX2_award 114 = .ok (.if_icmp .ne 7, 3) := dk_160 0 7 (dk_at dksX2_award_5 0 rfl rfl)
theorem dX2_award_117 : decode cX2_award 117 = .ok (.iconst 2, 1) := dk_5 (dk_at dksX2_award_5 3 rfl rfl)
theorem dX2_award_118 : decode cX2_award 118 = .ok (.goto 4, 3) := dk_167 0 4 (dk_at dksX2_award_5 4 rfl rfl)
theorem dX2_award_121 : decode cX2_award 121 = .ok (.iconst 1, 1) := dk_4 (dk_at dksX2_award_5 7 rfl rfl)
theorem dX2_award_122 : decode cX2_award 122 = .ok (.iastore, 1) := dk_79 (dk_at dksX2_award_5 8 rfl rfl)
theorem dX2_award_123 : decode cX2_award 123 = .ok (.aload_n 0, 1) := dk_42 (dk_at dksX2_award_5 9 rfl rfl)
theorem dX2_award_124 : decode cX2_award 124 = .ok (.getfield 13, 3) := dk_180 0 13 (dk_at dksX2_award_5 10 rfl rfl)
theorem dX2_award_127 : decode cX2_award 127 = .ok (.iload_n 1, 1) := dk_27 (dk_at dksX2_award_5 13 rfl rfl)
theorem dX2_award_128 : decode cX2_award 128 = .ok (.iload_n 2, 1) := dk_28 (dk_at dksX2_award_5 14 rfl rfl)
theorem dX2_award_129 : decode cX2_award 129 = .ok (.iastore, 1) := dk_79 (dk_at dksX2_award_5 15 rfl rfl)
theorem dX2_award_130 : decode cX2_award 130 = .ok (.iload_n 2, 1) := dk_28 (dk_at dksX2_award_5 16 rfl rfl)
theorem dX2_award_131 : decode cX2_award 131 = .ok (.ireturn, 1) := dk_172 (dk_at dksX2_award_5 17 rfl rfl)
abbrev cX2_passOn : ByteArray := prog_8_method_16_code
def yX2_passOn : MethodName := ⟨RX2, "passOn", "(III)I"⟩
def dkwX2_passOn_4 : List UInt8 := [79, 42, 180, 0, 13, 27, 46, 172]
abbrev dktX2_passOn_4 : List UInt8 := dkwX2_passOn_4 ++ []
def dkwX2_passOn_3 : List UInt8 := [27, 46, 160, 0, 9, 42, 6, 182, 0, 77, 172, 42, 180, 0, 16, 27, 28, 79, 42, 180, 0, 19, 27, 29]
abbrev dktX2_passOn_3 : List UInt8 := dkwX2_passOn_3 ++ dktX2_passOn_4
def dkwX2_passOn_2 : List UInt8 := [184, 0, 73, 153, 0, 26, 29, 4, 42, 27, 182, 0, 92, 184, 0, 63, 153, 0, 13, 28, 42, 180, 0, 13]
abbrev dktX2_passOn_2 : List UInt8 := dkwX2_passOn_2 ++ dktX2_passOn_3
def dkwX2_passOn_1 : List UInt8 := [46, 4, 160, 0, 13, 42, 180, 0, 16, 27, 46, 2, 159, 0, 9, 42, 5, 182, 0, 77, 172, 28]
abbrev dktX2_passOn_1 : List UInt8 := dkwX2_passOn_1 ++ dktX2_passOn_2
def dkwX2_passOn_0 : List UInt8 := [42, 3, 181, 0, 60, 42, 27, 182, 0, 85, 154, 0, 9, 42, 4, 182, 0, 77, 172, 42, 180, 0, 7, 27]
abbrev dktX2_passOn_0 : List UInt8 := dkwX2_passOn_0 ++ dktX2_passOn_1
theorem dksX2_passOn_0 : cX2_passOn.data.toList.drop 0 = dktX2_passOn_0 := by decide +kernel
theorem dksX2_passOn_1 : cX2_passOn.data.toList.drop 24 = dktX2_passOn_1 := dk_seg dksX2_passOn_0 24 rfl rfl
theorem dksX2_passOn_2 : cX2_passOn.data.toList.drop 46 = dktX2_passOn_2 := dk_seg dksX2_passOn_1 22 rfl rfl
theorem dksX2_passOn_3 : cX2_passOn.data.toList.drop 70 = dktX2_passOn_3 := dk_seg dksX2_passOn_2 24 rfl rfl
theorem dksX2_passOn_4 : cX2_passOn.data.toList.drop 94 = dktX2_passOn_4 := dk_seg dksX2_passOn_3 24 rfl rfl
theorem dX2_passOn_0 : decode cX2_passOn 0 = .ok (.aload_n 0, 1) := dk_42 (dk_at dksX2_passOn_0 0 rfl rfl)
theorem dX2_passOn_1 : decode cX2_passOn 1 = .ok (.iconst 0, 1) := dk_3 (dk_at dksX2_passOn_0 1 rfl rfl)
theorem dX2_passOn_2 : decode cX2_passOn 2 = .ok (.putfield 60, 3) := dk_181 0 60 (dk_at dksX2_passOn_0 2 rfl rfl)
theorem dX2_passOn_5 : decode cX2_passOn 5 = .ok (.aload_n 0, 1) := dk_42 (dk_at dksX2_passOn_0 5 rfl rfl)
theorem dX2_passOn_6 : decode cX2_passOn 6 = .ok (.iload_n 1, 1) := dk_27 (dk_at dksX2_passOn_0 6 rfl rfl)
theorem dX2_passOn_7 : decode cX2_passOn 7 = .ok (.invokevirtual 85, 3) := dk_182 0 85 (dk_at dksX2_passOn_0 7 rfl rfl)
theorem dX2_passOn_10 : decode cX2_passOn 10 = .ok (.ifCond .ne 9, 3) := dk_154 0 9 (dk_at dksX2_passOn_0 10 rfl rfl)
theorem dX2_passOn_13 : decode cX2_passOn 13 = .ok (.aload_n 0, 1) := dk_42 (dk_at dksX2_passOn_0 13 rfl rfl)
theorem dX2_passOn_14 : decode cX2_passOn 14 = .ok (.iconst 1, 1) := dk_4 (dk_at dksX2_passOn_0 14 rfl rfl)
theorem dX2_passOn_15 : decode cX2_passOn 15 = .ok (.invokevirtual 77, 3) := dk_182 0 77 (dk_at dksX2_passOn_0 15 rfl rfl)
theorem dX2_passOn_18 : decode cX2_passOn 18 = .ok (.ireturn, 1) := dk_172 (dk_at dksX2_passOn_0 18 rfl rfl)
theorem dX2_passOn_19 : decode cX2_passOn 19 = .ok (.aload_n 0, 1) := dk_42 (dk_at dksX2_passOn_0 19 rfl rfl)
theorem dX2_passOn_20 : decode cX2_passOn 20 = .ok (.getfield 7, 3) := dk_180 0 7 (dk_at dksX2_passOn_0 20 rfl rfl)
theorem dX2_passOn_23 : decode cX2_passOn 23 = .ok (.iload_n 1, 1) := dk_27 (dk_at dksX2_passOn_0 23 rfl rfl)
theorem dX2_passOn_24 : decode cX2_passOn 24 = .ok (.iaload, 1) := dk_46 (dk_at dksX2_passOn_1 0 rfl rfl)
theorem dX2_passOn_25 : decode cX2_passOn 25 = .ok (.iconst 1, 1) := dk_4 (dk_at dksX2_passOn_1 1 rfl rfl)
theorem dX2_passOn_26 : decode cX2_passOn 26 = .ok (.if_icmp .ne 13, 3) := dk_160 0 13 (dk_at dksX2_passOn_1 2 rfl rfl)
theorem dX2_passOn_29 : decode cX2_passOn 29 = .ok (.aload_n 0, 1) := dk_42 (dk_at dksX2_passOn_1 5 rfl rfl)
theorem dX2_passOn_30 : decode cX2_passOn 30 = .ok (.getfield 16, 3) := dk_180 0 16 (dk_at dksX2_passOn_1 6 rfl rfl)
theorem dX2_passOn_33 : decode cX2_passOn 33 = .ok (.iload_n 1, 1) := dk_27 (dk_at dksX2_passOn_1 9 rfl rfl)
theorem dX2_passOn_34 : decode cX2_passOn 34 = .ok (.iaload, 1) := dk_46 (dk_at dksX2_passOn_1 10 rfl rfl)
theorem dX2_passOn_35 : decode cX2_passOn 35 = .ok (.iconst (-1), 1) := dk_2 (dk_at dksX2_passOn_1 11 rfl rfl)
theorem dX2_passOn_36 : decode cX2_passOn 36 = .ok (.if_icmp .eq 9, 3) := dk_159 0 9 (dk_at dksX2_passOn_1 12 rfl rfl)
theorem dX2_passOn_39 : decode cX2_passOn 39 = .ok (.aload_n 0, 1) := dk_42 (dk_at dksX2_passOn_1 15 rfl rfl)
theorem dX2_passOn_40 : decode cX2_passOn 40 = .ok (.iconst 2, 1) := dk_5 (dk_at dksX2_passOn_1 16 rfl rfl)
theorem dX2_passOn_41 : decode cX2_passOn 41 = .ok (.invokevirtual 77, 3) := dk_182 0 77 (dk_at dksX2_passOn_1 17 rfl rfl)
theorem dX2_passOn_44 : decode cX2_passOn 44 = .ok (.ireturn, 1) := dk_172 (dk_at dksX2_passOn_1 20 rfl rfl)
theorem dX2_passOn_45 : decode cX2_passOn 45 = .ok (.iload_n 2, 1) := dk_28 (dk_at dksX2_passOn_1 21 rfl rfl)
theorem dX2_passOn_46 : decode cX2_passOn 46 = .ok (.invokestatic 73, 3) := dk_184 0 73 (dk_at dksX2_passOn_2 0 rfl rfl)
theorem dX2_passOn_49 : decode cX2_passOn 49 = .ok (.ifCond .eq 26, 3) := dk_153 0 26 (dk_at dksX2_passOn_2 3 rfl rfl)
theorem dX2_passOn_52 : decode cX2_passOn 52 = .ok (.iload_n 3, 1) := dk_29 (dk_at dksX2_passOn_2 6 rfl rfl)
theorem dX2_passOn_53 : decode cX2_passOn 53 = .ok (.iconst 1, 1) := dk_4 (dk_at dksX2_passOn_2 7 rfl rfl)
theorem dX2_passOn_54 : decode cX2_passOn 54 = .ok (.aload_n 0, 1) := dk_42 (dk_at dksX2_passOn_2 8 rfl rfl)
theorem dX2_passOn_55 : decode cX2_passOn 55 = .ok (.iload_n 1, 1) := dk_27 (dk_at dksX2_passOn_2 9 rfl rfl)
theorem dX2_passOn_56 : decode cX2_passOn 56 = .ok (.invokevirtual 92, 3) := dk_182 0 92 (dk_at dksX2_passOn_2 10 rfl rfl)
theorem dX2_passOn_59 : decode cX2_passOn 59 = .ok (.invokestatic 63, 3) := dk_184 0 63 (dk_at dksX2_passOn_2 13 rfl rfl)
theorem dX2_passOn_62 : decode cX2_passOn 62 = .ok (.ifCond .eq 13, 3) := dk_153 0 13 (dk_at dksX2_passOn_2 16 rfl rfl)
theorem dX2_passOn_65 : decode cX2_passOn 65 = .ok (.iload_n 2, 1) := dk_28 (dk_at dksX2_passOn_2 19 rfl rfl)
theorem dX2_passOn_66 : decode cX2_passOn 66 = .ok (.aload_n 0, 1) := dk_42 (dk_at dksX2_passOn_2 20 rfl rfl)
theorem dX2_passOn_67 : decode cX2_passOn 67 = .ok (.getfield 13, 3) := dk_180 0 13 (dk_at dksX2_passOn_2 21 rfl rfl)
theorem dX2_passOn_70 : decode cX2_passOn 70 = .ok (.iload_n 1, 1) := dk_27 (dk_at dksX2_passOn_3 0 rfl rfl)
theorem dX2_passOn_71 : decode cX2_passOn 71 = .ok (.iaload, 1) := dk_46 (dk_at dksX2_passOn_3 1 rfl rfl)
theorem dX2_passOn_72 : decode cX2_passOn 72 = .ok (.if_icmp .ne 9, 3) := dk_160 0 9 (dk_at dksX2_passOn_3 2 rfl rfl)
theorem dX2_passOn_75 : decode cX2_passOn 75 = .ok (.aload_n 0, 1) := dk_42 (dk_at dksX2_passOn_3 5 rfl rfl)
theorem dX2_passOn_76 : decode cX2_passOn 76 = .ok (.iconst 3, 1) := dk_6 (dk_at dksX2_passOn_3 6 rfl rfl)
theorem dX2_passOn_77 : decode cX2_passOn 77 = .ok (.invokevirtual 77, 3) := dk_182 0 77 (dk_at dksX2_passOn_3 7 rfl rfl)
theorem dX2_passOn_80 : decode cX2_passOn 80 = .ok (.ireturn, 1) := dk_172 (dk_at dksX2_passOn_3 10 rfl rfl)
theorem dX2_passOn_81 : decode cX2_passOn 81 = .ok (.aload_n 0, 1) := dk_42 (dk_at dksX2_passOn_3 11 rfl rfl)
theorem dX2_passOn_82 : decode cX2_passOn 82 = .ok (.getfield 16, 3) := dk_180 0 16 (dk_at dksX2_passOn_3 12 rfl rfl)
theorem dX2_passOn_85 : decode cX2_passOn 85 = .ok (.iload_n 1, 1) := dk_27 (dk_at dksX2_passOn_3 15 rfl rfl)
theorem dX2_passOn_86 : decode cX2_passOn 86 = .ok (.iload_n 2, 1) := dk_28 (dk_at dksX2_passOn_3 16 rfl rfl)
theorem dX2_passOn_87 : decode cX2_passOn 87 = .ok (.iastore, 1) := dk_79 (dk_at dksX2_passOn_3 17 rfl rfl)
theorem dX2_passOn_88 : decode cX2_passOn 88 = .ok (.aload_n 0, 1) := dk_42 (dk_at dksX2_passOn_3 18 rfl rfl)
theorem dX2_passOn_89 : decode cX2_passOn 89 = .ok (.getfield 19, 3) := dk_180 0 19 (dk_at dksX2_passOn_3 19 rfl rfl)
theorem dX2_passOn_92 : decode cX2_passOn 92 = .ok (.iload_n 1, 1) := dk_27 (dk_at dksX2_passOn_3 22 rfl rfl)
theorem dX2_passOn_93 : decode cX2_passOn 93 = .ok (.iload_n 3, 1) := dk_29 (dk_at dksX2_passOn_3 23 rfl rfl)
theorem dX2_passOn_94 : decode cX2_passOn 94 = .ok (.iastore, 1) := dk_79 (dk_at dksX2_passOn_4 0 rfl rfl)
theorem dX2_passOn_95 : decode cX2_passOn 95 = .ok (.aload_n 0, 1) := dk_42 (dk_at dksX2_passOn_4 1 rfl rfl)
theorem dX2_passOn_96 : decode cX2_passOn 96 = .ok (.getfield 13, 3) := dk_180 0 13 (dk_at dksX2_passOn_4 2 rfl rfl)
theorem dX2_passOn_99 : decode cX2_passOn 99 = .ok (.iload_n 1, 1) := dk_27 (dk_at dksX2_passOn_4 5 rfl rfl)
theorem dX2_passOn_100 : decode cX2_passOn 100 = .ok (.iaload, 1) := dk_46 (dk_at dksX2_passOn_4 6 rfl rfl)
theorem dX2_passOn_101 : decode cX2_passOn 101 = .ok (.ireturn, 1) := dk_172 (dk_at dksX2_passOn_4 7 rfl rfl)
abbrev cX2_price : ByteArray := prog_8_method_15_code
def yX2_price : MethodName := ⟨RX2, "price", "(I)I"⟩
def dkwX2_price_0 : List UInt8 := [42, 180, 0, 22, 16, 7, 27, 104, 42, 180, 0, 13, 27, 46, 96, 46, 172]
abbrev dktX2_price_0 : List UInt8 := dkwX2_price_0 ++ []
theorem dksX2_price_0 : cX2_price.data.toList.drop 0 = dktX2_price_0 := by decide +kernel
theorem dX2_price_0 : decode cX2_price 0 = .ok (.aload_n 0, 1) := dk_42 (dk_at dksX2_price_0 0 rfl rfl)
theorem dX2_price_1 : decode cX2_price 1 = .ok (.getfield 22, 3) := dk_180 0 22 (dk_at dksX2_price_0 1 rfl rfl)
theorem dX2_price_4 : decode cX2_price 4 = .ok (.bipush 7, 2) := dk_16 7 (dk_at dksX2_price_0 4 rfl rfl)
theorem dX2_price_6 : decode cX2_price 6 = .ok (.iload_n 1, 1) := dk_27 (dk_at dksX2_price_0 6 rfl rfl)
theorem dX2_price_7 : decode cX2_price 7 = .ok (.imul, 1) := dk_104 (dk_at dksX2_price_0 7 rfl rfl)
theorem dX2_price_8 : decode cX2_price 8 = .ok (.aload_n 0, 1) := dk_42 (dk_at dksX2_price_0 8 rfl rfl)
theorem dX2_price_9 : decode cX2_price 9 = .ok (.getfield 13, 3) := dk_180 0 13 (dk_at dksX2_price_0 9 rfl rfl)
theorem dX2_price_12 : decode cX2_price 12 = .ok (.iload_n 1, 1) := dk_27 (dk_at dksX2_price_0 12 rfl rfl)
theorem dX2_price_13 : decode cX2_price 13 = .ok (.iaload, 1) := dk_46 (dk_at dksX2_price_0 13 rfl rfl)
theorem dX2_price_14 : decode cX2_price 14 = .ok (.iadd, 1) := dk_96 (dk_at dksX2_price_0 14 rfl rfl)
theorem dX2_price_15 : decode cX2_price 15 = .ok (.iaload, 1) := dk_46 (dk_at dksX2_price_0 15 rfl rfl)
theorem dX2_price_16 : decode cX2_price 16 = .ok (.ireturn, 1) := dk_172 (dk_at dksX2_price_0 16 rfl rfl)
abbrev cX2_turnover : ByteArray := prog_8_method_18_code
def yX2_turnover : MethodName := ⟨RX2, "turnover", "(I)I"⟩
def dkwX2_turnover_1 : List UInt8 := [182, 0, 77, 172]
abbrev dktX2_turnover_1 : List UInt8 := dkwX2_turnover_1 ++ []
def dkwX2_turnover_0 : List UInt8 := [42, 3, 181, 0, 60, 27, 184, 0, 73, 153, 0, 11, 42, 27, 182, 0, 95, 167, 0, 8, 42, 4]
abbrev dktX2_turnover_0 : List UInt8 := dkwX2_turnover_0 ++ dktX2_turnover_1
theorem dksX2_turnover_0 : cX2_turnover.data.toList.drop 0 = dktX2_turnover_0 := by decide +kernel
theorem dksX2_turnover_1 : cX2_turnover.data.toList.drop 22 = dktX2_turnover_1 := dk_seg dksX2_turnover_0 22 rfl rfl
theorem dX2_turnover_0 : decode cX2_turnover 0 = .ok (.aload_n 0, 1) := dk_42 (dk_at dksX2_turnover_0 0 rfl rfl)
theorem dX2_turnover_1 : decode cX2_turnover 1 = .ok (.iconst 0, 1) := dk_3 (dk_at dksX2_turnover_0 1 rfl rfl)
theorem dX2_turnover_2 : decode cX2_turnover 2 = .ok (.putfield 60, 3) := dk_181 0 60 (dk_at dksX2_turnover_0 2 rfl rfl)
theorem dX2_turnover_5 : decode cX2_turnover 5 = .ok (.iload_n 1, 1) := dk_27 (dk_at dksX2_turnover_0 5 rfl rfl)
theorem dX2_turnover_6 : decode cX2_turnover 6 = .ok (.invokestatic 73, 3) := dk_184 0 73 (dk_at dksX2_turnover_0 6 rfl rfl)
theorem dX2_turnover_9 : decode cX2_turnover 9 = .ok (.ifCond .eq 11, 3) := dk_153 0 11 (dk_at dksX2_turnover_0 9 rfl rfl)
theorem dX2_turnover_12 : decode cX2_turnover 12 = .ok (.aload_n 0, 1) := dk_42 (dk_at dksX2_turnover_0 12 rfl rfl)
theorem dX2_turnover_13 : decode cX2_turnover 13 = .ok (.iload_n 1, 1) := dk_27 (dk_at dksX2_turnover_0 13 rfl rfl)
theorem dX2_turnover_14 : decode cX2_turnover 14 = .ok (.invokevirtual 95, 3) := dk_182 0 95 (dk_at dksX2_turnover_0 14 rfl rfl)
theorem dX2_turnover_17 : decode cX2_turnover 17 = .ok (.goto 8, 3) := dk_167 0 8 (dk_at dksX2_turnover_0 17 rfl rfl)
theorem dX2_turnover_20 : decode cX2_turnover 20 = .ok (.aload_n 0, 1) := dk_42 (dk_at dksX2_turnover_0 20 rfl rfl)
theorem dX2_turnover_21 : decode cX2_turnover 21 = .ok (.iconst 1, 1) := dk_4 (dk_at dksX2_turnover_0 21 rfl rfl)
theorem dX2_turnover_22 : decode cX2_turnover 22 = .ok (.invokevirtual 77, 3) := dk_182 0 77 (dk_at dksX2_turnover_1 0 rfl rfl)
theorem dX2_turnover_25 : decode cX2_turnover 25 = .ok (.ireturn, 1) := dk_172 (dk_at dksX2_turnover_1 3 rfl rfl)
abbrev cX2_turnoverOf : ByteArray := prog_8_method_17_code
def yX2_turnoverOf : MethodName := ⟨RX2, "turnoverOf", "(I)I"⟩
def dkwX2_turnoverOf_3 : List UInt8 := [96, 61, 132, 3, 1, 167, 255, 183, 28, 172]
abbrev dktX2_turnoverOf_3 : List UInt8 := dkwX2_turnoverOf_3 ++ []
def dkwX2_turnoverOf_2 : List UInt8 := [3, 96, 61, 28, 42, 180, 0, 16, 29, 46, 27, 160, 0, 12, 42, 180, 0, 19, 29, 46, 167, 0, 4, 3]
abbrev dktX2_turnoverOf_2 : List UInt8 := dkwX2_turnoverOf_2 ++ dktX2_turnoverOf_3
def dkwX2_turnoverOf_1 : List UInt8 := [180, 0, 13, 29, 46, 27, 160, 0, 18, 42, 29, 182, 0, 92, 42, 180, 0, 19, 29, 46, 100, 167, 0, 4]
abbrev dktX2_turnoverOf_1 : List UInt8 := dkwX2_turnoverOf_1 ++ dktX2_turnoverOf_2
def dkwX2_turnoverOf_0 : List UInt8 := [3, 61, 3, 62, 29, 42, 180, 0, 67, 162, 0, 71, 42, 180, 0, 7, 29, 46, 4, 160, 0, 55, 28, 42]
abbrev dktX2_turnoverOf_0 : List UInt8 := dkwX2_turnoverOf_0 ++ dktX2_turnoverOf_1
theorem dksX2_turnoverOf_0 : cX2_turnoverOf.data.toList.drop 0 = dktX2_turnoverOf_0 := by decide +kernel
theorem dksX2_turnoverOf_1 : cX2_turnoverOf.data.toList.drop 24 = dktX2_turnoverOf_1 := dk_seg dksX2_turnoverOf_0 24 rfl rfl
theorem dksX2_turnoverOf_2 : cX2_turnoverOf.data.toList.drop 48 = dktX2_turnoverOf_2 := dk_seg dksX2_turnoverOf_1 24 rfl rfl
theorem dksX2_turnoverOf_3 : cX2_turnoverOf.data.toList.drop 72 = dktX2_turnoverOf_3 := dk_seg dksX2_turnoverOf_2 24 rfl rfl
theorem dX2_turnoverOf_0 : decode cX2_turnoverOf 0 = .ok (.iconst 0, 1) := dk_3 (dk_at dksX2_turnoverOf_0 0 rfl rfl)
theorem dX2_turnoverOf_1 : decode cX2_turnoverOf 1 = .ok (.istore_n 2, 1) := dk_61 (dk_at dksX2_turnoverOf_0 1 rfl rfl)
theorem dX2_turnoverOf_2 : decode cX2_turnoverOf 2 = .ok (.iconst 0, 1) := dk_3 (dk_at dksX2_turnoverOf_0 2 rfl rfl)
theorem dX2_turnoverOf_3 : decode cX2_turnoverOf 3 = .ok (.istore_n 3, 1) := dk_62 (dk_at dksX2_turnoverOf_0 3 rfl rfl)
theorem dX2_turnoverOf_4 : decode cX2_turnoverOf 4 = .ok (.iload_n 3, 1) := dk_29 (dk_at dksX2_turnoverOf_0 4 rfl rfl)
theorem dX2_turnoverOf_5 : decode cX2_turnoverOf 5 = .ok (.aload_n 0, 1) := dk_42 (dk_at dksX2_turnoverOf_0 5 rfl rfl)
theorem dX2_turnoverOf_6 : decode cX2_turnoverOf 6 = .ok (.getfield 67, 3) := dk_180 0 67 (dk_at dksX2_turnoverOf_0 6 rfl rfl)
theorem dX2_turnoverOf_9 : decode cX2_turnoverOf 9 = .ok (.if_icmp .ge 71, 3) := dk_162 0 71 (dk_at dksX2_turnoverOf_0 9 rfl rfl)
theorem dX2_turnoverOf_12 : decode cX2_turnoverOf 12 = .ok (.aload_n 0, 1) := dk_42 (dk_at dksX2_turnoverOf_0 12 rfl rfl)
theorem dX2_turnoverOf_13 : decode cX2_turnoverOf 13 = .ok (.getfield 7, 3) := dk_180 0 7 (dk_at dksX2_turnoverOf_0 13 rfl rfl)
theorem dX2_turnoverOf_16 : decode cX2_turnoverOf 16 = .ok (.iload_n 3, 1) := dk_29 (dk_at dksX2_turnoverOf_0 16 rfl rfl)
theorem dX2_turnoverOf_17 : decode cX2_turnoverOf 17 = .ok (.iaload, 1) := dk_46 (dk_at dksX2_turnoverOf_0 17 rfl rfl)
theorem dX2_turnoverOf_18 : decode cX2_turnoverOf 18 = .ok (.iconst 1, 1) := dk_4 (dk_at dksX2_turnoverOf_0 18 rfl rfl)
theorem dX2_turnoverOf_19 : decode cX2_turnoverOf 19 = .ok (.if_icmp .ne 55, 3) := dk_160 0 55 (dk_at dksX2_turnoverOf_0 19 rfl rfl)
theorem dX2_turnoverOf_22 : decode cX2_turnoverOf 22 = .ok (.iload_n 2, 1) := dk_28 (dk_at dksX2_turnoverOf_0 22 rfl rfl)
theorem dX2_turnoverOf_23 : decode cX2_turnoverOf 23 = .ok (.aload_n 0, 1) := dk_42 (dk_at dksX2_turnoverOf_0 23 rfl rfl)
theorem dX2_turnoverOf_24 : decode cX2_turnoverOf 24 = .ok (.getfield 13, 3) := dk_180 0 13 (dk_at dksX2_turnoverOf_1 0 rfl rfl)
theorem dX2_turnoverOf_27 : decode cX2_turnoverOf 27 = .ok (.iload_n 3, 1) := dk_29 (dk_at dksX2_turnoverOf_1 3 rfl rfl)
theorem dX2_turnoverOf_28 : decode cX2_turnoverOf 28 = .ok (.iaload, 1) := dk_46 (dk_at dksX2_turnoverOf_1 4 rfl rfl)
theorem dX2_turnoverOf_29 : decode cX2_turnoverOf 29 = .ok (.iload_n 1, 1) := dk_27 (dk_at dksX2_turnoverOf_1 5 rfl rfl)
theorem dX2_turnoverOf_30 : decode cX2_turnoverOf 30 = .ok (.if_icmp .ne 18, 3) := dk_160 0 18 (dk_at dksX2_turnoverOf_1 6 rfl rfl)
theorem dX2_turnoverOf_33 : decode cX2_turnoverOf 33 = .ok (.aload_n 0, 1) := dk_42 (dk_at dksX2_turnoverOf_1 9 rfl rfl)
theorem dX2_turnoverOf_34 : decode cX2_turnoverOf 34 = .ok (.iload_n 3, 1) := dk_29 (dk_at dksX2_turnoverOf_1 10 rfl rfl)
theorem dX2_turnoverOf_35 : decode cX2_turnoverOf 35 = .ok (.invokevirtual 92, 3) := dk_182 0 92 (dk_at dksX2_turnoverOf_1 11 rfl rfl)
theorem dX2_turnoverOf_38 : decode cX2_turnoverOf 38 = .ok (.aload_n 0, 1) := dk_42 (dk_at dksX2_turnoverOf_1 14 rfl rfl)
theorem dX2_turnoverOf_39 : decode cX2_turnoverOf 39 = .ok (.getfield 19, 3) := dk_180 0 19 (dk_at dksX2_turnoverOf_1 15 rfl rfl)
theorem dX2_turnoverOf_42 : decode cX2_turnoverOf 42 = .ok (.iload_n 3, 1) := dk_29 (dk_at dksX2_turnoverOf_1 18 rfl rfl)
theorem dX2_turnoverOf_43 : decode cX2_turnoverOf 43 = .ok (.iaload, 1) := dk_46 (dk_at dksX2_turnoverOf_1 19 rfl rfl)
theorem dX2_turnoverOf_44 : decode cX2_turnoverOf 44 = .ok (.isub, 1) := dk_100 (dk_at dksX2_turnoverOf_1 20 rfl rfl)
theorem dX2_turnoverOf_45 : decode cX2_turnoverOf 45 = .ok (.goto 4, 3) := dk_167 0 4 (dk_at dksX2_turnoverOf_1 21 rfl rfl)
theorem dX2_turnoverOf_48 : decode cX2_turnoverOf 48 = .ok (.iconst 0, 1) := dk_3 (dk_at dksX2_turnoverOf_2 0 rfl rfl)
theorem dX2_turnoverOf_49 : decode cX2_turnoverOf 49 = .ok (.iadd, 1) := dk_96 (dk_at dksX2_turnoverOf_2 1 rfl rfl)
theorem dX2_turnoverOf_50 : decode cX2_turnoverOf 50 = .ok (.istore_n 2, 1) := dk_61 (dk_at dksX2_turnoverOf_2 2 rfl rfl)
theorem dX2_turnoverOf_51 : decode cX2_turnoverOf 51 = .ok (.iload_n 2, 1) := dk_28 (dk_at dksX2_turnoverOf_2 3 rfl rfl)
theorem dX2_turnoverOf_52 : decode cX2_turnoverOf 52 = .ok (.aload_n 0, 1) := dk_42 (dk_at dksX2_turnoverOf_2 4 rfl rfl)
theorem dX2_turnoverOf_53 : decode cX2_turnoverOf 53 = .ok (.getfield 16, 3) := dk_180 0 16 (dk_at dksX2_turnoverOf_2 5 rfl rfl)
theorem dX2_turnoverOf_56 : decode cX2_turnoverOf 56 = .ok (.iload_n 3, 1) := dk_29 (dk_at dksX2_turnoverOf_2 8 rfl rfl)
theorem dX2_turnoverOf_57 : decode cX2_turnoverOf 57 = .ok (.iaload, 1) := dk_46 (dk_at dksX2_turnoverOf_2 9 rfl rfl)
theorem dX2_turnoverOf_58 : decode cX2_turnoverOf 58 = .ok (.iload_n 1, 1) := dk_27 (dk_at dksX2_turnoverOf_2 10 rfl rfl)
theorem dX2_turnoverOf_59 : decode cX2_turnoverOf 59 = .ok (.if_icmp .ne 12, 3) := dk_160 0 12 (dk_at dksX2_turnoverOf_2 11 rfl rfl)
theorem dX2_turnoverOf_62 : decode cX2_turnoverOf 62 = .ok (.aload_n 0, 1) := dk_42 (dk_at dksX2_turnoverOf_2 14 rfl rfl)
theorem dX2_turnoverOf_63 : decode cX2_turnoverOf 63 = .ok (.getfield 19, 3) := dk_180 0 19 (dk_at dksX2_turnoverOf_2 15 rfl rfl)
theorem dX2_turnoverOf_66 : decode cX2_turnoverOf 66 = .ok (.iload_n 3, 1) := dk_29 (dk_at dksX2_turnoverOf_2 18 rfl rfl)
theorem dX2_turnoverOf_67 : decode cX2_turnoverOf 67 = .ok (.iaload, 1) := dk_46 (dk_at dksX2_turnoverOf_2 19 rfl rfl)
theorem dX2_turnoverOf_68 : decode cX2_turnoverOf 68 = .ok (.goto 4, 3) := dk_167 0 4 (dk_at dksX2_turnoverOf_2 20 rfl rfl)
theorem dX2_turnoverOf_71 : decode cX2_turnoverOf 71 = .ok (.iconst 0, 1) := dk_3 (dk_at dksX2_turnoverOf_2 23 rfl rfl)
theorem dX2_turnoverOf_72 : decode cX2_turnoverOf 72 = .ok (.iadd, 1) := dk_96 (dk_at dksX2_turnoverOf_3 0 rfl rfl)
theorem dX2_turnoverOf_73 : decode cX2_turnoverOf 73 = .ok (.istore_n 2, 1) := dk_61 (dk_at dksX2_turnoverOf_3 1 rfl rfl)
theorem dX2_turnoverOf_74 : decode cX2_turnoverOf 74 = .ok (.iinc 3 1, 3) := dk_132 3 1 (dk_at dksX2_turnoverOf_3 2 rfl rfl)
theorem dX2_turnoverOf_77 : decode cX2_turnoverOf 77 = .ok (.goto (-73), 3) := dk_167 255 183 (dk_at dksX2_turnoverOf_3 5 rfl rfl)
theorem dX2_turnoverOf_80 : decode cX2_turnoverOf 80 = .ok (.iload_n 2, 1) := dk_28 (dk_at dksX2_turnoverOf_3 8 rfl rfl)
theorem dX2_turnoverOf_81 : decode cX2_turnoverOf 81 = .ok (.ireturn, 1) := dk_172 (dk_at dksX2_turnoverOf_3 9 rfl rfl)
abbrev cX2_won : ByteArray := prog_8_method_19_code
def yX2_won : MethodName := ⟨RX2, "won", "(I)I"⟩
def dkwX2_won_2 : List UInt8 := [160, 0, 7, 4, 167, 0, 4, 3, 96, 61, 132, 3, 1, 167, 255, 217, 28, 172]
abbrev dktX2_won_2 : List UInt8 := dkwX2_won_2 ++ []
def dkwX2_won_1 : List UInt8 := [180, 0, 67, 162, 0, 37, 28, 42, 180, 0, 7, 29, 46, 4, 160, 0, 17, 42, 180, 0, 13, 29, 46, 27]
abbrev dktX2_won_1 : List UInt8 := dkwX2_won_1 ++ dktX2_won_2
def dkwX2_won_0 : List UInt8 := [42, 3, 181, 0, 60, 27, 184, 0, 73, 154, 0, 9, 42, 4, 182, 0, 77, 172, 3, 61, 3, 62, 29, 42]
abbrev dktX2_won_0 : List UInt8 := dkwX2_won_0 ++ dktX2_won_1
theorem dksX2_won_0 : cX2_won.data.toList.drop 0 = dktX2_won_0 := by decide +kernel
theorem dksX2_won_1 : cX2_won.data.toList.drop 24 = dktX2_won_1 := dk_seg dksX2_won_0 24 rfl rfl
theorem dksX2_won_2 : cX2_won.data.toList.drop 48 = dktX2_won_2 := dk_seg dksX2_won_1 24 rfl rfl
theorem dX2_won_0 : decode cX2_won 0 = .ok (.aload_n 0, 1) := dk_42 (dk_at dksX2_won_0 0 rfl rfl)
theorem dX2_won_1 : decode cX2_won 1 = .ok (.iconst 0, 1) := dk_3 (dk_at dksX2_won_0 1 rfl rfl)
theorem dX2_won_2 : decode cX2_won 2 = .ok (.putfield 60, 3) := dk_181 0 60 (dk_at dksX2_won_0 2 rfl rfl)
theorem dX2_won_5 : decode cX2_won 5 = .ok (.iload_n 1, 1) := dk_27 (dk_at dksX2_won_0 5 rfl rfl)
theorem dX2_won_6 : decode cX2_won 6 = .ok (.invokestatic 73, 3) := dk_184 0 73 (dk_at dksX2_won_0 6 rfl rfl)
theorem dX2_won_9 : decode cX2_won 9 = .ok (.ifCond .ne 9, 3) := dk_154 0 9 (dk_at dksX2_won_0 9 rfl rfl)
theorem dX2_won_12 : decode cX2_won 12 = .ok (.aload_n 0, 1) := dk_42 (dk_at dksX2_won_0 12 rfl rfl)
theorem dX2_won_13 : decode cX2_won 13 = .ok (.iconst 1, 1) := dk_4 (dk_at dksX2_won_0 13 rfl rfl)
theorem dX2_won_14 : decode cX2_won 14 = .ok (.invokevirtual 77, 3) := dk_182 0 77 (dk_at dksX2_won_0 14 rfl rfl)
theorem dX2_won_17 : decode cX2_won 17 = .ok (.ireturn, 1) := dk_172 (dk_at dksX2_won_0 17 rfl rfl)
theorem dX2_won_18 : decode cX2_won 18 = .ok (.iconst 0, 1) := dk_3 (dk_at dksX2_won_0 18 rfl rfl)
theorem dX2_won_19 : decode cX2_won 19 = .ok (.istore_n 2, 1) := dk_61 (dk_at dksX2_won_0 19 rfl rfl)
theorem dX2_won_20 : decode cX2_won 20 = .ok (.iconst 0, 1) := dk_3 (dk_at dksX2_won_0 20 rfl rfl)
theorem dX2_won_21 : decode cX2_won 21 = .ok (.istore_n 3, 1) := dk_62 (dk_at dksX2_won_0 21 rfl rfl)
theorem dX2_won_22 : decode cX2_won 22 = .ok (.iload_n 3, 1) := dk_29 (dk_at dksX2_won_0 22 rfl rfl)
theorem dX2_won_23 : decode cX2_won 23 = .ok (.aload_n 0, 1) := dk_42 (dk_at dksX2_won_0 23 rfl rfl)
theorem dX2_won_24 : decode cX2_won 24 = .ok (.getfield 67, 3) := dk_180 0 67 (dk_at dksX2_won_1 0 rfl rfl)
theorem dX2_won_27 : decode cX2_won 27 = .ok (.if_icmp .ge 37, 3) := dk_162 0 37 (dk_at dksX2_won_1 3 rfl rfl)
theorem dX2_won_30 : decode cX2_won 30 = .ok (.iload_n 2, 1) := dk_28 (dk_at dksX2_won_1 6 rfl rfl)
theorem dX2_won_31 : decode cX2_won 31 = .ok (.aload_n 0, 1) := dk_42 (dk_at dksX2_won_1 7 rfl rfl)
theorem dX2_won_32 : decode cX2_won 32 = .ok (.getfield 7, 3) := dk_180 0 7 (dk_at dksX2_won_1 8 rfl rfl)
theorem dX2_won_35 : decode cX2_won 35 = .ok (.iload_n 3, 1) := dk_29 (dk_at dksX2_won_1 11 rfl rfl)
theorem dX2_won_36 : decode cX2_won 36 = .ok (.iaload, 1) := dk_46 (dk_at dksX2_won_1 12 rfl rfl)
theorem dX2_won_37 : decode cX2_won 37 = .ok (.iconst 1, 1) := dk_4 (dk_at dksX2_won_1 13 rfl rfl)
theorem dX2_won_38 : decode cX2_won 38 = .ok (.if_icmp .ne 17, 3) := dk_160 0 17 (dk_at dksX2_won_1 14 rfl rfl)
theorem dX2_won_41 : decode cX2_won 41 = .ok (.aload_n 0, 1) := dk_42 (dk_at dksX2_won_1 17 rfl rfl)
theorem dX2_won_42 : decode cX2_won 42 = .ok (.getfield 13, 3) := dk_180 0 13 (dk_at dksX2_won_1 18 rfl rfl)
theorem dX2_won_45 : decode cX2_won 45 = .ok (.iload_n 3, 1) := dk_29 (dk_at dksX2_won_1 21 rfl rfl)
theorem dX2_won_46 : decode cX2_won 46 = .ok (.iaload, 1) := dk_46 (dk_at dksX2_won_1 22 rfl rfl)
theorem dX2_won_47 : decode cX2_won 47 = .ok (.iload_n 1, 1) := dk_27 (dk_at dksX2_won_1 23 rfl rfl)
theorem dX2_won_48 : decode cX2_won 48 = .ok (.if_icmp .ne 7, 3) := dk_160 0 7 (dk_at dksX2_won_2 0 rfl rfl)
theorem dX2_won_51 : decode cX2_won 51 = .ok (.iconst 1, 1) := dk_4 (dk_at dksX2_won_2 3 rfl rfl)
theorem dX2_won_52 : decode cX2_won 52 = .ok (.goto 4, 3) := dk_167 0 4 (dk_at dksX2_won_2 4 rfl rfl)
theorem dX2_won_55 : decode cX2_won 55 = .ok (.iconst 0, 1) := dk_3 (dk_at dksX2_won_2 7 rfl rfl)
theorem dX2_won_56 : decode cX2_won 56 = .ok (.iadd, 1) := dk_96 (dk_at dksX2_won_2 8 rfl rfl)
theorem dX2_won_57 : decode cX2_won 57 = .ok (.istore_n 2, 1) := dk_61 (dk_at dksX2_won_2 9 rfl rfl)
theorem dX2_won_58 : decode cX2_won 58 = .ok (.iinc 3 1, 3) := dk_132 3 1 (dk_at dksX2_won_2 10 rfl rfl)
theorem dX2_won_61 : decode cX2_won 61 = .ok (.goto (-39), 3) := dk_167 255 217 (dk_at dksX2_won_2 13 rfl rfl)
theorem dX2_won_64 : decode cX2_won 64 = .ok (.iload_n 2, 1) := dk_28 (dk_at dksX2_won_2 16 rfl rfl)
theorem dX2_won_65 : decode cX2_won 65 = .ok (.ireturn, 1) := dk_172 (dk_at dksX2_won_2 17 rfl rfl)
abbrev cX2_suspicion : ByteArray := prog_8_method_23_code
def yX2_suspicion : MethodName := ⟨RX2, "suspicion", "(II)I"⟩
def dkwX2_suspicion_1 : List UInt8 := [182, 0, 77, 172]
abbrev dktX2_suspicion_1 : List UInt8 := dkwX2_suspicion_1 ++ []
def dkwX2_suspicion_0 : List UInt8 := [42, 3, 181, 0, 60, 27, 28, 184, 0, 105, 153, 0, 12, 42, 27, 28, 182, 0, 108, 167, 0, 8, 42, 4]
abbrev dktX2_suspicion_0 : List UInt8 := dkwX2_suspicion_0 ++ dktX2_suspicion_1
theorem dksX2_suspicion_0 : cX2_suspicion.data.toList.drop 0 = dktX2_suspicion_0 := by decide +kernel
theorem dksX2_suspicion_1 : cX2_suspicion.data.toList.drop 24 = dktX2_suspicion_1 := dk_seg dksX2_suspicion_0 24 rfl rfl
theorem dX2_suspicion_0 : decode cX2_suspicion 0 = .ok (.aload_n 0, 1) := dk_42 (dk_at dksX2_suspicion_0 0 rfl rfl)
theorem dX2_suspicion_1 : decode cX2_suspicion 1 = .ok (.iconst 0, 1) := dk_3 (dk_at dksX2_suspicion_0 1 rfl rfl)
theorem dX2_suspicion_2 : decode cX2_suspicion 2 = .ok (.putfield 60, 3) := dk_181 0 60 (dk_at dksX2_suspicion_0 2 rfl rfl)
theorem dX2_suspicion_5 : decode cX2_suspicion 5 = .ok (.iload_n 1, 1) := dk_27 (dk_at dksX2_suspicion_0 5 rfl rfl)
theorem dX2_suspicion_6 : decode cX2_suspicion 6 = .ok (.iload_n 2, 1) := dk_28 (dk_at dksX2_suspicion_0 6 rfl rfl)
theorem dX2_suspicion_7 : decode cX2_suspicion 7 = .ok (.invokestatic 105, 3) := dk_184 0 105 (dk_at dksX2_suspicion_0 7 rfl rfl)
theorem dX2_suspicion_10 : decode cX2_suspicion 10 = .ok (.ifCond .eq 12, 3) := dk_153 0 12 (dk_at dksX2_suspicion_0 10 rfl rfl)
theorem dX2_suspicion_13 : decode cX2_suspicion 13 = .ok (.aload_n 0, 1) := dk_42 (dk_at dksX2_suspicion_0 13 rfl rfl)
theorem dX2_suspicion_14 : decode cX2_suspicion 14 = .ok (.iload_n 1, 1) := dk_27 (dk_at dksX2_suspicion_0 14 rfl rfl)
theorem dX2_suspicion_15 : decode cX2_suspicion 15 = .ok (.iload_n 2, 1) := dk_28 (dk_at dksX2_suspicion_0 15 rfl rfl)
theorem dX2_suspicion_16 : decode cX2_suspicion 16 = .ok (.invokevirtual 108, 3) := dk_182 0 108 (dk_at dksX2_suspicion_0 16 rfl rfl)
theorem dX2_suspicion_19 : decode cX2_suspicion 19 = .ok (.goto 8, 3) := dk_167 0 8 (dk_at dksX2_suspicion_0 19 rfl rfl)
theorem dX2_suspicion_22 : decode cX2_suspicion 22 = .ok (.aload_n 0, 1) := dk_42 (dk_at dksX2_suspicion_0 22 rfl rfl)
theorem dX2_suspicion_23 : decode cX2_suspicion 23 = .ok (.iconst 1, 1) := dk_4 (dk_at dksX2_suspicion_0 23 rfl rfl)
theorem dX2_suspicion_24 : decode cX2_suspicion 24 = .ok (.invokevirtual 77, 3) := dk_182 0 77 (dk_at dksX2_suspicion_1 0 rfl rfl)
theorem dX2_suspicion_27 : decode cX2_suspicion 27 = .ok (.ireturn, 1) := dk_172 (dk_at dksX2_suspicion_1 3 rfl rfl)
abbrev cX2_isPair : ByteArray := prog_8_method_8_code
def yX2_isPair : MethodName := ⟨RX2, "isPair", "(II)Z"⟩
def dkwX2_isPair_1 : List UInt8 := [172]
abbrev dktX2_isPair_1 : List UInt8 := dkwX2_isPair_1 ++ []
def dkwX2_isPair_0 : List UInt8 := [26, 184, 0, 73, 153, 0, 19, 27, 184, 0, 73, 153, 0, 12, 26, 27, 159, 0, 7, 4, 167, 0, 4, 3]
abbrev dktX2_isPair_0 : List UInt8 := dkwX2_isPair_0 ++ dktX2_isPair_1
theorem dksX2_isPair_0 : cX2_isPair.data.toList.drop 0 = dktX2_isPair_0 := by decide +kernel
theorem dksX2_isPair_1 : cX2_isPair.data.toList.drop 24 = dktX2_isPair_1 := dk_seg dksX2_isPair_0 24 rfl rfl
theorem dX2_isPair_0 : decode cX2_isPair 0 = .ok (.iload_n 0, 1) := dk_26 (dk_at dksX2_isPair_0 0 rfl rfl)
theorem dX2_isPair_1 : decode cX2_isPair 1 = .ok (.invokestatic 73, 3) := dk_184 0 73 (dk_at dksX2_isPair_0 1 rfl rfl)
theorem dX2_isPair_4 : decode cX2_isPair 4 = .ok (.ifCond .eq 19, 3) := dk_153 0 19 (dk_at dksX2_isPair_0 4 rfl rfl)
theorem dX2_isPair_7 : decode cX2_isPair 7 = .ok (.iload_n 1, 1) := dk_27 (dk_at dksX2_isPair_0 7 rfl rfl)
theorem dX2_isPair_8 : decode cX2_isPair 8 = .ok (.invokestatic 73, 3) := dk_184 0 73 (dk_at dksX2_isPair_0 8 rfl rfl)
theorem dX2_isPair_11 : decode cX2_isPair 11 = .ok (.ifCond .eq 12, 3) := dk_153 0 12 (dk_at dksX2_isPair_0 11 rfl rfl)
theorem dX2_isPair_14 : decode cX2_isPair 14 = .ok (.iload_n 0, 1) := dk_26 (dk_at dksX2_isPair_0 14 rfl rfl)
theorem dX2_isPair_15 : decode cX2_isPair 15 = .ok (.iload_n 1, 1) := dk_27 (dk_at dksX2_isPair_0 15 rfl rfl)
theorem dX2_isPair_16 : decode cX2_isPair 16 = .ok (.if_icmp .eq 7, 3) := dk_159 0 7 (dk_at dksX2_isPair_0 16 rfl rfl)
theorem dX2_isPair_19 : decode cX2_isPair 19 = .ok (.iconst 1, 1) := dk_4 (dk_at dksX2_isPair_0 19 rfl rfl)
theorem dX2_isPair_20 : decode cX2_isPair 20 = .ok (.goto 4, 3) := dk_167 0 4 (dk_at dksX2_isPair_0 20 rfl rfl)
theorem dX2_isPair_23 : decode cX2_isPair 23 = .ok (.iconst 0, 1) := dk_3 (dk_at dksX2_isPair_0 23 rfl rfl)
theorem dX2_isPair_24 : decode cX2_isPair 24 = .ok (.ireturn, 1) := dk_172 (dk_at dksX2_isPair_1 0 rfl rfl)
abbrev cX2_suspicionOf : ByteArray := prog_8_method_22_code
def yX2_suspicionOf : MethodName := ⟨RX2, "suspicionOf", "(II)I"⟩
def dkwX2_suspicionOf_1 : List UInt8 := [62, 132, 4, 1, 167, 255, 233, 29, 172]
abbrev dktX2_suspicionOf_1 : List UInt8 := dkwX2_suspicionOf_1 ++ []
def dkwX2_suspicionOf_0 : List UInt8 := [3, 62, 3, 54, 4, 21, 4, 42, 180, 0, 67, 162, 0, 20, 29, 42, 21, 4, 27, 28, 182, 0, 101, 96]
abbrev dktX2_suspicionOf_0 : List UInt8 := dkwX2_suspicionOf_0 ++ dktX2_suspicionOf_1
theorem dksX2_suspicionOf_0 : cX2_suspicionOf.data.toList.drop 0 = dktX2_suspicionOf_0 := by decide +kernel
theorem dksX2_suspicionOf_1 : cX2_suspicionOf.data.toList.drop 24 = dktX2_suspicionOf_1 := dk_seg dksX2_suspicionOf_0 24 rfl rfl
theorem dX2_suspicionOf_0 : decode cX2_suspicionOf 0 = .ok (.iconst 0, 1) := dk_3 (dk_at dksX2_suspicionOf_0 0 rfl rfl)
theorem dX2_suspicionOf_1 : decode cX2_suspicionOf 1 = .ok (.istore_n 3, 1) := dk_62 (dk_at dksX2_suspicionOf_0 1 rfl rfl)
theorem dX2_suspicionOf_2 : decode cX2_suspicionOf 2 = .ok (.iconst 0, 1) := dk_3 (dk_at dksX2_suspicionOf_0 2 rfl rfl)
theorem dX2_suspicionOf_3 : decode cX2_suspicionOf 3 = .ok (.istore 4, 2) := dk_54 4 (dk_at dksX2_suspicionOf_0 3 rfl rfl)
theorem dX2_suspicionOf_5 : decode cX2_suspicionOf 5 = .ok (.iload 4, 2) := dk_21 4 (dk_at dksX2_suspicionOf_0 5 rfl rfl)
theorem dX2_suspicionOf_7 : decode cX2_suspicionOf 7 = .ok (.aload_n 0, 1) := dk_42 (dk_at dksX2_suspicionOf_0 7 rfl rfl)
theorem dX2_suspicionOf_8 : decode cX2_suspicionOf 8 = .ok (.getfield 67, 3) := dk_180 0 67 (dk_at dksX2_suspicionOf_0 8 rfl rfl)
theorem dX2_suspicionOf_11 : decode cX2_suspicionOf 11 = .ok (.if_icmp .ge 20, 3) := dk_162 0 20 (dk_at dksX2_suspicionOf_0 11 rfl rfl)
theorem dX2_suspicionOf_14 : decode cX2_suspicionOf 14 = .ok (.iload_n 3, 1) := dk_29 (dk_at dksX2_suspicionOf_0 14 rfl rfl)
theorem dX2_suspicionOf_15 : decode cX2_suspicionOf 15 = .ok (.aload_n 0, 1) := dk_42 (dk_at dksX2_suspicionOf_0 15 rfl rfl)
theorem dX2_suspicionOf_16 : decode cX2_suspicionOf 16 = .ok (.iload 4, 2) := dk_21 4 (dk_at dksX2_suspicionOf_0 16 rfl rfl)
theorem dX2_suspicionOf_18 : decode cX2_suspicionOf 18 = .ok (.iload_n 1, 1) := dk_27 (dk_at dksX2_suspicionOf_0 18 rfl rfl)
theorem dX2_suspicionOf_19 : decode cX2_suspicionOf 19 = .ok (.iload_n 2, 1) := dk_28 (dk_at dksX2_suspicionOf_0 19 rfl rfl)
theorem dX2_suspicionOf_20 : decode cX2_suspicionOf 20 = .ok (.invokevirtual 101, 3) := dk_182 0 101 (dk_at dksX2_suspicionOf_0 20 rfl rfl)
theorem dX2_suspicionOf_23 : decode cX2_suspicionOf 23 = .ok (.iadd, 1) := dk_96 (dk_at dksX2_suspicionOf_0 23 rfl rfl)
theorem dX2_suspicionOf_24 : decode cX2_suspicionOf 24 = .ok (.istore_n 3, 1) := dk_62 (dk_at dksX2_suspicionOf_1 0 rfl rfl)
theorem dX2_suspicionOf_25 : decode cX2_suspicionOf 25 = .ok (.iinc 4 1, 3) := dk_132 4 1 (dk_at dksX2_suspicionOf_1 1 rfl rfl)
theorem dX2_suspicionOf_28 : decode cX2_suspicionOf 28 = .ok (.goto (-23), 3) := dk_167 255 233 (dk_at dksX2_suspicionOf_1 4 rfl rfl)
theorem dX2_suspicionOf_31 : decode cX2_suspicionOf 31 = .ok (.iload_n 3, 1) := dk_29 (dk_at dksX2_suspicionOf_1 7 rfl rfl)
theorem dX2_suspicionOf_32 : decode cX2_suspicionOf 32 = .ok (.ireturn, 1) := dk_172 (dk_at dksX2_suspicionOf_1 8 rfl rfl)
abbrev cX2_signOf : ByteArray := prog_8_method_21_code
def yX2_signOf : MethodName := ⟨RX2, "signOf", "(III)I"⟩
def dkwX2_signOf_8 : List UInt8 := [153, 0, 7, 7, 167, 0, 4, 3, 96, 54, 9, 21, 9, 172]
abbrev dktX2_signOf_8 : List UInt8 := dkwX2_signOf_8 ++ []
def dkwX2_signOf_7 : List UInt8 := [167, 0, 4, 3, 96, 54, 9, 21, 9, 21, 8, 153, 0, 19, 42, 27, 21, 4, 21, 5, 182, 0, 98]
abbrev dktX2_signOf_7 : List UInt8 := dkwX2_signOf_7 ++ dktX2_signOf_8
def dkwX2_signOf_6 : List UInt8 := [158, 0, 7, 6, 167, 0, 4, 3, 96, 54, 9, 21, 9, 42, 180, 0, 25, 21, 6, 51, 153, 0, 7, 4]
abbrev dktX2_signOf_6 : List UInt8 := dkwX2_signOf_6 ++ dktX2_signOf_7
def dkwX2_signOf_5 : List UInt8 := [54, 9, 21, 9, 42, 180, 0, 16, 27, 46, 21, 5, 160, 0, 17, 42, 180, 0, 22, 21, 6, 46]
abbrev dktX2_signOf_5 : List UInt8 := dkwX2_signOf_5 ++ dktX2_signOf_6
def dkwX2_signOf_4 : List UInt8 := [158, 0, 22, 21, 7, 42, 27, 182, 0, 92, 8, 104, 16, 100, 108, 163, 0, 7, 5, 167, 0, 4, 3]
abbrev dktX2_signOf_4 : List UInt8 := dkwX2_signOf_4 ++ dktX2_signOf_5
def dkwX2_signOf_3 : List UInt8 := [182, 0, 92, 100, 54, 7, 42, 27, 21, 5, 182, 0, 81, 54, 8, 21, 8, 153, 0, 27, 21, 7]
abbrev dktX2_signOf_3 : List UInt8 := dkwX2_signOf_3 ++ dktX2_signOf_4
def dkwX2_signOf_2 : List UInt8 := [167, 0, 4, 28, 54, 5, 16, 7, 27, 104, 21, 5, 96, 54, 6, 42, 180, 0, 22, 21, 6, 46, 42, 27]
abbrev dktX2_signOf_2 : List UInt8 := dkwX2_signOf_2 ++ dktX2_signOf_3
def dkwX2_signOf_1 : List UInt8 := [27, 46, 29, 159, 0, 5, 3, 172, 42, 180, 0, 13, 27, 46, 54, 4, 21, 4, 28, 160, 0, 7, 29]
abbrev dktX2_signOf_1 : List UInt8 := dkwX2_signOf_1 ++ dktX2_signOf_2
def dkwX2_signOf_0 : List UInt8 := [42, 180, 0, 7, 27, 46, 4, 160, 0, 23, 42, 180, 0, 13, 27, 46, 28, 159, 0, 15, 42, 180, 0, 13]
abbrev dktX2_signOf_0 : List UInt8 := dkwX2_signOf_0 ++ dktX2_signOf_1
theorem dksX2_signOf_0 : cX2_signOf.data.toList.drop 0 = dktX2_signOf_0 := by decide +kernel
theorem dksX2_signOf_1 : cX2_signOf.data.toList.drop 24 = dktX2_signOf_1 := dk_seg dksX2_signOf_0 24 rfl rfl
theorem dksX2_signOf_2 : cX2_signOf.data.toList.drop 47 = dktX2_signOf_2 := dk_seg dksX2_signOf_1 23 rfl rfl
theorem dksX2_signOf_3 : cX2_signOf.data.toList.drop 71 = dktX2_signOf_3 := dk_seg dksX2_signOf_2 24 rfl rfl
theorem dksX2_signOf_4 : cX2_signOf.data.toList.drop 93 = dktX2_signOf_4 := dk_seg dksX2_signOf_3 22 rfl rfl
theorem dksX2_signOf_5 : cX2_signOf.data.toList.drop 116 = dktX2_signOf_5 := dk_seg dksX2_signOf_4 23 rfl rfl
theorem dksX2_signOf_6 : cX2_signOf.data.toList.drop 138 = dktX2_signOf_6 := dk_seg dksX2_signOf_5 22 rfl rfl
theorem dksX2_signOf_7 : cX2_signOf.data.toList.drop 162 = dktX2_signOf_7 := dk_seg dksX2_signOf_6 24 rfl rfl
theorem dksX2_signOf_8 : cX2_signOf.data.toList.drop 185 = dktX2_signOf_8 := dk_seg dksX2_signOf_7 23 rfl rfl
theorem dX2_signOf_0 : decode cX2_signOf 0 = .ok (.aload_n 0, 1) := dk_42 (dk_at dksX2_signOf_0 0 rfl rfl)
theorem dX2_signOf_1 : decode cX2_signOf 1 = .ok (.getfield 7, 3) := dk_180 0 7 (dk_at dksX2_signOf_0 1 rfl rfl)
theorem dX2_signOf_4 : decode cX2_signOf 4 = .ok (.iload_n 1, 1) := dk_27 (dk_at dksX2_signOf_0 4 rfl rfl)
theorem dX2_signOf_5 : decode cX2_signOf 5 = .ok (.iaload, 1) := dk_46 (dk_at dksX2_signOf_0 5 rfl rfl)
theorem dX2_signOf_6 : decode cX2_signOf 6 = .ok (.iconst 1, 1) := dk_4 (dk_at dksX2_signOf_0 6 rfl rfl)
theorem dX2_signOf_7 : decode cX2_signOf 7 = .ok (.if_icmp .ne 23, 3) := dk_160 0 23 (dk_at dksX2_signOf_0 7 rfl rfl)
theorem dX2_signOf_10 : decode cX2_signOf 10 = .ok (.aload_n 0, 1) := dk_42 (dk_at dksX2_signOf_0 10 rfl rfl)
theorem dX2_signOf_11 : decode cX2_signOf 11 = .ok (.getfield 13, 3) := dk_180 0 13 (dk_at dksX2_signOf_0 11 rfl rfl)
theorem dX2_signOf_14 : decode cX2_signOf 14 = .ok (.iload_n 1, 1) := dk_27 (dk_at dksX2_signOf_0 14 rfl rfl)
theorem dX2_signOf_15 : decode cX2_signOf 15 = .ok (.iaload, 1) := dk_46 (dk_at dksX2_signOf_0 15 rfl rfl)
theorem dX2_signOf_16 : decode cX2_signOf 16 = .ok (.iload_n 2, 1) := dk_28 (dk_at dksX2_signOf_0 16 rfl rfl)
theorem dX2_signOf_17 : decode cX2_signOf 17 = .ok (.if_icmp .eq 15, 3) := dk_159 0 15 (dk_at dksX2_signOf_0 17 rfl rfl)
theorem dX2_signOf_20 : decode cX2_signOf 20 = .ok (.aload_n 0, 1) := dk_42 (dk_at dksX2_signOf_0 20 rfl rfl)
theorem dX2_signOf_21 : decode cX2_signOf 21 = .ok (.getfield 13, 3) := dk_180 0 13 (dk_at dksX2_signOf_0 21 rfl rfl)
theorem dX2_signOf_24 : decode cX2_signOf 24 = .ok (.iload_n 1, 1) := dk_27 (dk_at dksX2_signOf_1 0 rfl rfl)
theorem dX2_signOf_25 : decode cX2_signOf 25 = .ok (.iaload, 1) := dk_46 (dk_at dksX2_signOf_1 1 rfl rfl)
theorem dX2_signOf_26 : decode cX2_signOf 26 = .ok (.iload_n 3, 1) := dk_29 (dk_at dksX2_signOf_1 2 rfl rfl)
theorem dX2_signOf_27 : decode cX2_signOf 27 = .ok (.if_icmp .eq 5, 3) := dk_159 0 5 (dk_at dksX2_signOf_1 3 rfl rfl)
theorem dX2_signOf_30 : decode cX2_signOf 30 = .ok (.iconst 0, 1) := dk_3 (dk_at dksX2_signOf_1 6 rfl rfl)
theorem dX2_signOf_31 : decode cX2_signOf 31 = .ok (.ireturn, 1) := dk_172 (dk_at dksX2_signOf_1 7 rfl rfl)
theorem dX2_signOf_32 : decode cX2_signOf 32 = .ok (.aload_n 0, 1) := dk_42 (dk_at dksX2_signOf_1 8 rfl rfl)
theorem dX2_signOf_33 : decode cX2_signOf 33 = .ok (.getfield 13, 3) := dk_180 0 13 (dk_at dksX2_signOf_1 9 rfl rfl)
theorem dX2_signOf_36 : decode cX2_signOf 36 = .ok (.iload_n 1, 1) := dk_27 (dk_at dksX2_signOf_1 12 rfl rfl)
theorem dX2_signOf_37 : decode cX2_signOf 37 = .ok (.iaload, 1) := dk_46 (dk_at dksX2_signOf_1 13 rfl rfl)
theorem dX2_signOf_38 : decode cX2_signOf 38 = .ok (.istore 4, 2) := dk_54 4 (dk_at dksX2_signOf_1 14 rfl rfl)
theorem dX2_signOf_40 : decode cX2_signOf 40 = .ok (.iload 4, 2) := dk_21 4 (dk_at dksX2_signOf_1 16 rfl rfl)
theorem dX2_signOf_42 : decode cX2_signOf 42 = .ok (.iload_n 2, 1) := dk_28 (dk_at dksX2_signOf_1 18 rfl rfl)
theorem dX2_signOf_43 : decode cX2_signOf 43 = .ok (.if_icmp .ne 7, 3) := dk_160 0 7 (dk_at dksX2_signOf_1 19 rfl rfl)
theorem dX2_signOf_46 : decode cX2_signOf 46 = .ok (.iload_n 3, 1) := dk_29 (dk_at dksX2_signOf_1 22 rfl rfl)
theorem dX2_signOf_47 : decode cX2_signOf 47 = .ok (.goto 4, 3) := dk_167 0 4 (dk_at dksX2_signOf_2 0 rfl rfl)
theorem dX2_signOf_50 : decode cX2_signOf 50 = .ok (.iload_n 2, 1) := dk_28 (dk_at dksX2_signOf_2 3 rfl rfl)
theorem dX2_signOf_51 : decode cX2_signOf 51 = .ok (.istore 5, 2) := dk_54 5 (dk_at dksX2_signOf_2 4 rfl rfl)
theorem dX2_signOf_53 : decode cX2_signOf 53 = .ok (.bipush 7, 2) := dk_16 7 (dk_at dksX2_signOf_2 6 rfl rfl)
theorem dX2_signOf_55 : decode cX2_signOf 55 = .ok (.iload_n 1, 1) := dk_27 (dk_at dksX2_signOf_2 8 rfl rfl)
theorem dX2_signOf_56 : decode cX2_signOf 56 = .ok (.imul, 1) := dk_104 (dk_at dksX2_signOf_2 9 rfl rfl)
theorem dX2_signOf_57 : decode cX2_signOf 57 = .ok (.iload 5, 2) := dk_21 5 (dk_at dksX2_signOf_2 10 rfl rfl)
theorem dX2_signOf_59 : decode cX2_signOf 59 = .ok (.iadd, 1) := dk_96 (dk_at dksX2_signOf_2 12 rfl rfl)
theorem dX2_signOf_60 : decode cX2_signOf 60 = .ok (.istore 6, 2) := dk_54 6 (dk_at dksX2_signOf_2 13 rfl rfl)
theorem dX2_signOf_62 : decode cX2_signOf 62 = .ok (.aload_n 0, 1) := dk_42 (dk_at dksX2_signOf_2 15 rfl rfl)
theorem dX2_signOf_63 : decode cX2_signOf 63 = .ok (.getfield 22, 3) := dk_180 0 22 (dk_at dksX2_signOf_2 16 rfl rfl)
theorem dX2_signOf_66 : decode cX2_signOf 66 = .ok (.iload 6, 2) := dk_21 6 (dk_at dksX2_signOf_2 19 rfl rfl)
theorem dX2_signOf_68 : decode cX2_signOf 68 = .ok (.iaload, 1) := dk_46 (dk_at dksX2_signOf_2 21 rfl rfl)
theorem dX2_signOf_69 : decode cX2_signOf 69 = .ok (.aload_n 0, 1) := dk_42 (dk_at dksX2_signOf_2 22 rfl rfl)
theorem dX2_signOf_70 : decode cX2_signOf 70 = .ok (.iload_n 1, 1) := dk_27 (dk_at dksX2_signOf_2 23 rfl rfl)
theorem dX2_signOf_71 : decode cX2_signOf 71 = .ok (.invokevirtual 92, 3) := dk_182 0 92 (dk_at dksX2_signOf_3 0 rfl rfl)
theorem dX2_signOf_74 : decode cX2_signOf 74 = .ok (.isub, 1) := dk_100 (dk_at dksX2_signOf_3 3 rfl rfl)
theorem dX2_signOf_75 : decode cX2_signOf 75 = .ok (.istore 7, 2) := dk_54 7 (dk_at dksX2_signOf_3 4 rfl rfl)
theorem dX2_signOf_77 : decode cX2_signOf 77 = .ok (.aload_n 0, 1) := dk_42 (dk_at dksX2_signOf_3 6 rfl rfl)
theorem dX2_signOf_78 : decode cX2_signOf 78 = .ok (.iload_n 1, 1) := dk_27 (dk_at dksX2_signOf_3 7 rfl rfl)
theorem dX2_signOf_79 : decode cX2_signOf 79 = .ok (.iload 5, 2) := dk_21 5 (dk_at dksX2_signOf_3 8 rfl rfl)
theorem dX2_signOf_81 : decode cX2_signOf 81 = .ok (.invokevirtual 81, 3) := dk_182 0 81 (dk_at dksX2_signOf_3 10 rfl rfl)
theorem dX2_signOf_84 : decode cX2_signOf 84 = .ok (.istore 8, 2) := dk_54 8 (dk_at dksX2_signOf_3 13 rfl rfl)
theorem dX2_signOf_86 : decode cX2_signOf 86 = .ok (.iload 8, 2) := dk_21 8 (dk_at dksX2_signOf_3 15 rfl rfl)
theorem dX2_signOf_88 : decode cX2_signOf 88 = .ok (.ifCond .eq 27, 3) := dk_153 0 27 (dk_at dksX2_signOf_3 17 rfl rfl)
theorem dX2_signOf_91 : decode cX2_signOf 91 = .ok (.iload 7, 2) := dk_21 7 (dk_at dksX2_signOf_3 20 rfl rfl)
theorem dX2_signOf_93 : decode cX2_signOf 93 = .ok (.ifCond .le 22, 3) := dk_158 0 22 (dk_at dksX2_signOf_4 0 rfl rfl)
theorem dX2_signOf_96 : decode cX2_signOf 96 = .ok (.iload 7, 2) := dk_21 7 (dk_at dksX2_signOf_4 3 rfl rfl)
theorem dX2_signOf_98 : decode cX2_signOf 98 = .ok (.aload_n 0, 1) := dk_42 (dk_at dksX2_signOf_4 5 rfl rfl)
theorem dX2_signOf_99 : decode cX2_signOf 99 = .ok (.iload_n 1, 1) := dk_27 (dk_at dksX2_signOf_4 6 rfl rfl)
theorem dX2_signOf_100 : decode cX2_signOf 100 = .ok (.invokevirtual 92, 3) := dk_182 0 92 (dk_at dksX2_signOf_4 7 rfl rfl)
theorem dX2_signOf_103 : decode cX2_signOf 103 = .ok (.iconst 5, 1) := dk_8 (dk_at dksX2_signOf_4 10 rfl rfl)
theorem dX2_signOf_104 : decode cX2_signOf 104 = .ok (.imul, 1) := dk_104 (dk_at dksX2_signOf_4 11 rfl rfl)
theorem dX2_signOf_105 : decode cX2_signOf 105 = .ok (.bipush 100, 2) := dk_16 100 (dk_at dksX2_signOf_4 12 rfl rfl)
theorem dX2_signOf_107 : decode cX2_signOf 107 = .ok (.idiv, 1) := dk_108 (dk_at dksX2_signOf_4 14 rfl rfl)
theorem dX2_signOf_108 : decode cX2_signOf 108 = .ok (.if_icmp .gt 7, 3) := dk_163 0 7 (dk_at dksX2_signOf_4 15 rfl rfl)
theorem dX2_signOf_111 : decode cX2_signOf 111 = .ok (.iconst 2, 1) := dk_5 (dk_at dksX2_signOf_4 18 rfl rfl)
theorem dX2_signOf_112 : decode cX2_signOf 112 = .ok (.goto 4, 3) := dk_167 0 4 (dk_at dksX2_signOf_4 19 rfl rfl)
theorem dX2_signOf_115 : decode cX2_signOf 115 = .ok (.iconst 0, 1) := dk_3 (dk_at dksX2_signOf_4 22 rfl rfl)
theorem dX2_signOf_116 : decode cX2_signOf 116 = .ok (.istore 9, 2) := dk_54 9 (dk_at dksX2_signOf_5 0 rfl rfl)
theorem dX2_signOf_118 : decode cX2_signOf 118 = .ok (.iload 9, 2) := dk_21 9 (dk_at dksX2_signOf_5 2 rfl rfl)
theorem dX2_signOf_120 : decode cX2_signOf 120 = .ok (.aload_n 0, 1) := dk_42 (dk_at dksX2_signOf_5 4 rfl rfl)
theorem dX2_signOf_121 : decode cX2_signOf 121 = .ok (.getfield 16, 3) := dk_180 0 16 (dk_at dksX2_signOf_5 5 rfl rfl)
theorem dX2_signOf_124 : decode cX2_signOf 124 = .ok (.iload_n 1, 1) := dk_27 (dk_at dksX2_signOf_5 8 rfl rfl)
theorem dX2_signOf_125 : decode cX2_signOf 125 = .ok (.iaload, 1) := dk_46 (dk_at dksX2_signOf_5 9 rfl rfl)
theorem dX2_signOf_126 : decode cX2_signOf 126 = .ok (.iload 5, 2) := dk_21 5 (dk_at dksX2_signOf_5 10 rfl rfl)
theorem dX2_signOf_128 : decode cX2_signOf 128 = .ok (.if_icmp .ne 17, 3) := dk_160 0 17 (dk_at dksX2_signOf_5 12 rfl rfl)
theorem dX2_signOf_131 : decode cX2_signOf 131 = .ok (.aload_n 0, 1) := dk_42 (dk_at dksX2_signOf_5 15 rfl rfl)
theorem dX2_signOf_132 : decode cX2_signOf 132 = .ok (.getfield 22, 3) := dk_180 0 22 (dk_at dksX2_signOf_5 16 rfl rfl)
theorem dX2_signOf_135 : decode cX2_signOf 135 = .ok (.iload 6, 2) := dk_21 6 (dk_at dksX2_signOf_5 19 rfl rfl)
theorem dX2_signOf_137 : decode cX2_signOf 137 = .ok (.iaload, 1) := dk_46 (dk_at dksX2_signOf_5 21 rfl rfl)
theorem dX2_signOf_138 : decode cX2_signOf 138 = .ok (.ifCond .le 7, 3) := dk_158 0 7 (dk_at dksX2_signOf_6 0 rfl rfl)
theorem dX2_signOf_141 : decode cX2_signOf 141 = .ok (.iconst 3, 1) := dk_6 (dk_at dksX2_signOf_6 3 rfl rfl)
theorem dX2_signOf_142 : decode cX2_signOf 142 = .ok (.goto 4, 3) := dk_167 0 4 (dk_at dksX2_signOf_6 4 rfl rfl)
theorem dX2_signOf_145 : decode cX2_signOf 145 = .ok (.iconst 0, 1) := dk_3 (dk_at dksX2_signOf_6 7 rfl rfl)
theorem dX2_signOf_146 : decode cX2_signOf 146 = .ok (.iadd, 1) := dk_96 (dk_at dksX2_signOf_6 8 rfl rfl)
theorem dX2_signOf_147 : decode cX2_signOf 147 = .ok (.istore 9, 2) := dk_54 9 (dk_at dksX2_signOf_6 9 rfl rfl)
theorem dX2_signOf_149 : decode cX2_signOf 149 = .ok (.iload 9, 2) := dk_21 9 (dk_at dksX2_signOf_6 11 rfl rfl)
theorem dX2_signOf_151 : decode cX2_signOf 151 = .ok (.aload_n 0, 1) := dk_42 (dk_at dksX2_signOf_6 13 rfl rfl)
theorem dX2_signOf_152 : decode cX2_signOf 152 = .ok (.getfield 25, 3) := dk_180 0 25 (dk_at dksX2_signOf_6 14 rfl rfl)
theorem dX2_signOf_155 : decode cX2_signOf 155 = .ok (.iload 6, 2) := dk_21 6 (dk_at dksX2_signOf_6 17 rfl rfl)
theorem dX2_signOf_157 : decode cX2_signOf 157 = .ok (.baload, 1) := dk_51 (dk_at dksX2_signOf_6 19 rfl rfl)
theorem dX2_signOf_158 : decode cX2_signOf 158 = .ok (.ifCond .eq 7, 3) := dk_153 0 7 (dk_at dksX2_signOf_6 20 rfl rfl)
theorem dX2_signOf_161 : decode cX2_signOf 161 = .ok (.iconst 1, 1) := dk_4 (dk_at dksX2_signOf_6 23 rfl rfl)
theorem dX2_signOf_162 : decode cX2_signOf 162 = .ok (.goto 4, 3) := dk_167 0 4 (dk_at dksX2_signOf_7 0 rfl rfl)
theorem dX2_signOf_165 : decode cX2_signOf 165 = .ok (.iconst 0, 1) := dk_3 (dk_at dksX2_signOf_7 3 rfl rfl)
theorem dX2_signOf_166 : decode cX2_signOf 166 = .ok (.iadd, 1) := dk_96 (dk_at dksX2_signOf_7 4 rfl rfl)
theorem dX2_signOf_167 : decode cX2_signOf 167 = .ok (.istore 9, 2) := dk_54 9 (dk_at dksX2_signOf_7 5 rfl rfl)
theorem dX2_signOf_169 : decode cX2_signOf 169 = .ok (.iload 9, 2) := dk_21 9 (dk_at dksX2_signOf_7 7 rfl rfl)
theorem dX2_signOf_171 : decode cX2_signOf 171 = .ok (.iload 8, 2) := dk_21 8 (dk_at dksX2_signOf_7 9 rfl rfl)
theorem dX2_signOf_173 : decode cX2_signOf 173 = .ok (.ifCond .eq 19, 3) := dk_153 0 19 (dk_at dksX2_signOf_7 11 rfl rfl)
theorem dX2_signOf_176 : decode cX2_signOf 176 = .ok (.aload_n 0, 1) := dk_42 (dk_at dksX2_signOf_7 14 rfl rfl)
theorem dX2_signOf_177 : decode cX2_signOf 177 = .ok (.iload_n 1, 1) := dk_27 (dk_at dksX2_signOf_7 15 rfl rfl)
theorem dX2_signOf_178 : decode cX2_signOf 178 = .ok (.iload 4, 2) := dk_21 4 (dk_at dksX2_signOf_7 16 rfl rfl)
theorem dX2_signOf_180 : decode cX2_signOf 180 = .ok (.iload 5, 2) := dk_21 5 (dk_at dksX2_signOf_7 18 rfl rfl)
theorem dX2_signOf_182 : decode cX2_signOf 182 = .ok (.invokevirtual 98, 3) := dk_182 0 98 (dk_at dksX2_signOf_7 20 rfl rfl)
theorem dX2_signOf_185 : decode cX2_signOf 185 = .ok (.ifCond .eq 7, 3) := dk_153 0 7 (dk_at dksX2_signOf_8 0 rfl rfl)
theorem dX2_signOf_188 : decode cX2_signOf 188 = .ok (.iconst 4, 1) := dk_7 (dk_at dksX2_signOf_8 3 rfl rfl)
theorem dX2_signOf_189 : decode cX2_signOf 189 = .ok (.goto 4, 3) := dk_167 0 4 (dk_at dksX2_signOf_8 4 rfl rfl)
theorem dX2_signOf_192 : decode cX2_signOf 192 = .ok (.iconst 0, 1) := dk_3 (dk_at dksX2_signOf_8 7 rfl rfl)
theorem dX2_signOf_193 : decode cX2_signOf 193 = .ok (.iadd, 1) := dk_96 (dk_at dksX2_signOf_8 8 rfl rfl)
theorem dX2_signOf_194 : decode cX2_signOf 194 = .ok (.istore 9, 2) := dk_54 9 (dk_at dksX2_signOf_8 9 rfl rfl)
theorem dX2_signOf_196 : decode cX2_signOf 196 = .ok (.iload 9, 2) := dk_21 9 (dk_at dksX2_signOf_8 11 rfl rfl)
theorem dX2_signOf_198 : decode cX2_signOf 198 = .ok (.ireturn, 1) := dk_172 (dk_at dksX2_signOf_8 13 rfl rfl)
abbrev cX2_isTurn : ByteArray := prog_8_method_20_code
def yX2_isTurn : MethodName := ⟨RX2, "isTurn", "(III)Z"⟩
def dkwX2_isTurn_3 : List UInt8 := [160, 0, 7, 4, 167, 0, 4, 3, 172]
abbrev dktX2_isTurn_3 : List UInt8 := dkwX2_isTurn_3 ++ []
def dkwX2_isTurn_2 : List UInt8 := [21, 4, 54, 4, 132, 5, 1, 167, 255, 207, 21, 4, 2, 159, 0, 18, 42, 180, 0, 13, 21, 4, 46, 29]
abbrev dktX2_isTurn_2 : List UInt8 := dkwX2_isTurn_2 ++ dktX2_isTurn_3
def dkwX2_isTurn_1 : List UInt8 := [21, 5, 28, 182, 0, 81, 153, 0, 18, 42, 21, 5, 29, 182, 0, 81, 153, 0, 8, 21, 5, 167, 0, 5]
abbrev dktX2_isTurn_1 : List UInt8 := dkwX2_isTurn_1 ++ dktX2_isTurn_2
def dkwX2_isTurn_0 : List UInt8 := [2, 54, 4, 3, 54, 5, 21, 5, 27, 162, 0, 49, 42, 180, 0, 7, 21, 5, 46, 4, 160, 0, 28, 42]
abbrev dktX2_isTurn_0 : List UInt8 := dkwX2_isTurn_0 ++ dktX2_isTurn_1
theorem dksX2_isTurn_0 : cX2_isTurn.data.toList.drop 0 = dktX2_isTurn_0 := by decide +kernel
theorem dksX2_isTurn_1 : cX2_isTurn.data.toList.drop 24 = dktX2_isTurn_1 := dk_seg dksX2_isTurn_0 24 rfl rfl
theorem dksX2_isTurn_2 : cX2_isTurn.data.toList.drop 48 = dktX2_isTurn_2 := dk_seg dksX2_isTurn_1 24 rfl rfl
theorem dksX2_isTurn_3 : cX2_isTurn.data.toList.drop 72 = dktX2_isTurn_3 := dk_seg dksX2_isTurn_2 24 rfl rfl
theorem dX2_isTurn_0 : decode cX2_isTurn 0 = .ok (.iconst (-1), 1) := dk_2 (dk_at dksX2_isTurn_0 0 rfl rfl)
theorem dX2_isTurn_1 : decode cX2_isTurn 1 = .ok (.istore 4, 2) := dk_54 4 (dk_at dksX2_isTurn_0 1 rfl rfl)
theorem dX2_isTurn_3 : decode cX2_isTurn 3 = .ok (.iconst 0, 1) := dk_3 (dk_at dksX2_isTurn_0 3 rfl rfl)
theorem dX2_isTurn_4 : decode cX2_isTurn 4 = .ok (.istore 5, 2) := dk_54 5 (dk_at dksX2_isTurn_0 4 rfl rfl)
theorem dX2_isTurn_6 : decode cX2_isTurn 6 = .ok (.iload 5, 2) := dk_21 5 (dk_at dksX2_isTurn_0 6 rfl rfl)
theorem dX2_isTurn_8 : decode cX2_isTurn 8 = .ok (.iload_n 1, 1) := dk_27 (dk_at dksX2_isTurn_0 8 rfl rfl)
theorem dX2_isTurn_9 : decode cX2_isTurn 9 = .ok (.if_icmp .ge 49, 3) := dk_162 0 49 (dk_at dksX2_isTurn_0 9 rfl rfl)
theorem dX2_isTurn_12 : decode cX2_isTurn 12 = .ok (.aload_n 0, 1) := dk_42 (dk_at dksX2_isTurn_0 12 rfl rfl)
theorem dX2_isTurn_13 : decode cX2_isTurn 13 = .ok (.getfield 7, 3) := dk_180 0 7 (dk_at dksX2_isTurn_0 13 rfl rfl)
theorem dX2_isTurn_16 : decode cX2_isTurn 16 = .ok (.iload 5, 2) := dk_21 5 (dk_at dksX2_isTurn_0 16 rfl rfl)
theorem dX2_isTurn_18 : decode cX2_isTurn 18 = .ok (.iaload, 1) := dk_46 (dk_at dksX2_isTurn_0 18 rfl rfl)
theorem dX2_isTurn_19 : decode cX2_isTurn 19 = .ok (.iconst 1, 1) := dk_4 (dk_at dksX2_isTurn_0 19 rfl rfl)
theorem dX2_isTurn_20 : decode cX2_isTurn 20 = .ok (.if_icmp .ne 28, 3) := dk_160 0 28 (dk_at dksX2_isTurn_0 20 rfl rfl)
theorem dX2_isTurn_23 : decode cX2_isTurn 23 = .ok (.aload_n 0, 1) := dk_42 (dk_at dksX2_isTurn_0 23 rfl rfl)
theorem dX2_isTurn_24 : decode cX2_isTurn 24 = .ok (.iload 5, 2) := dk_21 5 (dk_at dksX2_isTurn_1 0 rfl rfl)
theorem dX2_isTurn_26 : decode cX2_isTurn 26 = .ok (.iload_n 2, 1) := dk_28 (dk_at dksX2_isTurn_1 2 rfl rfl)
theorem dX2_isTurn_27 : decode cX2_isTurn 27 = .ok (.invokevirtual 81, 3) := dk_182 0 81 (dk_at dksX2_isTurn_1 3 rfl rfl)
theorem dX2_isTurn_30 : decode cX2_isTurn 30 = .ok (.ifCond .eq 18, 3) := dk_153 0 18 (dk_at dksX2_isTurn_1 6 rfl rfl)
theorem dX2_isTurn_33 : decode cX2_isTurn 33 = .ok (.aload_n 0, 1) := dk_42 (dk_at dksX2_isTurn_1 9 rfl rfl)
theorem dX2_isTurn_34 : decode cX2_isTurn 34 = .ok (.iload 5, 2) := dk_21 5 (dk_at dksX2_isTurn_1 10 rfl rfl)
theorem dX2_isTurn_36 : decode cX2_isTurn 36 = .ok (.iload_n 3, 1) := dk_29 (dk_at dksX2_isTurn_1 12 rfl rfl)
theorem dX2_isTurn_37 : decode cX2_isTurn 37 = .ok (.invokevirtual 81, 3) := dk_182 0 81 (dk_at dksX2_isTurn_1 13 rfl rfl)
theorem dX2_isTurn_40 : decode cX2_isTurn 40 = .ok (.ifCond .eq 8, 3) := dk_153 0 8 (dk_at dksX2_isTurn_1 16 rfl rfl)
theorem dX2_isTurn_43 : decode cX2_isTurn 43 = .ok (.iload 5, 2) := dk_21 5 (dk_at dksX2_isTurn_1 19 rfl rfl)
theorem dX2_isTurn_45 : decode cX2_isTurn 45 = .ok (.goto 5, 3) := dk_167 0 5 (dk_at dksX2_isTurn_1 21 rfl rfl)
theorem dX2_isTurn_48 : decode cX2_isTurn 48 = .ok (.iload 4, 2) := dk_21 4 (dk_at dksX2_isTurn_2 0 rfl rfl)
theorem dX2_isTurn_50 : decode cX2_isTurn 50 = .ok (.istore 4, 2) := dk_54 4 (dk_at dksX2_isTurn_2 2 rfl rfl)
theorem dX2_isTurn_52 : decode cX2_isTurn 52 = .ok (.iinc 5 1, 3) := dk_132 5 1 (dk_at dksX2_isTurn_2 4 rfl rfl)
theorem dX2_isTurn_55 : decode cX2_isTurn 55 = .ok (.goto (-49), 3) := dk_167 255 207 (dk_at dksX2_isTurn_2 7 rfl rfl)
theorem dX2_isTurn_58 : decode cX2_isTurn 58 = .ok (.iload 4, 2) := dk_21 4 (dk_at dksX2_isTurn_2 10 rfl rfl)
theorem dX2_isTurn_60 : decode cX2_isTurn 60 = .ok (.iconst (-1), 1) := dk_2 (dk_at dksX2_isTurn_2 12 rfl rfl)
theorem dX2_isTurn_61 : decode cX2_isTurn 61 = .ok (.if_icmp .eq 18, 3) := dk_159 0 18 (dk_at dksX2_isTurn_2 13 rfl rfl)
theorem dX2_isTurn_64 : decode cX2_isTurn 64 = .ok (.aload_n 0, 1) := dk_42 (dk_at dksX2_isTurn_2 16 rfl rfl)
theorem dX2_isTurn_65 : decode cX2_isTurn 65 = .ok (.getfield 13, 3) := dk_180 0 13 (dk_at dksX2_isTurn_2 17 rfl rfl)
theorem dX2_isTurn_68 : decode cX2_isTurn 68 = .ok (.iload 4, 2) := dk_21 4 (dk_at dksX2_isTurn_2 20 rfl rfl)
theorem dX2_isTurn_70 : decode cX2_isTurn 70 = .ok (.iaload, 1) := dk_46 (dk_at dksX2_isTurn_2 22 rfl rfl)
theorem dX2_isTurn_71 : decode cX2_isTurn 71 = .ok (.iload_n 3, 1) := dk_29 (dk_at dksX2_isTurn_2 23 rfl rfl)
theorem dX2_isTurn_72 : decode cX2_isTurn 72 = .ok (.if_icmp .ne 7, 3) := dk_160 0 7 (dk_at dksX2_isTurn_3 0 rfl rfl)
theorem dX2_isTurn_75 : decode cX2_isTurn 75 = .ok (.iconst 1, 1) := dk_4 (dk_at dksX2_isTurn_3 3 rfl rfl)
theorem dX2_isTurn_76 : decode cX2_isTurn 76 = .ok (.goto 4, 3) := dk_167 0 4 (dk_at dksX2_isTurn_3 4 rfl rfl)
theorem dX2_isTurn_79 : decode cX2_isTurn 79 = .ok (.iconst 0, 1) := dk_3 (dk_at dksX2_isTurn_3 7 rfl rfl)
theorem dX2_isTurn_80 : decode cX2_isTurn 80 = .ok (.ireturn, 1) := dk_172 (dk_at dksX2_isTurn_3 8 rfl rfl)
abbrev cX2_sign : ByteArray := prog_8_method_24_code
def yX2_sign : MethodName := ⟨RX2, "sign", "(III)I"⟩
def dkwX2_sign_1 : List UInt8 := [153, 0, 13, 42, 27, 28, 29, 182, 0, 101, 167, 0, 8, 42, 5, 182, 0, 77, 172]
abbrev dktX2_sign_1 : List UInt8 := dkwX2_sign_1 ++ []
def dkwX2_sign_0 : List UInt8 := [42, 3, 181, 0, 60, 42, 27, 182, 0, 85, 154, 0, 9, 42, 4, 182, 0, 77, 172, 28, 29, 184, 0, 105]
abbrev dktX2_sign_0 : List UInt8 := dkwX2_sign_0 ++ dktX2_sign_1
theorem dksX2_sign_0 : cX2_sign.data.toList.drop 0 = dktX2_sign_0 := by decide +kernel
theorem dksX2_sign_1 : cX2_sign.data.toList.drop 24 = dktX2_sign_1 := dk_seg dksX2_sign_0 24 rfl rfl
theorem dX2_sign_0 : decode cX2_sign 0 = .ok (.aload_n 0, 1) := dk_42 (dk_at dksX2_sign_0 0 rfl rfl)
theorem dX2_sign_1 : decode cX2_sign 1 = .ok (.iconst 0, 1) := dk_3 (dk_at dksX2_sign_0 1 rfl rfl)
theorem dX2_sign_2 : decode cX2_sign 2 = .ok (.putfield 60, 3) := dk_181 0 60 (dk_at dksX2_sign_0 2 rfl rfl)
theorem dX2_sign_5 : decode cX2_sign 5 = .ok (.aload_n 0, 1) := dk_42 (dk_at dksX2_sign_0 5 rfl rfl)
theorem dX2_sign_6 : decode cX2_sign 6 = .ok (.iload_n 1, 1) := dk_27 (dk_at dksX2_sign_0 6 rfl rfl)
theorem dX2_sign_7 : decode cX2_sign 7 = .ok (.invokevirtual 85, 3) := dk_182 0 85 (dk_at dksX2_sign_0 7 rfl rfl)
theorem dX2_sign_10 : decode cX2_sign 10 = .ok (.ifCond .ne 9, 3) := dk_154 0 9 (dk_at dksX2_sign_0 10 rfl rfl)
theorem dX2_sign_13 : decode cX2_sign 13 = .ok (.aload_n 0, 1) := dk_42 (dk_at dksX2_sign_0 13 rfl rfl)
theorem dX2_sign_14 : decode cX2_sign 14 = .ok (.iconst 1, 1) := dk_4 (dk_at dksX2_sign_0 14 rfl rfl)
theorem dX2_sign_15 : decode cX2_sign 15 = .ok (.invokevirtual 77, 3) := dk_182 0 77 (dk_at dksX2_sign_0 15 rfl rfl)
theorem dX2_sign_18 : decode cX2_sign 18 = .ok (.ireturn, 1) := dk_172 (dk_at dksX2_sign_0 18 rfl rfl)
theorem dX2_sign_19 : decode cX2_sign 19 = .ok (.iload_n 2, 1) := dk_28 (dk_at dksX2_sign_0 19 rfl rfl)
theorem dX2_sign_20 : decode cX2_sign 20 = .ok (.iload_n 3, 1) := dk_29 (dk_at dksX2_sign_0 20 rfl rfl)
theorem dX2_sign_21 : decode cX2_sign 21 = .ok (.invokestatic 105, 3) := dk_184 0 105 (dk_at dksX2_sign_0 21 rfl rfl)
theorem dX2_sign_24 : decode cX2_sign 24 = .ok (.ifCond .eq 13, 3) := dk_153 0 13 (dk_at dksX2_sign_1 0 rfl rfl)
theorem dX2_sign_27 : decode cX2_sign 27 = .ok (.aload_n 0, 1) := dk_42 (dk_at dksX2_sign_1 3 rfl rfl)
theorem dX2_sign_28 : decode cX2_sign 28 = .ok (.iload_n 1, 1) := dk_27 (dk_at dksX2_sign_1 4 rfl rfl)
theorem dX2_sign_29 : decode cX2_sign 29 = .ok (.iload_n 2, 1) := dk_28 (dk_at dksX2_sign_1 5 rfl rfl)
theorem dX2_sign_30 : decode cX2_sign 30 = .ok (.iload_n 3, 1) := dk_29 (dk_at dksX2_sign_1 6 rfl rfl)
theorem dX2_sign_31 : decode cX2_sign 31 = .ok (.invokevirtual 101, 3) := dk_182 0 101 (dk_at dksX2_sign_1 7 rfl rfl)
theorem dX2_sign_34 : decode cX2_sign 34 = .ok (.goto 8, 3) := dk_167 0 8 (dk_at dksX2_sign_1 10 rfl rfl)
theorem dX2_sign_37 : decode cX2_sign 37 = .ok (.aload_n 0, 1) := dk_42 (dk_at dksX2_sign_1 13 rfl rfl)
theorem dX2_sign_38 : decode cX2_sign 38 = .ok (.iconst 2, 1) := dk_5 (dk_at dksX2_sign_1 14 rfl rfl)
theorem dX2_sign_39 : decode cX2_sign 39 = .ok (.invokevirtual 77, 3) := dk_182 0 77 (dk_at dksX2_sign_1 15 rfl rfl)
theorem dX2_sign_42 : decode cX2_sign 42 = .ok (.ireturn, 1) := dk_172 (dk_at dksX2_sign_1 18 rfl rfl)
abbrev cX2_setMark : ByteArray := prog_8_method_25_code
def yX2_setMark : MethodName := ⟨RX2, "setMark", "(I)I"⟩
def dkwX2_setMark_1 : List UInt8 := [180, 0, 29, 61, 42, 27, 181, 0, 29, 28, 172]
abbrev dktX2_setMark_1 : List UInt8 := dkwX2_setMark_1 ++ []
def dkwX2_setMark_0 : List UInt8 := [42, 3, 181, 0, 60, 27, 4, 17, 3, 232, 184, 0, 63, 154, 0, 9, 42, 4, 182, 0, 77, 172, 42]
abbrev dktX2_setMark_0 : List UInt8 := dkwX2_setMark_0 ++ dktX2_setMark_1
theorem dksX2_setMark_0 : cX2_setMark.data.toList.drop 0 = dktX2_setMark_0 := by decide +kernel
theorem dksX2_setMark_1 : cX2_setMark.data.toList.drop 23 = dktX2_setMark_1 := dk_seg dksX2_setMark_0 23 rfl rfl
theorem dX2_setMark_0 : decode cX2_setMark 0 = .ok (.aload_n 0, 1) := dk_42 (dk_at dksX2_setMark_0 0 rfl rfl)
theorem dX2_setMark_1 : decode cX2_setMark 1 = .ok (.iconst 0, 1) := dk_3 (dk_at dksX2_setMark_0 1 rfl rfl)
theorem dX2_setMark_2 : decode cX2_setMark 2 = .ok (.putfield 60, 3) := dk_181 0 60 (dk_at dksX2_setMark_0 2 rfl rfl)
theorem dX2_setMark_5 : decode cX2_setMark 5 = .ok (.iload_n 1, 1) := dk_27 (dk_at dksX2_setMark_0 5 rfl rfl)
theorem dX2_setMark_6 : decode cX2_setMark 6 = .ok (.iconst 1, 1) := dk_4 (dk_at dksX2_setMark_0 6 rfl rfl)
theorem dX2_setMark_7 : decode cX2_setMark 7 = .ok (.sipush 1000, 3) := dk_17 3 232 (dk_at dksX2_setMark_0 7 rfl rfl)
theorem dX2_setMark_10 : decode cX2_setMark 10 = .ok (.invokestatic 63, 3) := dk_184 0 63 (dk_at dksX2_setMark_0 10 rfl rfl)
theorem dX2_setMark_13 : decode cX2_setMark 13 = .ok (.ifCond .ne 9, 3) := dk_154 0 9 (dk_at dksX2_setMark_0 13 rfl rfl)
theorem dX2_setMark_16 : decode cX2_setMark 16 = .ok (.aload_n 0, 1) := dk_42 (dk_at dksX2_setMark_0 16 rfl rfl)
theorem dX2_setMark_17 : decode cX2_setMark 17 = .ok (.iconst 1, 1) := dk_4 (dk_at dksX2_setMark_0 17 rfl rfl)
theorem dX2_setMark_18 : decode cX2_setMark 18 = .ok (.invokevirtual 77, 3) := dk_182 0 77 (dk_at dksX2_setMark_0 18 rfl rfl)
theorem dX2_setMark_21 : decode cX2_setMark 21 = .ok (.ireturn, 1) := dk_172 (dk_at dksX2_setMark_0 21 rfl rfl)
theorem dX2_setMark_22 : decode cX2_setMark 22 = .ok (.aload_n 0, 1) := dk_42 (dk_at dksX2_setMark_0 22 rfl rfl)
theorem dX2_setMark_23 : decode cX2_setMark 23 = .ok (.getfield 29, 3) := dk_180 0 29 (dk_at dksX2_setMark_1 0 rfl rfl)
theorem dX2_setMark_26 : decode cX2_setMark 26 = .ok (.istore_n 2, 1) := dk_61 (dk_at dksX2_setMark_1 3 rfl rfl)
theorem dX2_setMark_27 : decode cX2_setMark 27 = .ok (.aload_n 0, 1) := dk_42 (dk_at dksX2_setMark_1 4 rfl rfl)
theorem dX2_setMark_28 : decode cX2_setMark 28 = .ok (.iload_n 1, 1) := dk_27 (dk_at dksX2_setMark_1 5 rfl rfl)
theorem dX2_setMark_29 : decode cX2_setMark 29 = .ok (.putfield 29, 3) := dk_181 0 29 (dk_at dksX2_setMark_1 6 rfl rfl)
theorem dX2_setMark_32 : decode cX2_setMark 32 = .ok (.iload_n 2, 1) := dk_28 (dk_at dksX2_setMark_1 9 rfl rfl)
theorem dX2_setMark_33 : decode cX2_setMark 33 = .ok (.ireturn, 1) := dk_172 (dk_at dksX2_setMark_1 10 rfl rfl)
abbrev cX2_worst : ByteArray := prog_8_method_26_code
def yX2_worst : MethodName := ⟨RX2, "worst", "()I"⟩
def dkwX2_worst_3 : List UInt8 := [167, 255, 206, 132, 3, 1, 167, 255, 189, 27, 172]
abbrev dktX2_worst_3 : List UInt8 := dkwX2_worst_3 ++ []
def dkwX2_worst_2 : List UInt8 := [21, 4, 96, 167, 0, 4, 27, 60, 21, 5, 28, 164, 0, 8, 21, 5, 167, 0, 4, 28, 61, 132, 4, 1]
abbrev dktX2_worst_2 : List UInt8 := dkwX2_worst_2 ++ dktX2_worst_3
def dkwX2_worst_1 : List UInt8 := [16, 7, 162, 0, 49, 42, 29, 21, 4, 182, 0, 108, 54, 5, 21, 5, 28, 164, 0, 13, 16, 10, 29, 104]
abbrev dktX2_worst_1 : List UInt8 := dkwX2_worst_1 ++ dktX2_worst_2
def dkwX2_worst_0 : List UInt8 := [42, 3, 181, 0, 60, 2, 60, 3, 61, 3, 62, 29, 16, 7, 162, 0, 67, 29, 4, 96, 54, 4, 21, 4]
abbrev dktX2_worst_0 : List UInt8 := dkwX2_worst_0 ++ dktX2_worst_1
theorem dksX2_worst_0 : cX2_worst.data.toList.drop 0 = dktX2_worst_0 := by decide +kernel
theorem dksX2_worst_1 : cX2_worst.data.toList.drop 24 = dktX2_worst_1 := dk_seg dksX2_worst_0 24 rfl rfl
theorem dksX2_worst_2 : cX2_worst.data.toList.drop 48 = dktX2_worst_2 := dk_seg dksX2_worst_1 24 rfl rfl
theorem dksX2_worst_3 : cX2_worst.data.toList.drop 72 = dktX2_worst_3 := dk_seg dksX2_worst_2 24 rfl rfl
theorem dX2_worst_0 : decode cX2_worst 0 = .ok (.aload_n 0, 1) := dk_42 (dk_at dksX2_worst_0 0 rfl rfl)
theorem dX2_worst_1 : decode cX2_worst 1 = .ok (.iconst 0, 1) := dk_3 (dk_at dksX2_worst_0 1 rfl rfl)
theorem dX2_worst_2 : decode cX2_worst 2 = .ok (.putfield 60, 3) := dk_181 0 60 (dk_at dksX2_worst_0 2 rfl rfl)
theorem dX2_worst_5 : decode cX2_worst 5 = .ok (.iconst (-1), 1) := dk_2 (dk_at dksX2_worst_0 5 rfl rfl)
theorem dX2_worst_6 : decode cX2_worst 6 = .ok (.istore_n 1, 1) := dk_60 (dk_at dksX2_worst_0 6 rfl rfl)
theorem dX2_worst_7 : decode cX2_worst 7 = .ok (.iconst 0, 1) := dk_3 (dk_at dksX2_worst_0 7 rfl rfl)
theorem dX2_worst_8 : decode cX2_worst 8 = .ok (.istore_n 2, 1) := dk_61 (dk_at dksX2_worst_0 8 rfl rfl)
theorem dX2_worst_9 : decode cX2_worst 9 = .ok (.iconst 0, 1) := dk_3 (dk_at dksX2_worst_0 9 rfl rfl)
theorem dX2_worst_10 : decode cX2_worst 10 = .ok (.istore_n 3, 1) := dk_62 (dk_at dksX2_worst_0 10 rfl rfl)
theorem dX2_worst_11 : decode cX2_worst 11 = .ok (.iload_n 3, 1) := dk_29 (dk_at dksX2_worst_0 11 rfl rfl)
theorem dX2_worst_12 : decode cX2_worst 12 = .ok (.bipush 7, 2) := dk_16 7 (dk_at dksX2_worst_0 12 rfl rfl)
theorem dX2_worst_14 : decode cX2_worst 14 = .ok (.if_icmp .ge 67, 3) := dk_162 0 67 (dk_at dksX2_worst_0 14 rfl rfl)
theorem dX2_worst_17 : decode cX2_worst 17 = .ok (.iload_n 3, 1) := dk_29 (dk_at dksX2_worst_0 17 rfl rfl)
theorem dX2_worst_18 : decode cX2_worst 18 = .ok (.iconst 1, 1) := dk_4 (dk_at dksX2_worst_0 18 rfl rfl)
theorem dX2_worst_19 : decode cX2_worst 19 = .ok (.iadd, 1) := dk_96 (dk_at dksX2_worst_0 19 rfl rfl)
theorem dX2_worst_20 : decode cX2_worst 20 = .ok (.istore 4, 2) := dk_54 4 (dk_at dksX2_worst_0 20 rfl rfl)
theorem dX2_worst_22 : decode cX2_worst 22 = .ok (.iload 4, 2) := dk_21 4 (dk_at dksX2_worst_0 22 rfl rfl)
theorem dX2_worst_24 : decode cX2_worst 24 = .ok (.bipush 7, 2) := dk_16 7 (dk_at dksX2_worst_1 0 rfl rfl)
theorem dX2_worst_26 : decode cX2_worst 26 = .ok (.if_icmp .ge 49, 3) := dk_162 0 49 (dk_at dksX2_worst_1 2 rfl rfl)
theorem dX2_worst_29 : decode cX2_worst 29 = .ok (.aload_n 0, 1) := dk_42 (dk_at dksX2_worst_1 5 rfl rfl)
theorem dX2_worst_30 : decode cX2_worst 30 = .ok (.iload_n 3, 1) := dk_29 (dk_at dksX2_worst_1 6 rfl rfl)
theorem dX2_worst_31 : decode cX2_worst 31 = .ok (.iload 4, 2) := dk_21 4 (dk_at dksX2_worst_1 7 rfl rfl)
theorem dX2_worst_33 : decode cX2_worst 33 = .ok (.invokevirtual 108, 3) := dk_182 0 108 (dk_at dksX2_worst_1 9 rfl rfl)
theorem dX2_worst_36 : decode cX2_worst 36 = .ok (.istore 5, 2) := dk_54 5 (dk_at dksX2_worst_1 12 rfl rfl)
theorem dX2_worst_38 : decode cX2_worst 38 = .ok (.iload 5, 2) := dk_21 5 (dk_at dksX2_worst_1 14 rfl rfl)
theorem dX2_worst_40 : decode cX2_worst 40 = .ok (.iload_n 2, 1) := dk_28 (dk_at dksX2_worst_1 16 rfl rfl)
theorem dX2_worst_41 : decode cX2_worst 41 = .ok (.if_icmp .le 13, 3) := dk_164 0 13 (dk_at dksX2_worst_1 17 rfl rfl)
theorem dX2_worst_44 : decode cX2_worst 44 = .ok (.bipush 10, 2) := dk_16 10 (dk_at dksX2_worst_1 20 rfl rfl)
theorem dX2_worst_46 : decode cX2_worst 46 = .ok (.iload_n 3, 1) := dk_29 (dk_at dksX2_worst_1 22 rfl rfl)
theorem dX2_worst_47 : decode cX2_worst 47 = .ok (.imul, 1) := dk_104 (dk_at dksX2_worst_1 23 rfl rfl)
theorem dX2_worst_48 : decode cX2_worst 48 = .ok (.iload 4, 2) := dk_21 4 (dk_at dksX2_worst_2 0 rfl rfl)
theorem dX2_worst_50 : decode cX2_worst 50 = .ok (.iadd, 1) := dk_96 (dk_at dksX2_worst_2 2 rfl rfl)
theorem dX2_worst_51 : decode cX2_worst 51 = .ok (.goto 4, 3) := dk_167 0 4 (dk_at dksX2_worst_2 3 rfl rfl)
theorem dX2_worst_54 : decode cX2_worst 54 = .ok (.iload_n 1, 1) := dk_27 (dk_at dksX2_worst_2 6 rfl rfl)
theorem dX2_worst_55 : decode cX2_worst 55 = .ok (.istore_n 1, 1) := dk_60 (dk_at dksX2_worst_2 7 rfl rfl)
theorem dX2_worst_56 : decode cX2_worst 56 = .ok (.iload 5, 2) := dk_21 5 (dk_at dksX2_worst_2 8 rfl rfl)
theorem dX2_worst_58 : decode cX2_worst 58 = .ok (.iload_n 2, 1) := dk_28 (dk_at dksX2_worst_2 10 rfl rfl)
theorem dX2_worst_59 : decode cX2_worst 59 = .ok (.if_icmp .le 8, 3) := dk_164 0 8 (dk_at dksX2_worst_2 11 rfl rfl)
theorem dX2_worst_62 : decode cX2_worst 62 = .ok (.iload 5, 2) := dk_21 5 (dk_at dksX2_worst_2 14 rfl rfl)
theorem dX2_worst_64 : decode cX2_worst 64 = .ok (.goto 4, 3) := dk_167 0 4 (dk_at dksX2_worst_2 16 rfl rfl)
theorem dX2_worst_67 : decode cX2_worst 67 = .ok (.iload_n 2, 1) := dk_28 (dk_at dksX2_worst_2 19 rfl rfl)
theorem dX2_worst_68 : decode cX2_worst 68 = .ok (.istore_n 2, 1) := dk_61 (dk_at dksX2_worst_2 20 rfl rfl)
theorem dX2_worst_69 : decode cX2_worst 69 = .ok (.iinc 4 1, 3) := dk_132 4 1 (dk_at dksX2_worst_2 21 rfl rfl)
theorem dX2_worst_72 : decode cX2_worst 72 = .ok (.goto (-50), 3) := dk_167 255 206 (dk_at dksX2_worst_3 0 rfl rfl)
theorem dX2_worst_75 : decode cX2_worst 75 = .ok (.iinc 3 1, 3) := dk_132 3 1 (dk_at dksX2_worst_3 3 rfl rfl)
theorem dX2_worst_78 : decode cX2_worst 78 = .ok (.goto (-67), 3) := dk_167 255 189 (dk_at dksX2_worst_3 6 rfl rfl)
theorem dX2_worst_81 : decode cX2_worst 81 = .ok (.iload_n 1, 1) := dk_27 (dk_at dksX2_worst_3 9 rfl rfl)
theorem dX2_worst_82 : decode cX2_worst 82 = .ok (.ireturn, 1) := dk_172 (dk_at dksX2_worst_3 10 rfl rfl)
abbrev cX2_file : ByteArray := prog_8_method_27_code
def yX2_file : MethodName := ⟨RX2, "file", "(II)I"⟩
def dkwX2_file_9 : List UInt8 := [42, 89, 180, 0, 70, 4, 96, 181, 0, 70, 42, 180, 0, 70, 4, 100, 172]
abbrev dktX2_file_9 : List UInt8 := dkwX2_file_9 ++ []
def dkwX2_file_8 : List UInt8 := [27, 28, 182, 0, 101, 158, 0, 10, 4, 21, 6, 120, 167, 0, 4, 3, 128, 79, 132, 6, 1, 167, 255, 213]
abbrev dktX2_file_8 : List UInt8 := dkwX2_file_8 ++ dktX2_file_9
def dkwX2_file_7 : List UInt8 := [54, 6, 21, 6, 42, 180, 0, 67, 162, 0, 40, 42, 180, 0, 39, 42, 180, 0, 70, 92, 46, 42, 21, 6]
abbrev dktX2_file_7 : List UInt8 := dkwX2_file_7 ++ dktX2_file_8
def dkwX2_file_6 : List UInt8 := [29, 79, 42, 180, 0, 36, 42, 180, 0, 70, 21, 4, 79, 42, 180, 0, 45, 42, 180, 0, 70, 2, 79, 3]
abbrev dktX2_file_6 : List UInt8 := dkwX2_file_6 ++ dktX2_file_7
def dkwX2_file_5 : List UInt8 := [182, 0, 108, 42, 180, 0, 29, 162, 0, 9, 42, 5, 182, 0, 77, 172, 42, 180, 0, 33, 42, 180, 0, 70]
abbrev dktX2_file_5 : List UInt8 := dkwX2_file_5 ++ dktX2_file_6
def dkwX2_file_4 : List UInt8 := [132, 6, 1, 167, 255, 209, 21, 5, 154, 0, 25, 42, 180, 0, 70, 16, 20, 159, 0, 16, 42, 27, 28]
abbrev dktX2_file_4 : List UInt8 := dkwX2_file_4 ++ dktX2_file_5
def dkwX2_file_3 : List UInt8 := [160, 0, 19, 42, 180, 0, 36, 21, 6, 46, 21, 4, 160, 0, 7, 4, 167, 0, 4, 3, 54, 5]
abbrev dktX2_file_3 : List UInt8 := dkwX2_file_3 ++ dktX2_file_4
def dkwX2_file_2 : List UInt8 := [21, 6, 42, 180, 0, 70, 162, 0, 44, 21, 5, 154, 0, 26, 42, 180, 0, 33, 21, 6, 46, 29]
abbrev dktX2_file_2 : List UInt8 := dkwX2_file_2 ++ dktX2_file_3
def dkwX2_file_1 : List UInt8 := [27, 167, 0, 4, 28, 62, 27, 28, 162, 0, 7, 28, 167, 0, 4, 27, 54, 4, 3, 54, 5, 3, 54, 6]
abbrev dktX2_file_1 : List UInt8 := dkwX2_file_1 ++ dktX2_file_2
def dkwX2_file_0 : List UInt8 := [42, 3, 181, 0, 60, 27, 28, 184, 0, 105, 154, 0, 9, 42, 4, 182, 0, 77, 172, 27, 28, 162, 0, 7]
abbrev dktX2_file_0 : List UInt8 := dkwX2_file_0 ++ dktX2_file_1
theorem dksX2_file_0 : cX2_file.data.toList.drop 0 = dktX2_file_0 := by decide +kernel
theorem dksX2_file_1 : cX2_file.data.toList.drop 24 = dktX2_file_1 := dk_seg dksX2_file_0 24 rfl rfl
theorem dksX2_file_2 : cX2_file.data.toList.drop 48 = dktX2_file_2 := dk_seg dksX2_file_1 24 rfl rfl
theorem dksX2_file_3 : cX2_file.data.toList.drop 70 = dktX2_file_3 := dk_seg dksX2_file_2 22 rfl rfl
theorem dksX2_file_4 : cX2_file.data.toList.drop 92 = dktX2_file_4 := dk_seg dksX2_file_3 22 rfl rfl
theorem dksX2_file_5 : cX2_file.data.toList.drop 115 = dktX2_file_5 := dk_seg dksX2_file_4 23 rfl rfl
theorem dksX2_file_6 : cX2_file.data.toList.drop 139 = dktX2_file_6 := dk_seg dksX2_file_5 24 rfl rfl
theorem dksX2_file_7 : cX2_file.data.toList.drop 163 = dktX2_file_7 := dk_seg dksX2_file_6 24 rfl rfl
theorem dksX2_file_8 : cX2_file.data.toList.drop 187 = dktX2_file_8 := dk_seg dksX2_file_7 24 rfl rfl
theorem dksX2_file_9 : cX2_file.data.toList.drop 211 = dktX2_file_9 := dk_seg dksX2_file_8 24 rfl rfl
theorem dX2_file_0 : decode cX2_file 0 = .ok (.aload_n 0, 1) := dk_42 (dk_at dksX2_file_0 0 rfl rfl)
theorem dX2_file_1 : decode cX2_file 1 = .ok (.iconst 0, 1) := dk_3 (dk_at dksX2_file_0 1 rfl rfl)
theorem dX2_file_2 : decode cX2_file 2 = .ok (.putfield 60, 3) := dk_181 0 60 (dk_at dksX2_file_0 2 rfl rfl)
theorem dX2_file_5 : decode cX2_file 5 = .ok (.iload_n 1, 1) := dk_27 (dk_at dksX2_file_0 5 rfl rfl)
theorem dX2_file_6 : decode cX2_file 6 = .ok (.iload_n 2, 1) := dk_28 (dk_at dksX2_file_0 6 rfl rfl)
theorem dX2_file_7 : decode cX2_file 7 = .ok (.invokestatic 105, 3) := dk_184 0 105 (dk_at dksX2_file_0 7 rfl rfl)
theorem dX2_file_10 : decode cX2_file 10 = .ok (.ifCond .ne 9, 3) := dk_154 0 9 (dk_at dksX2_file_0 10 rfl rfl)
theorem dX2_file_13 : decode cX2_file 13 = .ok (.aload_n 0, 1) := dk_42 (dk_at dksX2_file_0 13 rfl rfl)
theorem dX2_file_14 : decode cX2_file 14 = .ok (.iconst 1, 1) := dk_4 (dk_at dksX2_file_0 14 rfl rfl)
theorem dX2_file_15 : decode cX2_file 15 = .ok (.invokevirtual 77, 3) := dk_182 0 77 (dk_at dksX2_file_0 15 rfl rfl)
theorem dX2_file_18 : decode cX2_file 18 = .ok (.ireturn, 1) := dk_172 (dk_at dksX2_file_0 18 rfl rfl)
theorem dX2_file_19 : decode cX2_file 19 = .ok (.iload_n 1, 1) := dk_27 (dk_at dksX2_file_0 19 rfl rfl)
theorem dX2_file_20 : decode cX2_file 20 = .ok (.iload_n 2, 1) := dk_28 (dk_at dksX2_file_0 20 rfl rfl)
theorem dX2_file_21 : decode cX2_file 21 = .ok (.if_icmp .ge 7, 3) := dk_162 0 7 (dk_at dksX2_file_0 21 rfl rfl)
theorem dX2_file_24 : decode cX2_file 24 = .ok (.iload_n 1, 1) := dk_27 (dk_at dksX2_file_1 0 rfl rfl)
theorem dX2_file_25 : decode cX2_file 25 = .ok (.goto 4, 3) := dk_167 0 4 (dk_at dksX2_file_1 1 rfl rfl)
theorem dX2_file_28 : decode cX2_file 28 = .ok (.iload_n 2, 1) := dk_28 (dk_at dksX2_file_1 4 rfl rfl)
theorem dX2_file_29 : decode cX2_file 29 = .ok (.istore_n 3, 1) := dk_62 (dk_at dksX2_file_1 5 rfl rfl)
theorem dX2_file_30 : decode cX2_file 30 = .ok (.iload_n 1, 1) := dk_27 (dk_at dksX2_file_1 6 rfl rfl)
theorem dX2_file_31 : decode cX2_file 31 = .ok (.iload_n 2, 1) := dk_28 (dk_at dksX2_file_1 7 rfl rfl)
theorem dX2_file_32 : decode cX2_file 32 = .ok (.if_icmp .ge 7, 3) := dk_162 0 7 (dk_at dksX2_file_1 8 rfl rfl)
theorem dX2_file_35 : decode cX2_file 35 = .ok (.iload_n 2, 1) := dk_28 (dk_at dksX2_file_1 11 rfl rfl)
theorem dX2_file_36 : decode cX2_file 36 = .ok (.goto 4, 3) := dk_167 0 4 (dk_at dksX2_file_1 12 rfl rfl)
theorem dX2_file_39 : decode cX2_file 39 = .ok (.iload_n 1, 1) := dk_27 (dk_at dksX2_file_1 15 rfl rfl)
theorem dX2_file_40 : decode cX2_file 40 = .ok (.istore 4, 2) := dk_54 4 (dk_at dksX2_file_1 16 rfl rfl)
theorem dX2_file_42 : decode cX2_file 42 = .ok (.iconst 0, 1) := dk_3 (dk_at dksX2_file_1 18 rfl rfl)
theorem dX2_file_43 : decode cX2_file 43 = .ok (.istore 5, 2) := dk_54 5 (dk_at dksX2_file_1 19 rfl rfl)
theorem dX2_file_45 : decode cX2_file 45 = .ok (.iconst 0, 1) := dk_3 (dk_at dksX2_file_1 21 rfl rfl)
theorem dX2_file_46 : decode cX2_file 46 = .ok (.istore 6, 2) := dk_54 6 (dk_at dksX2_file_1 22 rfl rfl)
theorem dX2_file_48 : decode cX2_file 48 = .ok (.iload 6, 2) := dk_21 6 (dk_at dksX2_file_2 0 rfl rfl)
theorem dX2_file_50 : decode cX2_file 50 = .ok (.aload_n 0, 1) := dk_42 (dk_at dksX2_file_2 2 rfl rfl)
theorem dX2_file_51 : decode cX2_file 51 = .ok (.getfield 70, 3) := dk_180 0 70 (dk_at dksX2_file_2 3 rfl rfl)
theorem dX2_file_54 : decode cX2_file 54 = .ok (.if_icmp .ge 44, 3) := dk_162 0 44 (dk_at dksX2_file_2 6 rfl rfl)
theorem dX2_file_57 : decode cX2_file 57 = .ok (.iload 5, 2) := dk_21 5 (dk_at dksX2_file_2 9 rfl rfl)
theorem dX2_file_59 : decode cX2_file 59 = .ok (.ifCond .ne 26, 3) := dk_154 0 26 (dk_at dksX2_file_2 11 rfl rfl)
theorem dX2_file_62 : decode cX2_file 62 = .ok (.aload_n 0, 1) := dk_42 (dk_at dksX2_file_2 14 rfl rfl)
theorem dX2_file_63 : decode cX2_file 63 = .ok (.getfield 33, 3) := dk_180 0 33 (dk_at dksX2_file_2 15 rfl rfl)
theorem dX2_file_66 : decode cX2_file 66 = .ok (.iload 6, 2) := dk_21 6 (dk_at dksX2_file_2 18 rfl rfl)
theorem dX2_file_68 : decode cX2_file 68 = .ok (.iaload, 1) := dk_46 (dk_at dksX2_file_2 20 rfl rfl)
theorem dX2_file_69 : decode cX2_file 69 = .ok (.iload_n 3, 1) := dk_29 (dk_at dksX2_file_2 21 rfl rfl)
theorem dX2_file_70 : decode cX2_file 70 = .ok (.if_icmp .ne 19, 3) := dk_160 0 19 (dk_at dksX2_file_3 0 rfl rfl)
theorem dX2_file_73 : decode cX2_file 73 = .ok (.aload_n 0, 1) := dk_42 (dk_at dksX2_file_3 3 rfl rfl)
theorem dX2_file_74 : decode cX2_file 74 = .ok (.getfield 36, 3) := dk_180 0 36 (dk_at dksX2_file_3 4 rfl rfl)
theorem dX2_file_77 : decode cX2_file 77 = .ok (.iload 6, 2) := dk_21 6 (dk_at dksX2_file_3 7 rfl rfl)
theorem dX2_file_79 : decode cX2_file 79 = .ok (.iaload, 1) := dk_46 (dk_at dksX2_file_3 9 rfl rfl)
theorem dX2_file_80 : decode cX2_file 80 = .ok (.iload 4, 2) := dk_21 4 (dk_at dksX2_file_3 10 rfl rfl)
theorem dX2_file_82 : decode cX2_file 82 = .ok (.if_icmp .ne 7, 3) := dk_160 0 7 (dk_at dksX2_file_3 12 rfl rfl)
theorem dX2_file_85 : decode cX2_file 85 = .ok (.iconst 1, 1) := dk_4 (dk_at dksX2_file_3 15 rfl rfl)
theorem dX2_file_86 : decode cX2_file 86 = .ok (.goto 4, 3) := dk_167 0 4 (dk_at dksX2_file_3 16 rfl rfl)
theorem dX2_file_89 : decode cX2_file 89 = .ok (.iconst 0, 1) := dk_3 (dk_at dksX2_file_3 19 rfl rfl)
theorem dX2_file_90 : decode cX2_file 90 = .ok (.istore 5, 2) := dk_54 5 (dk_at dksX2_file_3 20 rfl rfl)
theorem dX2_file_92 : decode cX2_file 92 = .ok (.iinc 6 1, 3) := dk_132 6 1 (dk_at dksX2_file_4 0 rfl rfl)
theorem dX2_file_95 : decode cX2_file 95 = .ok (.goto (-47), 3) := dk_167 255 209 (dk_at dksX2_file_4 3 rfl rfl)
theorem dX2_file_98 : decode cX2_file 98 = .ok (.iload 5, 2) := dk_21 5 (dk_at dksX2_file_4 6 rfl rfl)
theorem dX2_file_100 : decode cX2_file 100 = .ok (.ifCond .ne 25, 3) := dk_154 0 25 (dk_at dksX2_file_4 8 rfl rfl)
theorem dX2_file_103 : decode cX2_file 103 = .ok (.aload_n 0, 1) := dk_42 (dk_at dksX2_file_4 11 rfl rfl)
theorem dX2_file_104 : decode cX2_file 104 = .ok (.getfield 70, 3) := dk_180 0 70 (dk_at dksX2_file_4 12 rfl rfl)
theorem dX2_file_107 : decode cX2_file 107 = .ok (.bipush 20, 2) := dk_16 20 (dk_at dksX2_file_4 15 rfl rfl)
theorem dX2_file_109 : decode cX2_file 109 = .ok (.if_icmp .eq 16, 3) := dk_159 0 16 (dk_at dksX2_file_4 17 rfl rfl)
theorem dX2_file_112 : decode cX2_file 112 = .ok (.aload_n 0, 1) := dk_42 (dk_at dksX2_file_4 20 rfl rfl)
theorem dX2_file_113 : decode cX2_file 113 = .ok (.iload_n 1, 1) := dk_27 (dk_at dksX2_file_4 21 rfl rfl)
theorem dX2_file_114 : decode cX2_file 114 = .ok (.iload_n 2, 1) := dk_28 (dk_at dksX2_file_4 22 rfl rfl)
theorem dX2_file_115 : decode cX2_file 115 = .ok (.invokevirtual 108, 3) := dk_182 0 108 (dk_at dksX2_file_5 0 rfl rfl)
theorem dX2_file_118 : decode cX2_file 118 = .ok (.aload_n 0, 1) := dk_42 (dk_at dksX2_file_5 3 rfl rfl)
theorem dX2_file_119 : decode cX2_file 119 = .ok (.getfield 29, 3) := dk_180 0 29 (dk_at dksX2_file_5 4 rfl rfl)
theorem dX2_file_122 : decode cX2_file 122 = .ok (.if_icmp .ge 9, 3) := dk_162 0 9 (dk_at dksX2_file_5 7 rfl rfl)
theorem dX2_file_125 : decode cX2_file 125 = .ok (.aload_n 0, 1) := dk_42 (dk_at dksX2_file_5 10 rfl rfl)
theorem dX2_file_126 : decode cX2_file 126 = .ok (.iconst 2, 1) := dk_5 (dk_at dksX2_file_5 11 rfl rfl)
theorem dX2_file_127 : decode cX2_file 127 = .ok (.invokevirtual 77, 3) := dk_182 0 77 (dk_at dksX2_file_5 12 rfl rfl)
theorem dX2_file_130 : decode cX2_file 130 = .ok (.ireturn, 1) := dk_172 (dk_at dksX2_file_5 15 rfl rfl)
theorem dX2_file_131 : decode cX2_file 131 = .ok (.aload_n 0, 1) := dk_42 (dk_at dksX2_file_5 16 rfl rfl)
theorem dX2_file_132 : decode cX2_file 132 = .ok (.getfield 33, 3) := dk_180 0 33 (dk_at dksX2_file_5 17 rfl rfl)
theorem dX2_file_135 : decode cX2_file 135 = .ok (.aload_n 0, 1) := dk_42 (dk_at dksX2_file_5 20 rfl rfl)
theorem dX2_file_136 : decode cX2_file 136 = .ok (.getfield 70, 3) := dk_180 0 70 (dk_at dksX2_file_5 21 rfl rfl)
theorem dX2_file_139 : decode cX2_file 139 = .ok (.iload_n 3, 1) := dk_29 (dk_at dksX2_file_6 0 rfl rfl)
theorem dX2_file_140 : decode cX2_file 140 = .ok (.iastore, 1) := dk_79 (dk_at dksX2_file_6 1 rfl rfl)
theorem dX2_file_141 : decode cX2_file 141 = .ok (.aload_n 0, 1) := dk_42 (dk_at dksX2_file_6 2 rfl rfl)
theorem dX2_file_142 : decode cX2_file 142 = .ok (.getfield 36, 3) := dk_180 0 36 (dk_at dksX2_file_6 3 rfl rfl)
theorem dX2_file_145 : decode cX2_file 145 = .ok (.aload_n 0, 1) := dk_42 (dk_at dksX2_file_6 6 rfl rfl)
theorem dX2_file_146 : decode cX2_file 146 = .ok (.getfield 70, 3) := dk_180 0 70 (dk_at dksX2_file_6 7 rfl rfl)
theorem dX2_file_149 : decode cX2_file 149 = .ok (.iload 4, 2) := dk_21 4 (dk_at dksX2_file_6 10 rfl rfl)
theorem dX2_file_151 : decode cX2_file 151 = .ok (.iastore, 1) := dk_79 (dk_at dksX2_file_6 12 rfl rfl)
theorem dX2_file_152 : decode cX2_file 152 = .ok (.aload_n 0, 1) := dk_42 (dk_at dksX2_file_6 13 rfl rfl)
theorem dX2_file_153 : decode cX2_file 153 = .ok (.getfield 45, 3) := dk_180 0 45 (dk_at dksX2_file_6 14 rfl rfl)
theorem dX2_file_156 : decode cX2_file 156 = .ok (.aload_n 0, 1) := dk_42 (dk_at dksX2_file_6 17 rfl rfl)
theorem dX2_file_157 : decode cX2_file 157 = .ok (.getfield 70, 3) := dk_180 0 70 (dk_at dksX2_file_6 18 rfl rfl)
theorem dX2_file_160 : decode cX2_file 160 = .ok (.iconst (-1), 1) := dk_2 (dk_at dksX2_file_6 21 rfl rfl)
theorem dX2_file_161 : decode cX2_file 161 = .ok (.iastore, 1) := dk_79 (dk_at dksX2_file_6 22 rfl rfl)
theorem dX2_file_162 : decode cX2_file 162 = .ok (.iconst 0, 1) := dk_3 (dk_at dksX2_file_6 23 rfl rfl)
theorem dX2_file_163 : decode cX2_file 163 = .ok (.istore 6, 2) := dk_54 6 (dk_at dksX2_file_7 0 rfl rfl)
theorem dX2_file_165 : decode cX2_file 165 = .ok (.iload 6, 2) := dk_21 6 (dk_at dksX2_file_7 2 rfl rfl)
theorem dX2_file_167 : decode cX2_file 167 = .ok (.aload_n 0, 1) := dk_42 (dk_at dksX2_file_7 4 rfl rfl)
theorem dX2_file_168 : decode cX2_file 168 = .ok (.getfield 67, 3) := dk_180 0 67 (dk_at dksX2_file_7 5 rfl rfl)
theorem dX2_file_171 : decode cX2_file 171 = .ok (.if_icmp .ge 40, 3) := dk_162 0 40 (dk_at dksX2_file_7 8 rfl rfl)
theorem dX2_file_174 : decode cX2_file 174 = .ok (.aload_n 0, 1) := dk_42 (dk_at dksX2_file_7 11 rfl rfl)
theorem dX2_file_175 : decode cX2_file 175 = .ok (.getfield 39, 3) := dk_180 0 39 (dk_at dksX2_file_7 12 rfl rfl)
theorem dX2_file_178 : decode cX2_file 178 = .ok (.aload_n 0, 1) := dk_42 (dk_at dksX2_file_7 15 rfl rfl)
theorem dX2_file_179 : decode cX2_file 179 = .ok (.getfield 70, 3) := dk_180 0 70 (dk_at dksX2_file_7 16 rfl rfl)
theorem dX2_file_182 : decode cX2_file 182 = .ok (.dup2, 1) := dk_92 (dk_at dksX2_file_7 19 rfl rfl)
theorem dX2_file_183 : decode cX2_file 183 = .ok (.iaload, 1) := dk_46 (dk_at dksX2_file_7 20 rfl rfl)
theorem dX2_file_184 : decode cX2_file 184 = .ok (.aload_n 0, 1) := dk_42 (dk_at dksX2_file_7 21 rfl rfl)
theorem dX2_file_185 : decode cX2_file 185 = .ok (.iload 6, 2) := dk_21 6 (dk_at dksX2_file_7 22 rfl rfl)
theorem dX2_file_187 : decode cX2_file 187 = .ok (.iload_n 1, 1) := dk_27 (dk_at dksX2_file_8 0 rfl rfl)
theorem dX2_file_188 : decode cX2_file 188 = .ok (.iload_n 2, 1) := dk_28 (dk_at dksX2_file_8 1 rfl rfl)
theorem dX2_file_189 : decode cX2_file 189 = .ok (.invokevirtual 101, 3) := dk_182 0 101 (dk_at dksX2_file_8 2 rfl rfl)
theorem dX2_file_192 : decode cX2_file 192 = .ok (.ifCond .le 10, 3) := dk_158 0 10 (dk_at dksX2_file_8 5 rfl rfl)
theorem dX2_file_195 : decode cX2_file 195 = .ok (.iconst 1, 1) := dk_4 (dk_at dksX2_file_8 8 rfl rfl)
theorem dX2_file_196 : decode cX2_file 196 = .ok (.iload 6, 2) := dk_21 6 (dk_at dksX2_file_8 9 rfl rfl)
theorem dX2_file_198 : decode cX2_file 198 = .ok (.ishl, 1) := dk_120 (dk_at dksX2_file_8 11 rfl rfl)
theorem dX2_file_199 : decode cX2_file 199 = .ok (.goto 4, 3) := dk_167 0 4 (dk_at dksX2_file_8 12 rfl rfl)
theorem dX2_file_202 : decode cX2_file 202 = .ok (.iconst 0, 1) := dk_3 (dk_at dksX2_file_8 15 rfl rfl)
theorem dX2_file_203 : decode cX2_file 203 = .ok (.ior, 1) := dk_128 (dk_at dksX2_file_8 16 rfl rfl)
theorem dX2_file_204 : decode cX2_file 204 = .ok (.iastore, 1) := dk_79 (dk_at dksX2_file_8 17 rfl rfl)
theorem dX2_file_205 : decode cX2_file 205 = .ok (.iinc 6 1, 3) := dk_132 6 1 (dk_at dksX2_file_8 18 rfl rfl)
theorem dX2_file_208 : decode cX2_file 208 = .ok (.goto (-43), 3) := dk_167 255 213 (dk_at dksX2_file_8 21 rfl rfl)
theorem dX2_file_211 : decode cX2_file 211 = .ok (.aload_n 0, 1) := dk_42 (dk_at dksX2_file_9 0 rfl rfl)
theorem dX2_file_212 : decode cX2_file 212 = .ok (.dup, 1) := dk_89 (dk_at dksX2_file_9 1 rfl rfl)
theorem dX2_file_213 : decode cX2_file 213 = .ok (.getfield 70, 3) := dk_180 0 70 (dk_at dksX2_file_9 2 rfl rfl)
theorem dX2_file_216 : decode cX2_file 216 = .ok (.iconst 1, 1) := dk_4 (dk_at dksX2_file_9 5 rfl rfl)
theorem dX2_file_217 : decode cX2_file 217 = .ok (.iadd, 1) := dk_96 (dk_at dksX2_file_9 6 rfl rfl)
theorem dX2_file_218 : decode cX2_file 218 = .ok (.putfield 70, 3) := dk_181 0 70 (dk_at dksX2_file_9 7 rfl rfl)
theorem dX2_file_221 : decode cX2_file 221 = .ok (.aload_n 0, 1) := dk_42 (dk_at dksX2_file_9 10 rfl rfl)
theorem dX2_file_222 : decode cX2_file 222 = .ok (.getfield 70, 3) := dk_180 0 70 (dk_at dksX2_file_9 11 rfl rfl)
theorem dX2_file_225 : decode cX2_file 225 = .ok (.iconst 1, 1) := dk_4 (dk_at dksX2_file_9 14 rfl rfl)
theorem dX2_file_226 : decode cX2_file 226 = .ok (.isub, 1) := dk_100 (dk_at dksX2_file_9 15 rfl rfl)
theorem dX2_file_227 : decode cX2_file 227 = .ok (.ireturn, 1) := dk_172 (dk_at dksX2_file_9 16 rfl rfl)
abbrev cX2_matters : ByteArray := prog_8_method_29_code
def yX2_matters : MethodName := ⟨RX2, "matters", "(I)I"⟩
def dkwX2_matters_1 : List UInt8 := [167, 0, 8, 42, 4, 182, 0, 77, 172]
abbrev dktX2_matters_1 : List UInt8 := dkwX2_matters_1 ++ []
def dkwX2_matters_0 : List UInt8 := [42, 3, 181, 0, 60, 42, 27, 182, 0, 112, 153, 0, 15, 42, 180, 0, 39, 27, 46, 184, 0, 115]
abbrev dktX2_matters_0 : List UInt8 := dkwX2_matters_0 ++ dktX2_matters_1
theorem dksX2_matters_0 : cX2_matters.data.toList.drop 0 = dktX2_matters_0 := by decide +kernel
theorem dksX2_matters_1 : cX2_matters.data.toList.drop 22 = dktX2_matters_1 := dk_seg dksX2_matters_0 22 rfl rfl
theorem dX2_matters_0 : decode cX2_matters 0 = .ok (.aload_n 0, 1) := dk_42 (dk_at dksX2_matters_0 0 rfl rfl)
theorem dX2_matters_1 : decode cX2_matters 1 = .ok (.iconst 0, 1) := dk_3 (dk_at dksX2_matters_0 1 rfl rfl)
theorem dX2_matters_2 : decode cX2_matters 2 = .ok (.putfield 60, 3) := dk_181 0 60 (dk_at dksX2_matters_0 2 rfl rfl)
theorem dX2_matters_5 : decode cX2_matters 5 = .ok (.aload_n 0, 1) := dk_42 (dk_at dksX2_matters_0 5 rfl rfl)
theorem dX2_matters_6 : decode cX2_matters 6 = .ok (.iload_n 1, 1) := dk_27 (dk_at dksX2_matters_0 6 rfl rfl)
theorem dX2_matters_7 : decode cX2_matters 7 = .ok (.invokevirtual 112, 3) := dk_182 0 112 (dk_at dksX2_matters_0 7 rfl rfl)
theorem dX2_matters_10 : decode cX2_matters 10 = .ok (.ifCond .eq 15, 3) := dk_153 0 15 (dk_at dksX2_matters_0 10 rfl rfl)
theorem dX2_matters_13 : decode cX2_matters 13 = .ok (.aload_n 0, 1) := dk_42 (dk_at dksX2_matters_0 13 rfl rfl)
theorem dX2_matters_14 : decode cX2_matters 14 = .ok (.getfield 39, 3) := dk_180 0 39 (dk_at dksX2_matters_0 14 rfl rfl)
theorem dX2_matters_17 : decode cX2_matters 17 = .ok (.iload_n 1, 1) := dk_27 (dk_at dksX2_matters_0 17 rfl rfl)
theorem dX2_matters_18 : decode cX2_matters 18 = .ok (.iaload, 1) := dk_46 (dk_at dksX2_matters_0 18 rfl rfl)
theorem dX2_matters_19 : decode cX2_matters 19 = .ok (.invokestatic 115, 3) := dk_184 0 115 (dk_at dksX2_matters_0 19 rfl rfl)
theorem dX2_matters_22 : decode cX2_matters 22 = .ok (.goto 8, 3) := dk_167 0 8 (dk_at dksX2_matters_1 0 rfl rfl)
theorem dX2_matters_25 : decode cX2_matters 25 = .ok (.aload_n 0, 1) := dk_42 (dk_at dksX2_matters_1 3 rfl rfl)
theorem dX2_matters_26 : decode cX2_matters 26 = .ok (.iconst 1, 1) := dk_4 (dk_at dksX2_matters_1 4 rfl rfl)
theorem dX2_matters_27 : decode cX2_matters 27 = .ok (.invokevirtual 77, 3) := dk_182 0 77 (dk_at dksX2_matters_1 5 rfl rfl)
theorem dX2_matters_30 : decode cX2_matters 30 = .ok (.ireturn, 1) := dk_172 (dk_at dksX2_matters_1 8 rfl rfl)
abbrev cX2_isFile : ByteArray := prog_8_method_7_code
def yX2_isFile : MethodName := ⟨RX2, "isFile", "(I)Z"⟩
def dkwX2_isFile_0 : List UInt8 := [27, 3, 42, 180, 0, 70, 4, 100, 184, 0, 63, 172]
abbrev dktX2_isFile_0 : List UInt8 := dkwX2_isFile_0 ++ []
theorem dksX2_isFile_0 : cX2_isFile.data.toList.drop 0 = dktX2_isFile_0 := by decide +kernel
theorem dX2_isFile_0 : decode cX2_isFile 0 = .ok (.iload_n 1, 1) := dk_27 (dk_at dksX2_isFile_0 0 rfl rfl)
theorem dX2_isFile_1 : decode cX2_isFile 1 = .ok (.iconst 0, 1) := dk_3 (dk_at dksX2_isFile_0 1 rfl rfl)
theorem dX2_isFile_2 : decode cX2_isFile 2 = .ok (.aload_n 0, 1) := dk_42 (dk_at dksX2_isFile_0 2 rfl rfl)
theorem dX2_isFile_3 : decode cX2_isFile 3 = .ok (.getfield 70, 3) := dk_180 0 70 (dk_at dksX2_isFile_0 3 rfl rfl)
theorem dX2_isFile_6 : decode cX2_isFile 6 = .ok (.iconst 1, 1) := dk_4 (dk_at dksX2_isFile_0 6 rfl rfl)
theorem dX2_isFile_7 : decode cX2_isFile 7 = .ok (.isub, 1) := dk_100 (dk_at dksX2_isFile_0 7 rfl rfl)
theorem dX2_isFile_8 : decode cX2_isFile 8 = .ok (.invokestatic 63, 3) := dk_184 0 63 (dk_at dksX2_isFile_0 8 rfl rfl)
theorem dX2_isFile_11 : decode cX2_isFile 11 = .ok (.ireturn, 1) := dk_172 (dk_at dksX2_isFile_0 11 rfl rfl)
abbrev cX2_count : ByteArray := prog_8_method_28_code
def yX2_count : MethodName := ⟨RX2, "count", "(I)I"⟩
def dkwX2_count_1 : List UInt8 := [27, 172]
abbrev dktX2_count_1 : List UInt8 := dkwX2_count_1 ++ []
def dkwX2_count_0 : List UInt8 := [3, 60, 3, 61, 28, 16, 30, 162, 0, 17, 27, 26, 28, 122, 4, 126, 96, 60, 132, 2, 1, 167, 255, 239]
abbrev dktX2_count_0 : List UInt8 := dkwX2_count_0 ++ dktX2_count_1
theorem dksX2_count_0 : cX2_count.data.toList.drop 0 = dktX2_count_0 := by decide +kernel
theorem dksX2_count_1 : cX2_count.data.toList.drop 24 = dktX2_count_1 := dk_seg dksX2_count_0 24 rfl rfl
theorem dX2_count_0 : decode cX2_count 0 = .ok (.iconst 0, 1) := dk_3 (dk_at dksX2_count_0 0 rfl rfl)
theorem dX2_count_1 : decode cX2_count 1 = .ok (.istore_n 1, 1) := dk_60 (dk_at dksX2_count_0 1 rfl rfl)
theorem dX2_count_2 : decode cX2_count 2 = .ok (.iconst 0, 1) := dk_3 (dk_at dksX2_count_0 2 rfl rfl)
theorem dX2_count_3 : decode cX2_count 3 = .ok (.istore_n 2, 1) := dk_61 (dk_at dksX2_count_0 3 rfl rfl)
theorem dX2_count_4 : decode cX2_count 4 = .ok (.iload_n 2, 1) := dk_28 (dk_at dksX2_count_0 4 rfl rfl)
theorem dX2_count_5 : decode cX2_count 5 = .ok (.bipush 30, 2) := dk_16 30 (dk_at dksX2_count_0 5 rfl rfl)
theorem dX2_count_7 : decode cX2_count 7 = .ok (.if_icmp .ge 17, 3) := dk_162 0 17 (dk_at dksX2_count_0 7 rfl rfl)
theorem dX2_count_10 : decode cX2_count 10 = .ok (.iload_n 1, 1) := dk_27 (dk_at dksX2_count_0 10 rfl rfl)
theorem dX2_count_11 : decode cX2_count 11 = .ok (.iload_n 0, 1) := dk_26 (dk_at dksX2_count_0 11 rfl rfl)
theorem dX2_count_12 : decode cX2_count 12 = .ok (.iload_n 2, 1) := dk_28 (dk_at dksX2_count_0 12 rfl rfl)
theorem dX2_count_13 : decode cX2_count 13 = .ok (.ishr, 1) := dk_122 (dk_at dksX2_count_0 13 rfl rfl)
theorem dX2_count_14 : decode cX2_count 14 = .ok (.iconst 1, 1) := dk_4 (dk_at dksX2_count_0 14 rfl rfl)
theorem dX2_count_15 : decode cX2_count 15 = .ok (.iand, 1) := dk_126 (dk_at dksX2_count_0 15 rfl rfl)
theorem dX2_count_16 : decode cX2_count 16 = .ok (.iadd, 1) := dk_96 (dk_at dksX2_count_0 16 rfl rfl)
theorem dX2_count_17 : decode cX2_count 17 = .ok (.istore_n 1, 1) := dk_60 (dk_at dksX2_count_0 17 rfl rfl)
theorem dX2_count_18 : decode cX2_count 18 = .ok (.iinc 2 1, 3) := dk_132 2 1 (dk_at dksX2_count_0 18 rfl rfl)
theorem dX2_count_21 : decode cX2_count 21 = .ok (.goto (-17), 3) := dk_167 255 239 (dk_at dksX2_count_0 21 rfl rfl)
theorem dX2_count_24 : decode cX2_count 24 = .ok (.iload_n 1, 1) := dk_27 (dk_at dksX2_count_1 0 rfl rfl)
theorem dX2_count_25 : decode cX2_count 25 = .ok (.ireturn, 1) := dk_172 (dk_at dksX2_count_1 1 rfl rfl)
abbrev cX2_tell : ByteArray := prog_8_method_31_code
def yX2_tell : MethodName := ⟨RX2, "tell", "(III)Z"⟩
def dkwX2_tell_6 : List UInt8 := [28, 42, 180, 0, 33, 27, 46, 160, 0, 7, 3, 167, 0, 4, 4, 96, 92, 46, 4, 96, 79, 21, 4, 172]
abbrev dktX2_tell_6 : List UInt8 := dkwX2_tell_6 ++ []
def dkwX2_tell_5 : List UInt8 := [27, 46, 2, 160, 0, 7, 28, 167, 0, 9, 42, 180, 0, 45, 27, 46, 79, 42, 180, 0, 48, 5, 27, 104]
abbrev dktX2_tell_5 : List UInt8 := dkwX2_tell_5 ++ dktX2_tell_6
def dkwX2_tell_4 : List UInt8 := [153, 0, 69, 42, 180, 0, 42, 27, 92, 46, 4, 29, 120, 128, 79, 42, 180, 0, 45, 27, 42, 180, 0, 45]
abbrev dktX2_tell_4 : List UInt8 := dkwX2_tell_4 ++ dktX2_tell_5
def dkwX2_tell_3 : List UInt8 := [42, 180, 0, 42, 27, 46, 29, 122, 4, 126, 154, 0, 7, 4, 167, 0, 4, 3, 54, 4, 21, 4]
abbrev dktX2_tell_3 : List UInt8 := dkwX2_tell_3 ++ dktX2_tell_4
def dkwX2_tell_2 : List UInt8 := [181, 0, 60, 42, 180, 0, 60, 154, 0, 34, 42, 180, 0, 39, 27, 46, 29, 122, 4, 126, 4, 160, 0, 20]
abbrev dktX2_tell_2 : List UInt8 := dkwX2_tell_2 ++ dktX2_tell_3
def dkwX2_tell_1 : List UInt8 := [182, 0, 118, 154, 0, 7, 5, 167, 0, 17, 42, 180, 0, 54, 27, 51, 153, 0, 7, 6, 167, 0, 4, 3]
abbrev dktX2_tell_1 : List UInt8 := dkwX2_tell_1 ++ dktX2_tell_2
def dkwX2_tell_0 : List UInt8 := [42, 42, 27, 182, 0, 112, 153, 0, 11, 42, 29, 182, 0, 85, 154, 0, 7, 4, 167, 0, 30, 42, 27, 28]
abbrev dktX2_tell_0 : List UInt8 := dkwX2_tell_0 ++ dktX2_tell_1
theorem dksX2_tell_0 : cX2_tell.data.toList.drop 0 = dktX2_tell_0 := by decide +kernel
theorem dksX2_tell_1 : cX2_tell.data.toList.drop 24 = dktX2_tell_1 := dk_seg dksX2_tell_0 24 rfl rfl
theorem dksX2_tell_2 : cX2_tell.data.toList.drop 48 = dktX2_tell_2 := dk_seg dksX2_tell_1 24 rfl rfl
theorem dksX2_tell_3 : cX2_tell.data.toList.drop 72 = dktX2_tell_3 := dk_seg dksX2_tell_2 24 rfl rfl
theorem dksX2_tell_4 : cX2_tell.data.toList.drop 94 = dktX2_tell_4 := dk_seg dksX2_tell_3 22 rfl rfl
theorem dksX2_tell_5 : cX2_tell.data.toList.drop 118 = dktX2_tell_5 := dk_seg dksX2_tell_4 24 rfl rfl
theorem dksX2_tell_6 : cX2_tell.data.toList.drop 142 = dktX2_tell_6 := dk_seg dksX2_tell_5 24 rfl rfl
theorem dX2_tell_0 : decode cX2_tell 0 = .ok (.aload_n 0, 1) := dk_42 (dk_at dksX2_tell_0 0 rfl rfl)
theorem dX2_tell_1 : decode cX2_tell 1 = .ok (.aload_n 0, 1) := dk_42 (dk_at dksX2_tell_0 1 rfl rfl)
theorem dX2_tell_2 : decode cX2_tell 2 = .ok (.iload_n 1, 1) := dk_27 (dk_at dksX2_tell_0 2 rfl rfl)
theorem dX2_tell_3 : decode cX2_tell 3 = .ok (.invokevirtual 112, 3) := dk_182 0 112 (dk_at dksX2_tell_0 3 rfl rfl)
theorem dX2_tell_6 : decode cX2_tell 6 = .ok (.ifCond .eq 11, 3) := dk_153 0 11 (dk_at dksX2_tell_0 6 rfl rfl)
theorem dX2_tell_9 : decode cX2_tell 9 = .ok (.aload_n 0, 1) := dk_42 (dk_at dksX2_tell_0 9 rfl rfl)
theorem dX2_tell_10 : decode cX2_tell 10 = .ok (.iload_n 3, 1) := dk_29 (dk_at dksX2_tell_0 10 rfl rfl)
theorem dX2_tell_11 : decode cX2_tell 11 = .ok (.invokevirtual 85, 3) := dk_182 0 85 (dk_at dksX2_tell_0 11 rfl rfl)
theorem dX2_tell_14 : decode cX2_tell 14 = .ok (.ifCond .ne 7, 3) := dk_154 0 7 (dk_at dksX2_tell_0 14 rfl rfl)
theorem dX2_tell_17 : decode cX2_tell 17 = .ok (.iconst 1, 1) := dk_4 (dk_at dksX2_tell_0 17 rfl rfl)
theorem dX2_tell_18 : decode cX2_tell 18 = .ok (.goto 30, 3) := dk_167 0 30 (dk_at dksX2_tell_0 18 rfl rfl)
theorem dX2_tell_21 : decode cX2_tell 21 = .ok (.aload_n 0, 1) := dk_42 (dk_at dksX2_tell_0 21 rfl rfl)
theorem dX2_tell_22 : decode cX2_tell 22 = .ok (.iload_n 1, 1) := dk_27 (dk_at dksX2_tell_0 22 rfl rfl)
theorem dX2_tell_23 : decode cX2_tell 23 = .ok (.iload_n 2, 1) := dk_28 (dk_at dksX2_tell_0 23 rfl rfl)
theorem dX2_tell_24 : decode cX2_tell 24 = .ok (.invokevirtual 118, 3) := dk_182 0 118 (dk_at dksX2_tell_1 0 rfl rfl)
theorem dX2_tell_27 : decode cX2_tell 27 = .ok (.ifCond .ne 7, 3) := dk_154 0 7 (dk_at dksX2_tell_1 3 rfl rfl)
theorem dX2_tell_30 : decode cX2_tell 30 = .ok (.iconst 2, 1) := dk_5 (dk_at dksX2_tell_1 6 rfl rfl)
theorem dX2_tell_31 : decode cX2_tell 31 = .ok (.goto 17, 3) := dk_167 0 17 (dk_at dksX2_tell_1 7 rfl rfl)
theorem dX2_tell_34 : decode cX2_tell 34 = .ok (.aload_n 0, 1) := dk_42 (dk_at dksX2_tell_1 10 rfl rfl)
theorem dX2_tell_35 : decode cX2_tell 35 = .ok (.getfield 54, 3) := dk_180 0 54 (dk_at dksX2_tell_1 11 rfl rfl)
theorem dX2_tell_38 : decode cX2_tell 38 = .ok (.iload_n 1, 1) := dk_27 (dk_at dksX2_tell_1 14 rfl rfl)
theorem dX2_tell_39 : decode cX2_tell 39 = .ok (.baload, 1) := dk_51 (dk_at dksX2_tell_1 15 rfl rfl)
theorem dX2_tell_40 : decode cX2_tell 40 = .ok (.ifCond .eq 7, 3) := dk_153 0 7 (dk_at dksX2_tell_1 16 rfl rfl)
theorem dX2_tell_43 : decode cX2_tell 43 = .ok (.iconst 3, 1) := dk_6 (dk_at dksX2_tell_1 19 rfl rfl)
theorem dX2_tell_44 : decode cX2_tell 44 = .ok (.goto 4, 3) := dk_167 0 4 (dk_at dksX2_tell_1 20 rfl rfl)
theorem dX2_tell_47 : decode cX2_tell 47 = .ok (.iconst 0, 1) := dk_3 (dk_at dksX2_tell_1 23 rfl rfl)
theorem dX2_tell_48 : decode cX2_tell 48 = .ok (.putfield 60, 3) := dk_181 0 60 (dk_at dksX2_tell_2 0 rfl rfl)
theorem dX2_tell_51 : decode cX2_tell 51 = .ok (.aload_n 0, 1) := dk_42 (dk_at dksX2_tell_2 3 rfl rfl)
theorem dX2_tell_52 : decode cX2_tell 52 = .ok (.getfield 60, 3) := dk_180 0 60 (dk_at dksX2_tell_2 4 rfl rfl)
theorem dX2_tell_55 : decode cX2_tell 55 = .ok (.ifCond .ne 34, 3) := dk_154 0 34 (dk_at dksX2_tell_2 7 rfl rfl)
theorem dX2_tell_58 : decode cX2_tell 58 = .ok (.aload_n 0, 1) := dk_42 (dk_at dksX2_tell_2 10 rfl rfl)
theorem dX2_tell_59 : decode cX2_tell 59 = .ok (.getfield 39, 3) := dk_180 0 39 (dk_at dksX2_tell_2 11 rfl rfl)
theorem dX2_tell_62 : decode cX2_tell 62 = .ok (.iload_n 1, 1) := dk_27 (dk_at dksX2_tell_2 14 rfl rfl)
theorem dX2_tell_63 : decode cX2_tell 63 = .ok (.iaload, 1) := dk_46 (dk_at dksX2_tell_2 15 rfl rfl)
theorem dX2_tell_64 : decode cX2_tell 64 = .ok (.iload_n 3, 1) := dk_29 (dk_at dksX2_tell_2 16 rfl rfl)
theorem dX2_tell_65 : decode cX2_tell 65 = .ok (.ishr, 1) := dk_122 (dk_at dksX2_tell_2 17 rfl rfl)
theorem dX2_tell_66 : decode cX2_tell 66 = .ok (.iconst 1, 1) := dk_4 (dk_at dksX2_tell_2 18 rfl rfl)
theorem dX2_tell_67 : decode cX2_tell 67 = .ok (.iand, 1) := dk_126 (dk_at dksX2_tell_2 19 rfl rfl)
theorem dX2_tell_68 : decode cX2_tell 68 = .ok (.iconst 1, 1) := dk_4 (dk_at dksX2_tell_2 20 rfl rfl)
theorem dX2_tell_69 : decode cX2_tell 69 = .ok (.if_icmp .ne 20, 3) := dk_160 0 20 (dk_at dksX2_tell_2 21 rfl rfl)
theorem dX2_tell_72 : decode cX2_tell 72 = .ok (.aload_n 0, 1) := dk_42 (dk_at dksX2_tell_3 0 rfl rfl)
theorem dX2_tell_73 : decode cX2_tell 73 = .ok (.getfield 42, 3) := dk_180 0 42 (dk_at dksX2_tell_3 1 rfl rfl)
theorem dX2_tell_76 : decode cX2_tell 76 = .ok (.iload_n 1, 1) := dk_27 (dk_at dksX2_tell_3 4 rfl rfl)
theorem dX2_tell_77 : decode cX2_tell 77 = .ok (.iaload, 1) := dk_46 (dk_at dksX2_tell_3 5 rfl rfl)
theorem dX2_tell_78 : decode cX2_tell 78 = .ok (.iload_n 3, 1) := dk_29 (dk_at dksX2_tell_3 6 rfl rfl)
theorem dX2_tell_79 : decode cX2_tell 79 = .ok (.ishr, 1) := dk_122 (dk_at dksX2_tell_3 7 rfl rfl)
theorem dX2_tell_80 : decode cX2_tell 80 = .ok (.iconst 1, 1) := dk_4 (dk_at dksX2_tell_3 8 rfl rfl)
theorem dX2_tell_81 : decode cX2_tell 81 = .ok (.iand, 1) := dk_126 (dk_at dksX2_tell_3 9 rfl rfl)
theorem dX2_tell_82 : decode cX2_tell 82 = .ok (.ifCond .ne 7, 3) := dk_154 0 7 (dk_at dksX2_tell_3 10 rfl rfl)
theorem dX2_tell_85 : decode cX2_tell 85 = .ok (.iconst 1, 1) := dk_4 (dk_at dksX2_tell_3 13 rfl rfl)
theorem dX2_tell_86 : decode cX2_tell 86 = .ok (.goto 4, 3) := dk_167 0 4 (dk_at dksX2_tell_3 14 rfl rfl)
theorem dX2_tell_89 : decode cX2_tell 89 = .ok (.iconst 0, 1) := dk_3 (dk_at dksX2_tell_3 17 rfl rfl)
theorem dX2_tell_90 : decode cX2_tell 90 = .ok (.istore 4, 2) := dk_54 4 (dk_at dksX2_tell_3 18 rfl rfl)
theorem dX2_tell_92 : decode cX2_tell 92 = .ok (.iload 4, 2) := dk_21 4 (dk_at dksX2_tell_3 20 rfl rfl)
theorem dX2_tell_94 : decode cX2_tell 94 = .ok (.ifCond .eq 69, 3) := dk_153 0 69 (dk_at dksX2_tell_4 0 rfl rfl)
theorem dX2_tell_97 : decode cX2_tell 97 = .ok (.aload_n 0, 1) := dk_42 (dk_at dksX2_tell_4 3 rfl rfl)
theorem dX2_tell_98 : decode cX2_tell 98 = .ok (.getfield 42, 3) := dk_180 0 42 (dk_at dksX2_tell_4 4 rfl rfl)
theorem dX2_tell_101 : decode cX2_tell 101 = .ok (.iload_n 1, 1) := dk_27 (dk_at dksX2_tell_4 7 rfl rfl)
theorem dX2_tell_102 : decode cX2_tell 102 = .ok (.dup2, 1) := dk_92 (dk_at dksX2_tell_4 8 rfl rfl)
theorem dX2_tell_103 : decode cX2_tell 103 = .ok (.iaload, 1) := dk_46 (dk_at dksX2_tell_4 9 rfl rfl)
theorem dX2_tell_104 : decode cX2_tell 104 = .ok (.iconst 1, 1) := dk_4 (dk_at dksX2_tell_4 10 rfl rfl)
theorem dX2_tell_105 : decode cX2_tell 105 = .ok (.iload_n 3, 1) := dk_29 (dk_at dksX2_tell_4 11 rfl rfl)
theorem dX2_tell_106 : decode cX2_tell 106 = .ok (.ishl, 1) := dk_120 (dk_at dksX2_tell_4 12 rfl rfl)
theorem dX2_tell_107 : decode cX2_tell 107 = .ok (.ior, 1) := dk_128 (dk_at dksX2_tell_4 13 rfl rfl)
theorem dX2_tell_108 : decode cX2_tell 108 = .ok (.iastore, 1) := dk_79 (dk_at dksX2_tell_4 14 rfl rfl)
theorem dX2_tell_109 : decode cX2_tell 109 = .ok (.aload_n 0, 1) := dk_42 (dk_at dksX2_tell_4 15 rfl rfl)
theorem dX2_tell_110 : decode cX2_tell 110 = .ok (.getfield 45, 3) := dk_180 0 45 (dk_at dksX2_tell_4 16 rfl rfl)
theorem dX2_tell_113 : decode cX2_tell 113 = .ok (.iload_n 1, 1) := dk_27 (dk_at dksX2_tell_4 19 rfl rfl)
theorem dX2_tell_114 : decode cX2_tell 114 = .ok (.aload_n 0, 1) := dk_42 (dk_at dksX2_tell_4 20 rfl rfl)
theorem dX2_tell_115 : decode cX2_tell 115 = .ok (.getfield 45, 3) := dk_180 0 45 (dk_at dksX2_tell_4 21 rfl rfl)
theorem dX2_tell_118 : decode cX2_tell 118 = .ok (.iload_n 1, 1) := dk_27 (dk_at dksX2_tell_5 0 rfl rfl)
theorem dX2_tell_119 : decode cX2_tell 119 = .ok (.iaload, 1) := dk_46 (dk_at dksX2_tell_5 1 rfl rfl)
theorem dX2_tell_120 : decode cX2_tell 120 = .ok (.iconst (-1), 1) := dk_2 (dk_at dksX2_tell_5 2 rfl rfl)
theorem dX2_tell_121 : decode cX2_tell 121 = .ok (.if_icmp .ne 7, 3) := dk_160 0 7 (dk_at dksX2_tell_5 3 rfl rfl)
theorem dX2_tell_124 : decode cX2_tell 124 = .ok (.iload_n 2, 1) := dk_28 (dk_at dksX2_tell_5 6 rfl rfl)
theorem dX2_tell_125 : decode cX2_tell 125 = .ok (.goto 9, 3) := dk_167 0 9 (dk_at dksX2_tell_5 7 rfl rfl)
theorem dX2_tell_128 : decode cX2_tell 128 = .ok (.aload_n 0, 1) := dk_42 (dk_at dksX2_tell_5 10 rfl rfl)
theorem dX2_tell_129 : decode cX2_tell 129 = .ok (.getfield 45, 3) := dk_180 0 45 (dk_at dksX2_tell_5 11 rfl rfl)
theorem dX2_tell_132 : decode cX2_tell 132 = .ok (.iload_n 1, 1) := dk_27 (dk_at dksX2_tell_5 14 rfl rfl)
theorem dX2_tell_133 : decode cX2_tell 133 = .ok (.iaload, 1) := dk_46 (dk_at dksX2_tell_5 15 rfl rfl)
theorem dX2_tell_134 : decode cX2_tell 134 = .ok (.iastore, 1) := dk_79 (dk_at dksX2_tell_5 16 rfl rfl)
theorem dX2_tell_135 : decode cX2_tell 135 = .ok (.aload_n 0, 1) := dk_42 (dk_at dksX2_tell_5 17 rfl rfl)
theorem dX2_tell_136 : decode cX2_tell 136 = .ok (.getfield 48, 3) := dk_180 0 48 (dk_at dksX2_tell_5 18 rfl rfl)
theorem dX2_tell_139 : decode cX2_tell 139 = .ok (.iconst 2, 1) := dk_5 (dk_at dksX2_tell_5 21 rfl rfl)
theorem dX2_tell_140 : decode cX2_tell 140 = .ok (.iload_n 1, 1) := dk_27 (dk_at dksX2_tell_5 22 rfl rfl)
theorem dX2_tell_141 : decode cX2_tell 141 = .ok (.imul, 1) := dk_104 (dk_at dksX2_tell_5 23 rfl rfl)
theorem dX2_tell_142 : decode cX2_tell 142 = .ok (.iload_n 2, 1) := dk_28 (dk_at dksX2_tell_6 0 rfl rfl)
theorem dX2_tell_143 : decode cX2_tell 143 = .ok (.aload_n 0, 1) := dk_42 (dk_at dksX2_tell_6 1 rfl rfl)
theorem dX2_tell_144 : decode cX2_tell 144 = .ok (.getfield 33, 3) := dk_180 0 33 (dk_at dksX2_tell_6 2 rfl rfl)
theorem dX2_tell_147 : decode cX2_tell 147 = .ok (.iload_n 1, 1) := dk_27 (dk_at dksX2_tell_6 5 rfl rfl)
theorem dX2_tell_148 : decode cX2_tell 148 = .ok (.iaload, 1) := dk_46 (dk_at dksX2_tell_6 6 rfl rfl)
theorem dX2_tell_149 : decode cX2_tell 149 = .ok (.if_icmp .ne 7, 3) := dk_160 0 7 (dk_at dksX2_tell_6 7 rfl rfl)
theorem dX2_tell_152 : decode cX2_tell 152 = .ok (.iconst 0, 1) := dk_3 (dk_at dksX2_tell_6 10 rfl rfl)
theorem dX2_tell_153 : decode cX2_tell 153 = .ok (.goto 4, 3) := dk_167 0 4 (dk_at dksX2_tell_6 11 rfl rfl)
theorem dX2_tell_156 : decode cX2_tell 156 = .ok (.iconst 1, 1) := dk_4 (dk_at dksX2_tell_6 14 rfl rfl)
theorem dX2_tell_157 : decode cX2_tell 157 = .ok (.iadd, 1) := dk_96 (dk_at dksX2_tell_6 15 rfl rfl)
theorem dX2_tell_158 : decode cX2_tell 158 = .ok (.dup2, 1) := dk_92 (dk_at dksX2_tell_6 16 rfl rfl)
theorem dX2_tell_159 : decode cX2_tell 159 = .ok (.iaload, 1) := dk_46 (dk_at dksX2_tell_6 17 rfl rfl)
theorem dX2_tell_160 : decode cX2_tell 160 = .ok (.iconst 1, 1) := dk_4 (dk_at dksX2_tell_6 18 rfl rfl)
theorem dX2_tell_161 : decode cX2_tell 161 = .ok (.iadd, 1) := dk_96 (dk_at dksX2_tell_6 19 rfl rfl)
theorem dX2_tell_162 : decode cX2_tell 162 = .ok (.iastore, 1) := dk_79 (dk_at dksX2_tell_6 20 rfl rfl)
theorem dX2_tell_163 : decode cX2_tell 163 = .ok (.iload 4, 2) := dk_21 4 (dk_at dksX2_tell_6 21 rfl rfl)
theorem dX2_tell_165 : decode cX2_tell 165 = .ok (.ireturn, 1) := dk_172 (dk_at dksX2_tell_6 23 rfl rfl)
abbrev cX2_isOf : ByteArray := prog_8_method_30_code
def yX2_isOf : MethodName := ⟨RX2, "isOf", "(II)Z"⟩
def dkwX2_isOf_1 : List UInt8 := [3, 172]
abbrev dktX2_isOf_1 : List UInt8 := dkwX2_isOf_1 ++ []
def dkwX2_isOf_0 : List UInt8 := [28, 42, 180, 0, 33, 27, 46, 159, 0, 13, 28, 42, 180, 0, 36, 27, 46, 160, 0, 7, 4, 167, 0, 4]
abbrev dktX2_isOf_0 : List UInt8 := dkwX2_isOf_0 ++ dktX2_isOf_1
theorem dksX2_isOf_0 : cX2_isOf.data.toList.drop 0 = dktX2_isOf_0 := by decide +kernel
theorem dksX2_isOf_1 : cX2_isOf.data.toList.drop 24 = dktX2_isOf_1 := dk_seg dksX2_isOf_0 24 rfl rfl
theorem dX2_isOf_0 : decode cX2_isOf 0 = .ok (.iload_n 2, 1) := dk_28 (dk_at dksX2_isOf_0 0 rfl rfl)
theorem dX2_isOf_1 : decode cX2_isOf 1 = .ok (.aload_n 0, 1) := dk_42 (dk_at dksX2_isOf_0 1 rfl rfl)
theorem dX2_isOf_2 : decode cX2_isOf 2 = .ok (.getfield 33, 3) := dk_180 0 33 (dk_at dksX2_isOf_0 2 rfl rfl)
theorem dX2_isOf_5 : decode cX2_isOf 5 = .ok (.iload_n 1, 1) := dk_27 (dk_at dksX2_isOf_0 5 rfl rfl)
theorem dX2_isOf_6 : decode cX2_isOf 6 = .ok (.iaload, 1) := dk_46 (dk_at dksX2_isOf_0 6 rfl rfl)
theorem dX2_isOf_7 : decode cX2_isOf 7 = .ok (.if_icmp .eq 13, 3) := dk_159 0 13 (dk_at dksX2_isOf_0 7 rfl rfl)
theorem dX2_isOf_10 : decode cX2_isOf 10 = .ok (.iload_n 2, 1) := dk_28 (dk_at dksX2_isOf_0 10 rfl rfl)
theorem dX2_isOf_11 : decode cX2_isOf 11 = .ok (.aload_n 0, 1) := dk_42 (dk_at dksX2_isOf_0 11 rfl rfl)
theorem dX2_isOf_12 : decode cX2_isOf 12 = .ok (.getfield 36, 3) := dk_180 0 36 (dk_at dksX2_isOf_0 12 rfl rfl)
theorem dX2_isOf_15 : decode cX2_isOf 15 = .ok (.iload_n 1, 1) := dk_27 (dk_at dksX2_isOf_0 15 rfl rfl)
theorem dX2_isOf_16 : decode cX2_isOf 16 = .ok (.iaload, 1) := dk_46 (dk_at dksX2_isOf_0 16 rfl rfl)
theorem dX2_isOf_17 : decode cX2_isOf 17 = .ok (.if_icmp .ne 7, 3) := dk_160 0 7 (dk_at dksX2_isOf_0 17 rfl rfl)
theorem dX2_isOf_20 : decode cX2_isOf 20 = .ok (.iconst 1, 1) := dk_4 (dk_at dksX2_isOf_0 20 rfl rfl)
theorem dX2_isOf_21 : decode cX2_isOf 21 = .ok (.goto 4, 3) := dk_167 0 4 (dk_at dksX2_isOf_0 21 rfl rfl)
theorem dX2_isOf_24 : decode cX2_isOf 24 = .ok (.iconst 0, 1) := dk_3 (dk_at dksX2_isOf_1 0 rfl rfl)
theorem dX2_isOf_25 : decode cX2_isOf 25 = .ok (.ireturn, 1) := dk_172 (dk_at dksX2_isOf_1 1 rfl rfl)
abbrev cX2_compensate : ByteArray := prog_8_method_32_code
def yX2_compensate : MethodName := ⟨RX2, "compensate", "(II)I"⟩
def dkwX2_compensate_1 : List UInt8 := [182, 0, 77, 172, 42, 180, 0, 57, 27, 92, 46, 28, 96, 79, 42, 180, 0, 57, 27, 46, 172]
abbrev dktX2_compensate_1 : List UInt8 := dkwX2_compensate_1 ++ []
def dkwX2_compensate_0 : List UInt8 := [42, 3, 181, 0, 60, 27, 184, 0, 73, 153, 0, 13, 28, 4, 18, 88, 184, 0, 63, 154, 0, 9, 42, 4]
abbrev dktX2_compensate_0 : List UInt8 := dkwX2_compensate_0 ++ dktX2_compensate_1
theorem dksX2_compensate_0 : cX2_compensate.data.toList.drop 0 = dktX2_compensate_0 := by decide +kernel
theorem dksX2_compensate_1 : cX2_compensate.data.toList.drop 24 = dktX2_compensate_1 := dk_seg dksX2_compensate_0 24 rfl rfl
theorem dX2_compensate_0 : decode cX2_compensate 0 = .ok (.aload_n 0, 1) := dk_42 (dk_at dksX2_compensate_0 0 rfl rfl)
theorem dX2_compensate_1 : decode cX2_compensate 1 = .ok (.iconst 0, 1) := dk_3 (dk_at dksX2_compensate_0 1 rfl rfl)
theorem dX2_compensate_2 : decode cX2_compensate 2 = .ok (.putfield 60, 3) := dk_181 0 60 (dk_at dksX2_compensate_0 2 rfl rfl)
theorem dX2_compensate_5 : decode cX2_compensate 5 = .ok (.iload_n 1, 1) := dk_27 (dk_at dksX2_compensate_0 5 rfl rfl)
theorem dX2_compensate_6 : decode cX2_compensate 6 = .ok (.invokestatic 73, 3) := dk_184 0 73 (dk_at dksX2_compensate_0 6 rfl rfl)
theorem dX2_compensate_9 : decode cX2_compensate 9 = .ok (.ifCond .eq 13, 3) := dk_153 0 13 (dk_at dksX2_compensate_0 9 rfl rfl)
theorem dX2_compensate_12 : decode cX2_compensate 12 = .ok (.iload_n 2, 1) := dk_28 (dk_at dksX2_compensate_0 12 rfl rfl)
theorem dX2_compensate_13 : decode cX2_compensate 13 = .ok (.iconst 1, 1) := dk_4 (dk_at dksX2_compensate_0 13 rfl rfl)
theorem dX2_compensate_14 : decode cX2_compensate 14 = .ok (.ldc 88, 2) := dk_18 88 (dk_at dksX2_compensate_0 14 rfl rfl)
theorem dX2_compensate_16 : decode cX2_compensate 16 = .ok (.invokestatic 63, 3) := dk_184 0 63 (dk_at dksX2_compensate_0 16 rfl rfl)
theorem dX2_compensate_19 : decode cX2_compensate 19 = .ok (.ifCond .ne 9, 3) := dk_154 0 9 (dk_at dksX2_compensate_0 19 rfl rfl)
theorem dX2_compensate_22 : decode cX2_compensate 22 = .ok (.aload_n 0, 1) := dk_42 (dk_at dksX2_compensate_0 22 rfl rfl)
theorem dX2_compensate_23 : decode cX2_compensate 23 = .ok (.iconst 1, 1) := dk_4 (dk_at dksX2_compensate_0 23 rfl rfl)
theorem dX2_compensate_24 : decode cX2_compensate 24 = .ok (.invokevirtual 77, 3) := dk_182 0 77 (dk_at dksX2_compensate_1 0 rfl rfl)
theorem dX2_compensate_27 : decode cX2_compensate 27 = .ok (.ireturn, 1) := dk_172 (dk_at dksX2_compensate_1 3 rfl rfl)
theorem dX2_compensate_28 : decode cX2_compensate 28 = .ok (.aload_n 0, 1) := dk_42 (dk_at dksX2_compensate_1 4 rfl rfl)
theorem dX2_compensate_29 : decode cX2_compensate 29 = .ok (.getfield 57, 3) := dk_180 0 57 (dk_at dksX2_compensate_1 5 rfl rfl)
theorem dX2_compensate_32 : decode cX2_compensate 32 = .ok (.iload_n 1, 1) := dk_27 (dk_at dksX2_compensate_1 8 rfl rfl)
theorem dX2_compensate_33 : decode cX2_compensate 33 = .ok (.dup2, 1) := dk_92 (dk_at dksX2_compensate_1 9 rfl rfl)
theorem dX2_compensate_34 : decode cX2_compensate 34 = .ok (.iaload, 1) := dk_46 (dk_at dksX2_compensate_1 10 rfl rfl)
theorem dX2_compensate_35 : decode cX2_compensate 35 = .ok (.iload_n 2, 1) := dk_28 (dk_at dksX2_compensate_1 11 rfl rfl)
theorem dX2_compensate_36 : decode cX2_compensate 36 = .ok (.iadd, 1) := dk_96 (dk_at dksX2_compensate_1 12 rfl rfl)
theorem dX2_compensate_37 : decode cX2_compensate 37 = .ok (.iastore, 1) := dk_79 (dk_at dksX2_compensate_1 13 rfl rfl)
theorem dX2_compensate_38 : decode cX2_compensate 38 = .ok (.aload_n 0, 1) := dk_42 (dk_at dksX2_compensate_1 14 rfl rfl)
theorem dX2_compensate_39 : decode cX2_compensate 39 = .ok (.getfield 57, 3) := dk_180 0 57 (dk_at dksX2_compensate_1 15 rfl rfl)
theorem dX2_compensate_42 : decode cX2_compensate 42 = .ok (.iload_n 1, 1) := dk_27 (dk_at dksX2_compensate_1 18 rfl rfl)
theorem dX2_compensate_43 : decode cX2_compensate 43 = .ok (.iaload, 1) := dk_46 (dk_at dksX2_compensate_1 19 rfl rfl)
theorem dX2_compensate_44 : decode cX2_compensate 44 = .ok (.ireturn, 1) := dk_172 (dk_at dksX2_compensate_1 20 rfl rfl)
abbrev cX2_close : ByteArray := prog_8_method_34_code
def yX2_close : MethodName := ⟨RX2, "close", "(I)I"⟩
def dkwX2_close_4 : List UInt8 := [27, 4, 84, 42, 180, 0, 51, 5, 27, 104, 46, 42, 180, 0, 51, 5, 27, 104, 4, 96, 46, 96, 172]
abbrev dktX2_close_4 : List UInt8 := dkwX2_close_4 ++ []
def dkwX2_close_3 : List UInt8 := [42, 180, 0, 36, 27, 46, 42, 180, 0, 48, 5, 27, 104, 4, 96, 46, 182, 0, 121, 79, 42, 180, 0, 54]
abbrev dktX2_close_3 : List UInt8 := dkwX2_close_3 ++ dktX2_close_4
def dkwX2_close_2 : List UInt8 := [46, 42, 180, 0, 48, 5, 27, 104, 46, 182, 0, 121, 79, 42, 180, 0, 51, 5, 27, 104, 4, 96, 42, 27]
abbrev dktX2_close_2 : List UInt8 := dkwX2_close_2 ++ dktX2_close_3
def dkwX2_close_1 : List UInt8 := [51, 153, 0, 9, 42, 5, 182, 0, 77, 172, 42, 180, 0, 51, 5, 27, 104, 42, 27, 42, 180, 0, 33, 27]
abbrev dktX2_close_1 : List UInt8 := dkwX2_close_1 ++ dktX2_close_2
def dkwX2_close_0 : List UInt8 := [42, 3, 181, 0, 60, 42, 27, 182, 0, 112, 154, 0, 9, 42, 4, 182, 0, 77, 172, 42, 180, 0, 54, 27]
abbrev dktX2_close_0 : List UInt8 := dkwX2_close_0 ++ dktX2_close_1
theorem dksX2_close_0 : cX2_close.data.toList.drop 0 = dktX2_close_0 := by decide +kernel
theorem dksX2_close_1 : cX2_close.data.toList.drop 24 = dktX2_close_1 := dk_seg dksX2_close_0 24 rfl rfl
theorem dksX2_close_2 : cX2_close.data.toList.drop 48 = dktX2_close_2 := dk_seg dksX2_close_1 24 rfl rfl
theorem dksX2_close_3 : cX2_close.data.toList.drop 72 = dktX2_close_3 := dk_seg dksX2_close_2 24 rfl rfl
theorem dksX2_close_4 : cX2_close.data.toList.drop 96 = dktX2_close_4 := dk_seg dksX2_close_3 24 rfl rfl
theorem dX2_close_0 : decode cX2_close 0 = .ok (.aload_n 0, 1) := dk_42 (dk_at dksX2_close_0 0 rfl rfl)
theorem dX2_close_1 : decode cX2_close 1 = .ok (.iconst 0, 1) := dk_3 (dk_at dksX2_close_0 1 rfl rfl)
theorem dX2_close_2 : decode cX2_close 2 = .ok (.putfield 60, 3) := dk_181 0 60 (dk_at dksX2_close_0 2 rfl rfl)
theorem dX2_close_5 : decode cX2_close 5 = .ok (.aload_n 0, 1) := dk_42 (dk_at dksX2_close_0 5 rfl rfl)
theorem dX2_close_6 : decode cX2_close 6 = .ok (.iload_n 1, 1) := dk_27 (dk_at dksX2_close_0 6 rfl rfl)
theorem dX2_close_7 : decode cX2_close 7 = .ok (.invokevirtual 112, 3) := dk_182 0 112 (dk_at dksX2_close_0 7 rfl rfl)
theorem dX2_close_10 : decode cX2_close 10 = .ok (.ifCond .ne 9, 3) := dk_154 0 9 (dk_at dksX2_close_0 10 rfl rfl)
theorem dX2_close_13 : decode cX2_close 13 = .ok (.aload_n 0, 1) := dk_42 (dk_at dksX2_close_0 13 rfl rfl)
theorem dX2_close_14 : decode cX2_close 14 = .ok (.iconst 1, 1) := dk_4 (dk_at dksX2_close_0 14 rfl rfl)
theorem dX2_close_15 : decode cX2_close 15 = .ok (.invokevirtual 77, 3) := dk_182 0 77 (dk_at dksX2_close_0 15 rfl rfl)
theorem dX2_close_18 : decode cX2_close 18 = .ok (.ireturn, 1) := dk_172 (dk_at dksX2_close_0 18 rfl rfl)
theorem dX2_close_19 : decode cX2_close 19 = .ok (.aload_n 0, 1) := dk_42 (dk_at dksX2_close_0 19 rfl rfl)
theorem dX2_close_20 : decode cX2_close 20 = .ok (.getfield 54, 3) := dk_180 0 54 (dk_at dksX2_close_0 20 rfl rfl)
theorem dX2_close_23 : decode cX2_close 23 = .ok (.iload_n 1, 1) := dk_27 (dk_at dksX2_close_0 23 rfl rfl)
theorem dX2_close_24 : decode cX2_close 24 = .ok (.baload, 1) := dk_51 (dk_at dksX2_close_1 0 rfl rfl)
theorem dX2_close_25 : decode cX2_close 25 = .ok (.ifCond .eq 9, 3) := dk_153 0 9 (dk_at dksX2_close_1 1 rfl rfl)
theorem dX2_close_28 : decode cX2_close 28 = .ok (.aload_n 0, 1) := dk_42 (dk_at dksX2_close_1 4 rfl rfl)
theorem dX2_close_29 : decode cX2_close 29 = .ok (.iconst 2, 1) := dk_5 (dk_at dksX2_close_1 5 rfl rfl)
theorem dX2_close_30 : decode cX2_close 30 = .ok (.invokevirtual 77, 3) := dk_182 0 77 (dk_at dksX2_close_1 6 rfl rfl)
theorem dX2_close_33 : decode cX2_close 33 = .ok (.ireturn, 1) := dk_172 (dk_at dksX2_close_1 9 rfl rfl)
theorem dX2_close_34 : decode cX2_close 34 = .ok (.aload_n 0, 1) := dk_42 (dk_at dksX2_close_1 10 rfl rfl)
theorem dX2_close_35 : decode cX2_close 35 = .ok (.getfield 51, 3) := dk_180 0 51 (dk_at dksX2_close_1 11 rfl rfl)
theorem dX2_close_38 : decode cX2_close 38 = .ok (.iconst 2, 1) := dk_5 (dk_at dksX2_close_1 14 rfl rfl)
theorem dX2_close_39 : decode cX2_close 39 = .ok (.iload_n 1, 1) := dk_27 (dk_at dksX2_close_1 15 rfl rfl)
theorem dX2_close_40 : decode cX2_close 40 = .ok (.imul, 1) := dk_104 (dk_at dksX2_close_1 16 rfl rfl)
theorem dX2_close_41 : decode cX2_close 41 = .ok (.aload_n 0, 1) := dk_42 (dk_at dksX2_close_1 17 rfl rfl)
theorem dX2_close_42 : decode cX2_close 42 = .ok (.iload_n 1, 1) := dk_27 (dk_at dksX2_close_1 18 rfl rfl)
theorem dX2_close_43 : decode cX2_close 43 = .ok (.aload_n 0, 1) := dk_42 (dk_at dksX2_close_1 19 rfl rfl)
theorem dX2_close_44 : decode cX2_close 44 = .ok (.getfield 33, 3) := dk_180 0 33 (dk_at dksX2_close_1 20 rfl rfl)
theorem dX2_close_47 : decode cX2_close 47 = .ok (.iload_n 1, 1) := dk_27 (dk_at dksX2_close_1 23 rfl rfl)
theorem dX2_close_48 : decode cX2_close 48 = .ok (.iaload, 1) := dk_46 (dk_at dksX2_close_2 0 rfl rfl)
theorem dX2_close_49 : decode cX2_close 49 = .ok (.aload_n 0, 1) := dk_42 (dk_at dksX2_close_2 1 rfl rfl)
theorem dX2_close_50 : decode cX2_close 50 = .ok (.getfield 48, 3) := dk_180 0 48 (dk_at dksX2_close_2 2 rfl rfl)
theorem dX2_close_53 : decode cX2_close 53 = .ok (.iconst 2, 1) := dk_5 (dk_at dksX2_close_2 5 rfl rfl)
theorem dX2_close_54 : decode cX2_close 54 = .ok (.iload_n 1, 1) := dk_27 (dk_at dksX2_close_2 6 rfl rfl)
theorem dX2_close_55 : decode cX2_close 55 = .ok (.imul, 1) := dk_104 (dk_at dksX2_close_2 7 rfl rfl)
theorem dX2_close_56 : decode cX2_close 56 = .ok (.iaload, 1) := dk_46 (dk_at dksX2_close_2 8 rfl rfl)
theorem dX2_close_57 : decode cX2_close 57 = .ok (.invokevirtual 121, 3) := dk_182 0 121 (dk_at dksX2_close_2 9 rfl rfl)
theorem dX2_close_60 : decode cX2_close 60 = .ok (.iastore, 1) := dk_79 (dk_at dksX2_close_2 12 rfl rfl)
theorem dX2_close_61 : decode cX2_close 61 = .ok (.aload_n 0, 1) := dk_42 (dk_at dksX2_close_2 13 rfl rfl)
theorem dX2_close_62 : decode cX2_close 62 = .ok (.getfield 51, 3) := dk_180 0 51 (dk_at dksX2_close_2 14 rfl rfl)
theorem dX2_close_65 : decode cX2_close 65 = .ok (.iconst 2, 1) := dk_5 (dk_at dksX2_close_2 17 rfl rfl)
theorem dX2_close_66 : decode cX2_close 66 = .ok (.iload_n 1, 1) := dk_27 (dk_at dksX2_close_2 18 rfl rfl)
theorem dX2_close_67 : decode cX2_close 67 = .ok (.imul, 1) := dk_104 (dk_at dksX2_close_2 19 rfl rfl)
theorem dX2_close_68 : decode cX2_close 68 = .ok (.iconst 1, 1) := dk_4 (dk_at dksX2_close_2 20 rfl rfl)
theorem dX2_close_69 : decode cX2_close 69 = .ok (.iadd, 1) := dk_96 (dk_at dksX2_close_2 21 rfl rfl)
theorem dX2_close_70 : decode cX2_close 70 = .ok (.aload_n 0, 1) := dk_42 (dk_at dksX2_close_2 22 rfl rfl)
theorem dX2_close_71 : decode cX2_close 71 = .ok (.iload_n 1, 1) := dk_27 (dk_at dksX2_close_2 23 rfl rfl)
theorem dX2_close_72 : decode cX2_close 72 = .ok (.aload_n 0, 1) := dk_42 (dk_at dksX2_close_3 0 rfl rfl)
theorem dX2_close_73 : decode cX2_close 73 = .ok (.getfield 36, 3) := dk_180 0 36 (dk_at dksX2_close_3 1 rfl rfl)
theorem dX2_close_76 : decode cX2_close 76 = .ok (.iload_n 1, 1) := dk_27 (dk_at dksX2_close_3 4 rfl rfl)
theorem dX2_close_77 : decode cX2_close 77 = .ok (.iaload, 1) := dk_46 (dk_at dksX2_close_3 5 rfl rfl)
theorem dX2_close_78 : decode cX2_close 78 = .ok (.aload_n 0, 1) := dk_42 (dk_at dksX2_close_3 6 rfl rfl)
theorem dX2_close_79 : decode cX2_close 79 = .ok (.getfield 48, 3) := dk_180 0 48 (dk_at dksX2_close_3 7 rfl rfl)
theorem dX2_close_82 : decode cX2_close 82 = .ok (.iconst 2, 1) := dk_5 (dk_at dksX2_close_3 10 rfl rfl)
theorem dX2_close_83 : decode cX2_close 83 = .ok (.iload_n 1, 1) := dk_27 (dk_at dksX2_close_3 11 rfl rfl)
theorem dX2_close_84 : decode cX2_close 84 = .ok (.imul, 1) := dk_104 (dk_at dksX2_close_3 12 rfl rfl)
theorem dX2_close_85 : decode cX2_close 85 = .ok (.iconst 1, 1) := dk_4 (dk_at dksX2_close_3 13 rfl rfl)
theorem dX2_close_86 : decode cX2_close 86 = .ok (.iadd, 1) := dk_96 (dk_at dksX2_close_3 14 rfl rfl)
theorem dX2_close_87 : decode cX2_close 87 = .ok (.iaload, 1) := dk_46 (dk_at dksX2_close_3 15 rfl rfl)
theorem dX2_close_88 : decode cX2_close 88 = .ok (.invokevirtual 121, 3) := dk_182 0 121 (dk_at dksX2_close_3 16 rfl rfl)
theorem dX2_close_91 : decode cX2_close 91 = .ok (.iastore, 1) := dk_79 (dk_at dksX2_close_3 19 rfl rfl)
theorem dX2_close_92 : decode cX2_close 92 = .ok (.aload_n 0, 1) := dk_42 (dk_at dksX2_close_3 20 rfl rfl)
theorem dX2_close_93 : decode cX2_close 93 = .ok (.getfield 54, 3) := dk_180 0 54 (dk_at dksX2_close_3 21 rfl rfl)
theorem dX2_close_96 : decode cX2_close 96 = .ok (.iload_n 1, 1) := dk_27 (dk_at dksX2_close_4 0 rfl rfl)
theorem dX2_close_97 : decode cX2_close 97 = .ok (.iconst 1, 1) := dk_4 (dk_at dksX2_close_4 1 rfl rfl)
theorem dX2_close_98 : decode cX2_close 98 = .ok (.bastore, 1) := dk_84 (dk_at dksX2_close_4 2 rfl rfl)
theorem dX2_close_99 : decode cX2_close 99 = .ok (.aload_n 0, 1) := dk_42 (dk_at dksX2_close_4 3 rfl rfl)
theorem dX2_close_100 : decode cX2_close 100 = .ok (.getfield 51, 3) := dk_180 0 51 (dk_at dksX2_close_4 4 rfl rfl)
theorem dX2_close_103 : decode cX2_close 103 = .ok (.iconst 2, 1) := dk_5 (dk_at dksX2_close_4 7 rfl rfl)
theorem dX2_close_104 : decode cX2_close 104 = .ok (.iload_n 1, 1) := dk_27 (dk_at dksX2_close_4 8 rfl rfl)
theorem dX2_close_105 : decode cX2_close 105 = .ok (.imul, 1) := dk_104 (dk_at dksX2_close_4 9 rfl rfl)
theorem dX2_close_106 : decode cX2_close 106 = .ok (.iaload, 1) := dk_46 (dk_at dksX2_close_4 10 rfl rfl)
theorem dX2_close_107 : decode cX2_close 107 = .ok (.aload_n 0, 1) := dk_42 (dk_at dksX2_close_4 11 rfl rfl)
theorem dX2_close_108 : decode cX2_close 108 = .ok (.getfield 51, 3) := dk_180 0 51 (dk_at dksX2_close_4 12 rfl rfl)
theorem dX2_close_111 : decode cX2_close 111 = .ok (.iconst 2, 1) := dk_5 (dk_at dksX2_close_4 15 rfl rfl)
theorem dX2_close_112 : decode cX2_close 112 = .ok (.iload_n 1, 1) := dk_27 (dk_at dksX2_close_4 16 rfl rfl)
theorem dX2_close_113 : decode cX2_close 113 = .ok (.imul, 1) := dk_104 (dk_at dksX2_close_4 17 rfl rfl)
theorem dX2_close_114 : decode cX2_close 114 = .ok (.iconst 1, 1) := dk_4 (dk_at dksX2_close_4 18 rfl rfl)
theorem dX2_close_115 : decode cX2_close 115 = .ok (.iadd, 1) := dk_96 (dk_at dksX2_close_4 19 rfl rfl)
theorem dX2_close_116 : decode cX2_close 116 = .ok (.iaload, 1) := dk_46 (dk_at dksX2_close_4 20 rfl rfl)
theorem dX2_close_117 : decode cX2_close 117 = .ok (.iadd, 1) := dk_96 (dk_at dksX2_close_4 21 rfl rfl)
theorem dX2_close_118 : decode cX2_close 118 = .ok (.ireturn, 1) := dk_172 (dk_at dksX2_close_4 22 rfl rfl)
abbrev cX2_fineFor : ByteArray := prog_8_method_33_code
def yX2_fineFor : MethodName := ⟨RX2, "fineFor", "(III)I"⟩
def dkwX2_fineFor_4 : List UInt8 := [21, 6, 100, 79, 21, 5, 21, 6, 100, 172]
abbrev dktX2_fineFor_4 : List UInt8 := dkwX2_fineFor_4 ++ []
def dkwX2_fineFor_3 : List UInt8 := [162, 0, 12, 42, 180, 0, 57, 28, 46, 167, 0, 5, 21, 5, 54, 6, 42, 180, 0, 57, 28, 92, 46]
abbrev dktX2_fineFor_3 : List UInt8 := dkwX2_fineFor_3 ++ dktX2_fineFor_4
def dkwX2_fineFor_2 : List UInt8 := [184, 0, 115, 161, 0, 7, 3, 167, 0, 7, 21, 4, 5, 108, 54, 5, 42, 180, 0, 57, 28, 46, 21, 5]
abbrev dktX2_fineFor_2 : List UInt8 := dkwX2_fineFor_2 ++ dktX2_fineFor_3
def dkwX2_fineFor_1 : List UInt8 := [158, 0, 10, 21, 4, 7, 108, 167, 0, 4, 3, 100, 167, 0, 26, 5, 29, 104, 42, 180, 0, 39, 27, 46]
abbrev dktX2_fineFor_1 : List UInt8 := dkwX2_fineFor_1 ++ dktX2_fineFor_2
def dkwX2_fineFor_0 : List UInt8 := [42, 28, 182, 0, 95, 16, 10, 108, 54, 4, 42, 180, 0, 45, 27, 46, 28, 159, 0, 21, 21, 4, 29]
abbrev dktX2_fineFor_0 : List UInt8 := dkwX2_fineFor_0 ++ dktX2_fineFor_1
theorem dksX2_fineFor_0 : cX2_fineFor.data.toList.drop 0 = dktX2_fineFor_0 := by decide +kernel
theorem dksX2_fineFor_1 : cX2_fineFor.data.toList.drop 23 = dktX2_fineFor_1 := dk_seg dksX2_fineFor_0 23 rfl rfl
theorem dksX2_fineFor_2 : cX2_fineFor.data.toList.drop 47 = dktX2_fineFor_2 := dk_seg dksX2_fineFor_1 24 rfl rfl
theorem dksX2_fineFor_3 : cX2_fineFor.data.toList.drop 71 = dktX2_fineFor_3 := dk_seg dksX2_fineFor_2 24 rfl rfl
theorem dksX2_fineFor_4 : cX2_fineFor.data.toList.drop 94 = dktX2_fineFor_4 := dk_seg dksX2_fineFor_3 23 rfl rfl
theorem dX2_fineFor_0 : decode cX2_fineFor 0 = .ok (.aload_n 0, 1) := dk_42 (dk_at dksX2_fineFor_0 0 rfl rfl)
theorem dX2_fineFor_1 : decode cX2_fineFor 1 = .ok (.iload_n 2, 1) := dk_28 (dk_at dksX2_fineFor_0 1 rfl rfl)
theorem dX2_fineFor_2 : decode cX2_fineFor 2 = .ok (.invokevirtual 95, 3) := dk_182 0 95 (dk_at dksX2_fineFor_0 2 rfl rfl)
theorem dX2_fineFor_5 : decode cX2_fineFor 5 = .ok (.bipush 10, 2) := dk_16 10 (dk_at dksX2_fineFor_0 5 rfl rfl)
theorem dX2_fineFor_7 : decode cX2_fineFor 7 = .ok (.idiv, 1) := dk_108 (dk_at dksX2_fineFor_0 7 rfl rfl)
theorem dX2_fineFor_8 : decode cX2_fineFor 8 = .ok (.istore 4, 2) := dk_54 4 (dk_at dksX2_fineFor_0 8 rfl rfl)
theorem dX2_fineFor_10 : decode cX2_fineFor 10 = .ok (.aload_n 0, 1) := dk_42 (dk_at dksX2_fineFor_0 10 rfl rfl)
theorem dX2_fineFor_11 : decode cX2_fineFor 11 = .ok (.getfield 45, 3) := dk_180 0 45 (dk_at dksX2_fineFor_0 11 rfl rfl)
theorem dX2_fineFor_14 : decode cX2_fineFor 14 = .ok (.iload_n 1, 1) := dk_27 (dk_at dksX2_fineFor_0 14 rfl rfl)
theorem dX2_fineFor_15 : decode cX2_fineFor 15 = .ok (.iaload, 1) := dk_46 (dk_at dksX2_fineFor_0 15 rfl rfl)
theorem dX2_fineFor_16 : decode cX2_fineFor 16 = .ok (.iload_n 2, 1) := dk_28 (dk_at dksX2_fineFor_0 16 rfl rfl)
theorem dX2_fineFor_17 : decode cX2_fineFor 17 = .ok (.if_icmp .eq 21, 3) := dk_159 0 21 (dk_at dksX2_fineFor_0 17 rfl rfl)
theorem dX2_fineFor_20 : decode cX2_fineFor 20 = .ok (.iload 4, 2) := dk_21 4 (dk_at dksX2_fineFor_0 20 rfl rfl)
theorem dX2_fineFor_22 : decode cX2_fineFor 22 = .ok (.iload_n 3, 1) := dk_29 (dk_at dksX2_fineFor_0 22 rfl rfl)
theorem dX2_fineFor_23 : decode cX2_fineFor 23 = .ok (.ifCond .le 10, 3) := dk_158 0 10 (dk_at dksX2_fineFor_1 0 rfl rfl)
theorem dX2_fineFor_26 : decode cX2_fineFor 26 = .ok (.iload 4, 2) := dk_21 4 (dk_at dksX2_fineFor_1 3 rfl rfl)
theorem dX2_fineFor_28 : decode cX2_fineFor 28 = .ok (.iconst 4, 1) := dk_7 (dk_at dksX2_fineFor_1 5 rfl rfl)
theorem dX2_fineFor_29 : decode cX2_fineFor 29 = .ok (.idiv, 1) := dk_108 (dk_at dksX2_fineFor_1 6 rfl rfl)
theorem dX2_fineFor_30 : decode cX2_fineFor 30 = .ok (.goto 4, 3) := dk_167 0 4 (dk_at dksX2_fineFor_1 7 rfl rfl)
theorem dX2_fineFor_33 : decode cX2_fineFor 33 = .ok (.iconst 0, 1) := dk_3 (dk_at dksX2_fineFor_1 10 rfl rfl)
theorem dX2_fineFor_34 : decode cX2_fineFor 34 = .ok (.isub, 1) := dk_100 (dk_at dksX2_fineFor_1 11 rfl rfl)
theorem dX2_fineFor_35 : decode cX2_fineFor 35 = .ok (.goto 26, 3) := dk_167 0 26 (dk_at dksX2_fineFor_1 12 rfl rfl)
theorem dX2_fineFor_38 : decode cX2_fineFor 38 = .ok (.iconst 2, 1) := dk_5 (dk_at dksX2_fineFor_1 15 rfl rfl)
theorem dX2_fineFor_39 : decode cX2_fineFor 39 = .ok (.iload_n 3, 1) := dk_29 (dk_at dksX2_fineFor_1 16 rfl rfl)
theorem dX2_fineFor_40 : decode cX2_fineFor 40 = .ok (.imul, 1) := dk_104 (dk_at dksX2_fineFor_1 17 rfl rfl)
theorem dX2_fineFor_41 : decode cX2_fineFor 41 = .ok (.aload_n 0, 1) := dk_42 (dk_at dksX2_fineFor_1 18 rfl rfl)
theorem dX2_fineFor_42 : decode cX2_fineFor 42 = .ok (.getfield 39, 3) := dk_180 0 39 (dk_at dksX2_fineFor_1 19 rfl rfl)
theorem dX2_fineFor_45 : decode cX2_fineFor 45 = .ok (.iload_n 1, 1) := dk_27 (dk_at dksX2_fineFor_1 22 rfl rfl)
theorem dX2_fineFor_46 : decode cX2_fineFor 46 = .ok (.iaload, 1) := dk_46 (dk_at dksX2_fineFor_1 23 rfl rfl)
theorem dX2_fineFor_47 : decode cX2_fineFor 47 = .ok (.invokestatic 115, 3) := dk_184 0 115 (dk_at dksX2_fineFor_2 0 rfl rfl)
theorem dX2_fineFor_50 : decode cX2_fineFor 50 = .ok (.if_icmp .lt 7, 3) := dk_161 0 7 (dk_at dksX2_fineFor_2 3 rfl rfl)
theorem dX2_fineFor_53 : decode cX2_fineFor 53 = .ok (.iconst 0, 1) := dk_3 (dk_at dksX2_fineFor_2 6 rfl rfl)
theorem dX2_fineFor_54 : decode cX2_fineFor 54 = .ok (.goto 7, 3) := dk_167 0 7 (dk_at dksX2_fineFor_2 7 rfl rfl)
theorem dX2_fineFor_57 : decode cX2_fineFor 57 = .ok (.iload 4, 2) := dk_21 4 (dk_at dksX2_fineFor_2 10 rfl rfl)
theorem dX2_fineFor_59 : decode cX2_fineFor 59 = .ok (.iconst 2, 1) := dk_5 (dk_at dksX2_fineFor_2 12 rfl rfl)
theorem dX2_fineFor_60 : decode cX2_fineFor 60 = .ok (.idiv, 1) := dk_108 (dk_at dksX2_fineFor_2 13 rfl rfl)
theorem dX2_fineFor_61 : decode cX2_fineFor 61 = .ok (.istore 5, 2) := dk_54 5 (dk_at dksX2_fineFor_2 14 rfl rfl)
theorem dX2_fineFor_63 : decode cX2_fineFor 63 = .ok (.aload_n 0, 1) := dk_42 (dk_at dksX2_fineFor_2 16 rfl rfl)
theorem dX2_fineFor_64 : decode cX2_fineFor 64 = .ok (.getfield 57, 3) := dk_180 0 57 (dk_at dksX2_fineFor_2 17 rfl rfl)
theorem dX2_fineFor_67 : decode cX2_fineFor 67 = .ok (.iload_n 2, 1) := dk_28 (dk_at dksX2_fineFor_2 20 rfl rfl)
theorem dX2_fineFor_68 : decode cX2_fineFor 68 = .ok (.iaload, 1) := dk_46 (dk_at dksX2_fineFor_2 21 rfl rfl)
theorem dX2_fineFor_69 : decode cX2_fineFor 69 = .ok (.iload 5, 2) := dk_21 5 (dk_at dksX2_fineFor_2 22 rfl rfl)
theorem dX2_fineFor_71 : decode cX2_fineFor 71 = .ok (.if_icmp .ge 12, 3) := dk_162 0 12 (dk_at dksX2_fineFor_3 0 rfl rfl)
theorem dX2_fineFor_74 : decode cX2_fineFor 74 = .ok (.aload_n 0, 1) := dk_42 (dk_at dksX2_fineFor_3 3 rfl rfl)
theorem dX2_fineFor_75 : decode cX2_fineFor 75 = .ok (.getfield 57, 3) := dk_180 0 57 (dk_at dksX2_fineFor_3 4 rfl rfl)
theorem dX2_fineFor_78 : decode cX2_fineFor 78 = .ok (.iload_n 2, 1) := dk_28 (dk_at dksX2_fineFor_3 7 rfl rfl)
theorem dX2_fineFor_79 : decode cX2_fineFor 79 = .ok (.iaload, 1) := dk_46 (dk_at dksX2_fineFor_3 8 rfl rfl)
theorem dX2_fineFor_80 : decode cX2_fineFor 80 = .ok (.goto 5, 3) := dk_167 0 5 (dk_at dksX2_fineFor_3 9 rfl rfl)
theorem dX2_fineFor_83 : decode cX2_fineFor 83 = .ok (.iload 5, 2) := dk_21 5 (dk_at dksX2_fineFor_3 12 rfl rfl)
theorem dX2_fineFor_85 : decode cX2_fineFor 85 = .ok (.istore 6, 2) := dk_54 6 (dk_at dksX2_fineFor_3 14 rfl rfl)
theorem dX2_fineFor_87 : decode cX2_fineFor 87 = .ok (.aload_n 0, 1) := dk_42 (dk_at dksX2_fineFor_3 16 rfl rfl)
theorem dX2_fineFor_88 : decode cX2_fineFor 88 = .ok (.getfield 57, 3) := dk_180 0 57 (dk_at dksX2_fineFor_3 17 rfl rfl)
theorem dX2_fineFor_91 : decode cX2_fineFor 91 = .ok (.iload_n 2, 1) := dk_28 (dk_at dksX2_fineFor_3 20 rfl rfl)
theorem dX2_fineFor_92 : decode cX2_fineFor 92 = .ok (.dup2, 1) := dk_92 (dk_at dksX2_fineFor_3 21 rfl rfl)
theorem dX2_fineFor_93 : decode cX2_fineFor 93 = .ok (.iaload, 1) := dk_46 (dk_at dksX2_fineFor_3 22 rfl rfl)
theorem dX2_fineFor_94 : decode cX2_fineFor 94 = .ok (.iload 6, 2) := dk_21 6 (dk_at dksX2_fineFor_4 0 rfl rfl)
theorem dX2_fineFor_96 : decode cX2_fineFor 96 = .ok (.isub, 1) := dk_100 (dk_at dksX2_fineFor_4 2 rfl rfl)
theorem dX2_fineFor_97 : decode cX2_fineFor 97 = .ok (.iastore, 1) := dk_79 (dk_at dksX2_fineFor_4 3 rfl rfl)
theorem dX2_fineFor_98 : decode cX2_fineFor 98 = .ok (.iload 5, 2) := dk_21 5 (dk_at dksX2_fineFor_4 4 rfl rfl)
theorem dX2_fineFor_100 : decode cX2_fineFor 100 = .ok (.iload 6, 2) := dk_21 6 (dk_at dksX2_fineFor_4 6 rfl rfl)
theorem dX2_fineFor_102 : decode cX2_fineFor 102 = .ok (.isub, 1) := dk_100 (dk_at dksX2_fineFor_4 8 rfl rfl)
theorem dX2_fineFor_103 : decode cX2_fineFor 103 = .ok (.ireturn, 1) := dk_172 (dk_at dksX2_fineFor_4 9 rfl rfl)
abbrev cX2_fine : ByteArray := prog_8_method_35_code
def yX2_fine : MethodName := ⟨RX2, "fine", "(II)I"⟩
def dkwX2_fine_2 : List UInt8 := [167, 0, 4, 4, 96, 46, 167, 0, 8, 42, 5, 182, 0, 77, 172]
abbrev dktX2_fine_2 : List UInt8 := dkwX2_fine_2 ++ []
def dkwX2_fine_1 : List UInt8 := [182, 0, 118, 153, 0, 30, 42, 180, 0, 51, 5, 27, 104, 28, 42, 180, 0, 33, 27, 46, 160, 0, 7, 3]
abbrev dktX2_fine_1 : List UInt8 := dkwX2_fine_1 ++ dktX2_fine_2
def dkwX2_fine_0 : List UInt8 := [42, 3, 181, 0, 60, 42, 27, 182, 0, 112, 154, 0, 9, 42, 4, 182, 0, 77, 172, 42, 27, 28]
abbrev dktX2_fine_0 : List UInt8 := dkwX2_fine_0 ++ dktX2_fine_1
theorem dksX2_fine_0 : cX2_fine.data.toList.drop 0 = dktX2_fine_0 := by decide +kernel
theorem dksX2_fine_1 : cX2_fine.data.toList.drop 22 = dktX2_fine_1 := dk_seg dksX2_fine_0 22 rfl rfl
theorem dksX2_fine_2 : cX2_fine.data.toList.drop 46 = dktX2_fine_2 := dk_seg dksX2_fine_1 24 rfl rfl
theorem dX2_fine_0 : decode cX2_fine 0 = .ok (.aload_n 0, 1) := dk_42 (dk_at dksX2_fine_0 0 rfl rfl)
theorem dX2_fine_1 : decode cX2_fine 1 = .ok (.iconst 0, 1) := dk_3 (dk_at dksX2_fine_0 1 rfl rfl)
theorem dX2_fine_2 : decode cX2_fine 2 = .ok (.putfield 60, 3) := dk_181 0 60 (dk_at dksX2_fine_0 2 rfl rfl)
theorem dX2_fine_5 : decode cX2_fine 5 = .ok (.aload_n 0, 1) := dk_42 (dk_at dksX2_fine_0 5 rfl rfl)
theorem dX2_fine_6 : decode cX2_fine 6 = .ok (.iload_n 1, 1) := dk_27 (dk_at dksX2_fine_0 6 rfl rfl)
theorem dX2_fine_7 : decode cX2_fine 7 = .ok (.invokevirtual 112, 3) := dk_182 0 112 (dk_at dksX2_fine_0 7 rfl rfl)
theorem dX2_fine_10 : decode cX2_fine 10 = .ok (.ifCond .ne 9, 3) := dk_154 0 9 (dk_at dksX2_fine_0 10 rfl rfl)
theorem dX2_fine_13 : decode cX2_fine 13 = .ok (.aload_n 0, 1) := dk_42 (dk_at dksX2_fine_0 13 rfl rfl)
theorem dX2_fine_14 : decode cX2_fine 14 = .ok (.iconst 1, 1) := dk_4 (dk_at dksX2_fine_0 14 rfl rfl)
theorem dX2_fine_15 : decode cX2_fine 15 = .ok (.invokevirtual 77, 3) := dk_182 0 77 (dk_at dksX2_fine_0 15 rfl rfl)
theorem dX2_fine_18 : decode cX2_fine 18 = .ok (.ireturn, 1) := dk_172 (dk_at dksX2_fine_0 18 rfl rfl)
theorem dX2_fine_19 : decode cX2_fine 19 = .ok (.aload_n 0, 1) := dk_42 (dk_at dksX2_fine_0 19 rfl rfl)
theorem dX2_fine_20 : decode cX2_fine 20 = .ok (.iload_n 1, 1) := dk_27 (dk_at dksX2_fine_0 20 rfl rfl)
theorem dX2_fine_21 : decode cX2_fine 21 = .ok (.iload_n 2, 1) := dk_28 (dk_at dksX2_fine_0 21 rfl rfl)
theorem dX2_fine_22 : decode cX2_fine 22 = .ok (.invokevirtual 118, 3) := dk_182 0 118 (dk_at dksX2_fine_1 0 rfl rfl)
theorem dX2_fine_25 : decode cX2_fine 25 = .ok (.ifCond .eq 30, 3) := dk_153 0 30 (dk_at dksX2_fine_1 3 rfl rfl)
theorem dX2_fine_28 : decode cX2_fine 28 = .ok (.aload_n 0, 1) := dk_42 (dk_at dksX2_fine_1 6 rfl rfl)
theorem dX2_fine_29 : decode cX2_fine 29 = .ok (.getfield 51, 3) := dk_180 0 51 (dk_at dksX2_fine_1 7 rfl rfl)
theorem dX2_fine_32 : decode cX2_fine 32 = .ok (.iconst 2, 1) := dk_5 (dk_at dksX2_fine_1 10 rfl rfl)
theorem dX2_fine_33 : decode cX2_fine 33 = .ok (.iload_n 1, 1) := dk_27 (dk_at dksX2_fine_1 11 rfl rfl)
theorem dX2_fine_34 : decode cX2_fine 34 = .ok (.imul, 1) := dk_104 (dk_at dksX2_fine_1 12 rfl rfl)
theorem dX2_fine_35 : decode cX2_fine 35 = .ok (.iload_n 2, 1) := dk_28 (dk_at dksX2_fine_1 13 rfl rfl)
theorem dX2_fine_36 : decode cX2_fine 36 = .ok (.aload_n 0, 1) := dk_42 (dk_at dksX2_fine_1 14 rfl rfl)
theorem dX2_fine_37 : decode cX2_fine 37 = .ok (.getfield 33, 3) := dk_180 0 33 (dk_at dksX2_fine_1 15 rfl rfl)
theorem dX2_fine_40 : decode cX2_fine 40 = .ok (.iload_n 1, 1) := dk_27 (dk_at dksX2_fine_1 18 rfl rfl)
theorem dX2_fine_41 : decode cX2_fine 41 = .ok (.iaload, 1) := dk_46 (dk_at dksX2_fine_1 19 rfl rfl)
theorem dX2_fine_42 : decode cX2_fine 42 = .ok (.if_icmp .ne 7, 3) := dk_160 0 7 (dk_at dksX2_fine_1 20 rfl rfl)
theorem dX2_fine_45 : decode cX2_fine 45 = .ok (.iconst 0, 1) := dk_3 (dk_at dksX2_fine_1 23 rfl rfl)
theorem dX2_fine_46 : decode cX2_fine 46 = .ok (.goto 4, 3) := dk_167 0 4 (dk_at dksX2_fine_2 0 rfl rfl)
theorem dX2_fine_49 : decode cX2_fine 49 = .ok (.iconst 1, 1) := dk_4 (dk_at dksX2_fine_2 3 rfl rfl)
theorem dX2_fine_50 : decode cX2_fine 50 = .ok (.iadd, 1) := dk_96 (dk_at dksX2_fine_2 4 rfl rfl)
theorem dX2_fine_51 : decode cX2_fine 51 = .ok (.iaload, 1) := dk_46 (dk_at dksX2_fine_2 5 rfl rfl)
theorem dX2_fine_52 : decode cX2_fine 52 = .ok (.goto 8, 3) := dk_167 0 8 (dk_at dksX2_fine_2 6 rfl rfl)
theorem dX2_fine_55 : decode cX2_fine 55 = .ok (.aload_n 0, 1) := dk_42 (dk_at dksX2_fine_2 9 rfl rfl)
theorem dX2_fine_56 : decode cX2_fine 56 = .ok (.iconst 2, 1) := dk_5 (dk_at dksX2_fine_2 10 rfl rfl)
theorem dX2_fine_57 : decode cX2_fine 57 = .ok (.invokevirtual 77, 3) := dk_182 0 77 (dk_at dksX2_fine_2 11 rfl rfl)
theorem dX2_fine_60 : decode cX2_fine 60 = .ok (.ireturn, 1) := dk_172 (dk_at dksX2_fine_2 14 rfl rfl)
abbrev cX2_firstTeller : ByteArray := prog_8_method_36_code
def yX2_firstTeller : MethodName := ⟨RX2, "firstTeller", "(I)I"⟩
def dkwX2_firstTeller_1 : List UInt8 := [182, 0, 77, 172]
abbrev dktX2_firstTeller_1 : List UInt8 := dkwX2_firstTeller_1 ++ []
def dkwX2_firstTeller_0 : List UInt8 := [42, 3, 181, 0, 60, 42, 27, 182, 0, 112, 153, 0, 12, 42, 180, 0, 45, 27, 46, 167, 0, 8, 42, 4]
abbrev dktX2_firstTeller_0 : List UInt8 := dkwX2_firstTeller_0 ++ dktX2_firstTeller_1
theorem dksX2_firstTeller_0 : cX2_firstTeller.data.toList.drop 0 = dktX2_firstTeller_0 := by decide +kernel
theorem dksX2_firstTeller_1 : cX2_firstTeller.data.toList.drop 24 = dktX2_firstTeller_1 := dk_seg dksX2_firstTeller_0 24 rfl rfl
theorem dX2_firstTeller_0 : decode cX2_firstTeller 0 = .ok (.aload_n 0, 1) := dk_42 (dk_at dksX2_firstTeller_0 0 rfl rfl)
theorem dX2_firstTeller_1 : decode cX2_firstTeller 1 = .ok (.iconst 0, 1) := dk_3 (dk_at dksX2_firstTeller_0 1 rfl rfl)
theorem dX2_firstTeller_2 : decode cX2_firstTeller 2 = .ok (.putfield 60, 3) := dk_181 0 60 (dk_at dksX2_firstTeller_0 2 rfl rfl)
theorem dX2_firstTeller_5 : decode cX2_firstTeller 5 = .ok (.aload_n 0, 1) := dk_42 (dk_at dksX2_firstTeller_0 5 rfl rfl)
theorem dX2_firstTeller_6 : decode cX2_firstTeller 6 = .ok (.iload_n 1, 1) := dk_27 (dk_at dksX2_firstTeller_0 6 rfl rfl)
theorem dX2_firstTeller_7 : decode cX2_firstTeller 7 = .ok (.invokevirtual 112, 3) := dk_182 0 112 (dk_at dksX2_firstTeller_0 7 rfl rfl)
theorem dX2_firstTeller_10 : decode cX2_firstTeller 10 = .ok (.ifCond .eq 12, 3) := dk_153 0 12 (dk_at dksX2_firstTeller_0 10 rfl rfl)
theorem dX2_firstTeller_13 : decode cX2_firstTeller 13 = .ok (.aload_n 0, 1) := dk_42 (dk_at dksX2_firstTeller_0 13 rfl rfl)
theorem dX2_firstTeller_14 : decode cX2_firstTeller 14 = .ok (.getfield 45, 3) := dk_180 0 45 (dk_at dksX2_firstTeller_0 14 rfl rfl)
theorem dX2_firstTeller_17 : decode cX2_firstTeller 17 = .ok (.iload_n 1, 1) := dk_27 (dk_at dksX2_firstTeller_0 17 rfl rfl)
theorem dX2_firstTeller_18 : decode cX2_firstTeller 18 = .ok (.iaload, 1) := dk_46 (dk_at dksX2_firstTeller_0 18 rfl rfl)
theorem dX2_firstTeller_19 : decode cX2_firstTeller 19 = .ok (.goto 8, 3) := dk_167 0 8 (dk_at dksX2_firstTeller_0 19 rfl rfl)
theorem dX2_firstTeller_22 : decode cX2_firstTeller 22 = .ok (.aload_n 0, 1) := dk_42 (dk_at dksX2_firstTeller_0 22 rfl rfl)
theorem dX2_firstTeller_23 : decode cX2_firstTeller 23 = .ok (.iconst 1, 1) := dk_4 (dk_at dksX2_firstTeller_0 23 rfl rfl)
theorem dX2_firstTeller_24 : decode cX2_firstTeller 24 = .ok (.invokevirtual 77, 3) := dk_182 0 77 (dk_at dksX2_firstTeller_1 0 rfl rfl)
theorem dX2_firstTeller_27 : decode cX2_firstTeller 27 = .ok (.ireturn, 1) := dk_172 (dk_at dksX2_firstTeller_1 3 rfl rfl)
theorem q26 : (Jvm.Cond.initialized "CartelWatchModel") ∈ lw_all := lw_g (lw_at lw_m1 5 rfl) rfl
theorem q335 : (Jvm.Cond.selects "CartelWatchModel" ({ cls := "java/lang/Object", name := "getClass", desc := "()Ljava/lang/Class;" } : Jvm.MethodName) ({ cls := "java/lang/Object", name := "getClass", desc := "()Ljava/lang/Class;" } : Jvm.MethodName)) ∈ lw_all := lw_g (lw_at lw_m2 74 rfl) rfl
theorem q616 : (Jvm.Cond.selects "CartelWatchModel" ({ cls := "java/lang/Object", name := "equals", desc := "(Ljava/lang/Object;)Z" } : Jvm.MethodName) ({ cls := "java/lang/Object", name := "equals", desc := "(Ljava/lang/Object;)Z" } : Jvm.MethodName)) ∈ lw_all := lw_g (lw_at lw_m3 115 rfl) rfl
theorem q671 : (Jvm.Cond.instantiable "CartelWatchModel" (19 : Nat)) ∈ lw_all := lw_g (lw_at lw_m3 170 rfl) rfl
theorem q673 : (Jvm.Cond.instanceMethod ({ cls := "CartelWatchModel", name := "<init>", desc := "()V" } : Jvm.MethodName)) ∈ lw_all := lw_g (lw_at lw_m3 172 rfl) rfl
theorem q674 : (Jvm.Cond.code ({ cls := "CartelWatchModel", name := "<init>", desc := "()V" } : Jvm.MethodName) prog_8_method_1_code (1 : Nat) (Option.none : Option Jvm.ClassFile.FieldType)) ∈ lw_all := lw_g (lw_at lw_m3 173 rfl) rfl
theorem q675 : (Jvm.Cond.methodLink "CartelWatchModel" (1 : Nat) ({ cls := "java/lang/Object", name := "<init>", desc := "()V" } : Jvm.MethodName)) ∈ lw_all := lw_g (lw_at lw_m3 174 rfl) rfl
theorem q676 : (Jvm.Cond.fieldLink "CartelWatchModel" (60 : Nat) "CartelWatchModel" "thrown" "I") ∈ lw_all := lw_g (lw_at lw_m3 175 rfl) rfl
theorem q677 : (Jvm.Cond.fieldLink "CartelWatchModel" (67 : Nat) "CartelWatchModel" "tenders" "I") ∈ lw_all := lw_g (lw_at lw_m3 176 rfl) rfl
theorem q678 : (Jvm.Cond.fieldLink "CartelWatchModel" (7 : Nat) "CartelWatchModel" "state" "[I") ∈ lw_all := lw_g (lw_at lw_m3 177 rfl) rfl
theorem q679 : (Jvm.Cond.fieldLink "CartelWatchModel" (13 : Nat) "CartelWatchModel" "winner" "[I") ∈ lw_all := lw_g (lw_at lw_m3 178 rfl) rfl
theorem q680 : (Jvm.Cond.fieldLink "CartelWatchModel" (16 : Nat) "CartelWatchModel" "passed" "[I") ∈ lw_all := lw_g (lw_at lw_m3 179 rfl) rfl
theorem q681 : (Jvm.Cond.fieldLink "CartelWatchModel" (19 : Nat) "CartelWatchModel" "part" "[I") ∈ lw_all := lw_g (lw_at lw_m3 180 rfl) rfl
theorem q682 : (Jvm.Cond.fieldLink "CartelWatchModel" (22 : Nat) "CartelWatchModel" "sum" "[I") ∈ lw_all := lw_g (lw_at lw_m3 181 rfl) rfl
theorem q683 : (Jvm.Cond.fieldLink "CartelWatchModel" (25 : Nat) "CartelWatchModel" "gone" "[Z") ∈ lw_all := lw_g (lw_at lw_m3 182 rfl) rfl
theorem q684 : (Jvm.Cond.fieldLink "CartelWatchModel" (29 : Nat) "CartelWatchModel" "mark" "I") ∈ lw_all := lw_g (lw_at lw_m3 183 rfl) rfl
theorem q685 : (Jvm.Cond.fieldLink "CartelWatchModel" (70 : Nat) "CartelWatchModel" "files" "I") ∈ lw_all := lw_g (lw_at lw_m3 184 rfl) rfl
theorem q686 : (Jvm.Cond.fieldLink "CartelWatchModel" (33 : Nat) "CartelWatchModel" "one" "[I") ∈ lw_all := lw_g (lw_at lw_m3 185 rfl) rfl
theorem q687 : (Jvm.Cond.fieldLink "CartelWatchModel" (36 : Nat) "CartelWatchModel" "two" "[I") ∈ lw_all := lw_g (lw_at lw_m3 186 rfl) rfl
theorem q688 : (Jvm.Cond.fieldLink "CartelWatchModel" (39 : Nat) "CartelWatchModel" "matters" "[I") ∈ lw_all := lw_g (lw_at lw_m3 187 rfl) rfl
theorem q689 : (Jvm.Cond.fieldLink "CartelWatchModel" (42 : Nat) "CartelWatchModel" "told" "[I") ∈ lw_all := lw_g (lw_at lw_m3 188 rfl) rfl
theorem q690 : (Jvm.Cond.fieldLink "CartelWatchModel" (45 : Nat) "CartelWatchModel" "first" "[I") ∈ lw_all := lw_g (lw_at lw_m3 189 rfl) rfl
theorem q691 : (Jvm.Cond.fieldLink "CartelWatchModel" (48 : Nat) "CartelWatchModel" "news" "[I") ∈ lw_all := lw_g (lw_at lw_m3 190 rfl) rfl
theorem q692 : (Jvm.Cond.fieldLink "CartelWatchModel" (51 : Nat) "CartelWatchModel" "fines" "[I") ∈ lw_all := lw_g (lw_at lw_m3 191 rfl) rfl
theorem q693 : (Jvm.Cond.fieldLink "CartelWatchModel" (54 : Nat) "CartelWatchModel" "closed" "[Z") ∈ lw_all := lw_g (lw_at lw_m3 192 rfl) rfl
theorem q694 : (Jvm.Cond.fieldLink "CartelWatchModel" (57 : Nat) "CartelWatchModel" "paid" "[I") ∈ lw_all := lw_g (lw_at lw_m3 193 rfl) rfl
theorem q695 : (Jvm.Cond.lays "CartelWatchModel" "CartelWatchModel" "thrown" "I") ∈ lw_all := lw_g (lw_at lw_m3 194 rfl) rfl
theorem q696 : (Jvm.Cond.soleField "CartelWatchModel" "thrown") ∈ lw_all := lw_g (lw_at lw_m3 195 rfl) rfl
theorem q697 : (Jvm.Cond.lays "CartelWatchModel" "CartelWatchModel" "tenders" "I") ∈ lw_all := lw_g (lw_at lw_m3 196 rfl) rfl
theorem q698 : (Jvm.Cond.soleField "CartelWatchModel" "tenders") ∈ lw_all := lw_g (lw_at lw_m3 197 rfl) rfl
theorem q699 : (Jvm.Cond.laysFinal "CartelWatchModel" "CartelWatchModel" "state" "[I") ∈ lw_all := lw_g (lw_at lw_m3 198 rfl) rfl
theorem q700 : (Jvm.Cond.soleField "CartelWatchModel" "state") ∈ lw_all := lw_g (lw_at lw_m3 199 rfl) rfl
theorem q701 : (Jvm.Cond.laysFinal "CartelWatchModel" "CartelWatchModel" "winner" "[I") ∈ lw_all := lw_g (lw_at lw_m3 200 rfl) rfl
theorem q702 : (Jvm.Cond.soleField "CartelWatchModel" "winner") ∈ lw_all := lw_g (lw_at lw_m3 201 rfl) rfl
theorem q703 : (Jvm.Cond.laysFinal "CartelWatchModel" "CartelWatchModel" "passed" "[I") ∈ lw_all := lw_g (lw_at lw_m3 202 rfl) rfl
theorem q704 : (Jvm.Cond.soleField "CartelWatchModel" "passed") ∈ lw_all := lw_g (lw_at lw_m3 203 rfl) rfl
theorem q705 : (Jvm.Cond.laysFinal "CartelWatchModel" "CartelWatchModel" "part" "[I") ∈ lw_all := lw_g (lw_at lw_m3 204 rfl) rfl
theorem q706 : (Jvm.Cond.soleField "CartelWatchModel" "part") ∈ lw_all := lw_g (lw_at lw_m3 205 rfl) rfl
theorem q707 : (Jvm.Cond.laysFinal "CartelWatchModel" "CartelWatchModel" "sum" "[I") ∈ lw_all := lw_g (lw_at lw_m3 206 rfl) rfl
theorem q708 : (Jvm.Cond.soleField "CartelWatchModel" "sum") ∈ lw_all := lw_g (lw_at lw_m3 207 rfl) rfl
theorem q709 : (Jvm.Cond.laysFinal "CartelWatchModel" "CartelWatchModel" "gone" "[Z") ∈ lw_all := lw_g (lw_at lw_m3 208 rfl) rfl
theorem q710 : (Jvm.Cond.soleField "CartelWatchModel" "gone") ∈ lw_all := lw_g (lw_at lw_m3 209 rfl) rfl
theorem q711 : (Jvm.Cond.lays "CartelWatchModel" "CartelWatchModel" "mark" "I") ∈ lw_all := lw_g (lw_at lw_m3 210 rfl) rfl
theorem q712 : (Jvm.Cond.soleField "CartelWatchModel" "mark") ∈ lw_all := lw_g (lw_at lw_m3 211 rfl) rfl
theorem q713 : (Jvm.Cond.lays "CartelWatchModel" "CartelWatchModel" "files" "I") ∈ lw_all := lw_g (lw_at lw_m3 212 rfl) rfl
theorem q714 : (Jvm.Cond.soleField "CartelWatchModel" "files") ∈ lw_all := lw_g (lw_at lw_m3 213 rfl) rfl
theorem q715 : (Jvm.Cond.laysFinal "CartelWatchModel" "CartelWatchModel" "one" "[I") ∈ lw_all := lw_g (lw_at lw_m3 214 rfl) rfl
theorem q716 : (Jvm.Cond.soleField "CartelWatchModel" "one") ∈ lw_all := lw_g (lw_at lw_m3 215 rfl) rfl
theorem q717 : (Jvm.Cond.laysFinal "CartelWatchModel" "CartelWatchModel" "two" "[I") ∈ lw_all := lw_g (lw_at lw_m3 216 rfl) rfl
theorem q718 : (Jvm.Cond.soleField "CartelWatchModel" "two") ∈ lw_all := lw_g (lw_at lw_m3 217 rfl) rfl
theorem q719 : (Jvm.Cond.laysFinal "CartelWatchModel" "CartelWatchModel" "matters" "[I") ∈ lw_all := lw_g (lw_at lw_m3 218 rfl) rfl
theorem q720 : (Jvm.Cond.soleField "CartelWatchModel" "matters") ∈ lw_all := lw_g (lw_at lw_m3 219 rfl) rfl
theorem q721 : (Jvm.Cond.laysFinal "CartelWatchModel" "CartelWatchModel" "told" "[I") ∈ lw_all := lw_g (lw_at lw_m3 220 rfl) rfl
theorem q722 : (Jvm.Cond.soleField "CartelWatchModel" "told") ∈ lw_all := lw_g (lw_at lw_m3 221 rfl) rfl
theorem q723 : (Jvm.Cond.laysFinal "CartelWatchModel" "CartelWatchModel" "first" "[I") ∈ lw_all := lw_g (lw_at lw_m3 222 rfl) rfl
theorem q724 : (Jvm.Cond.soleField "CartelWatchModel" "first") ∈ lw_all := lw_g (lw_at lw_m3 223 rfl) rfl
theorem q725 : (Jvm.Cond.laysFinal "CartelWatchModel" "CartelWatchModel" "news" "[I") ∈ lw_all := lw_g (lw_at lw_m3 224 rfl) rfl
theorem q726 : (Jvm.Cond.soleField "CartelWatchModel" "news") ∈ lw_all := lw_g (lw_at lw_m3 225 rfl) rfl
theorem q727 : (Jvm.Cond.laysFinal "CartelWatchModel" "CartelWatchModel" "fines" "[I") ∈ lw_all := lw_g (lw_at lw_m3 226 rfl) rfl
theorem q728 : (Jvm.Cond.soleField "CartelWatchModel" "fines") ∈ lw_all := lw_g (lw_at lw_m3 227 rfl) rfl
theorem q729 : (Jvm.Cond.laysFinal "CartelWatchModel" "CartelWatchModel" "closed" "[Z") ∈ lw_all := lw_g (lw_at lw_m3 228 rfl) rfl
theorem q730 : (Jvm.Cond.soleField "CartelWatchModel" "closed") ∈ lw_all := lw_g (lw_at lw_m3 229 rfl) rfl
theorem q731 : (Jvm.Cond.laysFinal "CartelWatchModel" "CartelWatchModel" "paid" "[I") ∈ lw_all := lw_g (lw_at lw_m3 230 rfl) rfl
theorem q732 : (Jvm.Cond.soleField "CartelWatchModel" "paid") ∈ lw_all := lw_g (lw_at lw_m3 231 rfl) rfl
theorem q733 : (Jvm.Cond.superclass "CartelWatchModel" "java/lang/Object") ∈ lw_all := lw_g (lw_at lw_m3 232 rfl) rfl
theorem q736 : (Jvm.Cond.instanceMethod ({ cls := "CartelWatchModel", name := "thrown", desc := "()I" } : Jvm.MethodName)) ∈ lw_all := lw_g (lw_at lw_m3 235 rfl) rfl
theorem q737 : (Jvm.Cond.selects "CartelWatchModel" ({ cls := "CartelWatchModel", name := "thrown", desc := "()I" } : Jvm.MethodName) ({ cls := "CartelWatchModel", name := "thrown", desc := "()I" } : Jvm.MethodName)) ∈ lw_all := lw_g (lw_at lw_m3 236 rfl) rfl
theorem q738 : (Jvm.Cond.code ({ cls := "CartelWatchModel", name := "thrown", desc := "()I" } : Jvm.MethodName) prog_8_method_2_code (1 : Nat) (Option.some Jvm.ClassFile.FieldType.int)) ∈ lw_all := lw_g (lw_at lw_m3 237 rfl) rfl
theorem q740 : (Jvm.Cond.instanceMethod ({ cls := "CartelWatchModel", name := "open", desc := "()I" } : Jvm.MethodName)) ∈ lw_all := lw_g (lw_at lw_m3 239 rfl) rfl
theorem q741 : (Jvm.Cond.selects "CartelWatchModel" ({ cls := "CartelWatchModel", name := "open", desc := "()I" } : Jvm.MethodName) ({ cls := "CartelWatchModel", name := "open", desc := "()I" } : Jvm.MethodName)) ∈ lw_all := lw_g (lw_at lw_m4 0 rfl) rfl
theorem q742 : (Jvm.Cond.code ({ cls := "CartelWatchModel", name := "open", desc := "()I" } : Jvm.MethodName) prog_8_method_9_code (1 : Nat) (Option.some Jvm.ClassFile.FieldType.int)) ∈ lw_all := lw_g (lw_at lw_m4 1 rfl) rfl
theorem q743 : (Jvm.Cond.methodLink "CartelWatchModel" (77 : Nat) ({ cls := "CartelWatchModel", name := "fails", desc := "(I)I" } : Jvm.MethodName)) ∈ lw_all := lw_g (lw_at lw_m4 2 rfl) rfl
theorem q744 : (Jvm.Cond.privateMethod ({ cls := "CartelWatchModel", name := "fails", desc := "(I)I" } : Jvm.MethodName)) ∈ lw_tbl := lw_at lw_m4 3 rfl
theorem q745 : (Jvm.Cond.instanceMethod ({ cls := "CartelWatchModel", name := "fails", desc := "(I)I" } : Jvm.MethodName)) ∈ lw_all := lw_g (lw_at lw_m4 4 rfl) rfl
theorem q746 : (Jvm.Cond.code ({ cls := "CartelWatchModel", name := "fails", desc := "(I)I" } : Jvm.MethodName) prog_8_method_3_code (2 : Nat) (Option.some Jvm.ClassFile.FieldType.int)) ∈ lw_all := lw_g (lw_at lw_m4 5 rfl) rfl
theorem q748 : (Jvm.Cond.instanceMethod ({ cls := "CartelWatchModel", name := "bid", desc := "(III)I" } : Jvm.MethodName)) ∈ lw_all := lw_g (lw_at lw_m4 7 rfl) rfl
theorem q749 : (Jvm.Cond.selects "CartelWatchModel" ({ cls := "CartelWatchModel", name := "bid", desc := "(III)I" } : Jvm.MethodName) ({ cls := "CartelWatchModel", name := "bid", desc := "(III)I" } : Jvm.MethodName)) ∈ lw_all := lw_g (lw_at lw_m4 8 rfl) rfl
theorem q750 : (Jvm.Cond.code ({ cls := "CartelWatchModel", name := "bid", desc := "(III)I" } : Jvm.MethodName) prog_8_method_12_code (4 : Nat) (Option.some Jvm.ClassFile.FieldType.int)) ∈ lw_all := lw_g (lw_at lw_m4 9 rfl) rfl
theorem q751 : (Jvm.Cond.methodLink "CartelWatchModel" (85 : Nat) ({ cls := "CartelWatchModel", name := "isTender", desc := "(I)Z" } : Jvm.MethodName)) ∈ lw_all := lw_g (lw_at lw_m4 10 rfl) rfl
theorem q752 : (Jvm.Cond.privateMethod ({ cls := "CartelWatchModel", name := "isTender", desc := "(I)Z" } : Jvm.MethodName)) ∈ lw_tbl := lw_at lw_m4 11 rfl
theorem q753 : (Jvm.Cond.instanceMethod ({ cls := "CartelWatchModel", name := "isTender", desc := "(I)Z" } : Jvm.MethodName)) ∈ lw_all := lw_g (lw_at lw_m4 12 rfl) rfl
theorem q754 : (Jvm.Cond.code ({ cls := "CartelWatchModel", name := "isTender", desc := "(I)Z" } : Jvm.MethodName) prog_8_method_6_code (2 : Nat) (Option.some Jvm.ClassFile.FieldType.boolean)) ∈ lw_all := lw_g (lw_at lw_m4 13 rfl) rfl
theorem q755 : (Jvm.Cond.methodLink "CartelWatchModel" (63 : Nat) ({ cls := "CartelWatchModel", name := "in", desc := "(III)Z" } : Jvm.MethodName)) ∈ lw_all := lw_g (lw_at lw_m4 14 rfl) rfl
theorem q756 : (Jvm.Cond.static ({ cls := "CartelWatchModel", name := "in", desc := "(III)Z" } : Jvm.MethodName)) ∈ lw_all := lw_g (lw_at lw_m4 15 rfl) rfl
theorem q757 : (Jvm.Cond.code ({ cls := "CartelWatchModel", name := "in", desc := "(III)Z" } : Jvm.MethodName) prog_8_method_4_code (3 : Nat) (Option.some Jvm.ClassFile.FieldType.boolean)) ∈ lw_all := lw_g (lw_at lw_m4 16 rfl) rfl
theorem q758 : (Jvm.Cond.methodLink "CartelWatchModel" (73 : Nat) ({ cls := "CartelWatchModel", name := "isBidder", desc := "(I)Z" } : Jvm.MethodName)) ∈ lw_all := lw_g (lw_at lw_m4 17 rfl) rfl
theorem q759 : (Jvm.Cond.static ({ cls := "CartelWatchModel", name := "isBidder", desc := "(I)Z" } : Jvm.MethodName)) ∈ lw_all := lw_g (lw_at lw_m4 18 rfl) rfl
theorem q760 : (Jvm.Cond.code ({ cls := "CartelWatchModel", name := "isBidder", desc := "(I)Z" } : Jvm.MethodName) prog_8_method_5_code (1 : Nat) (Option.some Jvm.ClassFile.FieldType.boolean)) ∈ lw_all := lw_g (lw_at lw_m4 19 rfl) rfl
theorem q761 : (Jvm.Cond.constant "CartelWatchModel" (88 : Nat) (100000 : Int32)) ∈ lw_all := lw_g (lw_at lw_m4 20 rfl) rfl
theorem q762 : (Jvm.Cond.methodLink "CartelWatchModel" (89 : Nat) ({ cls := "CartelWatchModel", name := "countBids", desc := "(I)I" } : Jvm.MethodName)) ∈ lw_all := lw_g (lw_at lw_m4 21 rfl) rfl
theorem q763 : (Jvm.Cond.privateMethod ({ cls := "CartelWatchModel", name := "countBids", desc := "(I)I" } : Jvm.MethodName)) ∈ lw_tbl := lw_at lw_m4 22 rfl
theorem q764 : (Jvm.Cond.instanceMethod ({ cls := "CartelWatchModel", name := "countBids", desc := "(I)I" } : Jvm.MethodName)) ∈ lw_all := lw_g (lw_at lw_m4 23 rfl) rfl
theorem q765 : (Jvm.Cond.code ({ cls := "CartelWatchModel", name := "countBids", desc := "(I)I" } : Jvm.MethodName) prog_8_method_11_code (4 : Nat) (Option.some Jvm.ClassFile.FieldType.int)) ∈ lw_all := lw_g (lw_at lw_m4 24 rfl) rfl
theorem q766 : (Jvm.Cond.methodLink "CartelWatchModel" (81 : Nat) ({ cls := "CartelWatchModel", name := "stands", desc := "(II)Z" } : Jvm.MethodName)) ∈ lw_all := lw_g (lw_at lw_m4 25 rfl) rfl
theorem q767 : (Jvm.Cond.privateMethod ({ cls := "CartelWatchModel", name := "stands", desc := "(II)Z" } : Jvm.MethodName)) ∈ lw_tbl := lw_at lw_m4 26 rfl
theorem q768 : (Jvm.Cond.instanceMethod ({ cls := "CartelWatchModel", name := "stands", desc := "(II)Z" } : Jvm.MethodName)) ∈ lw_all := lw_g (lw_at lw_m4 27 rfl) rfl
theorem q769 : (Jvm.Cond.code ({ cls := "CartelWatchModel", name := "stands", desc := "(II)Z" } : Jvm.MethodName) prog_8_method_10_code (3 : Nat) (Option.some Jvm.ClassFile.FieldType.boolean)) ∈ lw_all := lw_g (lw_at lw_m4 28 rfl) rfl
theorem q771 : (Jvm.Cond.instanceMethod ({ cls := "CartelWatchModel", name := "withdraw", desc := "(II)I" } : Jvm.MethodName)) ∈ lw_all := lw_g (lw_at lw_m4 30 rfl) rfl
theorem q772 : (Jvm.Cond.selects "CartelWatchModel" ({ cls := "CartelWatchModel", name := "withdraw", desc := "(II)I" } : Jvm.MethodName) ({ cls := "CartelWatchModel", name := "withdraw", desc := "(II)I" } : Jvm.MethodName)) ∈ lw_all := lw_g (lw_at lw_m4 31 rfl) rfl
theorem q773 : (Jvm.Cond.code ({ cls := "CartelWatchModel", name := "withdraw", desc := "(II)I" } : Jvm.MethodName) prog_8_method_13_code (3 : Nat) (Option.some Jvm.ClassFile.FieldType.int)) ∈ lw_all := lw_g (lw_at lw_m4 32 rfl) rfl
theorem q775 : (Jvm.Cond.instanceMethod ({ cls := "CartelWatchModel", name := "award", desc := "(I)I" } : Jvm.MethodName)) ∈ lw_all := lw_g (lw_at lw_m4 34 rfl) rfl
theorem q776 : (Jvm.Cond.selects "CartelWatchModel" ({ cls := "CartelWatchModel", name := "award", desc := "(I)I" } : Jvm.MethodName) ({ cls := "CartelWatchModel", name := "award", desc := "(I)I" } : Jvm.MethodName)) ∈ lw_all := lw_g (lw_at lw_m4 35 rfl) rfl
theorem q777 : (Jvm.Cond.code ({ cls := "CartelWatchModel", name := "award", desc := "(I)I" } : Jvm.MethodName) prog_8_method_14_code (5 : Nat) (Option.some Jvm.ClassFile.FieldType.int)) ∈ lw_all := lw_g (lw_at lw_m4 36 rfl) rfl
theorem q779 : (Jvm.Cond.instanceMethod ({ cls := "CartelWatchModel", name := "passOn", desc := "(III)I" } : Jvm.MethodName)) ∈ lw_all := lw_g (lw_at lw_m4 38 rfl) rfl
theorem q780 : (Jvm.Cond.selects "CartelWatchModel" ({ cls := "CartelWatchModel", name := "passOn", desc := "(III)I" } : Jvm.MethodName) ({ cls := "CartelWatchModel", name := "passOn", desc := "(III)I" } : Jvm.MethodName)) ∈ lw_all := lw_g (lw_at lw_m4 39 rfl) rfl
theorem q781 : (Jvm.Cond.code ({ cls := "CartelWatchModel", name := "passOn", desc := "(III)I" } : Jvm.MethodName) prog_8_method_16_code (4 : Nat) (Option.some Jvm.ClassFile.FieldType.int)) ∈ lw_all := lw_g (lw_at lw_m4 40 rfl) rfl
theorem q782 : (Jvm.Cond.methodLink "CartelWatchModel" (92 : Nat) ({ cls := "CartelWatchModel", name := "price", desc := "(I)I" } : Jvm.MethodName)) ∈ lw_all := lw_g (lw_at lw_m4 41 rfl) rfl
theorem q783 : (Jvm.Cond.privateMethod ({ cls := "CartelWatchModel", name := "price", desc := "(I)I" } : Jvm.MethodName)) ∈ lw_tbl := lw_at lw_m4 42 rfl
theorem q784 : (Jvm.Cond.instanceMethod ({ cls := "CartelWatchModel", name := "price", desc := "(I)I" } : Jvm.MethodName)) ∈ lw_all := lw_g (lw_at lw_m4 43 rfl) rfl
theorem q785 : (Jvm.Cond.code ({ cls := "CartelWatchModel", name := "price", desc := "(I)I" } : Jvm.MethodName) prog_8_method_15_code (2 : Nat) (Option.some Jvm.ClassFile.FieldType.int)) ∈ lw_all := lw_g (lw_at lw_m4 44 rfl) rfl
theorem q787 : (Jvm.Cond.instanceMethod ({ cls := "CartelWatchModel", name := "turnover", desc := "(I)I" } : Jvm.MethodName)) ∈ lw_all := lw_g (lw_at lw_m4 46 rfl) rfl
theorem q788 : (Jvm.Cond.selects "CartelWatchModel" ({ cls := "CartelWatchModel", name := "turnover", desc := "(I)I" } : Jvm.MethodName) ({ cls := "CartelWatchModel", name := "turnover", desc := "(I)I" } : Jvm.MethodName)) ∈ lw_all := lw_g (lw_at lw_m4 47 rfl) rfl
theorem q789 : (Jvm.Cond.code ({ cls := "CartelWatchModel", name := "turnover", desc := "(I)I" } : Jvm.MethodName) prog_8_method_18_code (2 : Nat) (Option.some Jvm.ClassFile.FieldType.int)) ∈ lw_all := lw_g (lw_at lw_m4 48 rfl) rfl
theorem q790 : (Jvm.Cond.methodLink "CartelWatchModel" (95 : Nat) ({ cls := "CartelWatchModel", name := "turnoverOf", desc := "(I)I" } : Jvm.MethodName)) ∈ lw_all := lw_g (lw_at lw_m4 49 rfl) rfl
theorem q791 : (Jvm.Cond.privateMethod ({ cls := "CartelWatchModel", name := "turnoverOf", desc := "(I)I" } : Jvm.MethodName)) ∈ lw_tbl := lw_at lw_m4 50 rfl
theorem q792 : (Jvm.Cond.instanceMethod ({ cls := "CartelWatchModel", name := "turnoverOf", desc := "(I)I" } : Jvm.MethodName)) ∈ lw_all := lw_g (lw_at lw_m4 51 rfl) rfl
theorem q793 : (Jvm.Cond.code ({ cls := "CartelWatchModel", name := "turnoverOf", desc := "(I)I" } : Jvm.MethodName) prog_8_method_17_code (4 : Nat) (Option.some Jvm.ClassFile.FieldType.int)) ∈ lw_all := lw_g (lw_at lw_m4 52 rfl) rfl
theorem q795 : (Jvm.Cond.instanceMethod ({ cls := "CartelWatchModel", name := "won", desc := "(I)I" } : Jvm.MethodName)) ∈ lw_all := lw_g (lw_at lw_m4 54 rfl) rfl
theorem q796 : (Jvm.Cond.selects "CartelWatchModel" ({ cls := "CartelWatchModel", name := "won", desc := "(I)I" } : Jvm.MethodName) ({ cls := "CartelWatchModel", name := "won", desc := "(I)I" } : Jvm.MethodName)) ∈ lw_all := lw_g (lw_at lw_m4 55 rfl) rfl
theorem q797 : (Jvm.Cond.code ({ cls := "CartelWatchModel", name := "won", desc := "(I)I" } : Jvm.MethodName) prog_8_method_19_code (4 : Nat) (Option.some Jvm.ClassFile.FieldType.int)) ∈ lw_all := lw_g (lw_at lw_m4 56 rfl) rfl
theorem q799 : (Jvm.Cond.instanceMethod ({ cls := "CartelWatchModel", name := "suspicion", desc := "(II)I" } : Jvm.MethodName)) ∈ lw_all := lw_g (lw_at lw_m4 58 rfl) rfl
theorem q800 : (Jvm.Cond.selects "CartelWatchModel" ({ cls := "CartelWatchModel", name := "suspicion", desc := "(II)I" } : Jvm.MethodName) ({ cls := "CartelWatchModel", name := "suspicion", desc := "(II)I" } : Jvm.MethodName)) ∈ lw_all := lw_g (lw_at lw_m4 59 rfl) rfl
theorem q801 : (Jvm.Cond.code ({ cls := "CartelWatchModel", name := "suspicion", desc := "(II)I" } : Jvm.MethodName) prog_8_method_23_code (3 : Nat) (Option.some Jvm.ClassFile.FieldType.int)) ∈ lw_all := lw_g (lw_at lw_m4 60 rfl) rfl
theorem q802 : (Jvm.Cond.methodLink "CartelWatchModel" (105 : Nat) ({ cls := "CartelWatchModel", name := "isPair", desc := "(II)Z" } : Jvm.MethodName)) ∈ lw_all := lw_g (lw_at lw_m4 61 rfl) rfl
theorem q803 : (Jvm.Cond.static ({ cls := "CartelWatchModel", name := "isPair", desc := "(II)Z" } : Jvm.MethodName)) ∈ lw_all := lw_g (lw_at lw_m4 62 rfl) rfl
theorem q804 : (Jvm.Cond.code ({ cls := "CartelWatchModel", name := "isPair", desc := "(II)Z" } : Jvm.MethodName) prog_8_method_8_code (2 : Nat) (Option.some Jvm.ClassFile.FieldType.boolean)) ∈ lw_all := lw_g (lw_at lw_m4 63 rfl) rfl
theorem q805 : (Jvm.Cond.methodLink "CartelWatchModel" (108 : Nat) ({ cls := "CartelWatchModel", name := "suspicionOf", desc := "(II)I" } : Jvm.MethodName)) ∈ lw_all := lw_g (lw_at lw_m4 64 rfl) rfl
theorem q806 : (Jvm.Cond.privateMethod ({ cls := "CartelWatchModel", name := "suspicionOf", desc := "(II)I" } : Jvm.MethodName)) ∈ lw_tbl := lw_at lw_m4 65 rfl
theorem q807 : (Jvm.Cond.instanceMethod ({ cls := "CartelWatchModel", name := "suspicionOf", desc := "(II)I" } : Jvm.MethodName)) ∈ lw_all := lw_g (lw_at lw_m4 66 rfl) rfl
theorem q808 : (Jvm.Cond.code ({ cls := "CartelWatchModel", name := "suspicionOf", desc := "(II)I" } : Jvm.MethodName) prog_8_method_22_code (5 : Nat) (Option.some Jvm.ClassFile.FieldType.int)) ∈ lw_all := lw_g (lw_at lw_m4 67 rfl) rfl
theorem q809 : (Jvm.Cond.methodLink "CartelWatchModel" (101 : Nat) ({ cls := "CartelWatchModel", name := "signOf", desc := "(III)I" } : Jvm.MethodName)) ∈ lw_all := lw_g (lw_at lw_m4 68 rfl) rfl
theorem q810 : (Jvm.Cond.privateMethod ({ cls := "CartelWatchModel", name := "signOf", desc := "(III)I" } : Jvm.MethodName)) ∈ lw_tbl := lw_at lw_m4 69 rfl
theorem q811 : (Jvm.Cond.instanceMethod ({ cls := "CartelWatchModel", name := "signOf", desc := "(III)I" } : Jvm.MethodName)) ∈ lw_all := lw_g (lw_at lw_m4 70 rfl) rfl
theorem q812 : (Jvm.Cond.code ({ cls := "CartelWatchModel", name := "signOf", desc := "(III)I" } : Jvm.MethodName) prog_8_method_21_code (10 : Nat) (Option.some Jvm.ClassFile.FieldType.int)) ∈ lw_all := lw_g (lw_at lw_m4 71 rfl) rfl
theorem q813 : (Jvm.Cond.methodLink "CartelWatchModel" (98 : Nat) ({ cls := "CartelWatchModel", name := "isTurn", desc := "(III)Z" } : Jvm.MethodName)) ∈ lw_all := lw_g (lw_at lw_m4 72 rfl) rfl
theorem q814 : (Jvm.Cond.privateMethod ({ cls := "CartelWatchModel", name := "isTurn", desc := "(III)Z" } : Jvm.MethodName)) ∈ lw_tbl := lw_at lw_m4 73 rfl
theorem q815 : (Jvm.Cond.instanceMethod ({ cls := "CartelWatchModel", name := "isTurn", desc := "(III)Z" } : Jvm.MethodName)) ∈ lw_all := lw_g (lw_at lw_m4 74 rfl) rfl
theorem q816 : (Jvm.Cond.code ({ cls := "CartelWatchModel", name := "isTurn", desc := "(III)Z" } : Jvm.MethodName) prog_8_method_20_code (6 : Nat) (Option.some Jvm.ClassFile.FieldType.boolean)) ∈ lw_all := lw_g (lw_at lw_m4 75 rfl) rfl
theorem q818 : (Jvm.Cond.instanceMethod ({ cls := "CartelWatchModel", name := "sign", desc := "(III)I" } : Jvm.MethodName)) ∈ lw_all := lw_g (lw_at lw_m4 77 rfl) rfl
theorem q819 : (Jvm.Cond.selects "CartelWatchModel" ({ cls := "CartelWatchModel", name := "sign", desc := "(III)I" } : Jvm.MethodName) ({ cls := "CartelWatchModel", name := "sign", desc := "(III)I" } : Jvm.MethodName)) ∈ lw_all := lw_g (lw_at lw_m4 78 rfl) rfl
theorem q820 : (Jvm.Cond.code ({ cls := "CartelWatchModel", name := "sign", desc := "(III)I" } : Jvm.MethodName) prog_8_method_24_code (4 : Nat) (Option.some Jvm.ClassFile.FieldType.int)) ∈ lw_all := lw_g (lw_at lw_m4 79 rfl) rfl
theorem q822 : (Jvm.Cond.instanceMethod ({ cls := "CartelWatchModel", name := "setMark", desc := "(I)I" } : Jvm.MethodName)) ∈ lw_all := lw_g (lw_at lw_m4 81 rfl) rfl
theorem q823 : (Jvm.Cond.selects "CartelWatchModel" ({ cls := "CartelWatchModel", name := "setMark", desc := "(I)I" } : Jvm.MethodName) ({ cls := "CartelWatchModel", name := "setMark", desc := "(I)I" } : Jvm.MethodName)) ∈ lw_all := lw_g (lw_at lw_m4 82 rfl) rfl
theorem q824 : (Jvm.Cond.code ({ cls := "CartelWatchModel", name := "setMark", desc := "(I)I" } : Jvm.MethodName) prog_8_method_25_code (3 : Nat) (Option.some Jvm.ClassFile.FieldType.int)) ∈ lw_all := lw_g (lw_at lw_m4 83 rfl) rfl
theorem q826 : (Jvm.Cond.instanceMethod ({ cls := "CartelWatchModel", name := "worst", desc := "()I" } : Jvm.MethodName)) ∈ lw_all := lw_g (lw_at lw_m4 85 rfl) rfl
theorem q827 : (Jvm.Cond.selects "CartelWatchModel" ({ cls := "CartelWatchModel", name := "worst", desc := "()I" } : Jvm.MethodName) ({ cls := "CartelWatchModel", name := "worst", desc := "()I" } : Jvm.MethodName)) ∈ lw_all := lw_g (lw_at lw_m4 86 rfl) rfl
theorem q828 : (Jvm.Cond.code ({ cls := "CartelWatchModel", name := "worst", desc := "()I" } : Jvm.MethodName) prog_8_method_26_code (6 : Nat) (Option.some Jvm.ClassFile.FieldType.int)) ∈ lw_all := lw_g (lw_at lw_m4 87 rfl) rfl
theorem q830 : (Jvm.Cond.instanceMethod ({ cls := "CartelWatchModel", name := "file", desc := "(II)I" } : Jvm.MethodName)) ∈ lw_all := lw_g (lw_at lw_m4 89 rfl) rfl
theorem q831 : (Jvm.Cond.selects "CartelWatchModel" ({ cls := "CartelWatchModel", name := "file", desc := "(II)I" } : Jvm.MethodName) ({ cls := "CartelWatchModel", name := "file", desc := "(II)I" } : Jvm.MethodName)) ∈ lw_all := lw_g (lw_at lw_m4 90 rfl) rfl
theorem q832 : (Jvm.Cond.code ({ cls := "CartelWatchModel", name := "file", desc := "(II)I" } : Jvm.MethodName) prog_8_method_27_code (7 : Nat) (Option.some Jvm.ClassFile.FieldType.int)) ∈ lw_all := lw_g (lw_at lw_m4 91 rfl) rfl
theorem q834 : (Jvm.Cond.instanceMethod ({ cls := "CartelWatchModel", name := "matters", desc := "(I)I" } : Jvm.MethodName)) ∈ lw_all := lw_g (lw_at lw_m4 93 rfl) rfl
theorem q835 : (Jvm.Cond.selects "CartelWatchModel" ({ cls := "CartelWatchModel", name := "matters", desc := "(I)I" } : Jvm.MethodName) ({ cls := "CartelWatchModel", name := "matters", desc := "(I)I" } : Jvm.MethodName)) ∈ lw_all := lw_g (lw_at lw_m4 94 rfl) rfl
theorem q836 : (Jvm.Cond.code ({ cls := "CartelWatchModel", name := "matters", desc := "(I)I" } : Jvm.MethodName) prog_8_method_29_code (2 : Nat) (Option.some Jvm.ClassFile.FieldType.int)) ∈ lw_all := lw_g (lw_at lw_m4 95 rfl) rfl
theorem q837 : (Jvm.Cond.methodLink "CartelWatchModel" (112 : Nat) ({ cls := "CartelWatchModel", name := "isFile", desc := "(I)Z" } : Jvm.MethodName)) ∈ lw_all := lw_g (lw_at lw_m4 96 rfl) rfl
theorem q838 : (Jvm.Cond.privateMethod ({ cls := "CartelWatchModel", name := "isFile", desc := "(I)Z" } : Jvm.MethodName)) ∈ lw_tbl := lw_at lw_m4 97 rfl
theorem q839 : (Jvm.Cond.instanceMethod ({ cls := "CartelWatchModel", name := "isFile", desc := "(I)Z" } : Jvm.MethodName)) ∈ lw_all := lw_g (lw_at lw_m4 98 rfl) rfl
theorem q840 : (Jvm.Cond.code ({ cls := "CartelWatchModel", name := "isFile", desc := "(I)Z" } : Jvm.MethodName) prog_8_method_7_code (2 : Nat) (Option.some Jvm.ClassFile.FieldType.boolean)) ∈ lw_all := lw_g (lw_at lw_m4 99 rfl) rfl
theorem q841 : (Jvm.Cond.methodLink "CartelWatchModel" (115 : Nat) ({ cls := "CartelWatchModel", name := "count", desc := "(I)I" } : Jvm.MethodName)) ∈ lw_all := lw_g (lw_at lw_m4 100 rfl) rfl
theorem q842 : (Jvm.Cond.static ({ cls := "CartelWatchModel", name := "count", desc := "(I)I" } : Jvm.MethodName)) ∈ lw_all := lw_g (lw_at lw_m4 101 rfl) rfl
theorem q843 : (Jvm.Cond.code ({ cls := "CartelWatchModel", name := "count", desc := "(I)I" } : Jvm.MethodName) prog_8_method_28_code (3 : Nat) (Option.some Jvm.ClassFile.FieldType.int)) ∈ lw_all := lw_g (lw_at lw_m4 102 rfl) rfl
theorem q845 : (Jvm.Cond.instanceMethod ({ cls := "CartelWatchModel", name := "tell", desc := "(III)Z" } : Jvm.MethodName)) ∈ lw_all := lw_g (lw_at lw_m4 104 rfl) rfl
theorem q846 : (Jvm.Cond.selects "CartelWatchModel" ({ cls := "CartelWatchModel", name := "tell", desc := "(III)Z" } : Jvm.MethodName) ({ cls := "CartelWatchModel", name := "tell", desc := "(III)Z" } : Jvm.MethodName)) ∈ lw_all := lw_g (lw_at lw_m4 105 rfl) rfl
theorem q847 : (Jvm.Cond.code ({ cls := "CartelWatchModel", name := "tell", desc := "(III)Z" } : Jvm.MethodName) prog_8_method_31_code (5 : Nat) (Option.some Jvm.ClassFile.FieldType.boolean)) ∈ lw_all := lw_g (lw_at lw_m4 106 rfl) rfl
theorem q848 : (Jvm.Cond.methodLink "CartelWatchModel" (118 : Nat) ({ cls := "CartelWatchModel", name := "isOf", desc := "(II)Z" } : Jvm.MethodName)) ∈ lw_all := lw_g (lw_at lw_m4 107 rfl) rfl
theorem q849 : (Jvm.Cond.privateMethod ({ cls := "CartelWatchModel", name := "isOf", desc := "(II)Z" } : Jvm.MethodName)) ∈ lw_tbl := lw_at lw_m4 108 rfl
theorem q850 : (Jvm.Cond.instanceMethod ({ cls := "CartelWatchModel", name := "isOf", desc := "(II)Z" } : Jvm.MethodName)) ∈ lw_all := lw_g (lw_at lw_m4 109 rfl) rfl
theorem q851 : (Jvm.Cond.code ({ cls := "CartelWatchModel", name := "isOf", desc := "(II)Z" } : Jvm.MethodName) prog_8_method_30_code (3 : Nat) (Option.some Jvm.ClassFile.FieldType.boolean)) ∈ lw_all := lw_g (lw_at lw_m4 110 rfl) rfl
theorem q853 : (Jvm.Cond.instanceMethod ({ cls := "CartelWatchModel", name := "compensate", desc := "(II)I" } : Jvm.MethodName)) ∈ lw_all := lw_g (lw_at lw_m4 112 rfl) rfl
theorem q854 : (Jvm.Cond.selects "CartelWatchModel" ({ cls := "CartelWatchModel", name := "compensate", desc := "(II)I" } : Jvm.MethodName) ({ cls := "CartelWatchModel", name := "compensate", desc := "(II)I" } : Jvm.MethodName)) ∈ lw_all := lw_g (lw_at lw_m4 113 rfl) rfl
theorem q855 : (Jvm.Cond.code ({ cls := "CartelWatchModel", name := "compensate", desc := "(II)I" } : Jvm.MethodName) prog_8_method_32_code (3 : Nat) (Option.some Jvm.ClassFile.FieldType.int)) ∈ lw_all := lw_g (lw_at lw_m4 114 rfl) rfl
theorem q857 : (Jvm.Cond.instanceMethod ({ cls := "CartelWatchModel", name := "close", desc := "(I)I" } : Jvm.MethodName)) ∈ lw_all := lw_g (lw_at lw_m4 116 rfl) rfl
theorem q858 : (Jvm.Cond.selects "CartelWatchModel" ({ cls := "CartelWatchModel", name := "close", desc := "(I)I" } : Jvm.MethodName) ({ cls := "CartelWatchModel", name := "close", desc := "(I)I" } : Jvm.MethodName)) ∈ lw_all := lw_g (lw_at lw_m4 117 rfl) rfl
theorem q859 : (Jvm.Cond.code ({ cls := "CartelWatchModel", name := "close", desc := "(I)I" } : Jvm.MethodName) prog_8_method_34_code (2 : Nat) (Option.some Jvm.ClassFile.FieldType.int)) ∈ lw_all := lw_g (lw_at lw_m4 118 rfl) rfl
theorem q860 : (Jvm.Cond.methodLink "CartelWatchModel" (121 : Nat) ({ cls := "CartelWatchModel", name := "fineFor", desc := "(III)I" } : Jvm.MethodName)) ∈ lw_all := lw_g (lw_at lw_m4 119 rfl) rfl
theorem q861 : (Jvm.Cond.privateMethod ({ cls := "CartelWatchModel", name := "fineFor", desc := "(III)I" } : Jvm.MethodName)) ∈ lw_tbl := lw_at lw_m4 120 rfl
theorem q862 : (Jvm.Cond.instanceMethod ({ cls := "CartelWatchModel", name := "fineFor", desc := "(III)I" } : Jvm.MethodName)) ∈ lw_all := lw_g (lw_at lw_m4 121 rfl) rfl
theorem q863 : (Jvm.Cond.code ({ cls := "CartelWatchModel", name := "fineFor", desc := "(III)I" } : Jvm.MethodName) prog_8_method_33_code (7 : Nat) (Option.some Jvm.ClassFile.FieldType.int)) ∈ lw_all := lw_g (lw_at lw_m4 122 rfl) rfl
theorem q865 : (Jvm.Cond.instanceMethod ({ cls := "CartelWatchModel", name := "fine", desc := "(II)I" } : Jvm.MethodName)) ∈ lw_all := lw_g (lw_at lw_m4 124 rfl) rfl
theorem q866 : (Jvm.Cond.selects "CartelWatchModel" ({ cls := "CartelWatchModel", name := "fine", desc := "(II)I" } : Jvm.MethodName) ({ cls := "CartelWatchModel", name := "fine", desc := "(II)I" } : Jvm.MethodName)) ∈ lw_all := lw_g (lw_at lw_m4 125 rfl) rfl
theorem q867 : (Jvm.Cond.code ({ cls := "CartelWatchModel", name := "fine", desc := "(II)I" } : Jvm.MethodName) prog_8_method_35_code (3 : Nat) (Option.some Jvm.ClassFile.FieldType.int)) ∈ lw_all := lw_g (lw_at lw_m4 126 rfl) rfl
theorem q869 : (Jvm.Cond.instanceMethod ({ cls := "CartelWatchModel", name := "firstTeller", desc := "(I)I" } : Jvm.MethodName)) ∈ lw_all := lw_g (lw_at lw_m4 128 rfl) rfl
theorem q870 : (Jvm.Cond.selects "CartelWatchModel" ({ cls := "CartelWatchModel", name := "firstTeller", desc := "(I)I" } : Jvm.MethodName) ({ cls := "CartelWatchModel", name := "firstTeller", desc := "(I)I" } : Jvm.MethodName)) ∈ lw_all := lw_g (lw_at lw_m4 129 rfl) rfl
theorem q871 : (Jvm.Cond.code ({ cls := "CartelWatchModel", name := "firstTeller", desc := "(I)I" } : Jvm.MethodName) prog_8_method_36_code (2 : Nat) (Option.some Jvm.ClassFile.FieldType.int)) ∈ lw_all := lw_g (lw_at lw_m4 130 rfl) rfl
theorem q879 : (Jvm.Cond.castable "CartelWatchModel" "java/lang/Object") ∈ lw_tbl := lw_at lw_m4 138 rfl
theorem in_X2 : ∀ w ∈ wsX20, w ∈ lw_all := lw_in wsX20 [695, 697, 699, 701, 703, 705, 707, 709, 711, 713, 715, 717, 719, 721, 723, 725, 727, 729, 731] (by decide +kernel) (by decide +kernel)
