/-! BilletBars -/
set_option maxRecDepth 100000
def RX0 : String := "BilletBars"
def TX0 : u_T := fun k => match k with
  | 0 => ("BilletBars", "profiles", "[LBilletBars$Profile;", true)
  | 1 => ("BilletBars", "profileMany", "I", false)
  | 2 => ("BilletBars", "dies", "[LBilletBars$Die;", true)
  | 3 => ("BilletBars", "dieMany", "I", false)
  | 4 => ("BilletBars", "tick", "I", false)
  | 5 => ("BilletBars", "laws", "[I", true)
  | 6 => ("BilletBars", "head", "LBilletBars$End;", true)
  | 7 => ("BilletBars", "tail", "LBilletBars$End;", true)
  | 8 => ("BilletBars", "weld", "LBilletBars$Weld;", true)
  | 9 => ("BilletBars", "bars", "[LBilletBars$Bar;", true)
  | 10 => ("BilletBars", "barMany", "I", false)
  | 11 => ("BilletBars", "latestDie", "LBilletBars$Die;", false)
  | 12 => ("BilletBars", "latestTick", "I", false)
  | 13 => ("BilletBars", "numbers", "[I", true)
  | 14 => ("BilletBars", "goods", "I", false)
  | 15 => ("BilletBars", "stock", "[I", true)
  | 16 => ("BilletBars", "stockMany", "I", false)
  | 17 => ("BilletBars", "jobs", "[[I", true)
  | 18 => ("BilletBars", "jobMany", "I", false)
  | 19 => ("BilletBars", "change", "I", false)
  | 20 => ("BilletBars", "tried", "[I", true)
  | 21 => ("BilletBars", "planned", "[I", true)
  | 22 => ("BilletBars", "leastLate", "I", false)
  | 23 => ("BilletBars", "leastEnd", "I", false)
  | 24 => ("BilletBars", "room", "I", false)
  | 25 => ("BilletBars", "batchMany", "I", false)
  | 26 => ("BilletBars", "sheets", "[LBilletBars$Sheet;", true)
  | _ => ("BilletBars", "finding", "I", false)
def tyX0 : Nat → FieldType := fun k => match k with
  | 0 => .array (.object "BilletBars$Profile")
  | 1 => .int
  | 2 => .array (.object "BilletBars$Die")
  | 3 => .int
  | 4 => .int
  | 5 => .array .int
  | 6 => .object "BilletBars$End"
  | 7 => .object "BilletBars$End"
  | 8 => .object "BilletBars$Weld"
  | 9 => .array (.object "BilletBars$Bar")
  | 10 => .int
  | 11 => .object "BilletBars$Die"
  | 12 => .int
  | 13 => .array .int
  | 14 => .int
  | 15 => .array .int
  | 16 => .int
  | 17 => .array (.array .int)
  | 18 => .int
  | 19 => .int
  | 20 => .array .int
  | 21 => .array .int
  | 22 => .int
  | 23 => .int
  | 24 => .int
  | 25 => .int
  | 26 => .array (.object "BilletBars$Sheet")
  | _ => .int
abbrev wsX00 : List Cond := u_ws RX0 TX0 28
set_option maxRecDepth 100000 in
theorem nmX0 : ∀ a, a < 28 → ∀ b, b < 28 → a ≠ b → (TX0 a).2.1 ≠ (TX0 b).2.1 := by decide +kernel
set_option maxRecDepth 100000 in
theorem tyX0_ok : ∀ k, k < 28 → parseFieldDescriptor (TX0 k).2.2.1 = some (tyX0 k) := by decide +kernel
abbrev cX0_init : ByteArray := prog_1_method_2_code
def yX0_init : MethodName := ⟨RX0, "<init>", "()V"⟩
def dkwX0_init_8 : List UInt8 := [183, 0, 83, 83, 132, 1, 1, 167, 255, 235, 177]
abbrev dktX0_init_8 : List UInt8 := dkwX0_init_8 ++ []
def dkwX0_init_7 : List UInt8 := [189, 0, 77, 181, 0, 79, 3, 60, 27, 7, 162, 0, 22, 42, 180, 0, 79, 27, 187, 0, 77, 89]
abbrev dktX0_init_7 : List UInt8 := dkwX0_init_7 ++ dktX0_init_8
def dkwX0_init_6 : List UInt8 := [42, 16, 7, 188, 10, 181, 0, 67, 42, 16, 7, 188, 10, 181, 0, 70, 42, 18, 73, 181, 0, 74, 42, 7]
abbrev dktX0_init_6 : List UInt8 := dkwX0_init_6 ++ dktX0_init_7
def dkwX0_init_5 : List UInt8 := [42, 16, 6, 188, 10, 181, 0, 55, 42, 16, 7, 6, 197, 0, 58, 2, 181, 0, 60, 42, 5, 181, 0, 63]
abbrev dktX0_init_5 : List UInt8 := dkwX0_init_5 ++ dktX0_init_6
def dkwX0_init_4 : List UInt8 := [42, 183, 0, 39, 181, 0, 42, 42, 17, 0, 200, 189, 0, 46, 181, 0, 48, 42, 6, 188, 10, 181, 0, 52]
abbrev dktX0_init_4 : List UInt8 := dkwX0_init_4 ++ dktX0_init_5
def dkwX0_init_3 : List UInt8 := [183, 0, 27, 181, 0, 30, 42, 187, 0, 25, 89, 42, 5, 183, 0, 27, 181, 0, 34, 42, 187, 0, 37, 89]
abbrev dktX0_init_3 : List UInt8 := dkwX0_init_3 ++ dktX0_init_4
def dkwX0_init_2 : List UInt8 := [17, 1, 144, 79, 89, 7, 8, 79, 89, 8, 8, 79, 181, 0, 21, 42, 187, 0, 25, 89, 42, 4]
abbrev dktX0_init_2 : List UInt8 := dkwX0_init_2 ++ dktX0_init_3
def dkwX0_init_1 : List UInt8 := [16, 6, 188, 10, 89, 3, 16, 20, 79, 89, 4, 17, 1, 244, 79, 89, 5, 17, 1, 44, 79, 89, 6]
abbrev dktX0_init_1 : List UInt8 := dkwX0_init_1 ++ dktX0_init_2
def dkwX0_init_0 : List UInt8 := [42, 183, 0, 1, 42, 16, 8, 189, 0, 9, 181, 0, 11, 42, 16, 12, 189, 0, 15, 181, 0, 17, 42]
abbrev dktX0_init_0 : List UInt8 := dkwX0_init_0 ++ dktX0_init_1
theorem dksX0_init_0 : cX0_init.data.toList.drop 0 = dktX0_init_0 := by decide +kernel
theorem dksX0_init_1 : cX0_init.data.toList.drop 23 = dktX0_init_1 := dk_seg dksX0_init_0 23 rfl rfl
theorem dksX0_init_2 : cX0_init.data.toList.drop 46 = dktX0_init_2 := dk_seg dksX0_init_1 23 rfl rfl
theorem dksX0_init_3 : cX0_init.data.toList.drop 68 = dktX0_init_3 := dk_seg dksX0_init_2 22 rfl rfl
theorem dksX0_init_4 : cX0_init.data.toList.drop 92 = dktX0_init_4 := dk_seg dksX0_init_3 24 rfl rfl
theorem dksX0_init_5 : cX0_init.data.toList.drop 116 = dktX0_init_5 := dk_seg dksX0_init_4 24 rfl rfl
theorem dksX0_init_6 : cX0_init.data.toList.drop 140 = dktX0_init_6 := dk_seg dksX0_init_5 24 rfl rfl
theorem dksX0_init_7 : cX0_init.data.toList.drop 164 = dktX0_init_7 := dk_seg dksX0_init_6 24 rfl rfl
theorem dksX0_init_8 : cX0_init.data.toList.drop 186 = dktX0_init_8 := dk_seg dksX0_init_7 22 rfl rfl
theorem dX0_init_0 : decode cX0_init 0 = .ok (.aload_n 0, 1) := dk_42 (dk_at dksX0_init_0 0 rfl rfl)
theorem dX0_init_1 : decode cX0_init 1 = .ok (.invokespecial 1, 3) := dk_183 0 1 (dk_at dksX0_init_0 1 rfl rfl)
theorem dX0_init_4 : decode cX0_init 4 = .ok (.aload_n 0, 1) := dk_42 (dk_at dksX0_init_0 4 rfl rfl)
theorem dX0_init_5 : decode cX0_init 5 = .ok (.bipush 8, 2) := dk_16 8 (dk_at dksX0_init_0 5 rfl rfl)
theorem dX0_init_7 : decode cX0_init 7 = .ok (.anewarray 9, 3) := dk_189 0 9 (dk_at dksX0_init_0 7 rfl rfl)
theorem dX0_init_10 : decode cX0_init 10 = .ok (.putfield 11, 3) := dk_181 0 11 (dk_at dksX0_init_0 10 rfl rfl)
theorem dX0_init_13 : decode cX0_init 13 = .ok (.aload_n 0, 1) := dk_42 (dk_at dksX0_init_0 13 rfl rfl)
theorem dX0_init_14 : decode cX0_init 14 = .ok (.bipush 12, 2) := dk_16 12 (dk_at dksX0_init_0 14 rfl rfl)
theorem dX0_init_16 : decode cX0_init 16 = .ok (.anewarray 15, 3) := dk_189 0 15 (dk_at dksX0_init_0 16 rfl rfl)
theorem dX0_init_19 : decode cX0_init 19 = .ok (.putfield 17, 3) := dk_181 0 17 (dk_at dksX0_init_0 19 rfl rfl)
theorem dX0_init_22 : decode cX0_init 22 = .ok (.aload_n 0, 1) := dk_42 (dk_at dksX0_init_0 22 rfl rfl)
theorem dX0_init_23 : decode cX0_init 23 = .ok (.bipush 6, 2) := dk_16 6 (dk_at dksX0_init_1 0 rfl rfl)
theorem dX0_init_25 : decode cX0_init 25 = .ok (.newarray .int, 2) := dk_188_10 (dk_at dksX0_init_1 2 rfl rfl)
theorem dX0_init_27 : decode cX0_init 27 = .ok (.dup, 1) := dk_89 (dk_at dksX0_init_1 4 rfl rfl)
theorem dX0_init_28 : decode cX0_init 28 = .ok (.iconst 0, 1) := dk_3 (dk_at dksX0_init_1 5 rfl rfl)
theorem dX0_init_29 : decode cX0_init 29 = .ok (.bipush 20, 2) := dk_16 20 (dk_at dksX0_init_1 6 rfl rfl)
theorem dX0_init_31 : decode cX0_init 31 = .ok (.iastore, 1) := dk_79 (dk_at dksX0_init_1 8 rfl rfl)
theorem dX0_init_32 : decode cX0_init 32 = .ok (.dup, 1) := dk_89 (dk_at dksX0_init_1 9 rfl rfl)
theorem dX0_init_33 : decode cX0_init 33 = .ok (.iconst 1, 1) := dk_4 (dk_at dksX0_init_1 10 rfl rfl)
theorem dX0_init_34 : decode cX0_init 34 = .ok (.sipush 500, 3) := dk_17 1 244 (dk_at dksX0_init_1 11 rfl rfl)
theorem dX0_init_37 : decode cX0_init 37 = .ok (.iastore, 1) := dk_79 (dk_at dksX0_init_1 14 rfl rfl)
theorem dX0_init_38 : decode cX0_init 38 = .ok (.dup, 1) := dk_89 (dk_at dksX0_init_1 15 rfl rfl)
theorem dX0_init_39 : decode cX0_init 39 = .ok (.iconst 2, 1) := dk_5 (dk_at dksX0_init_1 16 rfl rfl)
theorem dX0_init_40 : decode cX0_init 40 = .ok (.sipush 300, 3) := dk_17 1 44 (dk_at dksX0_init_1 17 rfl rfl)
theorem dX0_init_43 : decode cX0_init 43 = .ok (.iastore, 1) := dk_79 (dk_at dksX0_init_1 20 rfl rfl)
theorem dX0_init_44 : decode cX0_init 44 = .ok (.dup, 1) := dk_89 (dk_at dksX0_init_1 21 rfl rfl)
theorem dX0_init_45 : decode cX0_init 45 = .ok (.iconst 3, 1) := dk_6 (dk_at dksX0_init_1 22 rfl rfl)
theorem dX0_init_46 : decode cX0_init 46 = .ok (.sipush 400, 3) := dk_17 1 144 (dk_at dksX0_init_2 0 rfl rfl)
theorem dX0_init_49 : decode cX0_init 49 = .ok (.iastore, 1) := dk_79 (dk_at dksX0_init_2 3 rfl rfl)
theorem dX0_init_50 : decode cX0_init 50 = .ok (.dup, 1) := dk_89 (dk_at dksX0_init_2 4 rfl rfl)
theorem dX0_init_51 : decode cX0_init 51 = .ok (.iconst 4, 1) := dk_7 (dk_at dksX0_init_2 5 rfl rfl)
theorem dX0_init_52 : decode cX0_init 52 = .ok (.iconst 5, 1) := dk_8 (dk_at dksX0_init_2 6 rfl rfl)
theorem dX0_init_53 : decode cX0_init 53 = .ok (.iastore, 1) := dk_79 (dk_at dksX0_init_2 7 rfl rfl)
theorem dX0_init_54 : decode cX0_init 54 = .ok (.dup, 1) := dk_89 (dk_at dksX0_init_2 8 rfl rfl)
theorem dX0_init_55 : decode cX0_init 55 = .ok (.iconst 5, 1) := dk_8 (dk_at dksX0_init_2 9 rfl rfl)
theorem dX0_init_56 : decode cX0_init 56 = .ok (.iconst 5, 1) := dk_8 (dk_at dksX0_init_2 10 rfl rfl)
theorem dX0_init_57 : decode cX0_init 57 = .ok (.iastore, 1) := dk_79 (dk_at dksX0_init_2 11 rfl rfl)
theorem dX0_init_58 : decode cX0_init 58 = .ok (.putfield 21, 3) := dk_181 0 21 (dk_at dksX0_init_2 12 rfl rfl)
theorem dX0_init_61 : decode cX0_init 61 = .ok (.aload_n 0, 1) := dk_42 (dk_at dksX0_init_2 15 rfl rfl)
theorem dX0_init_62 : decode cX0_init 62 = .ok (.new 25, 3) := dk_187 0 25 (dk_at dksX0_init_2 16 rfl rfl)
theorem dX0_init_65 : decode cX0_init 65 = .ok (.dup, 1) := dk_89 (dk_at dksX0_init_2 19 rfl rfl)
theorem dX0_init_66 : decode cX0_init 66 = .ok (.aload_n 0, 1) := dk_42 (dk_at dksX0_init_2 20 rfl rfl)
theorem dX0_init_67 : decode cX0_init 67 = .ok (.iconst 1, 1) := dk_4 (dk_at dksX0_init_2 21 rfl rfl)
theorem dX0_init_68 : decode cX0_init 68 = .ok (.invokespecial 27, 3) := dk_183 0 27 (dk_at dksX0_init_3 0 rfl rfl)
theorem dX0_init_71 : decode cX0_init 71 = .ok (.putfield 30, 3) := dk_181 0 30 (dk_at dksX0_init_3 3 rfl rfl)
theorem dX0_init_74 : decode cX0_init 74 = .ok (.aload_n 0, 1) := dk_42 (dk_at dksX0_init_3 6 rfl rfl)
theorem dX0_init_75 : decode cX0_init 75 = .ok (.new 25, 3) := dk_187 0 25 (dk_at dksX0_init_3 7 rfl rfl)
theorem dX0_init_78 : decode cX0_init 78 = .ok (.dup, 1) := dk_89 (dk_at dksX0_init_3 10 rfl rfl)
theorem dX0_init_79 : decode cX0_init 79 = .ok (.aload_n 0, 1) := dk_42 (dk_at dksX0_init_3 11 rfl rfl)
theorem dX0_init_80 : decode cX0_init 80 = .ok (.iconst 2, 1) := dk_5 (dk_at dksX0_init_3 12 rfl rfl)
theorem dX0_init_81 : decode cX0_init 81 = .ok (.invokespecial 27, 3) := dk_183 0 27 (dk_at dksX0_init_3 13 rfl rfl)
theorem dX0_init_84 : decode cX0_init 84 = .ok (.putfield 34, 3) := dk_181 0 34 (dk_at dksX0_init_3 16 rfl rfl)
theorem dX0_init_87 : decode cX0_init 87 = .ok (.aload_n 0, 1) := dk_42 (dk_at dksX0_init_3 19 rfl rfl)
theorem dX0_init_88 : decode cX0_init 88 = .ok (.new 37, 3) := dk_187 0 37 (dk_at dksX0_init_3 20 rfl rfl)
theorem dX0_init_91 : decode cX0_init 91 = .ok (.dup, 1) := dk_89 (dk_at dksX0_init_3 23 rfl rfl)
theorem dX0_init_92 : decode cX0_init 92 = .ok (.aload_n 0, 1) := dk_42 (dk_at dksX0_init_4 0 rfl rfl)
theorem dX0_init_93 : decode cX0_init 93 = .ok (.invokespecial 39, 3) := dk_183 0 39 (dk_at dksX0_init_4 1 rfl rfl)
theorem dX0_init_96 : decode cX0_init 96 = .ok (.putfield 42, 3) := dk_181 0 42 (dk_at dksX0_init_4 4 rfl rfl)
theorem dX0_init_99 : decode cX0_init 99 = .ok (.aload_n 0, 1) := dk_42 (dk_at dksX0_init_4 7 rfl rfl)
theorem dX0_init_100 : decode cX0_init 100 = .ok (.sipush 200, 3) := dk_17 0 200 (dk_at dksX0_init_4 8 rfl rfl)
theorem dX0_init_103 : decode cX0_init 103 = .ok (.anewarray 46, 3) := dk_189 0 46 (dk_at dksX0_init_4 11 rfl rfl)
theorem dX0_init_106 : decode cX0_init 106 = .ok (.putfield 48, 3) := dk_181 0 48 (dk_at dksX0_init_4 14 rfl rfl)
theorem dX0_init_109 : decode cX0_init 109 = .ok (.aload_n 0, 1) := dk_42 (dk_at dksX0_init_4 17 rfl rfl)
theorem dX0_init_110 : decode cX0_init 110 = .ok (.iconst 3, 1) := dk_6 (dk_at dksX0_init_4 18 rfl rfl)
theorem dX0_init_111 : decode cX0_init 111 = .ok (.newarray .int, 2) := dk_188_10 (dk_at dksX0_init_4 19 rfl rfl)
theorem dX0_init_113 : decode cX0_init 113 = .ok (.putfield 52, 3) := dk_181 0 52 (dk_at dksX0_init_4 21 rfl rfl)
theorem dX0_init_116 : decode cX0_init 116 = .ok (.aload_n 0, 1) := dk_42 (dk_at dksX0_init_5 0 rfl rfl)
theorem dX0_init_117 : decode cX0_init 117 = .ok (.bipush 6, 2) := dk_16 6 (dk_at dksX0_init_5 1 rfl rfl)
theorem dX0_init_119 : decode cX0_init 119 = .ok (.newarray .int, 2) := dk_188_10 (dk_at dksX0_init_5 3 rfl rfl)
theorem dX0_init_121 : decode cX0_init 121 = .ok (.putfield 55, 3) := dk_181 0 55 (dk_at dksX0_init_5 5 rfl rfl)
theorem dX0_init_124 : decode cX0_init 124 = .ok (.aload_n 0, 1) := dk_42 (dk_at dksX0_init_5 8 rfl rfl)
theorem dX0_init_125 : decode cX0_init 125 = .ok (.bipush 7, 2) := dk_16 7 (dk_at dksX0_init_5 9 rfl rfl)
theorem dX0_init_127 : decode cX0_init 127 = .ok (.iconst 3, 1) := dk_6 (dk_at dksX0_init_5 11 rfl rfl)
theorem dX0_init_128 : decode cX0_init 128 = .ok (.multianewarray 58 2, 4) := by decide +kernel
theorem dX0_init_132 : decode cX0_init 132 = .ok (.putfield 60, 3) := dk_181 0 60 (dk_at dksX0_init_5 16 rfl rfl)
theorem dX0_init_135 : decode cX0_init 135 = .ok (.aload_n 0, 1) := dk_42 (dk_at dksX0_init_5 19 rfl rfl)
theorem dX0_init_136 : decode cX0_init 136 = .ok (.iconst 2, 1) := dk_5 (dk_at dksX0_init_5 20 rfl rfl)
theorem dX0_init_137 : decode cX0_init 137 = .ok (.putfield 63, 3) := dk_181 0 63 (dk_at dksX0_init_5 21 rfl rfl)
theorem dX0_init_140 : decode cX0_init 140 = .ok (.aload_n 0, 1) := dk_42 (dk_at dksX0_init_6 0 rfl rfl)
theorem dX0_init_141 : decode cX0_init 141 = .ok (.bipush 7, 2) := dk_16 7 (dk_at dksX0_init_6 1 rfl rfl)
theorem dX0_init_143 : decode cX0_init 143 = .ok (.newarray .int, 2) := dk_188_10 (dk_at dksX0_init_6 3 rfl rfl)
theorem dX0_init_145 : decode cX0_init 145 = .ok (.putfield 67, 3) := dk_181 0 67 (dk_at dksX0_init_6 5 rfl rfl)
theorem dX0_init_148 : decode cX0_init 148 = .ok (.aload_n 0, 1) := dk_42 (dk_at dksX0_init_6 8 rfl rfl)
theorem dX0_init_149 : decode cX0_init 149 = .ok (.bipush 7, 2) := dk_16 7 (dk_at dksX0_init_6 9 rfl rfl)
theorem dX0_init_151 : decode cX0_init 151 = .ok (.newarray .int, 2) := dk_188_10 (dk_at dksX0_init_6 11 rfl rfl)
theorem dX0_init_153 : decode cX0_init 153 = .ok (.putfield 70, 3) := dk_181 0 70 (dk_at dksX0_init_6 13 rfl rfl)
theorem dX0_init_156 : decode cX0_init 156 = .ok (.aload_n 0, 1) := dk_42 (dk_at dksX0_init_6 16 rfl rfl)
theorem dX0_init_157 : decode cX0_init 157 = .ok (.ldc 73, 2) := dk_18 73 (dk_at dksX0_init_6 17 rfl rfl)
theorem dX0_init_159 : decode cX0_init 159 = .ok (.putfield 74, 3) := dk_181 0 74 (dk_at dksX0_init_6 19 rfl rfl)
theorem dX0_init_162 : decode cX0_init 162 = .ok (.aload_n 0, 1) := dk_42 (dk_at dksX0_init_6 22 rfl rfl)
theorem dX0_init_163 : decode cX0_init 163 = .ok (.iconst 4, 1) := dk_7 (dk_at dksX0_init_6 23 rfl rfl)
theorem dX0_init_164 : decode cX0_init 164 = .ok (.anewarray 77, 3) := dk_189 0 77 (dk_at dksX0_init_7 0 rfl rfl)
theorem dX0_init_167 : decode cX0_init 167 = .ok (.putfield 79, 3) := dk_181 0 79 (dk_at dksX0_init_7 3 rfl rfl)
theorem dX0_init_170 : decode cX0_init 170 = .ok (.iconst 0, 1) := dk_3 (dk_at dksX0_init_7 6 rfl rfl)
theorem dX0_init_171 : decode cX0_init 171 = .ok (.istore_n 1, 1) := dk_60 (dk_at dksX0_init_7 7 rfl rfl)
theorem dX0_init_172 : decode cX0_init 172 = .ok (.iload_n 1, 1) := dk_27 (dk_at dksX0_init_7 8 rfl rfl)
theorem dX0_init_173 : decode cX0_init 173 = .ok (.iconst 4, 1) := dk_7 (dk_at dksX0_init_7 9 rfl rfl)
theorem dX0_init_174 : decode cX0_init 174 = .ok (.if_icmp .ge 22, 3) := dk_162 0 22 (dk_at dksX0_init_7 10 rfl rfl)
theorem dX0_init_177 : decode cX0_init 177 = .ok (.aload_n 0, 1) := dk_42 (dk_at dksX0_init_7 13 rfl rfl)
theorem dX0_init_178 : decode cX0_init 178 = .ok (.getfield 79, 3) := dk_180 0 79 (dk_at dksX0_init_7 14 rfl rfl)
theorem dX0_init_181 : decode cX0_init 181 = .ok (.iload_n 1, 1) := dk_27 (dk_at dksX0_init_7 17 rfl rfl)
theorem dX0_init_182 : decode cX0_init 182 = .ok (.new 77, 3) := dk_187 0 77 (dk_at dksX0_init_7 18 rfl rfl)
theorem dX0_init_185 : decode cX0_init 185 = .ok (.dup, 1) := dk_89 (dk_at dksX0_init_7 21 rfl rfl)
theorem dX0_init_186 : decode cX0_init 186 = .ok (.invokespecial 83, 3) := dk_183 0 83 (dk_at dksX0_init_8 0 rfl rfl)
theorem dX0_init_189 : decode cX0_init 189 = .ok (.aastore, 1) := dk_83 (dk_at dksX0_init_8 3 rfl rfl)
theorem dX0_init_190 : decode cX0_init 190 = .ok (.iinc 1 1, 3) := dk_132 1 1 (dk_at dksX0_init_8 4 rfl rfl)
theorem dX0_init_193 : decode cX0_init 193 = .ok (.goto (-21), 3) := dk_167 255 235 (dk_at dksX0_init_8 7 rfl rfl)
theorem dX0_init_196 : decode cX0_init 196 = .ok (.return_, 1) := dk_177 (dk_at dksX0_init_8 10 rfl rfl)
abbrev cX0_profile : ByteArray := prog_1_method_5_code
def yX0_profile : MethodName := ⟨RX0, "profile", "(IIII)I"⟩
def dkwX0_profile_4 : List UInt8 := [172]
abbrev dktX0_profile_4 : List UInt8 := dkwX0_profile_4 ++ []
def dkwX0_profile_3 : List UInt8 := [28, 29, 21, 4, 183, 0, 94, 83, 42, 89, 180, 0, 84, 4, 96, 181, 0, 84, 42, 180, 0, 84, 4, 100]
abbrev dktX0_profile_3 : List UInt8 := dkwX0_profile_3 ++ dktX0_profile_4
def dkwX0_profile_2 : List UInt8 := [180, 0, 84, 16, 8, 160, 0, 6, 16, 252, 172, 42, 180, 0, 11, 42, 180, 0, 84, 187, 0, 9, 89, 27]
abbrev dktX0_profile_2 : List UInt8 := dkwX0_profile_2 ++ dktX0_profile_3
def dkwX0_profile_1 : List UInt8 := [184, 0, 87, 153, 0, 16, 21, 4, 16, 100, 17, 39, 15, 184, 0, 87, 154, 0, 6, 16, 254, 172, 42]
abbrev dktX0_profile_1 : List UInt8 := dkwX0_profile_1 ++ dktX0_profile_2
def dkwX0_profile_0 : List UInt8 := [27, 3, 5, 184, 0, 87, 153, 0, 35, 28, 8, 16, 80, 184, 0, 87, 153, 0, 25, 29, 3, 6]
abbrev dktX0_profile_0 : List UInt8 := dkwX0_profile_0 ++ dktX0_profile_1
theorem dksX0_profile_0 : cX0_profile.data.toList.drop 0 = dktX0_profile_0 := by decide +kernel
theorem dksX0_profile_1 : cX0_profile.data.toList.drop 22 = dktX0_profile_1 := dk_seg dksX0_profile_0 22 rfl rfl
theorem dksX0_profile_2 : cX0_profile.data.toList.drop 45 = dktX0_profile_2 := dk_seg dksX0_profile_1 23 rfl rfl
theorem dksX0_profile_3 : cX0_profile.data.toList.drop 69 = dktX0_profile_3 := dk_seg dksX0_profile_2 24 rfl rfl
theorem dksX0_profile_4 : cX0_profile.data.toList.drop 93 = dktX0_profile_4 := dk_seg dksX0_profile_3 24 rfl rfl
theorem dX0_profile_0 : decode cX0_profile 0 = .ok (.iload_n 1, 1) := dk_27 (dk_at dksX0_profile_0 0 rfl rfl)
theorem dX0_profile_1 : decode cX0_profile 1 = .ok (.iconst 0, 1) := dk_3 (dk_at dksX0_profile_0 1 rfl rfl)
theorem dX0_profile_2 : decode cX0_profile 2 = .ok (.iconst 2, 1) := dk_5 (dk_at dksX0_profile_0 2 rfl rfl)
theorem dX0_profile_3 : decode cX0_profile 3 = .ok (.invokestatic 87, 3) := dk_184 0 87 (dk_at dksX0_profile_0 3 rfl rfl)
theorem dX0_profile_6 : decode cX0_profile 6 = .ok (.ifCond .eq 35, 3) := dk_153 0 35 (dk_at dksX0_profile_0 6 rfl rfl)
theorem dX0_profile_9 : decode cX0_profile 9 = .ok (.iload_n 2, 1) := dk_28 (dk_at dksX0_profile_0 9 rfl rfl)
theorem dX0_profile_10 : decode cX0_profile 10 = .ok (.iconst 5, 1) := dk_8 (dk_at dksX0_profile_0 10 rfl rfl)
theorem dX0_profile_11 : decode cX0_profile 11 = .ok (.bipush 80, 2) := dk_16 80 (dk_at dksX0_profile_0 11 rfl rfl)
theorem dX0_profile_13 : decode cX0_profile 13 = .ok (.invokestatic 87, 3) := dk_184 0 87 (dk_at dksX0_profile_0 13 rfl rfl)
theorem dX0_profile_16 : decode cX0_profile 16 = .ok (.ifCond .eq 25, 3) := dk_153 0 25 (dk_at dksX0_profile_0 16 rfl rfl)
theorem dX0_profile_19 : decode cX0_profile 19 = .ok (.iload_n 3, 1) := dk_29 (dk_at dksX0_profile_0 19 rfl rfl)
theorem dX0_profile_20 : decode cX0_profile 20 = .ok (.iconst 0, 1) := dk_3 (dk_at dksX0_profile_0 20 rfl rfl)
theorem dX0_profile_21 : decode cX0_profile 21 = .ok (.iconst 3, 1) := dk_6 (dk_at dksX0_profile_0 21 rfl rfl)
theorem dX0_profile_22 : decode cX0_profile 22 = .ok (.invokestatic 87, 3) := dk_184 0 87 (dk_at dksX0_profile_1 0 rfl rfl)
theorem dX0_profile_25 : decode cX0_profile 25 = .ok (.ifCond .eq 16, 3) := dk_153 0 16 (dk_at dksX0_profile_1 3 rfl rfl)
theorem dX0_profile_28 : decode cX0_profile 28 = .ok (.iload 4, 2) := dk_21 4 (dk_at dksX0_profile_1 6 rfl rfl)
theorem dX0_profile_30 : decode cX0_profile 30 = .ok (.bipush 100, 2) := dk_16 100 (dk_at dksX0_profile_1 8 rfl rfl)
theorem dX0_profile_32 : decode cX0_profile 32 = .ok (.sipush 9999, 3) := dk_17 39 15 (dk_at dksX0_profile_1 10 rfl rfl)
theorem dX0_profile_35 : decode cX0_profile 35 = .ok (.invokestatic 87, 3) := dk_184 0 87 (dk_at dksX0_profile_1 13 rfl rfl)
theorem dX0_profile_38 : decode cX0_profile 38 = .ok (.ifCond .ne 6, 3) := dk_154 0 6 (dk_at dksX0_profile_1 16 rfl rfl)
theorem dX0_profile_41 : decode cX0_profile 41 = .ok (.bipush (-2), 2) := dk_16 254 (dk_at dksX0_profile_1 19 rfl rfl)
theorem dX0_profile_43 : decode cX0_profile 43 = .ok (.ireturn, 1) := dk_172 (dk_at dksX0_profile_1 21 rfl rfl)
theorem dX0_profile_44 : decode cX0_profile 44 = .ok (.aload_n 0, 1) := dk_42 (dk_at dksX0_profile_1 22 rfl rfl)
theorem dX0_profile_45 : decode cX0_profile 45 = .ok (.getfield 84, 3) := dk_180 0 84 (dk_at dksX0_profile_2 0 rfl rfl)
theorem dX0_profile_48 : decode cX0_profile 48 = .ok (.bipush 8, 2) := dk_16 8 (dk_at dksX0_profile_2 3 rfl rfl)
theorem dX0_profile_50 : decode cX0_profile 50 = .ok (.if_icmp .ne 6, 3) := dk_160 0 6 (dk_at dksX0_profile_2 5 rfl rfl)
theorem dX0_profile_53 : decode cX0_profile 53 = .ok (.bipush (-4), 2) := dk_16 252 (dk_at dksX0_profile_2 8 rfl rfl)
theorem dX0_profile_55 : decode cX0_profile 55 = .ok (.ireturn, 1) := dk_172 (dk_at dksX0_profile_2 10 rfl rfl)
theorem dX0_profile_56 : decode cX0_profile 56 = .ok (.aload_n 0, 1) := dk_42 (dk_at dksX0_profile_2 11 rfl rfl)
theorem dX0_profile_57 : decode cX0_profile 57 = .ok (.getfield 11, 3) := dk_180 0 11 (dk_at dksX0_profile_2 12 rfl rfl)
theorem dX0_profile_60 : decode cX0_profile 60 = .ok (.aload_n 0, 1) := dk_42 (dk_at dksX0_profile_2 15 rfl rfl)
theorem dX0_profile_61 : decode cX0_profile 61 = .ok (.getfield 84, 3) := dk_180 0 84 (dk_at dksX0_profile_2 16 rfl rfl)
theorem dX0_profile_64 : decode cX0_profile 64 = .ok (.new 9, 3) := dk_187 0 9 (dk_at dksX0_profile_2 19 rfl rfl)
theorem dX0_profile_67 : decode cX0_profile 67 = .ok (.dup, 1) := dk_89 (dk_at dksX0_profile_2 22 rfl rfl)
theorem dX0_profile_68 : decode cX0_profile 68 = .ok (.iload_n 1, 1) := dk_27 (dk_at dksX0_profile_2 23 rfl rfl)
theorem dX0_profile_69 : decode cX0_profile 69 = .ok (.iload_n 2, 1) := dk_28 (dk_at dksX0_profile_3 0 rfl rfl)
theorem dX0_profile_70 : decode cX0_profile 70 = .ok (.iload_n 3, 1) := dk_29 (dk_at dksX0_profile_3 1 rfl rfl)
theorem dX0_profile_71 : decode cX0_profile 71 = .ok (.iload 4, 2) := dk_21 4 (dk_at dksX0_profile_3 2 rfl rfl)
theorem dX0_profile_73 : decode cX0_profile 73 = .ok (.invokespecial 94, 3) := dk_183 0 94 (dk_at dksX0_profile_3 4 rfl rfl)
theorem dX0_profile_76 : decode cX0_profile 76 = .ok (.aastore, 1) := dk_83 (dk_at dksX0_profile_3 7 rfl rfl)
theorem dX0_profile_77 : decode cX0_profile 77 = .ok (.aload_n 0, 1) := dk_42 (dk_at dksX0_profile_3 8 rfl rfl)
theorem dX0_profile_78 : decode cX0_profile 78 = .ok (.dup, 1) := dk_89 (dk_at dksX0_profile_3 9 rfl rfl)
theorem dX0_profile_79 : decode cX0_profile 79 = .ok (.getfield 84, 3) := dk_180 0 84 (dk_at dksX0_profile_3 10 rfl rfl)
theorem dX0_profile_82 : decode cX0_profile 82 = .ok (.iconst 1, 1) := dk_4 (dk_at dksX0_profile_3 13 rfl rfl)
theorem dX0_profile_83 : decode cX0_profile 83 = .ok (.iadd, 1) := dk_96 (dk_at dksX0_profile_3 14 rfl rfl)
theorem dX0_profile_84 : decode cX0_profile 84 = .ok (.putfield 84, 3) := dk_181 0 84 (dk_at dksX0_profile_3 15 rfl rfl)
theorem dX0_profile_87 : decode cX0_profile 87 = .ok (.aload_n 0, 1) := dk_42 (dk_at dksX0_profile_3 18 rfl rfl)
theorem dX0_profile_88 : decode cX0_profile 88 = .ok (.getfield 84, 3) := dk_180 0 84 (dk_at dksX0_profile_3 19 rfl rfl)
theorem dX0_profile_91 : decode cX0_profile 91 = .ok (.iconst 1, 1) := dk_4 (dk_at dksX0_profile_3 22 rfl rfl)
theorem dX0_profile_92 : decode cX0_profile 92 = .ok (.isub, 1) := dk_100 (dk_at dksX0_profile_3 23 rfl rfl)
theorem dX0_profile_93 : decode cX0_profile 93 = .ok (.ireturn, 1) := dk_172 (dk_at dksX0_profile_4 0 rfl rfl)
abbrev cX0_in : ByteArray := prog_1_method_1_code
def yX0_in : MethodName := ⟨RX0, "in", "(III)Z"⟩
def dkwX0_in_0 : List UInt8 := [26, 27, 161, 0, 12, 26, 28, 163, 0, 7, 4, 167, 0, 4, 3, 172]
abbrev dktX0_in_0 : List UInt8 := dkwX0_in_0 ++ []
theorem dksX0_in_0 : cX0_in.data.toList.drop 0 = dktX0_in_0 := by decide +kernel
theorem dX0_in_0 : decode cX0_in 0 = .ok (.iload_n 0, 1) := dk_26 (dk_at dksX0_in_0 0 rfl rfl)
theorem dX0_in_1 : decode cX0_in 1 = .ok (.iload_n 1, 1) := dk_27 (dk_at dksX0_in_0 1 rfl rfl)
theorem dX0_in_2 : decode cX0_in 2 = .ok (.if_icmp .lt 12, 3) := dk_161 0 12 (dk_at dksX0_in_0 2 rfl rfl)
theorem dX0_in_5 : decode cX0_in 5 = .ok (.iload_n 0, 1) := dk_26 (dk_at dksX0_in_0 5 rfl rfl)
theorem dX0_in_6 : decode cX0_in 6 = .ok (.iload_n 2, 1) := dk_28 (dk_at dksX0_in_0 6 rfl rfl)
theorem dX0_in_7 : decode cX0_in 7 = .ok (.if_icmp .gt 7, 3) := dk_163 0 7 (dk_at dksX0_in_0 7 rfl rfl)
theorem dX0_in_10 : decode cX0_in 10 = .ok (.iconst 1, 1) := dk_4 (dk_at dksX0_in_0 10 rfl rfl)
theorem dX0_in_11 : decode cX0_in 11 = .ok (.goto 4, 3) := dk_167 0 4 (dk_at dksX0_in_0 11 rfl rfl)
theorem dX0_in_14 : decode cX0_in 14 = .ok (.iconst 0, 1) := dk_3 (dk_at dksX0_in_0 14 rfl rfl)
theorem dX0_in_15 : decode cX0_in 15 = .ok (.ireturn, 1) := dk_172 (dk_at dksX0_in_0 15 rfl rfl)
abbrev cX0_die : ByteArray := prog_1_method_6_code
def yX0_die : MethodName := ⟨RX0, "die", "(II)I"⟩
def dkwX0_die_3 : List UInt8 := [42, 180, 0, 91, 4, 100, 172]
abbrev dktX0_die_3 : List UInt8 := dkwX0_die_3 ++ []
def dkwX0_die_2 : List UInt8 := [180, 0, 91, 42, 180, 0, 11, 27, 50, 28, 183, 0, 101, 83, 42, 89, 180, 0, 91, 4, 96, 181, 0, 91]
abbrev dktX0_die_2 : List UInt8 := dkwX0_die_2 ++ dktX0_die_3
def dkwX0_die_1 : List UInt8 := [180, 0, 91, 16, 12, 160, 0, 6, 16, 252, 172, 42, 180, 0, 17, 42, 180, 0, 91, 187, 0, 15, 89, 42]
abbrev dktX0_die_1 : List UInt8 := dkwX0_die_1 ++ dktX0_die_2
def dkwX0_die_0 : List UInt8 := [42, 27, 182, 0, 97, 153, 0, 13, 28, 4, 16, 50, 184, 0, 87, 154, 0, 6, 16, 254, 172, 42]
abbrev dktX0_die_0 : List UInt8 := dkwX0_die_0 ++ dktX0_die_1
theorem dksX0_die_0 : cX0_die.data.toList.drop 0 = dktX0_die_0 := by decide +kernel
theorem dksX0_die_1 : cX0_die.data.toList.drop 22 = dktX0_die_1 := dk_seg dksX0_die_0 22 rfl rfl
theorem dksX0_die_2 : cX0_die.data.toList.drop 46 = dktX0_die_2 := dk_seg dksX0_die_1 24 rfl rfl
theorem dksX0_die_3 : cX0_die.data.toList.drop 70 = dktX0_die_3 := dk_seg dksX0_die_2 24 rfl rfl
theorem dX0_die_0 : decode cX0_die 0 = .ok (.aload_n 0, 1) := dk_42 (dk_at dksX0_die_0 0 rfl rfl)
theorem dX0_die_1 : decode cX0_die 1 = .ok (.iload_n 1, 1) := dk_27 (dk_at dksX0_die_0 1 rfl rfl)
theorem dX0_die_2 : decode cX0_die 2 = .ok (.invokevirtual 97, 3) := dk_182 0 97 (dk_at dksX0_die_0 2 rfl rfl)
theorem dX0_die_5 : decode cX0_die 5 = .ok (.ifCond .eq 13, 3) := dk_153 0 13 (dk_at dksX0_die_0 5 rfl rfl)
theorem dX0_die_8 : decode cX0_die 8 = .ok (.iload_n 2, 1) := dk_28 (dk_at dksX0_die_0 8 rfl rfl)
theorem dX0_die_9 : decode cX0_die 9 = .ok (.iconst 1, 1) := dk_4 (dk_at dksX0_die_0 9 rfl rfl)
theorem dX0_die_10 : decode cX0_die 10 = .ok (.bipush 50, 2) := dk_16 50 (dk_at dksX0_die_0 10 rfl rfl)
theorem dX0_die_12 : decode cX0_die 12 = .ok (.invokestatic 87, 3) := dk_184 0 87 (dk_at dksX0_die_0 12 rfl rfl)
theorem dX0_die_15 : decode cX0_die 15 = .ok (.ifCond .ne 6, 3) := dk_154 0 6 (dk_at dksX0_die_0 15 rfl rfl)
theorem dX0_die_18 : decode cX0_die 18 = .ok (.bipush (-2), 2) := dk_16 254 (dk_at dksX0_die_0 18 rfl rfl)
theorem dX0_die_20 : decode cX0_die 20 = .ok (.ireturn, 1) := dk_172 (dk_at dksX0_die_0 20 rfl rfl)
theorem dX0_die_21 : decode cX0_die 21 = .ok (.aload_n 0, 1) := dk_42 (dk_at dksX0_die_0 21 rfl rfl)
theorem dX0_die_22 : decode cX0_die 22 = .ok (.getfield 91, 3) := dk_180 0 91 (dk_at dksX0_die_1 0 rfl rfl)
theorem dX0_die_25 : decode cX0_die 25 = .ok (.bipush 12, 2) := dk_16 12 (dk_at dksX0_die_1 3 rfl rfl)
theorem dX0_die_27 : decode cX0_die 27 = .ok (.if_icmp .ne 6, 3) := dk_160 0 6 (dk_at dksX0_die_1 5 rfl rfl)
theorem dX0_die_30 : decode cX0_die 30 = .ok (.bipush (-4), 2) := dk_16 252 (dk_at dksX0_die_1 8 rfl rfl)
theorem dX0_die_32 : decode cX0_die 32 = .ok (.ireturn, 1) := dk_172 (dk_at dksX0_die_1 10 rfl rfl)
theorem dX0_die_33 : decode cX0_die 33 = .ok (.aload_n 0, 1) := dk_42 (dk_at dksX0_die_1 11 rfl rfl)
theorem dX0_die_34 : decode cX0_die 34 = .ok (.getfield 17, 3) := dk_180 0 17 (dk_at dksX0_die_1 12 rfl rfl)
theorem dX0_die_37 : decode cX0_die 37 = .ok (.aload_n 0, 1) := dk_42 (dk_at dksX0_die_1 15 rfl rfl)
theorem dX0_die_38 : decode cX0_die 38 = .ok (.getfield 91, 3) := dk_180 0 91 (dk_at dksX0_die_1 16 rfl rfl)
theorem dX0_die_41 : decode cX0_die 41 = .ok (.new 15, 3) := dk_187 0 15 (dk_at dksX0_die_1 19 rfl rfl)
theorem dX0_die_44 : decode cX0_die 44 = .ok (.dup, 1) := dk_89 (dk_at dksX0_die_1 22 rfl rfl)
theorem dX0_die_45 : decode cX0_die 45 = .ok (.aload_n 0, 1) := dk_42 (dk_at dksX0_die_1 23 rfl rfl)
theorem dX0_die_46 : decode cX0_die 46 = .ok (.getfield 91, 3) := dk_180 0 91 (dk_at dksX0_die_2 0 rfl rfl)
theorem dX0_die_49 : decode cX0_die 49 = .ok (.aload_n 0, 1) := dk_42 (dk_at dksX0_die_2 3 rfl rfl)
theorem dX0_die_50 : decode cX0_die 50 = .ok (.getfield 11, 3) := dk_180 0 11 (dk_at dksX0_die_2 4 rfl rfl)
theorem dX0_die_53 : decode cX0_die 53 = .ok (.iload_n 1, 1) := dk_27 (dk_at dksX0_die_2 7 rfl rfl)
theorem dX0_die_54 : decode cX0_die 54 = .ok (.aaload, 1) := dk_50 (dk_at dksX0_die_2 8 rfl rfl)
theorem dX0_die_55 : decode cX0_die 55 = .ok (.iload_n 2, 1) := dk_28 (dk_at dksX0_die_2 9 rfl rfl)
theorem dX0_die_56 : decode cX0_die 56 = .ok (.invokespecial 101, 3) := dk_183 0 101 (dk_at dksX0_die_2 10 rfl rfl)
theorem dX0_die_59 : decode cX0_die 59 = .ok (.aastore, 1) := dk_83 (dk_at dksX0_die_2 13 rfl rfl)
theorem dX0_die_60 : decode cX0_die 60 = .ok (.aload_n 0, 1) := dk_42 (dk_at dksX0_die_2 14 rfl rfl)
theorem dX0_die_61 : decode cX0_die 61 = .ok (.dup, 1) := dk_89 (dk_at dksX0_die_2 15 rfl rfl)
theorem dX0_die_62 : decode cX0_die 62 = .ok (.getfield 91, 3) := dk_180 0 91 (dk_at dksX0_die_2 16 rfl rfl)
theorem dX0_die_65 : decode cX0_die 65 = .ok (.iconst 1, 1) := dk_4 (dk_at dksX0_die_2 19 rfl rfl)
theorem dX0_die_66 : decode cX0_die 66 = .ok (.iadd, 1) := dk_96 (dk_at dksX0_die_2 20 rfl rfl)
theorem dX0_die_67 : decode cX0_die 67 = .ok (.putfield 91, 3) := dk_181 0 91 (dk_at dksX0_die_2 21 rfl rfl)
theorem dX0_die_70 : decode cX0_die 70 = .ok (.aload_n 0, 1) := dk_42 (dk_at dksX0_die_3 0 rfl rfl)
theorem dX0_die_71 : decode cX0_die 71 = .ok (.getfield 91, 3) := dk_180 0 91 (dk_at dksX0_die_3 1 rfl rfl)
theorem dX0_die_74 : decode cX0_die 74 = .ok (.iconst 1, 1) := dk_4 (dk_at dksX0_die_3 4 rfl rfl)
theorem dX0_die_75 : decode cX0_die 75 = .ok (.isub, 1) := dk_100 (dk_at dksX0_die_3 5 rfl rfl)
theorem dX0_die_76 : decode cX0_die 76 = .ok (.ireturn, 1) := dk_172 (dk_at dksX0_die_3 6 rfl rfl)
abbrev cX0_isProfile : ByteArray := prog_1_method_3_code
def yX0_isProfile : MethodName := ⟨RX0, "isProfile", "(I)Z"⟩
def dkwX0_isProfile_0 : List UInt8 := [27, 3, 42, 180, 0, 84, 4, 100, 184, 0, 87, 172]
abbrev dktX0_isProfile_0 : List UInt8 := dkwX0_isProfile_0 ++ []
theorem dksX0_isProfile_0 : cX0_isProfile.data.toList.drop 0 = dktX0_isProfile_0 := by decide +kernel
theorem dX0_isProfile_0 : decode cX0_isProfile 0 = .ok (.iload_n 1, 1) := dk_27 (dk_at dksX0_isProfile_0 0 rfl rfl)
theorem dX0_isProfile_1 : decode cX0_isProfile 1 = .ok (.iconst 0, 1) := dk_3 (dk_at dksX0_isProfile_0 1 rfl rfl)
theorem dX0_isProfile_2 : decode cX0_isProfile 2 = .ok (.aload_n 0, 1) := dk_42 (dk_at dksX0_isProfile_0 2 rfl rfl)
theorem dX0_isProfile_3 : decode cX0_isProfile 3 = .ok (.getfield 84, 3) := dk_180 0 84 (dk_at dksX0_isProfile_0 3 rfl rfl)
theorem dX0_isProfile_6 : decode cX0_isProfile 6 = .ok (.iconst 1, 1) := dk_4 (dk_at dksX0_isProfile_0 6 rfl rfl)
theorem dX0_isProfile_7 : decode cX0_isProfile 7 = .ok (.isub, 1) := dk_100 (dk_at dksX0_isProfile_0 7 rfl rfl)
theorem dX0_isProfile_8 : decode cX0_isProfile 8 = .ok (.invokestatic 87, 3) := dk_184 0 87 (dk_at dksX0_isProfile_0 8 rfl rfl)
theorem dX0_isProfile_11 : decode cX0_isProfile 11 = .ok (.ireturn, 1) := dk_172 (dk_at dksX0_isProfile_0 11 rfl rfl)
abbrev cX0_warm : ByteArray := prog_1_method_7_code
def yX0_warm : MethodName := ⟨RX0, "warm", "(I)I"⟩
def dkwX0_warm_2 : List UInt8 := [181, 0, 114, 4, 172]
abbrev dktX0_warm_2 : List UInt8 := dkwX0_warm_2 ++ []
def dkwX0_warm_1 : List UInt8 := [16, 253, 172, 42, 180, 0, 17, 27, 50, 4, 181, 0, 107, 42, 180, 0, 17, 27, 50, 42, 180, 0, 111]
abbrev dktX0_warm_1 : List UInt8 := dkwX0_warm_1 ++ dktX0_warm_2
def dkwX0_warm_0 : List UInt8 := [42, 27, 182, 0, 104, 154, 0, 6, 16, 254, 172, 42, 180, 0, 17, 27, 50, 180, 0, 107, 153, 0, 6]
abbrev dktX0_warm_0 : List UInt8 := dkwX0_warm_0 ++ dktX0_warm_1
theorem dksX0_warm_0 : cX0_warm.data.toList.drop 0 = dktX0_warm_0 := by decide +kernel
theorem dksX0_warm_1 : cX0_warm.data.toList.drop 23 = dktX0_warm_1 := dk_seg dksX0_warm_0 23 rfl rfl
theorem dksX0_warm_2 : cX0_warm.data.toList.drop 46 = dktX0_warm_2 := dk_seg dksX0_warm_1 23 rfl rfl
theorem dX0_warm_0 : decode cX0_warm 0 = .ok (.aload_n 0, 1) := dk_42 (dk_at dksX0_warm_0 0 rfl rfl)
theorem dX0_warm_1 : decode cX0_warm 1 = .ok (.iload_n 1, 1) := dk_27 (dk_at dksX0_warm_0 1 rfl rfl)
theorem dX0_warm_2 : decode cX0_warm 2 = .ok (.invokevirtual 104, 3) := dk_182 0 104 (dk_at dksX0_warm_0 2 rfl rfl)
theorem dX0_warm_5 : decode cX0_warm 5 = .ok (.ifCond .ne 6, 3) := dk_154 0 6 (dk_at dksX0_warm_0 5 rfl rfl)
theorem dX0_warm_8 : decode cX0_warm 8 = .ok (.bipush (-2), 2) := dk_16 254 (dk_at dksX0_warm_0 8 rfl rfl)
theorem dX0_warm_10 : decode cX0_warm 10 = .ok (.ireturn, 1) := dk_172 (dk_at dksX0_warm_0 10 rfl rfl)
theorem dX0_warm_11 : decode cX0_warm 11 = .ok (.aload_n 0, 1) := dk_42 (dk_at dksX0_warm_0 11 rfl rfl)
theorem dX0_warm_12 : decode cX0_warm 12 = .ok (.getfield 17, 3) := dk_180 0 17 (dk_at dksX0_warm_0 12 rfl rfl)
theorem dX0_warm_15 : decode cX0_warm 15 = .ok (.iload_n 1, 1) := dk_27 (dk_at dksX0_warm_0 15 rfl rfl)
theorem dX0_warm_16 : decode cX0_warm 16 = .ok (.aaload, 1) := dk_50 (dk_at dksX0_warm_0 16 rfl rfl)
theorem dX0_warm_17 : decode cX0_warm 17 = .ok (.getfield 107, 3) := dk_180 0 107 (dk_at dksX0_warm_0 17 rfl rfl)
theorem dX0_warm_20 : decode cX0_warm 20 = .ok (.ifCond .eq 6, 3) := dk_153 0 6 (dk_at dksX0_warm_0 20 rfl rfl)
theorem dX0_warm_23 : decode cX0_warm 23 = .ok (.bipush (-3), 2) := dk_16 253 (dk_at dksX0_warm_1 0 rfl rfl)
theorem dX0_warm_25 : decode cX0_warm 25 = .ok (.ireturn, 1) := dk_172 (dk_at dksX0_warm_1 2 rfl rfl)
theorem dX0_warm_26 : decode cX0_warm 26 = .ok (.aload_n 0, 1) := dk_42 (dk_at dksX0_warm_1 3 rfl rfl)
theorem dX0_warm_27 : decode cX0_warm 27 = .ok (.getfield 17, 3) := dk_180 0 17 (dk_at dksX0_warm_1 4 rfl rfl)
theorem dX0_warm_30 : decode cX0_warm 30 = .ok (.iload_n 1, 1) := dk_27 (dk_at dksX0_warm_1 7 rfl rfl)
theorem dX0_warm_31 : decode cX0_warm 31 = .ok (.aaload, 1) := dk_50 (dk_at dksX0_warm_1 8 rfl rfl)
theorem dX0_warm_32 : decode cX0_warm 32 = .ok (.iconst 1, 1) := dk_4 (dk_at dksX0_warm_1 9 rfl rfl)
theorem dX0_warm_33 : decode cX0_warm 33 = .ok (.putfield 107, 3) := dk_181 0 107 (dk_at dksX0_warm_1 10 rfl rfl)
theorem dX0_warm_36 : decode cX0_warm 36 = .ok (.aload_n 0, 1) := dk_42 (dk_at dksX0_warm_1 13 rfl rfl)
theorem dX0_warm_37 : decode cX0_warm 37 = .ok (.getfield 17, 3) := dk_180 0 17 (dk_at dksX0_warm_1 14 rfl rfl)
theorem dX0_warm_40 : decode cX0_warm 40 = .ok (.iload_n 1, 1) := dk_27 (dk_at dksX0_warm_1 17 rfl rfl)
theorem dX0_warm_41 : decode cX0_warm 41 = .ok (.aaload, 1) := dk_50 (dk_at dksX0_warm_1 18 rfl rfl)
theorem dX0_warm_42 : decode cX0_warm 42 = .ok (.aload_n 0, 1) := dk_42 (dk_at dksX0_warm_1 19 rfl rfl)
theorem dX0_warm_43 : decode cX0_warm 43 = .ok (.getfield 111, 3) := dk_180 0 111 (dk_at dksX0_warm_1 20 rfl rfl)
theorem dX0_warm_46 : decode cX0_warm 46 = .ok (.putfield 114, 3) := dk_181 0 114 (dk_at dksX0_warm_2 0 rfl rfl)
theorem dX0_warm_49 : decode cX0_warm 49 = .ok (.iconst 1, 1) := dk_4 (dk_at dksX0_warm_2 3 rfl rfl)
theorem dX0_warm_50 : decode cX0_warm 50 = .ok (.ireturn, 1) := dk_172 (dk_at dksX0_warm_2 4 rfl rfl)
abbrev cX0_isDie : ByteArray := prog_1_method_4_code
def yX0_isDie : MethodName := ⟨RX0, "isDie", "(I)Z"⟩
def dkwX0_isDie_0 : List UInt8 := [27, 3, 42, 180, 0, 91, 4, 100, 184, 0, 87, 172]
abbrev dktX0_isDie_0 : List UInt8 := dkwX0_isDie_0 ++ []
theorem dksX0_isDie_0 : cX0_isDie.data.toList.drop 0 = dktX0_isDie_0 := by decide +kernel
theorem dX0_isDie_0 : decode cX0_isDie 0 = .ok (.iload_n 1, 1) := dk_27 (dk_at dksX0_isDie_0 0 rfl rfl)
theorem dX0_isDie_1 : decode cX0_isDie 1 = .ok (.iconst 0, 1) := dk_3 (dk_at dksX0_isDie_0 1 rfl rfl)
theorem dX0_isDie_2 : decode cX0_isDie 2 = .ok (.aload_n 0, 1) := dk_42 (dk_at dksX0_isDie_0 2 rfl rfl)
theorem dX0_isDie_3 : decode cX0_isDie 3 = .ok (.getfield 91, 3) := dk_180 0 91 (dk_at dksX0_isDie_0 3 rfl rfl)
theorem dX0_isDie_6 : decode cX0_isDie 6 = .ok (.iconst 1, 1) := dk_4 (dk_at dksX0_isDie_0 6 rfl rfl)
theorem dX0_isDie_7 : decode cX0_isDie 7 = .ok (.isub, 1) := dk_100 (dk_at dksX0_isDie_0 7 rfl rfl)
theorem dX0_isDie_8 : decode cX0_isDie 8 = .ok (.invokestatic 87, 3) := dk_184 0 87 (dk_at dksX0_isDie_0 8 rfl rfl)
theorem dX0_isDie_11 : decode cX0_isDie 11 = .ok (.ireturn, 1) := dk_172 (dk_at dksX0_isDie_0 11 rfl rfl)
abbrev cX0_cool : ByteArray := prog_1_method_8_code
def yX0_cool : MethodName := ⟨RX0, "cool", "(I)I"⟩
def dkwX0_cool_2 : List UInt8 := [180, 0, 114, 100, 172]
abbrev dktX0_cool_2 : List UInt8 := dkwX0_cool_2 ++ []
def dkwX0_cool_1 : List UInt8 := [16, 253, 172, 42, 180, 0, 17, 27, 50, 3, 181, 0, 107, 42, 180, 0, 111, 42, 180, 0, 17, 27, 50]
abbrev dktX0_cool_1 : List UInt8 := dkwX0_cool_1 ++ dktX0_cool_2
def dkwX0_cool_0 : List UInt8 := [42, 27, 182, 0, 104, 154, 0, 6, 16, 254, 172, 42, 180, 0, 17, 27, 50, 180, 0, 107, 154, 0, 6]
abbrev dktX0_cool_0 : List UInt8 := dkwX0_cool_0 ++ dktX0_cool_1
theorem dksX0_cool_0 : cX0_cool.data.toList.drop 0 = dktX0_cool_0 := by decide +kernel
theorem dksX0_cool_1 : cX0_cool.data.toList.drop 23 = dktX0_cool_1 := dk_seg dksX0_cool_0 23 rfl rfl
theorem dksX0_cool_2 : cX0_cool.data.toList.drop 46 = dktX0_cool_2 := dk_seg dksX0_cool_1 23 rfl rfl
theorem dX0_cool_0 : decode cX0_cool 0 = .ok (.aload_n 0, 1) := dk_42 (dk_at dksX0_cool_0 0 rfl rfl)
theorem dX0_cool_1 : decode cX0_cool 1 = .ok (.iload_n 1, 1) := dk_27 (dk_at dksX0_cool_0 1 rfl rfl)
theorem dX0_cool_2 : decode cX0_cool 2 = .ok (.invokevirtual 104, 3) := dk_182 0 104 (dk_at dksX0_cool_0 2 rfl rfl)
theorem dX0_cool_5 : decode cX0_cool 5 = .ok (.ifCond .ne 6, 3) := dk_154 0 6 (dk_at dksX0_cool_0 5 rfl rfl)
theorem dX0_cool_8 : decode cX0_cool 8 = .ok (.bipush (-2), 2) := dk_16 254 (dk_at dksX0_cool_0 8 rfl rfl)
theorem dX0_cool_10 : decode cX0_cool 10 = .ok (.ireturn, 1) := dk_172 (dk_at dksX0_cool_0 10 rfl rfl)
theorem dX0_cool_11 : decode cX0_cool 11 = .ok (.aload_n 0, 1) := dk_42 (dk_at dksX0_cool_0 11 rfl rfl)
theorem dX0_cool_12 : decode cX0_cool 12 = .ok (.getfield 17, 3) := dk_180 0 17 (dk_at dksX0_cool_0 12 rfl rfl)
theorem dX0_cool_15 : decode cX0_cool 15 = .ok (.iload_n 1, 1) := dk_27 (dk_at dksX0_cool_0 15 rfl rfl)
theorem dX0_cool_16 : decode cX0_cool 16 = .ok (.aaload, 1) := dk_50 (dk_at dksX0_cool_0 16 rfl rfl)
theorem dX0_cool_17 : decode cX0_cool 17 = .ok (.getfield 107, 3) := dk_180 0 107 (dk_at dksX0_cool_0 17 rfl rfl)
theorem dX0_cool_20 : decode cX0_cool 20 = .ok (.ifCond .ne 6, 3) := dk_154 0 6 (dk_at dksX0_cool_0 20 rfl rfl)
theorem dX0_cool_23 : decode cX0_cool 23 = .ok (.bipush (-3), 2) := dk_16 253 (dk_at dksX0_cool_1 0 rfl rfl)
theorem dX0_cool_25 : decode cX0_cool 25 = .ok (.ireturn, 1) := dk_172 (dk_at dksX0_cool_1 2 rfl rfl)
theorem dX0_cool_26 : decode cX0_cool 26 = .ok (.aload_n 0, 1) := dk_42 (dk_at dksX0_cool_1 3 rfl rfl)
theorem dX0_cool_27 : decode cX0_cool 27 = .ok (.getfield 17, 3) := dk_180 0 17 (dk_at dksX0_cool_1 4 rfl rfl)
theorem dX0_cool_30 : decode cX0_cool 30 = .ok (.iload_n 1, 1) := dk_27 (dk_at dksX0_cool_1 7 rfl rfl)
theorem dX0_cool_31 : decode cX0_cool 31 = .ok (.aaload, 1) := dk_50 (dk_at dksX0_cool_1 8 rfl rfl)
theorem dX0_cool_32 : decode cX0_cool 32 = .ok (.iconst 0, 1) := dk_3 (dk_at dksX0_cool_1 9 rfl rfl)
theorem dX0_cool_33 : decode cX0_cool 33 = .ok (.putfield 107, 3) := dk_181 0 107 (dk_at dksX0_cool_1 10 rfl rfl)
theorem dX0_cool_36 : decode cX0_cool 36 = .ok (.aload_n 0, 1) := dk_42 (dk_at dksX0_cool_1 13 rfl rfl)
theorem dX0_cool_37 : decode cX0_cool 37 = .ok (.getfield 111, 3) := dk_180 0 111 (dk_at dksX0_cool_1 14 rfl rfl)
theorem dX0_cool_40 : decode cX0_cool 40 = .ok (.aload_n 0, 1) := dk_42 (dk_at dksX0_cool_1 17 rfl rfl)
theorem dX0_cool_41 : decode cX0_cool 41 = .ok (.getfield 17, 3) := dk_180 0 17 (dk_at dksX0_cool_1 18 rfl rfl)
theorem dX0_cool_44 : decode cX0_cool 44 = .ok (.iload_n 1, 1) := dk_27 (dk_at dksX0_cool_1 21 rfl rfl)
theorem dX0_cool_45 : decode cX0_cool 45 = .ok (.aaload, 1) := dk_50 (dk_at dksX0_cool_1 22 rfl rfl)
theorem dX0_cool_46 : decode cX0_cool 46 = .ok (.getfield 114, 3) := dk_180 0 114 (dk_at dksX0_cool_2 0 rfl rfl)
theorem dX0_cool_49 : decode cX0_cool 49 = .ok (.isub, 1) := dk_100 (dk_at dksX0_cool_2 3 rfl rfl)
theorem dX0_cool_50 : decode cX0_cool 50 = .ok (.ireturn, 1) := dk_172 (dk_at dksX0_cool_2 4 rfl rfl)
abbrev cX0_nitride : ByteArray := prog_1_method_9_code
def yX0_nitride : MethodName := ⟨RX0, "nitride", "(I)I"⟩
def dkwX0_nitride_2 : List UInt8 := [172]
abbrev dktX0_nitride_2 : List UInt8 := dkwX0_nitride_2 ++ []
def dkwX0_nitride_1 : List UInt8 := [16, 253, 172, 42, 180, 0, 17, 27, 50, 180, 0, 117, 61, 42, 180, 0, 17, 27, 50, 3, 181, 0, 117, 28]
abbrev dktX0_nitride_1 : List UInt8 := dkwX0_nitride_1 ++ dktX0_nitride_2
def dkwX0_nitride_0 : List UInt8 := [42, 27, 182, 0, 104, 154, 0, 6, 16, 254, 172, 42, 180, 0, 17, 27, 50, 180, 0, 107, 153, 0, 6]
abbrev dktX0_nitride_0 : List UInt8 := dkwX0_nitride_0 ++ dktX0_nitride_1
theorem dksX0_nitride_0 : cX0_nitride.data.toList.drop 0 = dktX0_nitride_0 := by decide +kernel
theorem dksX0_nitride_1 : cX0_nitride.data.toList.drop 23 = dktX0_nitride_1 := dk_seg dksX0_nitride_0 23 rfl rfl
theorem dksX0_nitride_2 : cX0_nitride.data.toList.drop 47 = dktX0_nitride_2 := dk_seg dksX0_nitride_1 24 rfl rfl
theorem dX0_nitride_0 : decode cX0_nitride 0 = .ok (.aload_n 0, 1) := dk_42 (dk_at dksX0_nitride_0 0 rfl rfl)
theorem dX0_nitride_1 : decode cX0_nitride 1 = .ok (.iload_n 1, 1) := dk_27 (dk_at dksX0_nitride_0 1 rfl rfl)
theorem dX0_nitride_2 : decode cX0_nitride 2 = .ok (.invokevirtual 104, 3) := dk_182 0 104 (dk_at dksX0_nitride_0 2 rfl rfl)
theorem dX0_nitride_5 : decode cX0_nitride 5 = .ok (.ifCond .ne 6, 3) := dk_154 0 6 (dk_at dksX0_nitride_0 5 rfl rfl)
theorem dX0_nitride_8 : decode cX0_nitride 8 = .ok (.bipush (-2), 2) := dk_16 254 (dk_at dksX0_nitride_0 8 rfl rfl)
theorem dX0_nitride_10 : decode cX0_nitride 10 = .ok (.ireturn, 1) := dk_172 (dk_at dksX0_nitride_0 10 rfl rfl)
theorem dX0_nitride_11 : decode cX0_nitride 11 = .ok (.aload_n 0, 1) := dk_42 (dk_at dksX0_nitride_0 11 rfl rfl)
theorem dX0_nitride_12 : decode cX0_nitride 12 = .ok (.getfield 17, 3) := dk_180 0 17 (dk_at dksX0_nitride_0 12 rfl rfl)
theorem dX0_nitride_15 : decode cX0_nitride 15 = .ok (.iload_n 1, 1) := dk_27 (dk_at dksX0_nitride_0 15 rfl rfl)
theorem dX0_nitride_16 : decode cX0_nitride 16 = .ok (.aaload, 1) := dk_50 (dk_at dksX0_nitride_0 16 rfl rfl)
theorem dX0_nitride_17 : decode cX0_nitride 17 = .ok (.getfield 107, 3) := dk_180 0 107 (dk_at dksX0_nitride_0 17 rfl rfl)
theorem dX0_nitride_20 : decode cX0_nitride 20 = .ok (.ifCond .eq 6, 3) := dk_153 0 6 (dk_at dksX0_nitride_0 20 rfl rfl)
theorem dX0_nitride_23 : decode cX0_nitride 23 = .ok (.bipush (-3), 2) := dk_16 253 (dk_at dksX0_nitride_1 0 rfl rfl)
theorem dX0_nitride_25 : decode cX0_nitride 25 = .ok (.ireturn, 1) := dk_172 (dk_at dksX0_nitride_1 2 rfl rfl)
theorem dX0_nitride_26 : decode cX0_nitride 26 = .ok (.aload_n 0, 1) := dk_42 (dk_at dksX0_nitride_1 3 rfl rfl)
theorem dX0_nitride_27 : decode cX0_nitride 27 = .ok (.getfield 17, 3) := dk_180 0 17 (dk_at dksX0_nitride_1 4 rfl rfl)
theorem dX0_nitride_30 : decode cX0_nitride 30 = .ok (.iload_n 1, 1) := dk_27 (dk_at dksX0_nitride_1 7 rfl rfl)
theorem dX0_nitride_31 : decode cX0_nitride 31 = .ok (.aaload, 1) := dk_50 (dk_at dksX0_nitride_1 8 rfl rfl)
theorem dX0_nitride_32 : decode cX0_nitride 32 = .ok (.getfield 117, 3) := dk_180 0 117 (dk_at dksX0_nitride_1 9 rfl rfl)
theorem dX0_nitride_35 : decode cX0_nitride 35 = .ok (.istore_n 2, 1) := dk_61 (dk_at dksX0_nitride_1 12 rfl rfl)
theorem dX0_nitride_36 : decode cX0_nitride 36 = .ok (.aload_n 0, 1) := dk_42 (dk_at dksX0_nitride_1 13 rfl rfl)
theorem dX0_nitride_37 : decode cX0_nitride 37 = .ok (.getfield 17, 3) := dk_180 0 17 (dk_at dksX0_nitride_1 14 rfl rfl)
theorem dX0_nitride_40 : decode cX0_nitride 40 = .ok (.iload_n 1, 1) := dk_27 (dk_at dksX0_nitride_1 17 rfl rfl)
theorem dX0_nitride_41 : decode cX0_nitride 41 = .ok (.aaload, 1) := dk_50 (dk_at dksX0_nitride_1 18 rfl rfl)
theorem dX0_nitride_42 : decode cX0_nitride 42 = .ok (.iconst 0, 1) := dk_3 (dk_at dksX0_nitride_1 19 rfl rfl)
theorem dX0_nitride_43 : decode cX0_nitride 43 = .ok (.putfield 117, 3) := dk_181 0 117 (dk_at dksX0_nitride_1 20 rfl rfl)
theorem dX0_nitride_46 : decode cX0_nitride 46 = .ok (.iload_n 2, 1) := dk_28 (dk_at dksX0_nitride_1 23 rfl rfl)
theorem dX0_nitride_47 : decode cX0_nitride 47 = .ok (.ireturn, 1) := dk_172 (dk_at dksX0_nitride_2 0 rfl rfl)
abbrev cX0_about : ByteArray := prog_1_method_11_code
def yX0_about : MethodName := ⟨RX0, "about", "(II)I"⟩
def dkwX0_about_4 : List UInt8 := [4, 167, 0, 4, 3, 172, 45, 180, 0, 134, 172, 16, 254, 172]
abbrev dktX0_about_4 : List UInt8 := dkwX0_about_4 ++ []
def dkwX0_about_3 : List UInt8 := [180, 0, 111, 45, 180, 0, 114, 100, 167, 0, 4, 2, 172, 45, 42, 180, 0, 111, 182, 0, 131, 153, 0, 7]
abbrev dktX0_about_3 : List UInt8 := dkwX0_about_3 ++ dktX0_about_4
def dkwX0_about_2 : List UInt8 := [42, 45, 182, 0, 124, 172, 45, 180, 0, 128, 172, 45, 180, 0, 117, 172, 45, 180, 0, 107, 153, 0, 15, 42]
abbrev dktX0_about_2 : List UInt8 := dkwX0_about_2 ++ dktX0_about_3
def dkwX0_about_1 : List UInt8 := [170, 0, 0, 0, 96, 0, 0, 0, 0, 0, 0, 0, 5, 0, 0, 0, 37, 0, 0, 0, 43, 0, 0, 0, 48, 0, 0, 0, 53, 0, 0, 0, 74, 0, 0, 0, 91]
abbrev dktX0_about_1 : List UInt8 := dkwX0_about_1 ++ dktX0_about_2
def dkwX0_about_0 : List UInt8 := [42, 27, 182, 0, 104, 154, 0, 6, 16, 254, 172, 42, 180, 0, 17, 27, 50, 78, 28]
abbrev dktX0_about_0 : List UInt8 := dkwX0_about_0 ++ dktX0_about_1
theorem dksX0_about_0 : cX0_about.data.toList.drop 0 = dktX0_about_0 := by decide +kernel
theorem dksX0_about_1 : cX0_about.data.toList.drop 19 = dktX0_about_1 := dk_seg dksX0_about_0 19 rfl rfl
theorem dksX0_about_2 : cX0_about.data.toList.drop 56 = dktX0_about_2 := dk_seg dksX0_about_1 37 rfl rfl
theorem dksX0_about_3 : cX0_about.data.toList.drop 80 = dktX0_about_3 := dk_seg dksX0_about_2 24 rfl rfl
theorem dksX0_about_4 : cX0_about.data.toList.drop 104 = dktX0_about_4 := dk_seg dksX0_about_3 24 rfl rfl
theorem dX0_about_0 : decode cX0_about 0 = .ok (.aload_n 0, 1) := dk_42 (dk_at dksX0_about_0 0 rfl rfl)
theorem dX0_about_1 : decode cX0_about 1 = .ok (.iload_n 1, 1) := dk_27 (dk_at dksX0_about_0 1 rfl rfl)
theorem dX0_about_2 : decode cX0_about 2 = .ok (.invokevirtual 104, 3) := dk_182 0 104 (dk_at dksX0_about_0 2 rfl rfl)
theorem dX0_about_5 : decode cX0_about 5 = .ok (.ifCond .ne 6, 3) := dk_154 0 6 (dk_at dksX0_about_0 5 rfl rfl)
theorem dX0_about_8 : decode cX0_about 8 = .ok (.bipush (-2), 2) := dk_16 254 (dk_at dksX0_about_0 8 rfl rfl)
theorem dX0_about_10 : decode cX0_about 10 = .ok (.ireturn, 1) := dk_172 (dk_at dksX0_about_0 10 rfl rfl)
theorem dX0_about_11 : decode cX0_about 11 = .ok (.aload_n 0, 1) := dk_42 (dk_at dksX0_about_0 11 rfl rfl)
theorem dX0_about_12 : decode cX0_about 12 = .ok (.getfield 17, 3) := dk_180 0 17 (dk_at dksX0_about_0 12 rfl rfl)
theorem dX0_about_15 : decode cX0_about 15 = .ok (.iload_n 1, 1) := dk_27 (dk_at dksX0_about_0 15 rfl rfl)
theorem dX0_about_16 : decode cX0_about 16 = .ok (.aaload, 1) := dk_50 (dk_at dksX0_about_0 16 rfl rfl)
theorem dX0_about_17 : decode cX0_about 17 = .ok (.astore_n 3, 1) := dk_78 (dk_at dksX0_about_0 17 rfl rfl)
theorem dX0_about_18 : decode cX0_about 18 = .ok (.iload_n 2, 1) := dk_28 (dk_at dksX0_about_0 18 rfl rfl)
theorem dX0_about_19 : decode cX0_about 19 = .ok (.tableswitch 96 0 5 #[37, 43, 48, 53, 74, 91], 37) := by decide +kernel
theorem dX0_about_56 : decode cX0_about 56 = .ok (.aload_n 0, 1) := dk_42 (dk_at dksX0_about_2 0 rfl rfl)
theorem dX0_about_57 : decode cX0_about 57 = .ok (.aload_n 3, 1) := dk_45 (dk_at dksX0_about_2 1 rfl rfl)
theorem dX0_about_58 : decode cX0_about 58 = .ok (.invokevirtual 124, 3) := dk_182 0 124 (dk_at dksX0_about_2 2 rfl rfl)
theorem dX0_about_61 : decode cX0_about 61 = .ok (.ireturn, 1) := dk_172 (dk_at dksX0_about_2 5 rfl rfl)
theorem dX0_about_62 : decode cX0_about 62 = .ok (.aload_n 3, 1) := dk_45 (dk_at dksX0_about_2 6 rfl rfl)
theorem dX0_about_63 : decode cX0_about 63 = .ok (.getfield 128, 3) := dk_180 0 128 (dk_at dksX0_about_2 7 rfl rfl)
theorem dX0_about_66 : decode cX0_about 66 = .ok (.ireturn, 1) := dk_172 (dk_at dksX0_about_2 10 rfl rfl)
theorem dX0_about_67 : decode cX0_about 67 = .ok (.aload_n 3, 1) := dk_45 (dk_at dksX0_about_2 11 rfl rfl)
theorem dX0_about_68 : decode cX0_about 68 = .ok (.getfield 117, 3) := dk_180 0 117 (dk_at dksX0_about_2 12 rfl rfl)
theorem dX0_about_71 : decode cX0_about 71 = .ok (.ireturn, 1) := dk_172 (dk_at dksX0_about_2 15 rfl rfl)
theorem dX0_about_72 : decode cX0_about 72 = .ok (.aload_n 3, 1) := dk_45 (dk_at dksX0_about_2 16 rfl rfl)
theorem dX0_about_73 : decode cX0_about 73 = .ok (.getfield 107, 3) := dk_180 0 107 (dk_at dksX0_about_2 17 rfl rfl)
theorem dX0_about_76 : decode cX0_about 76 = .ok (.ifCond .eq 15, 3) := dk_153 0 15 (dk_at dksX0_about_2 20 rfl rfl)
theorem dX0_about_79 : decode cX0_about 79 = .ok (.aload_n 0, 1) := dk_42 (dk_at dksX0_about_2 23 rfl rfl)
theorem dX0_about_80 : decode cX0_about 80 = .ok (.getfield 111, 3) := dk_180 0 111 (dk_at dksX0_about_3 0 rfl rfl)
theorem dX0_about_83 : decode cX0_about 83 = .ok (.aload_n 3, 1) := dk_45 (dk_at dksX0_about_3 3 rfl rfl)
theorem dX0_about_84 : decode cX0_about 84 = .ok (.getfield 114, 3) := dk_180 0 114 (dk_at dksX0_about_3 4 rfl rfl)
theorem dX0_about_87 : decode cX0_about 87 = .ok (.isub, 1) := dk_100 (dk_at dksX0_about_3 7 rfl rfl)
theorem dX0_about_88 : decode cX0_about 88 = .ok (.goto 4, 3) := dk_167 0 4 (dk_at dksX0_about_3 8 rfl rfl)
theorem dX0_about_91 : decode cX0_about 91 = .ok (.iconst (-1), 1) := dk_2 (dk_at dksX0_about_3 11 rfl rfl)
theorem dX0_about_92 : decode cX0_about 92 = .ok (.ireturn, 1) := dk_172 (dk_at dksX0_about_3 12 rfl rfl)
theorem dX0_about_93 : decode cX0_about 93 = .ok (.aload_n 3, 1) := dk_45 (dk_at dksX0_about_3 13 rfl rfl)
theorem dX0_about_94 : decode cX0_about 94 = .ok (.aload_n 0, 1) := dk_42 (dk_at dksX0_about_3 14 rfl rfl)
theorem dX0_about_95 : decode cX0_about 95 = .ok (.getfield 111, 3) := dk_180 0 111 (dk_at dksX0_about_3 15 rfl rfl)
theorem dX0_about_98 : decode cX0_about 98 = .ok (.invokevirtual 131, 3) := dk_182 0 131 (dk_at dksX0_about_3 18 rfl rfl)
theorem dX0_about_101 : decode cX0_about 101 = .ok (.ifCond .eq 7, 3) := dk_153 0 7 (dk_at dksX0_about_3 21 rfl rfl)
theorem dX0_about_104 : decode cX0_about 104 = .ok (.iconst 1, 1) := dk_4 (dk_at dksX0_about_4 0 rfl rfl)
theorem dX0_about_105 : decode cX0_about 105 = .ok (.goto 4, 3) := dk_167 0 4 (dk_at dksX0_about_4 1 rfl rfl)
theorem dX0_about_108 : decode cX0_about 108 = .ok (.iconst 0, 1) := dk_3 (dk_at dksX0_about_4 4 rfl rfl)
theorem dX0_about_109 : decode cX0_about 109 = .ok (.ireturn, 1) := dk_172 (dk_at dksX0_about_4 5 rfl rfl)
theorem dX0_about_110 : decode cX0_about 110 = .ok (.aload_n 3, 1) := dk_45 (dk_at dksX0_about_4 6 rfl rfl)
theorem dX0_about_111 : decode cX0_about 111 = .ok (.getfield 134, 3) := dk_180 0 134 (dk_at dksX0_about_4 7 rfl rfl)
theorem dX0_about_114 : decode cX0_about 114 = .ok (.ireturn, 1) := dk_172 (dk_at dksX0_about_4 10 rfl rfl)
theorem dX0_about_115 : decode cX0_about 115 = .ok (.bipush (-2), 2) := dk_16 254 (dk_at dksX0_about_4 11 rfl rfl)
theorem dX0_about_117 : decode cX0_about 117 = .ok (.ireturn, 1) := dk_172 (dk_at dksX0_about_4 13 rfl rfl)
abbrev cX0_profileOf : ByteArray := prog_1_method_10_code
def yX0_profileOf : MethodName := ⟨RX0, "profileOf", "(LBilletBars$Die;)I"⟩
def dkwX0_profileOf_0 : List UInt8 := [3, 61, 42, 180, 0, 11, 28, 50, 43, 180, 0, 120, 165, 0, 9, 132, 2, 1, 167, 255, 240, 28, 172]
abbrev dktX0_profileOf_0 : List UInt8 := dkwX0_profileOf_0 ++ []
theorem dksX0_profileOf_0 : cX0_profileOf.data.toList.drop 0 = dktX0_profileOf_0 := by decide +kernel
theorem dX0_profileOf_0 : decode cX0_profileOf 0 = .ok (.iconst 0, 1) := dk_3 (dk_at dksX0_profileOf_0 0 rfl rfl)
theorem dX0_profileOf_1 : decode cX0_profileOf 1 = .ok (.istore_n 2, 1) := dk_61 (dk_at dksX0_profileOf_0 1 rfl rfl)
theorem dX0_profileOf_2 : decode cX0_profileOf 2 = .ok (.aload_n 0, 1) := dk_42 (dk_at dksX0_profileOf_0 2 rfl rfl)
theorem dX0_profileOf_3 : decode cX0_profileOf 3 = .ok (.getfield 11, 3) := dk_180 0 11 (dk_at dksX0_profileOf_0 3 rfl rfl)
theorem dX0_profileOf_6 : decode cX0_profileOf 6 = .ok (.iload_n 2, 1) := dk_28 (dk_at dksX0_profileOf_0 6 rfl rfl)
theorem dX0_profileOf_7 : decode cX0_profileOf 7 = .ok (.aaload, 1) := dk_50 (dk_at dksX0_profileOf_0 7 rfl rfl)
theorem dX0_profileOf_8 : decode cX0_profileOf 8 = .ok (.aload_n 1, 1) := dk_43 (dk_at dksX0_profileOf_0 8 rfl rfl)
theorem dX0_profileOf_9 : decode cX0_profileOf 9 = .ok (.getfield 120, 3) := dk_180 0 120 (dk_at dksX0_profileOf_0 9 rfl rfl)
theorem dX0_profileOf_12 : decode cX0_profileOf 12 = .ok (.if_acmp .eq 9, 3) := dk_165 0 9 (dk_at dksX0_profileOf_0 12 rfl rfl)
theorem dX0_profileOf_15 : decode cX0_profileOf 15 = .ok (.iinc 2 1, 3) := dk_132 2 1 (dk_at dksX0_profileOf_0 15 rfl rfl)
theorem dX0_profileOf_18 : decode cX0_profileOf 18 = .ok (.goto (-16), 3) := dk_167 255 240 (dk_at dksX0_profileOf_0 18 rfl rfl)
theorem dX0_profileOf_21 : decode cX0_profileOf 21 = .ok (.iload_n 2, 1) := dk_28 (dk_at dksX0_profileOf_0 21 rfl rfl)
theorem dX0_profileOf_22 : decode cX0_profileOf 22 = .ok (.ireturn, 1) := dk_172 (dk_at dksX0_profileOf_0 22 rfl rfl)
abbrev cX0_ready : ByteArray := prog_1_method_12_code
def yX0_ready : MethodName := ⟨RX0, "ready", "(I)I"⟩
def dkwX0_ready_4 : List UInt8 := [29, 167, 0, 4, 28, 61, 132, 3, 1, 167, 255, 167, 28, 172]
abbrev dktX0_ready_4 : List UInt8 := dkwX0_ready_4 ++ []
def dkwX0_ready_3 : List UInt8 := [159, 0, 24, 42, 180, 0, 17, 29, 50, 180, 0, 117, 42, 180, 0, 17, 28, 50, 180, 0, 117, 162, 0, 7]
abbrev dktX0_ready_3 : List UInt8 := dkwX0_ready_3 ++ dktX0_ready_4
def dkwX0_ready_2 : List UInt8 := [180, 0, 111, 182, 0, 131, 153, 0, 7, 4, 167, 0, 4, 3, 54, 4, 21, 4, 153, 0, 33, 28, 2]
abbrev dktX0_ready_2 : List UInt8 := dkwX0_ready_2 ++ dktX0_ready_3
def dkwX0_ready_1 : List UInt8 := [180, 0, 17, 29, 50, 180, 0, 120, 42, 180, 0, 11, 27, 50, 166, 0, 23, 42, 180, 0, 17, 29, 50, 42]
abbrev dktX0_ready_1 : List UInt8 := dkwX0_ready_1 ++ dktX0_ready_2
def dkwX0_ready_0 : List UInt8 := [42, 27, 182, 0, 97, 154, 0, 6, 16, 254, 172, 2, 61, 3, 62, 29, 42, 180, 0, 91, 162, 0, 87, 42]
abbrev dktX0_ready_0 : List UInt8 := dkwX0_ready_0 ++ dktX0_ready_1
theorem dksX0_ready_0 : cX0_ready.data.toList.drop 0 = dktX0_ready_0 := by decide +kernel
theorem dksX0_ready_1 : cX0_ready.data.toList.drop 24 = dktX0_ready_1 := dk_seg dksX0_ready_0 24 rfl rfl
theorem dksX0_ready_2 : cX0_ready.data.toList.drop 48 = dktX0_ready_2 := dk_seg dksX0_ready_1 24 rfl rfl
theorem dksX0_ready_3 : cX0_ready.data.toList.drop 71 = dktX0_ready_3 := dk_seg dksX0_ready_2 23 rfl rfl
theorem dksX0_ready_4 : cX0_ready.data.toList.drop 95 = dktX0_ready_4 := dk_seg dksX0_ready_3 24 rfl rfl
theorem dX0_ready_0 : decode cX0_ready 0 = .ok (.aload_n 0, 1) := dk_42 (dk_at dksX0_ready_0 0 rfl rfl)
theorem dX0_ready_1 : decode cX0_ready 1 = .ok (.iload_n 1, 1) := dk_27 (dk_at dksX0_ready_0 1 rfl rfl)
theorem dX0_ready_2 : decode cX0_ready 2 = .ok (.invokevirtual 97, 3) := dk_182 0 97 (dk_at dksX0_ready_0 2 rfl rfl)
theorem dX0_ready_5 : decode cX0_ready 5 = .ok (.ifCond .ne 6, 3) := dk_154 0 6 (dk_at dksX0_ready_0 5 rfl rfl)
theorem dX0_ready_8 : decode cX0_ready 8 = .ok (.bipush (-2), 2) := dk_16 254 (dk_at dksX0_ready_0 8 rfl rfl)
theorem dX0_ready_10 : decode cX0_ready 10 = .ok (.ireturn, 1) := dk_172 (dk_at dksX0_ready_0 10 rfl rfl)
theorem dX0_ready_11 : decode cX0_ready 11 = .ok (.iconst (-1), 1) := dk_2 (dk_at dksX0_ready_0 11 rfl rfl)
theorem dX0_ready_12 : decode cX0_ready 12 = .ok (.istore_n 2, 1) := dk_61 (dk_at dksX0_ready_0 12 rfl rfl)
theorem dX0_ready_13 : decode cX0_ready 13 = .ok (.iconst 0, 1) := dk_3 (dk_at dksX0_ready_0 13 rfl rfl)
theorem dX0_ready_14 : decode cX0_ready 14 = .ok (.istore_n 3, 1) := dk_62 (dk_at dksX0_ready_0 14 rfl rfl)
theorem dX0_ready_15 : decode cX0_ready 15 = .ok (.iload_n 3, 1) := dk_29 (dk_at dksX0_ready_0 15 rfl rfl)
theorem dX0_ready_16 : decode cX0_ready 16 = .ok (.aload_n 0, 1) := dk_42 (dk_at dksX0_ready_0 16 rfl rfl)
theorem dX0_ready_17 : decode cX0_ready 17 = .ok (.getfield 91, 3) := dk_180 0 91 (dk_at dksX0_ready_0 17 rfl rfl)
theorem dX0_ready_20 : decode cX0_ready 20 = .ok (.if_icmp .ge 87, 3) := dk_162 0 87 (dk_at dksX0_ready_0 20 rfl rfl)
theorem dX0_ready_23 : decode cX0_ready 23 = .ok (.aload_n 0, 1) := dk_42 (dk_at dksX0_ready_0 23 rfl rfl)
theorem dX0_ready_24 : decode cX0_ready 24 = .ok (.getfield 17, 3) := dk_180 0 17 (dk_at dksX0_ready_1 0 rfl rfl)
theorem dX0_ready_27 : decode cX0_ready 27 = .ok (.iload_n 3, 1) := dk_29 (dk_at dksX0_ready_1 3 rfl rfl)
theorem dX0_ready_28 : decode cX0_ready 28 = .ok (.aaload, 1) := dk_50 (dk_at dksX0_ready_1 4 rfl rfl)
theorem dX0_ready_29 : decode cX0_ready 29 = .ok (.getfield 120, 3) := dk_180 0 120 (dk_at dksX0_ready_1 5 rfl rfl)
theorem dX0_ready_32 : decode cX0_ready 32 = .ok (.aload_n 0, 1) := dk_42 (dk_at dksX0_ready_1 8 rfl rfl)
theorem dX0_ready_33 : decode cX0_ready 33 = .ok (.getfield 11, 3) := dk_180 0 11 (dk_at dksX0_ready_1 9 rfl rfl)
theorem dX0_ready_36 : decode cX0_ready 36 = .ok (.iload_n 1, 1) := dk_27 (dk_at dksX0_ready_1 12 rfl rfl)
theorem dX0_ready_37 : decode cX0_ready 37 = .ok (.aaload, 1) := dk_50 (dk_at dksX0_ready_1 13 rfl rfl)
theorem dX0_ready_38 : decode cX0_ready 38 = .ok (.if_acmp .ne 23, 3) := dk_166 0 23 (dk_at dksX0_ready_1 14 rfl rfl)
theorem dX0_ready_41 : decode cX0_ready 41 = .ok (.aload_n 0, 1) := dk_42 (dk_at dksX0_ready_1 17 rfl rfl)
theorem dX0_ready_42 : decode cX0_ready 42 = .ok (.getfield 17, 3) := dk_180 0 17 (dk_at dksX0_ready_1 18 rfl rfl)
theorem dX0_ready_45 : decode cX0_ready 45 = .ok (.iload_n 3, 1) := dk_29 (dk_at dksX0_ready_1 21 rfl rfl)
theorem dX0_ready_46 : decode cX0_ready 46 = .ok (.aaload, 1) := dk_50 (dk_at dksX0_ready_1 22 rfl rfl)
theorem dX0_ready_47 : decode cX0_ready 47 = .ok (.aload_n 0, 1) := dk_42 (dk_at dksX0_ready_1 23 rfl rfl)
theorem dX0_ready_48 : decode cX0_ready 48 = .ok (.getfield 111, 3) := dk_180 0 111 (dk_at dksX0_ready_2 0 rfl rfl)
theorem dX0_ready_51 : decode cX0_ready 51 = .ok (.invokevirtual 131, 3) := dk_182 0 131 (dk_at dksX0_ready_2 3 rfl rfl)
theorem dX0_ready_54 : decode cX0_ready 54 = .ok (.ifCond .eq 7, 3) := dk_153 0 7 (dk_at dksX0_ready_2 6 rfl rfl)
theorem dX0_ready_57 : decode cX0_ready 57 = .ok (.iconst 1, 1) := dk_4 (dk_at dksX0_ready_2 9 rfl rfl)
theorem dX0_ready_58 : decode cX0_ready 58 = .ok (.goto 4, 3) := dk_167 0 4 (dk_at dksX0_ready_2 10 rfl rfl)
theorem dX0_ready_61 : decode cX0_ready 61 = .ok (.iconst 0, 1) := dk_3 (dk_at dksX0_ready_2 13 rfl rfl)
theorem dX0_ready_62 : decode cX0_ready 62 = .ok (.istore 4, 2) := dk_54 4 (dk_at dksX0_ready_2 14 rfl rfl)
theorem dX0_ready_64 : decode cX0_ready 64 = .ok (.iload 4, 2) := dk_21 4 (dk_at dksX0_ready_2 16 rfl rfl)
theorem dX0_ready_66 : decode cX0_ready 66 = .ok (.ifCond .eq 33, 3) := dk_153 0 33 (dk_at dksX0_ready_2 18 rfl rfl)
theorem dX0_ready_69 : decode cX0_ready 69 = .ok (.iload_n 2, 1) := dk_28 (dk_at dksX0_ready_2 21 rfl rfl)
theorem dX0_ready_70 : decode cX0_ready 70 = .ok (.iconst (-1), 1) := dk_2 (dk_at dksX0_ready_2 22 rfl rfl)
theorem dX0_ready_71 : decode cX0_ready 71 = .ok (.if_icmp .eq 24, 3) := dk_159 0 24 (dk_at dksX0_ready_3 0 rfl rfl)
theorem dX0_ready_74 : decode cX0_ready 74 = .ok (.aload_n 0, 1) := dk_42 (dk_at dksX0_ready_3 3 rfl rfl)
theorem dX0_ready_75 : decode cX0_ready 75 = .ok (.getfield 17, 3) := dk_180 0 17 (dk_at dksX0_ready_3 4 rfl rfl)
theorem dX0_ready_78 : decode cX0_ready 78 = .ok (.iload_n 3, 1) := dk_29 (dk_at dksX0_ready_3 7 rfl rfl)
theorem dX0_ready_79 : decode cX0_ready 79 = .ok (.aaload, 1) := dk_50 (dk_at dksX0_ready_3 8 rfl rfl)
theorem dX0_ready_80 : decode cX0_ready 80 = .ok (.getfield 117, 3) := dk_180 0 117 (dk_at dksX0_ready_3 9 rfl rfl)
theorem dX0_ready_83 : decode cX0_ready 83 = .ok (.aload_n 0, 1) := dk_42 (dk_at dksX0_ready_3 12 rfl rfl)
theorem dX0_ready_84 : decode cX0_ready 84 = .ok (.getfield 17, 3) := dk_180 0 17 (dk_at dksX0_ready_3 13 rfl rfl)
theorem dX0_ready_87 : decode cX0_ready 87 = .ok (.iload_n 2, 1) := dk_28 (dk_at dksX0_ready_3 16 rfl rfl)
theorem dX0_ready_88 : decode cX0_ready 88 = .ok (.aaload, 1) := dk_50 (dk_at dksX0_ready_3 17 rfl rfl)
theorem dX0_ready_89 : decode cX0_ready 89 = .ok (.getfield 117, 3) := dk_180 0 117 (dk_at dksX0_ready_3 18 rfl rfl)
theorem dX0_ready_92 : decode cX0_ready 92 = .ok (.if_icmp .ge 7, 3) := dk_162 0 7 (dk_at dksX0_ready_3 21 rfl rfl)
theorem dX0_ready_95 : decode cX0_ready 95 = .ok (.iload_n 3, 1) := dk_29 (dk_at dksX0_ready_4 0 rfl rfl)
theorem dX0_ready_96 : decode cX0_ready 96 = .ok (.goto 4, 3) := dk_167 0 4 (dk_at dksX0_ready_4 1 rfl rfl)
theorem dX0_ready_99 : decode cX0_ready 99 = .ok (.iload_n 2, 1) := dk_28 (dk_at dksX0_ready_4 4 rfl rfl)
theorem dX0_ready_100 : decode cX0_ready 100 = .ok (.istore_n 2, 1) := dk_61 (dk_at dksX0_ready_4 5 rfl rfl)
theorem dX0_ready_101 : decode cX0_ready 101 = .ok (.iinc 3 1, 3) := dk_132 3 1 (dk_at dksX0_ready_4 6 rfl rfl)
theorem dX0_ready_104 : decode cX0_ready 104 = .ok (.goto (-89), 3) := dk_167 255 167 (dk_at dksX0_ready_4 9 rfl rfl)
theorem dX0_ready_107 : decode cX0_ready 107 = .ok (.iload_n 2, 1) := dk_28 (dk_at dksX0_ready_4 12 rfl rfl)
theorem dX0_ready_108 : decode cX0_ready 108 = .ok (.ireturn, 1) := dk_172 (dk_at dksX0_ready_4 13 rfl rfl)
abbrev cX0_pass : ByteArray := prog_1_method_13_code
def yX0_pass : MethodName := ⟨RX0, "pass", "(I)I"⟩
def dkwX0_pass_1 : List UInt8 := [180, 0, 111, 172]
abbrev dktX0_pass_1 : List UInt8 := dkwX0_pass_1 ++ []
def dkwX0_pass_0 : List UInt8 := [27, 4, 16, 100, 184, 0, 87, 154, 0, 6, 16, 254, 172, 42, 89, 180, 0, 111, 27, 96, 181, 0, 111, 42]
abbrev dktX0_pass_0 : List UInt8 := dkwX0_pass_0 ++ dktX0_pass_1
theorem dksX0_pass_0 : cX0_pass.data.toList.drop 0 = dktX0_pass_0 := by decide +kernel
theorem dksX0_pass_1 : cX0_pass.data.toList.drop 24 = dktX0_pass_1 := dk_seg dksX0_pass_0 24 rfl rfl
theorem dX0_pass_0 : decode cX0_pass 0 = .ok (.iload_n 1, 1) := dk_27 (dk_at dksX0_pass_0 0 rfl rfl)
theorem dX0_pass_1 : decode cX0_pass 1 = .ok (.iconst 1, 1) := dk_4 (dk_at dksX0_pass_0 1 rfl rfl)
theorem dX0_pass_2 : decode cX0_pass 2 = .ok (.bipush 100, 2) := dk_16 100 (dk_at dksX0_pass_0 2 rfl rfl)
theorem dX0_pass_4 : decode cX0_pass 4 = .ok (.invokestatic 87, 3) := dk_184 0 87 (dk_at dksX0_pass_0 4 rfl rfl)
theorem dX0_pass_7 : decode cX0_pass 7 = .ok (.ifCond .ne 6, 3) := dk_154 0 6 (dk_at dksX0_pass_0 7 rfl rfl)
theorem dX0_pass_10 : decode cX0_pass 10 = .ok (.bipush (-2), 2) := dk_16 254 (dk_at dksX0_pass_0 10 rfl rfl)
theorem dX0_pass_12 : decode cX0_pass 12 = .ok (.ireturn, 1) := dk_172 (dk_at dksX0_pass_0 12 rfl rfl)
theorem dX0_pass_13 : decode cX0_pass 13 = .ok (.aload_n 0, 1) := dk_42 (dk_at dksX0_pass_0 13 rfl rfl)
theorem dX0_pass_14 : decode cX0_pass 14 = .ok (.dup, 1) := dk_89 (dk_at dksX0_pass_0 14 rfl rfl)
theorem dX0_pass_15 : decode cX0_pass 15 = .ok (.getfield 111, 3) := dk_180 0 111 (dk_at dksX0_pass_0 15 rfl rfl)
theorem dX0_pass_18 : decode cX0_pass 18 = .ok (.iload_n 1, 1) := dk_27 (dk_at dksX0_pass_0 18 rfl rfl)
theorem dX0_pass_19 : decode cX0_pass 19 = .ok (.iadd, 1) := dk_96 (dk_at dksX0_pass_0 19 rfl rfl)
theorem dX0_pass_20 : decode cX0_pass 20 = .ok (.putfield 111, 3) := dk_181 0 111 (dk_at dksX0_pass_0 20 rfl rfl)
theorem dX0_pass_23 : decode cX0_pass 23 = .ok (.aload_n 0, 1) := dk_42 (dk_at dksX0_pass_0 23 rfl rfl)
theorem dX0_pass_24 : decode cX0_pass 24 = .ok (.getfield 111, 3) := dk_180 0 111 (dk_at dksX0_pass_1 0 rfl rfl)
theorem dX0_pass_27 : decode cX0_pass 27 = .ok (.ireturn, 1) := dk_172 (dk_at dksX0_pass_1 3 rfl rfl)
abbrev cX0_law : ByteArray := prog_1_method_14_code
def yX0_law : MethodName := ⟨RX0, "law", "(II)I"⟩
def dkwX0_law_1 : List UInt8 := [172, 42, 180, 0, 21, 27, 46, 62, 42, 180, 0, 21, 27, 28, 79, 29, 172]
abbrev dktX0_law_1 : List UInt8 := dkwX0_law_1 ++ []
def dkwX0_law_0 : List UInt8 := [27, 3, 8, 184, 0, 87, 153, 0, 16, 28, 3, 178, 0, 137, 27, 46, 184, 0, 87, 154, 0, 6, 16, 254]
abbrev dktX0_law_0 : List UInt8 := dkwX0_law_0 ++ dktX0_law_1
theorem dksX0_law_0 : cX0_law.data.toList.drop 0 = dktX0_law_0 := by decide +kernel
theorem dksX0_law_1 : cX0_law.data.toList.drop 24 = dktX0_law_1 := dk_seg dksX0_law_0 24 rfl rfl
theorem dX0_law_0 : decode cX0_law 0 = .ok (.iload_n 1, 1) := dk_27 (dk_at dksX0_law_0 0 rfl rfl)
theorem dX0_law_1 : decode cX0_law 1 = .ok (.iconst 0, 1) := dk_3 (dk_at dksX0_law_0 1 rfl rfl)
theorem dX0_law_2 : decode cX0_law 2 = .ok (.iconst 5, 1) := dk_8 (dk_at dksX0_law_0 2 rfl rfl)
theorem dX0_law_3 : decode cX0_law 3 = .ok (.invokestatic 87, 3) := dk_184 0 87 (dk_at dksX0_law_0 3 rfl rfl)
theorem dX0_law_6 : decode cX0_law 6 = .ok (.ifCond .eq 16, 3) := dk_153 0 16 (dk_at dksX0_law_0 6 rfl rfl)
theorem dX0_law_9 : decode cX0_law 9 = .ok (.iload_n 2, 1) := dk_28 (dk_at dksX0_law_0 9 rfl rfl)
theorem dX0_law_10 : decode cX0_law 10 = .ok (.iconst 0, 1) := dk_3 (dk_at dksX0_law_0 10 rfl rfl)
theorem dX0_law_11 : decode cX0_law 11 = .ok (.getstatic 137, 3) := dk_178 0 137 (dk_at dksX0_law_0 11 rfl rfl)
theorem dX0_law_14 : decode cX0_law 14 = .ok (.iload_n 1, 1) := dk_27 (dk_at dksX0_law_0 14 rfl rfl)
theorem dX0_law_15 : decode cX0_law 15 = .ok (.iaload, 1) := dk_46 (dk_at dksX0_law_0 15 rfl rfl)
theorem dX0_law_16 : decode cX0_law 16 = .ok (.invokestatic 87, 3) := dk_184 0 87 (dk_at dksX0_law_0 16 rfl rfl)
theorem dX0_law_19 : decode cX0_law 19 = .ok (.ifCond .ne 6, 3) := dk_154 0 6 (dk_at dksX0_law_0 19 rfl rfl)
theorem dX0_law_22 : decode cX0_law 22 = .ok (.bipush (-2), 2) := dk_16 254 (dk_at dksX0_law_0 22 rfl rfl)
theorem dX0_law_24 : decode cX0_law 24 = .ok (.ireturn, 1) := dk_172 (dk_at dksX0_law_1 0 rfl rfl)
theorem dX0_law_25 : decode cX0_law 25 = .ok (.aload_n 0, 1) := dk_42 (dk_at dksX0_law_1 1 rfl rfl)
theorem dX0_law_26 : decode cX0_law 26 = .ok (.getfield 21, 3) := dk_180 0 21 (dk_at dksX0_law_1 2 rfl rfl)
theorem dX0_law_29 : decode cX0_law 29 = .ok (.iload_n 1, 1) := dk_27 (dk_at dksX0_law_1 5 rfl rfl)
theorem dX0_law_30 : decode cX0_law 30 = .ok (.iaload, 1) := dk_46 (dk_at dksX0_law_1 6 rfl rfl)
theorem dX0_law_31 : decode cX0_law 31 = .ok (.istore_n 3, 1) := dk_62 (dk_at dksX0_law_1 7 rfl rfl)
theorem dX0_law_32 : decode cX0_law 32 = .ok (.aload_n 0, 1) := dk_42 (dk_at dksX0_law_1 8 rfl rfl)
theorem dX0_law_33 : decode cX0_law 33 = .ok (.getfield 21, 3) := dk_180 0 21 (dk_at dksX0_law_1 9 rfl rfl)
theorem dX0_law_36 : decode cX0_law 36 = .ok (.iload_n 1, 1) := dk_27 (dk_at dksX0_law_1 12 rfl rfl)
theorem dX0_law_37 : decode cX0_law 37 = .ok (.iload_n 2, 1) := dk_28 (dk_at dksX0_law_1 13 rfl rfl)
theorem dX0_law_38 : decode cX0_law 38 = .ok (.iastore, 1) := dk_79 (dk_at dksX0_law_1 14 rfl rfl)
theorem dX0_law_39 : decode cX0_law 39 = .ok (.iload_n 3, 1) := dk_29 (dk_at dksX0_law_1 15 rfl rfl)
theorem dX0_law_40 : decode cX0_law 40 = .ok (.ireturn, 1) := dk_172 (dk_at dksX0_law_1 16 rfl rfl)
abbrev cX0_press : ByteArray := prog_1_method_20_code
def yX0_press : MethodName := ⟨RX0, "press", "(II)I"⟩
def dkwX0_press_12 : List UInt8 := [42, 180, 0, 111, 181, 0, 210, 42, 89, 180, 0, 111, 4, 96, 181, 0, 111, 25, 4, 180, 0, 224, 172]
abbrev dktX0_press_12 : List UInt8 := dkwX0_press_12 ++ []
def dkwX0_press_11 : List UInt8 := [180, 0, 117, 4, 96, 181, 0, 117, 45, 89, 180, 0, 134, 4, 96, 181, 0, 134, 42, 45, 181, 0, 206, 42]
abbrev dktX0_press_11 : List UInt8 := dkwX0_press_11 ++ dktX0_press_12
def dkwX0_press_10 : List UInt8 := [180, 0, 48, 42, 180, 0, 193, 25, 4, 83, 42, 89, 180, 0, 193, 4, 96, 181, 0, 193, 45, 89]
abbrev dktX0_press_10 : List UInt8 := dkwX0_press_10 ++ dktX0_press_11
def dkwX0_press_9 : List UInt8 := [89, 180, 0, 173, 42, 180, 0, 52, 21, 7, 46, 100, 181, 0, 173, 132, 7, 1, 167, 255, 208, 42]
abbrev dktX0_press_9 : List UInt8 := dkwX0_press_9 ++ dktX0_press_10
def dkwX0_press_8 : List UInt8 := [180, 0, 157, 182, 0, 161, 162, 0, 39, 45, 180, 0, 120, 180, 0, 157, 21, 7, 182, 0, 167, 192, 0, 171]
abbrev dktX0_press_8 : List UInt8 := dkwX0_press_8 ++ dktX0_press_9
def dkwX0_press_7 : List UInt8 := [181, 0, 224, 25, 4, 21, 6, 42, 180, 0, 182, 100, 181, 0, 225, 3, 54, 7, 21, 7, 45, 180, 0, 120]
abbrev dktX0_press_7 : List UInt8 := dkwX0_press_7 ++ dktX0_press_8
def dkwX0_press_6 : List UInt8 := [21, 5, 100, 181, 0, 217, 42, 45, 180, 0, 120, 21, 6, 182, 0, 220, 25, 4, 42, 180, 0, 182]
abbrev dktX0_press_6 : List UInt8 := dkwX0_press_6 ++ dktX0_press_7
def dkwX0_press_5 : List UInt8 := [160, 0, 7, 4, 167, 0, 4, 3, 4, 182, 0, 213, 54, 6, 25, 4, 42, 180, 0, 42, 180, 0, 205]
abbrev dktX0_press_5 : List UInt8 := dkwX0_press_5 ++ dktX0_press_6
def dkwX0_press_4 : List UInt8 := [25, 4, 180, 0, 202, 42, 180, 0, 206, 45, 166, 0, 20, 42, 180, 0, 210, 42, 180, 0, 111, 4, 100]
abbrev dktX0_press_4 : List UInt8 := dkwX0_press_4 ++ dktX0_press_5
def dkwX0_press_3 : List UInt8 := [25, 4, 42, 45, 180, 0, 120, 28, 182, 0, 199, 181, 0, 202, 42, 180, 0, 42, 180, 0, 205, 54, 5, 42]
abbrev dktX0_press_3 : List UInt8 := dkwX0_press_3 ++ dktX0_press_4
def dkwX0_press_2 : List UInt8 := [180, 0, 193, 17, 0, 200, 160, 0, 6, 16, 252, 172, 187, 0, 46, 89, 45, 28, 183, 0, 196, 58, 4]
abbrev dktX0_press_2 : List UInt8 := dkwX0_press_2 ++ dktX0_press_3
def dkwX0_press_1 : List UInt8 := [42, 180, 0, 17, 27, 50, 78, 45, 42, 180, 0, 111, 182, 0, 131, 154, 0, 6, 16, 253, 172, 42]
abbrev dktX0_press_1 : List UInt8 := dkwX0_press_1 ++ dktX0_press_2
def dkwX0_press_0 : List UInt8 := [42, 27, 182, 0, 104, 153, 0, 16, 28, 17, 0, 200, 17, 4, 176, 184, 0, 87, 154, 0, 6, 16, 254, 172]
abbrev dktX0_press_0 : List UInt8 := dkwX0_press_0 ++ dktX0_press_1
theorem dksX0_press_0 : cX0_press.data.toList.drop 0 = dktX0_press_0 := by decide +kernel
theorem dksX0_press_1 : cX0_press.data.toList.drop 24 = dktX0_press_1 := dk_seg dksX0_press_0 24 rfl rfl
theorem dksX0_press_2 : cX0_press.data.toList.drop 46 = dktX0_press_2 := dk_seg dksX0_press_1 22 rfl rfl
theorem dksX0_press_3 : cX0_press.data.toList.drop 69 = dktX0_press_3 := dk_seg dksX0_press_2 23 rfl rfl
theorem dksX0_press_4 : cX0_press.data.toList.drop 93 = dktX0_press_4 := dk_seg dksX0_press_3 24 rfl rfl
theorem dksX0_press_5 : cX0_press.data.toList.drop 116 = dktX0_press_5 := dk_seg dksX0_press_4 23 rfl rfl
theorem dksX0_press_6 : cX0_press.data.toList.drop 139 = dktX0_press_6 := dk_seg dksX0_press_5 23 rfl rfl
theorem dksX0_press_7 : cX0_press.data.toList.drop 161 = dktX0_press_7 := dk_seg dksX0_press_6 22 rfl rfl
theorem dksX0_press_8 : cX0_press.data.toList.drop 185 = dktX0_press_8 := dk_seg dksX0_press_7 24 rfl rfl
theorem dksX0_press_9 : cX0_press.data.toList.drop 209 = dktX0_press_9 := dk_seg dksX0_press_8 24 rfl rfl
theorem dksX0_press_10 : cX0_press.data.toList.drop 231 = dktX0_press_10 := dk_seg dksX0_press_9 22 rfl rfl
theorem dksX0_press_11 : cX0_press.data.toList.drop 253 = dktX0_press_11 := dk_seg dksX0_press_10 22 rfl rfl
theorem dksX0_press_12 : cX0_press.data.toList.drop 277 = dktX0_press_12 := dk_seg dksX0_press_11 24 rfl rfl
theorem dX0_press_0 : decode cX0_press 0 = .ok (.aload_n 0, 1) := dk_42 (dk_at dksX0_press_0 0 rfl rfl)
theorem dX0_press_1 : decode cX0_press 1 = .ok (.iload_n 1, 1) := dk_27 (dk_at dksX0_press_0 1 rfl rfl)
theorem dX0_press_2 : decode cX0_press 2 = .ok (.invokevirtual 104, 3) := dk_182 0 104 (dk_at dksX0_press_0 2 rfl rfl)
theorem dX0_press_5 : decode cX0_press 5 = .ok (.ifCond .eq 16, 3) := dk_153 0 16 (dk_at dksX0_press_0 5 rfl rfl)
theorem dX0_press_8 : decode cX0_press 8 = .ok (.iload_n 2, 1) := dk_28 (dk_at dksX0_press_0 8 rfl rfl)
theorem dX0_press_9 : decode cX0_press 9 = .ok (.sipush 200, 3) := dk_17 0 200 (dk_at dksX0_press_0 9 rfl rfl)
theorem dX0_press_12 : decode cX0_press 12 = .ok (.sipush 1200, 3) := dk_17 4 176 (dk_at dksX0_press_0 12 rfl rfl)
theorem dX0_press_15 : decode cX0_press 15 = .ok (.invokestatic 87, 3) := dk_184 0 87 (dk_at dksX0_press_0 15 rfl rfl)
theorem dX0_press_18 : decode cX0_press 18 = .ok (.ifCond .ne 6, 3) := dk_154 0 6 (dk_at dksX0_press_0 18 rfl rfl)
theorem dX0_press_21 : decode cX0_press 21 = .ok (.bipush (-2), 2) := dk_16 254 (dk_at dksX0_press_0 21 rfl rfl)
theorem dX0_press_23 : decode cX0_press 23 = .ok (.ireturn, 1) := dk_172 (dk_at dksX0_press_0 23 rfl rfl)
theorem dX0_press_24 : decode cX0_press 24 = .ok (.aload_n 0, 1) := dk_42 (dk_at dksX0_press_1 0 rfl rfl)
theorem dX0_press_25 : decode cX0_press 25 = .ok (.getfield 17, 3) := dk_180 0 17 (dk_at dksX0_press_1 1 rfl rfl)
theorem dX0_press_28 : decode cX0_press 28 = .ok (.iload_n 1, 1) := dk_27 (dk_at dksX0_press_1 4 rfl rfl)
theorem dX0_press_29 : decode cX0_press 29 = .ok (.aaload, 1) := dk_50 (dk_at dksX0_press_1 5 rfl rfl)
theorem dX0_press_30 : decode cX0_press 30 = .ok (.astore_n 3, 1) := dk_78 (dk_at dksX0_press_1 6 rfl rfl)
theorem dX0_press_31 : decode cX0_press 31 = .ok (.aload_n 3, 1) := dk_45 (dk_at dksX0_press_1 7 rfl rfl)
theorem dX0_press_32 : decode cX0_press 32 = .ok (.aload_n 0, 1) := dk_42 (dk_at dksX0_press_1 8 rfl rfl)
theorem dX0_press_33 : decode cX0_press 33 = .ok (.getfield 111, 3) := dk_180 0 111 (dk_at dksX0_press_1 9 rfl rfl)
theorem dX0_press_36 : decode cX0_press 36 = .ok (.invokevirtual 131, 3) := dk_182 0 131 (dk_at dksX0_press_1 12 rfl rfl)
theorem dX0_press_39 : decode cX0_press 39 = .ok (.ifCond .ne 6, 3) := dk_154 0 6 (dk_at dksX0_press_1 15 rfl rfl)
theorem dX0_press_42 : decode cX0_press 42 = .ok (.bipush (-3), 2) := dk_16 253 (dk_at dksX0_press_1 18 rfl rfl)
theorem dX0_press_44 : decode cX0_press 44 = .ok (.ireturn, 1) := dk_172 (dk_at dksX0_press_1 20 rfl rfl)
theorem dX0_press_45 : decode cX0_press 45 = .ok (.aload_n 0, 1) := dk_42 (dk_at dksX0_press_1 21 rfl rfl)
theorem dX0_press_46 : decode cX0_press 46 = .ok (.getfield 193, 3) := dk_180 0 193 (dk_at dksX0_press_2 0 rfl rfl)
theorem dX0_press_49 : decode cX0_press 49 = .ok (.sipush 200, 3) := dk_17 0 200 (dk_at dksX0_press_2 3 rfl rfl)
theorem dX0_press_52 : decode cX0_press 52 = .ok (.if_icmp .ne 6, 3) := dk_160 0 6 (dk_at dksX0_press_2 6 rfl rfl)
theorem dX0_press_55 : decode cX0_press 55 = .ok (.bipush (-4), 2) := dk_16 252 (dk_at dksX0_press_2 9 rfl rfl)
theorem dX0_press_57 : decode cX0_press 57 = .ok (.ireturn, 1) := dk_172 (dk_at dksX0_press_2 11 rfl rfl)
theorem dX0_press_58 : decode cX0_press 58 = .ok (.new 46, 3) := dk_187 0 46 (dk_at dksX0_press_2 12 rfl rfl)
theorem dX0_press_61 : decode cX0_press 61 = .ok (.dup, 1) := dk_89 (dk_at dksX0_press_2 15 rfl rfl)
theorem dX0_press_62 : decode cX0_press 62 = .ok (.aload_n 3, 1) := dk_45 (dk_at dksX0_press_2 16 rfl rfl)
theorem dX0_press_63 : decode cX0_press 63 = .ok (.iload_n 2, 1) := dk_28 (dk_at dksX0_press_2 17 rfl rfl)
theorem dX0_press_64 : decode cX0_press 64 = .ok (.invokespecial 196, 3) := dk_183 0 196 (dk_at dksX0_press_2 18 rfl rfl)
theorem dX0_press_67 : decode cX0_press 67 = .ok (.astore 4, 2) := dk_58 4 (dk_at dksX0_press_2 21 rfl rfl)
theorem dX0_press_69 : decode cX0_press 69 = .ok (.aload 4, 2) := dk_25 4 (dk_at dksX0_press_3 0 rfl rfl)
theorem dX0_press_71 : decode cX0_press 71 = .ok (.aload_n 0, 1) := dk_42 (dk_at dksX0_press_3 2 rfl rfl)
theorem dX0_press_72 : decode cX0_press 72 = .ok (.aload_n 3, 1) := dk_45 (dk_at dksX0_press_3 3 rfl rfl)
theorem dX0_press_73 : decode cX0_press 73 = .ok (.getfield 120, 3) := dk_180 0 120 (dk_at dksX0_press_3 4 rfl rfl)
theorem dX0_press_76 : decode cX0_press 76 = .ok (.iload_n 2, 1) := dk_28 (dk_at dksX0_press_3 7 rfl rfl)
theorem dX0_press_77 : decode cX0_press 77 = .ok (.invokevirtual 199, 3) := dk_182 0 199 (dk_at dksX0_press_3 8 rfl rfl)
theorem dX0_press_80 : decode cX0_press 80 = .ok (.putfield 202, 3) := dk_181 0 202 (dk_at dksX0_press_3 11 rfl rfl)
theorem dX0_press_83 : decode cX0_press 83 = .ok (.aload_n 0, 1) := dk_42 (dk_at dksX0_press_3 14 rfl rfl)
theorem dX0_press_84 : decode cX0_press 84 = .ok (.getfield 42, 3) := dk_180 0 42 (dk_at dksX0_press_3 15 rfl rfl)
theorem dX0_press_87 : decode cX0_press 87 = .ok (.getfield 205, 3) := dk_180 0 205 (dk_at dksX0_press_3 18 rfl rfl)
theorem dX0_press_90 : decode cX0_press 90 = .ok (.istore 5, 2) := dk_54 5 (dk_at dksX0_press_3 21 rfl rfl)
theorem dX0_press_92 : decode cX0_press 92 = .ok (.aload_n 0, 1) := dk_42 (dk_at dksX0_press_3 23 rfl rfl)
theorem dX0_press_93 : decode cX0_press 93 = .ok (.aload 4, 2) := dk_25 4 (dk_at dksX0_press_4 0 rfl rfl)
theorem dX0_press_95 : decode cX0_press 95 = .ok (.getfield 202, 3) := dk_180 0 202 (dk_at dksX0_press_4 2 rfl rfl)
theorem dX0_press_98 : decode cX0_press 98 = .ok (.aload_n 0, 1) := dk_42 (dk_at dksX0_press_4 5 rfl rfl)
theorem dX0_press_99 : decode cX0_press 99 = .ok (.getfield 206, 3) := dk_180 0 206 (dk_at dksX0_press_4 6 rfl rfl)
theorem dX0_press_102 : decode cX0_press 102 = .ok (.aload_n 3, 1) := dk_45 (dk_at dksX0_press_4 9 rfl rfl)
theorem dX0_press_103 : decode cX0_press 103 = .ok (.if_acmp .ne 20, 3) := dk_166 0 20 (dk_at dksX0_press_4 10 rfl rfl)
theorem dX0_press_106 : decode cX0_press 106 = .ok (.aload_n 0, 1) := dk_42 (dk_at dksX0_press_4 13 rfl rfl)
theorem dX0_press_107 : decode cX0_press 107 = .ok (.getfield 210, 3) := dk_180 0 210 (dk_at dksX0_press_4 14 rfl rfl)
theorem dX0_press_110 : decode cX0_press 110 = .ok (.aload_n 0, 1) := dk_42 (dk_at dksX0_press_4 17 rfl rfl)
theorem dX0_press_111 : decode cX0_press 111 = .ok (.getfield 111, 3) := dk_180 0 111 (dk_at dksX0_press_4 18 rfl rfl)
theorem dX0_press_114 : decode cX0_press 114 = .ok (.iconst 1, 1) := dk_4 (dk_at dksX0_press_4 21 rfl rfl)
theorem dX0_press_115 : decode cX0_press 115 = .ok (.isub, 1) := dk_100 (dk_at dksX0_press_4 22 rfl rfl)
theorem dX0_press_116 : decode cX0_press 116 = .ok (.if_icmp .ne 7, 3) := dk_160 0 7 (dk_at dksX0_press_5 0 rfl rfl)
theorem dX0_press_119 : decode cX0_press 119 = .ok (.iconst 1, 1) := dk_4 (dk_at dksX0_press_5 3 rfl rfl)
theorem dX0_press_120 : decode cX0_press 120 = .ok (.goto 4, 3) := dk_167 0 4 (dk_at dksX0_press_5 4 rfl rfl)
theorem dX0_press_123 : decode cX0_press 123 = .ok (.iconst 0, 1) := dk_3 (dk_at dksX0_press_5 7 rfl rfl)
theorem dX0_press_124 : decode cX0_press 124 = .ok (.iconst 1, 1) := dk_4 (dk_at dksX0_press_5 8 rfl rfl)
theorem dX0_press_125 : decode cX0_press 125 = .ok (.invokevirtual 213, 3) := dk_182 0 213 (dk_at dksX0_press_5 9 rfl rfl)
theorem dX0_press_128 : decode cX0_press 128 = .ok (.istore 6, 2) := dk_54 6 (dk_at dksX0_press_5 12 rfl rfl)
theorem dX0_press_130 : decode cX0_press 130 = .ok (.aload 4, 2) := dk_25 4 (dk_at dksX0_press_5 14 rfl rfl)
theorem dX0_press_132 : decode cX0_press 132 = .ok (.aload_n 0, 1) := dk_42 (dk_at dksX0_press_5 16 rfl rfl)
theorem dX0_press_133 : decode cX0_press 133 = .ok (.getfield 42, 3) := dk_180 0 42 (dk_at dksX0_press_5 17 rfl rfl)
theorem dX0_press_136 : decode cX0_press 136 = .ok (.getfield 205, 3) := dk_180 0 205 (dk_at dksX0_press_5 20 rfl rfl)
theorem dX0_press_139 : decode cX0_press 139 = .ok (.iload 5, 2) := dk_21 5 (dk_at dksX0_press_6 0 rfl rfl)
theorem dX0_press_141 : decode cX0_press 141 = .ok (.isub, 1) := dk_100 (dk_at dksX0_press_6 2 rfl rfl)
theorem dX0_press_142 : decode cX0_press 142 = .ok (.putfield 217, 3) := dk_181 0 217 (dk_at dksX0_press_6 3 rfl rfl)
theorem dX0_press_145 : decode cX0_press 145 = .ok (.aload_n 0, 1) := dk_42 (dk_at dksX0_press_6 6 rfl rfl)
theorem dX0_press_146 : decode cX0_press 146 = .ok (.aload_n 3, 1) := dk_45 (dk_at dksX0_press_6 7 rfl rfl)
theorem dX0_press_147 : decode cX0_press 147 = .ok (.getfield 120, 3) := dk_180 0 120 (dk_at dksX0_press_6 8 rfl rfl)
theorem dX0_press_150 : decode cX0_press 150 = .ok (.iload 6, 2) := dk_21 6 (dk_at dksX0_press_6 11 rfl rfl)
theorem dX0_press_152 : decode cX0_press 152 = .ok (.invokevirtual 220, 3) := dk_182 0 220 (dk_at dksX0_press_6 13 rfl rfl)
theorem dX0_press_155 : decode cX0_press 155 = .ok (.aload 4, 2) := dk_25 4 (dk_at dksX0_press_6 16 rfl rfl)
theorem dX0_press_157 : decode cX0_press 157 = .ok (.aload_n 0, 1) := dk_42 (dk_at dksX0_press_6 18 rfl rfl)
theorem dX0_press_158 : decode cX0_press 158 = .ok (.getfield 182, 3) := dk_180 0 182 (dk_at dksX0_press_6 19 rfl rfl)
theorem dX0_press_161 : decode cX0_press 161 = .ok (.putfield 224, 3) := dk_181 0 224 (dk_at dksX0_press_7 0 rfl rfl)
theorem dX0_press_164 : decode cX0_press 164 = .ok (.aload 4, 2) := dk_25 4 (dk_at dksX0_press_7 3 rfl rfl)
theorem dX0_press_166 : decode cX0_press 166 = .ok (.iload 6, 2) := dk_21 6 (dk_at dksX0_press_7 5 rfl rfl)
theorem dX0_press_168 : decode cX0_press 168 = .ok (.aload_n 0, 1) := dk_42 (dk_at dksX0_press_7 7 rfl rfl)
theorem dX0_press_169 : decode cX0_press 169 = .ok (.getfield 182, 3) := dk_180 0 182 (dk_at dksX0_press_7 8 rfl rfl)
theorem dX0_press_172 : decode cX0_press 172 = .ok (.isub, 1) := dk_100 (dk_at dksX0_press_7 11 rfl rfl)
theorem dX0_press_173 : decode cX0_press 173 = .ok (.putfield 225, 3) := dk_181 0 225 (dk_at dksX0_press_7 12 rfl rfl)
theorem dX0_press_176 : decode cX0_press 176 = .ok (.iconst 0, 1) := dk_3 (dk_at dksX0_press_7 15 rfl rfl)
theorem dX0_press_177 : decode cX0_press 177 = .ok (.istore 7, 2) := dk_54 7 (dk_at dksX0_press_7 16 rfl rfl)
theorem dX0_press_179 : decode cX0_press 179 = .ok (.iload 7, 2) := dk_21 7 (dk_at dksX0_press_7 18 rfl rfl)
theorem dX0_press_181 : decode cX0_press 181 = .ok (.aload_n 3, 1) := dk_45 (dk_at dksX0_press_7 20 rfl rfl)
theorem dX0_press_182 : decode cX0_press 182 = .ok (.getfield 120, 3) := dk_180 0 120 (dk_at dksX0_press_7 21 rfl rfl)
theorem dX0_press_185 : decode cX0_press 185 = .ok (.getfield 157, 3) := dk_180 0 157 (dk_at dksX0_press_8 0 rfl rfl)
theorem dX0_press_188 : decode cX0_press 188 = .ok (.invokevirtual 161, 3) := dk_182 0 161 (dk_at dksX0_press_8 3 rfl rfl)
theorem dX0_press_191 : decode cX0_press 191 = .ok (.if_icmp .ge 39, 3) := dk_162 0 39 (dk_at dksX0_press_8 6 rfl rfl)
theorem dX0_press_194 : decode cX0_press 194 = .ok (.aload_n 3, 1) := dk_45 (dk_at dksX0_press_8 9 rfl rfl)
theorem dX0_press_195 : decode cX0_press 195 = .ok (.getfield 120, 3) := dk_180 0 120 (dk_at dksX0_press_8 10 rfl rfl)
theorem dX0_press_198 : decode cX0_press 198 = .ok (.getfield 157, 3) := dk_180 0 157 (dk_at dksX0_press_8 13 rfl rfl)
theorem dX0_press_201 : decode cX0_press 201 = .ok (.iload 7, 2) := dk_21 7 (dk_at dksX0_press_8 16 rfl rfl)
theorem dX0_press_203 : decode cX0_press 203 = .ok (.invokevirtual 167, 3) := dk_182 0 167 (dk_at dksX0_press_8 18 rfl rfl)
theorem dX0_press_206 : decode cX0_press 206 = .ok (.checkcast 171, 3) := dk_192 0 171 (dk_at dksX0_press_8 21 rfl rfl)
theorem dX0_press_209 : decode cX0_press 209 = .ok (.dup, 1) := dk_89 (dk_at dksX0_press_9 0 rfl rfl)
theorem dX0_press_210 : decode cX0_press 210 = .ok (.getfield 173, 3) := dk_180 0 173 (dk_at dksX0_press_9 1 rfl rfl)
theorem dX0_press_213 : decode cX0_press 213 = .ok (.aload_n 0, 1) := dk_42 (dk_at dksX0_press_9 4 rfl rfl)
theorem dX0_press_214 : decode cX0_press 214 = .ok (.getfield 52, 3) := dk_180 0 52 (dk_at dksX0_press_9 5 rfl rfl)
theorem dX0_press_217 : decode cX0_press 217 = .ok (.iload 7, 2) := dk_21 7 (dk_at dksX0_press_9 8 rfl rfl)
theorem dX0_press_219 : decode cX0_press 219 = .ok (.iaload, 1) := dk_46 (dk_at dksX0_press_9 10 rfl rfl)
theorem dX0_press_220 : decode cX0_press 220 = .ok (.isub, 1) := dk_100 (dk_at dksX0_press_9 11 rfl rfl)
theorem dX0_press_221 : decode cX0_press 221 = .ok (.putfield 173, 3) := dk_181 0 173 (dk_at dksX0_press_9 12 rfl rfl)
theorem dX0_press_224 : decode cX0_press 224 = .ok (.iinc 7 1, 3) := dk_132 7 1 (dk_at dksX0_press_9 15 rfl rfl)
theorem dX0_press_227 : decode cX0_press 227 = .ok (.goto (-48), 3) := dk_167 255 208 (dk_at dksX0_press_9 18 rfl rfl)
theorem dX0_press_230 : decode cX0_press 230 = .ok (.aload_n 0, 1) := dk_42 (dk_at dksX0_press_9 21 rfl rfl)
theorem dX0_press_231 : decode cX0_press 231 = .ok (.getfield 48, 3) := dk_180 0 48 (dk_at dksX0_press_10 0 rfl rfl)
theorem dX0_press_234 : decode cX0_press 234 = .ok (.aload_n 0, 1) := dk_42 (dk_at dksX0_press_10 3 rfl rfl)
theorem dX0_press_235 : decode cX0_press 235 = .ok (.getfield 193, 3) := dk_180 0 193 (dk_at dksX0_press_10 4 rfl rfl)
theorem dX0_press_238 : decode cX0_press 238 = .ok (.aload 4, 2) := dk_25 4 (dk_at dksX0_press_10 7 rfl rfl)
theorem dX0_press_240 : decode cX0_press 240 = .ok (.aastore, 1) := dk_83 (dk_at dksX0_press_10 9 rfl rfl)
theorem dX0_press_241 : decode cX0_press 241 = .ok (.aload_n 0, 1) := dk_42 (dk_at dksX0_press_10 10 rfl rfl)
theorem dX0_press_242 : decode cX0_press 242 = .ok (.dup, 1) := dk_89 (dk_at dksX0_press_10 11 rfl rfl)
theorem dX0_press_243 : decode cX0_press 243 = .ok (.getfield 193, 3) := dk_180 0 193 (dk_at dksX0_press_10 12 rfl rfl)
theorem dX0_press_246 : decode cX0_press 246 = .ok (.iconst 1, 1) := dk_4 (dk_at dksX0_press_10 15 rfl rfl)
theorem dX0_press_247 : decode cX0_press 247 = .ok (.iadd, 1) := dk_96 (dk_at dksX0_press_10 16 rfl rfl)
theorem dX0_press_248 : decode cX0_press 248 = .ok (.putfield 193, 3) := dk_181 0 193 (dk_at dksX0_press_10 17 rfl rfl)
theorem dX0_press_251 : decode cX0_press 251 = .ok (.aload_n 3, 1) := dk_45 (dk_at dksX0_press_10 20 rfl rfl)
theorem dX0_press_252 : decode cX0_press 252 = .ok (.dup, 1) := dk_89 (dk_at dksX0_press_10 21 rfl rfl)
theorem dX0_press_253 : decode cX0_press 253 = .ok (.getfield 117, 3) := dk_180 0 117 (dk_at dksX0_press_11 0 rfl rfl)
theorem dX0_press_256 : decode cX0_press 256 = .ok (.iconst 1, 1) := dk_4 (dk_at dksX0_press_11 3 rfl rfl)
theorem dX0_press_257 : decode cX0_press 257 = .ok (.iadd, 1) := dk_96 (dk_at dksX0_press_11 4 rfl rfl)
theorem dX0_press_258 : decode cX0_press 258 = .ok (.putfield 117, 3) := dk_181 0 117 (dk_at dksX0_press_11 5 rfl rfl)
theorem dX0_press_261 : decode cX0_press 261 = .ok (.aload_n 3, 1) := dk_45 (dk_at dksX0_press_11 8 rfl rfl)
theorem dX0_press_262 : decode cX0_press 262 = .ok (.dup, 1) := dk_89 (dk_at dksX0_press_11 9 rfl rfl)
theorem dX0_press_263 : decode cX0_press 263 = .ok (.getfield 134, 3) := dk_180 0 134 (dk_at dksX0_press_11 10 rfl rfl)
theorem dX0_press_266 : decode cX0_press 266 = .ok (.iconst 1, 1) := dk_4 (dk_at dksX0_press_11 13 rfl rfl)
theorem dX0_press_267 : decode cX0_press 267 = .ok (.iadd, 1) := dk_96 (dk_at dksX0_press_11 14 rfl rfl)
theorem dX0_press_268 : decode cX0_press 268 = .ok (.putfield 134, 3) := dk_181 0 134 (dk_at dksX0_press_11 15 rfl rfl)
theorem dX0_press_271 : decode cX0_press 271 = .ok (.aload_n 0, 1) := dk_42 (dk_at dksX0_press_11 18 rfl rfl)
theorem dX0_press_272 : decode cX0_press 272 = .ok (.aload_n 3, 1) := dk_45 (dk_at dksX0_press_11 19 rfl rfl)
theorem dX0_press_273 : decode cX0_press 273 = .ok (.putfield 206, 3) := dk_181 0 206 (dk_at dksX0_press_11 20 rfl rfl)
theorem dX0_press_276 : decode cX0_press 276 = .ok (.aload_n 0, 1) := dk_42 (dk_at dksX0_press_11 23 rfl rfl)
theorem dX0_press_277 : decode cX0_press 277 = .ok (.aload_n 0, 1) := dk_42 (dk_at dksX0_press_12 0 rfl rfl)
theorem dX0_press_278 : decode cX0_press 278 = .ok (.getfield 111, 3) := dk_180 0 111 (dk_at dksX0_press_12 1 rfl rfl)
theorem dX0_press_281 : decode cX0_press 281 = .ok (.putfield 210, 3) := dk_181 0 210 (dk_at dksX0_press_12 4 rfl rfl)
theorem dX0_press_284 : decode cX0_press 284 = .ok (.aload_n 0, 1) := dk_42 (dk_at dksX0_press_12 7 rfl rfl)
theorem dX0_press_285 : decode cX0_press 285 = .ok (.dup, 1) := dk_89 (dk_at dksX0_press_12 8 rfl rfl)
theorem dX0_press_286 : decode cX0_press 286 = .ok (.getfield 111, 3) := dk_180 0 111 (dk_at dksX0_press_12 9 rfl rfl)
theorem dX0_press_289 : decode cX0_press 289 = .ok (.iconst 1, 1) := dk_4 (dk_at dksX0_press_12 12 rfl rfl)
theorem dX0_press_290 : decode cX0_press 290 = .ok (.iadd, 1) := dk_96 (dk_at dksX0_press_12 13 rfl rfl)
theorem dX0_press_291 : decode cX0_press 291 = .ok (.putfield 111, 3) := dk_181 0 111 (dk_at dksX0_press_12 14 rfl rfl)
theorem dX0_press_294 : decode cX0_press 294 = .ok (.aload 4, 2) := dk_25 4 (dk_at dksX0_press_12 17 rfl rfl)
theorem dX0_press_296 : decode cX0_press 296 = .ok (.getfield 224, 3) := dk_180 0 224 (dk_at dksX0_press_12 19 rfl rfl)
theorem dX0_press_299 : decode cX0_press 299 = .ok (.ireturn, 1) := dk_172 (dk_at dksX0_press_12 22 rfl rfl)
abbrev cX0_barOf : ByteArray := prog_1_method_15_code
def yX0_barOf : MethodName := ⟨RX0, "barOf", "(LBilletBars$Profile;I)I"⟩
def dkwX0_barOf_1 : List UInt8 := [8, 46, 96, 104, 17, 3, 232, 108, 172]
abbrev dktX0_barOf_1 : List UInt8 := dkwX0_barOf_1 ++ []
def dkwX0_barOf_0 : List UInt8 := [3, 28, 42, 180, 0, 21, 3, 46, 100, 184, 0, 140, 43, 180, 0, 146, 104, 17, 3, 232, 42, 180, 0, 21]
abbrev dktX0_barOf_0 : List UInt8 := dkwX0_barOf_0 ++ dktX0_barOf_1
theorem dksX0_barOf_0 : cX0_barOf.data.toList.drop 0 = dktX0_barOf_0 := by decide +kernel
theorem dksX0_barOf_1 : cX0_barOf.data.toList.drop 24 = dktX0_barOf_1 := dk_seg dksX0_barOf_0 24 rfl rfl
theorem dX0_barOf_0 : decode cX0_barOf 0 = .ok (.iconst 0, 1) := dk_3 (dk_at dksX0_barOf_0 0 rfl rfl)
theorem dX0_barOf_1 : decode cX0_barOf 1 = .ok (.iload_n 2, 1) := dk_28 (dk_at dksX0_barOf_0 1 rfl rfl)
theorem dX0_barOf_2 : decode cX0_barOf 2 = .ok (.aload_n 0, 1) := dk_42 (dk_at dksX0_barOf_0 2 rfl rfl)
theorem dX0_barOf_3 : decode cX0_barOf 3 = .ok (.getfield 21, 3) := dk_180 0 21 (dk_at dksX0_barOf_0 3 rfl rfl)
theorem dX0_barOf_6 : decode cX0_barOf 6 = .ok (.iconst 0, 1) := dk_3 (dk_at dksX0_barOf_0 6 rfl rfl)
theorem dX0_barOf_7 : decode cX0_barOf 7 = .ok (.iaload, 1) := dk_46 (dk_at dksX0_barOf_0 7 rfl rfl)
theorem dX0_barOf_8 : decode cX0_barOf 8 = .ok (.isub, 1) := dk_100 (dk_at dksX0_barOf_0 8 rfl rfl)
theorem dX0_barOf_9 : decode cX0_barOf 9 = .ok (.invokestatic 140, 3) := dk_184 0 140 (dk_at dksX0_barOf_0 9 rfl rfl)
theorem dX0_barOf_12 : decode cX0_barOf 12 = .ok (.aload_n 1, 1) := dk_43 (dk_at dksX0_barOf_0 12 rfl rfl)
theorem dX0_barOf_13 : decode cX0_barOf 13 = .ok (.getfield 146, 3) := dk_180 0 146 (dk_at dksX0_barOf_0 13 rfl rfl)
theorem dX0_barOf_16 : decode cX0_barOf 16 = .ok (.imul, 1) := dk_104 (dk_at dksX0_barOf_0 16 rfl rfl)
theorem dX0_barOf_17 : decode cX0_barOf 17 = .ok (.sipush 1000, 3) := dk_17 3 232 (dk_at dksX0_barOf_0 17 rfl rfl)
theorem dX0_barOf_20 : decode cX0_barOf 20 = .ok (.aload_n 0, 1) := dk_42 (dk_at dksX0_barOf_0 20 rfl rfl)
theorem dX0_barOf_21 : decode cX0_barOf 21 = .ok (.getfield 21, 3) := dk_180 0 21 (dk_at dksX0_barOf_0 21 rfl rfl)
theorem dX0_barOf_24 : decode cX0_barOf 24 = .ok (.iconst 5, 1) := dk_8 (dk_at dksX0_barOf_1 0 rfl rfl)
theorem dX0_barOf_25 : decode cX0_barOf 25 = .ok (.iaload, 1) := dk_46 (dk_at dksX0_barOf_1 1 rfl rfl)
theorem dX0_barOf_26 : decode cX0_barOf 26 = .ok (.iadd, 1) := dk_96 (dk_at dksX0_barOf_1 2 rfl rfl)
theorem dX0_barOf_27 : decode cX0_barOf 27 = .ok (.imul, 1) := dk_104 (dk_at dksX0_barOf_1 3 rfl rfl)
theorem dX0_barOf_28 : decode cX0_barOf 28 = .ok (.sipush 1000, 3) := dk_17 3 232 (dk_at dksX0_barOf_1 4 rfl rfl)
theorem dX0_barOf_31 : decode cX0_barOf 31 = .ok (.idiv, 1) := dk_108 (dk_at dksX0_barOf_1 7 rfl rfl)
theorem dX0_barOf_32 : decode cX0_barOf 32 = .ok (.ireturn, 1) := dk_172 (dk_at dksX0_barOf_1 8 rfl rfl)
abbrev cX0_usable : ByteArray := prog_1_method_16_code
def yX0_usable : MethodName := ⟨RX0, "usable", "(IZZ)I"⟩
def dkwX0_usable_1 : List UInt8 := [182, 0, 152, 29, 182, 0, 152, 29, 182, 0, 156, 172]
abbrev dktX0_usable_1 : List UInt8 := dkwX0_usable_1 ++ []
def dkwX0_usable_0 : List UInt8 := [42, 180, 0, 42, 28, 181, 0, 149, 42, 180, 0, 42, 42, 180, 0, 34, 42, 180, 0, 30, 27, 29]
abbrev dktX0_usable_0 : List UInt8 := dkwX0_usable_0 ++ dktX0_usable_1
theorem dksX0_usable_0 : cX0_usable.data.toList.drop 0 = dktX0_usable_0 := by decide +kernel
theorem dksX0_usable_1 : cX0_usable.data.toList.drop 22 = dktX0_usable_1 := dk_seg dksX0_usable_0 22 rfl rfl
theorem dX0_usable_0 : decode cX0_usable 0 = .ok (.aload_n 0, 1) := dk_42 (dk_at dksX0_usable_0 0 rfl rfl)
theorem dX0_usable_1 : decode cX0_usable 1 = .ok (.getfield 42, 3) := dk_180 0 42 (dk_at dksX0_usable_0 1 rfl rfl)
theorem dX0_usable_4 : decode cX0_usable 4 = .ok (.iload_n 2, 1) := dk_28 (dk_at dksX0_usable_0 4 rfl rfl)
theorem dX0_usable_5 : decode cX0_usable 5 = .ok (.putfield 149, 3) := dk_181 0 149 (dk_at dksX0_usable_0 5 rfl rfl)
theorem dX0_usable_8 : decode cX0_usable 8 = .ok (.aload_n 0, 1) := dk_42 (dk_at dksX0_usable_0 8 rfl rfl)
theorem dX0_usable_9 : decode cX0_usable 9 = .ok (.getfield 42, 3) := dk_180 0 42 (dk_at dksX0_usable_0 9 rfl rfl)
theorem dX0_usable_12 : decode cX0_usable 12 = .ok (.aload_n 0, 1) := dk_42 (dk_at dksX0_usable_0 12 rfl rfl)
theorem dX0_usable_13 : decode cX0_usable 13 = .ok (.getfield 34, 3) := dk_180 0 34 (dk_at dksX0_usable_0 13 rfl rfl)
theorem dX0_usable_16 : decode cX0_usable 16 = .ok (.aload_n 0, 1) := dk_42 (dk_at dksX0_usable_0 16 rfl rfl)
theorem dX0_usable_17 : decode cX0_usable 17 = .ok (.getfield 30, 3) := dk_180 0 30 (dk_at dksX0_usable_0 17 rfl rfl)
theorem dX0_usable_20 : decode cX0_usable 20 = .ok (.iload_n 1, 1) := dk_27 (dk_at dksX0_usable_0 20 rfl rfl)
theorem dX0_usable_21 : decode cX0_usable 21 = .ok (.iload_n 3, 1) := dk_29 (dk_at dksX0_usable_0 21 rfl rfl)
theorem dX0_usable_22 : decode cX0_usable 22 = .ok (.invokevirtual 152, 3) := dk_182 0 152 (dk_at dksX0_usable_1 0 rfl rfl)
theorem dX0_usable_25 : decode cX0_usable 25 = .ok (.iload_n 3, 1) := dk_29 (dk_at dksX0_usable_1 3 rfl rfl)
theorem dX0_usable_26 : decode cX0_usable 26 = .ok (.invokevirtual 152, 3) := dk_182 0 152 (dk_at dksX0_usable_1 4 rfl rfl)
theorem dX0_usable_29 : decode cX0_usable 29 = .ok (.iload_n 3, 1) := dk_29 (dk_at dksX0_usable_1 7 rfl rfl)
theorem dX0_usable_30 : decode cX0_usable 30 = .ok (.invokevirtual 156, 3) := dk_182 0 156 (dk_at dksX0_usable_1 8 rfl rfl)
theorem dX0_usable_33 : decode cX0_usable 33 = .ok (.ireturn, 1) := dk_172 (dk_at dksX0_usable_1 11 rfl rfl)
abbrev cX0_cuts : ByteArray := prog_1_method_19_code
def yX0_cuts : MethodName := ⟨RX0, "cuts", "(LBilletBars$Profile;I)V"⟩
def dkwX0_cuts_8 : List UInt8 := [42, 180, 0, 52, 5, 21, 10, 79, 132, 9, 255, 167, 255, 133, 132, 7, 255, 167, 255, 103, 177]
abbrev dktX0_cuts_8 : List UInt8 := dkwX0_cuts_8 ++ []
def dkwX0_cuts_7 : List UInt8 := [21, 9, 96, 21, 10, 96, 54, 4, 42, 180, 0, 52, 3, 21, 7, 79, 42, 180, 0, 52, 4, 21, 9, 79]
abbrev dktX0_cuts_7 : List UInt8 := dkwX0_cuts_7 ++ dktX0_cuts_8
def dkwX0_cuts_6 : List UInt8 := [160, 0, 56, 21, 7, 21, 9, 96, 21, 10, 96, 21, 4, 162, 0, 43, 42, 21, 11, 181, 0, 182, 21, 7]
abbrev dktX0_cuts_6 : List UInt8 := dkwX0_cuts_6 ++ dktX0_cuts_7
def dkwX0_cuts_5 : List UInt8 := [43, 5, 184, 0, 185, 104, 96, 54, 11, 21, 11, 42, 180, 0, 182, 163, 0, 25, 21, 11, 42, 180, 0, 182]
abbrev dktX0_cuts_5 : List UInt8 := dkwX0_cuts_5 ++ dktX0_cuts_6
def dkwX0_cuts_4 : List UInt8 := [182, 0, 189, 54, 10, 21, 7, 43, 3, 184, 0, 185, 104, 21, 9, 43, 4, 184, 0, 185, 104, 96, 21, 10]
abbrev dktX0_cuts_4 : List UInt8 := dkwX0_cuts_4 ++ dktX0_cuts_5
def dkwX0_cuts_3 : List UInt8 := [21, 8, 182, 0, 189, 54, 9, 21, 9, 155, 0, 124, 42, 43, 5, 21, 8, 21, 9, 21, 6, 104, 100]
abbrev dktX0_cuts_3 : List UInt8 := dkwX0_cuts_3 ++ dktX0_cuts_4
def dkwX0_cuts_2 : List UInt8 := [3, 29, 182, 0, 189, 54, 7, 21, 7, 155, 0, 154, 29, 21, 7, 21, 5, 104, 100, 54, 8, 42, 43, 4]
abbrev dktX0_cuts_2 : List UInt8 := dkwX0_cuts_2 ++ dktX0_cuts_3
def dkwX0_cuts_1 : List UInt8 := [180, 0, 21, 7, 46, 96, 54, 5, 43, 4, 184, 0, 185, 42, 180, 0, 21, 7, 46, 96, 54, 6, 42, 43]
abbrev dktX0_cuts_1 : List UInt8 := dkwX0_cuts_1 ++ dktX0_cuts_2
def dkwX0_cuts_0 : List UInt8 := [28, 42, 180, 0, 21, 7, 46, 96, 62, 42, 2, 181, 0, 182, 3, 54, 4, 43, 3, 184, 0, 185, 42]
abbrev dktX0_cuts_0 : List UInt8 := dkwX0_cuts_0 ++ dktX0_cuts_1
theorem dksX0_cuts_0 : cX0_cuts.data.toList.drop 0 = dktX0_cuts_0 := by decide +kernel
theorem dksX0_cuts_1 : cX0_cuts.data.toList.drop 23 = dktX0_cuts_1 := dk_seg dksX0_cuts_0 23 rfl rfl
theorem dksX0_cuts_2 : cX0_cuts.data.toList.drop 47 = dktX0_cuts_2 := dk_seg dksX0_cuts_1 24 rfl rfl
theorem dksX0_cuts_3 : cX0_cuts.data.toList.drop 71 = dktX0_cuts_3 := dk_seg dksX0_cuts_2 24 rfl rfl
theorem dksX0_cuts_4 : cX0_cuts.data.toList.drop 94 = dktX0_cuts_4 := dk_seg dksX0_cuts_3 23 rfl rfl
theorem dksX0_cuts_5 : cX0_cuts.data.toList.drop 118 = dktX0_cuts_5 := dk_seg dksX0_cuts_4 24 rfl rfl
theorem dksX0_cuts_6 : cX0_cuts.data.toList.drop 142 = dktX0_cuts_6 := dk_seg dksX0_cuts_5 24 rfl rfl
theorem dksX0_cuts_7 : cX0_cuts.data.toList.drop 166 = dktX0_cuts_7 := dk_seg dksX0_cuts_6 24 rfl rfl
theorem dksX0_cuts_8 : cX0_cuts.data.toList.drop 190 = dktX0_cuts_8 := dk_seg dksX0_cuts_7 24 rfl rfl
theorem dX0_cuts_0 : decode cX0_cuts 0 = .ok (.iload_n 2, 1) := dk_28 (dk_at dksX0_cuts_0 0 rfl rfl)
theorem dX0_cuts_1 : decode cX0_cuts 1 = .ok (.aload_n 0, 1) := dk_42 (dk_at dksX0_cuts_0 1 rfl rfl)
theorem dX0_cuts_2 : decode cX0_cuts 2 = .ok (.getfield 21, 3) := dk_180 0 21 (dk_at dksX0_cuts_0 2 rfl rfl)
theorem dX0_cuts_5 : decode cX0_cuts 5 = .ok (.iconst 4, 1) := dk_7 (dk_at dksX0_cuts_0 5 rfl rfl)
theorem dX0_cuts_6 : decode cX0_cuts 6 = .ok (.iaload, 1) := dk_46 (dk_at dksX0_cuts_0 6 rfl rfl)
theorem dX0_cuts_7 : decode cX0_cuts 7 = .ok (.iadd, 1) := dk_96 (dk_at dksX0_cuts_0 7 rfl rfl)
theorem dX0_cuts_8 : decode cX0_cuts 8 = .ok (.istore_n 3, 1) := dk_62 (dk_at dksX0_cuts_0 8 rfl rfl)
theorem dX0_cuts_9 : decode cX0_cuts 9 = .ok (.aload_n 0, 1) := dk_42 (dk_at dksX0_cuts_0 9 rfl rfl)
theorem dX0_cuts_10 : decode cX0_cuts 10 = .ok (.iconst (-1), 1) := dk_2 (dk_at dksX0_cuts_0 10 rfl rfl)
theorem dX0_cuts_11 : decode cX0_cuts 11 = .ok (.putfield 182, 3) := dk_181 0 182 (dk_at dksX0_cuts_0 11 rfl rfl)
theorem dX0_cuts_14 : decode cX0_cuts 14 = .ok (.iconst 0, 1) := dk_3 (dk_at dksX0_cuts_0 14 rfl rfl)
theorem dX0_cuts_15 : decode cX0_cuts 15 = .ok (.istore 4, 2) := dk_54 4 (dk_at dksX0_cuts_0 15 rfl rfl)
theorem dX0_cuts_17 : decode cX0_cuts 17 = .ok (.aload_n 1, 1) := dk_43 (dk_at dksX0_cuts_0 17 rfl rfl)
theorem dX0_cuts_18 : decode cX0_cuts 18 = .ok (.iconst 0, 1) := dk_3 (dk_at dksX0_cuts_0 18 rfl rfl)
theorem dX0_cuts_19 : decode cX0_cuts 19 = .ok (.invokestatic 185, 3) := dk_184 0 185 (dk_at dksX0_cuts_0 19 rfl rfl)
theorem dX0_cuts_22 : decode cX0_cuts 22 = .ok (.aload_n 0, 1) := dk_42 (dk_at dksX0_cuts_0 22 rfl rfl)
theorem dX0_cuts_23 : decode cX0_cuts 23 = .ok (.getfield 21, 3) := dk_180 0 21 (dk_at dksX0_cuts_1 0 rfl rfl)
theorem dX0_cuts_26 : decode cX0_cuts 26 = .ok (.iconst 4, 1) := dk_7 (dk_at dksX0_cuts_1 3 rfl rfl)
theorem dX0_cuts_27 : decode cX0_cuts 27 = .ok (.iaload, 1) := dk_46 (dk_at dksX0_cuts_1 4 rfl rfl)
theorem dX0_cuts_28 : decode cX0_cuts 28 = .ok (.iadd, 1) := dk_96 (dk_at dksX0_cuts_1 5 rfl rfl)
theorem dX0_cuts_29 : decode cX0_cuts 29 = .ok (.istore 5, 2) := dk_54 5 (dk_at dksX0_cuts_1 6 rfl rfl)
theorem dX0_cuts_31 : decode cX0_cuts 31 = .ok (.aload_n 1, 1) := dk_43 (dk_at dksX0_cuts_1 8 rfl rfl)
theorem dX0_cuts_32 : decode cX0_cuts 32 = .ok (.iconst 1, 1) := dk_4 (dk_at dksX0_cuts_1 9 rfl rfl)
theorem dX0_cuts_33 : decode cX0_cuts 33 = .ok (.invokestatic 185, 3) := dk_184 0 185 (dk_at dksX0_cuts_1 10 rfl rfl)
theorem dX0_cuts_36 : decode cX0_cuts 36 = .ok (.aload_n 0, 1) := dk_42 (dk_at dksX0_cuts_1 13 rfl rfl)
theorem dX0_cuts_37 : decode cX0_cuts 37 = .ok (.getfield 21, 3) := dk_180 0 21 (dk_at dksX0_cuts_1 14 rfl rfl)
theorem dX0_cuts_40 : decode cX0_cuts 40 = .ok (.iconst 4, 1) := dk_7 (dk_at dksX0_cuts_1 17 rfl rfl)
theorem dX0_cuts_41 : decode cX0_cuts 41 = .ok (.iaload, 1) := dk_46 (dk_at dksX0_cuts_1 18 rfl rfl)
theorem dX0_cuts_42 : decode cX0_cuts 42 = .ok (.iadd, 1) := dk_96 (dk_at dksX0_cuts_1 19 rfl rfl)
theorem dX0_cuts_43 : decode cX0_cuts 43 = .ok (.istore 6, 2) := dk_54 6 (dk_at dksX0_cuts_1 20 rfl rfl)
theorem dX0_cuts_45 : decode cX0_cuts 45 = .ok (.aload_n 0, 1) := dk_42 (dk_at dksX0_cuts_1 22 rfl rfl)
theorem dX0_cuts_46 : decode cX0_cuts 46 = .ok (.aload_n 1, 1) := dk_43 (dk_at dksX0_cuts_1 23 rfl rfl)
theorem dX0_cuts_47 : decode cX0_cuts 47 = .ok (.iconst 0, 1) := dk_3 (dk_at dksX0_cuts_2 0 rfl rfl)
theorem dX0_cuts_48 : decode cX0_cuts 48 = .ok (.iload_n 3, 1) := dk_29 (dk_at dksX0_cuts_2 1 rfl rfl)
theorem dX0_cuts_49 : decode cX0_cuts 49 = .ok (.invokevirtual 189, 3) := dk_182 0 189 (dk_at dksX0_cuts_2 2 rfl rfl)
theorem dX0_cuts_52 : decode cX0_cuts 52 = .ok (.istore 7, 2) := dk_54 7 (dk_at dksX0_cuts_2 5 rfl rfl)
theorem dX0_cuts_54 : decode cX0_cuts 54 = .ok (.iload 7, 2) := dk_21 7 (dk_at dksX0_cuts_2 7 rfl rfl)
theorem dX0_cuts_56 : decode cX0_cuts 56 = .ok (.ifCond .lt 154, 3) := dk_155 0 154 (dk_at dksX0_cuts_2 9 rfl rfl)
theorem dX0_cuts_59 : decode cX0_cuts 59 = .ok (.iload_n 3, 1) := dk_29 (dk_at dksX0_cuts_2 12 rfl rfl)
theorem dX0_cuts_60 : decode cX0_cuts 60 = .ok (.iload 7, 2) := dk_21 7 (dk_at dksX0_cuts_2 13 rfl rfl)
theorem dX0_cuts_62 : decode cX0_cuts 62 = .ok (.iload 5, 2) := dk_21 5 (dk_at dksX0_cuts_2 15 rfl rfl)
theorem dX0_cuts_64 : decode cX0_cuts 64 = .ok (.imul, 1) := dk_104 (dk_at dksX0_cuts_2 17 rfl rfl)
theorem dX0_cuts_65 : decode cX0_cuts 65 = .ok (.isub, 1) := dk_100 (dk_at dksX0_cuts_2 18 rfl rfl)
theorem dX0_cuts_66 : decode cX0_cuts 66 = .ok (.istore 8, 2) := dk_54 8 (dk_at dksX0_cuts_2 19 rfl rfl)
theorem dX0_cuts_68 : decode cX0_cuts 68 = .ok (.aload_n 0, 1) := dk_42 (dk_at dksX0_cuts_2 21 rfl rfl)
theorem dX0_cuts_69 : decode cX0_cuts 69 = .ok (.aload_n 1, 1) := dk_43 (dk_at dksX0_cuts_2 22 rfl rfl)
theorem dX0_cuts_70 : decode cX0_cuts 70 = .ok (.iconst 1, 1) := dk_4 (dk_at dksX0_cuts_2 23 rfl rfl)
theorem dX0_cuts_71 : decode cX0_cuts 71 = .ok (.iload 8, 2) := dk_21 8 (dk_at dksX0_cuts_3 0 rfl rfl)
theorem dX0_cuts_73 : decode cX0_cuts 73 = .ok (.invokevirtual 189, 3) := dk_182 0 189 (dk_at dksX0_cuts_3 2 rfl rfl)
theorem dX0_cuts_76 : decode cX0_cuts 76 = .ok (.istore 9, 2) := dk_54 9 (dk_at dksX0_cuts_3 5 rfl rfl)
theorem dX0_cuts_78 : decode cX0_cuts 78 = .ok (.iload 9, 2) := dk_21 9 (dk_at dksX0_cuts_3 7 rfl rfl)
theorem dX0_cuts_80 : decode cX0_cuts 80 = .ok (.ifCond .lt 124, 3) := dk_155 0 124 (dk_at dksX0_cuts_3 9 rfl rfl)
theorem dX0_cuts_83 : decode cX0_cuts 83 = .ok (.aload_n 0, 1) := dk_42 (dk_at dksX0_cuts_3 12 rfl rfl)
theorem dX0_cuts_84 : decode cX0_cuts 84 = .ok (.aload_n 1, 1) := dk_43 (dk_at dksX0_cuts_3 13 rfl rfl)
theorem dX0_cuts_85 : decode cX0_cuts 85 = .ok (.iconst 2, 1) := dk_5 (dk_at dksX0_cuts_3 14 rfl rfl)
theorem dX0_cuts_86 : decode cX0_cuts 86 = .ok (.iload 8, 2) := dk_21 8 (dk_at dksX0_cuts_3 15 rfl rfl)
theorem dX0_cuts_88 : decode cX0_cuts 88 = .ok (.iload 9, 2) := dk_21 9 (dk_at dksX0_cuts_3 17 rfl rfl)
theorem dX0_cuts_90 : decode cX0_cuts 90 = .ok (.iload 6, 2) := dk_21 6 (dk_at dksX0_cuts_3 19 rfl rfl)
theorem dX0_cuts_92 : decode cX0_cuts 92 = .ok (.imul, 1) := dk_104 (dk_at dksX0_cuts_3 21 rfl rfl)
theorem dX0_cuts_93 : decode cX0_cuts 93 = .ok (.isub, 1) := dk_100 (dk_at dksX0_cuts_3 22 rfl rfl)
theorem dX0_cuts_94 : decode cX0_cuts 94 = .ok (.invokevirtual 189, 3) := dk_182 0 189 (dk_at dksX0_cuts_4 0 rfl rfl)
theorem dX0_cuts_97 : decode cX0_cuts 97 = .ok (.istore 10, 2) := dk_54 10 (dk_at dksX0_cuts_4 3 rfl rfl)
theorem dX0_cuts_99 : decode cX0_cuts 99 = .ok (.iload 7, 2) := dk_21 7 (dk_at dksX0_cuts_4 5 rfl rfl)
theorem dX0_cuts_101 : decode cX0_cuts 101 = .ok (.aload_n 1, 1) := dk_43 (dk_at dksX0_cuts_4 7 rfl rfl)
theorem dX0_cuts_102 : decode cX0_cuts 102 = .ok (.iconst 0, 1) := dk_3 (dk_at dksX0_cuts_4 8 rfl rfl)
theorem dX0_cuts_103 : decode cX0_cuts 103 = .ok (.invokestatic 185, 3) := dk_184 0 185 (dk_at dksX0_cuts_4 9 rfl rfl)
theorem dX0_cuts_106 : decode cX0_cuts 106 = .ok (.imul, 1) := dk_104 (dk_at dksX0_cuts_4 12 rfl rfl)
theorem dX0_cuts_107 : decode cX0_cuts 107 = .ok (.iload 9, 2) := dk_21 9 (dk_at dksX0_cuts_4 13 rfl rfl)
theorem dX0_cuts_109 : decode cX0_cuts 109 = .ok (.aload_n 1, 1) := dk_43 (dk_at dksX0_cuts_4 15 rfl rfl)
theorem dX0_cuts_110 : decode cX0_cuts 110 = .ok (.iconst 1, 1) := dk_4 (dk_at dksX0_cuts_4 16 rfl rfl)
theorem dX0_cuts_111 : decode cX0_cuts 111 = .ok (.invokestatic 185, 3) := dk_184 0 185 (dk_at dksX0_cuts_4 17 rfl rfl)
theorem dX0_cuts_114 : decode cX0_cuts 114 = .ok (.imul, 1) := dk_104 (dk_at dksX0_cuts_4 20 rfl rfl)
theorem dX0_cuts_115 : decode cX0_cuts 115 = .ok (.iadd, 1) := dk_96 (dk_at dksX0_cuts_4 21 rfl rfl)
theorem dX0_cuts_116 : decode cX0_cuts 116 = .ok (.iload 10, 2) := dk_21 10 (dk_at dksX0_cuts_4 22 rfl rfl)
theorem dX0_cuts_118 : decode cX0_cuts 118 = .ok (.aload_n 1, 1) := dk_43 (dk_at dksX0_cuts_5 0 rfl rfl)
theorem dX0_cuts_119 : decode cX0_cuts 119 = .ok (.iconst 2, 1) := dk_5 (dk_at dksX0_cuts_5 1 rfl rfl)
theorem dX0_cuts_120 : decode cX0_cuts 120 = .ok (.invokestatic 185, 3) := dk_184 0 185 (dk_at dksX0_cuts_5 2 rfl rfl)
theorem dX0_cuts_123 : decode cX0_cuts 123 = .ok (.imul, 1) := dk_104 (dk_at dksX0_cuts_5 5 rfl rfl)
theorem dX0_cuts_124 : decode cX0_cuts 124 = .ok (.iadd, 1) := dk_96 (dk_at dksX0_cuts_5 6 rfl rfl)
theorem dX0_cuts_125 : decode cX0_cuts 125 = .ok (.istore 11, 2) := dk_54 11 (dk_at dksX0_cuts_5 7 rfl rfl)
theorem dX0_cuts_127 : decode cX0_cuts 127 = .ok (.iload 11, 2) := dk_21 11 (dk_at dksX0_cuts_5 9 rfl rfl)
theorem dX0_cuts_129 : decode cX0_cuts 129 = .ok (.aload_n 0, 1) := dk_42 (dk_at dksX0_cuts_5 11 rfl rfl)
theorem dX0_cuts_130 : decode cX0_cuts 130 = .ok (.getfield 182, 3) := dk_180 0 182 (dk_at dksX0_cuts_5 12 rfl rfl)
theorem dX0_cuts_133 : decode cX0_cuts 133 = .ok (.if_icmp .gt 25, 3) := dk_163 0 25 (dk_at dksX0_cuts_5 15 rfl rfl)
theorem dX0_cuts_136 : decode cX0_cuts 136 = .ok (.iload 11, 2) := dk_21 11 (dk_at dksX0_cuts_5 18 rfl rfl)
theorem dX0_cuts_138 : decode cX0_cuts 138 = .ok (.aload_n 0, 1) := dk_42 (dk_at dksX0_cuts_5 20 rfl rfl)
theorem dX0_cuts_139 : decode cX0_cuts 139 = .ok (.getfield 182, 3) := dk_180 0 182 (dk_at dksX0_cuts_5 21 rfl rfl)
theorem dX0_cuts_142 : decode cX0_cuts 142 = .ok (.if_icmp .ne 56, 3) := dk_160 0 56 (dk_at dksX0_cuts_6 0 rfl rfl)
theorem dX0_cuts_145 : decode cX0_cuts 145 = .ok (.iload 7, 2) := dk_21 7 (dk_at dksX0_cuts_6 3 rfl rfl)
theorem dX0_cuts_147 : decode cX0_cuts 147 = .ok (.iload 9, 2) := dk_21 9 (dk_at dksX0_cuts_6 5 rfl rfl)
theorem dX0_cuts_149 : decode cX0_cuts 149 = .ok (.iadd, 1) := dk_96 (dk_at dksX0_cuts_6 7 rfl rfl)
theorem dX0_cuts_150 : decode cX0_cuts 150 = .ok (.iload 10, 2) := dk_21 10 (dk_at dksX0_cuts_6 8 rfl rfl)
theorem dX0_cuts_152 : decode cX0_cuts 152 = .ok (.iadd, 1) := dk_96 (dk_at dksX0_cuts_6 10 rfl rfl)
theorem dX0_cuts_153 : decode cX0_cuts 153 = .ok (.iload 4, 2) := dk_21 4 (dk_at dksX0_cuts_6 11 rfl rfl)
theorem dX0_cuts_155 : decode cX0_cuts 155 = .ok (.if_icmp .ge 43, 3) := dk_162 0 43 (dk_at dksX0_cuts_6 13 rfl rfl)
theorem dX0_cuts_158 : decode cX0_cuts 158 = .ok (.aload_n 0, 1) := dk_42 (dk_at dksX0_cuts_6 16 rfl rfl)
theorem dX0_cuts_159 : decode cX0_cuts 159 = .ok (.iload 11, 2) := dk_21 11 (dk_at dksX0_cuts_6 17 rfl rfl)
theorem dX0_cuts_161 : decode cX0_cuts 161 = .ok (.putfield 182, 3) := dk_181 0 182 (dk_at dksX0_cuts_6 19 rfl rfl)
theorem dX0_cuts_164 : decode cX0_cuts 164 = .ok (.iload 7, 2) := dk_21 7 (dk_at dksX0_cuts_6 22 rfl rfl)
theorem dX0_cuts_166 : decode cX0_cuts 166 = .ok (.iload 9, 2) := dk_21 9 (dk_at dksX0_cuts_7 0 rfl rfl)
theorem dX0_cuts_168 : decode cX0_cuts 168 = .ok (.iadd, 1) := dk_96 (dk_at dksX0_cuts_7 2 rfl rfl)
theorem dX0_cuts_169 : decode cX0_cuts 169 = .ok (.iload 10, 2) := dk_21 10 (dk_at dksX0_cuts_7 3 rfl rfl)
theorem dX0_cuts_171 : decode cX0_cuts 171 = .ok (.iadd, 1) := dk_96 (dk_at dksX0_cuts_7 5 rfl rfl)
theorem dX0_cuts_172 : decode cX0_cuts 172 = .ok (.istore 4, 2) := dk_54 4 (dk_at dksX0_cuts_7 6 rfl rfl)
theorem dX0_cuts_174 : decode cX0_cuts 174 = .ok (.aload_n 0, 1) := dk_42 (dk_at dksX0_cuts_7 8 rfl rfl)
theorem dX0_cuts_175 : decode cX0_cuts 175 = .ok (.getfield 52, 3) := dk_180 0 52 (dk_at dksX0_cuts_7 9 rfl rfl)
theorem dX0_cuts_178 : decode cX0_cuts 178 = .ok (.iconst 0, 1) := dk_3 (dk_at dksX0_cuts_7 12 rfl rfl)
theorem dX0_cuts_179 : decode cX0_cuts 179 = .ok (.iload 7, 2) := dk_21 7 (dk_at dksX0_cuts_7 13 rfl rfl)
theorem dX0_cuts_181 : decode cX0_cuts 181 = .ok (.iastore, 1) := dk_79 (dk_at dksX0_cuts_7 15 rfl rfl)
theorem dX0_cuts_182 : decode cX0_cuts 182 = .ok (.aload_n 0, 1) := dk_42 (dk_at dksX0_cuts_7 16 rfl rfl)
theorem dX0_cuts_183 : decode cX0_cuts 183 = .ok (.getfield 52, 3) := dk_180 0 52 (dk_at dksX0_cuts_7 17 rfl rfl)
theorem dX0_cuts_186 : decode cX0_cuts 186 = .ok (.iconst 1, 1) := dk_4 (dk_at dksX0_cuts_7 20 rfl rfl)
theorem dX0_cuts_187 : decode cX0_cuts 187 = .ok (.iload 9, 2) := dk_21 9 (dk_at dksX0_cuts_7 21 rfl rfl)
theorem dX0_cuts_189 : decode cX0_cuts 189 = .ok (.iastore, 1) := dk_79 (dk_at dksX0_cuts_7 23 rfl rfl)
theorem dX0_cuts_190 : decode cX0_cuts 190 = .ok (.aload_n 0, 1) := dk_42 (dk_at dksX0_cuts_8 0 rfl rfl)
theorem dX0_cuts_191 : decode cX0_cuts 191 = .ok (.getfield 52, 3) := dk_180 0 52 (dk_at dksX0_cuts_8 1 rfl rfl)
theorem dX0_cuts_194 : decode cX0_cuts 194 = .ok (.iconst 2, 1) := dk_5 (dk_at dksX0_cuts_8 4 rfl rfl)
theorem dX0_cuts_195 : decode cX0_cuts 195 = .ok (.iload 10, 2) := dk_21 10 (dk_at dksX0_cuts_8 5 rfl rfl)
theorem dX0_cuts_197 : decode cX0_cuts 197 = .ok (.iastore, 1) := dk_79 (dk_at dksX0_cuts_8 7 rfl rfl)
theorem dX0_cuts_198 : decode cX0_cuts 198 = .ok (.iinc 9 (-1), 3) := dk_132 9 255 (dk_at dksX0_cuts_8 8 rfl rfl)
theorem dX0_cuts_201 : decode cX0_cuts 201 = .ok (.goto (-123), 3) := dk_167 255 133 (dk_at dksX0_cuts_8 11 rfl rfl)
theorem dX0_cuts_204 : decode cX0_cuts 204 = .ok (.iinc 7 (-1), 3) := dk_132 7 255 (dk_at dksX0_cuts_8 14 rfl rfl)
theorem dX0_cuts_207 : decode cX0_cuts 207 = .ok (.goto (-153), 3) := dk_167 255 103 (dk_at dksX0_cuts_8 17 rfl rfl)
theorem dX0_cuts_210 : decode cX0_cuts 210 = .ok (.return_, 1) := dk_177 (dk_at dksX0_cuts_8 20 rfl rfl)
abbrev cX0_lengthOf : ByteArray := prog_1_method_18_code
def yX0_lengthOf : MethodName := ⟨RX0, "lengthOf", "(LBilletBars$Profile;I)I"⟩
def dkwX0_lengthOf_1 : List UInt8 := [180, 0, 179, 167, 0, 4, 3, 172]
abbrev dktX0_lengthOf_1 : List UInt8 := dkwX0_lengthOf_1 ++ []
def dkwX0_lengthOf_0 : List UInt8 := [27, 42, 180, 0, 157, 182, 0, 161, 162, 0, 20, 42, 180, 0, 157, 27, 182, 0, 167, 192, 0, 171]
abbrev dktX0_lengthOf_0 : List UInt8 := dkwX0_lengthOf_0 ++ dktX0_lengthOf_1
theorem dksX0_lengthOf_0 : cX0_lengthOf.data.toList.drop 0 = dktX0_lengthOf_0 := by decide +kernel
theorem dksX0_lengthOf_1 : cX0_lengthOf.data.toList.drop 22 = dktX0_lengthOf_1 := dk_seg dksX0_lengthOf_0 22 rfl rfl
theorem dX0_lengthOf_0 : decode cX0_lengthOf 0 = .ok (.iload_n 1, 1) := dk_27 (dk_at dksX0_lengthOf_0 0 rfl rfl)
theorem dX0_lengthOf_1 : decode cX0_lengthOf 1 = .ok (.aload_n 0, 1) := dk_42 (dk_at dksX0_lengthOf_0 1 rfl rfl)
theorem dX0_lengthOf_2 : decode cX0_lengthOf 2 = .ok (.getfield 157, 3) := dk_180 0 157 (dk_at dksX0_lengthOf_0 2 rfl rfl)
theorem dX0_lengthOf_5 : decode cX0_lengthOf 5 = .ok (.invokevirtual 161, 3) := dk_182 0 161 (dk_at dksX0_lengthOf_0 5 rfl rfl)
theorem dX0_lengthOf_8 : decode cX0_lengthOf 8 = .ok (.if_icmp .ge 20, 3) := dk_162 0 20 (dk_at dksX0_lengthOf_0 8 rfl rfl)
theorem dX0_lengthOf_11 : decode cX0_lengthOf 11 = .ok (.aload_n 0, 1) := dk_42 (dk_at dksX0_lengthOf_0 11 rfl rfl)
theorem dX0_lengthOf_12 : decode cX0_lengthOf 12 = .ok (.getfield 157, 3) := dk_180 0 157 (dk_at dksX0_lengthOf_0 12 rfl rfl)
theorem dX0_lengthOf_15 : decode cX0_lengthOf 15 = .ok (.iload_n 1, 1) := dk_27 (dk_at dksX0_lengthOf_0 15 rfl rfl)
theorem dX0_lengthOf_16 : decode cX0_lengthOf 16 = .ok (.invokevirtual 167, 3) := dk_182 0 167 (dk_at dksX0_lengthOf_0 16 rfl rfl)
theorem dX0_lengthOf_19 : decode cX0_lengthOf 19 = .ok (.checkcast 171, 3) := dk_192 0 171 (dk_at dksX0_lengthOf_0 19 rfl rfl)
theorem dX0_lengthOf_22 : decode cX0_lengthOf 22 = .ok (.getfield 179, 3) := dk_180 0 179 (dk_at dksX0_lengthOf_1 0 rfl rfl)
theorem dX0_lengthOf_25 : decode cX0_lengthOf 25 = .ok (.goto 4, 3) := dk_167 0 4 (dk_at dksX0_lengthOf_1 3 rfl rfl)
theorem dX0_lengthOf_28 : decode cX0_lengthOf 28 = .ok (.iconst 0, 1) := dk_3 (dk_at dksX0_lengthOf_1 6 rfl rfl)
theorem dX0_lengthOf_29 : decode cX0_lengthOf 29 = .ok (.ireturn, 1) := dk_172 (dk_at dksX0_lengthOf_1 7 rfl rfl)
abbrev cX0_most : ByteArray := prog_1_method_17_code
def yX0_most : MethodName := ⟨RX0, "most", "(LBilletBars$Profile;II)I"⟩
def dkwX0_most_2 : List UInt8 := [96, 108, 184, 0, 176, 172]
abbrev dktX0_most_2 : List UInt8 := dkwX0_most_2 ++ []
def dkwX0_most_1 : List UInt8 := [58, 4, 25, 4, 180, 0, 173, 16, 60, 184, 0, 176, 29, 25, 4, 180, 0, 179, 42, 180, 0, 21, 7, 46]
abbrev dktX0_most_1 : List UInt8 := dkwX0_most_1 ++ dktX0_most_2
def dkwX0_most_0 : List UInt8 := [28, 43, 180, 0, 157, 182, 0, 161, 161, 0, 5, 3, 172, 43, 180, 0, 157, 28, 182, 0, 167, 192, 0, 171]
abbrev dktX0_most_0 : List UInt8 := dkwX0_most_0 ++ dktX0_most_1
theorem dksX0_most_0 : cX0_most.data.toList.drop 0 = dktX0_most_0 := by decide +kernel
theorem dksX0_most_1 : cX0_most.data.toList.drop 24 = dktX0_most_1 := dk_seg dksX0_most_0 24 rfl rfl
theorem dksX0_most_2 : cX0_most.data.toList.drop 48 = dktX0_most_2 := dk_seg dksX0_most_1 24 rfl rfl
theorem dX0_most_0 : decode cX0_most 0 = .ok (.iload_n 2, 1) := dk_28 (dk_at dksX0_most_0 0 rfl rfl)
theorem dX0_most_1 : decode cX0_most 1 = .ok (.aload_n 1, 1) := dk_43 (dk_at dksX0_most_0 1 rfl rfl)
theorem dX0_most_2 : decode cX0_most 2 = .ok (.getfield 157, 3) := dk_180 0 157 (dk_at dksX0_most_0 2 rfl rfl)
theorem dX0_most_5 : decode cX0_most 5 = .ok (.invokevirtual 161, 3) := dk_182 0 161 (dk_at dksX0_most_0 5 rfl rfl)
theorem dX0_most_8 : decode cX0_most 8 = .ok (.if_icmp .lt 5, 3) := dk_161 0 5 (dk_at dksX0_most_0 8 rfl rfl)
theorem dX0_most_11 : decode cX0_most 11 = .ok (.iconst 0, 1) := dk_3 (dk_at dksX0_most_0 11 rfl rfl)
theorem dX0_most_12 : decode cX0_most 12 = .ok (.ireturn, 1) := dk_172 (dk_at dksX0_most_0 12 rfl rfl)
theorem dX0_most_13 : decode cX0_most 13 = .ok (.aload_n 1, 1) := dk_43 (dk_at dksX0_most_0 13 rfl rfl)
theorem dX0_most_14 : decode cX0_most 14 = .ok (.getfield 157, 3) := dk_180 0 157 (dk_at dksX0_most_0 14 rfl rfl)
theorem dX0_most_17 : decode cX0_most 17 = .ok (.iload_n 2, 1) := dk_28 (dk_at dksX0_most_0 17 rfl rfl)
theorem dX0_most_18 : decode cX0_most 18 = .ok (.invokevirtual 167, 3) := dk_182 0 167 (dk_at dksX0_most_0 18 rfl rfl)
theorem dX0_most_21 : decode cX0_most 21 = .ok (.checkcast 171, 3) := dk_192 0 171 (dk_at dksX0_most_0 21 rfl rfl)
theorem dX0_most_24 : decode cX0_most 24 = .ok (.astore 4, 2) := dk_58 4 (dk_at dksX0_most_1 0 rfl rfl)
theorem dX0_most_26 : decode cX0_most 26 = .ok (.aload 4, 2) := dk_25 4 (dk_at dksX0_most_1 2 rfl rfl)
theorem dX0_most_28 : decode cX0_most 28 = .ok (.getfield 173, 3) := dk_180 0 173 (dk_at dksX0_most_1 4 rfl rfl)
theorem dX0_most_31 : decode cX0_most 31 = .ok (.bipush 60, 2) := dk_16 60 (dk_at dksX0_most_1 7 rfl rfl)
theorem dX0_most_33 : decode cX0_most 33 = .ok (.invokestatic 176, 3) := dk_184 0 176 (dk_at dksX0_most_1 9 rfl rfl)
theorem dX0_most_36 : decode cX0_most 36 = .ok (.iload_n 3, 1) := dk_29 (dk_at dksX0_most_1 12 rfl rfl)
theorem dX0_most_37 : decode cX0_most 37 = .ok (.aload 4, 2) := dk_25 4 (dk_at dksX0_most_1 13 rfl rfl)
theorem dX0_most_39 : decode cX0_most 39 = .ok (.getfield 179, 3) := dk_180 0 179 (dk_at dksX0_most_1 15 rfl rfl)
theorem dX0_most_42 : decode cX0_most 42 = .ok (.aload_n 0, 1) := dk_42 (dk_at dksX0_most_1 18 rfl rfl)
theorem dX0_most_43 : decode cX0_most 43 = .ok (.getfield 21, 3) := dk_180 0 21 (dk_at dksX0_most_1 19 rfl rfl)
theorem dX0_most_46 : decode cX0_most 46 = .ok (.iconst 4, 1) := dk_7 (dk_at dksX0_most_1 22 rfl rfl)
theorem dX0_most_47 : decode cX0_most 47 = .ok (.iaload, 1) := dk_46 (dk_at dksX0_most_1 23 rfl rfl)
theorem dX0_most_48 : decode cX0_most 48 = .ok (.iadd, 1) := dk_96 (dk_at dksX0_most_2 0 rfl rfl)
theorem dX0_most_49 : decode cX0_most 49 = .ok (.idiv, 1) := dk_108 (dk_at dksX0_most_2 1 rfl rfl)
theorem dX0_most_50 : decode cX0_most 50 = .ok (.invokestatic 176, 3) := dk_184 0 176 (dk_at dksX0_most_2 2 rfl rfl)
theorem dX0_most_53 : decode cX0_most 53 = .ok (.ireturn, 1) := dk_172 (dk_at dksX0_most_2 5 rfl rfl)
abbrev cX0_bar : ByteArray := prog_1_method_22_code
def yX0_bar : MethodName := ⟨RX0, "bar", "(II)I"⟩
def dkwX0_bar_3 : List UInt8 := [180, 0, 225, 172, 45, 180, 0, 217, 172, 45, 180, 0, 240, 172, 16, 254, 172]
abbrev dktX0_bar_3 : List UInt8 := dkwX0_bar_3 ++ []
def dkwX0_bar_2 : List UInt8 := [45, 180, 0, 231, 180, 0, 234, 172, 45, 180, 0, 237, 172, 45, 180, 0, 202, 172, 45, 180, 0, 224, 172, 45]
abbrev dktX0_bar_2 : List UInt8 := dkwX0_bar_2 ++ dktX0_bar_3
def dkwX0_bar_1 : List UInt8 := [170, 0, 0, 0, 79, 0, 0, 0, 0, 0, 0, 0, 6, 0, 0, 0, 41, 0, 0, 0, 49, 0, 0, 0, 54, 0, 0, 0, 59, 0, 0, 0, 64, 0, 0, 0, 69, 0, 0, 0, 74]
abbrev dktX0_bar_1 : List UInt8 := dkwX0_bar_1 ++ dktX0_bar_2
def dkwX0_bar_0 : List UInt8 := [42, 27, 182, 0, 228, 154, 0, 6, 16, 254, 172, 42, 180, 0, 48, 27, 50, 78, 28]
abbrev dktX0_bar_0 : List UInt8 := dkwX0_bar_0 ++ dktX0_bar_1
theorem dksX0_bar_0 : cX0_bar.data.toList.drop 0 = dktX0_bar_0 := by decide +kernel
theorem dksX0_bar_1 : cX0_bar.data.toList.drop 19 = dktX0_bar_1 := dk_seg dksX0_bar_0 19 rfl rfl
theorem dksX0_bar_2 : cX0_bar.data.toList.drop 60 = dktX0_bar_2 := dk_seg dksX0_bar_1 41 rfl rfl
theorem dksX0_bar_3 : cX0_bar.data.toList.drop 84 = dktX0_bar_3 := dk_seg dksX0_bar_2 24 rfl rfl
theorem dX0_bar_0 : decode cX0_bar 0 = .ok (.aload_n 0, 1) := dk_42 (dk_at dksX0_bar_0 0 rfl rfl)
theorem dX0_bar_1 : decode cX0_bar 1 = .ok (.iload_n 1, 1) := dk_27 (dk_at dksX0_bar_0 1 rfl rfl)
theorem dX0_bar_2 : decode cX0_bar 2 = .ok (.invokevirtual 228, 3) := dk_182 0 228 (dk_at dksX0_bar_0 2 rfl rfl)
theorem dX0_bar_5 : decode cX0_bar 5 = .ok (.ifCond .ne 6, 3) := dk_154 0 6 (dk_at dksX0_bar_0 5 rfl rfl)
theorem dX0_bar_8 : decode cX0_bar 8 = .ok (.bipush (-2), 2) := dk_16 254 (dk_at dksX0_bar_0 8 rfl rfl)
theorem dX0_bar_10 : decode cX0_bar 10 = .ok (.ireturn, 1) := dk_172 (dk_at dksX0_bar_0 10 rfl rfl)
theorem dX0_bar_11 : decode cX0_bar 11 = .ok (.aload_n 0, 1) := dk_42 (dk_at dksX0_bar_0 11 rfl rfl)
theorem dX0_bar_12 : decode cX0_bar 12 = .ok (.getfield 48, 3) := dk_180 0 48 (dk_at dksX0_bar_0 12 rfl rfl)
theorem dX0_bar_15 : decode cX0_bar 15 = .ok (.iload_n 1, 1) := dk_27 (dk_at dksX0_bar_0 15 rfl rfl)
theorem dX0_bar_16 : decode cX0_bar 16 = .ok (.aaload, 1) := dk_50 (dk_at dksX0_bar_0 16 rfl rfl)
theorem dX0_bar_17 : decode cX0_bar 17 = .ok (.astore_n 3, 1) := dk_78 (dk_at dksX0_bar_0 17 rfl rfl)
theorem dX0_bar_18 : decode cX0_bar 18 = .ok (.iload_n 2, 1) := dk_28 (dk_at dksX0_bar_0 18 rfl rfl)
theorem dX0_bar_19 : decode cX0_bar 19 = .ok (.tableswitch 79 0 6 #[41, 49, 54, 59, 64, 69, 74], 41) := by decide +kernel
theorem dX0_bar_60 : decode cX0_bar 60 = .ok (.aload_n 3, 1) := dk_45 (dk_at dksX0_bar_2 0 rfl rfl)
theorem dX0_bar_61 : decode cX0_bar 61 = .ok (.getfield 231, 3) := dk_180 0 231 (dk_at dksX0_bar_2 1 rfl rfl)
theorem dX0_bar_64 : decode cX0_bar 64 = .ok (.getfield 234, 3) := dk_180 0 234 (dk_at dksX0_bar_2 4 rfl rfl)
theorem dX0_bar_67 : decode cX0_bar 67 = .ok (.ireturn, 1) := dk_172 (dk_at dksX0_bar_2 7 rfl rfl)
theorem dX0_bar_68 : decode cX0_bar 68 = .ok (.aload_n 3, 1) := dk_45 (dk_at dksX0_bar_2 8 rfl rfl)
theorem dX0_bar_69 : decode cX0_bar 69 = .ok (.getfield 237, 3) := dk_180 0 237 (dk_at dksX0_bar_2 9 rfl rfl)
theorem dX0_bar_72 : decode cX0_bar 72 = .ok (.ireturn, 1) := dk_172 (dk_at dksX0_bar_2 12 rfl rfl)
theorem dX0_bar_73 : decode cX0_bar 73 = .ok (.aload_n 3, 1) := dk_45 (dk_at dksX0_bar_2 13 rfl rfl)
theorem dX0_bar_74 : decode cX0_bar 74 = .ok (.getfield 202, 3) := dk_180 0 202 (dk_at dksX0_bar_2 14 rfl rfl)
theorem dX0_bar_77 : decode cX0_bar 77 = .ok (.ireturn, 1) := dk_172 (dk_at dksX0_bar_2 17 rfl rfl)
theorem dX0_bar_78 : decode cX0_bar 78 = .ok (.aload_n 3, 1) := dk_45 (dk_at dksX0_bar_2 18 rfl rfl)
theorem dX0_bar_79 : decode cX0_bar 79 = .ok (.getfield 224, 3) := dk_180 0 224 (dk_at dksX0_bar_2 19 rfl rfl)
theorem dX0_bar_82 : decode cX0_bar 82 = .ok (.ireturn, 1) := dk_172 (dk_at dksX0_bar_2 22 rfl rfl)
theorem dX0_bar_83 : decode cX0_bar 83 = .ok (.aload_n 3, 1) := dk_45 (dk_at dksX0_bar_2 23 rfl rfl)
theorem dX0_bar_84 : decode cX0_bar 84 = .ok (.getfield 225, 3) := dk_180 0 225 (dk_at dksX0_bar_3 0 rfl rfl)
theorem dX0_bar_87 : decode cX0_bar 87 = .ok (.ireturn, 1) := dk_172 (dk_at dksX0_bar_3 3 rfl rfl)
theorem dX0_bar_88 : decode cX0_bar 88 = .ok (.aload_n 3, 1) := dk_45 (dk_at dksX0_bar_3 4 rfl rfl)
theorem dX0_bar_89 : decode cX0_bar 89 = .ok (.getfield 217, 3) := dk_180 0 217 (dk_at dksX0_bar_3 5 rfl rfl)
theorem dX0_bar_92 : decode cX0_bar 92 = .ok (.ireturn, 1) := dk_172 (dk_at dksX0_bar_3 8 rfl rfl)
theorem dX0_bar_93 : decode cX0_bar 93 = .ok (.aload_n 3, 1) := dk_45 (dk_at dksX0_bar_3 9 rfl rfl)
theorem dX0_bar_94 : decode cX0_bar 94 = .ok (.getfield 240, 3) := dk_180 0 240 (dk_at dksX0_bar_3 10 rfl rfl)
theorem dX0_bar_97 : decode cX0_bar 97 = .ok (.ireturn, 1) := dk_172 (dk_at dksX0_bar_3 13 rfl rfl)
theorem dX0_bar_98 : decode cX0_bar 98 = .ok (.bipush (-2), 2) := dk_16 254 (dk_at dksX0_bar_3 14 rfl rfl)
theorem dX0_bar_100 : decode cX0_bar 100 = .ok (.ireturn, 1) := dk_172 (dk_at dksX0_bar_3 16 rfl rfl)
abbrev cX0_isBar : ByteArray := prog_1_method_21_code
def yX0_isBar : MethodName := ⟨RX0, "isBar", "(I)Z"⟩
def dkwX0_isBar_0 : List UInt8 := [27, 3, 42, 180, 0, 193, 4, 100, 184, 0, 87, 172]
abbrev dktX0_isBar_0 : List UInt8 := dkwX0_isBar_0 ++ []
theorem dksX0_isBar_0 : cX0_isBar.data.toList.drop 0 = dktX0_isBar_0 := by decide +kernel
theorem dX0_isBar_0 : decode cX0_isBar 0 = .ok (.iload_n 1, 1) := dk_27 (dk_at dksX0_isBar_0 0 rfl rfl)
theorem dX0_isBar_1 : decode cX0_isBar 1 = .ok (.iconst 0, 1) := dk_3 (dk_at dksX0_isBar_0 1 rfl rfl)
theorem dX0_isBar_2 : decode cX0_isBar 2 = .ok (.aload_n 0, 1) := dk_42 (dk_at dksX0_isBar_0 2 rfl rfl)
theorem dX0_isBar_3 : decode cX0_isBar 3 = .ok (.getfield 193, 3) := dk_180 0 193 (dk_at dksX0_isBar_0 3 rfl rfl)
theorem dX0_isBar_6 : decode cX0_isBar 6 = .ok (.iconst 1, 1) := dk_4 (dk_at dksX0_isBar_0 6 rfl rfl)
theorem dX0_isBar_7 : decode cX0_isBar 7 = .ok (.isub, 1) := dk_100 (dk_at dksX0_isBar_0 7 rfl rfl)
theorem dX0_isBar_8 : decode cX0_isBar 8 = .ok (.invokestatic 87, 3) := dk_184 0 87 (dk_at dksX0_isBar_0 8 rfl rfl)
theorem dX0_isBar_11 : decode cX0_isBar 11 = .ok (.ireturn, 1) := dk_172 (dk_at dksX0_isBar_0 11 rfl rfl)
abbrev cX0_order : ByteArray := prog_1_method_23_code
def yX0_order : MethodName := ⟨RX0, "order", "(III)I"⟩
def dkwX0_order_3 : List UInt8 := [182, 0, 246, 87, 25, 4, 182, 0, 161, 4, 100, 172]
abbrev dktX0_order_3 : List UInt8 := dkwX0_order_3 ++ []
def dkwX0_order_2 : List UInt8 := [25, 4, 182, 0, 161, 6, 160, 0, 6, 16, 252, 172, 25, 4, 187, 0, 171, 89, 28, 29, 183, 0, 243]
abbrev dktX0_order_2 : List UInt8 := dkwX0_order_2 ++ dktX0_order_3
def dkwX0_order_1 : List UInt8 := [17, 1, 244, 184, 0, 87, 154, 0, 6, 16, 254, 172, 42, 180, 0, 11, 27, 50, 180, 0, 157, 58, 4]
abbrev dktX0_order_1 : List UInt8 := dkwX0_order_1 ++ dktX0_order_2
def dkwX0_order_0 : List UInt8 := [42, 27, 182, 0, 97, 153, 0, 26, 28, 16, 100, 17, 35, 40, 184, 0, 87, 153, 0, 14, 29, 3]
abbrev dktX0_order_0 : List UInt8 := dkwX0_order_0 ++ dktX0_order_1
theorem dksX0_order_0 : cX0_order.data.toList.drop 0 = dktX0_order_0 := by decide +kernel
theorem dksX0_order_1 : cX0_order.data.toList.drop 22 = dktX0_order_1 := dk_seg dksX0_order_0 22 rfl rfl
theorem dksX0_order_2 : cX0_order.data.toList.drop 45 = dktX0_order_2 := dk_seg dksX0_order_1 23 rfl rfl
theorem dksX0_order_3 : cX0_order.data.toList.drop 68 = dktX0_order_3 := dk_seg dksX0_order_2 23 rfl rfl
theorem dX0_order_0 : decode cX0_order 0 = .ok (.aload_n 0, 1) := dk_42 (dk_at dksX0_order_0 0 rfl rfl)
theorem dX0_order_1 : decode cX0_order 1 = .ok (.iload_n 1, 1) := dk_27 (dk_at dksX0_order_0 1 rfl rfl)
theorem dX0_order_2 : decode cX0_order 2 = .ok (.invokevirtual 97, 3) := dk_182 0 97 (dk_at dksX0_order_0 2 rfl rfl)
theorem dX0_order_5 : decode cX0_order 5 = .ok (.ifCond .eq 26, 3) := dk_153 0 26 (dk_at dksX0_order_0 5 rfl rfl)
theorem dX0_order_8 : decode cX0_order 8 = .ok (.iload_n 2, 1) := dk_28 (dk_at dksX0_order_0 8 rfl rfl)
theorem dX0_order_9 : decode cX0_order 9 = .ok (.bipush 100, 2) := dk_16 100 (dk_at dksX0_order_0 9 rfl rfl)
theorem dX0_order_11 : decode cX0_order 11 = .ok (.sipush 9000, 3) := dk_17 35 40 (dk_at dksX0_order_0 11 rfl rfl)
theorem dX0_order_14 : decode cX0_order 14 = .ok (.invokestatic 87, 3) := dk_184 0 87 (dk_at dksX0_order_0 14 rfl rfl)
theorem dX0_order_17 : decode cX0_order 17 = .ok (.ifCond .eq 14, 3) := dk_153 0 14 (dk_at dksX0_order_0 17 rfl rfl)
theorem dX0_order_20 : decode cX0_order 20 = .ok (.iload_n 3, 1) := dk_29 (dk_at dksX0_order_0 20 rfl rfl)
theorem dX0_order_21 : decode cX0_order 21 = .ok (.iconst 0, 1) := dk_3 (dk_at dksX0_order_0 21 rfl rfl)
theorem dX0_order_22 : decode cX0_order 22 = .ok (.sipush 500, 3) := dk_17 1 244 (dk_at dksX0_order_1 0 rfl rfl)
theorem dX0_order_25 : decode cX0_order 25 = .ok (.invokestatic 87, 3) := dk_184 0 87 (dk_at dksX0_order_1 3 rfl rfl)
theorem dX0_order_28 : decode cX0_order 28 = .ok (.ifCond .ne 6, 3) := dk_154 0 6 (dk_at dksX0_order_1 6 rfl rfl)
theorem dX0_order_31 : decode cX0_order 31 = .ok (.bipush (-2), 2) := dk_16 254 (dk_at dksX0_order_1 9 rfl rfl)
theorem dX0_order_33 : decode cX0_order 33 = .ok (.ireturn, 1) := dk_172 (dk_at dksX0_order_1 11 rfl rfl)
theorem dX0_order_34 : decode cX0_order 34 = .ok (.aload_n 0, 1) := dk_42 (dk_at dksX0_order_1 12 rfl rfl)
theorem dX0_order_35 : decode cX0_order 35 = .ok (.getfield 11, 3) := dk_180 0 11 (dk_at dksX0_order_1 13 rfl rfl)
theorem dX0_order_38 : decode cX0_order 38 = .ok (.iload_n 1, 1) := dk_27 (dk_at dksX0_order_1 16 rfl rfl)
theorem dX0_order_39 : decode cX0_order 39 = .ok (.aaload, 1) := dk_50 (dk_at dksX0_order_1 17 rfl rfl)
theorem dX0_order_40 : decode cX0_order 40 = .ok (.getfield 157, 3) := dk_180 0 157 (dk_at dksX0_order_1 18 rfl rfl)
theorem dX0_order_43 : decode cX0_order 43 = .ok (.astore 4, 2) := dk_58 4 (dk_at dksX0_order_1 21 rfl rfl)
theorem dX0_order_45 : decode cX0_order 45 = .ok (.aload 4, 2) := dk_25 4 (dk_at dksX0_order_2 0 rfl rfl)
theorem dX0_order_47 : decode cX0_order 47 = .ok (.invokevirtual 161, 3) := dk_182 0 161 (dk_at dksX0_order_2 2 rfl rfl)
theorem dX0_order_50 : decode cX0_order 50 = .ok (.iconst 3, 1) := dk_6 (dk_at dksX0_order_2 5 rfl rfl)
theorem dX0_order_51 : decode cX0_order 51 = .ok (.if_icmp .ne 6, 3) := dk_160 0 6 (dk_at dksX0_order_2 6 rfl rfl)
theorem dX0_order_54 : decode cX0_order 54 = .ok (.bipush (-4), 2) := dk_16 252 (dk_at dksX0_order_2 9 rfl rfl)
theorem dX0_order_56 : decode cX0_order 56 = .ok (.ireturn, 1) := dk_172 (dk_at dksX0_order_2 11 rfl rfl)
theorem dX0_order_57 : decode cX0_order 57 = .ok (.aload 4, 2) := dk_25 4 (dk_at dksX0_order_2 12 rfl rfl)
theorem dX0_order_59 : decode cX0_order 59 = .ok (.new 171, 3) := dk_187 0 171 (dk_at dksX0_order_2 14 rfl rfl)
theorem dX0_order_62 : decode cX0_order 62 = .ok (.dup, 1) := dk_89 (dk_at dksX0_order_2 17 rfl rfl)
theorem dX0_order_63 : decode cX0_order 63 = .ok (.iload_n 2, 1) := dk_28 (dk_at dksX0_order_2 18 rfl rfl)
theorem dX0_order_64 : decode cX0_order 64 = .ok (.iload_n 3, 1) := dk_29 (dk_at dksX0_order_2 19 rfl rfl)
theorem dX0_order_65 : decode cX0_order 65 = .ok (.invokespecial 243, 3) := dk_183 0 243 (dk_at dksX0_order_2 20 rfl rfl)
theorem dX0_order_68 : decode cX0_order 68 = .ok (.invokevirtual 246, 3) := dk_182 0 246 (dk_at dksX0_order_3 0 rfl rfl)
theorem dX0_order_71 : decode cX0_order 71 = .ok (.pop, 1) := dk_87 (dk_at dksX0_order_3 3 rfl rfl)
theorem dX0_order_72 : decode cX0_order 72 = .ok (.aload 4, 2) := dk_25 4 (dk_at dksX0_order_3 4 rfl rfl)
theorem dX0_order_74 : decode cX0_order 74 = .ok (.invokevirtual 161, 3) := dk_182 0 161 (dk_at dksX0_order_3 6 rfl rfl)
theorem dX0_order_77 : decode cX0_order 77 = .ok (.iconst 1, 1) := dk_4 (dk_at dksX0_order_3 9 rfl rfl)
theorem dX0_order_78 : decode cX0_order 78 = .ok (.isub, 1) := dk_100 (dk_at dksX0_order_3 10 rfl rfl)
theorem dX0_order_79 : decode cX0_order 79 = .ok (.ireturn, 1) := dk_172 (dk_at dksX0_order_3 11 rfl rfl)
abbrev cX0_wanted : ByteArray := prog_1_method_24_code
def yX0_wanted : MethodName := ⟨RX0, "wanted", "(II)I"⟩
def dkwX0_wanted_2 : List UInt8 := [180, 0, 173, 167, 0, 5, 16, 254, 172]
abbrev dktX0_wanted_2 : List UInt8 := dkwX0_wanted_2 ++ []
def dkwX0_wanted_1 : List UInt8 := [184, 0, 87, 153, 0, 25, 42, 180, 0, 11, 27, 50, 180, 0, 157, 28, 182, 0, 167, 192, 0, 171]
abbrev dktX0_wanted_1 : List UInt8 := dkwX0_wanted_1 ++ dktX0_wanted_2
def dkwX0_wanted_0 : List UInt8 := [42, 27, 182, 0, 97, 153, 0, 47, 28, 3, 42, 180, 0, 11, 27, 50, 180, 0, 157, 182, 0, 161, 4, 100]
abbrev dktX0_wanted_0 : List UInt8 := dkwX0_wanted_0 ++ dktX0_wanted_1
theorem dksX0_wanted_0 : cX0_wanted.data.toList.drop 0 = dktX0_wanted_0 := by decide +kernel
theorem dksX0_wanted_1 : cX0_wanted.data.toList.drop 24 = dktX0_wanted_1 := dk_seg dksX0_wanted_0 24 rfl rfl
theorem dksX0_wanted_2 : cX0_wanted.data.toList.drop 46 = dktX0_wanted_2 := dk_seg dksX0_wanted_1 22 rfl rfl
theorem dX0_wanted_0 : decode cX0_wanted 0 = .ok (.aload_n 0, 1) := dk_42 (dk_at dksX0_wanted_0 0 rfl rfl)
theorem dX0_wanted_1 : decode cX0_wanted 1 = .ok (.iload_n 1, 1) := dk_27 (dk_at dksX0_wanted_0 1 rfl rfl)
theorem dX0_wanted_2 : decode cX0_wanted 2 = .ok (.invokevirtual 97, 3) := dk_182 0 97 (dk_at dksX0_wanted_0 2 rfl rfl)
theorem dX0_wanted_5 : decode cX0_wanted 5 = .ok (.ifCond .eq 47, 3) := dk_153 0 47 (dk_at dksX0_wanted_0 5 rfl rfl)
theorem dX0_wanted_8 : decode cX0_wanted 8 = .ok (.iload_n 2, 1) := dk_28 (dk_at dksX0_wanted_0 8 rfl rfl)
theorem dX0_wanted_9 : decode cX0_wanted 9 = .ok (.iconst 0, 1) := dk_3 (dk_at dksX0_wanted_0 9 rfl rfl)
theorem dX0_wanted_10 : decode cX0_wanted 10 = .ok (.aload_n 0, 1) := dk_42 (dk_at dksX0_wanted_0 10 rfl rfl)
theorem dX0_wanted_11 : decode cX0_wanted 11 = .ok (.getfield 11, 3) := dk_180 0 11 (dk_at dksX0_wanted_0 11 rfl rfl)
theorem dX0_wanted_14 : decode cX0_wanted 14 = .ok (.iload_n 1, 1) := dk_27 (dk_at dksX0_wanted_0 14 rfl rfl)
theorem dX0_wanted_15 : decode cX0_wanted 15 = .ok (.aaload, 1) := dk_50 (dk_at dksX0_wanted_0 15 rfl rfl)
theorem dX0_wanted_16 : decode cX0_wanted 16 = .ok (.getfield 157, 3) := dk_180 0 157 (dk_at dksX0_wanted_0 16 rfl rfl)
theorem dX0_wanted_19 : decode cX0_wanted 19 = .ok (.invokevirtual 161, 3) := dk_182 0 161 (dk_at dksX0_wanted_0 19 rfl rfl)
theorem dX0_wanted_22 : decode cX0_wanted 22 = .ok (.iconst 1, 1) := dk_4 (dk_at dksX0_wanted_0 22 rfl rfl)
theorem dX0_wanted_23 : decode cX0_wanted 23 = .ok (.isub, 1) := dk_100 (dk_at dksX0_wanted_0 23 rfl rfl)
theorem dX0_wanted_24 : decode cX0_wanted 24 = .ok (.invokestatic 87, 3) := dk_184 0 87 (dk_at dksX0_wanted_1 0 rfl rfl)
theorem dX0_wanted_27 : decode cX0_wanted 27 = .ok (.ifCond .eq 25, 3) := dk_153 0 25 (dk_at dksX0_wanted_1 3 rfl rfl)
theorem dX0_wanted_30 : decode cX0_wanted 30 = .ok (.aload_n 0, 1) := dk_42 (dk_at dksX0_wanted_1 6 rfl rfl)
theorem dX0_wanted_31 : decode cX0_wanted 31 = .ok (.getfield 11, 3) := dk_180 0 11 (dk_at dksX0_wanted_1 7 rfl rfl)
theorem dX0_wanted_34 : decode cX0_wanted 34 = .ok (.iload_n 1, 1) := dk_27 (dk_at dksX0_wanted_1 10 rfl rfl)
theorem dX0_wanted_35 : decode cX0_wanted 35 = .ok (.aaload, 1) := dk_50 (dk_at dksX0_wanted_1 11 rfl rfl)
theorem dX0_wanted_36 : decode cX0_wanted 36 = .ok (.getfield 157, 3) := dk_180 0 157 (dk_at dksX0_wanted_1 12 rfl rfl)
theorem dX0_wanted_39 : decode cX0_wanted 39 = .ok (.iload_n 2, 1) := dk_28 (dk_at dksX0_wanted_1 15 rfl rfl)
theorem dX0_wanted_40 : decode cX0_wanted 40 = .ok (.invokevirtual 167, 3) := dk_182 0 167 (dk_at dksX0_wanted_1 16 rfl rfl)
theorem dX0_wanted_43 : decode cX0_wanted 43 = .ok (.checkcast 171, 3) := dk_192 0 171 (dk_at dksX0_wanted_1 19 rfl rfl)
theorem dX0_wanted_46 : decode cX0_wanted 46 = .ok (.getfield 173, 3) := dk_180 0 173 (dk_at dksX0_wanted_2 0 rfl rfl)
theorem dX0_wanted_49 : decode cX0_wanted 49 = .ok (.goto 5, 3) := dk_167 0 5 (dk_at dksX0_wanted_2 3 rfl rfl)
theorem dX0_wanted_52 : decode cX0_wanted 52 = .ok (.bipush (-2), 2) := dk_16 254 (dk_at dksX0_wanted_2 6 rfl rfl)
theorem dX0_wanted_54 : decode cX0_wanted 54 = .ok (.ireturn, 1) := dk_172 (dk_at dksX0_wanted_2 8 rfl rfl)
abbrev cX0_pattern : ByteArray := prog_1_method_25_code
def yX0_pattern : MethodName := ⟨RX0, "pattern", "(III)I"⟩
def dkwX0_pattern_2 : List UInt8 := [180, 0, 182, 167, 0, 9, 42, 180, 0, 52, 29, 46, 172]
abbrev dktX0_pattern_2 : List UInt8 := dkwX0_pattern_2 ++ []
def dkwX0_pattern_1 : List UInt8 := [154, 0, 6, 16, 254, 172, 42, 42, 180, 0, 11, 27, 50, 28, 182, 0, 220, 29, 6, 160, 0, 10, 42]
abbrev dktX0_pattern_1 : List UInt8 := dkwX0_pattern_1 ++ dktX0_pattern_2
def dkwX0_pattern_0 : List UInt8 := [42, 27, 182, 0, 97, 153, 0, 22, 28, 3, 18, 250, 184, 0, 87, 153, 0, 12, 29, 3, 6, 184, 0, 87]
abbrev dktX0_pattern_0 : List UInt8 := dkwX0_pattern_0 ++ dktX0_pattern_1
theorem dksX0_pattern_0 : cX0_pattern.data.toList.drop 0 = dktX0_pattern_0 := by decide +kernel
theorem dksX0_pattern_1 : cX0_pattern.data.toList.drop 24 = dktX0_pattern_1 := dk_seg dksX0_pattern_0 24 rfl rfl
theorem dksX0_pattern_2 : cX0_pattern.data.toList.drop 47 = dktX0_pattern_2 := dk_seg dksX0_pattern_1 23 rfl rfl
theorem dX0_pattern_0 : decode cX0_pattern 0 = .ok (.aload_n 0, 1) := dk_42 (dk_at dksX0_pattern_0 0 rfl rfl)
theorem dX0_pattern_1 : decode cX0_pattern 1 = .ok (.iload_n 1, 1) := dk_27 (dk_at dksX0_pattern_0 1 rfl rfl)
theorem dX0_pattern_2 : decode cX0_pattern 2 = .ok (.invokevirtual 97, 3) := dk_182 0 97 (dk_at dksX0_pattern_0 2 rfl rfl)
theorem dX0_pattern_5 : decode cX0_pattern 5 = .ok (.ifCond .eq 22, 3) := dk_153 0 22 (dk_at dksX0_pattern_0 5 rfl rfl)
theorem dX0_pattern_8 : decode cX0_pattern 8 = .ok (.iload_n 2, 1) := dk_28 (dk_at dksX0_pattern_0 8 rfl rfl)
theorem dX0_pattern_9 : decode cX0_pattern 9 = .ok (.iconst 0, 1) := dk_3 (dk_at dksX0_pattern_0 9 rfl rfl)
theorem dX0_pattern_10 : decode cX0_pattern 10 = .ok (.ldc 250, 2) := dk_18 250 (dk_at dksX0_pattern_0 10 rfl rfl)
theorem dX0_pattern_12 : decode cX0_pattern 12 = .ok (.invokestatic 87, 3) := dk_184 0 87 (dk_at dksX0_pattern_0 12 rfl rfl)
theorem dX0_pattern_15 : decode cX0_pattern 15 = .ok (.ifCond .eq 12, 3) := dk_153 0 12 (dk_at dksX0_pattern_0 15 rfl rfl)
theorem dX0_pattern_18 : decode cX0_pattern 18 = .ok (.iload_n 3, 1) := dk_29 (dk_at dksX0_pattern_0 18 rfl rfl)
theorem dX0_pattern_19 : decode cX0_pattern 19 = .ok (.iconst 0, 1) := dk_3 (dk_at dksX0_pattern_0 19 rfl rfl)
theorem dX0_pattern_20 : decode cX0_pattern 20 = .ok (.iconst 3, 1) := dk_6 (dk_at dksX0_pattern_0 20 rfl rfl)
theorem dX0_pattern_21 : decode cX0_pattern 21 = .ok (.invokestatic 87, 3) := dk_184 0 87 (dk_at dksX0_pattern_0 21 rfl rfl)
theorem dX0_pattern_24 : decode cX0_pattern 24 = .ok (.ifCond .ne 6, 3) := dk_154 0 6 (dk_at dksX0_pattern_1 0 rfl rfl)
theorem dX0_pattern_27 : decode cX0_pattern 27 = .ok (.bipush (-2), 2) := dk_16 254 (dk_at dksX0_pattern_1 3 rfl rfl)
theorem dX0_pattern_29 : decode cX0_pattern 29 = .ok (.ireturn, 1) := dk_172 (dk_at dksX0_pattern_1 5 rfl rfl)
theorem dX0_pattern_30 : decode cX0_pattern 30 = .ok (.aload_n 0, 1) := dk_42 (dk_at dksX0_pattern_1 6 rfl rfl)
theorem dX0_pattern_31 : decode cX0_pattern 31 = .ok (.aload_n 0, 1) := dk_42 (dk_at dksX0_pattern_1 7 rfl rfl)
theorem dX0_pattern_32 : decode cX0_pattern 32 = .ok (.getfield 11, 3) := dk_180 0 11 (dk_at dksX0_pattern_1 8 rfl rfl)
theorem dX0_pattern_35 : decode cX0_pattern 35 = .ok (.iload_n 1, 1) := dk_27 (dk_at dksX0_pattern_1 11 rfl rfl)
theorem dX0_pattern_36 : decode cX0_pattern 36 = .ok (.aaload, 1) := dk_50 (dk_at dksX0_pattern_1 12 rfl rfl)
theorem dX0_pattern_37 : decode cX0_pattern 37 = .ok (.iload_n 2, 1) := dk_28 (dk_at dksX0_pattern_1 13 rfl rfl)
theorem dX0_pattern_38 : decode cX0_pattern 38 = .ok (.invokevirtual 220, 3) := dk_182 0 220 (dk_at dksX0_pattern_1 14 rfl rfl)
theorem dX0_pattern_41 : decode cX0_pattern 41 = .ok (.iload_n 3, 1) := dk_29 (dk_at dksX0_pattern_1 17 rfl rfl)
theorem dX0_pattern_42 : decode cX0_pattern 42 = .ok (.iconst 3, 1) := dk_6 (dk_at dksX0_pattern_1 18 rfl rfl)
theorem dX0_pattern_43 : decode cX0_pattern 43 = .ok (.if_icmp .ne 10, 3) := dk_160 0 10 (dk_at dksX0_pattern_1 19 rfl rfl)
theorem dX0_pattern_46 : decode cX0_pattern 46 = .ok (.aload_n 0, 1) := dk_42 (dk_at dksX0_pattern_1 22 rfl rfl)
theorem dX0_pattern_47 : decode cX0_pattern 47 = .ok (.getfield 182, 3) := dk_180 0 182 (dk_at dksX0_pattern_2 0 rfl rfl)
theorem dX0_pattern_50 : decode cX0_pattern 50 = .ok (.goto 9, 3) := dk_167 0 9 (dk_at dksX0_pattern_2 3 rfl rfl)
theorem dX0_pattern_53 : decode cX0_pattern 53 = .ok (.aload_n 0, 1) := dk_42 (dk_at dksX0_pattern_2 6 rfl rfl)
theorem dX0_pattern_54 : decode cX0_pattern 54 = .ok (.getfield 52, 3) := dk_180 0 52 (dk_at dksX0_pattern_2 7 rfl rfl)
theorem dX0_pattern_57 : decode cX0_pattern 57 = .ok (.iload_n 3, 1) := dk_29 (dk_at dksX0_pattern_2 10 rfl rfl)
theorem dX0_pattern_58 : decode cX0_pattern 58 = .ok (.iaload, 1) := dk_46 (dk_at dksX0_pattern_2 11 rfl rfl)
theorem dX0_pattern_59 : decode cX0_pattern 59 = .ok (.ireturn, 1) := dk_172 (dk_at dksX0_pattern_2 12 rfl rfl)
abbrev cX0_account : ByteArray := prog_1_method_26_code
def yX0_account : MethodName := ⟨RX0, "account", "(I)I"⟩
def dkwX0_account_5 : List UInt8 := [16, 254, 172]
abbrev dktX0_account_5 : List UInt8 := dkwX0_account_5 ++ []
def dkwX0_account_4 : List UInt8 := [46, 42, 180, 0, 48, 29, 50, 180, 0, 237, 96, 79, 132, 3, 1, 167, 255, 184, 44, 27, 46, 172, 78]
abbrev dktX0_account_4 : List UInt8 := dkwX0_account_4 ++ dktX0_account_5
def dkwX0_account_3 : List UInt8 := [180, 0, 225, 96, 79, 44, 8, 92, 46, 42, 180, 0, 48, 29, 50, 180, 0, 202, 96, 79, 44, 16, 6, 92]
abbrev dktX0_account_3 : List UInt8 := dkwX0_account_3 ++ dktX0_account_4
def dkwX0_account_2 : List UInt8 := [46, 42, 180, 0, 48, 29, 50, 180, 0, 224, 96, 79, 44, 7, 92, 46, 42, 180, 0, 48, 29, 50]
abbrev dktX0_account_2 : List UInt8 := dkwX0_account_2 ++ dktX0_account_3
def dkwX0_account_1 : List UInt8 := [79, 44, 5, 42, 180, 0, 42, 180, 0, 205, 79, 3, 62, 29, 42, 180, 0, 193, 162, 0, 70, 44, 6, 92]
abbrev dktX0_account_1 : List UInt8 := dkwX0_account_1 ++ dktX0_account_2
def dkwX0_account_0 : List UInt8 := [16, 7, 188, 10, 77, 44, 3, 42, 180, 0, 30, 180, 0, 251, 79, 44, 4, 42, 180, 0, 34, 180, 0, 251]
abbrev dktX0_account_0 : List UInt8 := dkwX0_account_0 ++ dktX0_account_1
theorem dksX0_account_0 : cX0_account.data.toList.drop 0 = dktX0_account_0 := by decide +kernel
theorem dksX0_account_1 : cX0_account.data.toList.drop 24 = dktX0_account_1 := dk_seg dksX0_account_0 24 rfl rfl
theorem dksX0_account_2 : cX0_account.data.toList.drop 48 = dktX0_account_2 := dk_seg dksX0_account_1 24 rfl rfl
theorem dksX0_account_3 : cX0_account.data.toList.drop 70 = dktX0_account_3 := dk_seg dksX0_account_2 22 rfl rfl
theorem dksX0_account_4 : cX0_account.data.toList.drop 94 = dktX0_account_4 := dk_seg dksX0_account_3 24 rfl rfl
theorem dksX0_account_5 : cX0_account.data.toList.drop 117 = dktX0_account_5 := dk_seg dksX0_account_4 23 rfl rfl
theorem dX0_account_0 : decode cX0_account 0 = .ok (.bipush 7, 2) := dk_16 7 (dk_at dksX0_account_0 0 rfl rfl)
theorem dX0_account_2 : decode cX0_account 2 = .ok (.newarray .int, 2) := dk_188_10 (dk_at dksX0_account_0 2 rfl rfl)
theorem dX0_account_4 : decode cX0_account 4 = .ok (.astore_n 2, 1) := dk_77 (dk_at dksX0_account_0 4 rfl rfl)
theorem dX0_account_5 : decode cX0_account 5 = .ok (.aload_n 2, 1) := dk_44 (dk_at dksX0_account_0 5 rfl rfl)
theorem dX0_account_6 : decode cX0_account 6 = .ok (.iconst 0, 1) := dk_3 (dk_at dksX0_account_0 6 rfl rfl)
theorem dX0_account_7 : decode cX0_account 7 = .ok (.aload_n 0, 1) := dk_42 (dk_at dksX0_account_0 7 rfl rfl)
theorem dX0_account_8 : decode cX0_account 8 = .ok (.getfield 30, 3) := dk_180 0 30 (dk_at dksX0_account_0 8 rfl rfl)
theorem dX0_account_11 : decode cX0_account 11 = .ok (.getfield 251, 3) := dk_180 0 251 (dk_at dksX0_account_0 11 rfl rfl)
theorem dX0_account_14 : decode cX0_account 14 = .ok (.iastore, 1) := dk_79 (dk_at dksX0_account_0 14 rfl rfl)
theorem dX0_account_15 : decode cX0_account 15 = .ok (.aload_n 2, 1) := dk_44 (dk_at dksX0_account_0 15 rfl rfl)
theorem dX0_account_16 : decode cX0_account 16 = .ok (.iconst 1, 1) := dk_4 (dk_at dksX0_account_0 16 rfl rfl)
theorem dX0_account_17 : decode cX0_account 17 = .ok (.aload_n 0, 1) := dk_42 (dk_at dksX0_account_0 17 rfl rfl)
theorem dX0_account_18 : decode cX0_account 18 = .ok (.getfield 34, 3) := dk_180 0 34 (dk_at dksX0_account_0 18 rfl rfl)
theorem dX0_account_21 : decode cX0_account 21 = .ok (.getfield 251, 3) := dk_180 0 251 (dk_at dksX0_account_0 21 rfl rfl)
theorem dX0_account_24 : decode cX0_account 24 = .ok (.iastore, 1) := dk_79 (dk_at dksX0_account_1 0 rfl rfl)
theorem dX0_account_25 : decode cX0_account 25 = .ok (.aload_n 2, 1) := dk_44 (dk_at dksX0_account_1 1 rfl rfl)
theorem dX0_account_26 : decode cX0_account 26 = .ok (.iconst 2, 1) := dk_5 (dk_at dksX0_account_1 2 rfl rfl)
theorem dX0_account_27 : decode cX0_account 27 = .ok (.aload_n 0, 1) := dk_42 (dk_at dksX0_account_1 3 rfl rfl)
theorem dX0_account_28 : decode cX0_account 28 = .ok (.getfield 42, 3) := dk_180 0 42 (dk_at dksX0_account_1 4 rfl rfl)
theorem dX0_account_31 : decode cX0_account 31 = .ok (.getfield 205, 3) := dk_180 0 205 (dk_at dksX0_account_1 7 rfl rfl)
theorem dX0_account_34 : decode cX0_account 34 = .ok (.iastore, 1) := dk_79 (dk_at dksX0_account_1 10 rfl rfl)
theorem dX0_account_35 : decode cX0_account 35 = .ok (.iconst 0, 1) := dk_3 (dk_at dksX0_account_1 11 rfl rfl)
theorem dX0_account_36 : decode cX0_account 36 = .ok (.istore_n 3, 1) := dk_62 (dk_at dksX0_account_1 12 rfl rfl)
theorem dX0_account_37 : decode cX0_account 37 = .ok (.iload_n 3, 1) := dk_29 (dk_at dksX0_account_1 13 rfl rfl)
theorem dX0_account_38 : decode cX0_account 38 = .ok (.aload_n 0, 1) := dk_42 (dk_at dksX0_account_1 14 rfl rfl)
theorem dX0_account_39 : decode cX0_account 39 = .ok (.getfield 193, 3) := dk_180 0 193 (dk_at dksX0_account_1 15 rfl rfl)
theorem dX0_account_42 : decode cX0_account 42 = .ok (.if_icmp .ge 70, 3) := dk_162 0 70 (dk_at dksX0_account_1 18 rfl rfl)
theorem dX0_account_45 : decode cX0_account 45 = .ok (.aload_n 2, 1) := dk_44 (dk_at dksX0_account_1 21 rfl rfl)
theorem dX0_account_46 : decode cX0_account 46 = .ok (.iconst 3, 1) := dk_6 (dk_at dksX0_account_1 22 rfl rfl)
theorem dX0_account_47 : decode cX0_account 47 = .ok (.dup2, 1) := dk_92 (dk_at dksX0_account_1 23 rfl rfl)
theorem dX0_account_48 : decode cX0_account 48 = .ok (.iaload, 1) := dk_46 (dk_at dksX0_account_2 0 rfl rfl)
theorem dX0_account_49 : decode cX0_account 49 = .ok (.aload_n 0, 1) := dk_42 (dk_at dksX0_account_2 1 rfl rfl)
theorem dX0_account_50 : decode cX0_account 50 = .ok (.getfield 48, 3) := dk_180 0 48 (dk_at dksX0_account_2 2 rfl rfl)
theorem dX0_account_53 : decode cX0_account 53 = .ok (.iload_n 3, 1) := dk_29 (dk_at dksX0_account_2 5 rfl rfl)
theorem dX0_account_54 : decode cX0_account 54 = .ok (.aaload, 1) := dk_50 (dk_at dksX0_account_2 6 rfl rfl)
theorem dX0_account_55 : decode cX0_account 55 = .ok (.getfield 224, 3) := dk_180 0 224 (dk_at dksX0_account_2 7 rfl rfl)
theorem dX0_account_58 : decode cX0_account 58 = .ok (.iadd, 1) := dk_96 (dk_at dksX0_account_2 10 rfl rfl)
theorem dX0_account_59 : decode cX0_account 59 = .ok (.iastore, 1) := dk_79 (dk_at dksX0_account_2 11 rfl rfl)
theorem dX0_account_60 : decode cX0_account 60 = .ok (.aload_n 2, 1) := dk_44 (dk_at dksX0_account_2 12 rfl rfl)
theorem dX0_account_61 : decode cX0_account 61 = .ok (.iconst 4, 1) := dk_7 (dk_at dksX0_account_2 13 rfl rfl)
theorem dX0_account_62 : decode cX0_account 62 = .ok (.dup2, 1) := dk_92 (dk_at dksX0_account_2 14 rfl rfl)
theorem dX0_account_63 : decode cX0_account 63 = .ok (.iaload, 1) := dk_46 (dk_at dksX0_account_2 15 rfl rfl)
theorem dX0_account_64 : decode cX0_account 64 = .ok (.aload_n 0, 1) := dk_42 (dk_at dksX0_account_2 16 rfl rfl)
theorem dX0_account_65 : decode cX0_account 65 = .ok (.getfield 48, 3) := dk_180 0 48 (dk_at dksX0_account_2 17 rfl rfl)
theorem dX0_account_68 : decode cX0_account 68 = .ok (.iload_n 3, 1) := dk_29 (dk_at dksX0_account_2 20 rfl rfl)
theorem dX0_account_69 : decode cX0_account 69 = .ok (.aaload, 1) := dk_50 (dk_at dksX0_account_2 21 rfl rfl)
theorem dX0_account_70 : decode cX0_account 70 = .ok (.getfield 225, 3) := dk_180 0 225 (dk_at dksX0_account_3 0 rfl rfl)
theorem dX0_account_73 : decode cX0_account 73 = .ok (.iadd, 1) := dk_96 (dk_at dksX0_account_3 3 rfl rfl)
theorem dX0_account_74 : decode cX0_account 74 = .ok (.iastore, 1) := dk_79 (dk_at dksX0_account_3 4 rfl rfl)
theorem dX0_account_75 : decode cX0_account 75 = .ok (.aload_n 2, 1) := dk_44 (dk_at dksX0_account_3 5 rfl rfl)
theorem dX0_account_76 : decode cX0_account 76 = .ok (.iconst 5, 1) := dk_8 (dk_at dksX0_account_3 6 rfl rfl)
theorem dX0_account_77 : decode cX0_account 77 = .ok (.dup2, 1) := dk_92 (dk_at dksX0_account_3 7 rfl rfl)
theorem dX0_account_78 : decode cX0_account 78 = .ok (.iaload, 1) := dk_46 (dk_at dksX0_account_3 8 rfl rfl)
theorem dX0_account_79 : decode cX0_account 79 = .ok (.aload_n 0, 1) := dk_42 (dk_at dksX0_account_3 9 rfl rfl)
theorem dX0_account_80 : decode cX0_account 80 = .ok (.getfield 48, 3) := dk_180 0 48 (dk_at dksX0_account_3 10 rfl rfl)
theorem dX0_account_83 : decode cX0_account 83 = .ok (.iload_n 3, 1) := dk_29 (dk_at dksX0_account_3 13 rfl rfl)
theorem dX0_account_84 : decode cX0_account 84 = .ok (.aaload, 1) := dk_50 (dk_at dksX0_account_3 14 rfl rfl)
theorem dX0_account_85 : decode cX0_account 85 = .ok (.getfield 202, 3) := dk_180 0 202 (dk_at dksX0_account_3 15 rfl rfl)
theorem dX0_account_88 : decode cX0_account 88 = .ok (.iadd, 1) := dk_96 (dk_at dksX0_account_3 18 rfl rfl)
theorem dX0_account_89 : decode cX0_account 89 = .ok (.iastore, 1) := dk_79 (dk_at dksX0_account_3 19 rfl rfl)
theorem dX0_account_90 : decode cX0_account 90 = .ok (.aload_n 2, 1) := dk_44 (dk_at dksX0_account_3 20 rfl rfl)
theorem dX0_account_91 : decode cX0_account 91 = .ok (.bipush 6, 2) := dk_16 6 (dk_at dksX0_account_3 21 rfl rfl)
theorem dX0_account_93 : decode cX0_account 93 = .ok (.dup2, 1) := dk_92 (dk_at dksX0_account_3 23 rfl rfl)
theorem dX0_account_94 : decode cX0_account 94 = .ok (.iaload, 1) := dk_46 (dk_at dksX0_account_4 0 rfl rfl)
theorem dX0_account_95 : decode cX0_account 95 = .ok (.aload_n 0, 1) := dk_42 (dk_at dksX0_account_4 1 rfl rfl)
theorem dX0_account_96 : decode cX0_account 96 = .ok (.getfield 48, 3) := dk_180 0 48 (dk_at dksX0_account_4 2 rfl rfl)
theorem dX0_account_99 : decode cX0_account 99 = .ok (.iload_n 3, 1) := dk_29 (dk_at dksX0_account_4 5 rfl rfl)
theorem dX0_account_100 : decode cX0_account 100 = .ok (.aaload, 1) := dk_50 (dk_at dksX0_account_4 6 rfl rfl)
theorem dX0_account_101 : decode cX0_account 101 = .ok (.getfield 237, 3) := dk_180 0 237 (dk_at dksX0_account_4 7 rfl rfl)
theorem dX0_account_104 : decode cX0_account 104 = .ok (.iadd, 1) := dk_96 (dk_at dksX0_account_4 10 rfl rfl)
theorem dX0_account_105 : decode cX0_account 105 = .ok (.iastore, 1) := dk_79 (dk_at dksX0_account_4 11 rfl rfl)
theorem dX0_account_106 : decode cX0_account 106 = .ok (.iinc 3 1, 3) := dk_132 3 1 (dk_at dksX0_account_4 12 rfl rfl)
theorem dX0_account_109 : decode cX0_account 109 = .ok (.goto (-72), 3) := dk_167 255 184 (dk_at dksX0_account_4 15 rfl rfl)
theorem dX0_account_112 : decode cX0_account 112 = .ok (.aload_n 2, 1) := dk_44 (dk_at dksX0_account_4 18 rfl rfl)
theorem dX0_account_113 : decode cX0_account 113 = .ok (.iload_n 1, 1) := dk_27 (dk_at dksX0_account_4 19 rfl rfl)
theorem dX0_account_114 : decode cX0_account 114 = .ok (.iaload, 1) := dk_46 (dk_at dksX0_account_4 20 rfl rfl)
theorem dX0_account_115 : decode cX0_account 115 = .ok (.ireturn, 1) := dk_172 (dk_at dksX0_account_4 21 rfl rfl)
theorem dX0_account_116 : decode cX0_account 116 = .ok (.astore_n 3, 1) := dk_78 (dk_at dksX0_account_4 22 rfl rfl)
theorem dX0_account_117 : decode cX0_account 117 = .ok (.bipush (-2), 2) := dk_16 254 (dk_at dksX0_account_5 0 rfl rfl)
theorem dX0_account_119 : decode cX0_account 119 = .ok (.ireturn, 1) := dk_172 (dk_at dksX0_account_5 2 rfl rfl)
abbrev cX0_stock : ByteArray := prog_1_method_27_code
def yX0_stock : MethodName := ⟨RX0, "stock", "(I)I"⟩
def dkwX0_stock_2 : List UInt8 := [181, 0, 254, 42, 180, 0, 254, 172]
abbrev dktX0_stock_2 : List UInt8 := dkwX0_stock_2 ++ []
def dkwX0_stock_1 : List UInt8 := [160, 0, 6, 16, 252, 172, 42, 180, 0, 55, 42, 180, 0, 254, 27, 79, 42, 89, 180, 0, 254, 4, 96]
abbrev dktX0_stock_1 : List UInt8 := dkwX0_stock_1 ++ dktX0_stock_2
def dkwX0_stock_0 : List UInt8 := [27, 17, 0, 200, 17, 4, 176, 184, 0, 87, 154, 0, 6, 16, 254, 172, 42, 180, 0, 254, 16, 6]
abbrev dktX0_stock_0 : List UInt8 := dkwX0_stock_0 ++ dktX0_stock_1
theorem dksX0_stock_0 : cX0_stock.data.toList.drop 0 = dktX0_stock_0 := by decide +kernel
theorem dksX0_stock_1 : cX0_stock.data.toList.drop 22 = dktX0_stock_1 := dk_seg dksX0_stock_0 22 rfl rfl
theorem dksX0_stock_2 : cX0_stock.data.toList.drop 45 = dktX0_stock_2 := dk_seg dksX0_stock_1 23 rfl rfl
theorem dX0_stock_0 : decode cX0_stock 0 = .ok (.iload_n 1, 1) := dk_27 (dk_at dksX0_stock_0 0 rfl rfl)
theorem dX0_stock_1 : decode cX0_stock 1 = .ok (.sipush 200, 3) := dk_17 0 200 (dk_at dksX0_stock_0 1 rfl rfl)
theorem dX0_stock_4 : decode cX0_stock 4 = .ok (.sipush 1200, 3) := dk_17 4 176 (dk_at dksX0_stock_0 4 rfl rfl)
theorem dX0_stock_7 : decode cX0_stock 7 = .ok (.invokestatic 87, 3) := dk_184 0 87 (dk_at dksX0_stock_0 7 rfl rfl)
theorem dX0_stock_10 : decode cX0_stock 10 = .ok (.ifCond .ne 6, 3) := dk_154 0 6 (dk_at dksX0_stock_0 10 rfl rfl)
theorem dX0_stock_13 : decode cX0_stock 13 = .ok (.bipush (-2), 2) := dk_16 254 (dk_at dksX0_stock_0 13 rfl rfl)
theorem dX0_stock_15 : decode cX0_stock 15 = .ok (.ireturn, 1) := dk_172 (dk_at dksX0_stock_0 15 rfl rfl)
theorem dX0_stock_16 : decode cX0_stock 16 = .ok (.aload_n 0, 1) := dk_42 (dk_at dksX0_stock_0 16 rfl rfl)
theorem dX0_stock_17 : decode cX0_stock 17 = .ok (.getfield 254, 3) := dk_180 0 254 (dk_at dksX0_stock_0 17 rfl rfl)
theorem dX0_stock_20 : decode cX0_stock 20 = .ok (.bipush 6, 2) := dk_16 6 (dk_at dksX0_stock_0 20 rfl rfl)
theorem dX0_stock_22 : decode cX0_stock 22 = .ok (.if_icmp .ne 6, 3) := dk_160 0 6 (dk_at dksX0_stock_1 0 rfl rfl)
theorem dX0_stock_25 : decode cX0_stock 25 = .ok (.bipush (-4), 2) := dk_16 252 (dk_at dksX0_stock_1 3 rfl rfl)
theorem dX0_stock_27 : decode cX0_stock 27 = .ok (.ireturn, 1) := dk_172 (dk_at dksX0_stock_1 5 rfl rfl)
theorem dX0_stock_28 : decode cX0_stock 28 = .ok (.aload_n 0, 1) := dk_42 (dk_at dksX0_stock_1 6 rfl rfl)
theorem dX0_stock_29 : decode cX0_stock 29 = .ok (.getfield 55, 3) := dk_180 0 55 (dk_at dksX0_stock_1 7 rfl rfl)
theorem dX0_stock_32 : decode cX0_stock 32 = .ok (.aload_n 0, 1) := dk_42 (dk_at dksX0_stock_1 10 rfl rfl)
theorem dX0_stock_33 : decode cX0_stock 33 = .ok (.getfield 254, 3) := dk_180 0 254 (dk_at dksX0_stock_1 11 rfl rfl)
theorem dX0_stock_36 : decode cX0_stock 36 = .ok (.iload_n 1, 1) := dk_27 (dk_at dksX0_stock_1 14 rfl rfl)
theorem dX0_stock_37 : decode cX0_stock 37 = .ok (.iastore, 1) := dk_79 (dk_at dksX0_stock_1 15 rfl rfl)
theorem dX0_stock_38 : decode cX0_stock 38 = .ok (.aload_n 0, 1) := dk_42 (dk_at dksX0_stock_1 16 rfl rfl)
theorem dX0_stock_39 : decode cX0_stock 39 = .ok (.dup, 1) := dk_89 (dk_at dksX0_stock_1 17 rfl rfl)
theorem dX0_stock_40 : decode cX0_stock 40 = .ok (.getfield 254, 3) := dk_180 0 254 (dk_at dksX0_stock_1 18 rfl rfl)
theorem dX0_stock_43 : decode cX0_stock 43 = .ok (.iconst 1, 1) := dk_4 (dk_at dksX0_stock_1 21 rfl rfl)
theorem dX0_stock_44 : decode cX0_stock 44 = .ok (.iadd, 1) := dk_96 (dk_at dksX0_stock_1 22 rfl rfl)
theorem dX0_stock_45 : decode cX0_stock 45 = .ok (.putfield 254, 3) := dk_181 0 254 (dk_at dksX0_stock_2 0 rfl rfl)
theorem dX0_stock_48 : decode cX0_stock 48 = .ok (.aload_n 0, 1) := dk_42 (dk_at dksX0_stock_2 3 rfl rfl)
theorem dX0_stock_49 : decode cX0_stock 49 = .ok (.getfield 254, 3) := dk_180 0 254 (dk_at dksX0_stock_2 4 rfl rfl)
theorem dX0_stock_52 : decode cX0_stock 52 = .ok (.ireturn, 1) := dk_172 (dk_at dksX0_stock_2 7 rfl rfl)
abbrev cX0_best : ByteArray := prog_1_method_28_code
def yX0_best : MethodName := ⟨RX0, "best", "(IZ)I"⟩
def dkwX0_best_6 : List UInt8 := [42, 180, 0, 182, 54, 5, 132, 6, 1, 167, 255, 135, 21, 4, 172]
abbrev dktX0_best_6 : List UInt8 := dkwX0_best_6 ++ []
def dkwX0_best_5 : List UInt8 := [158, 0, 30, 42, 180, 0, 55, 21, 6, 46, 21, 4, 162, 0, 18, 42, 180, 0, 55, 21, 6, 46, 54, 4]
abbrev dktX0_best_5 : List UInt8 := dkwX0_best_5 ++ dktX0_best_6
def dkwX0_best_4 : List UInt8 := [105, 101, 55, 7, 22, 7, 9, 148, 157, 0, 29, 22, 7, 9, 148, 154, 0, 37, 42, 180, 0, 182]
abbrev dktX0_best_4 : List UInt8 := dkwX0_best_4 ++ dktX0_best_5
def dkwX0_best_3 : List UInt8 := [133, 167, 0, 25, 42, 180, 0, 182, 133, 21, 4, 133, 105, 21, 5, 133, 42, 180, 0, 55, 21, 6, 46, 133]
abbrev dktX0_best_3 : List UInt8 := dkwX0_best_3 ++ dktX0_best_4
def dkwX0_best_2 : List UInt8 := [21, 6, 46, 182, 0, 199, 28, 3, 182, 0, 213, 182, 0, 220, 21, 4, 2, 160, 0, 11, 42, 180, 0, 182]
abbrev dktX0_best_2 : List UInt8 := dkwX0_best_2 ++ dktX0_best_3
def dkwX0_best_1 : List UInt8 := [3, 54, 5, 3, 54, 6, 21, 6, 42, 180, 0, 254, 162, 0, 118, 42, 45, 42, 42, 45, 42, 180, 0, 55]
abbrev dktX0_best_1 : List UInt8 := dkwX0_best_1 ++ dktX0_best_2
def dkwX0_best_0 : List UInt8 := [42, 27, 182, 0, 104, 154, 0, 6, 16, 254, 172, 42, 180, 0, 17, 27, 50, 180, 0, 120, 78, 2, 54, 4]
abbrev dktX0_best_0 : List UInt8 := dkwX0_best_0 ++ dktX0_best_1
theorem dksX0_best_0 : cX0_best.data.toList.drop 0 = dktX0_best_0 := by decide +kernel
theorem dksX0_best_1 : cX0_best.data.toList.drop 24 = dktX0_best_1 := dk_seg dksX0_best_0 24 rfl rfl
theorem dksX0_best_2 : cX0_best.data.toList.drop 48 = dktX0_best_2 := dk_seg dksX0_best_1 24 rfl rfl
theorem dksX0_best_3 : cX0_best.data.toList.drop 72 = dktX0_best_3 := dk_seg dksX0_best_2 24 rfl rfl
theorem dksX0_best_4 : cX0_best.data.toList.drop 96 = dktX0_best_4 := dk_seg dksX0_best_3 24 rfl rfl
theorem dksX0_best_5 : cX0_best.data.toList.drop 118 = dktX0_best_5 := dk_seg dksX0_best_4 22 rfl rfl
theorem dksX0_best_6 : cX0_best.data.toList.drop 142 = dktX0_best_6 := dk_seg dksX0_best_5 24 rfl rfl
theorem dX0_best_0 : decode cX0_best 0 = .ok (.aload_n 0, 1) := dk_42 (dk_at dksX0_best_0 0 rfl rfl)
theorem dX0_best_1 : decode cX0_best 1 = .ok (.iload_n 1, 1) := dk_27 (dk_at dksX0_best_0 1 rfl rfl)
theorem dX0_best_2 : decode cX0_best 2 = .ok (.invokevirtual 104, 3) := dk_182 0 104 (dk_at dksX0_best_0 2 rfl rfl)
theorem dX0_best_5 : decode cX0_best 5 = .ok (.ifCond .ne 6, 3) := dk_154 0 6 (dk_at dksX0_best_0 5 rfl rfl)
theorem dX0_best_8 : decode cX0_best 8 = .ok (.bipush (-2), 2) := dk_16 254 (dk_at dksX0_best_0 8 rfl rfl)
theorem dX0_best_10 : decode cX0_best 10 = .ok (.ireturn, 1) := dk_172 (dk_at dksX0_best_0 10 rfl rfl)
theorem dX0_best_11 : decode cX0_best 11 = .ok (.aload_n 0, 1) := dk_42 (dk_at dksX0_best_0 11 rfl rfl)
theorem dX0_best_12 : decode cX0_best 12 = .ok (.getfield 17, 3) := dk_180 0 17 (dk_at dksX0_best_0 12 rfl rfl)
theorem dX0_best_15 : decode cX0_best 15 = .ok (.iload_n 1, 1) := dk_27 (dk_at dksX0_best_0 15 rfl rfl)
theorem dX0_best_16 : decode cX0_best 16 = .ok (.aaload, 1) := dk_50 (dk_at dksX0_best_0 16 rfl rfl)
theorem dX0_best_17 : decode cX0_best 17 = .ok (.getfield 120, 3) := dk_180 0 120 (dk_at dksX0_best_0 17 rfl rfl)
theorem dX0_best_20 : decode cX0_best 20 = .ok (.astore_n 3, 1) := dk_78 (dk_at dksX0_best_0 20 rfl rfl)
theorem dX0_best_21 : decode cX0_best 21 = .ok (.iconst (-1), 1) := dk_2 (dk_at dksX0_best_0 21 rfl rfl)
theorem dX0_best_22 : decode cX0_best 22 = .ok (.istore 4, 2) := dk_54 4 (dk_at dksX0_best_0 22 rfl rfl)
theorem dX0_best_24 : decode cX0_best 24 = .ok (.iconst 0, 1) := dk_3 (dk_at dksX0_best_1 0 rfl rfl)
theorem dX0_best_25 : decode cX0_best 25 = .ok (.istore 5, 2) := dk_54 5 (dk_at dksX0_best_1 1 rfl rfl)
theorem dX0_best_27 : decode cX0_best 27 = .ok (.iconst 0, 1) := dk_3 (dk_at dksX0_best_1 3 rfl rfl)
theorem dX0_best_28 : decode cX0_best 28 = .ok (.istore 6, 2) := dk_54 6 (dk_at dksX0_best_1 4 rfl rfl)
theorem dX0_best_30 : decode cX0_best 30 = .ok (.iload 6, 2) := dk_21 6 (dk_at dksX0_best_1 6 rfl rfl)
theorem dX0_best_32 : decode cX0_best 32 = .ok (.aload_n 0, 1) := dk_42 (dk_at dksX0_best_1 8 rfl rfl)
theorem dX0_best_33 : decode cX0_best 33 = .ok (.getfield 254, 3) := dk_180 0 254 (dk_at dksX0_best_1 9 rfl rfl)
theorem dX0_best_36 : decode cX0_best 36 = .ok (.if_icmp .ge 118, 3) := dk_162 0 118 (dk_at dksX0_best_1 12 rfl rfl)
theorem dX0_best_39 : decode cX0_best 39 = .ok (.aload_n 0, 1) := dk_42 (dk_at dksX0_best_1 15 rfl rfl)
theorem dX0_best_40 : decode cX0_best 40 = .ok (.aload_n 3, 1) := dk_45 (dk_at dksX0_best_1 16 rfl rfl)
theorem dX0_best_41 : decode cX0_best 41 = .ok (.aload_n 0, 1) := dk_42 (dk_at dksX0_best_1 17 rfl rfl)
theorem dX0_best_42 : decode cX0_best 42 = .ok (.aload_n 0, 1) := dk_42 (dk_at dksX0_best_1 18 rfl rfl)
theorem dX0_best_43 : decode cX0_best 43 = .ok (.aload_n 3, 1) := dk_45 (dk_at dksX0_best_1 19 rfl rfl)
theorem dX0_best_44 : decode cX0_best 44 = .ok (.aload_n 0, 1) := dk_42 (dk_at dksX0_best_1 20 rfl rfl)
theorem dX0_best_45 : decode cX0_best 45 = .ok (.getfield 55, 3) := dk_180 0 55 (dk_at dksX0_best_1 21 rfl rfl)
theorem dX0_best_48 : decode cX0_best 48 = .ok (.iload 6, 2) := dk_21 6 (dk_at dksX0_best_2 0 rfl rfl)
theorem dX0_best_50 : decode cX0_best 50 = .ok (.iaload, 1) := dk_46 (dk_at dksX0_best_2 2 rfl rfl)
theorem dX0_best_51 : decode cX0_best 51 = .ok (.invokevirtual 199, 3) := dk_182 0 199 (dk_at dksX0_best_2 3 rfl rfl)
theorem dX0_best_54 : decode cX0_best 54 = .ok (.iload_n 2, 1) := dk_28 (dk_at dksX0_best_2 6 rfl rfl)
theorem dX0_best_55 : decode cX0_best 55 = .ok (.iconst 0, 1) := dk_3 (dk_at dksX0_best_2 7 rfl rfl)
theorem dX0_best_56 : decode cX0_best 56 = .ok (.invokevirtual 213, 3) := dk_182 0 213 (dk_at dksX0_best_2 8 rfl rfl)
theorem dX0_best_59 : decode cX0_best 59 = .ok (.invokevirtual 220, 3) := dk_182 0 220 (dk_at dksX0_best_2 11 rfl rfl)
theorem dX0_best_62 : decode cX0_best 62 = .ok (.iload 4, 2) := dk_21 4 (dk_at dksX0_best_2 14 rfl rfl)
theorem dX0_best_64 : decode cX0_best 64 = .ok (.iconst (-1), 1) := dk_2 (dk_at dksX0_best_2 16 rfl rfl)
theorem dX0_best_65 : decode cX0_best 65 = .ok (.if_icmp .ne 11, 3) := dk_160 0 11 (dk_at dksX0_best_2 17 rfl rfl)
theorem dX0_best_68 : decode cX0_best 68 = .ok (.aload_n 0, 1) := dk_42 (dk_at dksX0_best_2 20 rfl rfl)
theorem dX0_best_69 : decode cX0_best 69 = .ok (.getfield 182, 3) := dk_180 0 182 (dk_at dksX0_best_2 21 rfl rfl)
theorem dX0_best_72 : decode cX0_best 72 = .ok (.i2l, 1) := dk_133 (dk_at dksX0_best_3 0 rfl rfl)
theorem dX0_best_73 : decode cX0_best 73 = .ok (.goto 25, 3) := dk_167 0 25 (dk_at dksX0_best_3 1 rfl rfl)
theorem dX0_best_76 : decode cX0_best 76 = .ok (.aload_n 0, 1) := dk_42 (dk_at dksX0_best_3 4 rfl rfl)
theorem dX0_best_77 : decode cX0_best 77 = .ok (.getfield 182, 3) := dk_180 0 182 (dk_at dksX0_best_3 5 rfl rfl)
theorem dX0_best_80 : decode cX0_best 80 = .ok (.i2l, 1) := dk_133 (dk_at dksX0_best_3 8 rfl rfl)
theorem dX0_best_81 : decode cX0_best 81 = .ok (.iload 4, 2) := dk_21 4 (dk_at dksX0_best_3 9 rfl rfl)
theorem dX0_best_83 : decode cX0_best 83 = .ok (.i2l, 1) := dk_133 (dk_at dksX0_best_3 11 rfl rfl)
theorem dX0_best_84 : decode cX0_best 84 = .ok (.lmul, 1) := dk_105 (dk_at dksX0_best_3 12 rfl rfl)
theorem dX0_best_85 : decode cX0_best 85 = .ok (.iload 5, 2) := dk_21 5 (dk_at dksX0_best_3 13 rfl rfl)
theorem dX0_best_87 : decode cX0_best 87 = .ok (.i2l, 1) := dk_133 (dk_at dksX0_best_3 15 rfl rfl)
theorem dX0_best_88 : decode cX0_best 88 = .ok (.aload_n 0, 1) := dk_42 (dk_at dksX0_best_3 16 rfl rfl)
theorem dX0_best_89 : decode cX0_best 89 = .ok (.getfield 55, 3) := dk_180 0 55 (dk_at dksX0_best_3 17 rfl rfl)
theorem dX0_best_92 : decode cX0_best 92 = .ok (.iload 6, 2) := dk_21 6 (dk_at dksX0_best_3 20 rfl rfl)
theorem dX0_best_94 : decode cX0_best 94 = .ok (.iaload, 1) := dk_46 (dk_at dksX0_best_3 22 rfl rfl)
theorem dX0_best_95 : decode cX0_best 95 = .ok (.i2l, 1) := dk_133 (dk_at dksX0_best_3 23 rfl rfl)
theorem dX0_best_96 : decode cX0_best 96 = .ok (.lmul, 1) := dk_105 (dk_at dksX0_best_4 0 rfl rfl)
theorem dX0_best_97 : decode cX0_best 97 = .ok (.lsub, 1) := dk_101 (dk_at dksX0_best_4 1 rfl rfl)
theorem dX0_best_98 : decode cX0_best 98 = .ok (.lstore 7, 2) := dk_55 7 (dk_at dksX0_best_4 2 rfl rfl)
theorem dX0_best_100 : decode cX0_best 100 = .ok (.lload 7, 2) := dk_22 7 (dk_at dksX0_best_4 4 rfl rfl)
theorem dX0_best_102 : decode cX0_best 102 = .ok (.lconst 0, 1) := dk_9 (dk_at dksX0_best_4 6 rfl rfl)
theorem dX0_best_103 : decode cX0_best 103 = .ok (.lcmp, 1) := dk_148 (dk_at dksX0_best_4 7 rfl rfl)
theorem dX0_best_104 : decode cX0_best 104 = .ok (.ifCond .gt 29, 3) := dk_157 0 29 (dk_at dksX0_best_4 8 rfl rfl)
theorem dX0_best_107 : decode cX0_best 107 = .ok (.lload 7, 2) := dk_22 7 (dk_at dksX0_best_4 11 rfl rfl)
theorem dX0_best_109 : decode cX0_best 109 = .ok (.lconst 0, 1) := dk_9 (dk_at dksX0_best_4 13 rfl rfl)
theorem dX0_best_110 : decode cX0_best 110 = .ok (.lcmp, 1) := dk_148 (dk_at dksX0_best_4 14 rfl rfl)
theorem dX0_best_111 : decode cX0_best 111 = .ok (.ifCond .ne 37, 3) := dk_154 0 37 (dk_at dksX0_best_4 15 rfl rfl)
theorem dX0_best_114 : decode cX0_best 114 = .ok (.aload_n 0, 1) := dk_42 (dk_at dksX0_best_4 18 rfl rfl)
theorem dX0_best_115 : decode cX0_best 115 = .ok (.getfield 182, 3) := dk_180 0 182 (dk_at dksX0_best_4 19 rfl rfl)
theorem dX0_best_118 : decode cX0_best 118 = .ok (.ifCond .le 30, 3) := dk_158 0 30 (dk_at dksX0_best_5 0 rfl rfl)
theorem dX0_best_121 : decode cX0_best 121 = .ok (.aload_n 0, 1) := dk_42 (dk_at dksX0_best_5 3 rfl rfl)
theorem dX0_best_122 : decode cX0_best 122 = .ok (.getfield 55, 3) := dk_180 0 55 (dk_at dksX0_best_5 4 rfl rfl)
theorem dX0_best_125 : decode cX0_best 125 = .ok (.iload 6, 2) := dk_21 6 (dk_at dksX0_best_5 7 rfl rfl)
theorem dX0_best_127 : decode cX0_best 127 = .ok (.iaload, 1) := dk_46 (dk_at dksX0_best_5 9 rfl rfl)
theorem dX0_best_128 : decode cX0_best 128 = .ok (.iload 4, 2) := dk_21 4 (dk_at dksX0_best_5 10 rfl rfl)
theorem dX0_best_130 : decode cX0_best 130 = .ok (.if_icmp .ge 18, 3) := dk_162 0 18 (dk_at dksX0_best_5 12 rfl rfl)
theorem dX0_best_133 : decode cX0_best 133 = .ok (.aload_n 0, 1) := dk_42 (dk_at dksX0_best_5 15 rfl rfl)
theorem dX0_best_134 : decode cX0_best 134 = .ok (.getfield 55, 3) := dk_180 0 55 (dk_at dksX0_best_5 16 rfl rfl)
theorem dX0_best_137 : decode cX0_best 137 = .ok (.iload 6, 2) := dk_21 6 (dk_at dksX0_best_5 19 rfl rfl)
theorem dX0_best_139 : decode cX0_best 139 = .ok (.iaload, 1) := dk_46 (dk_at dksX0_best_5 21 rfl rfl)
theorem dX0_best_140 : decode cX0_best 140 = .ok (.istore 4, 2) := dk_54 4 (dk_at dksX0_best_5 22 rfl rfl)
theorem dX0_best_142 : decode cX0_best 142 = .ok (.aload_n 0, 1) := dk_42 (dk_at dksX0_best_6 0 rfl rfl)
theorem dX0_best_143 : decode cX0_best 143 = .ok (.getfield 182, 3) := dk_180 0 182 (dk_at dksX0_best_6 1 rfl rfl)
theorem dX0_best_146 : decode cX0_best 146 = .ok (.istore 5, 2) := dk_54 5 (dk_at dksX0_best_6 4 rfl rfl)
theorem dX0_best_148 : decode cX0_best 148 = .ok (.iinc 6 1, 3) := dk_132 6 1 (dk_at dksX0_best_6 6 rfl rfl)
theorem dX0_best_151 : decode cX0_best 151 = .ok (.goto (-121), 3) := dk_167 255 135 (dk_at dksX0_best_6 9 rfl rfl)
theorem dX0_best_154 : decode cX0_best 154 = .ok (.iload 4, 2) := dk_21 4 (dk_at dksX0_best_6 12 rfl rfl)
theorem dX0_best_156 : decode cX0_best 156 = .ok (.ireturn, 1) := dk_172 (dk_at dksX0_best_6 14 rfl rfl)
abbrev cX0_job : ByteArray := prog_1_method_29_code
def yX0_job : MethodName := ⟨RX0, "job", "(III)I"⟩
def dkwX0_job_4 : List UInt8 := [180, 1, 1, 4, 100, 172]
abbrev dktX0_job_4 : List UInt8 := dkwX0_job_4 ++ []
def dkwX0_job_3 : List UInt8 := [180, 0, 60, 42, 180, 1, 1, 50, 5, 29, 79, 42, 89, 180, 1, 1, 4, 96, 181, 1, 1, 42]
abbrev dktX0_job_3 : List UInt8 := dkwX0_job_3 ++ dktX0_job_4
def dkwX0_job_2 : List UInt8 := [180, 0, 60, 42, 180, 1, 1, 50, 3, 27, 79, 42, 180, 0, 60, 42, 180, 1, 1, 50, 4, 28, 79, 42]
abbrev dktX0_job_2 : List UInt8 := dkwX0_job_2 ++ dktX0_job_3
def dkwX0_job_1 : List UInt8 := [184, 0, 87, 154, 0, 6, 16, 254, 172, 42, 180, 1, 1, 16, 7, 160, 0, 6, 16, 252, 172, 42]
abbrev dktX0_job_1 : List UInt8 := dkwX0_job_1 ++ dktX0_job_2
def dkwX0_job_0 : List UInt8 := [42, 27, 182, 0, 97, 153, 0, 24, 28, 4, 16, 50, 184, 0, 87, 153, 0, 14, 29, 3, 17, 3, 232]
abbrev dktX0_job_0 : List UInt8 := dkwX0_job_0 ++ dktX0_job_1
theorem dksX0_job_0 : cX0_job.data.toList.drop 0 = dktX0_job_0 := by decide +kernel
theorem dksX0_job_1 : cX0_job.data.toList.drop 23 = dktX0_job_1 := dk_seg dksX0_job_0 23 rfl rfl
theorem dksX0_job_2 : cX0_job.data.toList.drop 45 = dktX0_job_2 := dk_seg dksX0_job_1 22 rfl rfl
theorem dksX0_job_3 : cX0_job.data.toList.drop 69 = dktX0_job_3 := dk_seg dksX0_job_2 24 rfl rfl
theorem dksX0_job_4 : cX0_job.data.toList.drop 91 = dktX0_job_4 := dk_seg dksX0_job_3 22 rfl rfl
theorem dX0_job_0 : decode cX0_job 0 = .ok (.aload_n 0, 1) := dk_42 (dk_at dksX0_job_0 0 rfl rfl)
theorem dX0_job_1 : decode cX0_job 1 = .ok (.iload_n 1, 1) := dk_27 (dk_at dksX0_job_0 1 rfl rfl)
theorem dX0_job_2 : decode cX0_job 2 = .ok (.invokevirtual 97, 3) := dk_182 0 97 (dk_at dksX0_job_0 2 rfl rfl)
theorem dX0_job_5 : decode cX0_job 5 = .ok (.ifCond .eq 24, 3) := dk_153 0 24 (dk_at dksX0_job_0 5 rfl rfl)
theorem dX0_job_8 : decode cX0_job 8 = .ok (.iload_n 2, 1) := dk_28 (dk_at dksX0_job_0 8 rfl rfl)
theorem dX0_job_9 : decode cX0_job 9 = .ok (.iconst 1, 1) := dk_4 (dk_at dksX0_job_0 9 rfl rfl)
theorem dX0_job_10 : decode cX0_job 10 = .ok (.bipush 50, 2) := dk_16 50 (dk_at dksX0_job_0 10 rfl rfl)
theorem dX0_job_12 : decode cX0_job 12 = .ok (.invokestatic 87, 3) := dk_184 0 87 (dk_at dksX0_job_0 12 rfl rfl)
theorem dX0_job_15 : decode cX0_job 15 = .ok (.ifCond .eq 14, 3) := dk_153 0 14 (dk_at dksX0_job_0 15 rfl rfl)
theorem dX0_job_18 : decode cX0_job 18 = .ok (.iload_n 3, 1) := dk_29 (dk_at dksX0_job_0 18 rfl rfl)
theorem dX0_job_19 : decode cX0_job 19 = .ok (.iconst 0, 1) := dk_3 (dk_at dksX0_job_0 19 rfl rfl)
theorem dX0_job_20 : decode cX0_job 20 = .ok (.sipush 1000, 3) := dk_17 3 232 (dk_at dksX0_job_0 20 rfl rfl)
theorem dX0_job_23 : decode cX0_job 23 = .ok (.invokestatic 87, 3) := dk_184 0 87 (dk_at dksX0_job_1 0 rfl rfl)
theorem dX0_job_26 : decode cX0_job 26 = .ok (.ifCond .ne 6, 3) := dk_154 0 6 (dk_at dksX0_job_1 3 rfl rfl)
theorem dX0_job_29 : decode cX0_job 29 = .ok (.bipush (-2), 2) := dk_16 254 (dk_at dksX0_job_1 6 rfl rfl)
theorem dX0_job_31 : decode cX0_job 31 = .ok (.ireturn, 1) := dk_172 (dk_at dksX0_job_1 8 rfl rfl)
theorem dX0_job_32 : decode cX0_job 32 = .ok (.aload_n 0, 1) := dk_42 (dk_at dksX0_job_1 9 rfl rfl)
theorem dX0_job_33 : decode cX0_job 33 = .ok (.getfield 257, 3) := dk_180 1 1 (dk_at dksX0_job_1 10 rfl rfl)
theorem dX0_job_36 : decode cX0_job 36 = .ok (.bipush 7, 2) := dk_16 7 (dk_at dksX0_job_1 13 rfl rfl)
theorem dX0_job_38 : decode cX0_job 38 = .ok (.if_icmp .ne 6, 3) := dk_160 0 6 (dk_at dksX0_job_1 15 rfl rfl)
theorem dX0_job_41 : decode cX0_job 41 = .ok (.bipush (-4), 2) := dk_16 252 (dk_at dksX0_job_1 18 rfl rfl)
theorem dX0_job_43 : decode cX0_job 43 = .ok (.ireturn, 1) := dk_172 (dk_at dksX0_job_1 20 rfl rfl)
theorem dX0_job_44 : decode cX0_job 44 = .ok (.aload_n 0, 1) := dk_42 (dk_at dksX0_job_1 21 rfl rfl)
theorem dX0_job_45 : decode cX0_job 45 = .ok (.getfield 60, 3) := dk_180 0 60 (dk_at dksX0_job_2 0 rfl rfl)
theorem dX0_job_48 : decode cX0_job 48 = .ok (.aload_n 0, 1) := dk_42 (dk_at dksX0_job_2 3 rfl rfl)
theorem dX0_job_49 : decode cX0_job 49 = .ok (.getfield 257, 3) := dk_180 1 1 (dk_at dksX0_job_2 4 rfl rfl)
theorem dX0_job_52 : decode cX0_job 52 = .ok (.aaload, 1) := dk_50 (dk_at dksX0_job_2 7 rfl rfl)
theorem dX0_job_53 : decode cX0_job 53 = .ok (.iconst 0, 1) := dk_3 (dk_at dksX0_job_2 8 rfl rfl)
theorem dX0_job_54 : decode cX0_job 54 = .ok (.iload_n 1, 1) := dk_27 (dk_at dksX0_job_2 9 rfl rfl)
theorem dX0_job_55 : decode cX0_job 55 = .ok (.iastore, 1) := dk_79 (dk_at dksX0_job_2 10 rfl rfl)
theorem dX0_job_56 : decode cX0_job 56 = .ok (.aload_n 0, 1) := dk_42 (dk_at dksX0_job_2 11 rfl rfl)
theorem dX0_job_57 : decode cX0_job 57 = .ok (.getfield 60, 3) := dk_180 0 60 (dk_at dksX0_job_2 12 rfl rfl)
theorem dX0_job_60 : decode cX0_job 60 = .ok (.aload_n 0, 1) := dk_42 (dk_at dksX0_job_2 15 rfl rfl)
theorem dX0_job_61 : decode cX0_job 61 = .ok (.getfield 257, 3) := dk_180 1 1 (dk_at dksX0_job_2 16 rfl rfl)
theorem dX0_job_64 : decode cX0_job 64 = .ok (.aaload, 1) := dk_50 (dk_at dksX0_job_2 19 rfl rfl)
theorem dX0_job_65 : decode cX0_job 65 = .ok (.iconst 1, 1) := dk_4 (dk_at dksX0_job_2 20 rfl rfl)
theorem dX0_job_66 : decode cX0_job 66 = .ok (.iload_n 2, 1) := dk_28 (dk_at dksX0_job_2 21 rfl rfl)
theorem dX0_job_67 : decode cX0_job 67 = .ok (.iastore, 1) := dk_79 (dk_at dksX0_job_2 22 rfl rfl)
theorem dX0_job_68 : decode cX0_job 68 = .ok (.aload_n 0, 1) := dk_42 (dk_at dksX0_job_2 23 rfl rfl)
theorem dX0_job_69 : decode cX0_job 69 = .ok (.getfield 60, 3) := dk_180 0 60 (dk_at dksX0_job_3 0 rfl rfl)
theorem dX0_job_72 : decode cX0_job 72 = .ok (.aload_n 0, 1) := dk_42 (dk_at dksX0_job_3 3 rfl rfl)
theorem dX0_job_73 : decode cX0_job 73 = .ok (.getfield 257, 3) := dk_180 1 1 (dk_at dksX0_job_3 4 rfl rfl)
theorem dX0_job_76 : decode cX0_job 76 = .ok (.aaload, 1) := dk_50 (dk_at dksX0_job_3 7 rfl rfl)
theorem dX0_job_77 : decode cX0_job 77 = .ok (.iconst 2, 1) := dk_5 (dk_at dksX0_job_3 8 rfl rfl)
theorem dX0_job_78 : decode cX0_job 78 = .ok (.iload_n 3, 1) := dk_29 (dk_at dksX0_job_3 9 rfl rfl)
theorem dX0_job_79 : decode cX0_job 79 = .ok (.iastore, 1) := dk_79 (dk_at dksX0_job_3 10 rfl rfl)
theorem dX0_job_80 : decode cX0_job 80 = .ok (.aload_n 0, 1) := dk_42 (dk_at dksX0_job_3 11 rfl rfl)
theorem dX0_job_81 : decode cX0_job 81 = .ok (.dup, 1) := dk_89 (dk_at dksX0_job_3 12 rfl rfl)
theorem dX0_job_82 : decode cX0_job 82 = .ok (.getfield 257, 3) := dk_180 1 1 (dk_at dksX0_job_3 13 rfl rfl)
theorem dX0_job_85 : decode cX0_job 85 = .ok (.iconst 1, 1) := dk_4 (dk_at dksX0_job_3 16 rfl rfl)
theorem dX0_job_86 : decode cX0_job 86 = .ok (.iadd, 1) := dk_96 (dk_at dksX0_job_3 17 rfl rfl)
theorem dX0_job_87 : decode cX0_job 87 = .ok (.putfield 257, 3) := dk_181 1 1 (dk_at dksX0_job_3 18 rfl rfl)
theorem dX0_job_90 : decode cX0_job 90 = .ok (.aload_n 0, 1) := dk_42 (dk_at dksX0_job_3 21 rfl rfl)
theorem dX0_job_91 : decode cX0_job 91 = .ok (.getfield 257, 3) := dk_180 1 1 (dk_at dksX0_job_4 0 rfl rfl)
theorem dX0_job_94 : decode cX0_job 94 = .ok (.iconst 1, 1) := dk_4 (dk_at dksX0_job_4 3 rfl rfl)
theorem dX0_job_95 : decode cX0_job 95 = .ok (.isub, 1) := dk_100 (dk_at dksX0_job_4 4 rfl rfl)
theorem dX0_job_96 : decode cX0_job 96 = .ok (.ireturn, 1) := dk_172 (dk_at dksX0_job_4 5 rfl rfl)
abbrev cX0_change : ByteArray := prog_1_method_30_code
def yX0_change : MethodName := ⟨RX0, "change", "(I)I"⟩
def dkwX0_change_1 : List UInt8 := [172]
abbrev dktX0_change_1 : List UInt8 := dkwX0_change_1 ++ []
def dkwX0_change_0 : List UInt8 := [27, 3, 16, 20, 184, 0, 87, 154, 0, 6, 16, 254, 172, 42, 180, 0, 63, 61, 42, 27, 181, 0, 63, 28]
abbrev dktX0_change_0 : List UInt8 := dkwX0_change_0 ++ dktX0_change_1
theorem dksX0_change_0 : cX0_change.data.toList.drop 0 = dktX0_change_0 := by decide +kernel
theorem dksX0_change_1 : cX0_change.data.toList.drop 24 = dktX0_change_1 := dk_seg dksX0_change_0 24 rfl rfl
theorem dX0_change_0 : decode cX0_change 0 = .ok (.iload_n 1, 1) := dk_27 (dk_at dksX0_change_0 0 rfl rfl)
theorem dX0_change_1 : decode cX0_change 1 = .ok (.iconst 0, 1) := dk_3 (dk_at dksX0_change_0 1 rfl rfl)
theorem dX0_change_2 : decode cX0_change 2 = .ok (.bipush 20, 2) := dk_16 20 (dk_at dksX0_change_0 2 rfl rfl)
theorem dX0_change_4 : decode cX0_change 4 = .ok (.invokestatic 87, 3) := dk_184 0 87 (dk_at dksX0_change_0 4 rfl rfl)
theorem dX0_change_7 : decode cX0_change 7 = .ok (.ifCond .ne 6, 3) := dk_154 0 6 (dk_at dksX0_change_0 7 rfl rfl)
theorem dX0_change_10 : decode cX0_change 10 = .ok (.bipush (-2), 2) := dk_16 254 (dk_at dksX0_change_0 10 rfl rfl)
theorem dX0_change_12 : decode cX0_change 12 = .ok (.ireturn, 1) := dk_172 (dk_at dksX0_change_0 12 rfl rfl)
theorem dX0_change_13 : decode cX0_change 13 = .ok (.aload_n 0, 1) := dk_42 (dk_at dksX0_change_0 13 rfl rfl)
theorem dX0_change_14 : decode cX0_change 14 = .ok (.getfield 63, 3) := dk_180 0 63 (dk_at dksX0_change_0 14 rfl rfl)
theorem dX0_change_17 : decode cX0_change 17 = .ok (.istore_n 2, 1) := dk_61 (dk_at dksX0_change_0 17 rfl rfl)
theorem dX0_change_18 : decode cX0_change 18 = .ok (.aload_n 0, 1) := dk_42 (dk_at dksX0_change_0 18 rfl rfl)
theorem dX0_change_19 : decode cX0_change 19 = .ok (.iload_n 1, 1) := dk_27 (dk_at dksX0_change_0 19 rfl rfl)
theorem dX0_change_20 : decode cX0_change 20 = .ok (.putfield 63, 3) := dk_181 0 63 (dk_at dksX0_change_0 20 rfl rfl)
theorem dX0_change_23 : decode cX0_change 23 = .ok (.iload_n 2, 1) := dk_28 (dk_at dksX0_change_0 23 rfl rfl)
theorem dX0_change_24 : decode cX0_change 24 = .ok (.ireturn, 1) := dk_172 (dk_at dksX0_change_1 0 rfl rfl)
abbrev cX0_late : ByteArray := prog_1_method_34_code
def yX0_late : MethodName := ⟨RX0, "late", "()I"⟩
def dkwX0_late_0 : List UInt8 := [42, 182, 1, 23, 42, 180, 1, 7, 172]
abbrev dktX0_late_0 : List UInt8 := dkwX0_late_0 ++ []
theorem dksX0_late_0 : cX0_late.data.toList.drop 0 = dktX0_late_0 := by decide +kernel
theorem dX0_late_0 : decode cX0_late 0 = .ok (.aload_n 0, 1) := dk_42 (dk_at dksX0_late_0 0 rfl rfl)
theorem dX0_late_1 : decode cX0_late 1 = .ok (.invokevirtual 279, 3) := dk_182 1 23 (dk_at dksX0_late_0 1 rfl rfl)
theorem dX0_late_4 : decode cX0_late 4 = .ok (.aload_n 0, 1) := dk_42 (dk_at dksX0_late_0 4 rfl rfl)
theorem dX0_late_5 : decode cX0_late 5 = .ok (.getfield 263, 3) := dk_180 1 7 (dk_at dksX0_late_0 5 rfl rfl)
theorem dX0_late_8 : decode cX0_late 8 = .ok (.ireturn, 1) := dk_172 (dk_at dksX0_late_0 8 rfl rfl)
abbrev cX0_plans : ByteArray := prog_1_method_33_code
def yX0_plans : MethodName := ⟨RX0, "plans", "()V"⟩
def dkwX0_plans_0 : List UInt8 := [42, 19, 1, 22, 181, 1, 7, 42, 19, 1, 22, 181, 1, 10, 42, 3, 3, 3, 3, 182, 1, 17, 177]
abbrev dktX0_plans_0 : List UInt8 := dkwX0_plans_0 ++ []
theorem dksX0_plans_0 : cX0_plans.data.toList.drop 0 = dktX0_plans_0 := by decide +kernel
theorem dX0_plans_0 : decode cX0_plans 0 = .ok (.aload_n 0, 1) := dk_42 (dk_at dksX0_plans_0 0 rfl rfl)
theorem dX0_plans_1 : decode cX0_plans 1 = .ok (.ldc_w 278, 3) := dk_19 1 22 (dk_at dksX0_plans_0 1 rfl rfl)
theorem dX0_plans_4 : decode cX0_plans 4 = .ok (.putfield 263, 3) := dk_181 1 7 (dk_at dksX0_plans_0 4 rfl rfl)
theorem dX0_plans_7 : decode cX0_plans 7 = .ok (.aload_n 0, 1) := dk_42 (dk_at dksX0_plans_0 7 rfl rfl)
theorem dX0_plans_8 : decode cX0_plans 8 = .ok (.ldc_w 278, 3) := dk_19 1 22 (dk_at dksX0_plans_0 8 rfl rfl)
theorem dX0_plans_11 : decode cX0_plans 11 = .ok (.putfield 266, 3) := dk_181 1 10 (dk_at dksX0_plans_0 11 rfl rfl)
theorem dX0_plans_14 : decode cX0_plans 14 = .ok (.aload_n 0, 1) := dk_42 (dk_at dksX0_plans_0 14 rfl rfl)
theorem dX0_plans_15 : decode cX0_plans 15 = .ok (.iconst 0, 1) := dk_3 (dk_at dksX0_plans_0 15 rfl rfl)
theorem dX0_plans_16 : decode cX0_plans 16 = .ok (.iconst 0, 1) := dk_3 (dk_at dksX0_plans_0 16 rfl rfl)
theorem dX0_plans_17 : decode cX0_plans 17 = .ok (.iconst 0, 1) := dk_3 (dk_at dksX0_plans_0 17 rfl rfl)
theorem dX0_plans_18 : decode cX0_plans 18 = .ok (.iconst 0, 1) := dk_3 (dk_at dksX0_plans_0 18 rfl rfl)
theorem dX0_plans_19 : decode cX0_plans 19 = .ok (.invokevirtual 273, 3) := dk_182 1 17 (dk_at dksX0_plans_0 19 rfl rfl)
theorem dX0_plans_22 : decode cX0_plans 22 = .ok (.return_, 1) := dk_177 (dk_at dksX0_plans_0 22 rfl rfl)
abbrev cX0_tries : ByteArray := prog_1_method_32_code
def yX0_tries : MethodName := ⟨RX0, "tries", "(IIII)V"⟩
def dkwX0_tries_8 : List UInt8 := [50, 5, 46, 100, 184, 0, 140, 96, 182, 1, 17, 132, 5, 1, 167, 255, 134, 177]
abbrev dktX0_tries_8 : List UInt8 := dkwX0_tries_8 ++ []
def dkwX0_tries_7 : List UInt8 := [79, 42, 27, 4, 96, 28, 4, 21, 5, 120, 128, 21, 7, 21, 4, 3, 21, 7, 42, 180, 0, 60, 21, 5]
abbrev dktX0_tries_7 : List UInt8 := dkwX0_tries_7 ++ dktX0_tries_8
def dkwX0_tries_6 : List UInt8 := [167, 0, 4, 3, 96, 42, 180, 0, 60, 21, 5, 50, 4, 46, 96, 54, 7, 42, 180, 0, 67, 27, 21, 5]
abbrev dktX0_tries_6 : List UInt8 := dkwX0_tries_6 ++ dktX0_tries_7
def dkwX0_tries_5 : List UInt8 := [182, 1, 13, 159, 0, 7, 4, 167, 0, 4, 3, 54, 6, 29, 21, 6, 153, 0, 10, 42, 180, 0, 63]
abbrev dktX0_tries_5 : List UInt8 := dkwX0_tries_5 ++ dktX0_tries_6
def dkwX0_tries_4 : List UInt8 := [4, 126, 154, 0, 104, 27, 158, 0, 28, 42, 42, 180, 0, 67, 27, 4, 100, 46, 182, 1, 13, 42, 21, 5]
abbrev dktX0_tries_4 : List UInt8 := dkwX0_tries_4 ++ dktX0_tries_5
def dkwX0_tries_3 : List UInt8 := [79, 132, 5, 1, 167, 255, 230, 177, 3, 54, 5, 21, 5, 42, 180, 1, 1, 162, 0, 119, 28, 21, 5, 122]
abbrev dktX0_tries_3 : List UInt8 := dkwX0_tries_3 ++ dktX0_tries_4
def dkwX0_tries_2 : List UInt8 := [54, 5, 21, 5, 42, 180, 1, 1, 162, 0, 23, 42, 180, 0, 70, 21, 5, 42, 180, 0, 67, 21, 5, 46]
abbrev dktX0_tries_2 : List UInt8 := dkwX0_tries_2 ++ dktX0_tries_3
def dkwX0_tries_1 : List UInt8 := [161, 0, 11, 29, 42, 180, 1, 10, 162, 0, 46, 42, 21, 4, 181, 1, 7, 42, 29, 181, 1, 10, 3]
abbrev dktX0_tries_1 : List UInt8 := dkwX0_tries_1 ++ dktX0_tries_2
def dkwX0_tries_0 : List UInt8 := [21, 4, 42, 180, 1, 7, 164, 0, 4, 177, 27, 42, 180, 1, 1, 160, 0, 64, 21, 4, 42, 180, 1, 7]
abbrev dktX0_tries_0 : List UInt8 := dkwX0_tries_0 ++ dktX0_tries_1
theorem dksX0_tries_0 : cX0_tries.data.toList.drop 0 = dktX0_tries_0 := by decide +kernel
theorem dksX0_tries_1 : cX0_tries.data.toList.drop 24 = dktX0_tries_1 := dk_seg dksX0_tries_0 24 rfl rfl
theorem dksX0_tries_2 : cX0_tries.data.toList.drop 47 = dktX0_tries_2 := dk_seg dksX0_tries_1 23 rfl rfl
theorem dksX0_tries_3 : cX0_tries.data.toList.drop 71 = dktX0_tries_3 := dk_seg dksX0_tries_2 24 rfl rfl
theorem dksX0_tries_4 : cX0_tries.data.toList.drop 95 = dktX0_tries_4 := dk_seg dksX0_tries_3 24 rfl rfl
theorem dksX0_tries_5 : cX0_tries.data.toList.drop 119 = dktX0_tries_5 := dk_seg dksX0_tries_4 24 rfl rfl
theorem dksX0_tries_6 : cX0_tries.data.toList.drop 142 = dktX0_tries_6 := dk_seg dksX0_tries_5 23 rfl rfl
theorem dksX0_tries_7 : cX0_tries.data.toList.drop 166 = dktX0_tries_7 := dk_seg dksX0_tries_6 24 rfl rfl
theorem dksX0_tries_8 : cX0_tries.data.toList.drop 190 = dktX0_tries_8 := dk_seg dksX0_tries_7 24 rfl rfl
theorem dX0_tries_0 : decode cX0_tries 0 = .ok (.iload 4, 2) := dk_21 4 (dk_at dksX0_tries_0 0 rfl rfl)
theorem dX0_tries_2 : decode cX0_tries 2 = .ok (.aload_n 0, 1) := dk_42 (dk_at dksX0_tries_0 2 rfl rfl)
theorem dX0_tries_3 : decode cX0_tries 3 = .ok (.getfield 263, 3) := dk_180 1 7 (dk_at dksX0_tries_0 3 rfl rfl)
theorem dX0_tries_6 : decode cX0_tries 6 = .ok (.if_icmp .le 4, 3) := dk_164 0 4 (dk_at dksX0_tries_0 6 rfl rfl)
theorem dX0_tries_9 : decode cX0_tries 9 = .ok (.return_, 1) := dk_177 (dk_at dksX0_tries_0 9 rfl rfl)
theorem dX0_tries_10 : decode cX0_tries 10 = .ok (.iload_n 1, 1) := dk_27 (dk_at dksX0_tries_0 10 rfl rfl)
theorem dX0_tries_11 : decode cX0_tries 11 = .ok (.aload_n 0, 1) := dk_42 (dk_at dksX0_tries_0 11 rfl rfl)
theorem dX0_tries_12 : decode cX0_tries 12 = .ok (.getfield 257, 3) := dk_180 1 1 (dk_at dksX0_tries_0 12 rfl rfl)
theorem dX0_tries_15 : decode cX0_tries 15 = .ok (.if_icmp .ne 64, 3) := dk_160 0 64 (dk_at dksX0_tries_0 15 rfl rfl)
theorem dX0_tries_18 : decode cX0_tries 18 = .ok (.iload 4, 2) := dk_21 4 (dk_at dksX0_tries_0 18 rfl rfl)
theorem dX0_tries_20 : decode cX0_tries 20 = .ok (.aload_n 0, 1) := dk_42 (dk_at dksX0_tries_0 20 rfl rfl)
theorem dX0_tries_21 : decode cX0_tries 21 = .ok (.getfield 263, 3) := dk_180 1 7 (dk_at dksX0_tries_0 21 rfl rfl)
theorem dX0_tries_24 : decode cX0_tries 24 = .ok (.if_icmp .lt 11, 3) := dk_161 0 11 (dk_at dksX0_tries_1 0 rfl rfl)
theorem dX0_tries_27 : decode cX0_tries 27 = .ok (.iload_n 3, 1) := dk_29 (dk_at dksX0_tries_1 3 rfl rfl)
theorem dX0_tries_28 : decode cX0_tries 28 = .ok (.aload_n 0, 1) := dk_42 (dk_at dksX0_tries_1 4 rfl rfl)
theorem dX0_tries_29 : decode cX0_tries 29 = .ok (.getfield 266, 3) := dk_180 1 10 (dk_at dksX0_tries_1 5 rfl rfl)
theorem dX0_tries_32 : decode cX0_tries 32 = .ok (.if_icmp .ge 46, 3) := dk_162 0 46 (dk_at dksX0_tries_1 8 rfl rfl)
theorem dX0_tries_35 : decode cX0_tries 35 = .ok (.aload_n 0, 1) := dk_42 (dk_at dksX0_tries_1 11 rfl rfl)
theorem dX0_tries_36 : decode cX0_tries 36 = .ok (.iload 4, 2) := dk_21 4 (dk_at dksX0_tries_1 12 rfl rfl)
theorem dX0_tries_38 : decode cX0_tries 38 = .ok (.putfield 263, 3) := dk_181 1 7 (dk_at dksX0_tries_1 14 rfl rfl)
theorem dX0_tries_41 : decode cX0_tries 41 = .ok (.aload_n 0, 1) := dk_42 (dk_at dksX0_tries_1 17 rfl rfl)
theorem dX0_tries_42 : decode cX0_tries 42 = .ok (.iload_n 3, 1) := dk_29 (dk_at dksX0_tries_1 18 rfl rfl)
theorem dX0_tries_43 : decode cX0_tries 43 = .ok (.putfield 266, 3) := dk_181 1 10 (dk_at dksX0_tries_1 19 rfl rfl)
theorem dX0_tries_46 : decode cX0_tries 46 = .ok (.iconst 0, 1) := dk_3 (dk_at dksX0_tries_1 22 rfl rfl)
theorem dX0_tries_47 : decode cX0_tries 47 = .ok (.istore 5, 2) := dk_54 5 (dk_at dksX0_tries_2 0 rfl rfl)
theorem dX0_tries_49 : decode cX0_tries 49 = .ok (.iload 5, 2) := dk_21 5 (dk_at dksX0_tries_2 2 rfl rfl)
theorem dX0_tries_51 : decode cX0_tries 51 = .ok (.aload_n 0, 1) := dk_42 (dk_at dksX0_tries_2 4 rfl rfl)
theorem dX0_tries_52 : decode cX0_tries 52 = .ok (.getfield 257, 3) := dk_180 1 1 (dk_at dksX0_tries_2 5 rfl rfl)
theorem dX0_tries_55 : decode cX0_tries 55 = .ok (.if_icmp .ge 23, 3) := dk_162 0 23 (dk_at dksX0_tries_2 8 rfl rfl)
theorem dX0_tries_58 : decode cX0_tries 58 = .ok (.aload_n 0, 1) := dk_42 (dk_at dksX0_tries_2 11 rfl rfl)
theorem dX0_tries_59 : decode cX0_tries 59 = .ok (.getfield 70, 3) := dk_180 0 70 (dk_at dksX0_tries_2 12 rfl rfl)
theorem dX0_tries_62 : decode cX0_tries 62 = .ok (.iload 5, 2) := dk_21 5 (dk_at dksX0_tries_2 15 rfl rfl)
theorem dX0_tries_64 : decode cX0_tries 64 = .ok (.aload_n 0, 1) := dk_42 (dk_at dksX0_tries_2 17 rfl rfl)
theorem dX0_tries_65 : decode cX0_tries 65 = .ok (.getfield 67, 3) := dk_180 0 67 (dk_at dksX0_tries_2 18 rfl rfl)
theorem dX0_tries_68 : decode cX0_tries 68 = .ok (.iload 5, 2) := dk_21 5 (dk_at dksX0_tries_2 21 rfl rfl)
theorem dX0_tries_70 : decode cX0_tries 70 = .ok (.iaload, 1) := dk_46 (dk_at dksX0_tries_2 23 rfl rfl)
theorem dX0_tries_71 : decode cX0_tries 71 = .ok (.iastore, 1) := dk_79 (dk_at dksX0_tries_3 0 rfl rfl)
theorem dX0_tries_72 : decode cX0_tries 72 = .ok (.iinc 5 1, 3) := dk_132 5 1 (dk_at dksX0_tries_3 1 rfl rfl)
theorem dX0_tries_75 : decode cX0_tries 75 = .ok (.goto (-26), 3) := dk_167 255 230 (dk_at dksX0_tries_3 4 rfl rfl)
theorem dX0_tries_78 : decode cX0_tries 78 = .ok (.return_, 1) := dk_177 (dk_at dksX0_tries_3 7 rfl rfl)
theorem dX0_tries_79 : decode cX0_tries 79 = .ok (.iconst 0, 1) := dk_3 (dk_at dksX0_tries_3 8 rfl rfl)
theorem dX0_tries_80 : decode cX0_tries 80 = .ok (.istore 5, 2) := dk_54 5 (dk_at dksX0_tries_3 9 rfl rfl)
theorem dX0_tries_82 : decode cX0_tries 82 = .ok (.iload 5, 2) := dk_21 5 (dk_at dksX0_tries_3 11 rfl rfl)
theorem dX0_tries_84 : decode cX0_tries 84 = .ok (.aload_n 0, 1) := dk_42 (dk_at dksX0_tries_3 13 rfl rfl)
theorem dX0_tries_85 : decode cX0_tries 85 = .ok (.getfield 257, 3) := dk_180 1 1 (dk_at dksX0_tries_3 14 rfl rfl)
theorem dX0_tries_88 : decode cX0_tries 88 = .ok (.if_icmp .ge 119, 3) := dk_162 0 119 (dk_at dksX0_tries_3 17 rfl rfl)
theorem dX0_tries_91 : decode cX0_tries 91 = .ok (.iload_n 2, 1) := dk_28 (dk_at dksX0_tries_3 20 rfl rfl)
theorem dX0_tries_92 : decode cX0_tries 92 = .ok (.iload 5, 2) := dk_21 5 (dk_at dksX0_tries_3 21 rfl rfl)
theorem dX0_tries_94 : decode cX0_tries 94 = .ok (.ishr, 1) := dk_122 (dk_at dksX0_tries_3 23 rfl rfl)
theorem dX0_tries_95 : decode cX0_tries 95 = .ok (.iconst 1, 1) := dk_4 (dk_at dksX0_tries_4 0 rfl rfl)
theorem dX0_tries_96 : decode cX0_tries 96 = .ok (.iand, 1) := dk_126 (dk_at dksX0_tries_4 1 rfl rfl)
theorem dX0_tries_97 : decode cX0_tries 97 = .ok (.ifCond .ne 104, 3) := dk_154 0 104 (dk_at dksX0_tries_4 2 rfl rfl)
theorem dX0_tries_100 : decode cX0_tries 100 = .ok (.iload_n 1, 1) := dk_27 (dk_at dksX0_tries_4 5 rfl rfl)
theorem dX0_tries_101 : decode cX0_tries 101 = .ok (.ifCond .le 28, 3) := dk_158 0 28 (dk_at dksX0_tries_4 6 rfl rfl)
theorem dX0_tries_104 : decode cX0_tries 104 = .ok (.aload_n 0, 1) := dk_42 (dk_at dksX0_tries_4 9 rfl rfl)
theorem dX0_tries_105 : decode cX0_tries 105 = .ok (.aload_n 0, 1) := dk_42 (dk_at dksX0_tries_4 10 rfl rfl)
theorem dX0_tries_106 : decode cX0_tries 106 = .ok (.getfield 67, 3) := dk_180 0 67 (dk_at dksX0_tries_4 11 rfl rfl)
theorem dX0_tries_109 : decode cX0_tries 109 = .ok (.iload_n 1, 1) := dk_27 (dk_at dksX0_tries_4 14 rfl rfl)
theorem dX0_tries_110 : decode cX0_tries 110 = .ok (.iconst 1, 1) := dk_4 (dk_at dksX0_tries_4 15 rfl rfl)
theorem dX0_tries_111 : decode cX0_tries 111 = .ok (.isub, 1) := dk_100 (dk_at dksX0_tries_4 16 rfl rfl)
theorem dX0_tries_112 : decode cX0_tries 112 = .ok (.iaload, 1) := dk_46 (dk_at dksX0_tries_4 17 rfl rfl)
theorem dX0_tries_113 : decode cX0_tries 113 = .ok (.invokevirtual 269, 3) := dk_182 1 13 (dk_at dksX0_tries_4 18 rfl rfl)
theorem dX0_tries_116 : decode cX0_tries 116 = .ok (.aload_n 0, 1) := dk_42 (dk_at dksX0_tries_4 21 rfl rfl)
theorem dX0_tries_117 : decode cX0_tries 117 = .ok (.iload 5, 2) := dk_21 5 (dk_at dksX0_tries_4 22 rfl rfl)
theorem dX0_tries_119 : decode cX0_tries 119 = .ok (.invokevirtual 269, 3) := dk_182 1 13 (dk_at dksX0_tries_5 0 rfl rfl)
theorem dX0_tries_122 : decode cX0_tries 122 = .ok (.if_icmp .eq 7, 3) := dk_159 0 7 (dk_at dksX0_tries_5 3 rfl rfl)
theorem dX0_tries_125 : decode cX0_tries 125 = .ok (.iconst 1, 1) := dk_4 (dk_at dksX0_tries_5 6 rfl rfl)
theorem dX0_tries_126 : decode cX0_tries 126 = .ok (.goto 4, 3) := dk_167 0 4 (dk_at dksX0_tries_5 7 rfl rfl)
theorem dX0_tries_129 : decode cX0_tries 129 = .ok (.iconst 0, 1) := dk_3 (dk_at dksX0_tries_5 10 rfl rfl)
theorem dX0_tries_130 : decode cX0_tries 130 = .ok (.istore 6, 2) := dk_54 6 (dk_at dksX0_tries_5 11 rfl rfl)
theorem dX0_tries_132 : decode cX0_tries 132 = .ok (.iload_n 3, 1) := dk_29 (dk_at dksX0_tries_5 13 rfl rfl)
theorem dX0_tries_133 : decode cX0_tries 133 = .ok (.iload 6, 2) := dk_21 6 (dk_at dksX0_tries_5 14 rfl rfl)
theorem dX0_tries_135 : decode cX0_tries 135 = .ok (.ifCond .eq 10, 3) := dk_153 0 10 (dk_at dksX0_tries_5 16 rfl rfl)
theorem dX0_tries_138 : decode cX0_tries 138 = .ok (.aload_n 0, 1) := dk_42 (dk_at dksX0_tries_5 19 rfl rfl)
theorem dX0_tries_139 : decode cX0_tries 139 = .ok (.getfield 63, 3) := dk_180 0 63 (dk_at dksX0_tries_5 20 rfl rfl)
theorem dX0_tries_142 : decode cX0_tries 142 = .ok (.goto 4, 3) := dk_167 0 4 (dk_at dksX0_tries_6 0 rfl rfl)
theorem dX0_tries_145 : decode cX0_tries 145 = .ok (.iconst 0, 1) := dk_3 (dk_at dksX0_tries_6 3 rfl rfl)
theorem dX0_tries_146 : decode cX0_tries 146 = .ok (.iadd, 1) := dk_96 (dk_at dksX0_tries_6 4 rfl rfl)
theorem dX0_tries_147 : decode cX0_tries 147 = .ok (.aload_n 0, 1) := dk_42 (dk_at dksX0_tries_6 5 rfl rfl)
theorem dX0_tries_148 : decode cX0_tries 148 = .ok (.getfield 60, 3) := dk_180 0 60 (dk_at dksX0_tries_6 6 rfl rfl)
theorem dX0_tries_151 : decode cX0_tries 151 = .ok (.iload 5, 2) := dk_21 5 (dk_at dksX0_tries_6 9 rfl rfl)
theorem dX0_tries_153 : decode cX0_tries 153 = .ok (.aaload, 1) := dk_50 (dk_at dksX0_tries_6 11 rfl rfl)
theorem dX0_tries_154 : decode cX0_tries 154 = .ok (.iconst 1, 1) := dk_4 (dk_at dksX0_tries_6 12 rfl rfl)
theorem dX0_tries_155 : decode cX0_tries 155 = .ok (.iaload, 1) := dk_46 (dk_at dksX0_tries_6 13 rfl rfl)
theorem dX0_tries_156 : decode cX0_tries 156 = .ok (.iadd, 1) := dk_96 (dk_at dksX0_tries_6 14 rfl rfl)
theorem dX0_tries_157 : decode cX0_tries 157 = .ok (.istore 7, 2) := dk_54 7 (dk_at dksX0_tries_6 15 rfl rfl)
theorem dX0_tries_159 : decode cX0_tries 159 = .ok (.aload_n 0, 1) := dk_42 (dk_at dksX0_tries_6 17 rfl rfl)
theorem dX0_tries_160 : decode cX0_tries 160 = .ok (.getfield 67, 3) := dk_180 0 67 (dk_at dksX0_tries_6 18 rfl rfl)
theorem dX0_tries_163 : decode cX0_tries 163 = .ok (.iload_n 1, 1) := dk_27 (dk_at dksX0_tries_6 21 rfl rfl)
theorem dX0_tries_164 : decode cX0_tries 164 = .ok (.iload 5, 2) := dk_21 5 (dk_at dksX0_tries_6 22 rfl rfl)
theorem dX0_tries_166 : decode cX0_tries 166 = .ok (.iastore, 1) := dk_79 (dk_at dksX0_tries_7 0 rfl rfl)
theorem dX0_tries_167 : decode cX0_tries 167 = .ok (.aload_n 0, 1) := dk_42 (dk_at dksX0_tries_7 1 rfl rfl)
theorem dX0_tries_168 : decode cX0_tries 168 = .ok (.iload_n 1, 1) := dk_27 (dk_at dksX0_tries_7 2 rfl rfl)
theorem dX0_tries_169 : decode cX0_tries 169 = .ok (.iconst 1, 1) := dk_4 (dk_at dksX0_tries_7 3 rfl rfl)
theorem dX0_tries_170 : decode cX0_tries 170 = .ok (.iadd, 1) := dk_96 (dk_at dksX0_tries_7 4 rfl rfl)
theorem dX0_tries_171 : decode cX0_tries 171 = .ok (.iload_n 2, 1) := dk_28 (dk_at dksX0_tries_7 5 rfl rfl)
theorem dX0_tries_172 : decode cX0_tries 172 = .ok (.iconst 1, 1) := dk_4 (dk_at dksX0_tries_7 6 rfl rfl)
theorem dX0_tries_173 : decode cX0_tries 173 = .ok (.iload 5, 2) := dk_21 5 (dk_at dksX0_tries_7 7 rfl rfl)
theorem dX0_tries_175 : decode cX0_tries 175 = .ok (.ishl, 1) := dk_120 (dk_at dksX0_tries_7 9 rfl rfl)
theorem dX0_tries_176 : decode cX0_tries 176 = .ok (.ior, 1) := dk_128 (dk_at dksX0_tries_7 10 rfl rfl)
theorem dX0_tries_177 : decode cX0_tries 177 = .ok (.iload 7, 2) := dk_21 7 (dk_at dksX0_tries_7 11 rfl rfl)
theorem dX0_tries_179 : decode cX0_tries 179 = .ok (.iload 4, 2) := dk_21 4 (dk_at dksX0_tries_7 13 rfl rfl)
theorem dX0_tries_181 : decode cX0_tries 181 = .ok (.iconst 0, 1) := dk_3 (dk_at dksX0_tries_7 15 rfl rfl)
theorem dX0_tries_182 : decode cX0_tries 182 = .ok (.iload 7, 2) := dk_21 7 (dk_at dksX0_tries_7 16 rfl rfl)
theorem dX0_tries_184 : decode cX0_tries 184 = .ok (.aload_n 0, 1) := dk_42 (dk_at dksX0_tries_7 18 rfl rfl)
theorem dX0_tries_185 : decode cX0_tries 185 = .ok (.getfield 60, 3) := dk_180 0 60 (dk_at dksX0_tries_7 19 rfl rfl)
theorem dX0_tries_188 : decode cX0_tries 188 = .ok (.iload 5, 2) := dk_21 5 (dk_at dksX0_tries_7 22 rfl rfl)
theorem dX0_tries_190 : decode cX0_tries 190 = .ok (.aaload, 1) := dk_50 (dk_at dksX0_tries_8 0 rfl rfl)
theorem dX0_tries_191 : decode cX0_tries 191 = .ok (.iconst 2, 1) := dk_5 (dk_at dksX0_tries_8 1 rfl rfl)
theorem dX0_tries_192 : decode cX0_tries 192 = .ok (.iaload, 1) := dk_46 (dk_at dksX0_tries_8 2 rfl rfl)
theorem dX0_tries_193 : decode cX0_tries 193 = .ok (.isub, 1) := dk_100 (dk_at dksX0_tries_8 3 rfl rfl)
theorem dX0_tries_194 : decode cX0_tries 194 = .ok (.invokestatic 140, 3) := dk_184 0 140 (dk_at dksX0_tries_8 4 rfl rfl)
theorem dX0_tries_197 : decode cX0_tries 197 = .ok (.iadd, 1) := dk_96 (dk_at dksX0_tries_8 7 rfl rfl)
theorem dX0_tries_198 : decode cX0_tries 198 = .ok (.invokevirtual 273, 3) := dk_182 1 17 (dk_at dksX0_tries_8 8 rfl rfl)
theorem dX0_tries_201 : decode cX0_tries 201 = .ok (.iinc 5 1, 3) := dk_132 5 1 (dk_at dksX0_tries_8 11 rfl rfl)
theorem dX0_tries_204 : decode cX0_tries 204 = .ok (.goto (-122), 3) := dk_167 255 134 (dk_at dksX0_tries_8 14 rfl rfl)
theorem dX0_tries_207 : decode cX0_tries 207 = .ok (.return_, 1) := dk_177 (dk_at dksX0_tries_8 17 rfl rfl)
abbrev cX0_alloyOf : ByteArray := prog_1_method_31_code
def yX0_alloyOf : MethodName := ⟨RX0, "alloyOf", "(I)I"⟩
def dkwX0_alloyOf_0 : List UInt8 := [42, 180, 0, 11, 42, 180, 0, 60, 27, 50, 3, 46, 50, 180, 1, 4, 172]
abbrev dktX0_alloyOf_0 : List UInt8 := dkwX0_alloyOf_0 ++ []
theorem dksX0_alloyOf_0 : cX0_alloyOf.data.toList.drop 0 = dktX0_alloyOf_0 := by decide +kernel
theorem dX0_alloyOf_0 : decode cX0_alloyOf 0 = .ok (.aload_n 0, 1) := dk_42 (dk_at dksX0_alloyOf_0 0 rfl rfl)
theorem dX0_alloyOf_1 : decode cX0_alloyOf 1 = .ok (.getfield 11, 3) := dk_180 0 11 (dk_at dksX0_alloyOf_0 1 rfl rfl)
theorem dX0_alloyOf_4 : decode cX0_alloyOf 4 = .ok (.aload_n 0, 1) := dk_42 (dk_at dksX0_alloyOf_0 4 rfl rfl)
theorem dX0_alloyOf_5 : decode cX0_alloyOf 5 = .ok (.getfield 60, 3) := dk_180 0 60 (dk_at dksX0_alloyOf_0 5 rfl rfl)
theorem dX0_alloyOf_8 : decode cX0_alloyOf 8 = .ok (.iload_n 1, 1) := dk_27 (dk_at dksX0_alloyOf_0 8 rfl rfl)
theorem dX0_alloyOf_9 : decode cX0_alloyOf 9 = .ok (.aaload, 1) := dk_50 (dk_at dksX0_alloyOf_0 9 rfl rfl)
theorem dX0_alloyOf_10 : decode cX0_alloyOf 10 = .ok (.iconst 0, 1) := dk_3 (dk_at dksX0_alloyOf_0 10 rfl rfl)
theorem dX0_alloyOf_11 : decode cX0_alloyOf 11 = .ok (.iaload, 1) := dk_46 (dk_at dksX0_alloyOf_0 11 rfl rfl)
theorem dX0_alloyOf_12 : decode cX0_alloyOf 12 = .ok (.aaload, 1) := dk_50 (dk_at dksX0_alloyOf_0 12 rfl rfl)
theorem dX0_alloyOf_13 : decode cX0_alloyOf 13 = .ok (.getfield 260, 3) := dk_180 1 4 (dk_at dksX0_alloyOf_0 13 rfl rfl)
theorem dX0_alloyOf_16 : decode cX0_alloyOf 16 = .ok (.ireturn, 1) := dk_172 (dk_at dksX0_alloyOf_0 16 rfl rfl)
abbrev cX0_planned : ByteArray := prog_1_method_35_code
def yX0_planned : MethodName := ⟨RX0, "planned", "(I)I"⟩
def dkwX0_planned_1 : List UInt8 := [180, 0, 70, 27, 46, 172]
abbrev dktX0_planned_1 : List UInt8 := dkwX0_planned_1 ++ []
def dkwX0_planned_0 : List UInt8 := [27, 3, 42, 180, 1, 1, 4, 100, 184, 0, 87, 154, 0, 6, 16, 254, 172, 42, 182, 1, 23, 42]
abbrev dktX0_planned_0 : List UInt8 := dkwX0_planned_0 ++ dktX0_planned_1
theorem dksX0_planned_0 : cX0_planned.data.toList.drop 0 = dktX0_planned_0 := by decide +kernel
theorem dksX0_planned_1 : cX0_planned.data.toList.drop 22 = dktX0_planned_1 := dk_seg dksX0_planned_0 22 rfl rfl
theorem dX0_planned_0 : decode cX0_planned 0 = .ok (.iload_n 1, 1) := dk_27 (dk_at dksX0_planned_0 0 rfl rfl)
theorem dX0_planned_1 : decode cX0_planned 1 = .ok (.iconst 0, 1) := dk_3 (dk_at dksX0_planned_0 1 rfl rfl)
theorem dX0_planned_2 : decode cX0_planned 2 = .ok (.aload_n 0, 1) := dk_42 (dk_at dksX0_planned_0 2 rfl rfl)
theorem dX0_planned_3 : decode cX0_planned 3 = .ok (.getfield 257, 3) := dk_180 1 1 (dk_at dksX0_planned_0 3 rfl rfl)
theorem dX0_planned_6 : decode cX0_planned 6 = .ok (.iconst 1, 1) := dk_4 (dk_at dksX0_planned_0 6 rfl rfl)
theorem dX0_planned_7 : decode cX0_planned 7 = .ok (.isub, 1) := dk_100 (dk_at dksX0_planned_0 7 rfl rfl)
theorem dX0_planned_8 : decode cX0_planned 8 = .ok (.invokestatic 87, 3) := dk_184 0 87 (dk_at dksX0_planned_0 8 rfl rfl)
theorem dX0_planned_11 : decode cX0_planned 11 = .ok (.ifCond .ne 6, 3) := dk_154 0 6 (dk_at dksX0_planned_0 11 rfl rfl)
theorem dX0_planned_14 : decode cX0_planned 14 = .ok (.bipush (-2), 2) := dk_16 254 (dk_at dksX0_planned_0 14 rfl rfl)
theorem dX0_planned_16 : decode cX0_planned 16 = .ok (.ireturn, 1) := dk_172 (dk_at dksX0_planned_0 16 rfl rfl)
theorem dX0_planned_17 : decode cX0_planned 17 = .ok (.aload_n 0, 1) := dk_42 (dk_at dksX0_planned_0 17 rfl rfl)
theorem dX0_planned_18 : decode cX0_planned 18 = .ok (.invokevirtual 279, 3) := dk_182 1 23 (dk_at dksX0_planned_0 18 rfl rfl)
theorem dX0_planned_21 : decode cX0_planned 21 = .ok (.aload_n 0, 1) := dk_42 (dk_at dksX0_planned_0 21 rfl rfl)
theorem dX0_planned_22 : decode cX0_planned 22 = .ok (.getfield 70, 3) := dk_180 0 70 (dk_at dksX0_planned_1 0 rfl rfl)
theorem dX0_planned_25 : decode cX0_planned 25 = .ok (.iload_n 1, 1) := dk_27 (dk_at dksX0_planned_1 3 rfl rfl)
theorem dX0_planned_26 : decode cX0_planned 26 = .ok (.iaload, 1) := dk_46 (dk_at dksX0_planned_1 4 rfl rfl)
theorem dX0_planned_27 : decode cX0_planned 27 = .ok (.ireturn, 1) := dk_172 (dk_at dksX0_planned_1 5 rfl rfl)
abbrev cX0_room : ByteArray := prog_1_method_36_code
def yX0_room : MethodName := ⟨RX0, "room", "(I)I"⟩
def dkwX0_room_1 : List UInt8 := [181, 0, 74, 28, 172]
abbrev dktX0_room_1 : List UInt8 := dkwX0_room_1 ++ []
def dkwX0_room_0 : List UInt8 := [27, 17, 3, 232, 19, 1, 26, 184, 0, 87, 154, 0, 6, 16, 254, 172, 42, 180, 0, 74, 61, 42, 27]
abbrev dktX0_room_0 : List UInt8 := dkwX0_room_0 ++ dktX0_room_1
theorem dksX0_room_0 : cX0_room.data.toList.drop 0 = dktX0_room_0 := by decide +kernel
theorem dksX0_room_1 : cX0_room.data.toList.drop 23 = dktX0_room_1 := dk_seg dksX0_room_0 23 rfl rfl
theorem dX0_room_0 : decode cX0_room 0 = .ok (.iload_n 1, 1) := dk_27 (dk_at dksX0_room_0 0 rfl rfl)
theorem dX0_room_1 : decode cX0_room 1 = .ok (.sipush 1000, 3) := dk_17 3 232 (dk_at dksX0_room_0 1 rfl rfl)
theorem dX0_room_4 : decode cX0_room 4 = .ok (.ldc_w 282, 3) := dk_19 1 26 (dk_at dksX0_room_0 4 rfl rfl)
theorem dX0_room_7 : decode cX0_room 7 = .ok (.invokestatic 87, 3) := dk_184 0 87 (dk_at dksX0_room_0 7 rfl rfl)
theorem dX0_room_10 : decode cX0_room 10 = .ok (.ifCond .ne 6, 3) := dk_154 0 6 (dk_at dksX0_room_0 10 rfl rfl)
theorem dX0_room_13 : decode cX0_room 13 = .ok (.bipush (-2), 2) := dk_16 254 (dk_at dksX0_room_0 13 rfl rfl)
theorem dX0_room_15 : decode cX0_room 15 = .ok (.ireturn, 1) := dk_172 (dk_at dksX0_room_0 15 rfl rfl)
theorem dX0_room_16 : decode cX0_room 16 = .ok (.aload_n 0, 1) := dk_42 (dk_at dksX0_room_0 16 rfl rfl)
theorem dX0_room_17 : decode cX0_room 17 = .ok (.getfield 74, 3) := dk_180 0 74 (dk_at dksX0_room_0 17 rfl rfl)
theorem dX0_room_20 : decode cX0_room 20 = .ok (.istore_n 2, 1) := dk_61 (dk_at dksX0_room_0 20 rfl rfl)
theorem dX0_room_21 : decode cX0_room 21 = .ok (.aload_n 0, 1) := dk_42 (dk_at dksX0_room_0 21 rfl rfl)
theorem dX0_room_22 : decode cX0_room 22 = .ok (.iload_n 1, 1) := dk_27 (dk_at dksX0_room_0 22 rfl rfl)
theorem dX0_room_23 : decode cX0_room 23 = .ok (.putfield 74, 3) := dk_181 0 74 (dk_at dksX0_room_1 0 rfl rfl)
theorem dX0_room_26 : decode cX0_room 26 = .ok (.iload_n 2, 1) := dk_28 (dk_at dksX0_room_1 3 rfl rfl)
theorem dX0_room_27 : decode cX0_room 27 = .ok (.ireturn, 1) := dk_172 (dk_at dksX0_room_1 4 rfl rfl)
abbrev cX0_age : ByteArray := prog_1_method_38_code
def yX0_age : MethodName := ⟨RX0, "age", "()I"⟩
def dkwX0_age_1 : List UInt8 := [181, 1, 30, 27, 172]
abbrev dktX0_age_1 : List UInt8 := dkwX0_age_1 ++ []
def dkwX0_age_0 : List UInt8 := [42, 42, 180, 1, 30, 182, 1, 33, 60, 27, 154, 0, 6, 16, 253, 172, 42, 89, 180, 1, 30, 4, 96]
abbrev dktX0_age_0 : List UInt8 := dkwX0_age_0 ++ dktX0_age_1
theorem dksX0_age_0 : cX0_age.data.toList.drop 0 = dktX0_age_0 := by decide +kernel
theorem dksX0_age_1 : cX0_age.data.toList.drop 23 = dktX0_age_1 := dk_seg dksX0_age_0 23 rfl rfl
theorem dX0_age_0 : decode cX0_age 0 = .ok (.aload_n 0, 1) := dk_42 (dk_at dksX0_age_0 0 rfl rfl)
theorem dX0_age_1 : decode cX0_age 1 = .ok (.aload_n 0, 1) := dk_42 (dk_at dksX0_age_0 1 rfl rfl)
theorem dX0_age_2 : decode cX0_age 2 = .ok (.getfield 286, 3) := dk_180 1 30 (dk_at dksX0_age_0 2 rfl rfl)
theorem dX0_age_5 : decode cX0_age 5 = .ok (.invokevirtual 289, 3) := dk_182 1 33 (dk_at dksX0_age_0 5 rfl rfl)
theorem dX0_age_8 : decode cX0_age 8 = .ok (.istore_n 1, 1) := dk_60 (dk_at dksX0_age_0 8 rfl rfl)
theorem dX0_age_9 : decode cX0_age 9 = .ok (.iload_n 1, 1) := dk_27 (dk_at dksX0_age_0 9 rfl rfl)
theorem dX0_age_10 : decode cX0_age 10 = .ok (.ifCond .ne 6, 3) := dk_154 0 6 (dk_at dksX0_age_0 10 rfl rfl)
theorem dX0_age_13 : decode cX0_age 13 = .ok (.bipush (-3), 2) := dk_16 253 (dk_at dksX0_age_0 13 rfl rfl)
theorem dX0_age_15 : decode cX0_age 15 = .ok (.ireturn, 1) := dk_172 (dk_at dksX0_age_0 15 rfl rfl)
theorem dX0_age_16 : decode cX0_age 16 = .ok (.aload_n 0, 1) := dk_42 (dk_at dksX0_age_0 16 rfl rfl)
theorem dX0_age_17 : decode cX0_age 17 = .ok (.dup, 1) := dk_89 (dk_at dksX0_age_0 17 rfl rfl)
theorem dX0_age_18 : decode cX0_age 18 = .ok (.getfield 286, 3) := dk_180 1 30 (dk_at dksX0_age_0 18 rfl rfl)
theorem dX0_age_21 : decode cX0_age 21 = .ok (.iconst 1, 1) := dk_4 (dk_at dksX0_age_0 21 rfl rfl)
theorem dX0_age_22 : decode cX0_age 22 = .ok (.iadd, 1) := dk_96 (dk_at dksX0_age_0 22 rfl rfl)
theorem dX0_age_23 : decode cX0_age 23 = .ok (.putfield 286, 3) := dk_181 1 30 (dk_at dksX0_age_1 0 rfl rfl)
theorem dX0_age_26 : decode cX0_age 26 = .ok (.iload_n 1, 1) := dk_27 (dk_at dksX0_age_1 3 rfl rfl)
theorem dX0_age_27 : decode cX0_age 27 = .ok (.ireturn, 1) := dk_172 (dk_at dksX0_age_1 4 rfl rfl)
abbrev cX0_fills : ByteArray := prog_1_method_37_code
def yX0_fills : MethodName := ⟨RX0, "fills", "(I)I"⟩
def dkwX0_fills_5 : List UInt8 := [132, 4, 1, 132, 5, 1, 167, 255, 144, 21, 4, 172]
abbrev dktX0_fills_5 : List UInt8 := dkwX0_fills_5 ++ []
def dkwX0_fills_4 : List UInt8 := [180, 0, 231, 180, 0, 120, 180, 1, 27, 61, 29, 25, 6, 180, 0, 224, 96, 62, 25, 6, 27, 181, 0, 240]
abbrev dktX0_fills_4 : List UInt8 := dkwX0_fills_4 ++ dktX0_fills_5
def dkwX0_fills_3 : List UInt8 := [158, 0, 20, 29, 25, 6, 180, 0, 224, 96, 42, 180, 0, 74, 164, 0, 6, 21, 4, 172, 25, 6]
abbrev dktX0_fills_3 : List UInt8 := dkwX0_fills_3 ++ dktX0_fills_4
def dkwX0_fills_2 : List UInt8 := [159, 0, 21, 25, 6, 180, 0, 231, 180, 0, 120, 180, 1, 27, 28, 159, 0, 6, 167, 0, 54, 21, 4]
abbrev dktX0_fills_2 : List UInt8 := dkwX0_fills_2 ++ dktX0_fills_3
def dkwX0_fills_1 : List UInt8 := [21, 5, 50, 58, 6, 25, 6, 180, 0, 224, 153, 0, 86, 25, 6, 180, 0, 240, 2, 160, 0, 77, 28, 2]
abbrev dktX0_fills_1 : List UInt8 := dkwX0_fills_1 ++ dktX0_fills_2
def dkwX0_fills_0 : List UInt8 := [2, 61, 3, 62, 3, 54, 4, 3, 54, 5, 21, 5, 42, 180, 0, 193, 162, 0, 109, 42, 180, 0, 48]
abbrev dktX0_fills_0 : List UInt8 := dkwX0_fills_0 ++ dktX0_fills_1
theorem dksX0_fills_0 : cX0_fills.data.toList.drop 0 = dktX0_fills_0 := by decide +kernel
theorem dksX0_fills_1 : cX0_fills.data.toList.drop 23 = dktX0_fills_1 := dk_seg dksX0_fills_0 23 rfl rfl
theorem dksX0_fills_2 : cX0_fills.data.toList.drop 47 = dktX0_fills_2 := dk_seg dksX0_fills_1 24 rfl rfl
theorem dksX0_fills_3 : cX0_fills.data.toList.drop 70 = dktX0_fills_3 := dk_seg dksX0_fills_2 23 rfl rfl
theorem dksX0_fills_4 : cX0_fills.data.toList.drop 92 = dktX0_fills_4 := dk_seg dksX0_fills_3 22 rfl rfl
theorem dksX0_fills_5 : cX0_fills.data.toList.drop 116 = dktX0_fills_5 := dk_seg dksX0_fills_4 24 rfl rfl
theorem dX0_fills_0 : decode cX0_fills 0 = .ok (.iconst (-1), 1) := dk_2 (dk_at dksX0_fills_0 0 rfl rfl)
theorem dX0_fills_1 : decode cX0_fills 1 = .ok (.istore_n 2, 1) := dk_61 (dk_at dksX0_fills_0 1 rfl rfl)
theorem dX0_fills_2 : decode cX0_fills 2 = .ok (.iconst 0, 1) := dk_3 (dk_at dksX0_fills_0 2 rfl rfl)
theorem dX0_fills_3 : decode cX0_fills 3 = .ok (.istore_n 3, 1) := dk_62 (dk_at dksX0_fills_0 3 rfl rfl)
theorem dX0_fills_4 : decode cX0_fills 4 = .ok (.iconst 0, 1) := dk_3 (dk_at dksX0_fills_0 4 rfl rfl)
theorem dX0_fills_5 : decode cX0_fills 5 = .ok (.istore 4, 2) := dk_54 4 (dk_at dksX0_fills_0 5 rfl rfl)
theorem dX0_fills_7 : decode cX0_fills 7 = .ok (.iconst 0, 1) := dk_3 (dk_at dksX0_fills_0 7 rfl rfl)
theorem dX0_fills_8 : decode cX0_fills 8 = .ok (.istore 5, 2) := dk_54 5 (dk_at dksX0_fills_0 8 rfl rfl)
theorem dX0_fills_10 : decode cX0_fills 10 = .ok (.iload 5, 2) := dk_21 5 (dk_at dksX0_fills_0 10 rfl rfl)
theorem dX0_fills_12 : decode cX0_fills 12 = .ok (.aload_n 0, 1) := dk_42 (dk_at dksX0_fills_0 12 rfl rfl)
theorem dX0_fills_13 : decode cX0_fills 13 = .ok (.getfield 193, 3) := dk_180 0 193 (dk_at dksX0_fills_0 13 rfl rfl)
theorem dX0_fills_16 : decode cX0_fills 16 = .ok (.if_icmp .ge 109, 3) := dk_162 0 109 (dk_at dksX0_fills_0 16 rfl rfl)
theorem dX0_fills_19 : decode cX0_fills 19 = .ok (.aload_n 0, 1) := dk_42 (dk_at dksX0_fills_0 19 rfl rfl)
theorem dX0_fills_20 : decode cX0_fills 20 = .ok (.getfield 48, 3) := dk_180 0 48 (dk_at dksX0_fills_0 20 rfl rfl)
theorem dX0_fills_23 : decode cX0_fills 23 = .ok (.iload 5, 2) := dk_21 5 (dk_at dksX0_fills_1 0 rfl rfl)
theorem dX0_fills_25 : decode cX0_fills 25 = .ok (.aaload, 1) := dk_50 (dk_at dksX0_fills_1 2 rfl rfl)
theorem dX0_fills_26 : decode cX0_fills 26 = .ok (.astore 6, 2) := dk_58 6 (dk_at dksX0_fills_1 3 rfl rfl)
theorem dX0_fills_28 : decode cX0_fills 28 = .ok (.aload 6, 2) := dk_25 6 (dk_at dksX0_fills_1 5 rfl rfl)
theorem dX0_fills_30 : decode cX0_fills 30 = .ok (.getfield 224, 3) := dk_180 0 224 (dk_at dksX0_fills_1 7 rfl rfl)
theorem dX0_fills_33 : decode cX0_fills 33 = .ok (.ifCond .eq 86, 3) := dk_153 0 86 (dk_at dksX0_fills_1 10 rfl rfl)
theorem dX0_fills_36 : decode cX0_fills 36 = .ok (.aload 6, 2) := dk_25 6 (dk_at dksX0_fills_1 13 rfl rfl)
theorem dX0_fills_38 : decode cX0_fills 38 = .ok (.getfield 240, 3) := dk_180 0 240 (dk_at dksX0_fills_1 15 rfl rfl)
theorem dX0_fills_41 : decode cX0_fills 41 = .ok (.iconst (-1), 1) := dk_2 (dk_at dksX0_fills_1 18 rfl rfl)
theorem dX0_fills_42 : decode cX0_fills 42 = .ok (.if_icmp .ne 77, 3) := dk_160 0 77 (dk_at dksX0_fills_1 19 rfl rfl)
theorem dX0_fills_45 : decode cX0_fills 45 = .ok (.iload_n 2, 1) := dk_28 (dk_at dksX0_fills_1 22 rfl rfl)
theorem dX0_fills_46 : decode cX0_fills 46 = .ok (.iconst (-1), 1) := dk_2 (dk_at dksX0_fills_1 23 rfl rfl)
theorem dX0_fills_47 : decode cX0_fills 47 = .ok (.if_icmp .eq 21, 3) := dk_159 0 21 (dk_at dksX0_fills_2 0 rfl rfl)
theorem dX0_fills_50 : decode cX0_fills 50 = .ok (.aload 6, 2) := dk_25 6 (dk_at dksX0_fills_2 3 rfl rfl)
theorem dX0_fills_52 : decode cX0_fills 52 = .ok (.getfield 231, 3) := dk_180 0 231 (dk_at dksX0_fills_2 5 rfl rfl)
theorem dX0_fills_55 : decode cX0_fills 55 = .ok (.getfield 120, 3) := dk_180 0 120 (dk_at dksX0_fills_2 8 rfl rfl)
theorem dX0_fills_58 : decode cX0_fills 58 = .ok (.getfield 283, 3) := dk_180 1 27 (dk_at dksX0_fills_2 11 rfl rfl)
theorem dX0_fills_61 : decode cX0_fills 61 = .ok (.iload_n 2, 1) := dk_28 (dk_at dksX0_fills_2 14 rfl rfl)
theorem dX0_fills_62 : decode cX0_fills 62 = .ok (.if_icmp .eq 6, 3) := dk_159 0 6 (dk_at dksX0_fills_2 15 rfl rfl)
theorem dX0_fills_65 : decode cX0_fills 65 = .ok (.goto 54, 3) := dk_167 0 54 (dk_at dksX0_fills_2 18 rfl rfl)
theorem dX0_fills_68 : decode cX0_fills 68 = .ok (.iload 4, 2) := dk_21 4 (dk_at dksX0_fills_2 21 rfl rfl)
theorem dX0_fills_70 : decode cX0_fills 70 = .ok (.ifCond .le 20, 3) := dk_158 0 20 (dk_at dksX0_fills_3 0 rfl rfl)
theorem dX0_fills_73 : decode cX0_fills 73 = .ok (.iload_n 3, 1) := dk_29 (dk_at dksX0_fills_3 3 rfl rfl)
theorem dX0_fills_74 : decode cX0_fills 74 = .ok (.aload 6, 2) := dk_25 6 (dk_at dksX0_fills_3 4 rfl rfl)
theorem dX0_fills_76 : decode cX0_fills 76 = .ok (.getfield 224, 3) := dk_180 0 224 (dk_at dksX0_fills_3 6 rfl rfl)
theorem dX0_fills_79 : decode cX0_fills 79 = .ok (.iadd, 1) := dk_96 (dk_at dksX0_fills_3 9 rfl rfl)
theorem dX0_fills_80 : decode cX0_fills 80 = .ok (.aload_n 0, 1) := dk_42 (dk_at dksX0_fills_3 10 rfl rfl)
theorem dX0_fills_81 : decode cX0_fills 81 = .ok (.getfield 74, 3) := dk_180 0 74 (dk_at dksX0_fills_3 11 rfl rfl)
theorem dX0_fills_84 : decode cX0_fills 84 = .ok (.if_icmp .le 6, 3) := dk_164 0 6 (dk_at dksX0_fills_3 14 rfl rfl)
theorem dX0_fills_87 : decode cX0_fills 87 = .ok (.iload 4, 2) := dk_21 4 (dk_at dksX0_fills_3 17 rfl rfl)
theorem dX0_fills_89 : decode cX0_fills 89 = .ok (.ireturn, 1) := dk_172 (dk_at dksX0_fills_3 19 rfl rfl)
theorem dX0_fills_90 : decode cX0_fills 90 = .ok (.aload 6, 2) := dk_25 6 (dk_at dksX0_fills_3 20 rfl rfl)
theorem dX0_fills_92 : decode cX0_fills 92 = .ok (.getfield 231, 3) := dk_180 0 231 (dk_at dksX0_fills_4 0 rfl rfl)
theorem dX0_fills_95 : decode cX0_fills 95 = .ok (.getfield 120, 3) := dk_180 0 120 (dk_at dksX0_fills_4 3 rfl rfl)
theorem dX0_fills_98 : decode cX0_fills 98 = .ok (.getfield 283, 3) := dk_180 1 27 (dk_at dksX0_fills_4 6 rfl rfl)
theorem dX0_fills_101 : decode cX0_fills 101 = .ok (.istore_n 2, 1) := dk_61 (dk_at dksX0_fills_4 9 rfl rfl)
theorem dX0_fills_102 : decode cX0_fills 102 = .ok (.iload_n 3, 1) := dk_29 (dk_at dksX0_fills_4 10 rfl rfl)
theorem dX0_fills_103 : decode cX0_fills 103 = .ok (.aload 6, 2) := dk_25 6 (dk_at dksX0_fills_4 11 rfl rfl)
theorem dX0_fills_105 : decode cX0_fills 105 = .ok (.getfield 224, 3) := dk_180 0 224 (dk_at dksX0_fills_4 13 rfl rfl)
theorem dX0_fills_108 : decode cX0_fills 108 = .ok (.iadd, 1) := dk_96 (dk_at dksX0_fills_4 16 rfl rfl)
theorem dX0_fills_109 : decode cX0_fills 109 = .ok (.istore_n 3, 1) := dk_62 (dk_at dksX0_fills_4 17 rfl rfl)
theorem dX0_fills_110 : decode cX0_fills 110 = .ok (.aload 6, 2) := dk_25 6 (dk_at dksX0_fills_4 18 rfl rfl)
theorem dX0_fills_112 : decode cX0_fills 112 = .ok (.iload_n 1, 1) := dk_27 (dk_at dksX0_fills_4 20 rfl rfl)
theorem dX0_fills_113 : decode cX0_fills 113 = .ok (.putfield 240, 3) := dk_181 0 240 (dk_at dksX0_fills_4 21 rfl rfl)
theorem dX0_fills_116 : decode cX0_fills 116 = .ok (.iinc 4 1, 3) := dk_132 4 1 (dk_at dksX0_fills_5 0 rfl rfl)
theorem dX0_fills_119 : decode cX0_fills 119 = .ok (.iinc 5 1, 3) := dk_132 5 1 (dk_at dksX0_fills_5 3 rfl rfl)
theorem dX0_fills_122 : decode cX0_fills 122 = .ok (.goto (-112), 3) := dk_167 255 144 (dk_at dksX0_fills_5 6 rfl rfl)
theorem dX0_fills_125 : decode cX0_fills 125 = .ok (.iload 4, 2) := dk_21 4 (dk_at dksX0_fills_5 9 rfl rfl)
theorem dX0_fills_127 : decode cX0_fills 127 = .ok (.ireturn, 1) := dk_172 (dk_at dksX0_fills_5 11 rfl rfl)
abbrev cX0_batches : ByteArray := prog_1_method_39_code
def yX0_batches : MethodName := ⟨RX0, "batches", "()I"⟩
def dkwX0_batches_3 : List UInt8 := [132, 2, 1, 167, 255, 207, 27, 172]
abbrev dktX0_batches_3 : List UInt8 := dkwX0_batches_3 ++ []
def dkwX0_batches_2 : List UInt8 := [180, 1, 30, 161, 0, 7, 2, 167, 0, 12, 42, 180, 0, 48, 28, 50, 180, 0, 240, 181, 0, 240]
abbrev dktX0_batches_2 : List UInt8 := dkwX0_batches_2 ++ dktX0_batches_3
def dkwX0_batches_1 : List UInt8 := [42, 180, 0, 193, 162, 0, 47, 42, 180, 0, 48, 28, 50, 42, 180, 0, 48, 28, 50, 180, 0, 240, 42]
abbrev dktX0_batches_1 : List UInt8 := dkwX0_batches_1 ++ dktX0_batches_2
def dkwX0_batches_0 : List UInt8 := [3, 60, 42, 42, 180, 1, 30, 27, 96, 182, 1, 33, 158, 0, 9, 132, 1, 1, 167, 255, 240, 3, 61, 28]
abbrev dktX0_batches_0 : List UInt8 := dkwX0_batches_0 ++ dktX0_batches_1
theorem dksX0_batches_0 : cX0_batches.data.toList.drop 0 = dktX0_batches_0 := by decide +kernel
theorem dksX0_batches_1 : cX0_batches.data.toList.drop 24 = dktX0_batches_1 := dk_seg dksX0_batches_0 24 rfl rfl
theorem dksX0_batches_2 : cX0_batches.data.toList.drop 47 = dktX0_batches_2 := dk_seg dksX0_batches_1 23 rfl rfl
theorem dksX0_batches_3 : cX0_batches.data.toList.drop 69 = dktX0_batches_3 := dk_seg dksX0_batches_2 22 rfl rfl
theorem dX0_batches_0 : decode cX0_batches 0 = .ok (.iconst 0, 1) := dk_3 (dk_at dksX0_batches_0 0 rfl rfl)
theorem dX0_batches_1 : decode cX0_batches 1 = .ok (.istore_n 1, 1) := dk_60 (dk_at dksX0_batches_0 1 rfl rfl)
theorem dX0_batches_2 : decode cX0_batches 2 = .ok (.aload_n 0, 1) := dk_42 (dk_at dksX0_batches_0 2 rfl rfl)
theorem dX0_batches_3 : decode cX0_batches 3 = .ok (.aload_n 0, 1) := dk_42 (dk_at dksX0_batches_0 3 rfl rfl)
theorem dX0_batches_4 : decode cX0_batches 4 = .ok (.getfield 286, 3) := dk_180 1 30 (dk_at dksX0_batches_0 4 rfl rfl)
theorem dX0_batches_7 : decode cX0_batches 7 = .ok (.iload_n 1, 1) := dk_27 (dk_at dksX0_batches_0 7 rfl rfl)
theorem dX0_batches_8 : decode cX0_batches 8 = .ok (.iadd, 1) := dk_96 (dk_at dksX0_batches_0 8 rfl rfl)
theorem dX0_batches_9 : decode cX0_batches 9 = .ok (.invokevirtual 289, 3) := dk_182 1 33 (dk_at dksX0_batches_0 9 rfl rfl)
theorem dX0_batches_12 : decode cX0_batches 12 = .ok (.ifCond .le 9, 3) := dk_158 0 9 (dk_at dksX0_batches_0 12 rfl rfl)
theorem dX0_batches_15 : decode cX0_batches 15 = .ok (.iinc 1 1, 3) := dk_132 1 1 (dk_at dksX0_batches_0 15 rfl rfl)
theorem dX0_batches_18 : decode cX0_batches 18 = .ok (.goto (-16), 3) := dk_167 255 240 (dk_at dksX0_batches_0 18 rfl rfl)
theorem dX0_batches_21 : decode cX0_batches 21 = .ok (.iconst 0, 1) := dk_3 (dk_at dksX0_batches_0 21 rfl rfl)
theorem dX0_batches_22 : decode cX0_batches 22 = .ok (.istore_n 2, 1) := dk_61 (dk_at dksX0_batches_0 22 rfl rfl)
theorem dX0_batches_23 : decode cX0_batches 23 = .ok (.iload_n 2, 1) := dk_28 (dk_at dksX0_batches_0 23 rfl rfl)
theorem dX0_batches_24 : decode cX0_batches 24 = .ok (.aload_n 0, 1) := dk_42 (dk_at dksX0_batches_1 0 rfl rfl)
theorem dX0_batches_25 : decode cX0_batches 25 = .ok (.getfield 193, 3) := dk_180 0 193 (dk_at dksX0_batches_1 1 rfl rfl)
theorem dX0_batches_28 : decode cX0_batches 28 = .ok (.if_icmp .ge 47, 3) := dk_162 0 47 (dk_at dksX0_batches_1 4 rfl rfl)
theorem dX0_batches_31 : decode cX0_batches 31 = .ok (.aload_n 0, 1) := dk_42 (dk_at dksX0_batches_1 7 rfl rfl)
theorem dX0_batches_32 : decode cX0_batches 32 = .ok (.getfield 48, 3) := dk_180 0 48 (dk_at dksX0_batches_1 8 rfl rfl)
theorem dX0_batches_35 : decode cX0_batches 35 = .ok (.iload_n 2, 1) := dk_28 (dk_at dksX0_batches_1 11 rfl rfl)
theorem dX0_batches_36 : decode cX0_batches 36 = .ok (.aaload, 1) := dk_50 (dk_at dksX0_batches_1 12 rfl rfl)
theorem dX0_batches_37 : decode cX0_batches 37 = .ok (.aload_n 0, 1) := dk_42 (dk_at dksX0_batches_1 13 rfl rfl)
theorem dX0_batches_38 : decode cX0_batches 38 = .ok (.getfield 48, 3) := dk_180 0 48 (dk_at dksX0_batches_1 14 rfl rfl)
theorem dX0_batches_41 : decode cX0_batches 41 = .ok (.iload_n 2, 1) := dk_28 (dk_at dksX0_batches_1 17 rfl rfl)
theorem dX0_batches_42 : decode cX0_batches 42 = .ok (.aaload, 1) := dk_50 (dk_at dksX0_batches_1 18 rfl rfl)
theorem dX0_batches_43 : decode cX0_batches 43 = .ok (.getfield 240, 3) := dk_180 0 240 (dk_at dksX0_batches_1 19 rfl rfl)
theorem dX0_batches_46 : decode cX0_batches 46 = .ok (.aload_n 0, 1) := dk_42 (dk_at dksX0_batches_1 22 rfl rfl)
theorem dX0_batches_47 : decode cX0_batches 47 = .ok (.getfield 286, 3) := dk_180 1 30 (dk_at dksX0_batches_2 0 rfl rfl)
theorem dX0_batches_50 : decode cX0_batches 50 = .ok (.if_icmp .lt 7, 3) := dk_161 0 7 (dk_at dksX0_batches_2 3 rfl rfl)
theorem dX0_batches_53 : decode cX0_batches 53 = .ok (.iconst (-1), 1) := dk_2 (dk_at dksX0_batches_2 6 rfl rfl)
theorem dX0_batches_54 : decode cX0_batches 54 = .ok (.goto 12, 3) := dk_167 0 12 (dk_at dksX0_batches_2 7 rfl rfl)
theorem dX0_batches_57 : decode cX0_batches 57 = .ok (.aload_n 0, 1) := dk_42 (dk_at dksX0_batches_2 10 rfl rfl)
theorem dX0_batches_58 : decode cX0_batches 58 = .ok (.getfield 48, 3) := dk_180 0 48 (dk_at dksX0_batches_2 11 rfl rfl)
theorem dX0_batches_61 : decode cX0_batches 61 = .ok (.iload_n 2, 1) := dk_28 (dk_at dksX0_batches_2 14 rfl rfl)
theorem dX0_batches_62 : decode cX0_batches 62 = .ok (.aaload, 1) := dk_50 (dk_at dksX0_batches_2 15 rfl rfl)
theorem dX0_batches_63 : decode cX0_batches 63 = .ok (.getfield 240, 3) := dk_180 0 240 (dk_at dksX0_batches_2 16 rfl rfl)
theorem dX0_batches_66 : decode cX0_batches 66 = .ok (.putfield 240, 3) := dk_181 0 240 (dk_at dksX0_batches_2 19 rfl rfl)
theorem dX0_batches_69 : decode cX0_batches 69 = .ok (.iinc 2 1, 3) := dk_132 2 1 (dk_at dksX0_batches_3 0 rfl rfl)
theorem dX0_batches_72 : decode cX0_batches 72 = .ok (.goto (-49), 3) := dk_167 255 207 (dk_at dksX0_batches_3 3 rfl rfl)
theorem dX0_batches_75 : decode cX0_batches 75 = .ok (.iload_n 1, 1) := dk_27 (dk_at dksX0_batches_3 6 rfl rfl)
theorem dX0_batches_76 : decode cX0_batches 76 = .ok (.ireturn, 1) := dk_172 (dk_at dksX0_batches_3 7 rfl rfl)
abbrev cX0_sample : ByteArray := prog_1_method_40_code
def yX0_sample : MethodName := ⟨RX0, "sample", "(IZ)I"⟩
def dkwX0_sample_1 : List UInt8 := [167, 0, 4, 5, 181, 1, 36, 4, 172]
abbrev dktX0_sample_1 : List UInt8 := dkwX0_sample_1 ++ []
def dkwX0_sample_0 : List UInt8 := [42, 27, 182, 0, 228, 154, 0, 6, 16, 254, 172, 42, 180, 0, 48, 27, 50, 28, 153, 0, 7, 4]
abbrev dktX0_sample_0 : List UInt8 := dkwX0_sample_0 ++ dktX0_sample_1
theorem dksX0_sample_0 : cX0_sample.data.toList.drop 0 = dktX0_sample_0 := by decide +kernel
theorem dksX0_sample_1 : cX0_sample.data.toList.drop 22 = dktX0_sample_1 := dk_seg dksX0_sample_0 22 rfl rfl
theorem dX0_sample_0 : decode cX0_sample 0 = .ok (.aload_n 0, 1) := dk_42 (dk_at dksX0_sample_0 0 rfl rfl)
theorem dX0_sample_1 : decode cX0_sample 1 = .ok (.iload_n 1, 1) := dk_27 (dk_at dksX0_sample_0 1 rfl rfl)
theorem dX0_sample_2 : decode cX0_sample 2 = .ok (.invokevirtual 228, 3) := dk_182 0 228 (dk_at dksX0_sample_0 2 rfl rfl)
theorem dX0_sample_5 : decode cX0_sample 5 = .ok (.ifCond .ne 6, 3) := dk_154 0 6 (dk_at dksX0_sample_0 5 rfl rfl)
theorem dX0_sample_8 : decode cX0_sample 8 = .ok (.bipush (-2), 2) := dk_16 254 (dk_at dksX0_sample_0 8 rfl rfl)
theorem dX0_sample_10 : decode cX0_sample 10 = .ok (.ireturn, 1) := dk_172 (dk_at dksX0_sample_0 10 rfl rfl)
theorem dX0_sample_11 : decode cX0_sample 11 = .ok (.aload_n 0, 1) := dk_42 (dk_at dksX0_sample_0 11 rfl rfl)
theorem dX0_sample_12 : decode cX0_sample 12 = .ok (.getfield 48, 3) := dk_180 0 48 (dk_at dksX0_sample_0 12 rfl rfl)
theorem dX0_sample_15 : decode cX0_sample 15 = .ok (.iload_n 1, 1) := dk_27 (dk_at dksX0_sample_0 15 rfl rfl)
theorem dX0_sample_16 : decode cX0_sample 16 = .ok (.aaload, 1) := dk_50 (dk_at dksX0_sample_0 16 rfl rfl)
theorem dX0_sample_17 : decode cX0_sample 17 = .ok (.iload_n 2, 1) := dk_28 (dk_at dksX0_sample_0 17 rfl rfl)
theorem dX0_sample_18 : decode cX0_sample 18 = .ok (.ifCond .eq 7, 3) := dk_153 0 7 (dk_at dksX0_sample_0 18 rfl rfl)
theorem dX0_sample_21 : decode cX0_sample 21 = .ok (.iconst 1, 1) := dk_4 (dk_at dksX0_sample_0 21 rfl rfl)
theorem dX0_sample_22 : decode cX0_sample 22 = .ok (.goto 4, 3) := dk_167 0 4 (dk_at dksX0_sample_1 0 rfl rfl)
theorem dX0_sample_25 : decode cX0_sample 25 = .ok (.iconst 2, 1) := dk_5 (dk_at dksX0_sample_1 3 rfl rfl)
theorem dX0_sample_26 : decode cX0_sample 26 = .ok (.putfield 292, 3) := dk_181 1 36 (dk_at dksX0_sample_1 4 rfl rfl)
theorem dX0_sample_29 : decode cX0_sample 29 = .ok (.iconst 1, 1) := dk_4 (dk_at dksX0_sample_1 7 rfl rfl)
theorem dX0_sample_30 : decode cX0_sample 30 = .ok (.ireturn, 1) := dk_172 (dk_at dksX0_sample_1 8 rfl rfl)
abbrev cX0_suspect : ByteArray := prog_1_method_43_code
def yX0_suspect : MethodName := ⟨RX0, "suspect", "(I)I"⟩
def dkwX0_suspect_1 : List UInt8 := [16, 254, 172]
abbrev dktX0_suspect_1 : List UInt8 := dkwX0_suspect_1 ++ []
def dkwX0_suspect_0 : List UInt8 := [42, 27, 182, 0, 228, 153, 0, 19, 42, 27, 182, 1, 43, 153, 0, 7, 4, 167, 0, 9, 3, 167, 0, 5]
abbrev dktX0_suspect_0 : List UInt8 := dkwX0_suspect_0 ++ dktX0_suspect_1
theorem dksX0_suspect_0 : cX0_suspect.data.toList.drop 0 = dktX0_suspect_0 := by decide +kernel
theorem dksX0_suspect_1 : cX0_suspect.data.toList.drop 24 = dktX0_suspect_1 := dk_seg dksX0_suspect_0 24 rfl rfl
theorem dX0_suspect_0 : decode cX0_suspect 0 = .ok (.aload_n 0, 1) := dk_42 (dk_at dksX0_suspect_0 0 rfl rfl)
theorem dX0_suspect_1 : decode cX0_suspect 1 = .ok (.iload_n 1, 1) := dk_27 (dk_at dksX0_suspect_0 1 rfl rfl)
theorem dX0_suspect_2 : decode cX0_suspect 2 = .ok (.invokevirtual 228, 3) := dk_182 0 228 (dk_at dksX0_suspect_0 2 rfl rfl)
theorem dX0_suspect_5 : decode cX0_suspect 5 = .ok (.ifCond .eq 19, 3) := dk_153 0 19 (dk_at dksX0_suspect_0 5 rfl rfl)
theorem dX0_suspect_8 : decode cX0_suspect 8 = .ok (.aload_n 0, 1) := dk_42 (dk_at dksX0_suspect_0 8 rfl rfl)
theorem dX0_suspect_9 : decode cX0_suspect 9 = .ok (.iload_n 1, 1) := dk_27 (dk_at dksX0_suspect_0 9 rfl rfl)
theorem dX0_suspect_10 : decode cX0_suspect 10 = .ok (.invokevirtual 299, 3) := dk_182 1 43 (dk_at dksX0_suspect_0 10 rfl rfl)
theorem dX0_suspect_13 : decode cX0_suspect 13 = .ok (.ifCond .eq 7, 3) := dk_153 0 7 (dk_at dksX0_suspect_0 13 rfl rfl)
theorem dX0_suspect_16 : decode cX0_suspect 16 = .ok (.iconst 1, 1) := dk_4 (dk_at dksX0_suspect_0 16 rfl rfl)
theorem dX0_suspect_17 : decode cX0_suspect 17 = .ok (.goto 9, 3) := dk_167 0 9 (dk_at dksX0_suspect_0 17 rfl rfl)
theorem dX0_suspect_20 : decode cX0_suspect 20 = .ok (.iconst 0, 1) := dk_3 (dk_at dksX0_suspect_0 20 rfl rfl)
theorem dX0_suspect_21 : decode cX0_suspect 21 = .ok (.goto 5, 3) := dk_167 0 5 (dk_at dksX0_suspect_0 21 rfl rfl)
theorem dX0_suspect_24 : decode cX0_suspect 24 = .ok (.bipush (-2), 2) := dk_16 254 (dk_at dksX0_suspect_1 0 rfl rfl)
theorem dX0_suspect_26 : decode cX0_suspect 26 = .ok (.ireturn, 1) := dk_172 (dk_at dksX0_suspect_1 2 rfl rfl)
abbrev cX0_isSuspect : ByteArray := prog_1_method_42_code
def yX0_isSuspect : MethodName := ⟨RX0, "isSuspect", "(I)Z"⟩
def dkwX0_isSuspect_1 : List UInt8 := [182, 1, 39, 154, 0, 12, 42, 27, 2, 182, 1, 39, 153, 0, 7, 4, 167, 0, 4, 3, 172]
abbrev dktX0_isSuspect_1 : List UInt8 := dkwX0_isSuspect_1 ++ []
def dkwX0_isSuspect_0 : List UInt8 := [42, 180, 0, 48, 27, 50, 180, 1, 36, 61, 28, 5, 159, 0, 25, 28, 154, 0, 25, 42, 27, 4]
abbrev dktX0_isSuspect_0 : List UInt8 := dkwX0_isSuspect_0 ++ dktX0_isSuspect_1
theorem dksX0_isSuspect_0 : cX0_isSuspect.data.toList.drop 0 = dktX0_isSuspect_0 := by decide +kernel
theorem dksX0_isSuspect_1 : cX0_isSuspect.data.toList.drop 22 = dktX0_isSuspect_1 := dk_seg dksX0_isSuspect_0 22 rfl rfl
theorem dX0_isSuspect_0 : decode cX0_isSuspect 0 = .ok (.aload_n 0, 1) := dk_42 (dk_at dksX0_isSuspect_0 0 rfl rfl)
theorem dX0_isSuspect_1 : decode cX0_isSuspect 1 = .ok (.getfield 48, 3) := dk_180 0 48 (dk_at dksX0_isSuspect_0 1 rfl rfl)
theorem dX0_isSuspect_4 : decode cX0_isSuspect 4 = .ok (.iload_n 1, 1) := dk_27 (dk_at dksX0_isSuspect_0 4 rfl rfl)
theorem dX0_isSuspect_5 : decode cX0_isSuspect 5 = .ok (.aaload, 1) := dk_50 (dk_at dksX0_isSuspect_0 5 rfl rfl)
theorem dX0_isSuspect_6 : decode cX0_isSuspect 6 = .ok (.getfield 292, 3) := dk_180 1 36 (dk_at dksX0_isSuspect_0 6 rfl rfl)
theorem dX0_isSuspect_9 : decode cX0_isSuspect 9 = .ok (.istore_n 2, 1) := dk_61 (dk_at dksX0_isSuspect_0 9 rfl rfl)
theorem dX0_isSuspect_10 : decode cX0_isSuspect 10 = .ok (.iload_n 2, 1) := dk_28 (dk_at dksX0_isSuspect_0 10 rfl rfl)
theorem dX0_isSuspect_11 : decode cX0_isSuspect 11 = .ok (.iconst 2, 1) := dk_5 (dk_at dksX0_isSuspect_0 11 rfl rfl)
theorem dX0_isSuspect_12 : decode cX0_isSuspect 12 = .ok (.if_icmp .eq 25, 3) := dk_159 0 25 (dk_at dksX0_isSuspect_0 12 rfl rfl)
theorem dX0_isSuspect_15 : decode cX0_isSuspect 15 = .ok (.iload_n 2, 1) := dk_28 (dk_at dksX0_isSuspect_0 15 rfl rfl)
theorem dX0_isSuspect_16 : decode cX0_isSuspect 16 = .ok (.ifCond .ne 25, 3) := dk_154 0 25 (dk_at dksX0_isSuspect_0 16 rfl rfl)
theorem dX0_isSuspect_19 : decode cX0_isSuspect 19 = .ok (.aload_n 0, 1) := dk_42 (dk_at dksX0_isSuspect_0 19 rfl rfl)
theorem dX0_isSuspect_20 : decode cX0_isSuspect 20 = .ok (.iload_n 1, 1) := dk_27 (dk_at dksX0_isSuspect_0 20 rfl rfl)
theorem dX0_isSuspect_21 : decode cX0_isSuspect 21 = .ok (.iconst 1, 1) := dk_4 (dk_at dksX0_isSuspect_0 21 rfl rfl)
theorem dX0_isSuspect_22 : decode cX0_isSuspect 22 = .ok (.invokevirtual 295, 3) := dk_182 1 39 (dk_at dksX0_isSuspect_1 0 rfl rfl)
theorem dX0_isSuspect_25 : decode cX0_isSuspect 25 = .ok (.ifCond .ne 12, 3) := dk_154 0 12 (dk_at dksX0_isSuspect_1 3 rfl rfl)
theorem dX0_isSuspect_28 : decode cX0_isSuspect 28 = .ok (.aload_n 0, 1) := dk_42 (dk_at dksX0_isSuspect_1 6 rfl rfl)
theorem dX0_isSuspect_29 : decode cX0_isSuspect 29 = .ok (.iload_n 1, 1) := dk_27 (dk_at dksX0_isSuspect_1 7 rfl rfl)
theorem dX0_isSuspect_30 : decode cX0_isSuspect 30 = .ok (.iconst (-1), 1) := dk_2 (dk_at dksX0_isSuspect_1 8 rfl rfl)
theorem dX0_isSuspect_31 : decode cX0_isSuspect 31 = .ok (.invokevirtual 295, 3) := dk_182 1 39 (dk_at dksX0_isSuspect_1 9 rfl rfl)
theorem dX0_isSuspect_34 : decode cX0_isSuspect 34 = .ok (.ifCond .eq 7, 3) := dk_153 0 7 (dk_at dksX0_isSuspect_1 12 rfl rfl)
theorem dX0_isSuspect_37 : decode cX0_isSuspect 37 = .ok (.iconst 1, 1) := dk_4 (dk_at dksX0_isSuspect_1 15 rfl rfl)
theorem dX0_isSuspect_38 : decode cX0_isSuspect 38 = .ok (.goto 4, 3) := dk_167 0 4 (dk_at dksX0_isSuspect_1 16 rfl rfl)
theorem dX0_isSuspect_41 : decode cX0_isSuspect 41 = .ok (.iconst 0, 1) := dk_3 (dk_at dksX0_isSuspect_1 19 rfl rfl)
theorem dX0_isSuspect_42 : decode cX0_isSuspect 42 = .ok (.ireturn, 1) := dk_172 (dk_at dksX0_isSuspect_1 20 rfl rfl)
abbrev cX0_isNear : ByteArray := prog_1_method_41_code
def yX0_isNear : MethodName := ⟨RX0, "isNear", "(II)Z"⟩
def dkwX0_isNear_3 : List UInt8 := [167, 255, 192, 3, 172]
abbrev dktX0_isNear_3 : List UInt8 := dkwX0_isNear_3 ++ []
def dkwX0_isNear_2 : List UInt8 := [180, 0, 48, 29, 50, 180, 1, 36, 5, 160, 0, 7, 4, 167, 0, 4, 3, 172, 29, 28, 96, 62]
abbrev dktX0_isNear_2 : List UInt8 := dkwX0_isNear_2 ++ dktX0_isNear_3
def dkwX0_isNear_1 : List UInt8 := [180, 0, 48, 27, 50, 180, 0, 231, 166, 0, 34, 42, 180, 0, 48, 29, 50, 180, 1, 36, 158, 0, 22, 42]
abbrev dktX0_isNear_1 : List UInt8 := dkwX0_isNear_1 ++ dktX0_isNear_2
def dkwX0_isNear_0 : List UInt8 := [27, 28, 96, 62, 42, 29, 182, 0, 228, 153, 0, 62, 42, 180, 0, 48, 29, 50, 180, 0, 231, 42]
abbrev dktX0_isNear_0 : List UInt8 := dkwX0_isNear_0 ++ dktX0_isNear_1
theorem dksX0_isNear_0 : cX0_isNear.data.toList.drop 0 = dktX0_isNear_0 := by decide +kernel
theorem dksX0_isNear_1 : cX0_isNear.data.toList.drop 22 = dktX0_isNear_1 := dk_seg dksX0_isNear_0 22 rfl rfl
theorem dksX0_isNear_2 : cX0_isNear.data.toList.drop 46 = dktX0_isNear_2 := dk_seg dksX0_isNear_1 24 rfl rfl
theorem dksX0_isNear_3 : cX0_isNear.data.toList.drop 68 = dktX0_isNear_3 := dk_seg dksX0_isNear_2 22 rfl rfl
theorem dX0_isNear_0 : decode cX0_isNear 0 = .ok (.iload_n 1, 1) := dk_27 (dk_at dksX0_isNear_0 0 rfl rfl)
theorem dX0_isNear_1 : decode cX0_isNear 1 = .ok (.iload_n 2, 1) := dk_28 (dk_at dksX0_isNear_0 1 rfl rfl)
theorem dX0_isNear_2 : decode cX0_isNear 2 = .ok (.iadd, 1) := dk_96 (dk_at dksX0_isNear_0 2 rfl rfl)
theorem dX0_isNear_3 : decode cX0_isNear 3 = .ok (.istore_n 3, 1) := dk_62 (dk_at dksX0_isNear_0 3 rfl rfl)
theorem dX0_isNear_4 : decode cX0_isNear 4 = .ok (.aload_n 0, 1) := dk_42 (dk_at dksX0_isNear_0 4 rfl rfl)
theorem dX0_isNear_5 : decode cX0_isNear 5 = .ok (.iload_n 3, 1) := dk_29 (dk_at dksX0_isNear_0 5 rfl rfl)
theorem dX0_isNear_6 : decode cX0_isNear 6 = .ok (.invokevirtual 228, 3) := dk_182 0 228 (dk_at dksX0_isNear_0 6 rfl rfl)
theorem dX0_isNear_9 : decode cX0_isNear 9 = .ok (.ifCond .eq 62, 3) := dk_153 0 62 (dk_at dksX0_isNear_0 9 rfl rfl)
theorem dX0_isNear_12 : decode cX0_isNear 12 = .ok (.aload_n 0, 1) := dk_42 (dk_at dksX0_isNear_0 12 rfl rfl)
theorem dX0_isNear_13 : decode cX0_isNear 13 = .ok (.getfield 48, 3) := dk_180 0 48 (dk_at dksX0_isNear_0 13 rfl rfl)
theorem dX0_isNear_16 : decode cX0_isNear 16 = .ok (.iload_n 3, 1) := dk_29 (dk_at dksX0_isNear_0 16 rfl rfl)
theorem dX0_isNear_17 : decode cX0_isNear 17 = .ok (.aaload, 1) := dk_50 (dk_at dksX0_isNear_0 17 rfl rfl)
theorem dX0_isNear_18 : decode cX0_isNear 18 = .ok (.getfield 231, 3) := dk_180 0 231 (dk_at dksX0_isNear_0 18 rfl rfl)
theorem dX0_isNear_21 : decode cX0_isNear 21 = .ok (.aload_n 0, 1) := dk_42 (dk_at dksX0_isNear_0 21 rfl rfl)
theorem dX0_isNear_22 : decode cX0_isNear 22 = .ok (.getfield 48, 3) := dk_180 0 48 (dk_at dksX0_isNear_1 0 rfl rfl)
theorem dX0_isNear_25 : decode cX0_isNear 25 = .ok (.iload_n 1, 1) := dk_27 (dk_at dksX0_isNear_1 3 rfl rfl)
theorem dX0_isNear_26 : decode cX0_isNear 26 = .ok (.aaload, 1) := dk_50 (dk_at dksX0_isNear_1 4 rfl rfl)
theorem dX0_isNear_27 : decode cX0_isNear 27 = .ok (.getfield 231, 3) := dk_180 0 231 (dk_at dksX0_isNear_1 5 rfl rfl)
theorem dX0_isNear_30 : decode cX0_isNear 30 = .ok (.if_acmp .ne 34, 3) := dk_166 0 34 (dk_at dksX0_isNear_1 8 rfl rfl)
theorem dX0_isNear_33 : decode cX0_isNear 33 = .ok (.aload_n 0, 1) := dk_42 (dk_at dksX0_isNear_1 11 rfl rfl)
theorem dX0_isNear_34 : decode cX0_isNear 34 = .ok (.getfield 48, 3) := dk_180 0 48 (dk_at dksX0_isNear_1 12 rfl rfl)
theorem dX0_isNear_37 : decode cX0_isNear 37 = .ok (.iload_n 3, 1) := dk_29 (dk_at dksX0_isNear_1 15 rfl rfl)
theorem dX0_isNear_38 : decode cX0_isNear 38 = .ok (.aaload, 1) := dk_50 (dk_at dksX0_isNear_1 16 rfl rfl)
theorem dX0_isNear_39 : decode cX0_isNear 39 = .ok (.getfield 292, 3) := dk_180 1 36 (dk_at dksX0_isNear_1 17 rfl rfl)
theorem dX0_isNear_42 : decode cX0_isNear 42 = .ok (.ifCond .le 22, 3) := dk_158 0 22 (dk_at dksX0_isNear_1 20 rfl rfl)
theorem dX0_isNear_45 : decode cX0_isNear 45 = .ok (.aload_n 0, 1) := dk_42 (dk_at dksX0_isNear_1 23 rfl rfl)
theorem dX0_isNear_46 : decode cX0_isNear 46 = .ok (.getfield 48, 3) := dk_180 0 48 (dk_at dksX0_isNear_2 0 rfl rfl)
theorem dX0_isNear_49 : decode cX0_isNear 49 = .ok (.iload_n 3, 1) := dk_29 (dk_at dksX0_isNear_2 3 rfl rfl)
theorem dX0_isNear_50 : decode cX0_isNear 50 = .ok (.aaload, 1) := dk_50 (dk_at dksX0_isNear_2 4 rfl rfl)
theorem dX0_isNear_51 : decode cX0_isNear 51 = .ok (.getfield 292, 3) := dk_180 1 36 (dk_at dksX0_isNear_2 5 rfl rfl)
theorem dX0_isNear_54 : decode cX0_isNear 54 = .ok (.iconst 2, 1) := dk_5 (dk_at dksX0_isNear_2 8 rfl rfl)
theorem dX0_isNear_55 : decode cX0_isNear 55 = .ok (.if_icmp .ne 7, 3) := dk_160 0 7 (dk_at dksX0_isNear_2 9 rfl rfl)
theorem dX0_isNear_58 : decode cX0_isNear 58 = .ok (.iconst 1, 1) := dk_4 (dk_at dksX0_isNear_2 12 rfl rfl)
theorem dX0_isNear_59 : decode cX0_isNear 59 = .ok (.goto 4, 3) := dk_167 0 4 (dk_at dksX0_isNear_2 13 rfl rfl)
theorem dX0_isNear_62 : decode cX0_isNear 62 = .ok (.iconst 0, 1) := dk_3 (dk_at dksX0_isNear_2 16 rfl rfl)
theorem dX0_isNear_63 : decode cX0_isNear 63 = .ok (.ireturn, 1) := dk_172 (dk_at dksX0_isNear_2 17 rfl rfl)
theorem dX0_isNear_64 : decode cX0_isNear 64 = .ok (.iload_n 3, 1) := dk_29 (dk_at dksX0_isNear_2 18 rfl rfl)
theorem dX0_isNear_65 : decode cX0_isNear 65 = .ok (.iload_n 2, 1) := dk_28 (dk_at dksX0_isNear_2 19 rfl rfl)
theorem dX0_isNear_66 : decode cX0_isNear 66 = .ok (.iadd, 1) := dk_96 (dk_at dksX0_isNear_2 20 rfl rfl)
theorem dX0_isNear_67 : decode cX0_isNear 67 = .ok (.istore_n 3, 1) := dk_62 (dk_at dksX0_isNear_2 21 rfl rfl)
theorem dX0_isNear_68 : decode cX0_isNear 68 = .ok (.goto (-64), 3) := dk_167 255 192 (dk_at dksX0_isNear_3 0 rfl rfl)
theorem dX0_isNear_71 : decode cX0_isNear 71 = .ok (.iconst 0, 1) := dk_3 (dk_at dksX0_isNear_3 3 rfl rfl)
theorem dX0_isNear_72 : decode cX0_isNear 72 = .ok (.ireturn, 1) := dk_172 (dk_at dksX0_isNear_3 4 rfl rfl)
abbrev cX0_held : ByteArray := prog_1_method_44_code
def yX0_held : MethodName := ⟨RX0, "held", "()I"⟩
def dkwX0_held_1 : List UInt8 := [180, 0, 48, 28, 50, 180, 0, 224, 167, 0, 4, 3, 96, 60, 132, 2, 1, 167, 255, 221, 27, 172]
abbrev dktX0_held_1 : List UInt8 := dkwX0_held_1 ++ []
def dkwX0_held_0 : List UInt8 := [3, 60, 3, 61, 28, 42, 180, 0, 193, 162, 0, 33, 27, 42, 28, 182, 1, 43, 153, 0, 15, 42]
abbrev dktX0_held_0 : List UInt8 := dkwX0_held_0 ++ dktX0_held_1
theorem dksX0_held_0 : cX0_held.data.toList.drop 0 = dktX0_held_0 := by decide +kernel
theorem dksX0_held_1 : cX0_held.data.toList.drop 22 = dktX0_held_1 := dk_seg dksX0_held_0 22 rfl rfl
theorem dX0_held_0 : decode cX0_held 0 = .ok (.iconst 0, 1) := dk_3 (dk_at dksX0_held_0 0 rfl rfl)
theorem dX0_held_1 : decode cX0_held 1 = .ok (.istore_n 1, 1) := dk_60 (dk_at dksX0_held_0 1 rfl rfl)
theorem dX0_held_2 : decode cX0_held 2 = .ok (.iconst 0, 1) := dk_3 (dk_at dksX0_held_0 2 rfl rfl)
theorem dX0_held_3 : decode cX0_held 3 = .ok (.istore_n 2, 1) := dk_61 (dk_at dksX0_held_0 3 rfl rfl)
theorem dX0_held_4 : decode cX0_held 4 = .ok (.iload_n 2, 1) := dk_28 (dk_at dksX0_held_0 4 rfl rfl)
theorem dX0_held_5 : decode cX0_held 5 = .ok (.aload_n 0, 1) := dk_42 (dk_at dksX0_held_0 5 rfl rfl)
theorem dX0_held_6 : decode cX0_held 6 = .ok (.getfield 193, 3) := dk_180 0 193 (dk_at dksX0_held_0 6 rfl rfl)
theorem dX0_held_9 : decode cX0_held 9 = .ok (.if_icmp .ge 33, 3) := dk_162 0 33 (dk_at dksX0_held_0 9 rfl rfl)
theorem dX0_held_12 : decode cX0_held 12 = .ok (.iload_n 1, 1) := dk_27 (dk_at dksX0_held_0 12 rfl rfl)
theorem dX0_held_13 : decode cX0_held 13 = .ok (.aload_n 0, 1) := dk_42 (dk_at dksX0_held_0 13 rfl rfl)
theorem dX0_held_14 : decode cX0_held 14 = .ok (.iload_n 2, 1) := dk_28 (dk_at dksX0_held_0 14 rfl rfl)
theorem dX0_held_15 : decode cX0_held 15 = .ok (.invokevirtual 299, 3) := dk_182 1 43 (dk_at dksX0_held_0 15 rfl rfl)
theorem dX0_held_18 : decode cX0_held 18 = .ok (.ifCond .eq 15, 3) := dk_153 0 15 (dk_at dksX0_held_0 18 rfl rfl)
theorem dX0_held_21 : decode cX0_held 21 = .ok (.aload_n 0, 1) := dk_42 (dk_at dksX0_held_0 21 rfl rfl)
theorem dX0_held_22 : decode cX0_held 22 = .ok (.getfield 48, 3) := dk_180 0 48 (dk_at dksX0_held_1 0 rfl rfl)
theorem dX0_held_25 : decode cX0_held 25 = .ok (.iload_n 2, 1) := dk_28 (dk_at dksX0_held_1 3 rfl rfl)
theorem dX0_held_26 : decode cX0_held 26 = .ok (.aaload, 1) := dk_50 (dk_at dksX0_held_1 4 rfl rfl)
theorem dX0_held_27 : decode cX0_held 27 = .ok (.getfield 224, 3) := dk_180 0 224 (dk_at dksX0_held_1 5 rfl rfl)
theorem dX0_held_30 : decode cX0_held 30 = .ok (.goto 4, 3) := dk_167 0 4 (dk_at dksX0_held_1 8 rfl rfl)
theorem dX0_held_33 : decode cX0_held 33 = .ok (.iconst 0, 1) := dk_3 (dk_at dksX0_held_1 11 rfl rfl)
theorem dX0_held_34 : decode cX0_held 34 = .ok (.iadd, 1) := dk_96 (dk_at dksX0_held_1 12 rfl rfl)
theorem dX0_held_35 : decode cX0_held 35 = .ok (.istore_n 1, 1) := dk_60 (dk_at dksX0_held_1 13 rfl rfl)
theorem dX0_held_36 : decode cX0_held 36 = .ok (.iinc 2 1, 3) := dk_132 2 1 (dk_at dksX0_held_1 14 rfl rfl)
theorem dX0_held_39 : decode cX0_held 39 = .ok (.goto (-35), 3) := dk_167 255 221 (dk_at dksX0_held_1 17 rfl rfl)
theorem dX0_held_42 : decode cX0_held 42 = .ok (.iload_n 1, 1) := dk_27 (dk_at dksX0_held_1 20 rfl rfl)
theorem dX0_held_43 : decode cX0_held 43 = .ok (.ireturn, 1) := dk_172 (dk_at dksX0_held_1 21 rfl rfl)
abbrev cX0_drift : ByteArray := prog_1_method_47_code
def yX0_drift : MethodName := ⟨RX0, "drift", "(II)I"⟩
def dkwX0_drift_6 : List UInt8 := [21, 5, 112, 156, 0, 7, 4, 167, 0, 4, 3, 100, 172]
abbrev dktX0_drift_6 : List UInt8 := dkwX0_drift_6 ++ []
def dkwX0_drift_5 : List UInt8 := [132, 6, 1, 167, 255, 177, 21, 5, 154, 0, 9, 19, 1, 65, 167, 0, 22, 21, 4, 21, 5, 108, 21, 4]
abbrev dktX0_drift_5 : List UInt8 := dkwX0_drift_5 ++ dktX0_drift_6
def dkwX0_drift_4 : List UInt8 := [180, 0, 48, 21, 6, 50, 180, 0, 231, 180, 0, 120, 180, 1, 62, 100, 96, 54, 4, 132, 5, 1]
abbrev dktX0_drift_4 : List UInt8 := dkwX0_drift_4 ++ dktX0_drift_5
def dkwX0_drift_3 : List UInt8 := [21, 6, 184, 1, 58, 54, 7, 21, 7, 4, 17, 78, 32, 184, 0, 87, 153, 0, 30, 21, 4, 21, 7, 42]
abbrev dktX0_drift_3 : List UInt8 := dkwX0_drift_3 ++ dktX0_drift_4
def dkwX0_drift_2 : List UInt8 := [180, 1, 50, 198, 0, 72, 21, 6, 45, 182, 1, 54, 162, 0, 63, 45, 180, 1, 50, 45, 180, 1, 55]
abbrev dktX0_drift_2 : List UInt8 := dkwX0_drift_2 ++ dktX0_drift_3
def dkwX0_drift_1 : List UInt8 := [172, 42, 180, 0, 79, 3, 50, 78, 3, 54, 4, 3, 54, 5, 27, 54, 6, 21, 6, 28, 163, 0, 79, 45]
abbrev dktX0_drift_1 : List UInt8 := dkwX0_drift_1 ++ dktX0_drift_2
def dkwX0_drift_0 : List UInt8 := [42, 27, 182, 0, 228, 153, 0, 16, 42, 28, 182, 0, 228, 153, 0, 8, 27, 28, 164, 0, 7, 19, 1, 49]
abbrev dktX0_drift_0 : List UInt8 := dkwX0_drift_0 ++ dktX0_drift_1
theorem dksX0_drift_0 : cX0_drift.data.toList.drop 0 = dktX0_drift_0 := by decide +kernel
theorem dksX0_drift_1 : cX0_drift.data.toList.drop 24 = dktX0_drift_1 := dk_seg dksX0_drift_0 24 rfl rfl
theorem dksX0_drift_2 : cX0_drift.data.toList.drop 48 = dktX0_drift_2 := dk_seg dksX0_drift_1 24 rfl rfl
theorem dksX0_drift_3 : cX0_drift.data.toList.drop 71 = dktX0_drift_3 := dk_seg dksX0_drift_2 23 rfl rfl
theorem dksX0_drift_4 : cX0_drift.data.toList.drop 95 = dktX0_drift_4 := dk_seg dksX0_drift_3 24 rfl rfl
theorem dksX0_drift_5 : cX0_drift.data.toList.drop 117 = dktX0_drift_5 := dk_seg dksX0_drift_4 22 rfl rfl
theorem dksX0_drift_6 : cX0_drift.data.toList.drop 141 = dktX0_drift_6 := dk_seg dksX0_drift_5 24 rfl rfl
theorem dX0_drift_0 : decode cX0_drift 0 = .ok (.aload_n 0, 1) := dk_42 (dk_at dksX0_drift_0 0 rfl rfl)
theorem dX0_drift_1 : decode cX0_drift 1 = .ok (.iload_n 1, 1) := dk_27 (dk_at dksX0_drift_0 1 rfl rfl)
theorem dX0_drift_2 : decode cX0_drift 2 = .ok (.invokevirtual 228, 3) := dk_182 0 228 (dk_at dksX0_drift_0 2 rfl rfl)
theorem dX0_drift_5 : decode cX0_drift 5 = .ok (.ifCond .eq 16, 3) := dk_153 0 16 (dk_at dksX0_drift_0 5 rfl rfl)
theorem dX0_drift_8 : decode cX0_drift 8 = .ok (.aload_n 0, 1) := dk_42 (dk_at dksX0_drift_0 8 rfl rfl)
theorem dX0_drift_9 : decode cX0_drift 9 = .ok (.iload_n 2, 1) := dk_28 (dk_at dksX0_drift_0 9 rfl rfl)
theorem dX0_drift_10 : decode cX0_drift 10 = .ok (.invokevirtual 228, 3) := dk_182 0 228 (dk_at dksX0_drift_0 10 rfl rfl)
theorem dX0_drift_13 : decode cX0_drift 13 = .ok (.ifCond .eq 8, 3) := dk_153 0 8 (dk_at dksX0_drift_0 13 rfl rfl)
theorem dX0_drift_16 : decode cX0_drift 16 = .ok (.iload_n 1, 1) := dk_27 (dk_at dksX0_drift_0 16 rfl rfl)
theorem dX0_drift_17 : decode cX0_drift 17 = .ok (.iload_n 2, 1) := dk_28 (dk_at dksX0_drift_0 17 rfl rfl)
theorem dX0_drift_18 : decode cX0_drift 18 = .ok (.if_icmp .le 7, 3) := dk_164 0 7 (dk_at dksX0_drift_0 18 rfl rfl)
theorem dX0_drift_21 : decode cX0_drift 21 = .ok (.ldc_w 305, 3) := dk_19 1 49 (dk_at dksX0_drift_0 21 rfl rfl)
theorem dX0_drift_24 : decode cX0_drift 24 = .ok (.ireturn, 1) := dk_172 (dk_at dksX0_drift_1 0 rfl rfl)
theorem dX0_drift_25 : decode cX0_drift 25 = .ok (.aload_n 0, 1) := dk_42 (dk_at dksX0_drift_1 1 rfl rfl)
theorem dX0_drift_26 : decode cX0_drift 26 = .ok (.getfield 79, 3) := dk_180 0 79 (dk_at dksX0_drift_1 2 rfl rfl)
theorem dX0_drift_29 : decode cX0_drift 29 = .ok (.iconst 0, 1) := dk_3 (dk_at dksX0_drift_1 5 rfl rfl)
theorem dX0_drift_30 : decode cX0_drift 30 = .ok (.aaload, 1) := dk_50 (dk_at dksX0_drift_1 6 rfl rfl)
theorem dX0_drift_31 : decode cX0_drift 31 = .ok (.astore_n 3, 1) := dk_78 (dk_at dksX0_drift_1 7 rfl rfl)
theorem dX0_drift_32 : decode cX0_drift 32 = .ok (.iconst 0, 1) := dk_3 (dk_at dksX0_drift_1 8 rfl rfl)
theorem dX0_drift_33 : decode cX0_drift 33 = .ok (.istore 4, 2) := dk_54 4 (dk_at dksX0_drift_1 9 rfl rfl)
theorem dX0_drift_35 : decode cX0_drift 35 = .ok (.iconst 0, 1) := dk_3 (dk_at dksX0_drift_1 11 rfl rfl)
theorem dX0_drift_36 : decode cX0_drift 36 = .ok (.istore 5, 2) := dk_54 5 (dk_at dksX0_drift_1 12 rfl rfl)
theorem dX0_drift_38 : decode cX0_drift 38 = .ok (.iload_n 1, 1) := dk_27 (dk_at dksX0_drift_1 14 rfl rfl)
theorem dX0_drift_39 : decode cX0_drift 39 = .ok (.istore 6, 2) := dk_54 6 (dk_at dksX0_drift_1 15 rfl rfl)
theorem dX0_drift_41 : decode cX0_drift 41 = .ok (.iload 6, 2) := dk_21 6 (dk_at dksX0_drift_1 17 rfl rfl)
theorem dX0_drift_43 : decode cX0_drift 43 = .ok (.iload_n 2, 1) := dk_28 (dk_at dksX0_drift_1 19 rfl rfl)
theorem dX0_drift_44 : decode cX0_drift 44 = .ok (.if_icmp .gt 79, 3) := dk_163 0 79 (dk_at dksX0_drift_1 20 rfl rfl)
theorem dX0_drift_47 : decode cX0_drift 47 = .ok (.aload_n 3, 1) := dk_45 (dk_at dksX0_drift_1 23 rfl rfl)
theorem dX0_drift_48 : decode cX0_drift 48 = .ok (.getfield 306, 3) := dk_180 1 50 (dk_at dksX0_drift_2 0 rfl rfl)
theorem dX0_drift_51 : decode cX0_drift 51 = .ok (.ifnull 72, 3) := dk_198 0 72 (dk_at dksX0_drift_2 3 rfl rfl)
theorem dX0_drift_54 : decode cX0_drift 54 = .ok (.iload 6, 2) := dk_21 6 (dk_at dksX0_drift_2 6 rfl rfl)
theorem dX0_drift_56 : decode cX0_drift 56 = .ok (.aload_n 3, 1) := dk_45 (dk_at dksX0_drift_2 8 rfl rfl)
theorem dX0_drift_57 : decode cX0_drift 57 = .ok (.invokevirtual 310, 3) := dk_182 1 54 (dk_at dksX0_drift_2 9 rfl rfl)
theorem dX0_drift_60 : decode cX0_drift 60 = .ok (.if_icmp .ge 63, 3) := dk_162 0 63 (dk_at dksX0_drift_2 12 rfl rfl)
theorem dX0_drift_63 : decode cX0_drift 63 = .ok (.aload_n 3, 1) := dk_45 (dk_at dksX0_drift_2 15 rfl rfl)
theorem dX0_drift_64 : decode cX0_drift 64 = .ok (.getfield 306, 3) := dk_180 1 50 (dk_at dksX0_drift_2 16 rfl rfl)
theorem dX0_drift_67 : decode cX0_drift 67 = .ok (.aload_n 3, 1) := dk_45 (dk_at dksX0_drift_2 19 rfl rfl)
theorem dX0_drift_68 : decode cX0_drift 68 = .ok (.getfield 311, 3) := dk_180 1 55 (dk_at dksX0_drift_2 20 rfl rfl)
theorem dX0_drift_71 : decode cX0_drift 71 = .ok (.iload 6, 2) := dk_21 6 (dk_at dksX0_drift_3 0 rfl rfl)
theorem dX0_drift_73 : decode cX0_drift 73 = .ok (.invokestatic 314, 3) := dk_184 1 58 (dk_at dksX0_drift_3 2 rfl rfl)
theorem dX0_drift_76 : decode cX0_drift 76 = .ok (.istore 7, 2) := dk_54 7 (dk_at dksX0_drift_3 5 rfl rfl)
theorem dX0_drift_78 : decode cX0_drift 78 = .ok (.iload 7, 2) := dk_21 7 (dk_at dksX0_drift_3 7 rfl rfl)
theorem dX0_drift_80 : decode cX0_drift 80 = .ok (.iconst 1, 1) := dk_4 (dk_at dksX0_drift_3 9 rfl rfl)
theorem dX0_drift_81 : decode cX0_drift 81 = .ok (.sipush 20000, 3) := dk_17 78 32 (dk_at dksX0_drift_3 10 rfl rfl)
theorem dX0_drift_84 : decode cX0_drift 84 = .ok (.invokestatic 87, 3) := dk_184 0 87 (dk_at dksX0_drift_3 13 rfl rfl)
theorem dX0_drift_87 : decode cX0_drift 87 = .ok (.ifCond .eq 30, 3) := dk_153 0 30 (dk_at dksX0_drift_3 16 rfl rfl)
theorem dX0_drift_90 : decode cX0_drift 90 = .ok (.iload 4, 2) := dk_21 4 (dk_at dksX0_drift_3 19 rfl rfl)
theorem dX0_drift_92 : decode cX0_drift 92 = .ok (.iload 7, 2) := dk_21 7 (dk_at dksX0_drift_3 21 rfl rfl)
theorem dX0_drift_94 : decode cX0_drift 94 = .ok (.aload_n 0, 1) := dk_42 (dk_at dksX0_drift_3 23 rfl rfl)
theorem dX0_drift_95 : decode cX0_drift 95 = .ok (.getfield 48, 3) := dk_180 0 48 (dk_at dksX0_drift_4 0 rfl rfl)
theorem dX0_drift_98 : decode cX0_drift 98 = .ok (.iload 6, 2) := dk_21 6 (dk_at dksX0_drift_4 3 rfl rfl)
theorem dX0_drift_100 : decode cX0_drift 100 = .ok (.aaload, 1) := dk_50 (dk_at dksX0_drift_4 5 rfl rfl)
theorem dX0_drift_101 : decode cX0_drift 101 = .ok (.getfield 231, 3) := dk_180 0 231 (dk_at dksX0_drift_4 6 rfl rfl)
theorem dX0_drift_104 : decode cX0_drift 104 = .ok (.getfield 120, 3) := dk_180 0 120 (dk_at dksX0_drift_4 9 rfl rfl)
theorem dX0_drift_107 : decode cX0_drift 107 = .ok (.getfield 318, 3) := dk_180 1 62 (dk_at dksX0_drift_4 12 rfl rfl)
theorem dX0_drift_110 : decode cX0_drift 110 = .ok (.isub, 1) := dk_100 (dk_at dksX0_drift_4 15 rfl rfl)
theorem dX0_drift_111 : decode cX0_drift 111 = .ok (.iadd, 1) := dk_96 (dk_at dksX0_drift_4 16 rfl rfl)
theorem dX0_drift_112 : decode cX0_drift 112 = .ok (.istore 4, 2) := dk_54 4 (dk_at dksX0_drift_4 17 rfl rfl)
theorem dX0_drift_114 : decode cX0_drift 114 = .ok (.iinc 5 1, 3) := dk_132 5 1 (dk_at dksX0_drift_4 19 rfl rfl)
theorem dX0_drift_117 : decode cX0_drift 117 = .ok (.iinc 6 1, 3) := dk_132 6 1 (dk_at dksX0_drift_5 0 rfl rfl)
theorem dX0_drift_120 : decode cX0_drift 120 = .ok (.goto (-79), 3) := dk_167 255 177 (dk_at dksX0_drift_5 3 rfl rfl)
theorem dX0_drift_123 : decode cX0_drift 123 = .ok (.iload 5, 2) := dk_21 5 (dk_at dksX0_drift_5 6 rfl rfl)
theorem dX0_drift_125 : decode cX0_drift 125 = .ok (.ifCond .ne 9, 3) := dk_154 0 9 (dk_at dksX0_drift_5 8 rfl rfl)
theorem dX0_drift_128 : decode cX0_drift 128 = .ok (.ldc_w 321, 3) := dk_19 1 65 (dk_at dksX0_drift_5 11 rfl rfl)
theorem dX0_drift_131 : decode cX0_drift 131 = .ok (.goto 22, 3) := dk_167 0 22 (dk_at dksX0_drift_5 14 rfl rfl)
theorem dX0_drift_134 : decode cX0_drift 134 = .ok (.iload 4, 2) := dk_21 4 (dk_at dksX0_drift_5 17 rfl rfl)
theorem dX0_drift_136 : decode cX0_drift 136 = .ok (.iload 5, 2) := dk_21 5 (dk_at dksX0_drift_5 19 rfl rfl)
theorem dX0_drift_138 : decode cX0_drift 138 = .ok (.idiv, 1) := dk_108 (dk_at dksX0_drift_5 21 rfl rfl)
theorem dX0_drift_139 : decode cX0_drift 139 = .ok (.iload 4, 2) := dk_21 4 (dk_at dksX0_drift_5 22 rfl rfl)
theorem dX0_drift_141 : decode cX0_drift 141 = .ok (.iload 5, 2) := dk_21 5 (dk_at dksX0_drift_6 0 rfl rfl)
theorem dX0_drift_143 : decode cX0_drift 143 = .ok (.irem, 1) := dk_112 (dk_at dksX0_drift_6 2 rfl rfl)
theorem dX0_drift_144 : decode cX0_drift 144 = .ok (.ifCond .ge 7, 3) := dk_156 0 7 (dk_at dksX0_drift_6 3 rfl rfl)
theorem dX0_drift_147 : decode cX0_drift 147 = .ok (.iconst 1, 1) := dk_4 (dk_at dksX0_drift_6 6 rfl rfl)
theorem dX0_drift_148 : decode cX0_drift 148 = .ok (.goto 4, 3) := dk_167 0 4 (dk_at dksX0_drift_6 7 rfl rfl)
theorem dX0_drift_151 : decode cX0_drift 151 = .ok (.iconst 0, 1) := dk_3 (dk_at dksX0_drift_6 10 rfl rfl)
theorem dX0_drift_152 : decode cX0_drift 152 = .ok (.isub, 1) := dk_100 (dk_at dksX0_drift_6 11 rfl rfl)
theorem dX0_drift_153 : decode cX0_drift 153 = .ok (.ireturn, 1) := dk_172 (dk_at dksX0_drift_6 12 rfl rfl)
abbrev cX0_item : ByteArray := prog_1_method_52_code
def yX0_item : MethodName := ⟨RX0, "item", "(Ljava/lang/Object;II)I"⟩
def dkwX0_item_2 : List UInt8 := [42, 192, 1, 78, 28, 51, 172, 42, 192, 1, 80, 28, 53, 172, 42, 192, 1, 82, 28, 46, 172]
abbrev dktX0_item_2 : List UInt8 := dkwX0_item_2 ++ []
def dkwX0_item_1 : List UInt8 := [171, 0, 0, 0, 0, 0, 41, 0, 0, 0, 2, 0, 0, 0, 0, 0, 0, 0, 27, 0, 0, 0, 1, 0, 0, 0, 34]
abbrev dktX0_item_1 : List UInt8 := dkwX0_item_1 ++ dktX0_item_2
def dkwX0_item_0 : List UInt8 := [27]
abbrev dktX0_item_0 : List UInt8 := dkwX0_item_0 ++ dktX0_item_1
theorem dksX0_item_0 : cX0_item.data.toList.drop 0 = dktX0_item_0 := by decide +kernel
theorem dksX0_item_1 : cX0_item.data.toList.drop 1 = dktX0_item_1 := dk_seg dksX0_item_0 1 rfl rfl
theorem dksX0_item_2 : cX0_item.data.toList.drop 28 = dktX0_item_2 := dk_seg dksX0_item_1 27 rfl rfl
theorem dX0_item_0 : decode cX0_item 0 = .ok (.iload_n 1, 1) := dk_27 (dk_at dksX0_item_0 0 rfl rfl)
theorem dX0_item_1 : decode cX0_item 1 = .ok (.lookupswitch 41 #[(0, 27), (1, 34)], 27) := by decide +kernel
theorem dX0_item_28 : decode cX0_item 28 = .ok (.aload_n 0, 1) := dk_42 (dk_at dksX0_item_2 0 rfl rfl)
theorem dX0_item_29 : decode cX0_item 29 = .ok (.checkcast 334, 3) := dk_192 1 78 (dk_at dksX0_item_2 1 rfl rfl)
theorem dX0_item_32 : decode cX0_item 32 = .ok (.iload_n 2, 1) := dk_28 (dk_at dksX0_item_2 4 rfl rfl)
theorem dX0_item_33 : decode cX0_item 33 = .ok (.baload, 1) := dk_51 (dk_at dksX0_item_2 5 rfl rfl)
theorem dX0_item_34 : decode cX0_item 34 = .ok (.ireturn, 1) := dk_172 (dk_at dksX0_item_2 6 rfl rfl)
theorem dX0_item_35 : decode cX0_item 35 = .ok (.aload_n 0, 1) := dk_42 (dk_at dksX0_item_2 7 rfl rfl)
theorem dX0_item_36 : decode cX0_item 36 = .ok (.checkcast 336, 3) := dk_192 1 80 (dk_at dksX0_item_2 8 rfl rfl)
theorem dX0_item_39 : decode cX0_item 39 = .ok (.iload_n 2, 1) := dk_28 (dk_at dksX0_item_2 11 rfl rfl)
theorem dX0_item_40 : decode cX0_item 40 = .ok (.saload, 1) := dk_53 (dk_at dksX0_item_2 12 rfl rfl)
theorem dX0_item_41 : decode cX0_item 41 = .ok (.ireturn, 1) := dk_172 (dk_at dksX0_item_2 13 rfl rfl)
theorem dX0_item_42 : decode cX0_item 42 = .ok (.aload_n 0, 1) := dk_42 (dk_at dksX0_item_2 14 rfl rfl)
theorem dX0_item_43 : decode cX0_item 43 = .ok (.checkcast 338, 3) := dk_192 1 82 (dk_at dksX0_item_2 15 rfl rfl)
theorem dX0_item_46 : decode cX0_item 46 = .ok (.iload_n 2, 1) := dk_28 (dk_at dksX0_item_2 18 rfl rfl)
theorem dX0_item_47 : decode cX0_item 47 = .ok (.iaload, 1) := dk_46 (dk_at dksX0_item_2 19 rfl rfl)
theorem dX0_item_48 : decode cX0_item 48 = .ok (.ireturn, 1) := dk_172 (dk_at dksX0_item_2 20 rfl rfl)
abbrev cX0_sheet : ByteArray := prog_1_method_49_code
def yX0_sheet : MethodName := ⟨RX0, "sheet", "(III)I"⟩
def dkwX0_sheet_2 : List UInt8 := [182, 1, 75, 172, 42, 180, 0, 79, 27, 50, 28, 181, 1, 55, 29, 172]
abbrev dktX0_sheet_2 : List UInt8 := dkwX0_sheet_2 ++ []
def dkwX0_sheet_1 : List UInt8 := [16, 254, 172, 42, 180, 0, 79, 27, 50, 28, 29, 184, 1, 69, 181, 1, 50, 167, 0, 11, 58, 4, 42, 8]
abbrev dktX0_sheet_1 : List UInt8 := dkwX0_sheet_1 ++ dktX0_sheet_2
def dkwX0_sheet_0 : List UInt8 := [27, 184, 1, 66, 153, 0, 19, 28, 3, 5, 184, 0, 87, 153, 0, 10, 29, 17, 0, 200, 164, 0, 6]
abbrev dktX0_sheet_0 : List UInt8 := dkwX0_sheet_0 ++ dktX0_sheet_1
theorem dksX0_sheet_0 : cX0_sheet.data.toList.drop 0 = dktX0_sheet_0 := by decide +kernel
theorem dksX0_sheet_1 : cX0_sheet.data.toList.drop 23 = dktX0_sheet_1 := dk_seg dksX0_sheet_0 23 rfl rfl
theorem dksX0_sheet_2 : cX0_sheet.data.toList.drop 47 = dktX0_sheet_2 := dk_seg dksX0_sheet_1 24 rfl rfl
theorem dX0_sheet_0 : decode cX0_sheet 0 = .ok (.iload_n 1, 1) := dk_27 (dk_at dksX0_sheet_0 0 rfl rfl)
theorem dX0_sheet_1 : decode cX0_sheet 1 = .ok (.invokestatic 322, 3) := dk_184 1 66 (dk_at dksX0_sheet_0 1 rfl rfl)
theorem dX0_sheet_4 : decode cX0_sheet 4 = .ok (.ifCond .eq 19, 3) := dk_153 0 19 (dk_at dksX0_sheet_0 4 rfl rfl)
theorem dX0_sheet_7 : decode cX0_sheet 7 = .ok (.iload_n 2, 1) := dk_28 (dk_at dksX0_sheet_0 7 rfl rfl)
theorem dX0_sheet_8 : decode cX0_sheet 8 = .ok (.iconst 0, 1) := dk_3 (dk_at dksX0_sheet_0 8 rfl rfl)
theorem dX0_sheet_9 : decode cX0_sheet 9 = .ok (.iconst 2, 1) := dk_5 (dk_at dksX0_sheet_0 9 rfl rfl)
theorem dX0_sheet_10 : decode cX0_sheet 10 = .ok (.invokestatic 87, 3) := dk_184 0 87 (dk_at dksX0_sheet_0 10 rfl rfl)
theorem dX0_sheet_13 : decode cX0_sheet 13 = .ok (.ifCond .eq 10, 3) := dk_153 0 10 (dk_at dksX0_sheet_0 13 rfl rfl)
theorem dX0_sheet_16 : decode cX0_sheet 16 = .ok (.iload_n 3, 1) := dk_29 (dk_at dksX0_sheet_0 16 rfl rfl)
theorem dX0_sheet_17 : decode cX0_sheet 17 = .ok (.sipush 200, 3) := dk_17 0 200 (dk_at dksX0_sheet_0 17 rfl rfl)
theorem dX0_sheet_20 : decode cX0_sheet 20 = .ok (.if_icmp .le 6, 3) := dk_164 0 6 (dk_at dksX0_sheet_0 20 rfl rfl)
theorem dX0_sheet_23 : decode cX0_sheet 23 = .ok (.bipush (-2), 2) := dk_16 254 (dk_at dksX0_sheet_1 0 rfl rfl)
theorem dX0_sheet_25 : decode cX0_sheet 25 = .ok (.ireturn, 1) := dk_172 (dk_at dksX0_sheet_1 2 rfl rfl)
theorem dX0_sheet_26 : decode cX0_sheet 26 = .ok (.aload_n 0, 1) := dk_42 (dk_at dksX0_sheet_1 3 rfl rfl)
theorem dX0_sheet_27 : decode cX0_sheet 27 = .ok (.getfield 79, 3) := dk_180 0 79 (dk_at dksX0_sheet_1 4 rfl rfl)
theorem dX0_sheet_30 : decode cX0_sheet 30 = .ok (.iload_n 1, 1) := dk_27 (dk_at dksX0_sheet_1 7 rfl rfl)
theorem dX0_sheet_31 : decode cX0_sheet 31 = .ok (.aaload, 1) := dk_50 (dk_at dksX0_sheet_1 8 rfl rfl)
theorem dX0_sheet_32 : decode cX0_sheet 32 = .ok (.iload_n 2, 1) := dk_28 (dk_at dksX0_sheet_1 9 rfl rfl)
theorem dX0_sheet_33 : decode cX0_sheet 33 = .ok (.iload_n 3, 1) := dk_29 (dk_at dksX0_sheet_1 10 rfl rfl)
theorem dX0_sheet_34 : decode cX0_sheet 34 = .ok (.invokestatic 325, 3) := dk_184 1 69 (dk_at dksX0_sheet_1 11 rfl rfl)
theorem dX0_sheet_37 : decode cX0_sheet 37 = .ok (.putfield 306, 3) := dk_181 1 50 (dk_at dksX0_sheet_1 14 rfl rfl)
theorem dX0_sheet_40 : decode cX0_sheet 40 = .ok (.goto 11, 3) := dk_167 0 11 (dk_at dksX0_sheet_1 17 rfl rfl)
theorem dX0_sheet_43 : decode cX0_sheet 43 = .ok (.astore 4, 2) := dk_58 4 (dk_at dksX0_sheet_1 20 rfl rfl)
theorem dX0_sheet_45 : decode cX0_sheet 45 = .ok (.aload_n 0, 1) := dk_42 (dk_at dksX0_sheet_1 22 rfl rfl)
theorem dX0_sheet_46 : decode cX0_sheet 46 = .ok (.iconst 5, 1) := dk_8 (dk_at dksX0_sheet_1 23 rfl rfl)
theorem dX0_sheet_47 : decode cX0_sheet 47 = .ok (.invokevirtual 331, 3) := dk_182 1 75 (dk_at dksX0_sheet_2 0 rfl rfl)
theorem dX0_sheet_50 : decode cX0_sheet 50 = .ok (.ireturn, 1) := dk_172 (dk_at dksX0_sheet_2 3 rfl rfl)
theorem dX0_sheet_51 : decode cX0_sheet 51 = .ok (.aload_n 0, 1) := dk_42 (dk_at dksX0_sheet_2 4 rfl rfl)
theorem dX0_sheet_52 : decode cX0_sheet 52 = .ok (.getfield 79, 3) := dk_180 0 79 (dk_at dksX0_sheet_2 5 rfl rfl)
theorem dX0_sheet_55 : decode cX0_sheet 55 = .ok (.iload_n 1, 1) := dk_27 (dk_at dksX0_sheet_2 8 rfl rfl)
theorem dX0_sheet_56 : decode cX0_sheet 56 = .ok (.aaload, 1) := dk_50 (dk_at dksX0_sheet_2 9 rfl rfl)
theorem dX0_sheet_57 : decode cX0_sheet 57 = .ok (.iload_n 2, 1) := dk_28 (dk_at dksX0_sheet_2 10 rfl rfl)
theorem dX0_sheet_58 : decode cX0_sheet 58 = .ok (.putfield 311, 3) := dk_181 1 55 (dk_at dksX0_sheet_2 11 rfl rfl)
theorem dX0_sheet_61 : decode cX0_sheet 61 = .ok (.iload_n 3, 1) := dk_29 (dk_at dksX0_sheet_2 14 rfl rfl)
theorem dX0_sheet_62 : decode cX0_sheet 62 = .ok (.ireturn, 1) := dk_172 (dk_at dksX0_sheet_2 15 rfl rfl)
abbrev cX0_isSheet : ByteArray := prog_1_method_46_code
def yX0_isSheet : MethodName := ⟨RX0, "isSheet", "(I)Z"⟩
def dkwX0_isSheet_0 : List UInt8 := [26, 3, 6, 184, 0, 87, 172]
abbrev dktX0_isSheet_0 : List UInt8 := dkwX0_isSheet_0 ++ []
theorem dksX0_isSheet_0 : cX0_isSheet.data.toList.drop 0 = dktX0_isSheet_0 := by decide +kernel
theorem dX0_isSheet_0 : decode cX0_isSheet 0 = .ok (.iload_n 0, 1) := dk_26 (dk_at dksX0_isSheet_0 0 rfl rfl)
theorem dX0_isSheet_1 : decode cX0_isSheet 1 = .ok (.iconst 0, 1) := dk_3 (dk_at dksX0_isSheet_0 1 rfl rfl)
theorem dX0_isSheet_2 : decode cX0_isSheet 2 = .ok (.iconst 3, 1) := dk_6 (dk_at dksX0_isSheet_0 2 rfl rfl)
theorem dX0_isSheet_3 : decode cX0_isSheet 3 = .ok (.invokestatic 87, 3) := dk_184 0 87 (dk_at dksX0_isSheet_0 3 rfl rfl)
theorem dX0_isSheet_6 : decode cX0_isSheet 6 = .ok (.ireturn, 1) := dk_172 (dk_at dksX0_isSheet_0 6 rfl rfl)
abbrev cX0_rowOf : ByteArray := prog_1_method_48_code
def yX0_rowOf : MethodName := ⟨RX0, "rowOf", "(II)Ljava/lang/Object;"⟩
def dkwX0_rowOf_2 : List UInt8 := [27, 188, 8, 176, 27, 188, 9, 176, 27, 188, 10, 176]
abbrev dktX0_rowOf_2 : List UInt8 := dkwX0_rowOf_2 ++ []
def dkwX0_rowOf_1 : List UInt8 := [171, 0, 0, 0, 0, 0, 35, 0, 0, 0, 2, 0, 0, 0, 0, 0, 0, 0, 27, 0, 0, 0, 1, 0, 0, 0, 31]
abbrev dktX0_rowOf_1 : List UInt8 := dkwX0_rowOf_1 ++ dktX0_rowOf_2
def dkwX0_rowOf_0 : List UInt8 := [26]
abbrev dktX0_rowOf_0 : List UInt8 := dkwX0_rowOf_0 ++ dktX0_rowOf_1
theorem dksX0_rowOf_0 : cX0_rowOf.data.toList.drop 0 = dktX0_rowOf_0 := by decide +kernel
theorem dksX0_rowOf_1 : cX0_rowOf.data.toList.drop 1 = dktX0_rowOf_1 := dk_seg dksX0_rowOf_0 1 rfl rfl
theorem dksX0_rowOf_2 : cX0_rowOf.data.toList.drop 28 = dktX0_rowOf_2 := dk_seg dksX0_rowOf_1 27 rfl rfl
theorem dX0_rowOf_0 : decode cX0_rowOf 0 = .ok (.iload_n 0, 1) := dk_26 (dk_at dksX0_rowOf_0 0 rfl rfl)
theorem dX0_rowOf_1 : decode cX0_rowOf 1 = .ok (.lookupswitch 35 #[(0, 27), (1, 31)], 27) := by decide +kernel
theorem dX0_rowOf_28 : decode cX0_rowOf 28 = .ok (.iload_n 1, 1) := dk_27 (dk_at dksX0_rowOf_2 0 rfl rfl)
theorem dX0_rowOf_29 : decode cX0_rowOf 29 = .ok (.newarray .byte, 2) := dk_188_8 (dk_at dksX0_rowOf_2 1 rfl rfl)
theorem dX0_rowOf_31 : decode cX0_rowOf 31 = .ok (.areturn, 1) := dk_176 (dk_at dksX0_rowOf_2 3 rfl rfl)
theorem dX0_rowOf_32 : decode cX0_rowOf 32 = .ok (.iload_n 1, 1) := dk_27 (dk_at dksX0_rowOf_2 4 rfl rfl)
theorem dX0_rowOf_33 : decode cX0_rowOf 33 = .ok (.newarray .short, 2) := dk_188_9 (dk_at dksX0_rowOf_2 5 rfl rfl)
theorem dX0_rowOf_35 : decode cX0_rowOf 35 = .ok (.areturn, 1) := dk_176 (dk_at dksX0_rowOf_2 7 rfl rfl)
theorem dX0_rowOf_36 : decode cX0_rowOf 36 = .ok (.iload_n 1, 1) := dk_27 (dk_at dksX0_rowOf_2 8 rfl rfl)
theorem dX0_rowOf_37 : decode cX0_rowOf 37 = .ok (.newarray .int, 2) := dk_188_10 (dk_at dksX0_rowOf_2 9 rfl rfl)
theorem dX0_rowOf_39 : decode cX0_rowOf 39 = .ok (.areturn, 1) := dk_176 (dk_at dksX0_rowOf_2 11 rfl rfl)
abbrev cX0_meets : ByteArray := prog_1_method_45_code
def yX0_meets : MethodName := ⟨RX0, "meets", "(I)I"⟩
def dkwX0_meets_0 : List UInt8 := [42, 27, 181, 1, 46, 16, 246, 27, 100, 172]
abbrev dktX0_meets_0 : List UInt8 := dkwX0_meets_0 ++ []
theorem dksX0_meets_0 : cX0_meets.data.toList.drop 0 = dktX0_meets_0 := by decide +kernel
theorem dX0_meets_0 : decode cX0_meets 0 = .ok (.aload_n 0, 1) := dk_42 (dk_at dksX0_meets_0 0 rfl rfl)
theorem dX0_meets_1 : decode cX0_meets 1 = .ok (.iload_n 1, 1) := dk_27 (dk_at dksX0_meets_0 1 rfl rfl)
theorem dX0_meets_2 : decode cX0_meets 2 = .ok (.putfield 302, 3) := dk_181 1 46 (dk_at dksX0_meets_0 2 rfl rfl)
theorem dX0_meets_5 : decode cX0_meets 5 = .ok (.bipush (-10), 2) := dk_16 246 (dk_at dksX0_meets_0 5 rfl rfl)
theorem dX0_meets_7 : decode cX0_meets 7 = .ok (.iload_n 1, 1) := dk_27 (dk_at dksX0_meets_0 7 rfl rfl)
theorem dX0_meets_8 : decode cX0_meets 8 = .ok (.isub, 1) := dk_100 (dk_at dksX0_meets_0 8 rfl rfl)
theorem dX0_meets_9 : decode cX0_meets 9 = .ok (.ireturn, 1) := dk_172 (dk_at dksX0_meets_0 9 rfl rfl)
abbrev cX0_lose : ByteArray := prog_1_method_50_code
def yX0_lose : MethodName := ⟨RX0, "lose", "(I)I"⟩
def dkwX0_lose_2 : List UInt8 := [28, 172]
abbrev dktX0_lose_2 : List UInt8 := dkwX0_lose_2 ++ []
def dkwX0_lose_1 : List UInt8 := [182, 1, 75, 172, 42, 180, 0, 79, 27, 50, 182, 1, 54, 61, 42, 180, 0, 79, 27, 50, 1, 181, 1, 50]
abbrev dktX0_lose_1 : List UInt8 := dkwX0_lose_1 ++ dktX0_lose_2
def dkwX0_lose_0 : List UInt8 := [27, 184, 1, 66, 154, 0, 6, 16, 254, 172, 42, 180, 0, 79, 27, 50, 180, 1, 50, 199, 0, 9, 42, 4]
abbrev dktX0_lose_0 : List UInt8 := dkwX0_lose_0 ++ dktX0_lose_1
theorem dksX0_lose_0 : cX0_lose.data.toList.drop 0 = dktX0_lose_0 := by decide +kernel
theorem dksX0_lose_1 : cX0_lose.data.toList.drop 24 = dktX0_lose_1 := dk_seg dksX0_lose_0 24 rfl rfl
theorem dksX0_lose_2 : cX0_lose.data.toList.drop 48 = dktX0_lose_2 := dk_seg dksX0_lose_1 24 rfl rfl
theorem dX0_lose_0 : decode cX0_lose 0 = .ok (.iload_n 1, 1) := dk_27 (dk_at dksX0_lose_0 0 rfl rfl)
theorem dX0_lose_1 : decode cX0_lose 1 = .ok (.invokestatic 322, 3) := dk_184 1 66 (dk_at dksX0_lose_0 1 rfl rfl)
theorem dX0_lose_4 : decode cX0_lose 4 = .ok (.ifCond .ne 6, 3) := dk_154 0 6 (dk_at dksX0_lose_0 4 rfl rfl)
theorem dX0_lose_7 : decode cX0_lose 7 = .ok (.bipush (-2), 2) := dk_16 254 (dk_at dksX0_lose_0 7 rfl rfl)
theorem dX0_lose_9 : decode cX0_lose 9 = .ok (.ireturn, 1) := dk_172 (dk_at dksX0_lose_0 9 rfl rfl)
theorem dX0_lose_10 : decode cX0_lose 10 = .ok (.aload_n 0, 1) := dk_42 (dk_at dksX0_lose_0 10 rfl rfl)
theorem dX0_lose_11 : decode cX0_lose 11 = .ok (.getfield 79, 3) := dk_180 0 79 (dk_at dksX0_lose_0 11 rfl rfl)
theorem dX0_lose_14 : decode cX0_lose 14 = .ok (.iload_n 1, 1) := dk_27 (dk_at dksX0_lose_0 14 rfl rfl)
theorem dX0_lose_15 : decode cX0_lose 15 = .ok (.aaload, 1) := dk_50 (dk_at dksX0_lose_0 15 rfl rfl)
theorem dX0_lose_16 : decode cX0_lose 16 = .ok (.getfield 306, 3) := dk_180 1 50 (dk_at dksX0_lose_0 16 rfl rfl)
theorem dX0_lose_19 : decode cX0_lose 19 = .ok (.ifnonnull 9, 3) := dk_199 0 9 (dk_at dksX0_lose_0 19 rfl rfl)
theorem dX0_lose_22 : decode cX0_lose 22 = .ok (.aload_n 0, 1) := dk_42 (dk_at dksX0_lose_0 22 rfl rfl)
theorem dX0_lose_23 : decode cX0_lose 23 = .ok (.iconst 1, 1) := dk_4 (dk_at dksX0_lose_0 23 rfl rfl)
theorem dX0_lose_24 : decode cX0_lose 24 = .ok (.invokevirtual 331, 3) := dk_182 1 75 (dk_at dksX0_lose_1 0 rfl rfl)
theorem dX0_lose_27 : decode cX0_lose 27 = .ok (.ireturn, 1) := dk_172 (dk_at dksX0_lose_1 3 rfl rfl)
theorem dX0_lose_28 : decode cX0_lose 28 = .ok (.aload_n 0, 1) := dk_42 (dk_at dksX0_lose_1 4 rfl rfl)
theorem dX0_lose_29 : decode cX0_lose 29 = .ok (.getfield 79, 3) := dk_180 0 79 (dk_at dksX0_lose_1 5 rfl rfl)
theorem dX0_lose_32 : decode cX0_lose 32 = .ok (.iload_n 1, 1) := dk_27 (dk_at dksX0_lose_1 8 rfl rfl)
theorem dX0_lose_33 : decode cX0_lose 33 = .ok (.aaload, 1) := dk_50 (dk_at dksX0_lose_1 9 rfl rfl)
theorem dX0_lose_34 : decode cX0_lose 34 = .ok (.invokevirtual 310, 3) := dk_182 1 54 (dk_at dksX0_lose_1 10 rfl rfl)
theorem dX0_lose_37 : decode cX0_lose 37 = .ok (.istore_n 2, 1) := dk_61 (dk_at dksX0_lose_1 13 rfl rfl)
theorem dX0_lose_38 : decode cX0_lose 38 = .ok (.aload_n 0, 1) := dk_42 (dk_at dksX0_lose_1 14 rfl rfl)
theorem dX0_lose_39 : decode cX0_lose 39 = .ok (.getfield 79, 3) := dk_180 0 79 (dk_at dksX0_lose_1 15 rfl rfl)
theorem dX0_lose_42 : decode cX0_lose 42 = .ok (.iload_n 1, 1) := dk_27 (dk_at dksX0_lose_1 18 rfl rfl)
theorem dX0_lose_43 : decode cX0_lose 43 = .ok (.aaload, 1) := dk_50 (dk_at dksX0_lose_1 19 rfl rfl)
theorem dX0_lose_44 : decode cX0_lose 44 = .ok (.aconst_null, 1) := dk_1 (dk_at dksX0_lose_1 20 rfl rfl)
theorem dX0_lose_45 : decode cX0_lose 45 = .ok (.putfield 306, 3) := dk_181 1 50 (dk_at dksX0_lose_1 21 rfl rfl)
theorem dX0_lose_48 : decode cX0_lose 48 = .ok (.iload_n 2, 1) := dk_28 (dk_at dksX0_lose_2 0 rfl rfl)
theorem dX0_lose_49 : decode cX0_lose 49 = .ok (.ireturn, 1) := dk_172 (dk_at dksX0_lose_2 1 rfl rfl)
abbrev cX0_put : ByteArray := prog_1_method_53_code
def yX0_put : MethodName := ⟨RX0, "put", "(IIII)I"⟩
def dkwX0_put_2 : List UInt8 := [6, 182, 1, 75, 172, 58, 5, 42, 5, 182, 1, 75, 172]
abbrev dktX0_put_2 : List UInt8 := dkwX0_put_2 ++ []
def dkwX0_put_1 : List UInt8 := [50, 180, 1, 50, 28, 29, 21, 4, 184, 1, 83, 4, 172, 58, 5, 42, 4, 182, 1, 75, 172, 58, 5, 42]
abbrev dktX0_put_1 : List UInt8 := dkwX0_put_1 ++ dktX0_put_2
def dkwX0_put_0 : List UInt8 := [27, 184, 1, 66, 153, 0, 12, 28, 3, 5, 184, 0, 87, 154, 0, 6, 16, 254, 172, 42, 180, 0, 79, 27]
abbrev dktX0_put_0 : List UInt8 := dkwX0_put_0 ++ dktX0_put_1
theorem dksX0_put_0 : cX0_put.data.toList.drop 0 = dktX0_put_0 := by decide +kernel
theorem dksX0_put_1 : cX0_put.data.toList.drop 24 = dktX0_put_1 := dk_seg dksX0_put_0 24 rfl rfl
theorem dksX0_put_2 : cX0_put.data.toList.drop 48 = dktX0_put_2 := dk_seg dksX0_put_1 24 rfl rfl
theorem dX0_put_0 : decode cX0_put 0 = .ok (.iload_n 1, 1) := dk_27 (dk_at dksX0_put_0 0 rfl rfl)
theorem dX0_put_1 : decode cX0_put 1 = .ok (.invokestatic 322, 3) := dk_184 1 66 (dk_at dksX0_put_0 1 rfl rfl)
theorem dX0_put_4 : decode cX0_put 4 = .ok (.ifCond .eq 12, 3) := dk_153 0 12 (dk_at dksX0_put_0 4 rfl rfl)
theorem dX0_put_7 : decode cX0_put 7 = .ok (.iload_n 2, 1) := dk_28 (dk_at dksX0_put_0 7 rfl rfl)
theorem dX0_put_8 : decode cX0_put 8 = .ok (.iconst 0, 1) := dk_3 (dk_at dksX0_put_0 8 rfl rfl)
theorem dX0_put_9 : decode cX0_put 9 = .ok (.iconst 2, 1) := dk_5 (dk_at dksX0_put_0 9 rfl rfl)
theorem dX0_put_10 : decode cX0_put 10 = .ok (.invokestatic 87, 3) := dk_184 0 87 (dk_at dksX0_put_0 10 rfl rfl)
theorem dX0_put_13 : decode cX0_put 13 = .ok (.ifCond .ne 6, 3) := dk_154 0 6 (dk_at dksX0_put_0 13 rfl rfl)
theorem dX0_put_16 : decode cX0_put 16 = .ok (.bipush (-2), 2) := dk_16 254 (dk_at dksX0_put_0 16 rfl rfl)
theorem dX0_put_18 : decode cX0_put 18 = .ok (.ireturn, 1) := dk_172 (dk_at dksX0_put_0 18 rfl rfl)
theorem dX0_put_19 : decode cX0_put 19 = .ok (.aload_n 0, 1) := dk_42 (dk_at dksX0_put_0 19 rfl rfl)
theorem dX0_put_20 : decode cX0_put 20 = .ok (.getfield 79, 3) := dk_180 0 79 (dk_at dksX0_put_0 20 rfl rfl)
theorem dX0_put_23 : decode cX0_put 23 = .ok (.iload_n 1, 1) := dk_27 (dk_at dksX0_put_0 23 rfl rfl)
theorem dX0_put_24 : decode cX0_put 24 = .ok (.aaload, 1) := dk_50 (dk_at dksX0_put_1 0 rfl rfl)
theorem dX0_put_25 : decode cX0_put 25 = .ok (.getfield 306, 3) := dk_180 1 50 (dk_at dksX0_put_1 1 rfl rfl)
theorem dX0_put_28 : decode cX0_put 28 = .ok (.iload_n 2, 1) := dk_28 (dk_at dksX0_put_1 4 rfl rfl)
theorem dX0_put_29 : decode cX0_put 29 = .ok (.iload_n 3, 1) := dk_29 (dk_at dksX0_put_1 5 rfl rfl)
theorem dX0_put_30 : decode cX0_put 30 = .ok (.iload 4, 2) := dk_21 4 (dk_at dksX0_put_1 6 rfl rfl)
theorem dX0_put_32 : decode cX0_put 32 = .ok (.invokestatic 339, 3) := dk_184 1 83 (dk_at dksX0_put_1 8 rfl rfl)
theorem dX0_put_35 : decode cX0_put 35 = .ok (.iconst 1, 1) := dk_4 (dk_at dksX0_put_1 11 rfl rfl)
theorem dX0_put_36 : decode cX0_put 36 = .ok (.ireturn, 1) := dk_172 (dk_at dksX0_put_1 12 rfl rfl)
theorem dX0_put_37 : decode cX0_put 37 = .ok (.astore 5, 2) := dk_58 5 (dk_at dksX0_put_1 13 rfl rfl)
theorem dX0_put_39 : decode cX0_put 39 = .ok (.aload_n 0, 1) := dk_42 (dk_at dksX0_put_1 15 rfl rfl)
theorem dX0_put_40 : decode cX0_put 40 = .ok (.iconst 1, 1) := dk_4 (dk_at dksX0_put_1 16 rfl rfl)
theorem dX0_put_41 : decode cX0_put 41 = .ok (.invokevirtual 331, 3) := dk_182 1 75 (dk_at dksX0_put_1 17 rfl rfl)
theorem dX0_put_44 : decode cX0_put 44 = .ok (.ireturn, 1) := dk_172 (dk_at dksX0_put_1 20 rfl rfl)
theorem dX0_put_45 : decode cX0_put 45 = .ok (.astore 5, 2) := dk_58 5 (dk_at dksX0_put_1 21 rfl rfl)
theorem dX0_put_47 : decode cX0_put 47 = .ok (.aload_n 0, 1) := dk_42 (dk_at dksX0_put_1 23 rfl rfl)
theorem dX0_put_48 : decode cX0_put 48 = .ok (.iconst 3, 1) := dk_6 (dk_at dksX0_put_2 0 rfl rfl)
theorem dX0_put_49 : decode cX0_put 49 = .ok (.invokevirtual 331, 3) := dk_182 1 75 (dk_at dksX0_put_2 1 rfl rfl)
theorem dX0_put_52 : decode cX0_put 52 = .ok (.ireturn, 1) := dk_172 (dk_at dksX0_put_2 4 rfl rfl)
theorem dX0_put_53 : decode cX0_put 53 = .ok (.astore 5, 2) := dk_58 5 (dk_at dksX0_put_2 5 rfl rfl)
theorem dX0_put_55 : decode cX0_put 55 = .ok (.aload_n 0, 1) := dk_42 (dk_at dksX0_put_2 7 rfl rfl)
theorem dX0_put_56 : decode cX0_put 56 = .ok (.iconst 2, 1) := dk_5 (dk_at dksX0_put_2 8 rfl rfl)
theorem dX0_put_57 : decode cX0_put 57 = .ok (.invokevirtual 331, 3) := dk_182 1 75 (dk_at dksX0_put_2 9 rfl rfl)
theorem dX0_put_60 : decode cX0_put 60 = .ok (.ireturn, 1) := dk_172 (dk_at dksX0_put_2 12 rfl rfl)
abbrev cX0_lay : ByteArray := prog_1_method_51_code
def yX0_lay : MethodName := ⟨RX0, "lay", "(Ljava/lang/Object;III)V"⟩
def dkwX0_lay_3 : List UInt8 := [192, 1, 82, 28, 29, 79, 177]
abbrev dktX0_lay_3 : List UInt8 := dkwX0_lay_3 ++ []
def dkwX0_lay_2 : List UInt8 := [42, 192, 1, 78, 28, 29, 145, 84, 167, 0, 21, 42, 192, 1, 80, 28, 29, 147, 86, 167, 0, 10, 42]
abbrev dktX0_lay_2 : List UInt8 := dkwX0_lay_2 ++ dktX0_lay_3
def dkwX0_lay_1 : List UInt8 := [171, 0, 0, 0, 0, 0, 49, 0, 0, 0, 2, 0, 0, 0, 0, 0, 0, 0, 27, 0, 0, 0, 1, 0, 0, 0, 38]
abbrev dktX0_lay_1 : List UInt8 := dkwX0_lay_1 ++ dktX0_lay_2
def dkwX0_lay_0 : List UInt8 := [27]
abbrev dktX0_lay_0 : List UInt8 := dkwX0_lay_0 ++ dktX0_lay_1
theorem dksX0_lay_0 : cX0_lay.data.toList.drop 0 = dktX0_lay_0 := by decide +kernel
theorem dksX0_lay_1 : cX0_lay.data.toList.drop 1 = dktX0_lay_1 := dk_seg dksX0_lay_0 1 rfl rfl
theorem dksX0_lay_2 : cX0_lay.data.toList.drop 28 = dktX0_lay_2 := dk_seg dksX0_lay_1 27 rfl rfl
theorem dksX0_lay_3 : cX0_lay.data.toList.drop 51 = dktX0_lay_3 := dk_seg dksX0_lay_2 23 rfl rfl
theorem dX0_lay_0 : decode cX0_lay 0 = .ok (.iload_n 1, 1) := dk_27 (dk_at dksX0_lay_0 0 rfl rfl)
theorem dX0_lay_1 : decode cX0_lay 1 = .ok (.lookupswitch 49 #[(0, 27), (1, 38)], 27) := by decide +kernel
theorem dX0_lay_28 : decode cX0_lay 28 = .ok (.aload_n 0, 1) := dk_42 (dk_at dksX0_lay_2 0 rfl rfl)
theorem dX0_lay_29 : decode cX0_lay 29 = .ok (.checkcast 334, 3) := dk_192 1 78 (dk_at dksX0_lay_2 1 rfl rfl)
theorem dX0_lay_32 : decode cX0_lay 32 = .ok (.iload_n 2, 1) := dk_28 (dk_at dksX0_lay_2 4 rfl rfl)
theorem dX0_lay_33 : decode cX0_lay 33 = .ok (.iload_n 3, 1) := dk_29 (dk_at dksX0_lay_2 5 rfl rfl)
theorem dX0_lay_34 : decode cX0_lay 34 = .ok (.i2b, 1) := dk_145 (dk_at dksX0_lay_2 6 rfl rfl)
theorem dX0_lay_35 : decode cX0_lay 35 = .ok (.bastore, 1) := dk_84 (dk_at dksX0_lay_2 7 rfl rfl)
theorem dX0_lay_36 : decode cX0_lay 36 = .ok (.goto 21, 3) := dk_167 0 21 (dk_at dksX0_lay_2 8 rfl rfl)
theorem dX0_lay_39 : decode cX0_lay 39 = .ok (.aload_n 0, 1) := dk_42 (dk_at dksX0_lay_2 11 rfl rfl)
theorem dX0_lay_40 : decode cX0_lay 40 = .ok (.checkcast 336, 3) := dk_192 1 80 (dk_at dksX0_lay_2 12 rfl rfl)
theorem dX0_lay_43 : decode cX0_lay 43 = .ok (.iload_n 2, 1) := dk_28 (dk_at dksX0_lay_2 15 rfl rfl)
theorem dX0_lay_44 : decode cX0_lay 44 = .ok (.iload_n 3, 1) := dk_29 (dk_at dksX0_lay_2 16 rfl rfl)
theorem dX0_lay_45 : decode cX0_lay 45 = .ok (.i2s, 1) := dk_147 (dk_at dksX0_lay_2 17 rfl rfl)
theorem dX0_lay_46 : decode cX0_lay 46 = .ok (.sastore, 1) := dk_86 (dk_at dksX0_lay_2 18 rfl rfl)
theorem dX0_lay_47 : decode cX0_lay 47 = .ok (.goto 10, 3) := dk_167 0 10 (dk_at dksX0_lay_2 19 rfl rfl)
theorem dX0_lay_50 : decode cX0_lay 50 = .ok (.aload_n 0, 1) := dk_42 (dk_at dksX0_lay_2 22 rfl rfl)
theorem dX0_lay_51 : decode cX0_lay 51 = .ok (.checkcast 338, 3) := dk_192 1 82 (dk_at dksX0_lay_3 0 rfl rfl)
theorem dX0_lay_54 : decode cX0_lay 54 = .ok (.iload_n 2, 1) := dk_28 (dk_at dksX0_lay_3 3 rfl rfl)
theorem dX0_lay_55 : decode cX0_lay 55 = .ok (.iload_n 3, 1) := dk_29 (dk_at dksX0_lay_3 4 rfl rfl)
theorem dX0_lay_56 : decode cX0_lay 56 = .ok (.iastore, 1) := dk_79 (dk_at dksX0_lay_3 5 rfl rfl)
theorem dX0_lay_57 : decode cX0_lay 57 = .ok (.return_, 1) := dk_177 (dk_at dksX0_lay_3 6 rfl rfl)
abbrev cX0_get : ByteArray := prog_1_method_54_code
def yX0_get : MethodName := ⟨RX0, "get", "(III)I"⟩
def dkwX0_get_2 : List UInt8 := [6, 54, 4, 167, 0, 8, 58, 5, 5, 54, 4, 42, 21, 4, 181, 1, 46, 19, 1, 91, 172]
abbrev dktX0_get_2 : List UInt8 := dkwX0_get_2 ++ []
def dkwX0_get_1 : List UInt8 := [180, 0, 79, 27, 50, 180, 1, 50, 28, 29, 184, 1, 58, 172, 58, 5, 4, 54, 4, 167, 0, 16, 58, 5]
abbrev dktX0_get_1 : List UInt8 := dkwX0_get_1 ++ dktX0_get_2
def dkwX0_get_0 : List UInt8 := [27, 184, 1, 66, 153, 0, 12, 28, 3, 5, 184, 0, 87, 154, 0, 7, 19, 1, 91, 172, 3, 54, 4, 42]
abbrev dktX0_get_0 : List UInt8 := dkwX0_get_0 ++ dktX0_get_1
theorem dksX0_get_0 : cX0_get.data.toList.drop 0 = dktX0_get_0 := by decide +kernel
theorem dksX0_get_1 : cX0_get.data.toList.drop 24 = dktX0_get_1 := dk_seg dksX0_get_0 24 rfl rfl
theorem dksX0_get_2 : cX0_get.data.toList.drop 48 = dktX0_get_2 := dk_seg dksX0_get_1 24 rfl rfl
theorem dX0_get_0 : decode cX0_get 0 = .ok (.iload_n 1, 1) := dk_27 (dk_at dksX0_get_0 0 rfl rfl)
theorem dX0_get_1 : decode cX0_get 1 = .ok (.invokestatic 322, 3) := dk_184 1 66 (dk_at dksX0_get_0 1 rfl rfl)
theorem dX0_get_4 : decode cX0_get 4 = .ok (.ifCond .eq 12, 3) := dk_153 0 12 (dk_at dksX0_get_0 4 rfl rfl)
theorem dX0_get_7 : decode cX0_get 7 = .ok (.iload_n 2, 1) := dk_28 (dk_at dksX0_get_0 7 rfl rfl)
theorem dX0_get_8 : decode cX0_get 8 = .ok (.iconst 0, 1) := dk_3 (dk_at dksX0_get_0 8 rfl rfl)
theorem dX0_get_9 : decode cX0_get 9 = .ok (.iconst 2, 1) := dk_5 (dk_at dksX0_get_0 9 rfl rfl)
theorem dX0_get_10 : decode cX0_get 10 = .ok (.invokestatic 87, 3) := dk_184 0 87 (dk_at dksX0_get_0 10 rfl rfl)
theorem dX0_get_13 : decode cX0_get 13 = .ok (.ifCond .ne 7, 3) := dk_154 0 7 (dk_at dksX0_get_0 13 rfl rfl)
theorem dX0_get_16 : decode cX0_get 16 = .ok (.ldc_w 347, 3) := dk_19 1 91 (dk_at dksX0_get_0 16 rfl rfl)
theorem dX0_get_19 : decode cX0_get 19 = .ok (.ireturn, 1) := dk_172 (dk_at dksX0_get_0 19 rfl rfl)
theorem dX0_get_20 : decode cX0_get 20 = .ok (.iconst 0, 1) := dk_3 (dk_at dksX0_get_0 20 rfl rfl)
theorem dX0_get_21 : decode cX0_get 21 = .ok (.istore 4, 2) := dk_54 4 (dk_at dksX0_get_0 21 rfl rfl)
theorem dX0_get_23 : decode cX0_get 23 = .ok (.aload_n 0, 1) := dk_42 (dk_at dksX0_get_0 23 rfl rfl)
theorem dX0_get_24 : decode cX0_get 24 = .ok (.getfield 79, 3) := dk_180 0 79 (dk_at dksX0_get_1 0 rfl rfl)
theorem dX0_get_27 : decode cX0_get 27 = .ok (.iload_n 1, 1) := dk_27 (dk_at dksX0_get_1 3 rfl rfl)
theorem dX0_get_28 : decode cX0_get 28 = .ok (.aaload, 1) := dk_50 (dk_at dksX0_get_1 4 rfl rfl)
theorem dX0_get_29 : decode cX0_get 29 = .ok (.getfield 306, 3) := dk_180 1 50 (dk_at dksX0_get_1 5 rfl rfl)
theorem dX0_get_32 : decode cX0_get 32 = .ok (.iload_n 2, 1) := dk_28 (dk_at dksX0_get_1 8 rfl rfl)
theorem dX0_get_33 : decode cX0_get 33 = .ok (.iload_n 3, 1) := dk_29 (dk_at dksX0_get_1 9 rfl rfl)
theorem dX0_get_34 : decode cX0_get 34 = .ok (.invokestatic 314, 3) := dk_184 1 58 (dk_at dksX0_get_1 10 rfl rfl)
theorem dX0_get_37 : decode cX0_get 37 = .ok (.ireturn, 1) := dk_172 (dk_at dksX0_get_1 13 rfl rfl)
theorem dX0_get_38 : decode cX0_get 38 = .ok (.astore 5, 2) := dk_58 5 (dk_at dksX0_get_1 14 rfl rfl)
theorem dX0_get_40 : decode cX0_get 40 = .ok (.iconst 1, 1) := dk_4 (dk_at dksX0_get_1 16 rfl rfl)
theorem dX0_get_41 : decode cX0_get 41 = .ok (.istore 4, 2) := dk_54 4 (dk_at dksX0_get_1 17 rfl rfl)
theorem dX0_get_43 : decode cX0_get 43 = .ok (.goto 16, 3) := dk_167 0 16 (dk_at dksX0_get_1 19 rfl rfl)
theorem dX0_get_46 : decode cX0_get 46 = .ok (.astore 5, 2) := dk_58 5 (dk_at dksX0_get_1 22 rfl rfl)
theorem dX0_get_48 : decode cX0_get 48 = .ok (.iconst 3, 1) := dk_6 (dk_at dksX0_get_2 0 rfl rfl)
theorem dX0_get_49 : decode cX0_get 49 = .ok (.istore 4, 2) := dk_54 4 (dk_at dksX0_get_2 1 rfl rfl)
theorem dX0_get_51 : decode cX0_get 51 = .ok (.goto 8, 3) := dk_167 0 8 (dk_at dksX0_get_2 3 rfl rfl)
theorem dX0_get_54 : decode cX0_get 54 = .ok (.astore 5, 2) := dk_58 5 (dk_at dksX0_get_2 6 rfl rfl)
theorem dX0_get_56 : decode cX0_get 56 = .ok (.iconst 2, 1) := dk_5 (dk_at dksX0_get_2 8 rfl rfl)
theorem dX0_get_57 : decode cX0_get 57 = .ok (.istore 4, 2) := dk_54 4 (dk_at dksX0_get_2 9 rfl rfl)
theorem dX0_get_59 : decode cX0_get 59 = .ok (.aload_n 0, 1) := dk_42 (dk_at dksX0_get_2 11 rfl rfl)
theorem dX0_get_60 : decode cX0_get 60 = .ok (.iload 4, 2) := dk_21 4 (dk_at dksX0_get_2 12 rfl rfl)
theorem dX0_get_62 : decode cX0_get 62 = .ok (.putfield 302, 3) := dk_181 1 46 (dk_at dksX0_get_2 14 rfl rfl)
theorem dX0_get_65 : decode cX0_get 65 = .ok (.ldc_w 347, 3) := dk_19 1 91 (dk_at dksX0_get_2 17 rfl rfl)
theorem dX0_get_68 : decode cX0_get 68 = .ok (.ireturn, 1) := dk_172 (dk_at dksX0_get_2 20 rfl rfl)
abbrev cX0_copy : ByteArray := prog_1_method_55_code
def yX0_copy : MethodName := ⟨RX0, "copy", "(IIIII)I"⟩
def dkwX0_copy_4 : List UInt8 := [182, 1, 75, 172, 58, 8, 42, 5, 182, 1, 75, 172]
abbrev dktX0_copy_4 : List UInt8 := dkwX0_copy_4 ++ []
def dkwX0_copy_3 : List UInt8 := [180, 1, 50, 28, 25, 7, 180, 1, 50, 21, 4, 21, 5, 184, 1, 92, 4, 172, 58, 8, 42, 4]
abbrev dktX0_copy_3 : List UInt8 := dkwX0_copy_3 ++ dktX0_copy_4
def dkwX0_copy_2 : List UInt8 := [198, 0, 22, 25, 6, 180, 1, 55, 25, 7, 180, 1, 55, 159, 0, 9, 42, 7, 182, 1, 75, 172, 25, 6]
abbrev dktX0_copy_2 : List UInt8 := dkwX0_copy_2 ++ dktX0_copy_3
def dkwX0_copy_1 : List UInt8 := [58, 6, 42, 180, 0, 79, 29, 50, 58, 7, 25, 6, 180, 1, 50, 198, 0, 30, 25, 7, 180, 1, 50]
abbrev dktX0_copy_1 : List UInt8 := dkwX0_copy_1 ++ dktX0_copy_2
def dkwX0_copy_0 : List UInt8 := [27, 184, 1, 66, 153, 0, 10, 29, 184, 1, 66, 154, 0, 6, 16, 254, 172, 42, 180, 0, 79, 27, 50]
abbrev dktX0_copy_0 : List UInt8 := dkwX0_copy_0 ++ dktX0_copy_1
theorem dksX0_copy_0 : cX0_copy.data.toList.drop 0 = dktX0_copy_0 := by decide +kernel
theorem dksX0_copy_1 : cX0_copy.data.toList.drop 23 = dktX0_copy_1 := dk_seg dksX0_copy_0 23 rfl rfl
theorem dksX0_copy_2 : cX0_copy.data.toList.drop 46 = dktX0_copy_2 := dk_seg dksX0_copy_1 23 rfl rfl
theorem dksX0_copy_3 : cX0_copy.data.toList.drop 70 = dktX0_copy_3 := dk_seg dksX0_copy_2 24 rfl rfl
theorem dksX0_copy_4 : cX0_copy.data.toList.drop 92 = dktX0_copy_4 := dk_seg dksX0_copy_3 22 rfl rfl
theorem dX0_copy_0 : decode cX0_copy 0 = .ok (.iload_n 1, 1) := dk_27 (dk_at dksX0_copy_0 0 rfl rfl)
theorem dX0_copy_1 : decode cX0_copy 1 = .ok (.invokestatic 322, 3) := dk_184 1 66 (dk_at dksX0_copy_0 1 rfl rfl)
theorem dX0_copy_4 : decode cX0_copy 4 = .ok (.ifCond .eq 10, 3) := dk_153 0 10 (dk_at dksX0_copy_0 4 rfl rfl)
theorem dX0_copy_7 : decode cX0_copy 7 = .ok (.iload_n 3, 1) := dk_29 (dk_at dksX0_copy_0 7 rfl rfl)
theorem dX0_copy_8 : decode cX0_copy 8 = .ok (.invokestatic 322, 3) := dk_184 1 66 (dk_at dksX0_copy_0 8 rfl rfl)
theorem dX0_copy_11 : decode cX0_copy 11 = .ok (.ifCond .ne 6, 3) := dk_154 0 6 (dk_at dksX0_copy_0 11 rfl rfl)
theorem dX0_copy_14 : decode cX0_copy 14 = .ok (.bipush (-2), 2) := dk_16 254 (dk_at dksX0_copy_0 14 rfl rfl)
theorem dX0_copy_16 : decode cX0_copy 16 = .ok (.ireturn, 1) := dk_172 (dk_at dksX0_copy_0 16 rfl rfl)
theorem dX0_copy_17 : decode cX0_copy 17 = .ok (.aload_n 0, 1) := dk_42 (dk_at dksX0_copy_0 17 rfl rfl)
theorem dX0_copy_18 : decode cX0_copy 18 = .ok (.getfield 79, 3) := dk_180 0 79 (dk_at dksX0_copy_0 18 rfl rfl)
theorem dX0_copy_21 : decode cX0_copy 21 = .ok (.iload_n 1, 1) := dk_27 (dk_at dksX0_copy_0 21 rfl rfl)
theorem dX0_copy_22 : decode cX0_copy 22 = .ok (.aaload, 1) := dk_50 (dk_at dksX0_copy_0 22 rfl rfl)
theorem dX0_copy_23 : decode cX0_copy 23 = .ok (.astore 6, 2) := dk_58 6 (dk_at dksX0_copy_1 0 rfl rfl)
theorem dX0_copy_25 : decode cX0_copy 25 = .ok (.aload_n 0, 1) := dk_42 (dk_at dksX0_copy_1 2 rfl rfl)
theorem dX0_copy_26 : decode cX0_copy 26 = .ok (.getfield 79, 3) := dk_180 0 79 (dk_at dksX0_copy_1 3 rfl rfl)
theorem dX0_copy_29 : decode cX0_copy 29 = .ok (.iload_n 3, 1) := dk_29 (dk_at dksX0_copy_1 6 rfl rfl)
theorem dX0_copy_30 : decode cX0_copy 30 = .ok (.aaload, 1) := dk_50 (dk_at dksX0_copy_1 7 rfl rfl)
theorem dX0_copy_31 : decode cX0_copy 31 = .ok (.astore 7, 2) := dk_58 7 (dk_at dksX0_copy_1 8 rfl rfl)
theorem dX0_copy_33 : decode cX0_copy 33 = .ok (.aload 6, 2) := dk_25 6 (dk_at dksX0_copy_1 10 rfl rfl)
theorem dX0_copy_35 : decode cX0_copy 35 = .ok (.getfield 306, 3) := dk_180 1 50 (dk_at dksX0_copy_1 12 rfl rfl)
theorem dX0_copy_38 : decode cX0_copy 38 = .ok (.ifnull 30, 3) := dk_198 0 30 (dk_at dksX0_copy_1 15 rfl rfl)
theorem dX0_copy_41 : decode cX0_copy 41 = .ok (.aload 7, 2) := dk_25 7 (dk_at dksX0_copy_1 18 rfl rfl)
theorem dX0_copy_43 : decode cX0_copy 43 = .ok (.getfield 306, 3) := dk_180 1 50 (dk_at dksX0_copy_1 20 rfl rfl)
theorem dX0_copy_46 : decode cX0_copy 46 = .ok (.ifnull 22, 3) := dk_198 0 22 (dk_at dksX0_copy_2 0 rfl rfl)
theorem dX0_copy_49 : decode cX0_copy 49 = .ok (.aload 6, 2) := dk_25 6 (dk_at dksX0_copy_2 3 rfl rfl)
theorem dX0_copy_51 : decode cX0_copy 51 = .ok (.getfield 311, 3) := dk_180 1 55 (dk_at dksX0_copy_2 5 rfl rfl)
theorem dX0_copy_54 : decode cX0_copy 54 = .ok (.aload 7, 2) := dk_25 7 (dk_at dksX0_copy_2 8 rfl rfl)
theorem dX0_copy_56 : decode cX0_copy 56 = .ok (.getfield 311, 3) := dk_180 1 55 (dk_at dksX0_copy_2 10 rfl rfl)
theorem dX0_copy_59 : decode cX0_copy 59 = .ok (.if_icmp .eq 9, 3) := dk_159 0 9 (dk_at dksX0_copy_2 13 rfl rfl)
theorem dX0_copy_62 : decode cX0_copy 62 = .ok (.aload_n 0, 1) := dk_42 (dk_at dksX0_copy_2 16 rfl rfl)
theorem dX0_copy_63 : decode cX0_copy 63 = .ok (.iconst 4, 1) := dk_7 (dk_at dksX0_copy_2 17 rfl rfl)
theorem dX0_copy_64 : decode cX0_copy 64 = .ok (.invokevirtual 331, 3) := dk_182 1 75 (dk_at dksX0_copy_2 18 rfl rfl)
theorem dX0_copy_67 : decode cX0_copy 67 = .ok (.ireturn, 1) := dk_172 (dk_at dksX0_copy_2 21 rfl rfl)
theorem dX0_copy_68 : decode cX0_copy 68 = .ok (.aload 6, 2) := dk_25 6 (dk_at dksX0_copy_2 22 rfl rfl)
theorem dX0_copy_70 : decode cX0_copy 70 = .ok (.getfield 306, 3) := dk_180 1 50 (dk_at dksX0_copy_3 0 rfl rfl)
theorem dX0_copy_73 : decode cX0_copy 73 = .ok (.iload_n 2, 1) := dk_28 (dk_at dksX0_copy_3 3 rfl rfl)
theorem dX0_copy_74 : decode cX0_copy 74 = .ok (.aload 7, 2) := dk_25 7 (dk_at dksX0_copy_3 4 rfl rfl)
theorem dX0_copy_76 : decode cX0_copy 76 = .ok (.getfield 306, 3) := dk_180 1 50 (dk_at dksX0_copy_3 6 rfl rfl)
theorem dX0_copy_79 : decode cX0_copy 79 = .ok (.iload 4, 2) := dk_21 4 (dk_at dksX0_copy_3 9 rfl rfl)
theorem dX0_copy_81 : decode cX0_copy 81 = .ok (.iload 5, 2) := dk_21 5 (dk_at dksX0_copy_3 11 rfl rfl)
theorem dX0_copy_83 : decode cX0_copy 83 = .ok (.invokestatic 348, 3) := dk_184 1 92 (dk_at dksX0_copy_3 13 rfl rfl)
theorem dX0_copy_86 : decode cX0_copy 86 = .ok (.iconst 1, 1) := dk_4 (dk_at dksX0_copy_3 16 rfl rfl)
theorem dX0_copy_87 : decode cX0_copy 87 = .ok (.ireturn, 1) := dk_172 (dk_at dksX0_copy_3 17 rfl rfl)
theorem dX0_copy_88 : decode cX0_copy 88 = .ok (.astore 8, 2) := dk_58 8 (dk_at dksX0_copy_3 18 rfl rfl)
theorem dX0_copy_90 : decode cX0_copy 90 = .ok (.aload_n 0, 1) := dk_42 (dk_at dksX0_copy_3 20 rfl rfl)
theorem dX0_copy_91 : decode cX0_copy 91 = .ok (.iconst 1, 1) := dk_4 (dk_at dksX0_copy_3 21 rfl rfl)
theorem dX0_copy_92 : decode cX0_copy 92 = .ok (.invokevirtual 331, 3) := dk_182 1 75 (dk_at dksX0_copy_4 0 rfl rfl)
theorem dX0_copy_95 : decode cX0_copy 95 = .ok (.ireturn, 1) := dk_172 (dk_at dksX0_copy_4 3 rfl rfl)
theorem dX0_copy_96 : decode cX0_copy 96 = .ok (.astore 8, 2) := dk_58 8 (dk_at dksX0_copy_4 4 rfl rfl)
theorem dX0_copy_98 : decode cX0_copy 98 = .ok (.aload_n 0, 1) := dk_42 (dk_at dksX0_copy_4 6 rfl rfl)
theorem dX0_copy_99 : decode cX0_copy 99 = .ok (.iconst 2, 1) := dk_5 (dk_at dksX0_copy_4 7 rfl rfl)
theorem dX0_copy_100 : decode cX0_copy 100 = .ok (.invokevirtual 331, 3) := dk_182 1 75 (dk_at dksX0_copy_4 8 rfl rfl)
theorem dX0_copy_103 : decode cX0_copy 103 = .ok (.ireturn, 1) := dk_172 (dk_at dksX0_copy_4 11 rfl rfl)
abbrev cX0_count : ByteArray := prog_1_method_57_code
def yX0_count : MethodName := ⟨RX0, "count", "(I)I"⟩
def dkwX0_count_3 : List UInt8 := [172, 42, 180, 1, 30, 172, 42, 180, 1, 46, 172, 42, 182, 1, 100, 172, 16, 254, 172]
abbrev dktX0_count_3 : List UInt8 := dkwX0_count_3 ++ []
def dkwX0_count_2 : List UInt8 := [42, 180, 0, 84, 172, 42, 180, 0, 91, 172, 42, 180, 0, 111, 172, 42, 180, 0, 193, 172, 42, 180, 1, 1]
abbrev dktX0_count_2 : List UInt8 := dkwX0_count_2 ++ dktX0_count_3
def dkwX0_count_1 : List UInt8 := [170, 0, 0, 0, 0, 0, 87, 0, 0, 0, 0, 0, 0, 0, 7, 0, 0, 0, 47, 0, 0, 0, 52, 0, 0, 0, 57, 0, 0, 0, 62, 0, 0, 0, 67, 0, 0, 0, 72, 0, 0, 0, 77, 0, 0, 0, 82]
abbrev dktX0_count_1 : List UInt8 := dkwX0_count_1 ++ dktX0_count_2
def dkwX0_count_0 : List UInt8 := [27]
abbrev dktX0_count_0 : List UInt8 := dkwX0_count_0 ++ dktX0_count_1
theorem dksX0_count_0 : cX0_count.data.toList.drop 0 = dktX0_count_0 := by decide +kernel
theorem dksX0_count_1 : cX0_count.data.toList.drop 1 = dktX0_count_1 := dk_seg dksX0_count_0 1 rfl rfl
theorem dksX0_count_2 : cX0_count.data.toList.drop 48 = dktX0_count_2 := dk_seg dksX0_count_1 47 rfl rfl
theorem dksX0_count_3 : cX0_count.data.toList.drop 72 = dktX0_count_3 := dk_seg dksX0_count_2 24 rfl rfl
theorem dX0_count_0 : decode cX0_count 0 = .ok (.iload_n 1, 1) := dk_27 (dk_at dksX0_count_0 0 rfl rfl)
theorem dX0_count_1 : decode cX0_count 1 = .ok (.tableswitch 87 0 7 #[47, 52, 57, 62, 67, 72, 77, 82], 47) := by decide +kernel
theorem dX0_count_48 : decode cX0_count 48 = .ok (.aload_n 0, 1) := dk_42 (dk_at dksX0_count_2 0 rfl rfl)
theorem dX0_count_49 : decode cX0_count 49 = .ok (.getfield 84, 3) := dk_180 0 84 (dk_at dksX0_count_2 1 rfl rfl)
theorem dX0_count_52 : decode cX0_count 52 = .ok (.ireturn, 1) := dk_172 (dk_at dksX0_count_2 4 rfl rfl)
theorem dX0_count_53 : decode cX0_count 53 = .ok (.aload_n 0, 1) := dk_42 (dk_at dksX0_count_2 5 rfl rfl)
theorem dX0_count_54 : decode cX0_count 54 = .ok (.getfield 91, 3) := dk_180 0 91 (dk_at dksX0_count_2 6 rfl rfl)
theorem dX0_count_57 : decode cX0_count 57 = .ok (.ireturn, 1) := dk_172 (dk_at dksX0_count_2 9 rfl rfl)
theorem dX0_count_58 : decode cX0_count 58 = .ok (.aload_n 0, 1) := dk_42 (dk_at dksX0_count_2 10 rfl rfl)
theorem dX0_count_59 : decode cX0_count 59 = .ok (.getfield 111, 3) := dk_180 0 111 (dk_at dksX0_count_2 11 rfl rfl)
theorem dX0_count_62 : decode cX0_count 62 = .ok (.ireturn, 1) := dk_172 (dk_at dksX0_count_2 14 rfl rfl)
theorem dX0_count_63 : decode cX0_count 63 = .ok (.aload_n 0, 1) := dk_42 (dk_at dksX0_count_2 15 rfl rfl)
theorem dX0_count_64 : decode cX0_count 64 = .ok (.getfield 193, 3) := dk_180 0 193 (dk_at dksX0_count_2 16 rfl rfl)
theorem dX0_count_67 : decode cX0_count 67 = .ok (.ireturn, 1) := dk_172 (dk_at dksX0_count_2 19 rfl rfl)
theorem dX0_count_68 : decode cX0_count 68 = .ok (.aload_n 0, 1) := dk_42 (dk_at dksX0_count_2 20 rfl rfl)
theorem dX0_count_69 : decode cX0_count 69 = .ok (.getfield 257, 3) := dk_180 1 1 (dk_at dksX0_count_2 21 rfl rfl)
theorem dX0_count_72 : decode cX0_count 72 = .ok (.ireturn, 1) := dk_172 (dk_at dksX0_count_3 0 rfl rfl)
theorem dX0_count_73 : decode cX0_count 73 = .ok (.aload_n 0, 1) := dk_42 (dk_at dksX0_count_3 1 rfl rfl)
theorem dX0_count_74 : decode cX0_count 74 = .ok (.getfield 286, 3) := dk_180 1 30 (dk_at dksX0_count_3 2 rfl rfl)
theorem dX0_count_77 : decode cX0_count 77 = .ok (.ireturn, 1) := dk_172 (dk_at dksX0_count_3 5 rfl rfl)
theorem dX0_count_78 : decode cX0_count 78 = .ok (.aload_n 0, 1) := dk_42 (dk_at dksX0_count_3 6 rfl rfl)
theorem dX0_count_79 : decode cX0_count 79 = .ok (.getfield 302, 3) := dk_180 1 46 (dk_at dksX0_count_3 7 rfl rfl)
theorem dX0_count_82 : decode cX0_count 82 = .ok (.ireturn, 1) := dk_172 (dk_at dksX0_count_3 10 rfl rfl)
theorem dX0_count_83 : decode cX0_count 83 = .ok (.aload_n 0, 1) := dk_42 (dk_at dksX0_count_3 11 rfl rfl)
theorem dX0_count_84 : decode cX0_count 84 = .ok (.invokevirtual 356, 3) := dk_182 1 100 (dk_at dksX0_count_3 12 rfl rfl)
theorem dX0_count_87 : decode cX0_count 87 = .ok (.ireturn, 1) := dk_172 (dk_at dksX0_count_3 15 rfl rfl)
theorem dX0_count_88 : decode cX0_count 88 = .ok (.bipush (-2), 2) := dk_16 254 (dk_at dksX0_count_3 16 rfl rfl)
theorem dX0_count_90 : decode cX0_count 90 = .ok (.ireturn, 1) := dk_172 (dk_at dksX0_count_3 18 rfl rfl)
abbrev cX0_waiting : ByteArray := prog_1_method_56_code
def yX0_waiting : MethodName := ⟨RX0, "waiting", "()I"⟩
def dkwX0_waiting_2 : List UInt8 := [132, 2, 1, 167, 255, 212, 27, 172]
abbrev dktX0_waiting_2 : List UInt8 := dkwX0_waiting_2 ++ []
def dkwX0_waiting_1 : List UInt8 := [158, 0, 20, 42, 180, 0, 48, 28, 50, 180, 0, 240, 2, 160, 0, 7, 4, 167, 0, 4, 3, 96, 60]
abbrev dktX0_waiting_1 : List UInt8 := dkwX0_waiting_1 ++ dktX0_waiting_2
def dkwX0_waiting_0 : List UInt8 := [3, 60, 3, 61, 28, 42, 180, 0, 193, 162, 0, 42, 27, 42, 180, 0, 48, 28, 50, 180, 0, 224]
abbrev dktX0_waiting_0 : List UInt8 := dkwX0_waiting_0 ++ dktX0_waiting_1
theorem dksX0_waiting_0 : cX0_waiting.data.toList.drop 0 = dktX0_waiting_0 := by decide +kernel
theorem dksX0_waiting_1 : cX0_waiting.data.toList.drop 22 = dktX0_waiting_1 := dk_seg dksX0_waiting_0 22 rfl rfl
theorem dksX0_waiting_2 : cX0_waiting.data.toList.drop 45 = dktX0_waiting_2 := dk_seg dksX0_waiting_1 23 rfl rfl
theorem dX0_waiting_0 : decode cX0_waiting 0 = .ok (.iconst 0, 1) := dk_3 (dk_at dksX0_waiting_0 0 rfl rfl)
theorem dX0_waiting_1 : decode cX0_waiting 1 = .ok (.istore_n 1, 1) := dk_60 (dk_at dksX0_waiting_0 1 rfl rfl)
theorem dX0_waiting_2 : decode cX0_waiting 2 = .ok (.iconst 0, 1) := dk_3 (dk_at dksX0_waiting_0 2 rfl rfl)
theorem dX0_waiting_3 : decode cX0_waiting 3 = .ok (.istore_n 2, 1) := dk_61 (dk_at dksX0_waiting_0 3 rfl rfl)
theorem dX0_waiting_4 : decode cX0_waiting 4 = .ok (.iload_n 2, 1) := dk_28 (dk_at dksX0_waiting_0 4 rfl rfl)
theorem dX0_waiting_5 : decode cX0_waiting 5 = .ok (.aload_n 0, 1) := dk_42 (dk_at dksX0_waiting_0 5 rfl rfl)
theorem dX0_waiting_6 : decode cX0_waiting 6 = .ok (.getfield 193, 3) := dk_180 0 193 (dk_at dksX0_waiting_0 6 rfl rfl)
theorem dX0_waiting_9 : decode cX0_waiting 9 = .ok (.if_icmp .ge 42, 3) := dk_162 0 42 (dk_at dksX0_waiting_0 9 rfl rfl)
theorem dX0_waiting_12 : decode cX0_waiting 12 = .ok (.iload_n 1, 1) := dk_27 (dk_at dksX0_waiting_0 12 rfl rfl)
theorem dX0_waiting_13 : decode cX0_waiting 13 = .ok (.aload_n 0, 1) := dk_42 (dk_at dksX0_waiting_0 13 rfl rfl)
theorem dX0_waiting_14 : decode cX0_waiting 14 = .ok (.getfield 48, 3) := dk_180 0 48 (dk_at dksX0_waiting_0 14 rfl rfl)
theorem dX0_waiting_17 : decode cX0_waiting 17 = .ok (.iload_n 2, 1) := dk_28 (dk_at dksX0_waiting_0 17 rfl rfl)
theorem dX0_waiting_18 : decode cX0_waiting 18 = .ok (.aaload, 1) := dk_50 (dk_at dksX0_waiting_0 18 rfl rfl)
theorem dX0_waiting_19 : decode cX0_waiting 19 = .ok (.getfield 224, 3) := dk_180 0 224 (dk_at dksX0_waiting_0 19 rfl rfl)
theorem dX0_waiting_22 : decode cX0_waiting 22 = .ok (.ifCond .le 20, 3) := dk_158 0 20 (dk_at dksX0_waiting_1 0 rfl rfl)
theorem dX0_waiting_25 : decode cX0_waiting 25 = .ok (.aload_n 0, 1) := dk_42 (dk_at dksX0_waiting_1 3 rfl rfl)
theorem dX0_waiting_26 : decode cX0_waiting 26 = .ok (.getfield 48, 3) := dk_180 0 48 (dk_at dksX0_waiting_1 4 rfl rfl)
theorem dX0_waiting_29 : decode cX0_waiting 29 = .ok (.iload_n 2, 1) := dk_28 (dk_at dksX0_waiting_1 7 rfl rfl)
theorem dX0_waiting_30 : decode cX0_waiting 30 = .ok (.aaload, 1) := dk_50 (dk_at dksX0_waiting_1 8 rfl rfl)
theorem dX0_waiting_31 : decode cX0_waiting 31 = .ok (.getfield 240, 3) := dk_180 0 240 (dk_at dksX0_waiting_1 9 rfl rfl)
theorem dX0_waiting_34 : decode cX0_waiting 34 = .ok (.iconst (-1), 1) := dk_2 (dk_at dksX0_waiting_1 12 rfl rfl)
theorem dX0_waiting_35 : decode cX0_waiting 35 = .ok (.if_icmp .ne 7, 3) := dk_160 0 7 (dk_at dksX0_waiting_1 13 rfl rfl)
theorem dX0_waiting_38 : decode cX0_waiting 38 = .ok (.iconst 1, 1) := dk_4 (dk_at dksX0_waiting_1 16 rfl rfl)
theorem dX0_waiting_39 : decode cX0_waiting 39 = .ok (.goto 4, 3) := dk_167 0 4 (dk_at dksX0_waiting_1 17 rfl rfl)
theorem dX0_waiting_42 : decode cX0_waiting 42 = .ok (.iconst 0, 1) := dk_3 (dk_at dksX0_waiting_1 20 rfl rfl)
theorem dX0_waiting_43 : decode cX0_waiting 43 = .ok (.iadd, 1) := dk_96 (dk_at dksX0_waiting_1 21 rfl rfl)
theorem dX0_waiting_44 : decode cX0_waiting 44 = .ok (.istore_n 1, 1) := dk_60 (dk_at dksX0_waiting_1 22 rfl rfl)
theorem dX0_waiting_45 : decode cX0_waiting 45 = .ok (.iinc 2 1, 3) := dk_132 2 1 (dk_at dksX0_waiting_2 0 rfl rfl)
theorem dX0_waiting_48 : decode cX0_waiting 48 = .ok (.goto (-44), 3) := dk_167 255 212 (dk_at dksX0_waiting_2 3 rfl rfl)
theorem dX0_waiting_51 : decode cX0_waiting 51 = .ok (.iload_n 1, 1) := dk_27 (dk_at dksX0_waiting_2 6 rfl rfl)
theorem dX0_waiting_52 : decode cX0_waiting 52 = .ok (.ireturn, 1) := dk_172 (dk_at dksX0_waiting_2 7 rfl rfl)
abbrev cX0_digest : ByteArray := prog_1_method_58_code
def yX0_digest : MethodName := ⟨RX0, "digest", "()J"⟩
def dkwX0_digest_10 : List UInt8 := [31, 173]
abbrev dktX0_digest_10 : List UInt8 := dkwX0_digest_10 ++ []
def dkwX0_digest_9 : List UInt8 := [182, 0, 167, 192, 0, 171, 180, 0, 173, 133, 97, 64, 132, 4, 1, 167, 255, 208, 132, 3, 1, 167, 255, 191]
abbrev dktX0_digest_9 : List UInt8 := dkwX0_digest_9 ++ dktX0_digest_10
def dkwX0_digest_8 : List UInt8 := [182, 0, 161, 162, 0, 37, 20, 1, 105, 31, 105, 42, 180, 0, 11, 29, 50, 180, 0, 157, 21, 4]
abbrev dktX0_digest_8 : List UInt8 := dkwX0_digest_8 ++ dktX0_digest_9
def dkwX0_digest_7 : List UInt8 := [3, 62, 29, 42, 180, 0, 84, 162, 0, 63, 3, 54, 4, 21, 4, 42, 180, 0, 11, 29, 50, 180, 0, 157]
abbrev dktX0_digest_7 : List UInt8 := dkwX0_digest_7 ++ dktX0_digest_8
def dkwX0_digest_6 : List UInt8 := [16, 7, 162, 0, 22, 20, 1, 105, 31, 105, 42, 29, 182, 1, 116, 133, 97, 64, 132, 3, 1, 167, 255, 234]
abbrev dktX0_digest_6 : List UInt8 := dkwX0_digest_6 ++ dktX0_digest_7
def dkwX0_digest_5 : List UInt8 := [21, 4, 182, 1, 113, 133, 97, 64, 132, 4, 1, 167, 255, 231, 132, 3, 1, 167, 255, 214, 3, 62, 29]
abbrev dktX0_digest_5 : List UInt8 := dkwX0_digest_5 ++ dktX0_digest_6
def dkwX0_digest_4 : List UInt8 := [180, 0, 193, 162, 0, 40, 6, 54, 4, 21, 4, 16, 7, 162, 0, 24, 20, 1, 105, 31, 105, 42, 29]
abbrev dktX0_digest_4 : List UInt8 := dkwX0_digest_4 ++ dktX0_digest_5
def dkwX0_digest_3 : List UInt8 := [182, 1, 110, 133, 97, 64, 132, 4, 1, 167, 255, 232, 132, 3, 1, 167, 255, 215, 3, 62, 29, 42]
abbrev dktX0_digest_3 : List UInt8 := dkwX0_digest_3 ++ dktX0_digest_4
def dkwX0_digest_2 : List UInt8 := [180, 0, 91, 162, 0, 39, 5, 54, 4, 21, 4, 8, 162, 0, 24, 20, 1, 105, 31, 105, 42, 29, 21, 4]
abbrev dktX0_digest_2 : List UInt8 := dkwX0_digest_2 ++ dktX0_digest_3
def dkwX0_digest_1 : List UInt8 := [20, 1, 105, 31, 105, 42, 29, 182, 1, 107, 133, 97, 64, 132, 3, 1, 167, 255, 224, 3, 62, 29, 42]
abbrev dktX0_digest_1 : List UInt8 := dkwX0_digest_1 ++ dktX0_digest_2
def dkwX0_digest_0 : List UInt8 := [20, 1, 103, 64, 3, 62, 29, 16, 8, 162, 0, 32, 29, 16, 6, 160, 0, 7, 31, 167, 0, 15]
abbrev dktX0_digest_0 : List UInt8 := dkwX0_digest_0 ++ dktX0_digest_1
theorem dksX0_digest_0 : cX0_digest.data.toList.drop 0 = dktX0_digest_0 := by decide +kernel
theorem dksX0_digest_1 : cX0_digest.data.toList.drop 22 = dktX0_digest_1 := dk_seg dksX0_digest_0 22 rfl rfl
theorem dksX0_digest_2 : cX0_digest.data.toList.drop 45 = dktX0_digest_2 := dk_seg dksX0_digest_1 23 rfl rfl
theorem dksX0_digest_3 : cX0_digest.data.toList.drop 69 = dktX0_digest_3 := dk_seg dksX0_digest_2 24 rfl rfl
theorem dksX0_digest_4 : cX0_digest.data.toList.drop 91 = dktX0_digest_4 := dk_seg dksX0_digest_3 22 rfl rfl
theorem dksX0_digest_5 : cX0_digest.data.toList.drop 114 = dktX0_digest_5 := dk_seg dksX0_digest_4 23 rfl rfl
theorem dksX0_digest_6 : cX0_digest.data.toList.drop 137 = dktX0_digest_6 := dk_seg dksX0_digest_5 23 rfl rfl
theorem dksX0_digest_7 : cX0_digest.data.toList.drop 161 = dktX0_digest_7 := dk_seg dksX0_digest_6 24 rfl rfl
theorem dksX0_digest_8 : cX0_digest.data.toList.drop 185 = dktX0_digest_8 := dk_seg dksX0_digest_7 24 rfl rfl
theorem dksX0_digest_9 : cX0_digest.data.toList.drop 207 = dktX0_digest_9 := dk_seg dksX0_digest_8 22 rfl rfl
theorem dksX0_digest_10 : cX0_digest.data.toList.drop 231 = dktX0_digest_10 := dk_seg dksX0_digest_9 24 rfl rfl
theorem dX0_digest_0 : decode cX0_digest 0 = .ok (.ldc2_w 359, 3) := dk_20 1 103 (dk_at dksX0_digest_0 0 rfl rfl)
theorem dX0_digest_3 : decode cX0_digest 3 = .ok (.lstore_n 1, 1) := dk_64 (dk_at dksX0_digest_0 3 rfl rfl)
theorem dX0_digest_4 : decode cX0_digest 4 = .ok (.iconst 0, 1) := dk_3 (dk_at dksX0_digest_0 4 rfl rfl)
theorem dX0_digest_5 : decode cX0_digest 5 = .ok (.istore_n 3, 1) := dk_62 (dk_at dksX0_digest_0 5 rfl rfl)
theorem dX0_digest_6 : decode cX0_digest 6 = .ok (.iload_n 3, 1) := dk_29 (dk_at dksX0_digest_0 6 rfl rfl)
theorem dX0_digest_7 : decode cX0_digest 7 = .ok (.bipush 8, 2) := dk_16 8 (dk_at dksX0_digest_0 7 rfl rfl)
theorem dX0_digest_9 : decode cX0_digest 9 = .ok (.if_icmp .ge 32, 3) := dk_162 0 32 (dk_at dksX0_digest_0 9 rfl rfl)
theorem dX0_digest_12 : decode cX0_digest 12 = .ok (.iload_n 3, 1) := dk_29 (dk_at dksX0_digest_0 12 rfl rfl)
theorem dX0_digest_13 : decode cX0_digest 13 = .ok (.bipush 6, 2) := dk_16 6 (dk_at dksX0_digest_0 13 rfl rfl)
theorem dX0_digest_15 : decode cX0_digest 15 = .ok (.if_icmp .ne 7, 3) := dk_160 0 7 (dk_at dksX0_digest_0 15 rfl rfl)
theorem dX0_digest_18 : decode cX0_digest 18 = .ok (.lload_n 1, 1) := dk_31 (dk_at dksX0_digest_0 18 rfl rfl)
theorem dX0_digest_19 : decode cX0_digest 19 = .ok (.goto 15, 3) := dk_167 0 15 (dk_at dksX0_digest_0 19 rfl rfl)
theorem dX0_digest_22 : decode cX0_digest 22 = .ok (.ldc2_w 361, 3) := dk_20 1 105 (dk_at dksX0_digest_1 0 rfl rfl)
theorem dX0_digest_25 : decode cX0_digest 25 = .ok (.lload_n 1, 1) := dk_31 (dk_at dksX0_digest_1 3 rfl rfl)
theorem dX0_digest_26 : decode cX0_digest 26 = .ok (.lmul, 1) := dk_105 (dk_at dksX0_digest_1 4 rfl rfl)
theorem dX0_digest_27 : decode cX0_digest 27 = .ok (.aload_n 0, 1) := dk_42 (dk_at dksX0_digest_1 5 rfl rfl)
theorem dX0_digest_28 : decode cX0_digest 28 = .ok (.iload_n 3, 1) := dk_29 (dk_at dksX0_digest_1 6 rfl rfl)
theorem dX0_digest_29 : decode cX0_digest 29 = .ok (.invokevirtual 363, 3) := dk_182 1 107 (dk_at dksX0_digest_1 7 rfl rfl)
theorem dX0_digest_32 : decode cX0_digest 32 = .ok (.i2l, 1) := dk_133 (dk_at dksX0_digest_1 10 rfl rfl)
theorem dX0_digest_33 : decode cX0_digest 33 = .ok (.ladd, 1) := dk_97 (dk_at dksX0_digest_1 11 rfl rfl)
theorem dX0_digest_34 : decode cX0_digest 34 = .ok (.lstore_n 1, 1) := dk_64 (dk_at dksX0_digest_1 12 rfl rfl)
theorem dX0_digest_35 : decode cX0_digest 35 = .ok (.iinc 3 1, 3) := dk_132 3 1 (dk_at dksX0_digest_1 13 rfl rfl)
theorem dX0_digest_38 : decode cX0_digest 38 = .ok (.goto (-32), 3) := dk_167 255 224 (dk_at dksX0_digest_1 16 rfl rfl)
theorem dX0_digest_41 : decode cX0_digest 41 = .ok (.iconst 0, 1) := dk_3 (dk_at dksX0_digest_1 19 rfl rfl)
theorem dX0_digest_42 : decode cX0_digest 42 = .ok (.istore_n 3, 1) := dk_62 (dk_at dksX0_digest_1 20 rfl rfl)
theorem dX0_digest_43 : decode cX0_digest 43 = .ok (.iload_n 3, 1) := dk_29 (dk_at dksX0_digest_1 21 rfl rfl)
theorem dX0_digest_44 : decode cX0_digest 44 = .ok (.aload_n 0, 1) := dk_42 (dk_at dksX0_digest_1 22 rfl rfl)
theorem dX0_digest_45 : decode cX0_digest 45 = .ok (.getfield 91, 3) := dk_180 0 91 (dk_at dksX0_digest_2 0 rfl rfl)
theorem dX0_digest_48 : decode cX0_digest 48 = .ok (.if_icmp .ge 39, 3) := dk_162 0 39 (dk_at dksX0_digest_2 3 rfl rfl)
theorem dX0_digest_51 : decode cX0_digest 51 = .ok (.iconst 2, 1) := dk_5 (dk_at dksX0_digest_2 6 rfl rfl)
theorem dX0_digest_52 : decode cX0_digest 52 = .ok (.istore 4, 2) := dk_54 4 (dk_at dksX0_digest_2 7 rfl rfl)
theorem dX0_digest_54 : decode cX0_digest 54 = .ok (.iload 4, 2) := dk_21 4 (dk_at dksX0_digest_2 9 rfl rfl)
theorem dX0_digest_56 : decode cX0_digest 56 = .ok (.iconst 5, 1) := dk_8 (dk_at dksX0_digest_2 11 rfl rfl)
theorem dX0_digest_57 : decode cX0_digest 57 = .ok (.if_icmp .ge 24, 3) := dk_162 0 24 (dk_at dksX0_digest_2 12 rfl rfl)
theorem dX0_digest_60 : decode cX0_digest 60 = .ok (.ldc2_w 361, 3) := dk_20 1 105 (dk_at dksX0_digest_2 15 rfl rfl)
theorem dX0_digest_63 : decode cX0_digest 63 = .ok (.lload_n 1, 1) := dk_31 (dk_at dksX0_digest_2 18 rfl rfl)
theorem dX0_digest_64 : decode cX0_digest 64 = .ok (.lmul, 1) := dk_105 (dk_at dksX0_digest_2 19 rfl rfl)
theorem dX0_digest_65 : decode cX0_digest 65 = .ok (.aload_n 0, 1) := dk_42 (dk_at dksX0_digest_2 20 rfl rfl)
theorem dX0_digest_66 : decode cX0_digest 66 = .ok (.iload_n 3, 1) := dk_29 (dk_at dksX0_digest_2 21 rfl rfl)
theorem dX0_digest_67 : decode cX0_digest 67 = .ok (.iload 4, 2) := dk_21 4 (dk_at dksX0_digest_2 22 rfl rfl)
theorem dX0_digest_69 : decode cX0_digest 69 = .ok (.invokevirtual 366, 3) := dk_182 1 110 (dk_at dksX0_digest_3 0 rfl rfl)
theorem dX0_digest_72 : decode cX0_digest 72 = .ok (.i2l, 1) := dk_133 (dk_at dksX0_digest_3 3 rfl rfl)
theorem dX0_digest_73 : decode cX0_digest 73 = .ok (.ladd, 1) := dk_97 (dk_at dksX0_digest_3 4 rfl rfl)
theorem dX0_digest_74 : decode cX0_digest 74 = .ok (.lstore_n 1, 1) := dk_64 (dk_at dksX0_digest_3 5 rfl rfl)
theorem dX0_digest_75 : decode cX0_digest 75 = .ok (.iinc 4 1, 3) := dk_132 4 1 (dk_at dksX0_digest_3 6 rfl rfl)
theorem dX0_digest_78 : decode cX0_digest 78 = .ok (.goto (-24), 3) := dk_167 255 232 (dk_at dksX0_digest_3 9 rfl rfl)
theorem dX0_digest_81 : decode cX0_digest 81 = .ok (.iinc 3 1, 3) := dk_132 3 1 (dk_at dksX0_digest_3 12 rfl rfl)
theorem dX0_digest_84 : decode cX0_digest 84 = .ok (.goto (-41), 3) := dk_167 255 215 (dk_at dksX0_digest_3 15 rfl rfl)
theorem dX0_digest_87 : decode cX0_digest 87 = .ok (.iconst 0, 1) := dk_3 (dk_at dksX0_digest_3 18 rfl rfl)
theorem dX0_digest_88 : decode cX0_digest 88 = .ok (.istore_n 3, 1) := dk_62 (dk_at dksX0_digest_3 19 rfl rfl)
theorem dX0_digest_89 : decode cX0_digest 89 = .ok (.iload_n 3, 1) := dk_29 (dk_at dksX0_digest_3 20 rfl rfl)
theorem dX0_digest_90 : decode cX0_digest 90 = .ok (.aload_n 0, 1) := dk_42 (dk_at dksX0_digest_3 21 rfl rfl)
theorem dX0_digest_91 : decode cX0_digest 91 = .ok (.getfield 193, 3) := dk_180 0 193 (dk_at dksX0_digest_4 0 rfl rfl)
theorem dX0_digest_94 : decode cX0_digest 94 = .ok (.if_icmp .ge 40, 3) := dk_162 0 40 (dk_at dksX0_digest_4 3 rfl rfl)
theorem dX0_digest_97 : decode cX0_digest 97 = .ok (.iconst 3, 1) := dk_6 (dk_at dksX0_digest_4 6 rfl rfl)
theorem dX0_digest_98 : decode cX0_digest 98 = .ok (.istore 4, 2) := dk_54 4 (dk_at dksX0_digest_4 7 rfl rfl)
theorem dX0_digest_100 : decode cX0_digest 100 = .ok (.iload 4, 2) := dk_21 4 (dk_at dksX0_digest_4 9 rfl rfl)
theorem dX0_digest_102 : decode cX0_digest 102 = .ok (.bipush 7, 2) := dk_16 7 (dk_at dksX0_digest_4 11 rfl rfl)
theorem dX0_digest_104 : decode cX0_digest 104 = .ok (.if_icmp .ge 24, 3) := dk_162 0 24 (dk_at dksX0_digest_4 13 rfl rfl)
theorem dX0_digest_107 : decode cX0_digest 107 = .ok (.ldc2_w 361, 3) := dk_20 1 105 (dk_at dksX0_digest_4 16 rfl rfl)
theorem dX0_digest_110 : decode cX0_digest 110 = .ok (.lload_n 1, 1) := dk_31 (dk_at dksX0_digest_4 19 rfl rfl)
theorem dX0_digest_111 : decode cX0_digest 111 = .ok (.lmul, 1) := dk_105 (dk_at dksX0_digest_4 20 rfl rfl)
theorem dX0_digest_112 : decode cX0_digest 112 = .ok (.aload_n 0, 1) := dk_42 (dk_at dksX0_digest_4 21 rfl rfl)
theorem dX0_digest_113 : decode cX0_digest 113 = .ok (.iload_n 3, 1) := dk_29 (dk_at dksX0_digest_4 22 rfl rfl)
theorem dX0_digest_114 : decode cX0_digest 114 = .ok (.iload 4, 2) := dk_21 4 (dk_at dksX0_digest_5 0 rfl rfl)
theorem dX0_digest_116 : decode cX0_digest 116 = .ok (.invokevirtual 369, 3) := dk_182 1 113 (dk_at dksX0_digest_5 2 rfl rfl)
theorem dX0_digest_119 : decode cX0_digest 119 = .ok (.i2l, 1) := dk_133 (dk_at dksX0_digest_5 5 rfl rfl)
theorem dX0_digest_120 : decode cX0_digest 120 = .ok (.ladd, 1) := dk_97 (dk_at dksX0_digest_5 6 rfl rfl)
theorem dX0_digest_121 : decode cX0_digest 121 = .ok (.lstore_n 1, 1) := dk_64 (dk_at dksX0_digest_5 7 rfl rfl)
theorem dX0_digest_122 : decode cX0_digest 122 = .ok (.iinc 4 1, 3) := dk_132 4 1 (dk_at dksX0_digest_5 8 rfl rfl)
theorem dX0_digest_125 : decode cX0_digest 125 = .ok (.goto (-25), 3) := dk_167 255 231 (dk_at dksX0_digest_5 11 rfl rfl)
theorem dX0_digest_128 : decode cX0_digest 128 = .ok (.iinc 3 1, 3) := dk_132 3 1 (dk_at dksX0_digest_5 14 rfl rfl)
theorem dX0_digest_131 : decode cX0_digest 131 = .ok (.goto (-42), 3) := dk_167 255 214 (dk_at dksX0_digest_5 17 rfl rfl)
theorem dX0_digest_134 : decode cX0_digest 134 = .ok (.iconst 0, 1) := dk_3 (dk_at dksX0_digest_5 20 rfl rfl)
theorem dX0_digest_135 : decode cX0_digest 135 = .ok (.istore_n 3, 1) := dk_62 (dk_at dksX0_digest_5 21 rfl rfl)
theorem dX0_digest_136 : decode cX0_digest 136 = .ok (.iload_n 3, 1) := dk_29 (dk_at dksX0_digest_5 22 rfl rfl)
theorem dX0_digest_137 : decode cX0_digest 137 = .ok (.bipush 7, 2) := dk_16 7 (dk_at dksX0_digest_6 0 rfl rfl)
theorem dX0_digest_139 : decode cX0_digest 139 = .ok (.if_icmp .ge 22, 3) := dk_162 0 22 (dk_at dksX0_digest_6 2 rfl rfl)
theorem dX0_digest_142 : decode cX0_digest 142 = .ok (.ldc2_w 361, 3) := dk_20 1 105 (dk_at dksX0_digest_6 5 rfl rfl)
theorem dX0_digest_145 : decode cX0_digest 145 = .ok (.lload_n 1, 1) := dk_31 (dk_at dksX0_digest_6 8 rfl rfl)
theorem dX0_digest_146 : decode cX0_digest 146 = .ok (.lmul, 1) := dk_105 (dk_at dksX0_digest_6 9 rfl rfl)
theorem dX0_digest_147 : decode cX0_digest 147 = .ok (.aload_n 0, 1) := dk_42 (dk_at dksX0_digest_6 10 rfl rfl)
theorem dX0_digest_148 : decode cX0_digest 148 = .ok (.iload_n 3, 1) := dk_29 (dk_at dksX0_digest_6 11 rfl rfl)
theorem dX0_digest_149 : decode cX0_digest 149 = .ok (.invokevirtual 372, 3) := dk_182 1 116 (dk_at dksX0_digest_6 12 rfl rfl)
theorem dX0_digest_152 : decode cX0_digest 152 = .ok (.i2l, 1) := dk_133 (dk_at dksX0_digest_6 15 rfl rfl)
theorem dX0_digest_153 : decode cX0_digest 153 = .ok (.ladd, 1) := dk_97 (dk_at dksX0_digest_6 16 rfl rfl)
theorem dX0_digest_154 : decode cX0_digest 154 = .ok (.lstore_n 1, 1) := dk_64 (dk_at dksX0_digest_6 17 rfl rfl)
theorem dX0_digest_155 : decode cX0_digest 155 = .ok (.iinc 3 1, 3) := dk_132 3 1 (dk_at dksX0_digest_6 18 rfl rfl)
theorem dX0_digest_158 : decode cX0_digest 158 = .ok (.goto (-22), 3) := dk_167 255 234 (dk_at dksX0_digest_6 21 rfl rfl)
theorem dX0_digest_161 : decode cX0_digest 161 = .ok (.iconst 0, 1) := dk_3 (dk_at dksX0_digest_7 0 rfl rfl)
theorem dX0_digest_162 : decode cX0_digest 162 = .ok (.istore_n 3, 1) := dk_62 (dk_at dksX0_digest_7 1 rfl rfl)
theorem dX0_digest_163 : decode cX0_digest 163 = .ok (.iload_n 3, 1) := dk_29 (dk_at dksX0_digest_7 2 rfl rfl)
theorem dX0_digest_164 : decode cX0_digest 164 = .ok (.aload_n 0, 1) := dk_42 (dk_at dksX0_digest_7 3 rfl rfl)
theorem dX0_digest_165 : decode cX0_digest 165 = .ok (.getfield 84, 3) := dk_180 0 84 (dk_at dksX0_digest_7 4 rfl rfl)
theorem dX0_digest_168 : decode cX0_digest 168 = .ok (.if_icmp .ge 63, 3) := dk_162 0 63 (dk_at dksX0_digest_7 7 rfl rfl)
theorem dX0_digest_171 : decode cX0_digest 171 = .ok (.iconst 0, 1) := dk_3 (dk_at dksX0_digest_7 10 rfl rfl)
theorem dX0_digest_172 : decode cX0_digest 172 = .ok (.istore 4, 2) := dk_54 4 (dk_at dksX0_digest_7 11 rfl rfl)
theorem dX0_digest_174 : decode cX0_digest 174 = .ok (.iload 4, 2) := dk_21 4 (dk_at dksX0_digest_7 13 rfl rfl)
theorem dX0_digest_176 : decode cX0_digest 176 = .ok (.aload_n 0, 1) := dk_42 (dk_at dksX0_digest_7 15 rfl rfl)
theorem dX0_digest_177 : decode cX0_digest 177 = .ok (.getfield 11, 3) := dk_180 0 11 (dk_at dksX0_digest_7 16 rfl rfl)
theorem dX0_digest_180 : decode cX0_digest 180 = .ok (.iload_n 3, 1) := dk_29 (dk_at dksX0_digest_7 19 rfl rfl)
theorem dX0_digest_181 : decode cX0_digest 181 = .ok (.aaload, 1) := dk_50 (dk_at dksX0_digest_7 20 rfl rfl)
theorem dX0_digest_182 : decode cX0_digest 182 = .ok (.getfield 157, 3) := dk_180 0 157 (dk_at dksX0_digest_7 21 rfl rfl)
theorem dX0_digest_185 : decode cX0_digest 185 = .ok (.invokevirtual 161, 3) := dk_182 0 161 (dk_at dksX0_digest_8 0 rfl rfl)
theorem dX0_digest_188 : decode cX0_digest 188 = .ok (.if_icmp .ge 37, 3) := dk_162 0 37 (dk_at dksX0_digest_8 3 rfl rfl)
theorem dX0_digest_191 : decode cX0_digest 191 = .ok (.ldc2_w 361, 3) := dk_20 1 105 (dk_at dksX0_digest_8 6 rfl rfl)
theorem dX0_digest_194 : decode cX0_digest 194 = .ok (.lload_n 1, 1) := dk_31 (dk_at dksX0_digest_8 9 rfl rfl)
theorem dX0_digest_195 : decode cX0_digest 195 = .ok (.lmul, 1) := dk_105 (dk_at dksX0_digest_8 10 rfl rfl)
theorem dX0_digest_196 : decode cX0_digest 196 = .ok (.aload_n 0, 1) := dk_42 (dk_at dksX0_digest_8 11 rfl rfl)
theorem dX0_digest_197 : decode cX0_digest 197 = .ok (.getfield 11, 3) := dk_180 0 11 (dk_at dksX0_digest_8 12 rfl rfl)
theorem dX0_digest_200 : decode cX0_digest 200 = .ok (.iload_n 3, 1) := dk_29 (dk_at dksX0_digest_8 15 rfl rfl)
theorem dX0_digest_201 : decode cX0_digest 201 = .ok (.aaload, 1) := dk_50 (dk_at dksX0_digest_8 16 rfl rfl)
theorem dX0_digest_202 : decode cX0_digest 202 = .ok (.getfield 157, 3) := dk_180 0 157 (dk_at dksX0_digest_8 17 rfl rfl)
theorem dX0_digest_205 : decode cX0_digest 205 = .ok (.iload 4, 2) := dk_21 4 (dk_at dksX0_digest_8 20 rfl rfl)
theorem dX0_digest_207 : decode cX0_digest 207 = .ok (.invokevirtual 167, 3) := dk_182 0 167 (dk_at dksX0_digest_9 0 rfl rfl)
theorem dX0_digest_210 : decode cX0_digest 210 = .ok (.checkcast 171, 3) := dk_192 0 171 (dk_at dksX0_digest_9 3 rfl rfl)
theorem dX0_digest_213 : decode cX0_digest 213 = .ok (.getfield 173, 3) := dk_180 0 173 (dk_at dksX0_digest_9 6 rfl rfl)
theorem dX0_digest_216 : decode cX0_digest 216 = .ok (.i2l, 1) := dk_133 (dk_at dksX0_digest_9 9 rfl rfl)
theorem dX0_digest_217 : decode cX0_digest 217 = .ok (.ladd, 1) := dk_97 (dk_at dksX0_digest_9 10 rfl rfl)
theorem dX0_digest_218 : decode cX0_digest 218 = .ok (.lstore_n 1, 1) := dk_64 (dk_at dksX0_digest_9 11 rfl rfl)
theorem dX0_digest_219 : decode cX0_digest 219 = .ok (.iinc 4 1, 3) := dk_132 4 1 (dk_at dksX0_digest_9 12 rfl rfl)
theorem dX0_digest_222 : decode cX0_digest 222 = .ok (.goto (-48), 3) := dk_167 255 208 (dk_at dksX0_digest_9 15 rfl rfl)
theorem dX0_digest_225 : decode cX0_digest 225 = .ok (.iinc 3 1, 3) := dk_132 3 1 (dk_at dksX0_digest_9 18 rfl rfl)
theorem dX0_digest_228 : decode cX0_digest 228 = .ok (.goto (-65), 3) := dk_167 255 191 (dk_at dksX0_digest_9 21 rfl rfl)
theorem dX0_digest_231 : decode cX0_digest 231 = .ok (.lload_n 1, 1) := dk_31 (dk_at dksX0_digest_10 0 rfl rfl)
theorem dX0_digest_232 : decode cX0_digest 232 = .ok (.lreturn, 1) := dk_173 (dk_at dksX0_digest_10 1 rfl rfl)
theorem q39 : (Jvm.Cond.initialized "BilletBars") ∈ lw_all := lw_g (lw_at lw_m1 1 rfl) rfl
theorem q68 : (Jvm.Cond.instantiable "BilletBars" (28 : Nat)) ∈ lw_all := lw_g (lw_at lw_m1 30 rfl) rfl
theorem q70 : (Jvm.Cond.instanceMethod ({ cls := "BilletBars", name := "<init>", desc := "()V" } : Jvm.MethodName)) ∈ lw_all := lw_g (lw_at lw_m1 32 rfl) rfl
theorem q71 : (Jvm.Cond.code ({ cls := "BilletBars", name := "<init>", desc := "()V" } : Jvm.MethodName) prog_1_method_2_code (2 : Nat) (Option.none : Option Jvm.ClassFile.FieldType)) ∈ lw_all := lw_g (lw_at lw_m1 33 rfl) rfl
theorem q72 : (Jvm.Cond.methodLink "BilletBars" (1 : Nat) ({ cls := "java/lang/Object", name := "<init>", desc := "()V" } : Jvm.MethodName)) ∈ lw_all := lw_g (lw_at lw_m1 34 rfl) rfl
theorem q75 : (Jvm.Cond.classLink "BilletBars" (9 : Nat) "BilletBars$Profile") ∈ lw_all := lw_g (lw_at lw_m1 37 rfl) rfl
theorem q77 : (Jvm.Cond.classLink "BilletBars" (15 : Nat) "BilletBars$Die") ∈ lw_all := lw_g (lw_at lw_m1 39 rfl) rfl
theorem q79 : (Jvm.Cond.classLink "BilletBars" (25 : Nat) "BilletBars$End") ∈ lw_all := lw_g (lw_at lw_m1 41 rfl) rfl
theorem q81 : (Jvm.Cond.methodLink "BilletBars" (27 : Nat) ({ cls := "BilletBars$End", name := "<init>", desc := "(LBilletBars;I)V" } : Jvm.MethodName)) ∈ lw_all := lw_g (lw_at lw_m1 43 rfl) rfl
theorem q91 : (Jvm.Cond.fieldLink "BilletBars" (205 : Nat) "BilletBars$Weld" "all" "I") ∈ lw_all := lw_g (lw_at lw_m1 53 rfl) rfl
theorem q93 : (Jvm.Cond.fieldLink "BilletBars" (251 : Nat) "BilletBars$End" "all" "I") ∈ lw_all := lw_g (lw_at lw_m1 55 rfl) rfl
theorem q106 : (Jvm.Cond.classLink "BilletBars" (37 : Nat) "BilletBars$Weld") ∈ lw_all := lw_g (lw_at lw_m1 68 rfl) rfl
theorem q108 : (Jvm.Cond.methodLinkNest "BilletBars" (39 : Nat) ({ cls := "BilletBars$Weld", name := "<init>", desc := "(LBilletBars;)V" } : Jvm.MethodName) "BilletBars") ∈ lw_tbl := lw_at lw_m1 70 rfl
theorem q113 : (Jvm.Cond.fieldLinkNest "BilletBars" (149 : Nat) "BilletBars$Weld" "isThere" "Z" "BilletBars") ∈ lw_tbl := lw_at lw_m1 75 rfl
theorem q122 : (Jvm.Cond.classLink "BilletBars" (46 : Nat) "BilletBars$Bar") ∈ lw_all := lw_g (lw_at lw_m1 84 rfl) rfl
theorem q124 : (Jvm.Cond.classLink "BilletBars" (58 : Nat) "[[I") ∈ lw_all := lw_g (lw_at lw_m1 86 rfl) rfl
theorem q126 : (Jvm.Cond.constant "BilletBars" (73 : Nat) (100000 : Int32)) ∈ lw_all := lw_g (lw_at lw_m1 88 rfl) rfl
theorem q127 : (Jvm.Cond.classLink "BilletBars" (77 : Nat) "BilletBars$Sheet") ∈ lw_all := lw_g (lw_at lw_m1 89 rfl) rfl
theorem q130 : (Jvm.Cond.methodLinkNest "BilletBars" (83 : Nat) ({ cls := "BilletBars$Sheet", name := "<init>", desc := "()V" } : Jvm.MethodName) "BilletBars") ∈ lw_tbl := lw_at lw_m1 92 rfl
theorem q135 : (Jvm.Cond.fieldLinkNest "BilletBars" (311 : Nat) "BilletBars$Sheet" "form" "I" "BilletBars") ∈ lw_tbl := lw_at lw_m1 97 rfl
theorem q137 : (Jvm.Cond.fieldLinkNest "BilletBars" (306 : Nat) "BilletBars$Sheet" "row" "Ljava/lang/Object;" "BilletBars") ∈ lw_tbl := lw_at lw_m1 99 rfl
theorem q143 : (Jvm.Cond.fieldLink "BilletBars" (11 : Nat) "BilletBars" "profiles" "[LBilletBars$Profile;") ∈ lw_all := lw_g (lw_at lw_m1 105 rfl) rfl
theorem q144 : (Jvm.Cond.fieldLink "BilletBars" (84 : Nat) "BilletBars" "profileMany" "I") ∈ lw_all := lw_g (lw_at lw_m1 106 rfl) rfl
theorem q145 : (Jvm.Cond.fieldLink "BilletBars" (17 : Nat) "BilletBars" "dies" "[LBilletBars$Die;") ∈ lw_all := lw_g (lw_at lw_m1 107 rfl) rfl
theorem q146 : (Jvm.Cond.fieldLink "BilletBars" (91 : Nat) "BilletBars" "dieMany" "I") ∈ lw_all := lw_g (lw_at lw_m1 108 rfl) rfl
theorem q147 : (Jvm.Cond.fieldLink "BilletBars" (111 : Nat) "BilletBars" "tick" "I") ∈ lw_all := lw_g (lw_at lw_m1 109 rfl) rfl
theorem q150 : (Jvm.Cond.fieldLink "BilletBars" (21 : Nat) "BilletBars" "laws" "[I") ∈ lw_all := lw_g (lw_at lw_m1 112 rfl) rfl
theorem q151 : (Jvm.Cond.fieldLink "BilletBars" (30 : Nat) "BilletBars" "head" "LBilletBars$End;") ∈ lw_all := lw_g (lw_at lw_m1 113 rfl) rfl
theorem q152 : (Jvm.Cond.fieldLink "BilletBars" (34 : Nat) "BilletBars" "tail" "LBilletBars$End;") ∈ lw_all := lw_g (lw_at lw_m1 114 rfl) rfl
theorem q153 : (Jvm.Cond.fieldLink "BilletBars" (42 : Nat) "BilletBars" "weld" "LBilletBars$Weld;") ∈ lw_all := lw_g (lw_at lw_m1 115 rfl) rfl
theorem q154 : (Jvm.Cond.fieldLink "BilletBars" (48 : Nat) "BilletBars" "bars" "[LBilletBars$Bar;") ∈ lw_all := lw_g (lw_at lw_m1 116 rfl) rfl
theorem q155 : (Jvm.Cond.fieldLink "BilletBars" (193 : Nat) "BilletBars" "barMany" "I") ∈ lw_all := lw_g (lw_at lw_m1 117 rfl) rfl
theorem q156 : (Jvm.Cond.fieldLink "BilletBars" (206 : Nat) "BilletBars" "latestDie" "LBilletBars$Die;") ∈ lw_all := lw_g (lw_at lw_m1 118 rfl) rfl
theorem q157 : (Jvm.Cond.fieldLink "BilletBars" (210 : Nat) "BilletBars" "latestTick" "I") ∈ lw_all := lw_g (lw_at lw_m1 119 rfl) rfl
theorem q158 : (Jvm.Cond.fieldLink "BilletBars" (52 : Nat) "BilletBars" "numbers" "[I") ∈ lw_all := lw_g (lw_at lw_m1 120 rfl) rfl
theorem q159 : (Jvm.Cond.fieldLink "BilletBars" (182 : Nat) "BilletBars" "goods" "I") ∈ lw_all := lw_g (lw_at lw_m1 121 rfl) rfl
theorem q160 : (Jvm.Cond.fieldLink "BilletBars" (55 : Nat) "BilletBars" "stock" "[I") ∈ lw_all := lw_g (lw_at lw_m1 122 rfl) rfl
theorem q161 : (Jvm.Cond.fieldLink "BilletBars" (254 : Nat) "BilletBars" "stockMany" "I") ∈ lw_all := lw_g (lw_at lw_m1 123 rfl) rfl
theorem q162 : (Jvm.Cond.fieldLink "BilletBars" (60 : Nat) "BilletBars" "jobs" "[[I") ∈ lw_all := lw_g (lw_at lw_m1 124 rfl) rfl
theorem q163 : (Jvm.Cond.fieldLink "BilletBars" (257 : Nat) "BilletBars" "jobMany" "I") ∈ lw_all := lw_g (lw_at lw_m1 125 rfl) rfl
theorem q164 : (Jvm.Cond.fieldLink "BilletBars" (63 : Nat) "BilletBars" "change" "I") ∈ lw_all := lw_g (lw_at lw_m1 126 rfl) rfl
theorem q165 : (Jvm.Cond.fieldLink "BilletBars" (67 : Nat) "BilletBars" "tried" "[I") ∈ lw_all := lw_g (lw_at lw_m1 127 rfl) rfl
theorem q166 : (Jvm.Cond.fieldLink "BilletBars" (70 : Nat) "BilletBars" "planned" "[I") ∈ lw_all := lw_g (lw_at lw_m1 128 rfl) rfl
theorem q167 : (Jvm.Cond.fieldLink "BilletBars" (263 : Nat) "BilletBars" "leastLate" "I") ∈ lw_all := lw_g (lw_at lw_m1 129 rfl) rfl
theorem q168 : (Jvm.Cond.fieldLink "BilletBars" (266 : Nat) "BilletBars" "leastEnd" "I") ∈ lw_all := lw_g (lw_at lw_m1 130 rfl) rfl
theorem q169 : (Jvm.Cond.fieldLink "BilletBars" (74 : Nat) "BilletBars" "room" "I") ∈ lw_all := lw_g (lw_at lw_m1 131 rfl) rfl
theorem q170 : (Jvm.Cond.fieldLink "BilletBars" (286 : Nat) "BilletBars" "batchMany" "I") ∈ lw_all := lw_g (lw_at lw_m1 132 rfl) rfl
theorem q171 : (Jvm.Cond.fieldLink "BilletBars" (79 : Nat) "BilletBars" "sheets" "[LBilletBars$Sheet;") ∈ lw_all := lw_g (lw_at lw_m1 133 rfl) rfl
theorem q172 : (Jvm.Cond.fieldLink "BilletBars" (302 : Nat) "BilletBars" "finding" "I") ∈ lw_all := lw_g (lw_at lw_m1 134 rfl) rfl
theorem q173 : (Jvm.Cond.laysFinal "BilletBars" "BilletBars" "profiles" "[LBilletBars$Profile;") ∈ lw_all := lw_g (lw_at lw_m1 135 rfl) rfl
theorem q174 : (Jvm.Cond.soleField "BilletBars" "profiles") ∈ lw_all := lw_g (lw_at lw_m1 136 rfl) rfl
theorem q175 : (Jvm.Cond.lays "BilletBars" "BilletBars" "profileMany" "I") ∈ lw_all := lw_g (lw_at lw_m1 137 rfl) rfl
theorem q176 : (Jvm.Cond.soleField "BilletBars" "profileMany") ∈ lw_all := lw_g (lw_at lw_m1 138 rfl) rfl
theorem q177 : (Jvm.Cond.laysFinal "BilletBars" "BilletBars" "dies" "[LBilletBars$Die;") ∈ lw_all := lw_g (lw_at lw_m1 139 rfl) rfl
theorem q178 : (Jvm.Cond.soleField "BilletBars" "dies") ∈ lw_all := lw_g (lw_at lw_m1 140 rfl) rfl
theorem q179 : (Jvm.Cond.lays "BilletBars" "BilletBars" "dieMany" "I") ∈ lw_all := lw_g (lw_at lw_m1 141 rfl) rfl
theorem q180 : (Jvm.Cond.soleField "BilletBars" "dieMany") ∈ lw_all := lw_g (lw_at lw_m1 142 rfl) rfl
theorem q181 : (Jvm.Cond.lays "BilletBars" "BilletBars" "tick" "I") ∈ lw_all := lw_g (lw_at lw_m1 143 rfl) rfl
theorem q182 : (Jvm.Cond.soleField "BilletBars" "tick") ∈ lw_all := lw_g (lw_at lw_m1 144 rfl) rfl
theorem q183 : (Jvm.Cond.laysFinal "BilletBars" "BilletBars" "laws" "[I") ∈ lw_all := lw_g (lw_at lw_m1 145 rfl) rfl
theorem q184 : (Jvm.Cond.soleField "BilletBars" "laws") ∈ lw_all := lw_g (lw_at lw_m1 146 rfl) rfl
theorem q185 : (Jvm.Cond.laysFinal "BilletBars" "BilletBars" "head" "LBilletBars$End;") ∈ lw_all := lw_g (lw_at lw_m1 147 rfl) rfl
theorem q186 : (Jvm.Cond.soleField "BilletBars" "head") ∈ lw_all := lw_g (lw_at lw_m1 148 rfl) rfl
theorem q187 : (Jvm.Cond.laysFinal "BilletBars" "BilletBars" "tail" "LBilletBars$End;") ∈ lw_all := lw_g (lw_at lw_m1 149 rfl) rfl
theorem q188 : (Jvm.Cond.soleField "BilletBars" "tail") ∈ lw_all := lw_g (lw_at lw_m1 150 rfl) rfl
theorem q189 : (Jvm.Cond.laysFinal "BilletBars" "BilletBars" "weld" "LBilletBars$Weld;") ∈ lw_all := lw_g (lw_at lw_m1 151 rfl) rfl
theorem q190 : (Jvm.Cond.soleField "BilletBars" "weld") ∈ lw_all := lw_g (lw_at lw_m1 152 rfl) rfl
theorem q191 : (Jvm.Cond.laysFinal "BilletBars" "BilletBars" "bars" "[LBilletBars$Bar;") ∈ lw_all := lw_g (lw_at lw_m1 153 rfl) rfl
theorem q192 : (Jvm.Cond.soleField "BilletBars" "bars") ∈ lw_all := lw_g (lw_at lw_m1 154 rfl) rfl
theorem q193 : (Jvm.Cond.lays "BilletBars" "BilletBars" "barMany" "I") ∈ lw_all := lw_g (lw_at lw_m1 155 rfl) rfl
theorem q194 : (Jvm.Cond.soleField "BilletBars" "barMany") ∈ lw_all := lw_g (lw_at lw_m1 156 rfl) rfl
theorem q195 : (Jvm.Cond.lays "BilletBars" "BilletBars" "latestDie" "LBilletBars$Die;") ∈ lw_all := lw_g (lw_at lw_m1 157 rfl) rfl
theorem q196 : (Jvm.Cond.soleField "BilletBars" "latestDie") ∈ lw_all := lw_g (lw_at lw_m1 158 rfl) rfl
theorem q197 : (Jvm.Cond.lays "BilletBars" "BilletBars" "latestTick" "I") ∈ lw_all := lw_g (lw_at lw_m1 159 rfl) rfl
theorem q198 : (Jvm.Cond.soleField "BilletBars" "latestTick") ∈ lw_all := lw_g (lw_at lw_m1 160 rfl) rfl
theorem q199 : (Jvm.Cond.laysFinal "BilletBars" "BilletBars" "numbers" "[I") ∈ lw_all := lw_g (lw_at lw_m1 161 rfl) rfl
theorem q200 : (Jvm.Cond.soleField "BilletBars" "numbers") ∈ lw_all := lw_g (lw_at lw_m1 162 rfl) rfl
theorem q201 : (Jvm.Cond.lays "BilletBars" "BilletBars" "goods" "I") ∈ lw_all := lw_g (lw_at lw_m1 163 rfl) rfl
theorem q202 : (Jvm.Cond.soleField "BilletBars" "goods") ∈ lw_all := lw_g (lw_at lw_m1 164 rfl) rfl
theorem q203 : (Jvm.Cond.laysFinal "BilletBars" "BilletBars" "stock" "[I") ∈ lw_all := lw_g (lw_at lw_m1 165 rfl) rfl
theorem q204 : (Jvm.Cond.soleField "BilletBars" "stock") ∈ lw_all := lw_g (lw_at lw_m1 166 rfl) rfl
theorem q205 : (Jvm.Cond.lays "BilletBars" "BilletBars" "stockMany" "I") ∈ lw_all := lw_g (lw_at lw_m1 167 rfl) rfl
theorem q206 : (Jvm.Cond.soleField "BilletBars" "stockMany") ∈ lw_all := lw_g (lw_at lw_m1 168 rfl) rfl
theorem q207 : (Jvm.Cond.laysFinal "BilletBars" "BilletBars" "jobs" "[[I") ∈ lw_all := lw_g (lw_at lw_m1 169 rfl) rfl
theorem q208 : (Jvm.Cond.soleField "BilletBars" "jobs") ∈ lw_all := lw_g (lw_at lw_m1 170 rfl) rfl
theorem q209 : (Jvm.Cond.lays "BilletBars" "BilletBars" "jobMany" "I") ∈ lw_all := lw_g (lw_at lw_m1 171 rfl) rfl
theorem q210 : (Jvm.Cond.soleField "BilletBars" "jobMany") ∈ lw_all := lw_g (lw_at lw_m1 172 rfl) rfl
theorem q211 : (Jvm.Cond.lays "BilletBars" "BilletBars" "change" "I") ∈ lw_all := lw_g (lw_at lw_m1 173 rfl) rfl
theorem q212 : (Jvm.Cond.soleField "BilletBars" "change") ∈ lw_all := lw_g (lw_at lw_m1 174 rfl) rfl
theorem q213 : (Jvm.Cond.laysFinal "BilletBars" "BilletBars" "tried" "[I") ∈ lw_all := lw_g (lw_at lw_m1 175 rfl) rfl
theorem q214 : (Jvm.Cond.soleField "BilletBars" "tried") ∈ lw_all := lw_g (lw_at lw_m1 176 rfl) rfl
theorem q215 : (Jvm.Cond.laysFinal "BilletBars" "BilletBars" "planned" "[I") ∈ lw_all := lw_g (lw_at lw_m1 177 rfl) rfl
theorem q216 : (Jvm.Cond.soleField "BilletBars" "planned") ∈ lw_all := lw_g (lw_at lw_m1 178 rfl) rfl
theorem q217 : (Jvm.Cond.lays "BilletBars" "BilletBars" "leastLate" "I") ∈ lw_all := lw_g (lw_at lw_m1 179 rfl) rfl
theorem q218 : (Jvm.Cond.soleField "BilletBars" "leastLate") ∈ lw_all := lw_g (lw_at lw_m1 180 rfl) rfl
theorem q219 : (Jvm.Cond.lays "BilletBars" "BilletBars" "leastEnd" "I") ∈ lw_all := lw_g (lw_at lw_m1 181 rfl) rfl
theorem q220 : (Jvm.Cond.soleField "BilletBars" "leastEnd") ∈ lw_all := lw_g (lw_at lw_m1 182 rfl) rfl
theorem q221 : (Jvm.Cond.lays "BilletBars" "BilletBars" "room" "I") ∈ lw_all := lw_g (lw_at lw_m1 183 rfl) rfl
theorem q222 : (Jvm.Cond.soleField "BilletBars" "room") ∈ lw_all := lw_g (lw_at lw_m1 184 rfl) rfl
theorem q223 : (Jvm.Cond.lays "BilletBars" "BilletBars" "batchMany" "I") ∈ lw_all := lw_g (lw_at lw_m1 185 rfl) rfl
theorem q224 : (Jvm.Cond.soleField "BilletBars" "batchMany") ∈ lw_all := lw_g (lw_at lw_m1 186 rfl) rfl
theorem q225 : (Jvm.Cond.laysFinal "BilletBars" "BilletBars" "sheets" "[LBilletBars$Sheet;") ∈ lw_all := lw_g (lw_at lw_m1 187 rfl) rfl
theorem q226 : (Jvm.Cond.soleField "BilletBars" "sheets") ∈ lw_all := lw_g (lw_at lw_m1 188 rfl) rfl
theorem q227 : (Jvm.Cond.lays "BilletBars" "BilletBars" "finding" "I") ∈ lw_all := lw_g (lw_at lw_m1 189 rfl) rfl
theorem q228 : (Jvm.Cond.soleField "BilletBars" "finding") ∈ lw_all := lw_g (lw_at lw_m1 190 rfl) rfl
theorem q229 : (Jvm.Cond.superclass "BilletBars" "java/lang/Object") ∈ lw_all := lw_g (lw_at lw_m1 191 rfl) rfl
theorem q231 : (Jvm.Cond.instanceMethod ({ cls := "BilletBars", name := "profile", desc := "(IIII)I" } : Jvm.MethodName)) ∈ lw_all := lw_g (lw_at lw_m1 193 rfl) rfl
theorem q232 : (Jvm.Cond.selects "BilletBars" ({ cls := "BilletBars", name := "profile", desc := "(IIII)I" } : Jvm.MethodName) ({ cls := "BilletBars", name := "profile", desc := "(IIII)I" } : Jvm.MethodName)) ∈ lw_all := lw_g (lw_at lw_m1 194 rfl) rfl
theorem q233 : (Jvm.Cond.code ({ cls := "BilletBars", name := "profile", desc := "(IIII)I" } : Jvm.MethodName) prog_1_method_5_code (5 : Nat) (Option.some Jvm.ClassFile.FieldType.int)) ∈ lw_all := lw_g (lw_at lw_m1 195 rfl) rfl
theorem q234 : (Jvm.Cond.methodLink "BilletBars" (87 : Nat) ({ cls := "BilletBars", name := "in", desc := "(III)Z" } : Jvm.MethodName)) ∈ lw_all := lw_g (lw_at lw_m1 196 rfl) rfl
theorem q235 : (Jvm.Cond.static ({ cls := "BilletBars", name := "in", desc := "(III)Z" } : Jvm.MethodName)) ∈ lw_all := lw_g (lw_at lw_m1 197 rfl) rfl
theorem q236 : (Jvm.Cond.code ({ cls := "BilletBars", name := "in", desc := "(III)Z" } : Jvm.MethodName) prog_1_method_1_code (3 : Nat) (Option.some Jvm.ClassFile.FieldType.boolean)) ∈ lw_all := lw_g (lw_at lw_m1 198 rfl) rfl
theorem q238 : (Jvm.Cond.methodLink "BilletBars" (94 : Nat) ({ cls := "BilletBars$Profile", name := "<init>", desc := "(IIII)V" } : Jvm.MethodName)) ∈ lw_all := lw_g (lw_at lw_m1 200 rfl) rfl
theorem q269 : (Jvm.Cond.fieldLinkNest "BilletBars" (260 : Nat) "BilletBars$Profile" "alloy" "I" "BilletBars") ∈ lw_tbl := lw_at lw_m1 231 rfl
theorem q271 : (Jvm.Cond.fieldLinkNest "BilletBars" (146 : Nat) "BilletBars$Profile" "ratio" "I" "BilletBars") ∈ lw_tbl := lw_at lw_m1 233 rfl
theorem q273 : (Jvm.Cond.fieldLinkNest "BilletBars" (283 : Nat) "BilletBars$Profile" "recipe" "I" "BilletBars") ∈ lw_tbl := lw_at lw_m1 235 rfl
theorem q275 : (Jvm.Cond.fieldLinkNest "BilletBars" (318 : Nat) "BilletBars$Profile" "grams" "I" "BilletBars") ∈ lw_tbl := lw_at lw_m1 237 rfl
theorem q277 : (Jvm.Cond.fieldLinkNest "BilletBars" (157 : Nat) "BilletBars$Profile" "orders" "Ljava/util/ArrayList;" "BilletBars") ∈ lw_tbl := lw_at lw_m1 239 rfl
theorem q290 : (Jvm.Cond.instanceMethod ({ cls := "BilletBars", name := "die", desc := "(II)I" } : Jvm.MethodName)) ∈ lw_all := lw_g (lw_at lw_m2 12 rfl) rfl
theorem q291 : (Jvm.Cond.selects "BilletBars" ({ cls := "BilletBars", name := "die", desc := "(II)I" } : Jvm.MethodName) ({ cls := "BilletBars", name := "die", desc := "(II)I" } : Jvm.MethodName)) ∈ lw_all := lw_g (lw_at lw_m2 13 rfl) rfl
theorem q292 : (Jvm.Cond.code ({ cls := "BilletBars", name := "die", desc := "(II)I" } : Jvm.MethodName) prog_1_method_6_code (3 : Nat) (Option.some Jvm.ClassFile.FieldType.int)) ∈ lw_all := lw_g (lw_at lw_m2 14 rfl) rfl
theorem q293 : (Jvm.Cond.methodLink "BilletBars" (97 : Nat) ({ cls := "BilletBars", name := "isProfile", desc := "(I)Z" } : Jvm.MethodName)) ∈ lw_all := lw_g (lw_at lw_m2 15 rfl) rfl
theorem q294 : (Jvm.Cond.privateMethod ({ cls := "BilletBars", name := "isProfile", desc := "(I)Z" } : Jvm.MethodName)) ∈ lw_tbl := lw_at lw_m2 16 rfl
theorem q295 : (Jvm.Cond.instanceMethod ({ cls := "BilletBars", name := "isProfile", desc := "(I)Z" } : Jvm.MethodName)) ∈ lw_all := lw_g (lw_at lw_m2 17 rfl) rfl
theorem q296 : (Jvm.Cond.code ({ cls := "BilletBars", name := "isProfile", desc := "(I)Z" } : Jvm.MethodName) prog_1_method_3_code (2 : Nat) (Option.some Jvm.ClassFile.FieldType.boolean)) ∈ lw_all := lw_g (lw_at lw_m2 18 rfl) rfl
theorem q298 : (Jvm.Cond.methodLink "BilletBars" (101 : Nat) ({ cls := "BilletBars$Die", name := "<init>", desc := "(ILBilletBars$Profile;I)V" } : Jvm.MethodName)) ∈ lw_all := lw_g (lw_at lw_m2 20 rfl) rfl
theorem q303 : (Jvm.Cond.fieldLinkNest "BilletBars" (120 : Nat) "BilletBars$Die" "profile" "LBilletBars$Profile;" "BilletBars") ∈ lw_tbl := lw_at lw_m2 25 rfl
theorem q305 : (Jvm.Cond.fieldLinkNest "BilletBars" (234 : Nat) "BilletBars$Die" "number" "I" "BilletBars") ∈ lw_tbl := lw_at lw_m2 27 rfl
theorem q307 : (Jvm.Cond.fieldLinkNest "BilletBars" (128 : Nat) "BilletBars$Die" "limit" "I" "BilletBars") ∈ lw_tbl := lw_at lw_m2 29 rfl
theorem q309 : (Jvm.Cond.fieldLinkNest "BilletBars" (117 : Nat) "BilletBars$Die" "shots" "I" "BilletBars") ∈ lw_tbl := lw_at lw_m2 31 rfl
theorem q310 : (Jvm.Cond.fieldLinkNest "BilletBars" (134 : Nat) "BilletBars$Die" "ever" "I" "BilletBars") ∈ lw_tbl := lw_at lw_m2 32 rfl
theorem q312 : (Jvm.Cond.fieldLinkNest "BilletBars" (107 : Nat) "BilletBars$Die" "isWarm" "Z" "BilletBars") ∈ lw_tbl := lw_at lw_m2 34 rfl
theorem q314 : (Jvm.Cond.fieldLinkNest "BilletBars" (114 : Nat) "BilletBars$Die" "since" "I" "BilletBars") ∈ lw_tbl := lw_at lw_m2 36 rfl
theorem q331 : (Jvm.Cond.instanceMethod ({ cls := "BilletBars", name := "warm", desc := "(I)I" } : Jvm.MethodName)) ∈ lw_all := lw_g (lw_at lw_m2 53 rfl) rfl
theorem q332 : (Jvm.Cond.selects "BilletBars" ({ cls := "BilletBars", name := "warm", desc := "(I)I" } : Jvm.MethodName) ({ cls := "BilletBars", name := "warm", desc := "(I)I" } : Jvm.MethodName)) ∈ lw_all := lw_g (lw_at lw_m2 54 rfl) rfl
theorem q333 : (Jvm.Cond.code ({ cls := "BilletBars", name := "warm", desc := "(I)I" } : Jvm.MethodName) prog_1_method_7_code (2 : Nat) (Option.some Jvm.ClassFile.FieldType.int)) ∈ lw_all := lw_g (lw_at lw_m2 55 rfl) rfl
theorem q334 : (Jvm.Cond.methodLink "BilletBars" (104 : Nat) ({ cls := "BilletBars", name := "isDie", desc := "(I)Z" } : Jvm.MethodName)) ∈ lw_all := lw_g (lw_at lw_m2 56 rfl) rfl
theorem q335 : (Jvm.Cond.privateMethod ({ cls := "BilletBars", name := "isDie", desc := "(I)Z" } : Jvm.MethodName)) ∈ lw_tbl := lw_at lw_m2 57 rfl
theorem q336 : (Jvm.Cond.instanceMethod ({ cls := "BilletBars", name := "isDie", desc := "(I)Z" } : Jvm.MethodName)) ∈ lw_all := lw_g (lw_at lw_m2 58 rfl) rfl
theorem q337 : (Jvm.Cond.code ({ cls := "BilletBars", name := "isDie", desc := "(I)Z" } : Jvm.MethodName) prog_1_method_4_code (2 : Nat) (Option.some Jvm.ClassFile.FieldType.boolean)) ∈ lw_all := lw_g (lw_at lw_m2 59 rfl) rfl
theorem q339 : (Jvm.Cond.instanceMethod ({ cls := "BilletBars", name := "cool", desc := "(I)I" } : Jvm.MethodName)) ∈ lw_all := lw_g (lw_at lw_m2 61 rfl) rfl
theorem q340 : (Jvm.Cond.selects "BilletBars" ({ cls := "BilletBars", name := "cool", desc := "(I)I" } : Jvm.MethodName) ({ cls := "BilletBars", name := "cool", desc := "(I)I" } : Jvm.MethodName)) ∈ lw_all := lw_g (lw_at lw_m2 62 rfl) rfl
theorem q341 : (Jvm.Cond.code ({ cls := "BilletBars", name := "cool", desc := "(I)I" } : Jvm.MethodName) prog_1_method_8_code (2 : Nat) (Option.some Jvm.ClassFile.FieldType.int)) ∈ lw_all := lw_g (lw_at lw_m2 63 rfl) rfl
theorem q343 : (Jvm.Cond.instanceMethod ({ cls := "BilletBars", name := "nitride", desc := "(I)I" } : Jvm.MethodName)) ∈ lw_all := lw_g (lw_at lw_m2 65 rfl) rfl
theorem q344 : (Jvm.Cond.selects "BilletBars" ({ cls := "BilletBars", name := "nitride", desc := "(I)I" } : Jvm.MethodName) ({ cls := "BilletBars", name := "nitride", desc := "(I)I" } : Jvm.MethodName)) ∈ lw_all := lw_g (lw_at lw_m2 66 rfl) rfl
theorem q345 : (Jvm.Cond.code ({ cls := "BilletBars", name := "nitride", desc := "(I)I" } : Jvm.MethodName) prog_1_method_9_code (3 : Nat) (Option.some Jvm.ClassFile.FieldType.int)) ∈ lw_all := lw_g (lw_at lw_m2 67 rfl) rfl
theorem q347 : (Jvm.Cond.instanceMethod ({ cls := "BilletBars", name := "about", desc := "(II)I" } : Jvm.MethodName)) ∈ lw_all := lw_g (lw_at lw_m2 69 rfl) rfl
theorem q348 : (Jvm.Cond.selects "BilletBars" ({ cls := "BilletBars", name := "about", desc := "(II)I" } : Jvm.MethodName) ({ cls := "BilletBars", name := "about", desc := "(II)I" } : Jvm.MethodName)) ∈ lw_all := lw_g (lw_at lw_m2 70 rfl) rfl
theorem q349 : (Jvm.Cond.code ({ cls := "BilletBars", name := "about", desc := "(II)I" } : Jvm.MethodName) prog_1_method_11_code (4 : Nat) (Option.some Jvm.ClassFile.FieldType.int)) ∈ lw_all := lw_g (lw_at lw_m2 71 rfl) rfl
theorem q350 : (Jvm.Cond.methodLink "BilletBars" (124 : Nat) ({ cls := "BilletBars", name := "profileOf", desc := "(LBilletBars$Die;)I" } : Jvm.MethodName)) ∈ lw_all := lw_g (lw_at lw_m2 72 rfl) rfl
theorem q351 : (Jvm.Cond.privateMethod ({ cls := "BilletBars", name := "profileOf", desc := "(LBilletBars$Die;)I" } : Jvm.MethodName)) ∈ lw_tbl := lw_at lw_m2 73 rfl
theorem q352 : (Jvm.Cond.instanceMethod ({ cls := "BilletBars", name := "profileOf", desc := "(LBilletBars$Die;)I" } : Jvm.MethodName)) ∈ lw_all := lw_g (lw_at lw_m2 74 rfl) rfl
theorem q353 : (Jvm.Cond.code ({ cls := "BilletBars", name := "profileOf", desc := "(LBilletBars$Die;)I" } : Jvm.MethodName) prog_1_method_10_code (3 : Nat) (Option.some Jvm.ClassFile.FieldType.int)) ∈ lw_all := lw_g (lw_at lw_m2 75 rfl) rfl
theorem q354 : (Jvm.Cond.methodLink "BilletBars" (131 : Nat) ({ cls := "BilletBars$Die", name := "may", desc := "(I)Z" } : Jvm.MethodName)) ∈ lw_all := lw_g (lw_at lw_m2 76 rfl) rfl
theorem q360 : (Jvm.Cond.instanceMethod ({ cls := "BilletBars", name := "ready", desc := "(I)I" } : Jvm.MethodName)) ∈ lw_all := lw_g (lw_at lw_m2 82 rfl) rfl
theorem q361 : (Jvm.Cond.selects "BilletBars" ({ cls := "BilletBars", name := "ready", desc := "(I)I" } : Jvm.MethodName) ({ cls := "BilletBars", name := "ready", desc := "(I)I" } : Jvm.MethodName)) ∈ lw_all := lw_g (lw_at lw_m2 83 rfl) rfl
theorem q362 : (Jvm.Cond.code ({ cls := "BilletBars", name := "ready", desc := "(I)I" } : Jvm.MethodName) prog_1_method_12_code (5 : Nat) (Option.some Jvm.ClassFile.FieldType.int)) ∈ lw_all := lw_g (lw_at lw_m2 84 rfl) rfl
theorem q364 : (Jvm.Cond.instanceMethod ({ cls := "BilletBars", name := "pass", desc := "(I)I" } : Jvm.MethodName)) ∈ lw_all := lw_g (lw_at lw_m2 86 rfl) rfl
theorem q365 : (Jvm.Cond.selects "BilletBars" ({ cls := "BilletBars", name := "pass", desc := "(I)I" } : Jvm.MethodName) ({ cls := "BilletBars", name := "pass", desc := "(I)I" } : Jvm.MethodName)) ∈ lw_all := lw_g (lw_at lw_m2 87 rfl) rfl
theorem q366 : (Jvm.Cond.code ({ cls := "BilletBars", name := "pass", desc := "(I)I" } : Jvm.MethodName) prog_1_method_13_code (2 : Nat) (Option.some Jvm.ClassFile.FieldType.int)) ∈ lw_all := lw_g (lw_at lw_m2 88 rfl) rfl
theorem q368 : (Jvm.Cond.instanceMethod ({ cls := "BilletBars", name := "law", desc := "(II)I" } : Jvm.MethodName)) ∈ lw_all := lw_g (lw_at lw_m2 90 rfl) rfl
theorem q369 : (Jvm.Cond.selects "BilletBars" ({ cls := "BilletBars", name := "law", desc := "(II)I" } : Jvm.MethodName) ({ cls := "BilletBars", name := "law", desc := "(II)I" } : Jvm.MethodName)) ∈ lw_all := lw_g (lw_at lw_m2 91 rfl) rfl
theorem q370 : (Jvm.Cond.code ({ cls := "BilletBars", name := "law", desc := "(II)I" } : Jvm.MethodName) prog_1_method_14_code (4 : Nat) (Option.some Jvm.ClassFile.FieldType.int)) ∈ lw_all := lw_g (lw_at lw_m2 92 rfl) rfl
theorem q371 : (Jvm.Cond.fieldLink "BilletBars" (137 : Nat) "BilletBars" "MOST" "[I") ∈ lw_all := lw_g (lw_at lw_m2 93 rfl) rfl
theorem q372 : (Jvm.Cond.laysStatic "BilletBars" "MOST" "[I") ∈ lw_tbl := lw_at lw_m2 94 rfl
theorem q374 : (Jvm.Cond.instanceMethod ({ cls := "BilletBars", name := "press", desc := "(II)I" } : Jvm.MethodName)) ∈ lw_all := lw_g (lw_at lw_m2 96 rfl) rfl
theorem q375 : (Jvm.Cond.selects "BilletBars" ({ cls := "BilletBars", name := "press", desc := "(II)I" } : Jvm.MethodName) ({ cls := "BilletBars", name := "press", desc := "(II)I" } : Jvm.MethodName)) ∈ lw_all := lw_g (lw_at lw_m2 97 rfl) rfl
theorem q376 : (Jvm.Cond.code ({ cls := "BilletBars", name := "press", desc := "(II)I" } : Jvm.MethodName) prog_1_method_20_code (8 : Nat) (Option.some Jvm.ClassFile.FieldType.int)) ∈ lw_all := lw_g (lw_at lw_m2 98 rfl) rfl
theorem q378 : (Jvm.Cond.methodLink "BilletBars" (196 : Nat) ({ cls := "BilletBars$Bar", name := "<init>", desc := "(LBilletBars$Die;I)V" } : Jvm.MethodName)) ∈ lw_all := lw_g (lw_at lw_m2 100 rfl) rfl
theorem q383 : (Jvm.Cond.fieldLinkNest "BilletBars" (231 : Nat) "BilletBars$Bar" "die" "LBilletBars$Die;" "BilletBars") ∈ lw_tbl := lw_at lw_m2 105 rfl
theorem q385 : (Jvm.Cond.fieldLinkNest "BilletBars" (237 : Nat) "BilletBars$Bar" "billet" "I" "BilletBars") ∈ lw_tbl := lw_at lw_m2 107 rfl
theorem q386 : (Jvm.Cond.fieldLinkNest "BilletBars" (202 : Nat) "BilletBars$Bar" "all" "I" "BilletBars") ∈ lw_tbl := lw_at lw_m2 108 rfl
theorem q387 : (Jvm.Cond.fieldLinkNest "BilletBars" (224 : Nat) "BilletBars$Bar" "goods" "I" "BilletBars") ∈ lw_tbl := lw_at lw_m2 109 rfl
theorem q388 : (Jvm.Cond.fieldLinkNest "BilletBars" (225 : Nat) "BilletBars$Bar" "cutOff" "I" "BilletBars") ∈ lw_tbl := lw_at lw_m2 110 rfl
theorem q389 : (Jvm.Cond.fieldLinkNest "BilletBars" (217 : Nat) "BilletBars$Bar" "welded" "I" "BilletBars") ∈ lw_tbl := lw_at lw_m2 111 rfl
theorem q391 : (Jvm.Cond.fieldLinkNest "BilletBars" (240 : Nat) "BilletBars$Bar" "batch" "I" "BilletBars") ∈ lw_tbl := lw_at lw_m2 113 rfl
theorem q392 : (Jvm.Cond.fieldLinkNest "BilletBars" (292 : Nat) "BilletBars$Bar" "looked" "I" "BilletBars") ∈ lw_tbl := lw_at lw_m2 114 rfl
theorem q410 : (Jvm.Cond.methodLink "BilletBars" (199 : Nat) ({ cls := "BilletBars", name := "barOf", desc := "(LBilletBars$Profile;I)I" } : Jvm.MethodName)) ∈ lw_all := lw_g (lw_at lw_m2 132 rfl) rfl
theorem q411 : (Jvm.Cond.privateMethod ({ cls := "BilletBars", name := "barOf", desc := "(LBilletBars$Profile;I)I" } : Jvm.MethodName)) ∈ lw_tbl := lw_at lw_m2 133 rfl
theorem q412 : (Jvm.Cond.instanceMethod ({ cls := "BilletBars", name := "barOf", desc := "(LBilletBars$Profile;I)I" } : Jvm.MethodName)) ∈ lw_all := lw_g (lw_at lw_m2 134 rfl) rfl
theorem q413 : (Jvm.Cond.code ({ cls := "BilletBars", name := "barOf", desc := "(LBilletBars$Profile;I)I" } : Jvm.MethodName) prog_1_method_15_code (3 : Nat) (Option.some Jvm.ClassFile.FieldType.int)) ∈ lw_all := lw_g (lw_at lw_m2 135 rfl) rfl
theorem q414 : (Jvm.Cond.methodLink "BilletBars" (140 : Nat) ({ cls := "java/lang/Math", name := "max", desc := "(II)I" } : Jvm.MethodName)) ∈ lw_all := lw_g (lw_at lw_m2 136 rfl) rfl
theorem q417 : (Jvm.Cond.methodLink "BilletBars" (213 : Nat) ({ cls := "BilletBars", name := "usable", desc := "(IZZ)I" } : Jvm.MethodName)) ∈ lw_all := lw_g (lw_at lw_m2 139 rfl) rfl
theorem q418 : (Jvm.Cond.privateMethod ({ cls := "BilletBars", name := "usable", desc := "(IZZ)I" } : Jvm.MethodName)) ∈ lw_tbl := lw_at lw_m2 140 rfl
theorem q419 : (Jvm.Cond.instanceMethod ({ cls := "BilletBars", name := "usable", desc := "(IZZ)I" } : Jvm.MethodName)) ∈ lw_all := lw_g (lw_at lw_m2 141 rfl) rfl
theorem q420 : (Jvm.Cond.code ({ cls := "BilletBars", name := "usable", desc := "(IZZ)I" } : Jvm.MethodName) prog_1_method_16_code (4 : Nat) (Option.some Jvm.ClassFile.FieldType.int)) ∈ lw_all := lw_g (lw_at lw_m2 142 rfl) rfl
theorem q421 : (Jvm.Cond.methodLink "BilletBars" (152 : Nat) ({ cls := "BilletBars$End", name := "cut", desc := "(IZ)I" } : Jvm.MethodName)) ∈ lw_all := lw_g (lw_at lw_m2 143 rfl) rfl
theorem q439 : (Jvm.Cond.methodLink "BilletBars" (156 : Nat) ({ cls := "BilletBars$Weld", name := "cut", desc := "(IZ)I" } : Jvm.MethodName)) ∈ lw_all := lw_g (lw_at lw_m2 161 rfl) rfl
theorem q442 : (Jvm.Cond.methodLink "BilletBars" (220 : Nat) ({ cls := "BilletBars", name := "cuts", desc := "(LBilletBars$Profile;I)V" } : Jvm.MethodName)) ∈ lw_all := lw_g (lw_at lw_m2 164 rfl) rfl
theorem q443 : (Jvm.Cond.privateMethod ({ cls := "BilletBars", name := "cuts", desc := "(LBilletBars$Profile;I)V" } : Jvm.MethodName)) ∈ lw_tbl := lw_at lw_m2 165 rfl
theorem q444 : (Jvm.Cond.instanceMethod ({ cls := "BilletBars", name := "cuts", desc := "(LBilletBars$Profile;I)V" } : Jvm.MethodName)) ∈ lw_all := lw_g (lw_at lw_m2 166 rfl) rfl
theorem q445 : (Jvm.Cond.code ({ cls := "BilletBars", name := "cuts", desc := "(LBilletBars$Profile;I)V" } : Jvm.MethodName) prog_1_method_19_code (12 : Nat) (Option.none : Option Jvm.ClassFile.FieldType)) ∈ lw_all := lw_g (lw_at lw_m2 167 rfl) rfl
theorem q446 : (Jvm.Cond.methodLink "BilletBars" (185 : Nat) ({ cls := "BilletBars", name := "lengthOf", desc := "(LBilletBars$Profile;I)I" } : Jvm.MethodName)) ∈ lw_all := lw_g (lw_at lw_m2 168 rfl) rfl
theorem q447 : (Jvm.Cond.static ({ cls := "BilletBars", name := "lengthOf", desc := "(LBilletBars$Profile;I)I" } : Jvm.MethodName)) ∈ lw_all := lw_g (lw_at lw_m2 169 rfl) rfl
theorem q448 : (Jvm.Cond.code ({ cls := "BilletBars", name := "lengthOf", desc := "(LBilletBars$Profile;I)I" } : Jvm.MethodName) prog_1_method_18_code (2 : Nat) (Option.some Jvm.ClassFile.FieldType.int)) ∈ lw_all := lw_g (lw_at lw_m2 170 rfl) rfl
theorem q449 : (Jvm.Cond.methodLink "BilletBars" (161 : Nat) ({ cls := "java/util/ArrayList", name := "size", desc := "()I" } : Jvm.MethodName)) ∈ lw_all := lw_g (lw_at lw_m2 171 rfl) rfl
theorem q453 : (Jvm.Cond.methodLink "BilletBars" (167 : Nat) ({ cls := "java/util/ArrayList", name := "get", desc := "(I)Ljava/lang/Object;" } : Jvm.MethodName)) ∈ lw_all := lw_g (lw_at lw_m2 175 rfl) rfl
theorem q467 : (Jvm.Cond.classLink "BilletBars" (171 : Nat) "BilletBars$Order") ∈ lw_all := lw_g (lw_at lw_m2 189 rfl) rfl
theorem q468 : (Jvm.Cond.methodLink "BilletBars" (189 : Nat) ({ cls := "BilletBars", name := "most", desc := "(LBilletBars$Profile;II)I" } : Jvm.MethodName)) ∈ lw_all := lw_g (lw_at lw_m2 190 rfl) rfl
theorem q469 : (Jvm.Cond.privateMethod ({ cls := "BilletBars", name := "most", desc := "(LBilletBars$Profile;II)I" } : Jvm.MethodName)) ∈ lw_tbl := lw_at lw_m2 191 rfl
theorem q470 : (Jvm.Cond.instanceMethod ({ cls := "BilletBars", name := "most", desc := "(LBilletBars$Profile;II)I" } : Jvm.MethodName)) ∈ lw_all := lw_g (lw_at lw_m2 192 rfl) rfl
theorem q471 : (Jvm.Cond.code ({ cls := "BilletBars", name := "most", desc := "(LBilletBars$Profile;II)I" } : Jvm.MethodName) prog_1_method_17_code (5 : Nat) (Option.some Jvm.ClassFile.FieldType.int)) ∈ lw_all := lw_g (lw_at lw_m2 193 rfl) rfl
theorem q472 : (Jvm.Cond.methodLink "BilletBars" (176 : Nat) ({ cls := "java/lang/Math", name := "min", desc := "(II)I" } : Jvm.MethodName)) ∈ lw_all := lw_g (lw_at lw_m2 194 rfl) rfl
theorem q474 : (Jvm.Cond.instanceMethod ({ cls := "BilletBars", name := "bar", desc := "(II)I" } : Jvm.MethodName)) ∈ lw_all := lw_g (lw_at lw_m2 196 rfl) rfl
theorem q475 : (Jvm.Cond.selects "BilletBars" ({ cls := "BilletBars", name := "bar", desc := "(II)I" } : Jvm.MethodName) ({ cls := "BilletBars", name := "bar", desc := "(II)I" } : Jvm.MethodName)) ∈ lw_all := lw_g (lw_at lw_m2 197 rfl) rfl
theorem q476 : (Jvm.Cond.code ({ cls := "BilletBars", name := "bar", desc := "(II)I" } : Jvm.MethodName) prog_1_method_22_code (4 : Nat) (Option.some Jvm.ClassFile.FieldType.int)) ∈ lw_all := lw_g (lw_at lw_m2 198 rfl) rfl
theorem q477 : (Jvm.Cond.methodLink "BilletBars" (228 : Nat) ({ cls := "BilletBars", name := "isBar", desc := "(I)Z" } : Jvm.MethodName)) ∈ lw_all := lw_g (lw_at lw_m2 199 rfl) rfl
theorem q478 : (Jvm.Cond.privateMethod ({ cls := "BilletBars", name := "isBar", desc := "(I)Z" } : Jvm.MethodName)) ∈ lw_tbl := lw_at lw_m2 200 rfl
theorem q479 : (Jvm.Cond.instanceMethod ({ cls := "BilletBars", name := "isBar", desc := "(I)Z" } : Jvm.MethodName)) ∈ lw_all := lw_g (lw_at lw_m2 201 rfl) rfl
theorem q480 : (Jvm.Cond.code ({ cls := "BilletBars", name := "isBar", desc := "(I)Z" } : Jvm.MethodName) prog_1_method_21_code (2 : Nat) (Option.some Jvm.ClassFile.FieldType.boolean)) ∈ lw_all := lw_g (lw_at lw_m2 202 rfl) rfl
theorem q482 : (Jvm.Cond.instanceMethod ({ cls := "BilletBars", name := "order", desc := "(III)I" } : Jvm.MethodName)) ∈ lw_all := lw_g (lw_at lw_m2 204 rfl) rfl
theorem q483 : (Jvm.Cond.selects "BilletBars" ({ cls := "BilletBars", name := "order", desc := "(III)I" } : Jvm.MethodName) ({ cls := "BilletBars", name := "order", desc := "(III)I" } : Jvm.MethodName)) ∈ lw_all := lw_g (lw_at lw_m2 205 rfl) rfl
theorem q484 : (Jvm.Cond.code ({ cls := "BilletBars", name := "order", desc := "(III)I" } : Jvm.MethodName) prog_1_method_23_code (5 : Nat) (Option.some Jvm.ClassFile.FieldType.int)) ∈ lw_all := lw_g (lw_at lw_m2 206 rfl) rfl
theorem q486 : (Jvm.Cond.methodLink "BilletBars" (243 : Nat) ({ cls := "BilletBars$Order", name := "<init>", desc := "(II)V" } : Jvm.MethodName)) ∈ lw_all := lw_g (lw_at lw_m2 208 rfl) rfl
theorem q491 : (Jvm.Cond.fieldLinkNest "BilletBars" (179 : Nat) "BilletBars$Order" "length" "I" "BilletBars") ∈ lw_tbl := lw_at lw_m2 213 rfl
theorem q493 : (Jvm.Cond.fieldLinkNest "BilletBars" (173 : Nat) "BilletBars$Order" "wanted" "I" "BilletBars") ∈ lw_tbl := lw_at lw_m2 215 rfl
theorem q499 : (Jvm.Cond.methodLink "BilletBars" (246 : Nat) ({ cls := "java/util/ArrayList", name := "add", desc := "(Ljava/lang/Object;)Z" } : Jvm.MethodName)) ∈ lw_all := lw_g (lw_at lw_m2 221 rfl) rfl
theorem q529 : (Jvm.Cond.selects "BilletBars" ({ cls := "java/lang/Object", name := "getClass", desc := "()Ljava/lang/Class;" } : Jvm.MethodName) ({ cls := "java/lang/Object", name := "getClass", desc := "()Ljava/lang/Class;" } : Jvm.MethodName)) ∈ lw_all := lw_g (lw_at lw_m3 11 rfl) rfl
theorem q557 : (Jvm.Cond.instanceMethod ({ cls := "BilletBars", name := "wanted", desc := "(II)I" } : Jvm.MethodName)) ∈ lw_all := lw_g (lw_at lw_m3 39 rfl) rfl
theorem q558 : (Jvm.Cond.selects "BilletBars" ({ cls := "BilletBars", name := "wanted", desc := "(II)I" } : Jvm.MethodName) ({ cls := "BilletBars", name := "wanted", desc := "(II)I" } : Jvm.MethodName)) ∈ lw_all := lw_g (lw_at lw_m3 40 rfl) rfl
theorem q559 : (Jvm.Cond.code ({ cls := "BilletBars", name := "wanted", desc := "(II)I" } : Jvm.MethodName) prog_1_method_24_code (3 : Nat) (Option.some Jvm.ClassFile.FieldType.int)) ∈ lw_all := lw_g (lw_at lw_m3 41 rfl) rfl
theorem q561 : (Jvm.Cond.instanceMethod ({ cls := "BilletBars", name := "pattern", desc := "(III)I" } : Jvm.MethodName)) ∈ lw_all := lw_g (lw_at lw_m3 43 rfl) rfl
theorem q562 : (Jvm.Cond.selects "BilletBars" ({ cls := "BilletBars", name := "pattern", desc := "(III)I" } : Jvm.MethodName) ({ cls := "BilletBars", name := "pattern", desc := "(III)I" } : Jvm.MethodName)) ∈ lw_all := lw_g (lw_at lw_m3 44 rfl) rfl
theorem q563 : (Jvm.Cond.code ({ cls := "BilletBars", name := "pattern", desc := "(III)I" } : Jvm.MethodName) prog_1_method_25_code (4 : Nat) (Option.some Jvm.ClassFile.FieldType.int)) ∈ lw_all := lw_g (lw_at lw_m3 45 rfl) rfl
theorem q564 : (Jvm.Cond.constant "BilletBars" (250 : Nat) (200000 : Int32)) ∈ lw_all := lw_g (lw_at lw_m3 46 rfl) rfl
theorem q566 : (Jvm.Cond.instanceMethod ({ cls := "BilletBars", name := "account", desc := "(I)I" } : Jvm.MethodName)) ∈ lw_all := lw_g (lw_at lw_m3 48 rfl) rfl
theorem q567 : (Jvm.Cond.selects "BilletBars" ({ cls := "BilletBars", name := "account", desc := "(I)I" } : Jvm.MethodName) ({ cls := "BilletBars", name := "account", desc := "(I)I" } : Jvm.MethodName)) ∈ lw_all := lw_g (lw_at lw_m3 49 rfl) rfl
theorem q568 : (Jvm.Cond.codeWith ({ cls := "BilletBars", name := "account", desc := "(I)I" } : Jvm.MethodName) prog_1_method_26_code (4 : Nat) (Option.some Jvm.ClassFile.FieldType.int) [((112 : Nat), (115 : Nat), (116 : Nat), (252 : Nat))]) ∈ lw_all := lw_g (lw_at lw_m3 50 rfl) rfl
theorem q569 : (Jvm.Cond.classLink "BilletBars" (252 : Nat) "java/lang/ArrayIndexOutOfBoundsException") ∈ lw_all := lw_g (lw_at lw_m3 51 rfl) rfl
theorem q660 : (Jvm.Cond.instanceMethod ({ cls := "BilletBars", name := "stock", desc := "(I)I" } : Jvm.MethodName)) ∈ lw_all := lw_g (lw_at lw_m3 142 rfl) rfl
theorem q661 : (Jvm.Cond.selects "BilletBars" ({ cls := "BilletBars", name := "stock", desc := "(I)I" } : Jvm.MethodName) ({ cls := "BilletBars", name := "stock", desc := "(I)I" } : Jvm.MethodName)) ∈ lw_all := lw_g (lw_at lw_m3 143 rfl) rfl
theorem q662 : (Jvm.Cond.code ({ cls := "BilletBars", name := "stock", desc := "(I)I" } : Jvm.MethodName) prog_1_method_27_code (2 : Nat) (Option.some Jvm.ClassFile.FieldType.int)) ∈ lw_all := lw_g (lw_at lw_m3 144 rfl) rfl
theorem q664 : (Jvm.Cond.instanceMethod ({ cls := "BilletBars", name := "best", desc := "(IZ)I" } : Jvm.MethodName)) ∈ lw_all := lw_g (lw_at lw_m3 146 rfl) rfl
theorem q665 : (Jvm.Cond.selects "BilletBars" ({ cls := "BilletBars", name := "best", desc := "(IZ)I" } : Jvm.MethodName) ({ cls := "BilletBars", name := "best", desc := "(IZ)I" } : Jvm.MethodName)) ∈ lw_all := lw_g (lw_at lw_m3 147 rfl) rfl
theorem q666 : (Jvm.Cond.code ({ cls := "BilletBars", name := "best", desc := "(IZ)I" } : Jvm.MethodName) prog_1_method_28_code (9 : Nat) (Option.some Jvm.ClassFile.FieldType.int)) ∈ lw_all := lw_g (lw_at lw_m3 148 rfl) rfl
theorem q668 : (Jvm.Cond.instanceMethod ({ cls := "BilletBars", name := "job", desc := "(III)I" } : Jvm.MethodName)) ∈ lw_all := lw_g (lw_at lw_m3 150 rfl) rfl
theorem q669 : (Jvm.Cond.selects "BilletBars" ({ cls := "BilletBars", name := "job", desc := "(III)I" } : Jvm.MethodName) ({ cls := "BilletBars", name := "job", desc := "(III)I" } : Jvm.MethodName)) ∈ lw_all := lw_g (lw_at lw_m3 151 rfl) rfl
theorem q670 : (Jvm.Cond.code ({ cls := "BilletBars", name := "job", desc := "(III)I" } : Jvm.MethodName) prog_1_method_29_code (4 : Nat) (Option.some Jvm.ClassFile.FieldType.int)) ∈ lw_all := lw_g (lw_at lw_m3 152 rfl) rfl
theorem q672 : (Jvm.Cond.instanceMethod ({ cls := "BilletBars", name := "change", desc := "(I)I" } : Jvm.MethodName)) ∈ lw_all := lw_g (lw_at lw_m3 154 rfl) rfl
theorem q673 : (Jvm.Cond.selects "BilletBars" ({ cls := "BilletBars", name := "change", desc := "(I)I" } : Jvm.MethodName) ({ cls := "BilletBars", name := "change", desc := "(I)I" } : Jvm.MethodName)) ∈ lw_all := lw_g (lw_at lw_m3 155 rfl) rfl
theorem q674 : (Jvm.Cond.code ({ cls := "BilletBars", name := "change", desc := "(I)I" } : Jvm.MethodName) prog_1_method_30_code (3 : Nat) (Option.some Jvm.ClassFile.FieldType.int)) ∈ lw_all := lw_g (lw_at lw_m3 156 rfl) rfl
theorem q676 : (Jvm.Cond.instanceMethod ({ cls := "BilletBars", name := "late", desc := "()I" } : Jvm.MethodName)) ∈ lw_all := lw_g (lw_at lw_m3 158 rfl) rfl
theorem q677 : (Jvm.Cond.selects "BilletBars" ({ cls := "BilletBars", name := "late", desc := "()I" } : Jvm.MethodName) ({ cls := "BilletBars", name := "late", desc := "()I" } : Jvm.MethodName)) ∈ lw_all := lw_g (lw_at lw_m3 159 rfl) rfl
theorem q678 : (Jvm.Cond.code ({ cls := "BilletBars", name := "late", desc := "()I" } : Jvm.MethodName) prog_1_method_34_code (1 : Nat) (Option.some Jvm.ClassFile.FieldType.int)) ∈ lw_all := lw_g (lw_at lw_m3 160 rfl) rfl
theorem q679 : (Jvm.Cond.methodLink "BilletBars" (279 : Nat) ({ cls := "BilletBars", name := "plans", desc := "()V" } : Jvm.MethodName)) ∈ lw_all := lw_g (lw_at lw_m3 161 rfl) rfl
theorem q680 : (Jvm.Cond.privateMethod ({ cls := "BilletBars", name := "plans", desc := "()V" } : Jvm.MethodName)) ∈ lw_tbl := lw_at lw_m3 162 rfl
theorem q681 : (Jvm.Cond.instanceMethod ({ cls := "BilletBars", name := "plans", desc := "()V" } : Jvm.MethodName)) ∈ lw_all := lw_g (lw_at lw_m3 163 rfl) rfl
theorem q682 : (Jvm.Cond.code ({ cls := "BilletBars", name := "plans", desc := "()V" } : Jvm.MethodName) prog_1_method_33_code (1 : Nat) (Option.none : Option Jvm.ClassFile.FieldType)) ∈ lw_all := lw_g (lw_at lw_m3 164 rfl) rfl
theorem q683 : (Jvm.Cond.constant "BilletBars" (278 : Nat) (2147483647 : Int32)) ∈ lw_all := lw_g (lw_at lw_m3 165 rfl) rfl
theorem q684 : (Jvm.Cond.methodLink "BilletBars" (273 : Nat) ({ cls := "BilletBars", name := "tries", desc := "(IIII)V" } : Jvm.MethodName)) ∈ lw_all := lw_g (lw_at lw_m3 166 rfl) rfl
theorem q685 : (Jvm.Cond.privateMethod ({ cls := "BilletBars", name := "tries", desc := "(IIII)V" } : Jvm.MethodName)) ∈ lw_tbl := lw_at lw_m3 167 rfl
theorem q686 : (Jvm.Cond.instanceMethod ({ cls := "BilletBars", name := "tries", desc := "(IIII)V" } : Jvm.MethodName)) ∈ lw_all := lw_g (lw_at lw_m3 168 rfl) rfl
theorem q687 : (Jvm.Cond.code ({ cls := "BilletBars", name := "tries", desc := "(IIII)V" } : Jvm.MethodName) prog_1_method_32_code (8 : Nat) (Option.none : Option Jvm.ClassFile.FieldType)) ∈ lw_all := lw_g (lw_at lw_m3 169 rfl) rfl
theorem q688 : (Jvm.Cond.methodLink "BilletBars" (269 : Nat) ({ cls := "BilletBars", name := "alloyOf", desc := "(I)I" } : Jvm.MethodName)) ∈ lw_all := lw_g (lw_at lw_m3 170 rfl) rfl
theorem q689 : (Jvm.Cond.privateMethod ({ cls := "BilletBars", name := "alloyOf", desc := "(I)I" } : Jvm.MethodName)) ∈ lw_tbl := lw_at lw_m3 171 rfl
theorem q690 : (Jvm.Cond.instanceMethod ({ cls := "BilletBars", name := "alloyOf", desc := "(I)I" } : Jvm.MethodName)) ∈ lw_all := lw_g (lw_at lw_m3 172 rfl) rfl
theorem q691 : (Jvm.Cond.code ({ cls := "BilletBars", name := "alloyOf", desc := "(I)I" } : Jvm.MethodName) prog_1_method_31_code (2 : Nat) (Option.some Jvm.ClassFile.FieldType.int)) ∈ lw_all := lw_g (lw_at lw_m3 173 rfl) rfl
theorem q693 : (Jvm.Cond.instanceMethod ({ cls := "BilletBars", name := "planned", desc := "(I)I" } : Jvm.MethodName)) ∈ lw_all := lw_g (lw_at lw_m3 175 rfl) rfl
theorem q694 : (Jvm.Cond.selects "BilletBars" ({ cls := "BilletBars", name := "planned", desc := "(I)I" } : Jvm.MethodName) ({ cls := "BilletBars", name := "planned", desc := "(I)I" } : Jvm.MethodName)) ∈ lw_all := lw_g (lw_at lw_m3 176 rfl) rfl
theorem q695 : (Jvm.Cond.code ({ cls := "BilletBars", name := "planned", desc := "(I)I" } : Jvm.MethodName) prog_1_method_35_code (2 : Nat) (Option.some Jvm.ClassFile.FieldType.int)) ∈ lw_all := lw_g (lw_at lw_m3 177 rfl) rfl
theorem q697 : (Jvm.Cond.instanceMethod ({ cls := "BilletBars", name := "room", desc := "(I)I" } : Jvm.MethodName)) ∈ lw_all := lw_g (lw_at lw_m3 179 rfl) rfl
theorem q698 : (Jvm.Cond.selects "BilletBars" ({ cls := "BilletBars", name := "room", desc := "(I)I" } : Jvm.MethodName) ({ cls := "BilletBars", name := "room", desc := "(I)I" } : Jvm.MethodName)) ∈ lw_all := lw_g (lw_at lw_m3 180 rfl) rfl
theorem q699 : (Jvm.Cond.code ({ cls := "BilletBars", name := "room", desc := "(I)I" } : Jvm.MethodName) prog_1_method_36_code (3 : Nat) (Option.some Jvm.ClassFile.FieldType.int)) ∈ lw_all := lw_g (lw_at lw_m3 181 rfl) rfl
theorem q700 : (Jvm.Cond.constant "BilletBars" (282 : Nat) (1000000 : Int32)) ∈ lw_all := lw_g (lw_at lw_m3 182 rfl) rfl
theorem q702 : (Jvm.Cond.instanceMethod ({ cls := "BilletBars", name := "age", desc := "()I" } : Jvm.MethodName)) ∈ lw_all := lw_g (lw_at lw_m3 184 rfl) rfl
theorem q703 : (Jvm.Cond.selects "BilletBars" ({ cls := "BilletBars", name := "age", desc := "()I" } : Jvm.MethodName) ({ cls := "BilletBars", name := "age", desc := "()I" } : Jvm.MethodName)) ∈ lw_all := lw_g (lw_at lw_m3 185 rfl) rfl
theorem q704 : (Jvm.Cond.code ({ cls := "BilletBars", name := "age", desc := "()I" } : Jvm.MethodName) prog_1_method_38_code (2 : Nat) (Option.some Jvm.ClassFile.FieldType.int)) ∈ lw_all := lw_g (lw_at lw_m3 186 rfl) rfl
theorem q705 : (Jvm.Cond.methodLink "BilletBars" (289 : Nat) ({ cls := "BilletBars", name := "fills", desc := "(I)I" } : Jvm.MethodName)) ∈ lw_all := lw_g (lw_at lw_m3 187 rfl) rfl
theorem q706 : (Jvm.Cond.privateMethod ({ cls := "BilletBars", name := "fills", desc := "(I)I" } : Jvm.MethodName)) ∈ lw_tbl := lw_at lw_m3 188 rfl
theorem q707 : (Jvm.Cond.instanceMethod ({ cls := "BilletBars", name := "fills", desc := "(I)I" } : Jvm.MethodName)) ∈ lw_all := lw_g (lw_at lw_m3 189 rfl) rfl
theorem q708 : (Jvm.Cond.code ({ cls := "BilletBars", name := "fills", desc := "(I)I" } : Jvm.MethodName) prog_1_method_37_code (7 : Nat) (Option.some Jvm.ClassFile.FieldType.int)) ∈ lw_all := lw_g (lw_at lw_m3 190 rfl) rfl
theorem q710 : (Jvm.Cond.instanceMethod ({ cls := "BilletBars", name := "batches", desc := "()I" } : Jvm.MethodName)) ∈ lw_all := lw_g (lw_at lw_m3 192 rfl) rfl
theorem q711 : (Jvm.Cond.selects "BilletBars" ({ cls := "BilletBars", name := "batches", desc := "()I" } : Jvm.MethodName) ({ cls := "BilletBars", name := "batches", desc := "()I" } : Jvm.MethodName)) ∈ lw_all := lw_g (lw_at lw_m3 193 rfl) rfl
theorem q712 : (Jvm.Cond.code ({ cls := "BilletBars", name := "batches", desc := "()I" } : Jvm.MethodName) prog_1_method_39_code (3 : Nat) (Option.some Jvm.ClassFile.FieldType.int)) ∈ lw_all := lw_g (lw_at lw_m3 194 rfl) rfl
theorem q714 : (Jvm.Cond.instanceMethod ({ cls := "BilletBars", name := "sample", desc := "(IZ)I" } : Jvm.MethodName)) ∈ lw_all := lw_g (lw_at lw_m3 196 rfl) rfl
theorem q715 : (Jvm.Cond.selects "BilletBars" ({ cls := "BilletBars", name := "sample", desc := "(IZ)I" } : Jvm.MethodName) ({ cls := "BilletBars", name := "sample", desc := "(IZ)I" } : Jvm.MethodName)) ∈ lw_all := lw_g (lw_at lw_m3 197 rfl) rfl
theorem q716 : (Jvm.Cond.code ({ cls := "BilletBars", name := "sample", desc := "(IZ)I" } : Jvm.MethodName) prog_1_method_40_code (3 : Nat) (Option.some Jvm.ClassFile.FieldType.int)) ∈ lw_all := lw_g (lw_at lw_m3 198 rfl) rfl
theorem q718 : (Jvm.Cond.instanceMethod ({ cls := "BilletBars", name := "suspect", desc := "(I)I" } : Jvm.MethodName)) ∈ lw_all := lw_g (lw_at lw_m3 200 rfl) rfl
theorem q719 : (Jvm.Cond.selects "BilletBars" ({ cls := "BilletBars", name := "suspect", desc := "(I)I" } : Jvm.MethodName) ({ cls := "BilletBars", name := "suspect", desc := "(I)I" } : Jvm.MethodName)) ∈ lw_all := lw_g (lw_at lw_m3 201 rfl) rfl
theorem q720 : (Jvm.Cond.code ({ cls := "BilletBars", name := "suspect", desc := "(I)I" } : Jvm.MethodName) prog_1_method_43_code (2 : Nat) (Option.some Jvm.ClassFile.FieldType.int)) ∈ lw_all := lw_g (lw_at lw_m3 202 rfl) rfl
theorem q721 : (Jvm.Cond.methodLink "BilletBars" (299 : Nat) ({ cls := "BilletBars", name := "isSuspect", desc := "(I)Z" } : Jvm.MethodName)) ∈ lw_all := lw_g (lw_at lw_m3 203 rfl) rfl
theorem q722 : (Jvm.Cond.privateMethod ({ cls := "BilletBars", name := "isSuspect", desc := "(I)Z" } : Jvm.MethodName)) ∈ lw_tbl := lw_at lw_m3 204 rfl
theorem q723 : (Jvm.Cond.instanceMethod ({ cls := "BilletBars", name := "isSuspect", desc := "(I)Z" } : Jvm.MethodName)) ∈ lw_all := lw_g (lw_at lw_m3 205 rfl) rfl
theorem q724 : (Jvm.Cond.code ({ cls := "BilletBars", name := "isSuspect", desc := "(I)Z" } : Jvm.MethodName) prog_1_method_42_code (3 : Nat) (Option.some Jvm.ClassFile.FieldType.boolean)) ∈ lw_all := lw_g (lw_at lw_m3 206 rfl) rfl
theorem q725 : (Jvm.Cond.methodLink "BilletBars" (295 : Nat) ({ cls := "BilletBars", name := "isNear", desc := "(II)Z" } : Jvm.MethodName)) ∈ lw_all := lw_g (lw_at lw_m3 207 rfl) rfl
theorem q726 : (Jvm.Cond.privateMethod ({ cls := "BilletBars", name := "isNear", desc := "(II)Z" } : Jvm.MethodName)) ∈ lw_tbl := lw_at lw_m3 208 rfl
theorem q727 : (Jvm.Cond.instanceMethod ({ cls := "BilletBars", name := "isNear", desc := "(II)Z" } : Jvm.MethodName)) ∈ lw_all := lw_g (lw_at lw_m3 209 rfl) rfl
theorem q728 : (Jvm.Cond.code ({ cls := "BilletBars", name := "isNear", desc := "(II)Z" } : Jvm.MethodName) prog_1_method_41_code (4 : Nat) (Option.some Jvm.ClassFile.FieldType.boolean)) ∈ lw_all := lw_g (lw_at lw_m3 210 rfl) rfl
theorem q730 : (Jvm.Cond.instanceMethod ({ cls := "BilletBars", name := "held", desc := "()I" } : Jvm.MethodName)) ∈ lw_all := lw_g (lw_at lw_m3 212 rfl) rfl
theorem q731 : (Jvm.Cond.selects "BilletBars" ({ cls := "BilletBars", name := "held", desc := "()I" } : Jvm.MethodName) ({ cls := "BilletBars", name := "held", desc := "()I" } : Jvm.MethodName)) ∈ lw_all := lw_g (lw_at lw_m3 213 rfl) rfl
theorem q732 : (Jvm.Cond.code ({ cls := "BilletBars", name := "held", desc := "()I" } : Jvm.MethodName) prog_1_method_44_code (3 : Nat) (Option.some Jvm.ClassFile.FieldType.int)) ∈ lw_all := lw_g (lw_at lw_m3 214 rfl) rfl
theorem q734 : (Jvm.Cond.instanceMethod ({ cls := "BilletBars", name := "drift", desc := "(II)I" } : Jvm.MethodName)) ∈ lw_all := lw_g (lw_at lw_m3 216 rfl) rfl
theorem q735 : (Jvm.Cond.selects "BilletBars" ({ cls := "BilletBars", name := "drift", desc := "(II)I" } : Jvm.MethodName) ({ cls := "BilletBars", name := "drift", desc := "(II)I" } : Jvm.MethodName)) ∈ lw_all := lw_g (lw_at lw_m3 217 rfl) rfl
theorem q736 : (Jvm.Cond.code ({ cls := "BilletBars", name := "drift", desc := "(II)I" } : Jvm.MethodName) prog_1_method_47_code (8 : Nat) (Option.some Jvm.ClassFile.FieldType.int)) ∈ lw_all := lw_g (lw_at lw_m3 218 rfl) rfl
theorem q737 : (Jvm.Cond.constant "BilletBars" (305 : Nat) (-100000 : Int32)) ∈ lw_all := lw_g (lw_at lw_m3 219 rfl) rfl
theorem q738 : (Jvm.Cond.methodLink "BilletBars" (310 : Nat) ({ cls := "BilletBars$Sheet", name := "size", desc := "()I" } : Jvm.MethodName)) ∈ lw_all := lw_g (lw_at lw_m3 220 rfl) rfl
theorem q745 : (Jvm.Cond.methodLink "BilletBars" (314 : Nat) ({ cls := "BilletBars", name := "item", desc := "(Ljava/lang/Object;II)I" } : Jvm.MethodName)) ∈ lw_all := lw_g (lw_at lw_m3 227 rfl) rfl
theorem q746 : (Jvm.Cond.static ({ cls := "BilletBars", name := "item", desc := "(Ljava/lang/Object;II)I" } : Jvm.MethodName)) ∈ lw_all := lw_g (lw_at lw_m3 228 rfl) rfl
theorem q747 : (Jvm.Cond.code ({ cls := "BilletBars", name := "item", desc := "(Ljava/lang/Object;II)I" } : Jvm.MethodName) prog_1_method_52_code (3 : Nat) (Option.some Jvm.ClassFile.FieldType.int)) ∈ lw_all := lw_g (lw_at lw_m3 229 rfl) rfl
theorem q748 : (Jvm.Cond.classLink "BilletBars" (334 : Nat) "[B") ∈ lw_all := lw_g (lw_at lw_m3 230 rfl) rfl
theorem q749 : (Jvm.Cond.classLink "BilletBars" (336 : Nat) "[S") ∈ lw_all := lw_g (lw_at lw_m3 231 rfl) rfl
theorem q750 : (Jvm.Cond.classLink "BilletBars" (338 : Nat) "[I") ∈ lw_all := lw_g (lw_at lw_m3 232 rfl) rfl
theorem q751 : (Jvm.Cond.constant "BilletBars" (321 : Nat) (-100001 : Int32)) ∈ lw_all := lw_g (lw_at lw_m3 233 rfl) rfl
theorem q753 : (Jvm.Cond.instanceMethod ({ cls := "BilletBars", name := "sheet", desc := "(III)I" } : Jvm.MethodName)) ∈ lw_all := lw_g (lw_at lw_m3 235 rfl) rfl
theorem q754 : (Jvm.Cond.selects "BilletBars" ({ cls := "BilletBars", name := "sheet", desc := "(III)I" } : Jvm.MethodName) ({ cls := "BilletBars", name := "sheet", desc := "(III)I" } : Jvm.MethodName)) ∈ lw_all := lw_g (lw_at lw_m3 236 rfl) rfl
theorem q755 : (Jvm.Cond.codeWith ({ cls := "BilletBars", name := "sheet", desc := "(III)I" } : Jvm.MethodName) prog_1_method_49_code (5 : Nat) (Option.some Jvm.ClassFile.FieldType.int) [((26 : Nat), (40 : Nat), (43 : Nat), (329 : Nat))]) ∈ lw_all := lw_g (lw_at lw_m3 237 rfl) rfl
theorem q756 : (Jvm.Cond.classLink "BilletBars" (329 : Nat) "java/lang/NegativeArraySizeException") ∈ lw_all := lw_g (lw_at lw_m3 238 rfl) rfl
theorem q770 : (Jvm.Cond.methodLink "BilletBars" (322 : Nat) ({ cls := "BilletBars", name := "isSheet", desc := "(I)Z" } : Jvm.MethodName)) ∈ lw_all := lw_g (lw_at lw_m4 12 rfl) rfl
theorem q771 : (Jvm.Cond.static ({ cls := "BilletBars", name := "isSheet", desc := "(I)Z" } : Jvm.MethodName)) ∈ lw_all := lw_g (lw_at lw_m4 13 rfl) rfl
theorem q772 : (Jvm.Cond.code ({ cls := "BilletBars", name := "isSheet", desc := "(I)Z" } : Jvm.MethodName) prog_1_method_46_code (1 : Nat) (Option.some Jvm.ClassFile.FieldType.boolean)) ∈ lw_all := lw_g (lw_at lw_m4 14 rfl) rfl
theorem q773 : (Jvm.Cond.methodLink "BilletBars" (325 : Nat) ({ cls := "BilletBars", name := "rowOf", desc := "(II)Ljava/lang/Object;" } : Jvm.MethodName)) ∈ lw_all := lw_g (lw_at lw_m4 15 rfl) rfl
theorem q774 : (Jvm.Cond.static ({ cls := "BilletBars", name := "rowOf", desc := "(II)Ljava/lang/Object;" } : Jvm.MethodName)) ∈ lw_all := lw_g (lw_at lw_m4 16 rfl) rfl
theorem q775 : (Jvm.Cond.code ({ cls := "BilletBars", name := "rowOf", desc := "(II)Ljava/lang/Object;" } : Jvm.MethodName) prog_1_method_48_code (2 : Nat) (Option.some (Jvm.ClassFile.FieldType.object "java/lang/Object"))) ∈ lw_all := lw_g (lw_at lw_m4 17 rfl) rfl
theorem q776 : (Jvm.Cond.methodLink "BilletBars" (331 : Nat) ({ cls := "BilletBars", name := "meets", desc := "(I)I" } : Jvm.MethodName)) ∈ lw_all := lw_g (lw_at lw_m4 18 rfl) rfl
theorem q777 : (Jvm.Cond.privateMethod ({ cls := "BilletBars", name := "meets", desc := "(I)I" } : Jvm.MethodName)) ∈ lw_tbl := lw_at lw_m4 19 rfl
theorem q778 : (Jvm.Cond.instanceMethod ({ cls := "BilletBars", name := "meets", desc := "(I)I" } : Jvm.MethodName)) ∈ lw_all := lw_g (lw_at lw_m4 20 rfl) rfl
theorem q779 : (Jvm.Cond.code ({ cls := "BilletBars", name := "meets", desc := "(I)I" } : Jvm.MethodName) prog_1_method_45_code (2 : Nat) (Option.some Jvm.ClassFile.FieldType.int)) ∈ lw_all := lw_g (lw_at lw_m4 21 rfl) rfl
theorem q782 : (Jvm.Cond.instanceMethod ({ cls := "BilletBars", name := "lose", desc := "(I)I" } : Jvm.MethodName)) ∈ lw_all := lw_g (lw_at lw_m4 24 rfl) rfl
theorem q783 : (Jvm.Cond.selects "BilletBars" ({ cls := "BilletBars", name := "lose", desc := "(I)I" } : Jvm.MethodName) ({ cls := "BilletBars", name := "lose", desc := "(I)I" } : Jvm.MethodName)) ∈ lw_all := lw_g (lw_at lw_m4 25 rfl) rfl
theorem q784 : (Jvm.Cond.code ({ cls := "BilletBars", name := "lose", desc := "(I)I" } : Jvm.MethodName) prog_1_method_50_code (3 : Nat) (Option.some Jvm.ClassFile.FieldType.int)) ∈ lw_all := lw_g (lw_at lw_m4 26 rfl) rfl
theorem q786 : (Jvm.Cond.instanceMethod ({ cls := "BilletBars", name := "put", desc := "(IIII)I" } : Jvm.MethodName)) ∈ lw_all := lw_g (lw_at lw_m4 28 rfl) rfl
theorem q787 : (Jvm.Cond.selects "BilletBars" ({ cls := "BilletBars", name := "put", desc := "(IIII)I" } : Jvm.MethodName) ({ cls := "BilletBars", name := "put", desc := "(IIII)I" } : Jvm.MethodName)) ∈ lw_all := lw_g (lw_at lw_m4 29 rfl) rfl
theorem q788 : (Jvm.Cond.codeWith ({ cls := "BilletBars", name := "put", desc := "(IIII)I" } : Jvm.MethodName) prog_1_method_53_code (6 : Nat) (Option.some Jvm.ClassFile.FieldType.int) [((19 : Nat), (36 : Nat), (37 : Nat), (343 : Nat)), ((19 : Nat), (36 : Nat), (45 : Nat), (345 : Nat)), ((19 : Nat), (36 : Nat), (53 : Nat), (252 : Nat))]) ∈ lw_all := lw_g (lw_at lw_m4 30 rfl) rfl
theorem q789 : (Jvm.Cond.classLink "BilletBars" (343 : Nat) "java/lang/NullPointerException") ∈ lw_all := lw_g (lw_at lw_m4 31 rfl) rfl
theorem q814 : (Jvm.Cond.classLink "BilletBars" (345 : Nat) "java/lang/ClassCastException") ∈ lw_all := lw_g (lw_at lw_m4 56 rfl) rfl
theorem q828 : (Jvm.Cond.methodLink "BilletBars" (339 : Nat) ({ cls := "BilletBars", name := "lay", desc := "(Ljava/lang/Object;III)V" } : Jvm.MethodName)) ∈ lw_all := lw_g (lw_at lw_m4 70 rfl) rfl
theorem q829 : (Jvm.Cond.static ({ cls := "BilletBars", name := "lay", desc := "(Ljava/lang/Object;III)V" } : Jvm.MethodName)) ∈ lw_all := lw_g (lw_at lw_m4 71 rfl) rfl
theorem q830 : (Jvm.Cond.code ({ cls := "BilletBars", name := "lay", desc := "(Ljava/lang/Object;III)V" } : Jvm.MethodName) prog_1_method_51_code (4 : Nat) (Option.none : Option Jvm.ClassFile.FieldType)) ∈ lw_all := lw_g (lw_at lw_m4 72 rfl) rfl
theorem q832 : (Jvm.Cond.instanceMethod ({ cls := "BilletBars", name := "get", desc := "(III)I" } : Jvm.MethodName)) ∈ lw_all := lw_g (lw_at lw_m4 74 rfl) rfl
theorem q833 : (Jvm.Cond.selects "BilletBars" ({ cls := "BilletBars", name := "get", desc := "(III)I" } : Jvm.MethodName) ({ cls := "BilletBars", name := "get", desc := "(III)I" } : Jvm.MethodName)) ∈ lw_all := lw_g (lw_at lw_m4 75 rfl) rfl
theorem q834 : (Jvm.Cond.codeWith ({ cls := "BilletBars", name := "get", desc := "(III)I" } : Jvm.MethodName) prog_1_method_54_code (6 : Nat) (Option.some Jvm.ClassFile.FieldType.int) [((23 : Nat), (37 : Nat), (38 : Nat), (343 : Nat)), ((23 : Nat), (37 : Nat), (46 : Nat), (345 : Nat)), ((23 : Nat), (37 : Nat), (54 : Nat), (252 : Nat))]) ∈ lw_all := lw_g (lw_at lw_m4 76 rfl) rfl
theorem q835 : (Jvm.Cond.constant "BilletBars" (347 : Nat) (-2147483648 : Int32)) ∈ lw_all := lw_g (lw_at lw_m4 77 rfl) rfl
theorem q837 : (Jvm.Cond.instanceMethod ({ cls := "BilletBars", name := "copy", desc := "(IIIII)I" } : Jvm.MethodName)) ∈ lw_all := lw_g (lw_at lw_m4 79 rfl) rfl
theorem q838 : (Jvm.Cond.selects "BilletBars" ({ cls := "BilletBars", name := "copy", desc := "(IIIII)I" } : Jvm.MethodName) ({ cls := "BilletBars", name := "copy", desc := "(IIIII)I" } : Jvm.MethodName)) ∈ lw_all := lw_g (lw_at lw_m4 80 rfl) rfl
theorem q839 : (Jvm.Cond.codeWith ({ cls := "BilletBars", name := "copy", desc := "(IIIII)I" } : Jvm.MethodName) prog_1_method_55_code (9 : Nat) (Option.some Jvm.ClassFile.FieldType.int) [((68 : Nat), (87 : Nat), (88 : Nat), (343 : Nat)), ((68 : Nat), (87 : Nat), (96 : Nat), (354 : Nat))]) ∈ lw_all := lw_g (lw_at lw_m4 81 rfl) rfl
theorem q840 : (Jvm.Cond.classLink "BilletBars" (354 : Nat) "java/lang/IndexOutOfBoundsException") ∈ lw_all := lw_g (lw_at lw_m4 82 rfl) rfl
theorem q841 : (Jvm.Cond.methodLink "BilletBars" (348 : Nat) ({ cls := "java/lang/System", name := "arraycopy", desc := "(Ljava/lang/Object;ILjava/lang/Object;II)V" } : Jvm.MethodName)) ∈ lw_all := lw_g (lw_at lw_m4 83 rfl) rfl
theorem q843 : (Jvm.Cond.instanceMethod ({ cls := "BilletBars", name := "count", desc := "(I)I" } : Jvm.MethodName)) ∈ lw_all := lw_g (lw_at lw_m4 85 rfl) rfl
theorem q844 : (Jvm.Cond.selects "BilletBars" ({ cls := "BilletBars", name := "count", desc := "(I)I" } : Jvm.MethodName) ({ cls := "BilletBars", name := "count", desc := "(I)I" } : Jvm.MethodName)) ∈ lw_all := lw_g (lw_at lw_m4 86 rfl) rfl
theorem q845 : (Jvm.Cond.code ({ cls := "BilletBars", name := "count", desc := "(I)I" } : Jvm.MethodName) prog_1_method_57_code (2 : Nat) (Option.some Jvm.ClassFile.FieldType.int)) ∈ lw_all := lw_g (lw_at lw_m4 87 rfl) rfl
theorem q846 : (Jvm.Cond.methodLink "BilletBars" (356 : Nat) ({ cls := "BilletBars", name := "waiting", desc := "()I" } : Jvm.MethodName)) ∈ lw_all := lw_g (lw_at lw_m4 88 rfl) rfl
theorem q847 : (Jvm.Cond.privateMethod ({ cls := "BilletBars", name := "waiting", desc := "()I" } : Jvm.MethodName)) ∈ lw_tbl := lw_at lw_m4 89 rfl
theorem q848 : (Jvm.Cond.instanceMethod ({ cls := "BilletBars", name := "waiting", desc := "()I" } : Jvm.MethodName)) ∈ lw_all := lw_g (lw_at lw_m4 90 rfl) rfl
theorem q849 : (Jvm.Cond.code ({ cls := "BilletBars", name := "waiting", desc := "()I" } : Jvm.MethodName) prog_1_method_56_code (3 : Nat) (Option.some Jvm.ClassFile.FieldType.int)) ∈ lw_all := lw_g (lw_at lw_m4 91 rfl) rfl
theorem q851 : (Jvm.Cond.instanceMethod ({ cls := "BilletBars", name := "digest", desc := "()J" } : Jvm.MethodName)) ∈ lw_all := lw_g (lw_at lw_m4 93 rfl) rfl
theorem q852 : (Jvm.Cond.selects "BilletBars" ({ cls := "BilletBars", name := "digest", desc := "()J" } : Jvm.MethodName) ({ cls := "BilletBars", name := "digest", desc := "()J" } : Jvm.MethodName)) ∈ lw_all := lw_g (lw_at lw_m4 94 rfl) rfl
theorem q853 : (Jvm.Cond.code ({ cls := "BilletBars", name := "digest", desc := "()J" } : Jvm.MethodName) prog_1_method_58_code (5 : Nat) (Option.some Jvm.ClassFile.FieldType.long)) ∈ lw_all := lw_g (lw_at lw_m4 95 rfl) rfl
theorem q854 : (Jvm.Cond.constantLong "BilletBars" (359 : Nat) (17 : Int64)) ∈ lw_all := lw_g (lw_at lw_m4 96 rfl) rfl
theorem q855 : (Jvm.Cond.constantLong "BilletBars" (361 : Nat) (31 : Int64)) ∈ lw_all := lw_g (lw_at lw_m4 97 rfl) rfl
theorem q856 : (Jvm.Cond.methodLink "BilletBars" (363 : Nat) ({ cls := "BilletBars", name := "count", desc := "(I)I" } : Jvm.MethodName)) ∈ lw_all := lw_g (lw_at lw_m4 98 rfl) rfl
theorem q857 : (Jvm.Cond.methodLink "BilletBars" (366 : Nat) ({ cls := "BilletBars", name := "about", desc := "(II)I" } : Jvm.MethodName)) ∈ lw_all := lw_g (lw_at lw_m4 99 rfl) rfl
theorem q858 : (Jvm.Cond.methodLink "BilletBars" (369 : Nat) ({ cls := "BilletBars", name := "bar", desc := "(II)I" } : Jvm.MethodName)) ∈ lw_all := lw_g (lw_at lw_m4 100 rfl) rfl
theorem q859 : (Jvm.Cond.methodLink "BilletBars" (372 : Nat) ({ cls := "BilletBars", name := "account", desc := "(I)I" } : Jvm.MethodName)) ∈ lw_all := lw_g (lw_at lw_m4 101 rfl) rfl
theorem q1274 : (Jvm.Cond.castable "BilletBars" "java/lang/Object") ∈ lw_tbl := lw_at lw_m6 36 rfl
theorem in_X0 : ∀ w ∈ wsX00, w ∈ lw_all := lw_in wsX00 [173, 175, 177, 179, 181, 183, 185, 187, 189, 191, 193, 195, 197, 199, 201, 203, 205, 207, 209, 211, 213, 215, 217, 219, 221, 223, 225, 227] (by decide +kernel) (by decide +kernel)
