/-! BilletBarsModel -/
set_option maxRecDepth 100000
def RX5 : String := "BilletBarsModel"
def TX5 : u_T := fun k => match k with
  | 0 => ("BilletBarsModel", "laws", "[I", true)
  | 1 => ("BilletBarsModel", "profiles", "I", false)
  | 2 => ("BilletBarsModel", "alloy", "[I", true)
  | 3 => ("BilletBarsModel", "ratio", "[I", true)
  | 4 => ("BilletBarsModel", "recipe", "[I", true)
  | 5 => ("BilletBarsModel", "grams", "[I", true)
  | 6 => ("BilletBarsModel", "dies", "I", false)
  | 7 => ("BilletBarsModel", "dieProfile", "[I", true)
  | 8 => ("BilletBarsModel", "limit", "[I", true)
  | 9 => ("BilletBarsModel", "shots", "[I", true)
  | 10 => ("BilletBarsModel", "allShots", "[I", true)
  | 11 => ("BilletBarsModel", "warmSince", "[I", true)
  | 12 => ("BilletBarsModel", "tick", "I", false)
  | 13 => ("BilletBarsModel", "bars", "I", false)
  | 14 => ("BilletBarsModel", "barDie", "[I", true)
  | 15 => ("BilletBarsModel", "barBillet", "[I", true)
  | 16 => ("BilletBarsModel", "barAll", "[I", true)
  | 17 => ("BilletBarsModel", "barGoods", "[I", true)
  | 18 => ("BilletBarsModel", "barOff", "[I", true)
  | 19 => ("BilletBarsModel", "barWeld", "[I", true)
  | 20 => ("BilletBarsModel", "barBatch", "[I", true)
  | 21 => ("BilletBarsModel", "looked", "[I", true)
  | 22 => ("BilletBarsModel", "latestDie", "I", false)
  | 23 => ("BilletBarsModel", "latestTick", "I", false)
  | 24 => ("BilletBarsModel", "accounts", "[J", true)
  | 25 => ("BilletBarsModel", "orders", "[I", true)
  | 26 => ("BilletBarsModel", "lengths", "[I", true)
  | 27 => ("BilletBarsModel", "wanted", "[I", true)
  | 28 => ("BilletBarsModel", "pieces", "[I", true)
  | 29 => ("BilletBarsModel", "goods", "I", false)
  | 30 => ("BilletBarsModel", "all", "I", false)
  | 31 => ("BilletBarsModel", "head", "I", false)
  | 32 => ("BilletBarsModel", "tail", "I", false)
  | 33 => ("BilletBarsModel", "weld", "I", false)
  | 34 => ("BilletBarsModel", "usable", "I", false)
  | 35 => ("BilletBarsModel", "stocks", "I", false)
  | 36 => ("BilletBarsModel", "stock", "[I", true)
  | 37 => ("BilletBarsModel", "jobs", "I", false)
  | 38 => ("BilletBarsModel", "jobProfile", "[I", true)
  | 39 => ("BilletBarsModel", "jobTicks", "[I", true)
  | 40 => ("BilletBarsModel", "jobDue", "[I", true)
  | 41 => ("BilletBarsModel", "change", "I", false)
  | 42 => ("BilletBarsModel", "row", "[I", true)
  | 43 => ("BilletBarsModel", "plan", "[I", true)
  | 44 => ("BilletBarsModel", "room", "I", false)
  | 45 => ("BilletBarsModel", "batches", "I", false)
  | 46 => ("BilletBarsModel", "gone", "[Z", true)
  | 47 => ("BilletBarsModel", "forms", "[I", true)
  | 48 => ("BilletBarsModel", "sizes", "[I", true)
  | 49 => ("BilletBarsModel", "items", "[I", true)
  | 50 => ("BilletBarsModel", "moved", "[I", true)
  | _ => ("BilletBarsModel", "latest", "I", false)
def tyX5 : Nat → FieldType := fun k => match k with
  | 0 => .array .int
  | 1 => .int
  | 2 => .array .int
  | 3 => .array .int
  | 4 => .array .int
  | 5 => .array .int
  | 6 => .int
  | 7 => .array .int
  | 8 => .array .int
  | 9 => .array .int
  | 10 => .array .int
  | 11 => .array .int
  | 12 => .int
  | 13 => .int
  | 14 => .array .int
  | 15 => .array .int
  | 16 => .array .int
  | 17 => .array .int
  | 18 => .array .int
  | 19 => .array .int
  | 20 => .array .int
  | 21 => .array .int
  | 22 => .int
  | 23 => .int
  | 24 => .array .long
  | 25 => .array .int
  | 26 => .array .int
  | 27 => .array .int
  | 28 => .array .int
  | 29 => .int
  | 30 => .int
  | 31 => .int
  | 32 => .int
  | 33 => .int
  | 34 => .int
  | 35 => .int
  | 36 => .array .int
  | 37 => .int
  | 38 => .array .int
  | 39 => .array .int
  | 40 => .array .int
  | 41 => .int
  | 42 => .array .int
  | 43 => .array .int
  | 44 => .int
  | 45 => .int
  | 46 => .array .boolean
  | 47 => .array .int
  | 48 => .array .int
  | 49 => .array .int
  | 50 => .array .int
  | _ => .int
abbrev wsX50 : List Cond := u_ws RX5 TX5 52
set_option maxRecDepth 100000 in
theorem nmX5 : ∀ a, a < 52 → ∀ b, b < 52 → a ≠ b → (TX5 a).2.1 ≠ (TX5 b).2.1 := by decide +kernel
set_option maxRecDepth 100000 in
theorem tyX5_ok : ∀ k, k < 52 → parseFieldDescriptor (TX5 k).2.2.1 = some (tyX5 k) := by decide +kernel
abbrev cX5_init : ByteArray := prog_11_method_1_code
def yX5_init : MethodName := ⟨RX5, "<init>", "()V"⟩
def dkwX5_init_15 : List UInt8 := [3, 60, 27, 7, 162, 0, 16, 42, 180, 0, 116, 27, 2, 79, 132, 1, 1, 167, 255, 241, 177]
abbrev dktX5_init_15 : List UInt8 := dkwX5_init_15 ++ []
def dkwX5_init_14 : List UInt8 := [79, 42, 180, 0, 7, 6, 17, 1, 144, 79, 42, 180, 0, 7, 7, 8, 79, 42, 180, 0, 7, 8, 8, 79]
abbrev dktX5_init_14 : List UInt8 := dkwX5_init_14 ++ dktX5_init_15
def dkwX5_init_13 : List UInt8 := [180, 0, 7, 3, 16, 20, 79, 42, 180, 0, 7, 4, 17, 1, 244, 79, 42, 180, 0, 7, 5, 17, 1, 44]
abbrev dktX5_init_13 : List UInt8 := dkwX5_init_13 ++ dktX5_init_14
def dkwX5_init_12 : List UInt8 := [188, 10, 181, 0, 119, 42, 17, 3, 32, 188, 10, 181, 0, 122, 42, 17, 0, 200, 188, 10, 181, 0, 125, 42]
abbrev dktX5_init_12 : List UInt8 := dkwX5_init_12 ++ dktX5_init_13
def dkwX5_init_11 : List UInt8 := [42, 18, 108, 181, 0, 109, 42, 17, 0, 200, 188, 4, 181, 0, 112, 42, 7, 188, 10, 181, 0, 116, 42, 7]
abbrev dktX5_init_11 : List UInt8 := dkwX5_init_11 ++ dktX5_init_12
def dkwX5_init_10 : List UInt8 := [181, 0, 96, 42, 5, 181, 0, 99, 42, 16, 7, 188, 10, 181, 0, 102, 42, 16, 7, 188, 10, 181, 0, 105]
abbrev dktX5_init_10 : List UInt8 := dkwX5_init_10 ++ dktX5_init_11
def dkwX5_init_9 : List UInt8 := [181, 0, 87, 42, 16, 7, 188, 10, 181, 0, 90, 42, 16, 7, 188, 10, 181, 0, 93, 42, 16, 7, 188, 10]
abbrev dktX5_init_9 : List UInt8 := dkwX5_init_9 ++ dktX5_init_10
def dkwX5_init_8 : List UInt8 := [181, 0, 78, 42, 16, 24, 188, 10, 181, 0, 81, 42, 6, 188, 10, 181, 0, 84, 42, 16, 6, 188, 10]
abbrev dktX5_init_8 : List UInt8 := dkwX5_init_8 ++ dktX5_init_9
def dkwX5_init_7 : List UInt8 := [181, 0, 68, 42, 16, 7, 188, 11, 181, 0, 71, 42, 16, 8, 188, 10, 181, 0, 75, 42, 16, 24, 188, 10]
abbrev dktX5_init_7 : List UInt8 := dkwX5_init_7 ++ dktX5_init_8
def dkwX5_init_6 : List UInt8 := [17, 0, 200, 188, 10, 181, 0, 58, 42, 17, 0, 200, 188, 10, 181, 0, 61, 42, 2, 181, 0, 64, 42, 2]
abbrev dktX5_init_6 : List UInt8 := dkwX5_init_6 ++ dktX5_init_7
def dkwX5_init_5 : List UInt8 := [181, 0, 49, 42, 17, 0, 200, 188, 10, 181, 0, 52, 42, 17, 0, 200, 188, 10, 181, 0, 55, 42]
abbrev dktX5_init_5 : List UInt8 := dkwX5_init_5 ++ dktX5_init_6
def dkwX5_init_4 : List UInt8 := [17, 0, 200, 188, 10, 181, 0, 43, 42, 17, 0, 200, 188, 10, 181, 0, 46, 42, 17, 0, 200, 188, 10]
abbrev dktX5_init_4 : List UInt8 := dkwX5_init_4 ++ dktX5_init_5
def dkwX5_init_3 : List UInt8 := [188, 10, 181, 0, 34, 42, 16, 12, 188, 10, 181, 0, 37, 42, 17, 0, 200, 188, 10, 181, 0, 40, 42]
abbrev dktX5_init_3 : List UInt8 := dkwX5_init_3 ++ dktX5_init_4
def dkwX5_init_2 : List UInt8 := [188, 10, 181, 0, 25, 42, 16, 12, 188, 10, 181, 0, 28, 42, 16, 12, 188, 10, 181, 0, 31, 42, 16, 12]
abbrev dktX5_init_2 : List UInt8 := dkwX5_init_2 ++ dktX5_init_3
def dkwX5_init_1 : List UInt8 := [188, 10, 181, 0, 16, 42, 16, 8, 188, 10, 181, 0, 19, 42, 16, 8, 188, 10, 181, 0, 22, 42, 16, 12]
abbrev dktX5_init_1 : List UInt8 := dkwX5_init_1 ++ dktX5_init_2
def dkwX5_init_0 : List UInt8 := [42, 183, 0, 1, 42, 16, 6, 188, 10, 181, 0, 7, 42, 16, 8, 188, 10, 181, 0, 13, 42, 16, 8]
abbrev dktX5_init_0 : List UInt8 := dkwX5_init_0 ++ dktX5_init_1
theorem dksX5_init_0 : cX5_init.data.toList.drop 0 = dktX5_init_0 := by decide +kernel
theorem dksX5_init_1 : cX5_init.data.toList.drop 23 = dktX5_init_1 := dk_seg dksX5_init_0 23 rfl rfl
theorem dksX5_init_2 : cX5_init.data.toList.drop 47 = dktX5_init_2 := dk_seg dksX5_init_1 24 rfl rfl
theorem dksX5_init_3 : cX5_init.data.toList.drop 71 = dktX5_init_3 := dk_seg dksX5_init_2 24 rfl rfl
theorem dksX5_init_4 : cX5_init.data.toList.drop 94 = dktX5_init_4 := dk_seg dksX5_init_3 23 rfl rfl
theorem dksX5_init_5 : cX5_init.data.toList.drop 117 = dktX5_init_5 := dk_seg dksX5_init_4 23 rfl rfl
theorem dksX5_init_6 : cX5_init.data.toList.drop 139 = dktX5_init_6 := dk_seg dksX5_init_5 22 rfl rfl
theorem dksX5_init_7 : cX5_init.data.toList.drop 163 = dktX5_init_7 := dk_seg dksX5_init_6 24 rfl rfl
theorem dksX5_init_8 : cX5_init.data.toList.drop 187 = dktX5_init_8 := dk_seg dksX5_init_7 24 rfl rfl
theorem dksX5_init_9 : cX5_init.data.toList.drop 210 = dktX5_init_9 := dk_seg dksX5_init_8 23 rfl rfl
theorem dksX5_init_10 : cX5_init.data.toList.drop 234 = dktX5_init_10 := dk_seg dksX5_init_9 24 rfl rfl
theorem dksX5_init_11 : cX5_init.data.toList.drop 258 = dktX5_init_11 := dk_seg dksX5_init_10 24 rfl rfl
theorem dksX5_init_12 : cX5_init.data.toList.drop 282 = dktX5_init_12 := dk_seg dksX5_init_11 24 rfl rfl
theorem dksX5_init_13 : cX5_init.data.toList.drop 306 = dktX5_init_13 := dk_seg dksX5_init_12 24 rfl rfl
theorem dksX5_init_14 : cX5_init.data.toList.drop 330 = dktX5_init_14 := dk_seg dksX5_init_13 24 rfl rfl
theorem dksX5_init_15 : cX5_init.data.toList.drop 354 = dktX5_init_15 := dk_seg dksX5_init_14 24 rfl rfl
theorem dX5_init_0 : decode cX5_init 0 = .ok (.aload_n 0, 1) := dk_42 (dk_at dksX5_init_0 0 rfl rfl)
theorem dX5_init_1 : decode cX5_init 1 = .ok (.invokespecial 1, 3) := dk_183 0 1 (dk_at dksX5_init_0 1 rfl rfl)
theorem dX5_init_4 : decode cX5_init 4 = .ok (.aload_n 0, 1) := dk_42 (dk_at dksX5_init_0 4 rfl rfl)
theorem dX5_init_5 : decode cX5_init 5 = .ok (.bipush 6, 2) := dk_16 6 (dk_at dksX5_init_0 5 rfl rfl)
theorem dX5_init_7 : decode cX5_init 7 = .ok (.newarray .int, 2) := dk_188_10 (dk_at dksX5_init_0 7 rfl rfl)
theorem dX5_init_9 : decode cX5_init 9 = .ok (.putfield 7, 3) := dk_181 0 7 (dk_at dksX5_init_0 9 rfl rfl)
theorem dX5_init_12 : decode cX5_init 12 = .ok (.aload_n 0, 1) := dk_42 (dk_at dksX5_init_0 12 rfl rfl)
theorem dX5_init_13 : decode cX5_init 13 = .ok (.bipush 8, 2) := dk_16 8 (dk_at dksX5_init_0 13 rfl rfl)
theorem dX5_init_15 : decode cX5_init 15 = .ok (.newarray .int, 2) := dk_188_10 (dk_at dksX5_init_0 15 rfl rfl)
theorem dX5_init_17 : decode cX5_init 17 = .ok (.putfield 13, 3) := dk_181 0 13 (dk_at dksX5_init_0 17 rfl rfl)
theorem dX5_init_20 : decode cX5_init 20 = .ok (.aload_n 0, 1) := dk_42 (dk_at dksX5_init_0 20 rfl rfl)
theorem dX5_init_21 : decode cX5_init 21 = .ok (.bipush 8, 2) := dk_16 8 (dk_at dksX5_init_0 21 rfl rfl)
theorem dX5_init_23 : decode cX5_init 23 = .ok (.newarray .int, 2) := dk_188_10 (dk_at dksX5_init_1 0 rfl rfl)
theorem dX5_init_25 : decode cX5_init 25 = .ok (.putfield 16, 3) := dk_181 0 16 (dk_at dksX5_init_1 2 rfl rfl)
theorem dX5_init_28 : decode cX5_init 28 = .ok (.aload_n 0, 1) := dk_42 (dk_at dksX5_init_1 5 rfl rfl)
theorem dX5_init_29 : decode cX5_init 29 = .ok (.bipush 8, 2) := dk_16 8 (dk_at dksX5_init_1 6 rfl rfl)
theorem dX5_init_31 : decode cX5_init 31 = .ok (.newarray .int, 2) := dk_188_10 (dk_at dksX5_init_1 8 rfl rfl)
theorem dX5_init_33 : decode cX5_init 33 = .ok (.putfield 19, 3) := dk_181 0 19 (dk_at dksX5_init_1 10 rfl rfl)
theorem dX5_init_36 : decode cX5_init 36 = .ok (.aload_n 0, 1) := dk_42 (dk_at dksX5_init_1 13 rfl rfl)
theorem dX5_init_37 : decode cX5_init 37 = .ok (.bipush 8, 2) := dk_16 8 (dk_at dksX5_init_1 14 rfl rfl)
theorem dX5_init_39 : decode cX5_init 39 = .ok (.newarray .int, 2) := dk_188_10 (dk_at dksX5_init_1 16 rfl rfl)
theorem dX5_init_41 : decode cX5_init 41 = .ok (.putfield 22, 3) := dk_181 0 22 (dk_at dksX5_init_1 18 rfl rfl)
theorem dX5_init_44 : decode cX5_init 44 = .ok (.aload_n 0, 1) := dk_42 (dk_at dksX5_init_1 21 rfl rfl)
theorem dX5_init_45 : decode cX5_init 45 = .ok (.bipush 12, 2) := dk_16 12 (dk_at dksX5_init_1 22 rfl rfl)
theorem dX5_init_47 : decode cX5_init 47 = .ok (.newarray .int, 2) := dk_188_10 (dk_at dksX5_init_2 0 rfl rfl)
theorem dX5_init_49 : decode cX5_init 49 = .ok (.putfield 25, 3) := dk_181 0 25 (dk_at dksX5_init_2 2 rfl rfl)
theorem dX5_init_52 : decode cX5_init 52 = .ok (.aload_n 0, 1) := dk_42 (dk_at dksX5_init_2 5 rfl rfl)
theorem dX5_init_53 : decode cX5_init 53 = .ok (.bipush 12, 2) := dk_16 12 (dk_at dksX5_init_2 6 rfl rfl)
theorem dX5_init_55 : decode cX5_init 55 = .ok (.newarray .int, 2) := dk_188_10 (dk_at dksX5_init_2 8 rfl rfl)
theorem dX5_init_57 : decode cX5_init 57 = .ok (.putfield 28, 3) := dk_181 0 28 (dk_at dksX5_init_2 10 rfl rfl)
theorem dX5_init_60 : decode cX5_init 60 = .ok (.aload_n 0, 1) := dk_42 (dk_at dksX5_init_2 13 rfl rfl)
theorem dX5_init_61 : decode cX5_init 61 = .ok (.bipush 12, 2) := dk_16 12 (dk_at dksX5_init_2 14 rfl rfl)
theorem dX5_init_63 : decode cX5_init 63 = .ok (.newarray .int, 2) := dk_188_10 (dk_at dksX5_init_2 16 rfl rfl)
theorem dX5_init_65 : decode cX5_init 65 = .ok (.putfield 31, 3) := dk_181 0 31 (dk_at dksX5_init_2 18 rfl rfl)
theorem dX5_init_68 : decode cX5_init 68 = .ok (.aload_n 0, 1) := dk_42 (dk_at dksX5_init_2 21 rfl rfl)
theorem dX5_init_69 : decode cX5_init 69 = .ok (.bipush 12, 2) := dk_16 12 (dk_at dksX5_init_2 22 rfl rfl)
theorem dX5_init_71 : decode cX5_init 71 = .ok (.newarray .int, 2) := dk_188_10 (dk_at dksX5_init_3 0 rfl rfl)
theorem dX5_init_73 : decode cX5_init 73 = .ok (.putfield 34, 3) := dk_181 0 34 (dk_at dksX5_init_3 2 rfl rfl)
theorem dX5_init_76 : decode cX5_init 76 = .ok (.aload_n 0, 1) := dk_42 (dk_at dksX5_init_3 5 rfl rfl)
theorem dX5_init_77 : decode cX5_init 77 = .ok (.bipush 12, 2) := dk_16 12 (dk_at dksX5_init_3 6 rfl rfl)
theorem dX5_init_79 : decode cX5_init 79 = .ok (.newarray .int, 2) := dk_188_10 (dk_at dksX5_init_3 8 rfl rfl)
theorem dX5_init_81 : decode cX5_init 81 = .ok (.putfield 37, 3) := dk_181 0 37 (dk_at dksX5_init_3 10 rfl rfl)
theorem dX5_init_84 : decode cX5_init 84 = .ok (.aload_n 0, 1) := dk_42 (dk_at dksX5_init_3 13 rfl rfl)
theorem dX5_init_85 : decode cX5_init 85 = .ok (.sipush 200, 3) := dk_17 0 200 (dk_at dksX5_init_3 14 rfl rfl)
theorem dX5_init_88 : decode cX5_init 88 = .ok (.newarray .int, 2) := dk_188_10 (dk_at dksX5_init_3 17 rfl rfl)
theorem dX5_init_90 : decode cX5_init 90 = .ok (.putfield 40, 3) := dk_181 0 40 (dk_at dksX5_init_3 19 rfl rfl)
theorem dX5_init_93 : decode cX5_init 93 = .ok (.aload_n 0, 1) := dk_42 (dk_at dksX5_init_3 22 rfl rfl)
theorem dX5_init_94 : decode cX5_init 94 = .ok (.sipush 200, 3) := dk_17 0 200 (dk_at dksX5_init_4 0 rfl rfl)
theorem dX5_init_97 : decode cX5_init 97 = .ok (.newarray .int, 2) := dk_188_10 (dk_at dksX5_init_4 3 rfl rfl)
theorem dX5_init_99 : decode cX5_init 99 = .ok (.putfield 43, 3) := dk_181 0 43 (dk_at dksX5_init_4 5 rfl rfl)
theorem dX5_init_102 : decode cX5_init 102 = .ok (.aload_n 0, 1) := dk_42 (dk_at dksX5_init_4 8 rfl rfl)
theorem dX5_init_103 : decode cX5_init 103 = .ok (.sipush 200, 3) := dk_17 0 200 (dk_at dksX5_init_4 9 rfl rfl)
theorem dX5_init_106 : decode cX5_init 106 = .ok (.newarray .int, 2) := dk_188_10 (dk_at dksX5_init_4 12 rfl rfl)
theorem dX5_init_108 : decode cX5_init 108 = .ok (.putfield 46, 3) := dk_181 0 46 (dk_at dksX5_init_4 14 rfl rfl)
theorem dX5_init_111 : decode cX5_init 111 = .ok (.aload_n 0, 1) := dk_42 (dk_at dksX5_init_4 17 rfl rfl)
theorem dX5_init_112 : decode cX5_init 112 = .ok (.sipush 200, 3) := dk_17 0 200 (dk_at dksX5_init_4 18 rfl rfl)
theorem dX5_init_115 : decode cX5_init 115 = .ok (.newarray .int, 2) := dk_188_10 (dk_at dksX5_init_4 21 rfl rfl)
theorem dX5_init_117 : decode cX5_init 117 = .ok (.putfield 49, 3) := dk_181 0 49 (dk_at dksX5_init_5 0 rfl rfl)
theorem dX5_init_120 : decode cX5_init 120 = .ok (.aload_n 0, 1) := dk_42 (dk_at dksX5_init_5 3 rfl rfl)
theorem dX5_init_121 : decode cX5_init 121 = .ok (.sipush 200, 3) := dk_17 0 200 (dk_at dksX5_init_5 4 rfl rfl)
theorem dX5_init_124 : decode cX5_init 124 = .ok (.newarray .int, 2) := dk_188_10 (dk_at dksX5_init_5 7 rfl rfl)
theorem dX5_init_126 : decode cX5_init 126 = .ok (.putfield 52, 3) := dk_181 0 52 (dk_at dksX5_init_5 9 rfl rfl)
theorem dX5_init_129 : decode cX5_init 129 = .ok (.aload_n 0, 1) := dk_42 (dk_at dksX5_init_5 12 rfl rfl)
theorem dX5_init_130 : decode cX5_init 130 = .ok (.sipush 200, 3) := dk_17 0 200 (dk_at dksX5_init_5 13 rfl rfl)
theorem dX5_init_133 : decode cX5_init 133 = .ok (.newarray .int, 2) := dk_188_10 (dk_at dksX5_init_5 16 rfl rfl)
theorem dX5_init_135 : decode cX5_init 135 = .ok (.putfield 55, 3) := dk_181 0 55 (dk_at dksX5_init_5 18 rfl rfl)
theorem dX5_init_138 : decode cX5_init 138 = .ok (.aload_n 0, 1) := dk_42 (dk_at dksX5_init_5 21 rfl rfl)
theorem dX5_init_139 : decode cX5_init 139 = .ok (.sipush 200, 3) := dk_17 0 200 (dk_at dksX5_init_6 0 rfl rfl)
theorem dX5_init_142 : decode cX5_init 142 = .ok (.newarray .int, 2) := dk_188_10 (dk_at dksX5_init_6 3 rfl rfl)
theorem dX5_init_144 : decode cX5_init 144 = .ok (.putfield 58, 3) := dk_181 0 58 (dk_at dksX5_init_6 5 rfl rfl)
theorem dX5_init_147 : decode cX5_init 147 = .ok (.aload_n 0, 1) := dk_42 (dk_at dksX5_init_6 8 rfl rfl)
theorem dX5_init_148 : decode cX5_init 148 = .ok (.sipush 200, 3) := dk_17 0 200 (dk_at dksX5_init_6 9 rfl rfl)
theorem dX5_init_151 : decode cX5_init 151 = .ok (.newarray .int, 2) := dk_188_10 (dk_at dksX5_init_6 12 rfl rfl)
theorem dX5_init_153 : decode cX5_init 153 = .ok (.putfield 61, 3) := dk_181 0 61 (dk_at dksX5_init_6 14 rfl rfl)
theorem dX5_init_156 : decode cX5_init 156 = .ok (.aload_n 0, 1) := dk_42 (dk_at dksX5_init_6 17 rfl rfl)
theorem dX5_init_157 : decode cX5_init 157 = .ok (.iconst (-1), 1) := dk_2 (dk_at dksX5_init_6 18 rfl rfl)
theorem dX5_init_158 : decode cX5_init 158 = .ok (.putfield 64, 3) := dk_181 0 64 (dk_at dksX5_init_6 19 rfl rfl)
theorem dX5_init_161 : decode cX5_init 161 = .ok (.aload_n 0, 1) := dk_42 (dk_at dksX5_init_6 22 rfl rfl)
theorem dX5_init_162 : decode cX5_init 162 = .ok (.iconst (-1), 1) := dk_2 (dk_at dksX5_init_6 23 rfl rfl)
theorem dX5_init_163 : decode cX5_init 163 = .ok (.putfield 68, 3) := dk_181 0 68 (dk_at dksX5_init_7 0 rfl rfl)
theorem dX5_init_166 : decode cX5_init 166 = .ok (.aload_n 0, 1) := dk_42 (dk_at dksX5_init_7 3 rfl rfl)
theorem dX5_init_167 : decode cX5_init 167 = .ok (.bipush 7, 2) := dk_16 7 (dk_at dksX5_init_7 4 rfl rfl)
theorem dX5_init_169 : decode cX5_init 169 = .ok (.newarray .long, 2) := dk_188_11 (dk_at dksX5_init_7 6 rfl rfl)
theorem dX5_init_171 : decode cX5_init 171 = .ok (.putfield 71, 3) := dk_181 0 71 (dk_at dksX5_init_7 8 rfl rfl)
theorem dX5_init_174 : decode cX5_init 174 = .ok (.aload_n 0, 1) := dk_42 (dk_at dksX5_init_7 11 rfl rfl)
theorem dX5_init_175 : decode cX5_init 175 = .ok (.bipush 8, 2) := dk_16 8 (dk_at dksX5_init_7 12 rfl rfl)
theorem dX5_init_177 : decode cX5_init 177 = .ok (.newarray .int, 2) := dk_188_10 (dk_at dksX5_init_7 14 rfl rfl)
theorem dX5_init_179 : decode cX5_init 179 = .ok (.putfield 75, 3) := dk_181 0 75 (dk_at dksX5_init_7 16 rfl rfl)
theorem dX5_init_182 : decode cX5_init 182 = .ok (.aload_n 0, 1) := dk_42 (dk_at dksX5_init_7 19 rfl rfl)
theorem dX5_init_183 : decode cX5_init 183 = .ok (.bipush 24, 2) := dk_16 24 (dk_at dksX5_init_7 20 rfl rfl)
theorem dX5_init_185 : decode cX5_init 185 = .ok (.newarray .int, 2) := dk_188_10 (dk_at dksX5_init_7 22 rfl rfl)
theorem dX5_init_187 : decode cX5_init 187 = .ok (.putfield 78, 3) := dk_181 0 78 (dk_at dksX5_init_8 0 rfl rfl)
theorem dX5_init_190 : decode cX5_init 190 = .ok (.aload_n 0, 1) := dk_42 (dk_at dksX5_init_8 3 rfl rfl)
theorem dX5_init_191 : decode cX5_init 191 = .ok (.bipush 24, 2) := dk_16 24 (dk_at dksX5_init_8 4 rfl rfl)
theorem dX5_init_193 : decode cX5_init 193 = .ok (.newarray .int, 2) := dk_188_10 (dk_at dksX5_init_8 6 rfl rfl)
theorem dX5_init_195 : decode cX5_init 195 = .ok (.putfield 81, 3) := dk_181 0 81 (dk_at dksX5_init_8 8 rfl rfl)
theorem dX5_init_198 : decode cX5_init 198 = .ok (.aload_n 0, 1) := dk_42 (dk_at dksX5_init_8 11 rfl rfl)
theorem dX5_init_199 : decode cX5_init 199 = .ok (.iconst 3, 1) := dk_6 (dk_at dksX5_init_8 12 rfl rfl)
theorem dX5_init_200 : decode cX5_init 200 = .ok (.newarray .int, 2) := dk_188_10 (dk_at dksX5_init_8 13 rfl rfl)
theorem dX5_init_202 : decode cX5_init 202 = .ok (.putfield 84, 3) := dk_181 0 84 (dk_at dksX5_init_8 15 rfl rfl)
theorem dX5_init_205 : decode cX5_init 205 = .ok (.aload_n 0, 1) := dk_42 (dk_at dksX5_init_8 18 rfl rfl)
theorem dX5_init_206 : decode cX5_init 206 = .ok (.bipush 6, 2) := dk_16 6 (dk_at dksX5_init_8 19 rfl rfl)
theorem dX5_init_208 : decode cX5_init 208 = .ok (.newarray .int, 2) := dk_188_10 (dk_at dksX5_init_8 21 rfl rfl)
theorem dX5_init_210 : decode cX5_init 210 = .ok (.putfield 87, 3) := dk_181 0 87 (dk_at dksX5_init_9 0 rfl rfl)
theorem dX5_init_213 : decode cX5_init 213 = .ok (.aload_n 0, 1) := dk_42 (dk_at dksX5_init_9 3 rfl rfl)
theorem dX5_init_214 : decode cX5_init 214 = .ok (.bipush 7, 2) := dk_16 7 (dk_at dksX5_init_9 4 rfl rfl)
theorem dX5_init_216 : decode cX5_init 216 = .ok (.newarray .int, 2) := dk_188_10 (dk_at dksX5_init_9 6 rfl rfl)
theorem dX5_init_218 : decode cX5_init 218 = .ok (.putfield 90, 3) := dk_181 0 90 (dk_at dksX5_init_9 8 rfl rfl)
theorem dX5_init_221 : decode cX5_init 221 = .ok (.aload_n 0, 1) := dk_42 (dk_at dksX5_init_9 11 rfl rfl)
theorem dX5_init_222 : decode cX5_init 222 = .ok (.bipush 7, 2) := dk_16 7 (dk_at dksX5_init_9 12 rfl rfl)
theorem dX5_init_224 : decode cX5_init 224 = .ok (.newarray .int, 2) := dk_188_10 (dk_at dksX5_init_9 14 rfl rfl)
theorem dX5_init_226 : decode cX5_init 226 = .ok (.putfield 93, 3) := dk_181 0 93 (dk_at dksX5_init_9 16 rfl rfl)
theorem dX5_init_229 : decode cX5_init 229 = .ok (.aload_n 0, 1) := dk_42 (dk_at dksX5_init_9 19 rfl rfl)
theorem dX5_init_230 : decode cX5_init 230 = .ok (.bipush 7, 2) := dk_16 7 (dk_at dksX5_init_9 20 rfl rfl)
theorem dX5_init_232 : decode cX5_init 232 = .ok (.newarray .int, 2) := dk_188_10 (dk_at dksX5_init_9 22 rfl rfl)
theorem dX5_init_234 : decode cX5_init 234 = .ok (.putfield 96, 3) := dk_181 0 96 (dk_at dksX5_init_10 0 rfl rfl)
theorem dX5_init_237 : decode cX5_init 237 = .ok (.aload_n 0, 1) := dk_42 (dk_at dksX5_init_10 3 rfl rfl)
theorem dX5_init_238 : decode cX5_init 238 = .ok (.iconst 2, 1) := dk_5 (dk_at dksX5_init_10 4 rfl rfl)
theorem dX5_init_239 : decode cX5_init 239 = .ok (.putfield 99, 3) := dk_181 0 99 (dk_at dksX5_init_10 5 rfl rfl)
theorem dX5_init_242 : decode cX5_init 242 = .ok (.aload_n 0, 1) := dk_42 (dk_at dksX5_init_10 8 rfl rfl)
theorem dX5_init_243 : decode cX5_init 243 = .ok (.bipush 7, 2) := dk_16 7 (dk_at dksX5_init_10 9 rfl rfl)
theorem dX5_init_245 : decode cX5_init 245 = .ok (.newarray .int, 2) := dk_188_10 (dk_at dksX5_init_10 11 rfl rfl)
theorem dX5_init_247 : decode cX5_init 247 = .ok (.putfield 102, 3) := dk_181 0 102 (dk_at dksX5_init_10 13 rfl rfl)
theorem dX5_init_250 : decode cX5_init 250 = .ok (.aload_n 0, 1) := dk_42 (dk_at dksX5_init_10 16 rfl rfl)
theorem dX5_init_251 : decode cX5_init 251 = .ok (.bipush 7, 2) := dk_16 7 (dk_at dksX5_init_10 17 rfl rfl)
theorem dX5_init_253 : decode cX5_init 253 = .ok (.newarray .int, 2) := dk_188_10 (dk_at dksX5_init_10 19 rfl rfl)
theorem dX5_init_255 : decode cX5_init 255 = .ok (.putfield 105, 3) := dk_181 0 105 (dk_at dksX5_init_10 21 rfl rfl)
theorem dX5_init_258 : decode cX5_init 258 = .ok (.aload_n 0, 1) := dk_42 (dk_at dksX5_init_11 0 rfl rfl)
theorem dX5_init_259 : decode cX5_init 259 = .ok (.ldc 108, 2) := dk_18 108 (dk_at dksX5_init_11 1 rfl rfl)
theorem dX5_init_261 : decode cX5_init 261 = .ok (.putfield 109, 3) := dk_181 0 109 (dk_at dksX5_init_11 3 rfl rfl)
theorem dX5_init_264 : decode cX5_init 264 = .ok (.aload_n 0, 1) := dk_42 (dk_at dksX5_init_11 6 rfl rfl)
theorem dX5_init_265 : decode cX5_init 265 = .ok (.sipush 200, 3) := dk_17 0 200 (dk_at dksX5_init_11 7 rfl rfl)
theorem dX5_init_268 : decode cX5_init 268 = .ok (.newarray .boolean, 2) := dk_188_4 (dk_at dksX5_init_11 10 rfl rfl)
theorem dX5_init_270 : decode cX5_init 270 = .ok (.putfield 112, 3) := dk_181 0 112 (dk_at dksX5_init_11 12 rfl rfl)
theorem dX5_init_273 : decode cX5_init 273 = .ok (.aload_n 0, 1) := dk_42 (dk_at dksX5_init_11 15 rfl rfl)
theorem dX5_init_274 : decode cX5_init 274 = .ok (.iconst 4, 1) := dk_7 (dk_at dksX5_init_11 16 rfl rfl)
theorem dX5_init_275 : decode cX5_init 275 = .ok (.newarray .int, 2) := dk_188_10 (dk_at dksX5_init_11 17 rfl rfl)
theorem dX5_init_277 : decode cX5_init 277 = .ok (.putfield 116, 3) := dk_181 0 116 (dk_at dksX5_init_11 19 rfl rfl)
theorem dX5_init_280 : decode cX5_init 280 = .ok (.aload_n 0, 1) := dk_42 (dk_at dksX5_init_11 22 rfl rfl)
theorem dX5_init_281 : decode cX5_init 281 = .ok (.iconst 4, 1) := dk_7 (dk_at dksX5_init_11 23 rfl rfl)
theorem dX5_init_282 : decode cX5_init 282 = .ok (.newarray .int, 2) := dk_188_10 (dk_at dksX5_init_12 0 rfl rfl)
theorem dX5_init_284 : decode cX5_init 284 = .ok (.putfield 119, 3) := dk_181 0 119 (dk_at dksX5_init_12 2 rfl rfl)
theorem dX5_init_287 : decode cX5_init 287 = .ok (.aload_n 0, 1) := dk_42 (dk_at dksX5_init_12 5 rfl rfl)
theorem dX5_init_288 : decode cX5_init 288 = .ok (.sipush 800, 3) := dk_17 3 32 (dk_at dksX5_init_12 6 rfl rfl)
theorem dX5_init_291 : decode cX5_init 291 = .ok (.newarray .int, 2) := dk_188_10 (dk_at dksX5_init_12 9 rfl rfl)
theorem dX5_init_293 : decode cX5_init 293 = .ok (.putfield 122, 3) := dk_181 0 122 (dk_at dksX5_init_12 11 rfl rfl)
theorem dX5_init_296 : decode cX5_init 296 = .ok (.aload_n 0, 1) := dk_42 (dk_at dksX5_init_12 14 rfl rfl)
theorem dX5_init_297 : decode cX5_init 297 = .ok (.sipush 200, 3) := dk_17 0 200 (dk_at dksX5_init_12 15 rfl rfl)
theorem dX5_init_300 : decode cX5_init 300 = .ok (.newarray .int, 2) := dk_188_10 (dk_at dksX5_init_12 18 rfl rfl)
theorem dX5_init_302 : decode cX5_init 302 = .ok (.putfield 125, 3) := dk_181 0 125 (dk_at dksX5_init_12 20 rfl rfl)
theorem dX5_init_305 : decode cX5_init 305 = .ok (.aload_n 0, 1) := dk_42 (dk_at dksX5_init_12 23 rfl rfl)
theorem dX5_init_306 : decode cX5_init 306 = .ok (.getfield 7, 3) := dk_180 0 7 (dk_at dksX5_init_13 0 rfl rfl)
theorem dX5_init_309 : decode cX5_init 309 = .ok (.iconst 0, 1) := dk_3 (dk_at dksX5_init_13 3 rfl rfl)
theorem dX5_init_310 : decode cX5_init 310 = .ok (.bipush 20, 2) := dk_16 20 (dk_at dksX5_init_13 4 rfl rfl)
theorem dX5_init_312 : decode cX5_init 312 = .ok (.iastore, 1) := dk_79 (dk_at dksX5_init_13 6 rfl rfl)
theorem dX5_init_313 : decode cX5_init 313 = .ok (.aload_n 0, 1) := dk_42 (dk_at dksX5_init_13 7 rfl rfl)
theorem dX5_init_314 : decode cX5_init 314 = .ok (.getfield 7, 3) := dk_180 0 7 (dk_at dksX5_init_13 8 rfl rfl)
theorem dX5_init_317 : decode cX5_init 317 = .ok (.iconst 1, 1) := dk_4 (dk_at dksX5_init_13 11 rfl rfl)
theorem dX5_init_318 : decode cX5_init 318 = .ok (.sipush 500, 3) := dk_17 1 244 (dk_at dksX5_init_13 12 rfl rfl)
theorem dX5_init_321 : decode cX5_init 321 = .ok (.iastore, 1) := dk_79 (dk_at dksX5_init_13 15 rfl rfl)
theorem dX5_init_322 : decode cX5_init 322 = .ok (.aload_n 0, 1) := dk_42 (dk_at dksX5_init_13 16 rfl rfl)
theorem dX5_init_323 : decode cX5_init 323 = .ok (.getfield 7, 3) := dk_180 0 7 (dk_at dksX5_init_13 17 rfl rfl)
theorem dX5_init_326 : decode cX5_init 326 = .ok (.iconst 2, 1) := dk_5 (dk_at dksX5_init_13 20 rfl rfl)
theorem dX5_init_327 : decode cX5_init 327 = .ok (.sipush 300, 3) := dk_17 1 44 (dk_at dksX5_init_13 21 rfl rfl)
theorem dX5_init_330 : decode cX5_init 330 = .ok (.iastore, 1) := dk_79 (dk_at dksX5_init_14 0 rfl rfl)
theorem dX5_init_331 : decode cX5_init 331 = .ok (.aload_n 0, 1) := dk_42 (dk_at dksX5_init_14 1 rfl rfl)
theorem dX5_init_332 : decode cX5_init 332 = .ok (.getfield 7, 3) := dk_180 0 7 (dk_at dksX5_init_14 2 rfl rfl)
theorem dX5_init_335 : decode cX5_init 335 = .ok (.iconst 3, 1) := dk_6 (dk_at dksX5_init_14 5 rfl rfl)
theorem dX5_init_336 : decode cX5_init 336 = .ok (.sipush 400, 3) := dk_17 1 144 (dk_at dksX5_init_14 6 rfl rfl)
theorem dX5_init_339 : decode cX5_init 339 = .ok (.iastore, 1) := dk_79 (dk_at dksX5_init_14 9 rfl rfl)
theorem dX5_init_340 : decode cX5_init 340 = .ok (.aload_n 0, 1) := dk_42 (dk_at dksX5_init_14 10 rfl rfl)
theorem dX5_init_341 : decode cX5_init 341 = .ok (.getfield 7, 3) := dk_180 0 7 (dk_at dksX5_init_14 11 rfl rfl)
theorem dX5_init_344 : decode cX5_init 344 = .ok (.iconst 4, 1) := dk_7 (dk_at dksX5_init_14 14 rfl rfl)
theorem dX5_init_345 : decode cX5_init 345 = .ok (.iconst 5, 1) := dk_8 (dk_at dksX5_init_14 15 rfl rfl)
theorem dX5_init_346 : decode cX5_init 346 = .ok (.iastore, 1) := dk_79 (dk_at dksX5_init_14 16 rfl rfl)
theorem dX5_init_347 : decode cX5_init 347 = .ok (.aload_n 0, 1) := dk_42 (dk_at dksX5_init_14 17 rfl rfl)
theorem dX5_init_348 : decode cX5_init 348 = .ok (.getfield 7, 3) := dk_180 0 7 (dk_at dksX5_init_14 18 rfl rfl)
theorem dX5_init_351 : decode cX5_init 351 = .ok (.iconst 5, 1) := dk_8 (dk_at dksX5_init_14 21 rfl rfl)
theorem dX5_init_352 : decode cX5_init 352 = .ok (.iconst 5, 1) := dk_8 (dk_at dksX5_init_14 22 rfl rfl)
theorem dX5_init_353 : decode cX5_init 353 = .ok (.iastore, 1) := dk_79 (dk_at dksX5_init_14 23 rfl rfl)
theorem dX5_init_354 : decode cX5_init 354 = .ok (.iconst 0, 1) := dk_3 (dk_at dksX5_init_15 0 rfl rfl)
theorem dX5_init_355 : decode cX5_init 355 = .ok (.istore_n 1, 1) := dk_60 (dk_at dksX5_init_15 1 rfl rfl)
theorem dX5_init_356 : decode cX5_init 356 = .ok (.iload_n 1, 1) := dk_27 (dk_at dksX5_init_15 2 rfl rfl)
theorem dX5_init_357 : decode cX5_init 357 = .ok (.iconst 4, 1) := dk_7 (dk_at dksX5_init_15 3 rfl rfl)
theorem dX5_init_358 : decode cX5_init 358 = .ok (.if_icmp .ge 16, 3) := dk_162 0 16 (dk_at dksX5_init_15 4 rfl rfl)
theorem dX5_init_361 : decode cX5_init 361 = .ok (.aload_n 0, 1) := dk_42 (dk_at dksX5_init_15 7 rfl rfl)
theorem dX5_init_362 : decode cX5_init 362 = .ok (.getfield 116, 3) := dk_180 0 116 (dk_at dksX5_init_15 8 rfl rfl)
theorem dX5_init_365 : decode cX5_init 365 = .ok (.iload_n 1, 1) := dk_27 (dk_at dksX5_init_15 11 rfl rfl)
theorem dX5_init_366 : decode cX5_init 366 = .ok (.iconst (-1), 1) := dk_2 (dk_at dksX5_init_15 12 rfl rfl)
theorem dX5_init_367 : decode cX5_init 367 = .ok (.iastore, 1) := dk_79 (dk_at dksX5_init_15 13 rfl rfl)
theorem dX5_init_368 : decode cX5_init 368 = .ok (.iinc 1 1, 3) := dk_132 1 1 (dk_at dksX5_init_15 14 rfl rfl)
theorem dX5_init_371 : decode cX5_init 371 = .ok (.goto (-15), 3) := dk_167 255 241 (dk_at dksX5_init_15 17 rfl rfl)
theorem dX5_init_374 : decode cX5_init 374 = .ok (.return_, 1) := dk_177 (dk_at dksX5_init_15 20 rfl rfl)
abbrev cX5_profile : ByteArray := prog_11_method_6_code
def yX5_profile : MethodName := ⟨RX5, "profile", "(IIII)I"⟩
def dkwX5_profile_5 : List UInt8 := [3, 79, 42, 89, 180, 0, 128, 4, 96, 181, 0, 128, 42, 180, 0, 128, 4, 100, 172]
abbrev dktX5_profile_5 : List UInt8 := dkwX5_profile_5 ++ []
def dkwX5_profile_4 : List UInt8 := [180, 0, 128, 29, 79, 42, 180, 0, 22, 42, 180, 0, 128, 21, 4, 79, 42, 180, 0, 75, 42, 180, 0, 128]
abbrev dktX5_profile_4 : List UInt8 := dkwX5_profile_4 ++ dktX5_profile_5
def dkwX5_profile_3 : List UInt8 := [180, 0, 13, 42, 180, 0, 128, 27, 79, 42, 180, 0, 16, 42, 180, 0, 128, 28, 79, 42, 180, 0, 19, 42]
abbrev dktX5_profile_3 : List UInt8 := dkwX5_profile_3 ++ dktX5_profile_4
def dkwX5_profile_2 : List UInt8 := [184, 0, 131, 154, 0, 6, 16, 254, 172, 42, 180, 0, 128, 16, 8, 160, 0, 6, 16, 252, 172, 42]
abbrev dktX5_profile_2 : List UInt8 := dkwX5_profile_2 ++ dktX5_profile_3
def dkwX5_profile_1 : List UInt8 := [153, 0, 30, 29, 133, 9, 20, 0, 144, 184, 0, 131, 153, 0, 18, 21, 4, 133, 20, 0, 146, 20, 0, 148]
abbrev dktX5_profile_1 : List UInt8 := dkwX5_profile_1 ++ dktX5_profile_2
def dkwX5_profile_0 : List UInt8 := [27, 133, 9, 20, 0, 138, 184, 0, 131, 153, 0, 44, 28, 133, 20, 0, 140, 20, 0, 142, 184, 0, 131]
abbrev dktX5_profile_0 : List UInt8 := dkwX5_profile_0 ++ dktX5_profile_1
theorem dksX5_profile_0 : cX5_profile.data.toList.drop 0 = dktX5_profile_0 := by decide +kernel
theorem dksX5_profile_1 : cX5_profile.data.toList.drop 23 = dktX5_profile_1 := dk_seg dksX5_profile_0 23 rfl rfl
theorem dksX5_profile_2 : cX5_profile.data.toList.drop 47 = dktX5_profile_2 := dk_seg dksX5_profile_1 24 rfl rfl
theorem dksX5_profile_3 : cX5_profile.data.toList.drop 69 = dktX5_profile_3 := dk_seg dksX5_profile_2 22 rfl rfl
theorem dksX5_profile_4 : cX5_profile.data.toList.drop 93 = dktX5_profile_4 := dk_seg dksX5_profile_3 24 rfl rfl
theorem dksX5_profile_5 : cX5_profile.data.toList.drop 117 = dktX5_profile_5 := dk_seg dksX5_profile_4 24 rfl rfl
theorem dX5_profile_0 : decode cX5_profile 0 = .ok (.iload_n 1, 1) := dk_27 (dk_at dksX5_profile_0 0 rfl rfl)
theorem dX5_profile_1 : decode cX5_profile 1 = .ok (.i2l, 1) := dk_133 (dk_at dksX5_profile_0 1 rfl rfl)
theorem dX5_profile_2 : decode cX5_profile 2 = .ok (.lconst 0, 1) := dk_9 (dk_at dksX5_profile_0 2 rfl rfl)
theorem dX5_profile_3 : decode cX5_profile 3 = .ok (.ldc2_w 138, 3) := dk_20 0 138 (dk_at dksX5_profile_0 3 rfl rfl)
theorem dX5_profile_6 : decode cX5_profile 6 = .ok (.invokestatic 131, 3) := dk_184 0 131 (dk_at dksX5_profile_0 6 rfl rfl)
theorem dX5_profile_9 : decode cX5_profile 9 = .ok (.ifCond .eq 44, 3) := dk_153 0 44 (dk_at dksX5_profile_0 9 rfl rfl)
theorem dX5_profile_12 : decode cX5_profile 12 = .ok (.iload_n 2, 1) := dk_28 (dk_at dksX5_profile_0 12 rfl rfl)
theorem dX5_profile_13 : decode cX5_profile 13 = .ok (.i2l, 1) := dk_133 (dk_at dksX5_profile_0 13 rfl rfl)
theorem dX5_profile_14 : decode cX5_profile 14 = .ok (.ldc2_w 140, 3) := dk_20 0 140 (dk_at dksX5_profile_0 14 rfl rfl)
theorem dX5_profile_17 : decode cX5_profile 17 = .ok (.ldc2_w 142, 3) := dk_20 0 142 (dk_at dksX5_profile_0 17 rfl rfl)
theorem dX5_profile_20 : decode cX5_profile 20 = .ok (.invokestatic 131, 3) := dk_184 0 131 (dk_at dksX5_profile_0 20 rfl rfl)
theorem dX5_profile_23 : decode cX5_profile 23 = .ok (.ifCond .eq 30, 3) := dk_153 0 30 (dk_at dksX5_profile_1 0 rfl rfl)
theorem dX5_profile_26 : decode cX5_profile 26 = .ok (.iload_n 3, 1) := dk_29 (dk_at dksX5_profile_1 3 rfl rfl)
theorem dX5_profile_27 : decode cX5_profile 27 = .ok (.i2l, 1) := dk_133 (dk_at dksX5_profile_1 4 rfl rfl)
theorem dX5_profile_28 : decode cX5_profile 28 = .ok (.lconst 0, 1) := dk_9 (dk_at dksX5_profile_1 5 rfl rfl)
theorem dX5_profile_29 : decode cX5_profile 29 = .ok (.ldc2_w 144, 3) := dk_20 0 144 (dk_at dksX5_profile_1 6 rfl rfl)
theorem dX5_profile_32 : decode cX5_profile 32 = .ok (.invokestatic 131, 3) := dk_184 0 131 (dk_at dksX5_profile_1 9 rfl rfl)
theorem dX5_profile_35 : decode cX5_profile 35 = .ok (.ifCond .eq 18, 3) := dk_153 0 18 (dk_at dksX5_profile_1 12 rfl rfl)
theorem dX5_profile_38 : decode cX5_profile 38 = .ok (.iload 4, 2) := dk_21 4 (dk_at dksX5_profile_1 15 rfl rfl)
theorem dX5_profile_40 : decode cX5_profile 40 = .ok (.i2l, 1) := dk_133 (dk_at dksX5_profile_1 17 rfl rfl)
theorem dX5_profile_41 : decode cX5_profile 41 = .ok (.ldc2_w 146, 3) := dk_20 0 146 (dk_at dksX5_profile_1 18 rfl rfl)
theorem dX5_profile_44 : decode cX5_profile 44 = .ok (.ldc2_w 148, 3) := dk_20 0 148 (dk_at dksX5_profile_1 21 rfl rfl)
theorem dX5_profile_47 : decode cX5_profile 47 = .ok (.invokestatic 131, 3) := dk_184 0 131 (dk_at dksX5_profile_2 0 rfl rfl)
theorem dX5_profile_50 : decode cX5_profile 50 = .ok (.ifCond .ne 6, 3) := dk_154 0 6 (dk_at dksX5_profile_2 3 rfl rfl)
theorem dX5_profile_53 : decode cX5_profile 53 = .ok (.bipush (-2), 2) := dk_16 254 (dk_at dksX5_profile_2 6 rfl rfl)
theorem dX5_profile_55 : decode cX5_profile 55 = .ok (.ireturn, 1) := dk_172 (dk_at dksX5_profile_2 8 rfl rfl)
theorem dX5_profile_56 : decode cX5_profile 56 = .ok (.aload_n 0, 1) := dk_42 (dk_at dksX5_profile_2 9 rfl rfl)
theorem dX5_profile_57 : decode cX5_profile 57 = .ok (.getfield 128, 3) := dk_180 0 128 (dk_at dksX5_profile_2 10 rfl rfl)
theorem dX5_profile_60 : decode cX5_profile 60 = .ok (.bipush 8, 2) := dk_16 8 (dk_at dksX5_profile_2 13 rfl rfl)
theorem dX5_profile_62 : decode cX5_profile 62 = .ok (.if_icmp .ne 6, 3) := dk_160 0 6 (dk_at dksX5_profile_2 15 rfl rfl)
theorem dX5_profile_65 : decode cX5_profile 65 = .ok (.bipush (-4), 2) := dk_16 252 (dk_at dksX5_profile_2 18 rfl rfl)
theorem dX5_profile_67 : decode cX5_profile 67 = .ok (.ireturn, 1) := dk_172 (dk_at dksX5_profile_2 20 rfl rfl)
theorem dX5_profile_68 : decode cX5_profile 68 = .ok (.aload_n 0, 1) := dk_42 (dk_at dksX5_profile_2 21 rfl rfl)
theorem dX5_profile_69 : decode cX5_profile 69 = .ok (.getfield 13, 3) := dk_180 0 13 (dk_at dksX5_profile_3 0 rfl rfl)
theorem dX5_profile_72 : decode cX5_profile 72 = .ok (.aload_n 0, 1) := dk_42 (dk_at dksX5_profile_3 3 rfl rfl)
theorem dX5_profile_73 : decode cX5_profile 73 = .ok (.getfield 128, 3) := dk_180 0 128 (dk_at dksX5_profile_3 4 rfl rfl)
theorem dX5_profile_76 : decode cX5_profile 76 = .ok (.iload_n 1, 1) := dk_27 (dk_at dksX5_profile_3 7 rfl rfl)
theorem dX5_profile_77 : decode cX5_profile 77 = .ok (.iastore, 1) := dk_79 (dk_at dksX5_profile_3 8 rfl rfl)
theorem dX5_profile_78 : decode cX5_profile 78 = .ok (.aload_n 0, 1) := dk_42 (dk_at dksX5_profile_3 9 rfl rfl)
theorem dX5_profile_79 : decode cX5_profile 79 = .ok (.getfield 16, 3) := dk_180 0 16 (dk_at dksX5_profile_3 10 rfl rfl)
theorem dX5_profile_82 : decode cX5_profile 82 = .ok (.aload_n 0, 1) := dk_42 (dk_at dksX5_profile_3 13 rfl rfl)
theorem dX5_profile_83 : decode cX5_profile 83 = .ok (.getfield 128, 3) := dk_180 0 128 (dk_at dksX5_profile_3 14 rfl rfl)
theorem dX5_profile_86 : decode cX5_profile 86 = .ok (.iload_n 2, 1) := dk_28 (dk_at dksX5_profile_3 17 rfl rfl)
theorem dX5_profile_87 : decode cX5_profile 87 = .ok (.iastore, 1) := dk_79 (dk_at dksX5_profile_3 18 rfl rfl)
theorem dX5_profile_88 : decode cX5_profile 88 = .ok (.aload_n 0, 1) := dk_42 (dk_at dksX5_profile_3 19 rfl rfl)
theorem dX5_profile_89 : decode cX5_profile 89 = .ok (.getfield 19, 3) := dk_180 0 19 (dk_at dksX5_profile_3 20 rfl rfl)
theorem dX5_profile_92 : decode cX5_profile 92 = .ok (.aload_n 0, 1) := dk_42 (dk_at dksX5_profile_3 23 rfl rfl)
theorem dX5_profile_93 : decode cX5_profile 93 = .ok (.getfield 128, 3) := dk_180 0 128 (dk_at dksX5_profile_4 0 rfl rfl)
theorem dX5_profile_96 : decode cX5_profile 96 = .ok (.iload_n 3, 1) := dk_29 (dk_at dksX5_profile_4 3 rfl rfl)
theorem dX5_profile_97 : decode cX5_profile 97 = .ok (.iastore, 1) := dk_79 (dk_at dksX5_profile_4 4 rfl rfl)
theorem dX5_profile_98 : decode cX5_profile 98 = .ok (.aload_n 0, 1) := dk_42 (dk_at dksX5_profile_4 5 rfl rfl)
theorem dX5_profile_99 : decode cX5_profile 99 = .ok (.getfield 22, 3) := dk_180 0 22 (dk_at dksX5_profile_4 6 rfl rfl)
theorem dX5_profile_102 : decode cX5_profile 102 = .ok (.aload_n 0, 1) := dk_42 (dk_at dksX5_profile_4 9 rfl rfl)
theorem dX5_profile_103 : decode cX5_profile 103 = .ok (.getfield 128, 3) := dk_180 0 128 (dk_at dksX5_profile_4 10 rfl rfl)
theorem dX5_profile_106 : decode cX5_profile 106 = .ok (.iload 4, 2) := dk_21 4 (dk_at dksX5_profile_4 13 rfl rfl)
theorem dX5_profile_108 : decode cX5_profile 108 = .ok (.iastore, 1) := dk_79 (dk_at dksX5_profile_4 15 rfl rfl)
theorem dX5_profile_109 : decode cX5_profile 109 = .ok (.aload_n 0, 1) := dk_42 (dk_at dksX5_profile_4 16 rfl rfl)
theorem dX5_profile_110 : decode cX5_profile 110 = .ok (.getfield 75, 3) := dk_180 0 75 (dk_at dksX5_profile_4 17 rfl rfl)
theorem dX5_profile_113 : decode cX5_profile 113 = .ok (.aload_n 0, 1) := dk_42 (dk_at dksX5_profile_4 20 rfl rfl)
theorem dX5_profile_114 : decode cX5_profile 114 = .ok (.getfield 128, 3) := dk_180 0 128 (dk_at dksX5_profile_4 21 rfl rfl)
theorem dX5_profile_117 : decode cX5_profile 117 = .ok (.iconst 0, 1) := dk_3 (dk_at dksX5_profile_5 0 rfl rfl)
theorem dX5_profile_118 : decode cX5_profile 118 = .ok (.iastore, 1) := dk_79 (dk_at dksX5_profile_5 1 rfl rfl)
theorem dX5_profile_119 : decode cX5_profile 119 = .ok (.aload_n 0, 1) := dk_42 (dk_at dksX5_profile_5 2 rfl rfl)
theorem dX5_profile_120 : decode cX5_profile 120 = .ok (.dup, 1) := dk_89 (dk_at dksX5_profile_5 3 rfl rfl)
theorem dX5_profile_121 : decode cX5_profile 121 = .ok (.getfield 128, 3) := dk_180 0 128 (dk_at dksX5_profile_5 4 rfl rfl)
theorem dX5_profile_124 : decode cX5_profile 124 = .ok (.iconst 1, 1) := dk_4 (dk_at dksX5_profile_5 7 rfl rfl)
theorem dX5_profile_125 : decode cX5_profile 125 = .ok (.iadd, 1) := dk_96 (dk_at dksX5_profile_5 8 rfl rfl)
theorem dX5_profile_126 : decode cX5_profile 126 = .ok (.putfield 128, 3) := dk_181 0 128 (dk_at dksX5_profile_5 9 rfl rfl)
theorem dX5_profile_129 : decode cX5_profile 129 = .ok (.aload_n 0, 1) := dk_42 (dk_at dksX5_profile_5 12 rfl rfl)
theorem dX5_profile_130 : decode cX5_profile 130 = .ok (.getfield 128, 3) := dk_180 0 128 (dk_at dksX5_profile_5 13 rfl rfl)
theorem dX5_profile_133 : decode cX5_profile 133 = .ok (.iconst 1, 1) := dk_4 (dk_at dksX5_profile_5 16 rfl rfl)
theorem dX5_profile_134 : decode cX5_profile 134 = .ok (.isub, 1) := dk_100 (dk_at dksX5_profile_5 17 rfl rfl)
theorem dX5_profile_135 : decode cX5_profile 135 = .ok (.ireturn, 1) := dk_172 (dk_at dksX5_profile_5 18 rfl rfl)
abbrev cX5_in : ByteArray := prog_11_method_3_code
def yX5_in : MethodName := ⟨RX5, "in", "(JJJ)Z"⟩
def dkwX5_in_0 : List UInt8 := [30, 32, 148, 155, 0, 14, 30, 22, 4, 148, 157, 0, 7, 4, 167, 0, 4, 3, 172]
abbrev dktX5_in_0 : List UInt8 := dkwX5_in_0 ++ []
theorem dksX5_in_0 : cX5_in.data.toList.drop 0 = dktX5_in_0 := by decide +kernel
theorem dX5_in_0 : decode cX5_in 0 = .ok (.lload_n 0, 1) := dk_30 (dk_at dksX5_in_0 0 rfl rfl)
theorem dX5_in_1 : decode cX5_in 1 = .ok (.lload_n 2, 1) := dk_32 (dk_at dksX5_in_0 1 rfl rfl)
theorem dX5_in_2 : decode cX5_in 2 = .ok (.lcmp, 1) := dk_148 (dk_at dksX5_in_0 2 rfl rfl)
theorem dX5_in_3 : decode cX5_in 3 = .ok (.ifCond .lt 14, 3) := dk_155 0 14 (dk_at dksX5_in_0 3 rfl rfl)
theorem dX5_in_6 : decode cX5_in 6 = .ok (.lload_n 0, 1) := dk_30 (dk_at dksX5_in_0 6 rfl rfl)
theorem dX5_in_7 : decode cX5_in 7 = .ok (.lload 4, 2) := dk_22 4 (dk_at dksX5_in_0 7 rfl rfl)
theorem dX5_in_9 : decode cX5_in 9 = .ok (.lcmp, 1) := dk_148 (dk_at dksX5_in_0 9 rfl rfl)
theorem dX5_in_10 : decode cX5_in 10 = .ok (.ifCond .gt 7, 3) := dk_157 0 7 (dk_at dksX5_in_0 10 rfl rfl)
theorem dX5_in_13 : decode cX5_in 13 = .ok (.iconst 1, 1) := dk_4 (dk_at dksX5_in_0 13 rfl rfl)
theorem dX5_in_14 : decode cX5_in 14 = .ok (.goto 4, 3) := dk_167 0 4 (dk_at dksX5_in_0 14 rfl rfl)
theorem dX5_in_17 : decode cX5_in 17 = .ok (.iconst 0, 1) := dk_3 (dk_at dksX5_in_0 17 rfl rfl)
theorem dX5_in_18 : decode cX5_in 18 = .ok (.ireturn, 1) := dk_172 (dk_at dksX5_in_0 18 rfl rfl)
abbrev cX5_die : ByteArray := prog_11_method_7_code
def yX5_die : MethodName := ⟨RX5, "die", "(II)I"⟩
def dkwX5_die_4 : List UInt8 := [181, 0, 135, 42, 180, 0, 135, 4, 100, 172]
abbrev dktX5_die_4 : List UInt8 := dkwX5_die_4 ++ []
def dkwX5_die_3 : List UInt8 := [180, 0, 135, 3, 79, 42, 180, 0, 37, 42, 180, 0, 135, 2, 79, 42, 89, 180, 0, 135, 4, 96]
abbrev dktX5_die_3 : List UInt8 := dkwX5_die_3 ++ dktX5_die_4
def dkwX5_die_2 : List UInt8 := [180, 0, 28, 42, 180, 0, 135, 28, 79, 42, 180, 0, 31, 42, 180, 0, 135, 3, 79, 42, 180, 0, 34, 42]
abbrev dktX5_die_2 : List UInt8 := dkwX5_die_2 ++ dktX5_die_3
def dkwX5_die_1 : List UInt8 := [180, 0, 135, 16, 12, 160, 0, 6, 16, 252, 172, 42, 180, 0, 25, 42, 180, 0, 135, 27, 79, 42]
abbrev dktX5_die_1 : List UInt8 := dkwX5_die_1 ++ dktX5_die_2
def dkwX5_die_0 : List UInt8 := [42, 27, 182, 0, 150, 153, 0, 15, 28, 133, 10, 20, 0, 154, 184, 0, 131, 154, 0, 6, 16, 254, 172, 42]
abbrev dktX5_die_0 : List UInt8 := dkwX5_die_0 ++ dktX5_die_1
theorem dksX5_die_0 : cX5_die.data.toList.drop 0 = dktX5_die_0 := by decide +kernel
theorem dksX5_die_1 : cX5_die.data.toList.drop 24 = dktX5_die_1 := dk_seg dksX5_die_0 24 rfl rfl
theorem dksX5_die_2 : cX5_die.data.toList.drop 46 = dktX5_die_2 := dk_seg dksX5_die_1 22 rfl rfl
theorem dksX5_die_3 : cX5_die.data.toList.drop 70 = dktX5_die_3 := dk_seg dksX5_die_2 24 rfl rfl
theorem dksX5_die_4 : cX5_die.data.toList.drop 92 = dktX5_die_4 := dk_seg dksX5_die_3 22 rfl rfl
theorem dX5_die_0 : decode cX5_die 0 = .ok (.aload_n 0, 1) := dk_42 (dk_at dksX5_die_0 0 rfl rfl)
theorem dX5_die_1 : decode cX5_die 1 = .ok (.iload_n 1, 1) := dk_27 (dk_at dksX5_die_0 1 rfl rfl)
theorem dX5_die_2 : decode cX5_die 2 = .ok (.invokevirtual 150, 3) := dk_182 0 150 (dk_at dksX5_die_0 2 rfl rfl)
theorem dX5_die_5 : decode cX5_die 5 = .ok (.ifCond .eq 15, 3) := dk_153 0 15 (dk_at dksX5_die_0 5 rfl rfl)
theorem dX5_die_8 : decode cX5_die 8 = .ok (.iload_n 2, 1) := dk_28 (dk_at dksX5_die_0 8 rfl rfl)
theorem dX5_die_9 : decode cX5_die 9 = .ok (.i2l, 1) := dk_133 (dk_at dksX5_die_0 9 rfl rfl)
theorem dX5_die_10 : decode cX5_die 10 = .ok (.lconst 1, 1) := dk_10 (dk_at dksX5_die_0 10 rfl rfl)
theorem dX5_die_11 : decode cX5_die 11 = .ok (.ldc2_w 154, 3) := dk_20 0 154 (dk_at dksX5_die_0 11 rfl rfl)
theorem dX5_die_14 : decode cX5_die 14 = .ok (.invokestatic 131, 3) := dk_184 0 131 (dk_at dksX5_die_0 14 rfl rfl)
theorem dX5_die_17 : decode cX5_die 17 = .ok (.ifCond .ne 6, 3) := dk_154 0 6 (dk_at dksX5_die_0 17 rfl rfl)
theorem dX5_die_20 : decode cX5_die 20 = .ok (.bipush (-2), 2) := dk_16 254 (dk_at dksX5_die_0 20 rfl rfl)
theorem dX5_die_22 : decode cX5_die 22 = .ok (.ireturn, 1) := dk_172 (dk_at dksX5_die_0 22 rfl rfl)
theorem dX5_die_23 : decode cX5_die 23 = .ok (.aload_n 0, 1) := dk_42 (dk_at dksX5_die_0 23 rfl rfl)
theorem dX5_die_24 : decode cX5_die 24 = .ok (.getfield 135, 3) := dk_180 0 135 (dk_at dksX5_die_1 0 rfl rfl)
theorem dX5_die_27 : decode cX5_die 27 = .ok (.bipush 12, 2) := dk_16 12 (dk_at dksX5_die_1 3 rfl rfl)
theorem dX5_die_29 : decode cX5_die 29 = .ok (.if_icmp .ne 6, 3) := dk_160 0 6 (dk_at dksX5_die_1 5 rfl rfl)
theorem dX5_die_32 : decode cX5_die 32 = .ok (.bipush (-4), 2) := dk_16 252 (dk_at dksX5_die_1 8 rfl rfl)
theorem dX5_die_34 : decode cX5_die 34 = .ok (.ireturn, 1) := dk_172 (dk_at dksX5_die_1 10 rfl rfl)
theorem dX5_die_35 : decode cX5_die 35 = .ok (.aload_n 0, 1) := dk_42 (dk_at dksX5_die_1 11 rfl rfl)
theorem dX5_die_36 : decode cX5_die 36 = .ok (.getfield 25, 3) := dk_180 0 25 (dk_at dksX5_die_1 12 rfl rfl)
theorem dX5_die_39 : decode cX5_die 39 = .ok (.aload_n 0, 1) := dk_42 (dk_at dksX5_die_1 15 rfl rfl)
theorem dX5_die_40 : decode cX5_die 40 = .ok (.getfield 135, 3) := dk_180 0 135 (dk_at dksX5_die_1 16 rfl rfl)
theorem dX5_die_43 : decode cX5_die 43 = .ok (.iload_n 1, 1) := dk_27 (dk_at dksX5_die_1 19 rfl rfl)
theorem dX5_die_44 : decode cX5_die 44 = .ok (.iastore, 1) := dk_79 (dk_at dksX5_die_1 20 rfl rfl)
theorem dX5_die_45 : decode cX5_die 45 = .ok (.aload_n 0, 1) := dk_42 (dk_at dksX5_die_1 21 rfl rfl)
theorem dX5_die_46 : decode cX5_die 46 = .ok (.getfield 28, 3) := dk_180 0 28 (dk_at dksX5_die_2 0 rfl rfl)
theorem dX5_die_49 : decode cX5_die 49 = .ok (.aload_n 0, 1) := dk_42 (dk_at dksX5_die_2 3 rfl rfl)
theorem dX5_die_50 : decode cX5_die 50 = .ok (.getfield 135, 3) := dk_180 0 135 (dk_at dksX5_die_2 4 rfl rfl)
theorem dX5_die_53 : decode cX5_die 53 = .ok (.iload_n 2, 1) := dk_28 (dk_at dksX5_die_2 7 rfl rfl)
theorem dX5_die_54 : decode cX5_die 54 = .ok (.iastore, 1) := dk_79 (dk_at dksX5_die_2 8 rfl rfl)
theorem dX5_die_55 : decode cX5_die 55 = .ok (.aload_n 0, 1) := dk_42 (dk_at dksX5_die_2 9 rfl rfl)
theorem dX5_die_56 : decode cX5_die 56 = .ok (.getfield 31, 3) := dk_180 0 31 (dk_at dksX5_die_2 10 rfl rfl)
theorem dX5_die_59 : decode cX5_die 59 = .ok (.aload_n 0, 1) := dk_42 (dk_at dksX5_die_2 13 rfl rfl)
theorem dX5_die_60 : decode cX5_die 60 = .ok (.getfield 135, 3) := dk_180 0 135 (dk_at dksX5_die_2 14 rfl rfl)
theorem dX5_die_63 : decode cX5_die 63 = .ok (.iconst 0, 1) := dk_3 (dk_at dksX5_die_2 17 rfl rfl)
theorem dX5_die_64 : decode cX5_die 64 = .ok (.iastore, 1) := dk_79 (dk_at dksX5_die_2 18 rfl rfl)
theorem dX5_die_65 : decode cX5_die 65 = .ok (.aload_n 0, 1) := dk_42 (dk_at dksX5_die_2 19 rfl rfl)
theorem dX5_die_66 : decode cX5_die 66 = .ok (.getfield 34, 3) := dk_180 0 34 (dk_at dksX5_die_2 20 rfl rfl)
theorem dX5_die_69 : decode cX5_die 69 = .ok (.aload_n 0, 1) := dk_42 (dk_at dksX5_die_2 23 rfl rfl)
theorem dX5_die_70 : decode cX5_die 70 = .ok (.getfield 135, 3) := dk_180 0 135 (dk_at dksX5_die_3 0 rfl rfl)
theorem dX5_die_73 : decode cX5_die 73 = .ok (.iconst 0, 1) := dk_3 (dk_at dksX5_die_3 3 rfl rfl)
theorem dX5_die_74 : decode cX5_die 74 = .ok (.iastore, 1) := dk_79 (dk_at dksX5_die_3 4 rfl rfl)
theorem dX5_die_75 : decode cX5_die 75 = .ok (.aload_n 0, 1) := dk_42 (dk_at dksX5_die_3 5 rfl rfl)
theorem dX5_die_76 : decode cX5_die 76 = .ok (.getfield 37, 3) := dk_180 0 37 (dk_at dksX5_die_3 6 rfl rfl)
theorem dX5_die_79 : decode cX5_die 79 = .ok (.aload_n 0, 1) := dk_42 (dk_at dksX5_die_3 9 rfl rfl)
theorem dX5_die_80 : decode cX5_die 80 = .ok (.getfield 135, 3) := dk_180 0 135 (dk_at dksX5_die_3 10 rfl rfl)
theorem dX5_die_83 : decode cX5_die 83 = .ok (.iconst (-1), 1) := dk_2 (dk_at dksX5_die_3 13 rfl rfl)
theorem dX5_die_84 : decode cX5_die 84 = .ok (.iastore, 1) := dk_79 (dk_at dksX5_die_3 14 rfl rfl)
theorem dX5_die_85 : decode cX5_die 85 = .ok (.aload_n 0, 1) := dk_42 (dk_at dksX5_die_3 15 rfl rfl)
theorem dX5_die_86 : decode cX5_die 86 = .ok (.dup, 1) := dk_89 (dk_at dksX5_die_3 16 rfl rfl)
theorem dX5_die_87 : decode cX5_die 87 = .ok (.getfield 135, 3) := dk_180 0 135 (dk_at dksX5_die_3 17 rfl rfl)
theorem dX5_die_90 : decode cX5_die 90 = .ok (.iconst 1, 1) := dk_4 (dk_at dksX5_die_3 20 rfl rfl)
theorem dX5_die_91 : decode cX5_die 91 = .ok (.iadd, 1) := dk_96 (dk_at dksX5_die_3 21 rfl rfl)
theorem dX5_die_92 : decode cX5_die 92 = .ok (.putfield 135, 3) := dk_181 0 135 (dk_at dksX5_die_4 0 rfl rfl)
theorem dX5_die_95 : decode cX5_die 95 = .ok (.aload_n 0, 1) := dk_42 (dk_at dksX5_die_4 3 rfl rfl)
theorem dX5_die_96 : decode cX5_die 96 = .ok (.getfield 135, 3) := dk_180 0 135 (dk_at dksX5_die_4 4 rfl rfl)
theorem dX5_die_99 : decode cX5_die 99 = .ok (.iconst 1, 1) := dk_4 (dk_at dksX5_die_4 7 rfl rfl)
theorem dX5_die_100 : decode cX5_die 100 = .ok (.isub, 1) := dk_100 (dk_at dksX5_die_4 8 rfl rfl)
theorem dX5_die_101 : decode cX5_die 101 = .ok (.ireturn, 1) := dk_172 (dk_at dksX5_die_4 9 rfl rfl)
abbrev cX5_isProfile : ByteArray := prog_11_method_4_code
def yX5_isProfile : MethodName := ⟨RX5, "isProfile", "(I)Z"⟩
def dkwX5_isProfile_0 : List UInt8 := [27, 133, 9, 42, 180, 0, 128, 4, 100, 133, 184, 0, 131, 172]
abbrev dktX5_isProfile_0 : List UInt8 := dkwX5_isProfile_0 ++ []
theorem dksX5_isProfile_0 : cX5_isProfile.data.toList.drop 0 = dktX5_isProfile_0 := by decide +kernel
theorem dX5_isProfile_0 : decode cX5_isProfile 0 = .ok (.iload_n 1, 1) := dk_27 (dk_at dksX5_isProfile_0 0 rfl rfl)
theorem dX5_isProfile_1 : decode cX5_isProfile 1 = .ok (.i2l, 1) := dk_133 (dk_at dksX5_isProfile_0 1 rfl rfl)
theorem dX5_isProfile_2 : decode cX5_isProfile 2 = .ok (.lconst 0, 1) := dk_9 (dk_at dksX5_isProfile_0 2 rfl rfl)
theorem dX5_isProfile_3 : decode cX5_isProfile 3 = .ok (.aload_n 0, 1) := dk_42 (dk_at dksX5_isProfile_0 3 rfl rfl)
theorem dX5_isProfile_4 : decode cX5_isProfile 4 = .ok (.getfield 128, 3) := dk_180 0 128 (dk_at dksX5_isProfile_0 4 rfl rfl)
theorem dX5_isProfile_7 : decode cX5_isProfile 7 = .ok (.iconst 1, 1) := dk_4 (dk_at dksX5_isProfile_0 7 rfl rfl)
theorem dX5_isProfile_8 : decode cX5_isProfile 8 = .ok (.isub, 1) := dk_100 (dk_at dksX5_isProfile_0 8 rfl rfl)
theorem dX5_isProfile_9 : decode cX5_isProfile 9 = .ok (.i2l, 1) := dk_133 (dk_at dksX5_isProfile_0 9 rfl rfl)
theorem dX5_isProfile_10 : decode cX5_isProfile 10 = .ok (.invokestatic 131, 3) := dk_184 0 131 (dk_at dksX5_isProfile_0 10 rfl rfl)
theorem dX5_isProfile_13 : decode cX5_isProfile 13 = .ok (.ireturn, 1) := dk_172 (dk_at dksX5_isProfile_0 13 rfl rfl)
abbrev cX5_warm : ByteArray := prog_11_method_8_code
def yX5_warm : MethodName := ⟨RX5, "warm", "(I)I"⟩
def dkwX5_warm_1 : List UInt8 := [42, 180, 0, 37, 27, 42, 180, 0, 159, 79, 4, 172]
abbrev dktX5_warm_1 : List UInt8 := dkwX5_warm_1 ++ []
def dkwX5_warm_0 : List UInt8 := [42, 27, 182, 0, 156, 154, 0, 6, 16, 254, 172, 42, 180, 0, 37, 27, 46, 2, 159, 0, 6, 16, 253, 172]
abbrev dktX5_warm_0 : List UInt8 := dkwX5_warm_0 ++ dktX5_warm_1
theorem dksX5_warm_0 : cX5_warm.data.toList.drop 0 = dktX5_warm_0 := by decide +kernel
theorem dksX5_warm_1 : cX5_warm.data.toList.drop 24 = dktX5_warm_1 := dk_seg dksX5_warm_0 24 rfl rfl
theorem dX5_warm_0 : decode cX5_warm 0 = .ok (.aload_n 0, 1) := dk_42 (dk_at dksX5_warm_0 0 rfl rfl)
theorem dX5_warm_1 : decode cX5_warm 1 = .ok (.iload_n 1, 1) := dk_27 (dk_at dksX5_warm_0 1 rfl rfl)
theorem dX5_warm_2 : decode cX5_warm 2 = .ok (.invokevirtual 156, 3) := dk_182 0 156 (dk_at dksX5_warm_0 2 rfl rfl)
theorem dX5_warm_5 : decode cX5_warm 5 = .ok (.ifCond .ne 6, 3) := dk_154 0 6 (dk_at dksX5_warm_0 5 rfl rfl)
theorem dX5_warm_8 : decode cX5_warm 8 = .ok (.bipush (-2), 2) := dk_16 254 (dk_at dksX5_warm_0 8 rfl rfl)
theorem dX5_warm_10 : decode cX5_warm 10 = .ok (.ireturn, 1) := dk_172 (dk_at dksX5_warm_0 10 rfl rfl)
theorem dX5_warm_11 : decode cX5_warm 11 = .ok (.aload_n 0, 1) := dk_42 (dk_at dksX5_warm_0 11 rfl rfl)
theorem dX5_warm_12 : decode cX5_warm 12 = .ok (.getfield 37, 3) := dk_180 0 37 (dk_at dksX5_warm_0 12 rfl rfl)
theorem dX5_warm_15 : decode cX5_warm 15 = .ok (.iload_n 1, 1) := dk_27 (dk_at dksX5_warm_0 15 rfl rfl)
theorem dX5_warm_16 : decode cX5_warm 16 = .ok (.iaload, 1) := dk_46 (dk_at dksX5_warm_0 16 rfl rfl)
theorem dX5_warm_17 : decode cX5_warm 17 = .ok (.iconst (-1), 1) := dk_2 (dk_at dksX5_warm_0 17 rfl rfl)
theorem dX5_warm_18 : decode cX5_warm 18 = .ok (.if_icmp .eq 6, 3) := dk_159 0 6 (dk_at dksX5_warm_0 18 rfl rfl)
theorem dX5_warm_21 : decode cX5_warm 21 = .ok (.bipush (-3), 2) := dk_16 253 (dk_at dksX5_warm_0 21 rfl rfl)
theorem dX5_warm_23 : decode cX5_warm 23 = .ok (.ireturn, 1) := dk_172 (dk_at dksX5_warm_0 23 rfl rfl)
theorem dX5_warm_24 : decode cX5_warm 24 = .ok (.aload_n 0, 1) := dk_42 (dk_at dksX5_warm_1 0 rfl rfl)
theorem dX5_warm_25 : decode cX5_warm 25 = .ok (.getfield 37, 3) := dk_180 0 37 (dk_at dksX5_warm_1 1 rfl rfl)
theorem dX5_warm_28 : decode cX5_warm 28 = .ok (.iload_n 1, 1) := dk_27 (dk_at dksX5_warm_1 4 rfl rfl)
theorem dX5_warm_29 : decode cX5_warm 29 = .ok (.aload_n 0, 1) := dk_42 (dk_at dksX5_warm_1 5 rfl rfl)
theorem dX5_warm_30 : decode cX5_warm 30 = .ok (.getfield 159, 3) := dk_180 0 159 (dk_at dksX5_warm_1 6 rfl rfl)
theorem dX5_warm_33 : decode cX5_warm 33 = .ok (.iastore, 1) := dk_79 (dk_at dksX5_warm_1 9 rfl rfl)
theorem dX5_warm_34 : decode cX5_warm 34 = .ok (.iconst 1, 1) := dk_4 (dk_at dksX5_warm_1 10 rfl rfl)
theorem dX5_warm_35 : decode cX5_warm 35 = .ok (.ireturn, 1) := dk_172 (dk_at dksX5_warm_1 11 rfl rfl)
abbrev cX5_isDie : ByteArray := prog_11_method_5_code
def yX5_isDie : MethodName := ⟨RX5, "isDie", "(I)Z"⟩
def dkwX5_isDie_0 : List UInt8 := [27, 133, 9, 42, 180, 0, 135, 4, 100, 133, 184, 0, 131, 172]
abbrev dktX5_isDie_0 : List UInt8 := dkwX5_isDie_0 ++ []
theorem dksX5_isDie_0 : cX5_isDie.data.toList.drop 0 = dktX5_isDie_0 := by decide +kernel
theorem dX5_isDie_0 : decode cX5_isDie 0 = .ok (.iload_n 1, 1) := dk_27 (dk_at dksX5_isDie_0 0 rfl rfl)
theorem dX5_isDie_1 : decode cX5_isDie 1 = .ok (.i2l, 1) := dk_133 (dk_at dksX5_isDie_0 1 rfl rfl)
theorem dX5_isDie_2 : decode cX5_isDie 2 = .ok (.lconst 0, 1) := dk_9 (dk_at dksX5_isDie_0 2 rfl rfl)
theorem dX5_isDie_3 : decode cX5_isDie 3 = .ok (.aload_n 0, 1) := dk_42 (dk_at dksX5_isDie_0 3 rfl rfl)
theorem dX5_isDie_4 : decode cX5_isDie 4 = .ok (.getfield 135, 3) := dk_180 0 135 (dk_at dksX5_isDie_0 4 rfl rfl)
theorem dX5_isDie_7 : decode cX5_isDie 7 = .ok (.iconst 1, 1) := dk_4 (dk_at dksX5_isDie_0 7 rfl rfl)
theorem dX5_isDie_8 : decode cX5_isDie 8 = .ok (.isub, 1) := dk_100 (dk_at dksX5_isDie_0 8 rfl rfl)
theorem dX5_isDie_9 : decode cX5_isDie 9 = .ok (.i2l, 1) := dk_133 (dk_at dksX5_isDie_0 9 rfl rfl)
theorem dX5_isDie_10 : decode cX5_isDie 10 = .ok (.invokestatic 131, 3) := dk_184 0 131 (dk_at dksX5_isDie_0 10 rfl rfl)
theorem dX5_isDie_13 : decode cX5_isDie 13 = .ok (.ireturn, 1) := dk_172 (dk_at dksX5_isDie_0 13 rfl rfl)
abbrev cX5_cool : ByteArray := prog_11_method_9_code
def yX5_cool : MethodName := ⟨RX5, "cool", "(I)I"⟩
def dkwX5_cool_1 : List UInt8 := [42, 180, 0, 159, 42, 180, 0, 37, 27, 46, 100, 61, 42, 180, 0, 37, 27, 2, 79, 28, 172]
abbrev dktX5_cool_1 : List UInt8 := dkwX5_cool_1 ++ []
def dkwX5_cool_0 : List UInt8 := [42, 27, 182, 0, 156, 154, 0, 6, 16, 254, 172, 42, 180, 0, 37, 27, 46, 2, 160, 0, 6, 16, 253, 172]
abbrev dktX5_cool_0 : List UInt8 := dkwX5_cool_0 ++ dktX5_cool_1
theorem dksX5_cool_0 : cX5_cool.data.toList.drop 0 = dktX5_cool_0 := by decide +kernel
theorem dksX5_cool_1 : cX5_cool.data.toList.drop 24 = dktX5_cool_1 := dk_seg dksX5_cool_0 24 rfl rfl
theorem dX5_cool_0 : decode cX5_cool 0 = .ok (.aload_n 0, 1) := dk_42 (dk_at dksX5_cool_0 0 rfl rfl)
theorem dX5_cool_1 : decode cX5_cool 1 = .ok (.iload_n 1, 1) := dk_27 (dk_at dksX5_cool_0 1 rfl rfl)
theorem dX5_cool_2 : decode cX5_cool 2 = .ok (.invokevirtual 156, 3) := dk_182 0 156 (dk_at dksX5_cool_0 2 rfl rfl)
theorem dX5_cool_5 : decode cX5_cool 5 = .ok (.ifCond .ne 6, 3) := dk_154 0 6 (dk_at dksX5_cool_0 5 rfl rfl)
theorem dX5_cool_8 : decode cX5_cool 8 = .ok (.bipush (-2), 2) := dk_16 254 (dk_at dksX5_cool_0 8 rfl rfl)
theorem dX5_cool_10 : decode cX5_cool 10 = .ok (.ireturn, 1) := dk_172 (dk_at dksX5_cool_0 10 rfl rfl)
theorem dX5_cool_11 : decode cX5_cool 11 = .ok (.aload_n 0, 1) := dk_42 (dk_at dksX5_cool_0 11 rfl rfl)
theorem dX5_cool_12 : decode cX5_cool 12 = .ok (.getfield 37, 3) := dk_180 0 37 (dk_at dksX5_cool_0 12 rfl rfl)
theorem dX5_cool_15 : decode cX5_cool 15 = .ok (.iload_n 1, 1) := dk_27 (dk_at dksX5_cool_0 15 rfl rfl)
theorem dX5_cool_16 : decode cX5_cool 16 = .ok (.iaload, 1) := dk_46 (dk_at dksX5_cool_0 16 rfl rfl)
theorem dX5_cool_17 : decode cX5_cool 17 = .ok (.iconst (-1), 1) := dk_2 (dk_at dksX5_cool_0 17 rfl rfl)
theorem dX5_cool_18 : decode cX5_cool 18 = .ok (.if_icmp .ne 6, 3) := dk_160 0 6 (dk_at dksX5_cool_0 18 rfl rfl)
theorem dX5_cool_21 : decode cX5_cool 21 = .ok (.bipush (-3), 2) := dk_16 253 (dk_at dksX5_cool_0 21 rfl rfl)
theorem dX5_cool_23 : decode cX5_cool 23 = .ok (.ireturn, 1) := dk_172 (dk_at dksX5_cool_0 23 rfl rfl)
theorem dX5_cool_24 : decode cX5_cool 24 = .ok (.aload_n 0, 1) := dk_42 (dk_at dksX5_cool_1 0 rfl rfl)
theorem dX5_cool_25 : decode cX5_cool 25 = .ok (.getfield 159, 3) := dk_180 0 159 (dk_at dksX5_cool_1 1 rfl rfl)
theorem dX5_cool_28 : decode cX5_cool 28 = .ok (.aload_n 0, 1) := dk_42 (dk_at dksX5_cool_1 4 rfl rfl)
theorem dX5_cool_29 : decode cX5_cool 29 = .ok (.getfield 37, 3) := dk_180 0 37 (dk_at dksX5_cool_1 5 rfl rfl)
theorem dX5_cool_32 : decode cX5_cool 32 = .ok (.iload_n 1, 1) := dk_27 (dk_at dksX5_cool_1 8 rfl rfl)
theorem dX5_cool_33 : decode cX5_cool 33 = .ok (.iaload, 1) := dk_46 (dk_at dksX5_cool_1 9 rfl rfl)
theorem dX5_cool_34 : decode cX5_cool 34 = .ok (.isub, 1) := dk_100 (dk_at dksX5_cool_1 10 rfl rfl)
theorem dX5_cool_35 : decode cX5_cool 35 = .ok (.istore_n 2, 1) := dk_61 (dk_at dksX5_cool_1 11 rfl rfl)
theorem dX5_cool_36 : decode cX5_cool 36 = .ok (.aload_n 0, 1) := dk_42 (dk_at dksX5_cool_1 12 rfl rfl)
theorem dX5_cool_37 : decode cX5_cool 37 = .ok (.getfield 37, 3) := dk_180 0 37 (dk_at dksX5_cool_1 13 rfl rfl)
theorem dX5_cool_40 : decode cX5_cool 40 = .ok (.iload_n 1, 1) := dk_27 (dk_at dksX5_cool_1 16 rfl rfl)
theorem dX5_cool_41 : decode cX5_cool 41 = .ok (.iconst (-1), 1) := dk_2 (dk_at dksX5_cool_1 17 rfl rfl)
theorem dX5_cool_42 : decode cX5_cool 42 = .ok (.iastore, 1) := dk_79 (dk_at dksX5_cool_1 18 rfl rfl)
theorem dX5_cool_43 : decode cX5_cool 43 = .ok (.iload_n 2, 1) := dk_28 (dk_at dksX5_cool_1 19 rfl rfl)
theorem dX5_cool_44 : decode cX5_cool 44 = .ok (.ireturn, 1) := dk_172 (dk_at dksX5_cool_1 20 rfl rfl)
abbrev cX5_nitride : ByteArray := prog_11_method_10_code
def yX5_nitride : MethodName := ⟨RX5, "nitride", "(I)I"⟩
def dkwX5_nitride_1 : List UInt8 := [42, 180, 0, 31, 27, 46, 61, 42, 180, 0, 31, 27, 3, 79, 28, 172]
abbrev dktX5_nitride_1 : List UInt8 := dkwX5_nitride_1 ++ []
def dkwX5_nitride_0 : List UInt8 := [42, 27, 182, 0, 156, 154, 0, 6, 16, 254, 172, 42, 180, 0, 37, 27, 46, 2, 159, 0, 6, 16, 253, 172]
abbrev dktX5_nitride_0 : List UInt8 := dkwX5_nitride_0 ++ dktX5_nitride_1
theorem dksX5_nitride_0 : cX5_nitride.data.toList.drop 0 = dktX5_nitride_0 := by decide +kernel
theorem dksX5_nitride_1 : cX5_nitride.data.toList.drop 24 = dktX5_nitride_1 := dk_seg dksX5_nitride_0 24 rfl rfl
theorem dX5_nitride_0 : decode cX5_nitride 0 = .ok (.aload_n 0, 1) := dk_42 (dk_at dksX5_nitride_0 0 rfl rfl)
theorem dX5_nitride_1 : decode cX5_nitride 1 = .ok (.iload_n 1, 1) := dk_27 (dk_at dksX5_nitride_0 1 rfl rfl)
theorem dX5_nitride_2 : decode cX5_nitride 2 = .ok (.invokevirtual 156, 3) := dk_182 0 156 (dk_at dksX5_nitride_0 2 rfl rfl)
theorem dX5_nitride_5 : decode cX5_nitride 5 = .ok (.ifCond .ne 6, 3) := dk_154 0 6 (dk_at dksX5_nitride_0 5 rfl rfl)
theorem dX5_nitride_8 : decode cX5_nitride 8 = .ok (.bipush (-2), 2) := dk_16 254 (dk_at dksX5_nitride_0 8 rfl rfl)
theorem dX5_nitride_10 : decode cX5_nitride 10 = .ok (.ireturn, 1) := dk_172 (dk_at dksX5_nitride_0 10 rfl rfl)
theorem dX5_nitride_11 : decode cX5_nitride 11 = .ok (.aload_n 0, 1) := dk_42 (dk_at dksX5_nitride_0 11 rfl rfl)
theorem dX5_nitride_12 : decode cX5_nitride 12 = .ok (.getfield 37, 3) := dk_180 0 37 (dk_at dksX5_nitride_0 12 rfl rfl)
theorem dX5_nitride_15 : decode cX5_nitride 15 = .ok (.iload_n 1, 1) := dk_27 (dk_at dksX5_nitride_0 15 rfl rfl)
theorem dX5_nitride_16 : decode cX5_nitride 16 = .ok (.iaload, 1) := dk_46 (dk_at dksX5_nitride_0 16 rfl rfl)
theorem dX5_nitride_17 : decode cX5_nitride 17 = .ok (.iconst (-1), 1) := dk_2 (dk_at dksX5_nitride_0 17 rfl rfl)
theorem dX5_nitride_18 : decode cX5_nitride 18 = .ok (.if_icmp .eq 6, 3) := dk_159 0 6 (dk_at dksX5_nitride_0 18 rfl rfl)
theorem dX5_nitride_21 : decode cX5_nitride 21 = .ok (.bipush (-3), 2) := dk_16 253 (dk_at dksX5_nitride_0 21 rfl rfl)
theorem dX5_nitride_23 : decode cX5_nitride 23 = .ok (.ireturn, 1) := dk_172 (dk_at dksX5_nitride_0 23 rfl rfl)
theorem dX5_nitride_24 : decode cX5_nitride 24 = .ok (.aload_n 0, 1) := dk_42 (dk_at dksX5_nitride_1 0 rfl rfl)
theorem dX5_nitride_25 : decode cX5_nitride 25 = .ok (.getfield 31, 3) := dk_180 0 31 (dk_at dksX5_nitride_1 1 rfl rfl)
theorem dX5_nitride_28 : decode cX5_nitride 28 = .ok (.iload_n 1, 1) := dk_27 (dk_at dksX5_nitride_1 4 rfl rfl)
theorem dX5_nitride_29 : decode cX5_nitride 29 = .ok (.iaload, 1) := dk_46 (dk_at dksX5_nitride_1 5 rfl rfl)
theorem dX5_nitride_30 : decode cX5_nitride 30 = .ok (.istore_n 2, 1) := dk_61 (dk_at dksX5_nitride_1 6 rfl rfl)
theorem dX5_nitride_31 : decode cX5_nitride 31 = .ok (.aload_n 0, 1) := dk_42 (dk_at dksX5_nitride_1 7 rfl rfl)
theorem dX5_nitride_32 : decode cX5_nitride 32 = .ok (.getfield 31, 3) := dk_180 0 31 (dk_at dksX5_nitride_1 8 rfl rfl)
theorem dX5_nitride_35 : decode cX5_nitride 35 = .ok (.iload_n 1, 1) := dk_27 (dk_at dksX5_nitride_1 11 rfl rfl)
theorem dX5_nitride_36 : decode cX5_nitride 36 = .ok (.iconst 0, 1) := dk_3 (dk_at dksX5_nitride_1 12 rfl rfl)
theorem dX5_nitride_37 : decode cX5_nitride 37 = .ok (.iastore, 1) := dk_79 (dk_at dksX5_nitride_1 13 rfl rfl)
theorem dX5_nitride_38 : decode cX5_nitride 38 = .ok (.iload_n 2, 1) := dk_28 (dk_at dksX5_nitride_1 14 rfl rfl)
theorem dX5_nitride_39 : decode cX5_nitride 39 = .ok (.ireturn, 1) := dk_172 (dk_at dksX5_nitride_1 15 rfl rfl)
abbrev cX5_about : ByteArray := prog_11_method_12_code
def yX5_about : MethodName := ⟨RX5, "about", "(II)I"⟩
def dkwX5_about_5 : List UInt8 := [172]
abbrev dktX5_about_5 : List UInt8 := dkwX5_about_5 ++ []
def dkwX5_about_4 : List UInt8 := [172, 42, 27, 182, 0, 164, 153, 0, 7, 4, 167, 0, 4, 3, 172, 42, 180, 0, 34, 27, 46, 172, 16, 254]
abbrev dktX5_about_4 : List UInt8 := dkwX5_about_4 ++ dktX5_about_5
def dkwX5_about_3 : List UInt8 := [180, 0, 37, 27, 46, 2, 160, 0, 7, 2, 167, 0, 14, 42, 180, 0, 159, 42, 180, 0, 37, 27, 46, 100]
abbrev dktX5_about_3 : List UInt8 := dkwX5_about_3 ++ dktX5_about_4
def dkwX5_about_2 : List UInt8 := [42, 180, 0, 25, 27, 46, 172, 42, 180, 0, 28, 27, 46, 172, 42, 180, 0, 31, 27, 46, 172, 42]
abbrev dktX5_about_2 : List UInt8 := dkwX5_about_2 ++ dktX5_about_3
def dkwX5_about_1 : List UInt8 := [170, 0, 0, 0, 0, 0, 0, 108, 0, 0, 0, 0, 0, 0, 0, 5, 0, 0, 0, 40, 0, 0, 0, 47, 0, 0, 0, 54, 0, 0, 0, 61, 0, 0, 0, 87, 0, 0, 0, 101]
abbrev dktX5_about_1 : List UInt8 := dkwX5_about_1 ++ dktX5_about_2
def dkwX5_about_0 : List UInt8 := [42, 27, 182, 0, 156, 154, 0, 6, 16, 254, 172, 28]
abbrev dktX5_about_0 : List UInt8 := dkwX5_about_0 ++ dktX5_about_1
theorem dksX5_about_0 : cX5_about.data.toList.drop 0 = dktX5_about_0 := by decide +kernel
theorem dksX5_about_1 : cX5_about.data.toList.drop 12 = dktX5_about_1 := dk_seg dksX5_about_0 12 rfl rfl
theorem dksX5_about_2 : cX5_about.data.toList.drop 52 = dktX5_about_2 := dk_seg dksX5_about_1 40 rfl rfl
theorem dksX5_about_3 : cX5_about.data.toList.drop 74 = dktX5_about_3 := dk_seg dksX5_about_2 22 rfl rfl
theorem dksX5_about_4 : cX5_about.data.toList.drop 98 = dktX5_about_4 := dk_seg dksX5_about_3 24 rfl rfl
theorem dksX5_about_5 : cX5_about.data.toList.drop 122 = dktX5_about_5 := dk_seg dksX5_about_4 24 rfl rfl
theorem dX5_about_0 : decode cX5_about 0 = .ok (.aload_n 0, 1) := dk_42 (dk_at dksX5_about_0 0 rfl rfl)
theorem dX5_about_1 : decode cX5_about 1 = .ok (.iload_n 1, 1) := dk_27 (dk_at dksX5_about_0 1 rfl rfl)
theorem dX5_about_2 : decode cX5_about 2 = .ok (.invokevirtual 156, 3) := dk_182 0 156 (dk_at dksX5_about_0 2 rfl rfl)
theorem dX5_about_5 : decode cX5_about 5 = .ok (.ifCond .ne 6, 3) := dk_154 0 6 (dk_at dksX5_about_0 5 rfl rfl)
theorem dX5_about_8 : decode cX5_about 8 = .ok (.bipush (-2), 2) := dk_16 254 (dk_at dksX5_about_0 8 rfl rfl)
theorem dX5_about_10 : decode cX5_about 10 = .ok (.ireturn, 1) := dk_172 (dk_at dksX5_about_0 10 rfl rfl)
theorem dX5_about_11 : decode cX5_about 11 = .ok (.iload_n 2, 1) := dk_28 (dk_at dksX5_about_0 11 rfl rfl)
theorem dX5_about_12 : decode cX5_about 12 = .ok (.tableswitch 108 0 5 #[40, 47, 54, 61, 87, 101], 40) := by decide +kernel
theorem dX5_about_52 : decode cX5_about 52 = .ok (.aload_n 0, 1) := dk_42 (dk_at dksX5_about_2 0 rfl rfl)
theorem dX5_about_53 : decode cX5_about 53 = .ok (.getfield 25, 3) := dk_180 0 25 (dk_at dksX5_about_2 1 rfl rfl)
theorem dX5_about_56 : decode cX5_about 56 = .ok (.iload_n 1, 1) := dk_27 (dk_at dksX5_about_2 4 rfl rfl)
theorem dX5_about_57 : decode cX5_about 57 = .ok (.iaload, 1) := dk_46 (dk_at dksX5_about_2 5 rfl rfl)
theorem dX5_about_58 : decode cX5_about 58 = .ok (.ireturn, 1) := dk_172 (dk_at dksX5_about_2 6 rfl rfl)
theorem dX5_about_59 : decode cX5_about 59 = .ok (.aload_n 0, 1) := dk_42 (dk_at dksX5_about_2 7 rfl rfl)
theorem dX5_about_60 : decode cX5_about 60 = .ok (.getfield 28, 3) := dk_180 0 28 (dk_at dksX5_about_2 8 rfl rfl)
theorem dX5_about_63 : decode cX5_about 63 = .ok (.iload_n 1, 1) := dk_27 (dk_at dksX5_about_2 11 rfl rfl)
theorem dX5_about_64 : decode cX5_about 64 = .ok (.iaload, 1) := dk_46 (dk_at dksX5_about_2 12 rfl rfl)
theorem dX5_about_65 : decode cX5_about 65 = .ok (.ireturn, 1) := dk_172 (dk_at dksX5_about_2 13 rfl rfl)
theorem dX5_about_66 : decode cX5_about 66 = .ok (.aload_n 0, 1) := dk_42 (dk_at dksX5_about_2 14 rfl rfl)
theorem dX5_about_67 : decode cX5_about 67 = .ok (.getfield 31, 3) := dk_180 0 31 (dk_at dksX5_about_2 15 rfl rfl)
theorem dX5_about_70 : decode cX5_about 70 = .ok (.iload_n 1, 1) := dk_27 (dk_at dksX5_about_2 18 rfl rfl)
theorem dX5_about_71 : decode cX5_about 71 = .ok (.iaload, 1) := dk_46 (dk_at dksX5_about_2 19 rfl rfl)
theorem dX5_about_72 : decode cX5_about 72 = .ok (.ireturn, 1) := dk_172 (dk_at dksX5_about_2 20 rfl rfl)
theorem dX5_about_73 : decode cX5_about 73 = .ok (.aload_n 0, 1) := dk_42 (dk_at dksX5_about_2 21 rfl rfl)
theorem dX5_about_74 : decode cX5_about 74 = .ok (.getfield 37, 3) := dk_180 0 37 (dk_at dksX5_about_3 0 rfl rfl)
theorem dX5_about_77 : decode cX5_about 77 = .ok (.iload_n 1, 1) := dk_27 (dk_at dksX5_about_3 3 rfl rfl)
theorem dX5_about_78 : decode cX5_about 78 = .ok (.iaload, 1) := dk_46 (dk_at dksX5_about_3 4 rfl rfl)
theorem dX5_about_79 : decode cX5_about 79 = .ok (.iconst (-1), 1) := dk_2 (dk_at dksX5_about_3 5 rfl rfl)
theorem dX5_about_80 : decode cX5_about 80 = .ok (.if_icmp .ne 7, 3) := dk_160 0 7 (dk_at dksX5_about_3 6 rfl rfl)
theorem dX5_about_83 : decode cX5_about 83 = .ok (.iconst (-1), 1) := dk_2 (dk_at dksX5_about_3 9 rfl rfl)
theorem dX5_about_84 : decode cX5_about 84 = .ok (.goto 14, 3) := dk_167 0 14 (dk_at dksX5_about_3 10 rfl rfl)
theorem dX5_about_87 : decode cX5_about 87 = .ok (.aload_n 0, 1) := dk_42 (dk_at dksX5_about_3 13 rfl rfl)
theorem dX5_about_88 : decode cX5_about 88 = .ok (.getfield 159, 3) := dk_180 0 159 (dk_at dksX5_about_3 14 rfl rfl)
theorem dX5_about_91 : decode cX5_about 91 = .ok (.aload_n 0, 1) := dk_42 (dk_at dksX5_about_3 17 rfl rfl)
theorem dX5_about_92 : decode cX5_about 92 = .ok (.getfield 37, 3) := dk_180 0 37 (dk_at dksX5_about_3 18 rfl rfl)
theorem dX5_about_95 : decode cX5_about 95 = .ok (.iload_n 1, 1) := dk_27 (dk_at dksX5_about_3 21 rfl rfl)
theorem dX5_about_96 : decode cX5_about 96 = .ok (.iaload, 1) := dk_46 (dk_at dksX5_about_3 22 rfl rfl)
theorem dX5_about_97 : decode cX5_about 97 = .ok (.isub, 1) := dk_100 (dk_at dksX5_about_3 23 rfl rfl)
theorem dX5_about_98 : decode cX5_about 98 = .ok (.ireturn, 1) := dk_172 (dk_at dksX5_about_4 0 rfl rfl)
theorem dX5_about_99 : decode cX5_about 99 = .ok (.aload_n 0, 1) := dk_42 (dk_at dksX5_about_4 1 rfl rfl)
theorem dX5_about_100 : decode cX5_about 100 = .ok (.iload_n 1, 1) := dk_27 (dk_at dksX5_about_4 2 rfl rfl)
theorem dX5_about_101 : decode cX5_about 101 = .ok (.invokevirtual 164, 3) := dk_182 0 164 (dk_at dksX5_about_4 3 rfl rfl)
theorem dX5_about_104 : decode cX5_about 104 = .ok (.ifCond .eq 7, 3) := dk_153 0 7 (dk_at dksX5_about_4 6 rfl rfl)
theorem dX5_about_107 : decode cX5_about 107 = .ok (.iconst 1, 1) := dk_4 (dk_at dksX5_about_4 9 rfl rfl)
theorem dX5_about_108 : decode cX5_about 108 = .ok (.goto 4, 3) := dk_167 0 4 (dk_at dksX5_about_4 10 rfl rfl)
theorem dX5_about_111 : decode cX5_about 111 = .ok (.iconst 0, 1) := dk_3 (dk_at dksX5_about_4 13 rfl rfl)
theorem dX5_about_112 : decode cX5_about 112 = .ok (.ireturn, 1) := dk_172 (dk_at dksX5_about_4 14 rfl rfl)
theorem dX5_about_113 : decode cX5_about 113 = .ok (.aload_n 0, 1) := dk_42 (dk_at dksX5_about_4 15 rfl rfl)
theorem dX5_about_114 : decode cX5_about 114 = .ok (.getfield 34, 3) := dk_180 0 34 (dk_at dksX5_about_4 16 rfl rfl)
theorem dX5_about_117 : decode cX5_about 117 = .ok (.iload_n 1, 1) := dk_27 (dk_at dksX5_about_4 19 rfl rfl)
theorem dX5_about_118 : decode cX5_about 118 = .ok (.iaload, 1) := dk_46 (dk_at dksX5_about_4 20 rfl rfl)
theorem dX5_about_119 : decode cX5_about 119 = .ok (.ireturn, 1) := dk_172 (dk_at dksX5_about_4 21 rfl rfl)
theorem dX5_about_120 : decode cX5_about 120 = .ok (.bipush (-2), 2) := dk_16 254 (dk_at dksX5_about_4 22 rfl rfl)
theorem dX5_about_122 : decode cX5_about 122 = .ok (.ireturn, 1) := dk_172 (dk_at dksX5_about_5 0 rfl rfl)
abbrev cX5_mayPress : ByteArray := prog_11_method_11_code
def yX5_mayPress : MethodName := ⟨RX5, "mayPress", "(I)Z"⟩
def dkwX5_mayPress_2 : List UInt8 := [162, 0, 7, 4, 167, 0, 4, 3, 172]
abbrev dktX5_mayPress_2 : List UInt8 := dkwX5_mayPress_2 ++ []
def dkwX5_mayPress_1 : List UInt8 := [20, 0, 144, 20, 0, 162, 184, 0, 131, 153, 0, 22, 42, 180, 0, 31, 27, 46, 42, 180, 0, 28, 27, 46]
abbrev dktX5_mayPress_1 : List UInt8 := dkwX5_mayPress_1 ++ dktX5_mayPress_2
def dkwX5_mayPress_0 : List UInt8 := [42, 180, 0, 37, 27, 46, 2, 159, 0, 46, 42, 180, 0, 159, 42, 180, 0, 37, 27, 46, 100, 133]
abbrev dktX5_mayPress_0 : List UInt8 := dkwX5_mayPress_0 ++ dktX5_mayPress_1
theorem dksX5_mayPress_0 : cX5_mayPress.data.toList.drop 0 = dktX5_mayPress_0 := by decide +kernel
theorem dksX5_mayPress_1 : cX5_mayPress.data.toList.drop 22 = dktX5_mayPress_1 := dk_seg dksX5_mayPress_0 22 rfl rfl
theorem dksX5_mayPress_2 : cX5_mayPress.data.toList.drop 46 = dktX5_mayPress_2 := dk_seg dksX5_mayPress_1 24 rfl rfl
theorem dX5_mayPress_0 : decode cX5_mayPress 0 = .ok (.aload_n 0, 1) := dk_42 (dk_at dksX5_mayPress_0 0 rfl rfl)
theorem dX5_mayPress_1 : decode cX5_mayPress 1 = .ok (.getfield 37, 3) := dk_180 0 37 (dk_at dksX5_mayPress_0 1 rfl rfl)
theorem dX5_mayPress_4 : decode cX5_mayPress 4 = .ok (.iload_n 1, 1) := dk_27 (dk_at dksX5_mayPress_0 4 rfl rfl)
theorem dX5_mayPress_5 : decode cX5_mayPress 5 = .ok (.iaload, 1) := dk_46 (dk_at dksX5_mayPress_0 5 rfl rfl)
theorem dX5_mayPress_6 : decode cX5_mayPress 6 = .ok (.iconst (-1), 1) := dk_2 (dk_at dksX5_mayPress_0 6 rfl rfl)
theorem dX5_mayPress_7 : decode cX5_mayPress 7 = .ok (.if_icmp .eq 46, 3) := dk_159 0 46 (dk_at dksX5_mayPress_0 7 rfl rfl)
theorem dX5_mayPress_10 : decode cX5_mayPress 10 = .ok (.aload_n 0, 1) := dk_42 (dk_at dksX5_mayPress_0 10 rfl rfl)
theorem dX5_mayPress_11 : decode cX5_mayPress 11 = .ok (.getfield 159, 3) := dk_180 0 159 (dk_at dksX5_mayPress_0 11 rfl rfl)
theorem dX5_mayPress_14 : decode cX5_mayPress 14 = .ok (.aload_n 0, 1) := dk_42 (dk_at dksX5_mayPress_0 14 rfl rfl)
theorem dX5_mayPress_15 : decode cX5_mayPress 15 = .ok (.getfield 37, 3) := dk_180 0 37 (dk_at dksX5_mayPress_0 15 rfl rfl)
theorem dX5_mayPress_18 : decode cX5_mayPress 18 = .ok (.iload_n 1, 1) := dk_27 (dk_at dksX5_mayPress_0 18 rfl rfl)
theorem dX5_mayPress_19 : decode cX5_mayPress 19 = .ok (.iaload, 1) := dk_46 (dk_at dksX5_mayPress_0 19 rfl rfl)
theorem dX5_mayPress_20 : decode cX5_mayPress 20 = .ok (.isub, 1) := dk_100 (dk_at dksX5_mayPress_0 20 rfl rfl)
theorem dX5_mayPress_21 : decode cX5_mayPress 21 = .ok (.i2l, 1) := dk_133 (dk_at dksX5_mayPress_0 21 rfl rfl)
theorem dX5_mayPress_22 : decode cX5_mayPress 22 = .ok (.ldc2_w 144, 3) := dk_20 0 144 (dk_at dksX5_mayPress_1 0 rfl rfl)
theorem dX5_mayPress_25 : decode cX5_mayPress 25 = .ok (.ldc2_w 162, 3) := dk_20 0 162 (dk_at dksX5_mayPress_1 3 rfl rfl)
theorem dX5_mayPress_28 : decode cX5_mayPress 28 = .ok (.invokestatic 131, 3) := dk_184 0 131 (dk_at dksX5_mayPress_1 6 rfl rfl)
theorem dX5_mayPress_31 : decode cX5_mayPress 31 = .ok (.ifCond .eq 22, 3) := dk_153 0 22 (dk_at dksX5_mayPress_1 9 rfl rfl)
theorem dX5_mayPress_34 : decode cX5_mayPress 34 = .ok (.aload_n 0, 1) := dk_42 (dk_at dksX5_mayPress_1 12 rfl rfl)
theorem dX5_mayPress_35 : decode cX5_mayPress 35 = .ok (.getfield 31, 3) := dk_180 0 31 (dk_at dksX5_mayPress_1 13 rfl rfl)
theorem dX5_mayPress_38 : decode cX5_mayPress 38 = .ok (.iload_n 1, 1) := dk_27 (dk_at dksX5_mayPress_1 16 rfl rfl)
theorem dX5_mayPress_39 : decode cX5_mayPress 39 = .ok (.iaload, 1) := dk_46 (dk_at dksX5_mayPress_1 17 rfl rfl)
theorem dX5_mayPress_40 : decode cX5_mayPress 40 = .ok (.aload_n 0, 1) := dk_42 (dk_at dksX5_mayPress_1 18 rfl rfl)
theorem dX5_mayPress_41 : decode cX5_mayPress 41 = .ok (.getfield 28, 3) := dk_180 0 28 (dk_at dksX5_mayPress_1 19 rfl rfl)
theorem dX5_mayPress_44 : decode cX5_mayPress 44 = .ok (.iload_n 1, 1) := dk_27 (dk_at dksX5_mayPress_1 22 rfl rfl)
theorem dX5_mayPress_45 : decode cX5_mayPress 45 = .ok (.iaload, 1) := dk_46 (dk_at dksX5_mayPress_1 23 rfl rfl)
theorem dX5_mayPress_46 : decode cX5_mayPress 46 = .ok (.if_icmp .ge 7, 3) := dk_162 0 7 (dk_at dksX5_mayPress_2 0 rfl rfl)
theorem dX5_mayPress_49 : decode cX5_mayPress 49 = .ok (.iconst 1, 1) := dk_4 (dk_at dksX5_mayPress_2 3 rfl rfl)
theorem dX5_mayPress_50 : decode cX5_mayPress 50 = .ok (.goto 4, 3) := dk_167 0 4 (dk_at dksX5_mayPress_2 4 rfl rfl)
theorem dX5_mayPress_53 : decode cX5_mayPress 53 = .ok (.iconst 0, 1) := dk_3 (dk_at dksX5_mayPress_2 7 rfl rfl)
theorem dX5_mayPress_54 : decode cX5_mayPress 54 = .ok (.ireturn, 1) := dk_172 (dk_at dksX5_mayPress_2 8 rfl rfl)
abbrev cX5_ready : ByteArray := prog_11_method_13_code
def yX5_ready : MethodName := ⟨RX5, "ready", "(I)I"⟩
def dkwX5_ready_2 : List UInt8 := [180, 0, 31, 29, 46, 42, 180, 0, 31, 28, 46, 162, 0, 5, 29, 61, 132, 3, 1, 167, 255, 205, 28, 172]
abbrev dktX5_ready_2 : List UInt8 := dkwX5_ready_2 ++ []
def dkwX5_ready_1 : List UInt8 := [180, 0, 25, 29, 46, 27, 160, 0, 33, 42, 29, 182, 0, 164, 153, 0, 25, 28, 2, 159, 0, 18, 42]
abbrev dktX5_ready_1 : List UInt8 := dkwX5_ready_1 ++ dktX5_ready_2
def dkwX5_ready_0 : List UInt8 := [42, 27, 182, 0, 150, 154, 0, 6, 16, 254, 172, 2, 61, 3, 62, 29, 42, 180, 0, 135, 162, 0, 49, 42]
abbrev dktX5_ready_0 : List UInt8 := dkwX5_ready_0 ++ dktX5_ready_1
theorem dksX5_ready_0 : cX5_ready.data.toList.drop 0 = dktX5_ready_0 := by decide +kernel
theorem dksX5_ready_1 : cX5_ready.data.toList.drop 24 = dktX5_ready_1 := dk_seg dksX5_ready_0 24 rfl rfl
theorem dksX5_ready_2 : cX5_ready.data.toList.drop 47 = dktX5_ready_2 := dk_seg dksX5_ready_1 23 rfl rfl
theorem dX5_ready_0 : decode cX5_ready 0 = .ok (.aload_n 0, 1) := dk_42 (dk_at dksX5_ready_0 0 rfl rfl)
theorem dX5_ready_1 : decode cX5_ready 1 = .ok (.iload_n 1, 1) := dk_27 (dk_at dksX5_ready_0 1 rfl rfl)
theorem dX5_ready_2 : decode cX5_ready 2 = .ok (.invokevirtual 150, 3) := dk_182 0 150 (dk_at dksX5_ready_0 2 rfl rfl)
theorem dX5_ready_5 : decode cX5_ready 5 = .ok (.ifCond .ne 6, 3) := dk_154 0 6 (dk_at dksX5_ready_0 5 rfl rfl)
theorem dX5_ready_8 : decode cX5_ready 8 = .ok (.bipush (-2), 2) := dk_16 254 (dk_at dksX5_ready_0 8 rfl rfl)
theorem dX5_ready_10 : decode cX5_ready 10 = .ok (.ireturn, 1) := dk_172 (dk_at dksX5_ready_0 10 rfl rfl)
theorem dX5_ready_11 : decode cX5_ready 11 = .ok (.iconst (-1), 1) := dk_2 (dk_at dksX5_ready_0 11 rfl rfl)
theorem dX5_ready_12 : decode cX5_ready 12 = .ok (.istore_n 2, 1) := dk_61 (dk_at dksX5_ready_0 12 rfl rfl)
theorem dX5_ready_13 : decode cX5_ready 13 = .ok (.iconst 0, 1) := dk_3 (dk_at dksX5_ready_0 13 rfl rfl)
theorem dX5_ready_14 : decode cX5_ready 14 = .ok (.istore_n 3, 1) := dk_62 (dk_at dksX5_ready_0 14 rfl rfl)
theorem dX5_ready_15 : decode cX5_ready 15 = .ok (.iload_n 3, 1) := dk_29 (dk_at dksX5_ready_0 15 rfl rfl)
theorem dX5_ready_16 : decode cX5_ready 16 = .ok (.aload_n 0, 1) := dk_42 (dk_at dksX5_ready_0 16 rfl rfl)
theorem dX5_ready_17 : decode cX5_ready 17 = .ok (.getfield 135, 3) := dk_180 0 135 (dk_at dksX5_ready_0 17 rfl rfl)
theorem dX5_ready_20 : decode cX5_ready 20 = .ok (.if_icmp .ge 49, 3) := dk_162 0 49 (dk_at dksX5_ready_0 20 rfl rfl)
theorem dX5_ready_23 : decode cX5_ready 23 = .ok (.aload_n 0, 1) := dk_42 (dk_at dksX5_ready_0 23 rfl rfl)
theorem dX5_ready_24 : decode cX5_ready 24 = .ok (.getfield 25, 3) := dk_180 0 25 (dk_at dksX5_ready_1 0 rfl rfl)
theorem dX5_ready_27 : decode cX5_ready 27 = .ok (.iload_n 3, 1) := dk_29 (dk_at dksX5_ready_1 3 rfl rfl)
theorem dX5_ready_28 : decode cX5_ready 28 = .ok (.iaload, 1) := dk_46 (dk_at dksX5_ready_1 4 rfl rfl)
theorem dX5_ready_29 : decode cX5_ready 29 = .ok (.iload_n 1, 1) := dk_27 (dk_at dksX5_ready_1 5 rfl rfl)
theorem dX5_ready_30 : decode cX5_ready 30 = .ok (.if_icmp .ne 33, 3) := dk_160 0 33 (dk_at dksX5_ready_1 6 rfl rfl)
theorem dX5_ready_33 : decode cX5_ready 33 = .ok (.aload_n 0, 1) := dk_42 (dk_at dksX5_ready_1 9 rfl rfl)
theorem dX5_ready_34 : decode cX5_ready 34 = .ok (.iload_n 3, 1) := dk_29 (dk_at dksX5_ready_1 10 rfl rfl)
theorem dX5_ready_35 : decode cX5_ready 35 = .ok (.invokevirtual 164, 3) := dk_182 0 164 (dk_at dksX5_ready_1 11 rfl rfl)
theorem dX5_ready_38 : decode cX5_ready 38 = .ok (.ifCond .eq 25, 3) := dk_153 0 25 (dk_at dksX5_ready_1 14 rfl rfl)
theorem dX5_ready_41 : decode cX5_ready 41 = .ok (.iload_n 2, 1) := dk_28 (dk_at dksX5_ready_1 17 rfl rfl)
theorem dX5_ready_42 : decode cX5_ready 42 = .ok (.iconst (-1), 1) := dk_2 (dk_at dksX5_ready_1 18 rfl rfl)
theorem dX5_ready_43 : decode cX5_ready 43 = .ok (.if_icmp .eq 18, 3) := dk_159 0 18 (dk_at dksX5_ready_1 19 rfl rfl)
theorem dX5_ready_46 : decode cX5_ready 46 = .ok (.aload_n 0, 1) := dk_42 (dk_at dksX5_ready_1 22 rfl rfl)
theorem dX5_ready_47 : decode cX5_ready 47 = .ok (.getfield 31, 3) := dk_180 0 31 (dk_at dksX5_ready_2 0 rfl rfl)
theorem dX5_ready_50 : decode cX5_ready 50 = .ok (.iload_n 3, 1) := dk_29 (dk_at dksX5_ready_2 3 rfl rfl)
theorem dX5_ready_51 : decode cX5_ready 51 = .ok (.iaload, 1) := dk_46 (dk_at dksX5_ready_2 4 rfl rfl)
theorem dX5_ready_52 : decode cX5_ready 52 = .ok (.aload_n 0, 1) := dk_42 (dk_at dksX5_ready_2 5 rfl rfl)
theorem dX5_ready_53 : decode cX5_ready 53 = .ok (.getfield 31, 3) := dk_180 0 31 (dk_at dksX5_ready_2 6 rfl rfl)
theorem dX5_ready_56 : decode cX5_ready 56 = .ok (.iload_n 2, 1) := dk_28 (dk_at dksX5_ready_2 9 rfl rfl)
theorem dX5_ready_57 : decode cX5_ready 57 = .ok (.iaload, 1) := dk_46 (dk_at dksX5_ready_2 10 rfl rfl)
theorem dX5_ready_58 : decode cX5_ready 58 = .ok (.if_icmp .ge 5, 3) := dk_162 0 5 (dk_at dksX5_ready_2 11 rfl rfl)
theorem dX5_ready_61 : decode cX5_ready 61 = .ok (.iload_n 3, 1) := dk_29 (dk_at dksX5_ready_2 14 rfl rfl)
theorem dX5_ready_62 : decode cX5_ready 62 = .ok (.istore_n 2, 1) := dk_61 (dk_at dksX5_ready_2 15 rfl rfl)
theorem dX5_ready_63 : decode cX5_ready 63 = .ok (.iinc 3 1, 3) := dk_132 3 1 (dk_at dksX5_ready_2 16 rfl rfl)
theorem dX5_ready_66 : decode cX5_ready 66 = .ok (.goto (-51), 3) := dk_167 255 205 (dk_at dksX5_ready_2 19 rfl rfl)
theorem dX5_ready_69 : decode cX5_ready 69 = .ok (.iload_n 2, 1) := dk_28 (dk_at dksX5_ready_2 22 rfl rfl)
theorem dX5_ready_70 : decode cX5_ready 70 = .ok (.ireturn, 1) := dk_172 (dk_at dksX5_ready_2 23 rfl rfl)
abbrev cX5_pass : ByteArray := prog_11_method_14_code
def yX5_pass : MethodName := ⟨RX5, "pass", "(I)I"⟩
def dkwX5_pass_1 : List UInt8 := [181, 0, 159, 42, 180, 0, 159, 172]
abbrev dktX5_pass_1 : List UInt8 := dkwX5_pass_1 ++ []
def dkwX5_pass_0 : List UInt8 := [27, 133, 10, 20, 0, 146, 184, 0, 131, 154, 0, 6, 16, 254, 172, 42, 89, 180, 0, 159, 27, 96]
abbrev dktX5_pass_0 : List UInt8 := dkwX5_pass_0 ++ dktX5_pass_1
theorem dksX5_pass_0 : cX5_pass.data.toList.drop 0 = dktX5_pass_0 := by decide +kernel
theorem dksX5_pass_1 : cX5_pass.data.toList.drop 22 = dktX5_pass_1 := dk_seg dksX5_pass_0 22 rfl rfl
theorem dX5_pass_0 : decode cX5_pass 0 = .ok (.iload_n 1, 1) := dk_27 (dk_at dksX5_pass_0 0 rfl rfl)
theorem dX5_pass_1 : decode cX5_pass 1 = .ok (.i2l, 1) := dk_133 (dk_at dksX5_pass_0 1 rfl rfl)
theorem dX5_pass_2 : decode cX5_pass 2 = .ok (.lconst 1, 1) := dk_10 (dk_at dksX5_pass_0 2 rfl rfl)
theorem dX5_pass_3 : decode cX5_pass 3 = .ok (.ldc2_w 146, 3) := dk_20 0 146 (dk_at dksX5_pass_0 3 rfl rfl)
theorem dX5_pass_6 : decode cX5_pass 6 = .ok (.invokestatic 131, 3) := dk_184 0 131 (dk_at dksX5_pass_0 6 rfl rfl)
theorem dX5_pass_9 : decode cX5_pass 9 = .ok (.ifCond .ne 6, 3) := dk_154 0 6 (dk_at dksX5_pass_0 9 rfl rfl)
theorem dX5_pass_12 : decode cX5_pass 12 = .ok (.bipush (-2), 2) := dk_16 254 (dk_at dksX5_pass_0 12 rfl rfl)
theorem dX5_pass_14 : decode cX5_pass 14 = .ok (.ireturn, 1) := dk_172 (dk_at dksX5_pass_0 14 rfl rfl)
theorem dX5_pass_15 : decode cX5_pass 15 = .ok (.aload_n 0, 1) := dk_42 (dk_at dksX5_pass_0 15 rfl rfl)
theorem dX5_pass_16 : decode cX5_pass 16 = .ok (.dup, 1) := dk_89 (dk_at dksX5_pass_0 16 rfl rfl)
theorem dX5_pass_17 : decode cX5_pass 17 = .ok (.getfield 159, 3) := dk_180 0 159 (dk_at dksX5_pass_0 17 rfl rfl)
theorem dX5_pass_20 : decode cX5_pass 20 = .ok (.iload_n 1, 1) := dk_27 (dk_at dksX5_pass_0 20 rfl rfl)
theorem dX5_pass_21 : decode cX5_pass 21 = .ok (.iadd, 1) := dk_96 (dk_at dksX5_pass_0 21 rfl rfl)
theorem dX5_pass_22 : decode cX5_pass 22 = .ok (.putfield 159, 3) := dk_181 0 159 (dk_at dksX5_pass_1 0 rfl rfl)
theorem dX5_pass_25 : decode cX5_pass 25 = .ok (.aload_n 0, 1) := dk_42 (dk_at dksX5_pass_1 3 rfl rfl)
theorem dX5_pass_26 : decode cX5_pass 26 = .ok (.getfield 159, 3) := dk_180 0 159 (dk_at dksX5_pass_1 4 rfl rfl)
theorem dX5_pass_29 : decode cX5_pass 29 = .ok (.ireturn, 1) := dk_172 (dk_at dksX5_pass_1 7 rfl rfl)
abbrev cX5_law : ByteArray := prog_11_method_15_code
def yX5_law : MethodName := ⟨RX5, "law", "(II)I"⟩
def dkwX5_law_2 : List UInt8 := [16, 254, 172, 42, 180, 0, 7, 27, 46, 62, 42, 180, 0, 7, 27, 28, 79, 29, 172]
abbrev dktX5_law_2 : List UInt8 := dkwX5_law_2 ++ []
def dkwX5_law_1 : List UInt8 := [167, 0, 17, 27, 7, 162, 0, 9, 20, 0, 167, 167, 0, 6, 20, 0, 169, 184, 0, 131, 154, 0, 6]
abbrev dktX5_law_1 : List UInt8 := dkwX5_law_1 ++ dktX5_law_2
def dkwX5_law_0 : List UInt8 := [27, 133, 9, 20, 0, 140, 184, 0, 131, 153, 0, 36, 28, 133, 9, 27, 154, 0, 9, 20, 0, 146]
abbrev dktX5_law_0 : List UInt8 := dkwX5_law_0 ++ dktX5_law_1
theorem dksX5_law_0 : cX5_law.data.toList.drop 0 = dktX5_law_0 := by decide +kernel
theorem dksX5_law_1 : cX5_law.data.toList.drop 22 = dktX5_law_1 := dk_seg dksX5_law_0 22 rfl rfl
theorem dksX5_law_2 : cX5_law.data.toList.drop 45 = dktX5_law_2 := dk_seg dksX5_law_1 23 rfl rfl
theorem dX5_law_0 : decode cX5_law 0 = .ok (.iload_n 1, 1) := dk_27 (dk_at dksX5_law_0 0 rfl rfl)
theorem dX5_law_1 : decode cX5_law 1 = .ok (.i2l, 1) := dk_133 (dk_at dksX5_law_0 1 rfl rfl)
theorem dX5_law_2 : decode cX5_law 2 = .ok (.lconst 0, 1) := dk_9 (dk_at dksX5_law_0 2 rfl rfl)
theorem dX5_law_3 : decode cX5_law 3 = .ok (.ldc2_w 140, 3) := dk_20 0 140 (dk_at dksX5_law_0 3 rfl rfl)
theorem dX5_law_6 : decode cX5_law 6 = .ok (.invokestatic 131, 3) := dk_184 0 131 (dk_at dksX5_law_0 6 rfl rfl)
theorem dX5_law_9 : decode cX5_law 9 = .ok (.ifCond .eq 36, 3) := dk_153 0 36 (dk_at dksX5_law_0 9 rfl rfl)
theorem dX5_law_12 : decode cX5_law 12 = .ok (.iload_n 2, 1) := dk_28 (dk_at dksX5_law_0 12 rfl rfl)
theorem dX5_law_13 : decode cX5_law 13 = .ok (.i2l, 1) := dk_133 (dk_at dksX5_law_0 13 rfl rfl)
theorem dX5_law_14 : decode cX5_law 14 = .ok (.lconst 0, 1) := dk_9 (dk_at dksX5_law_0 14 rfl rfl)
theorem dX5_law_15 : decode cX5_law 15 = .ok (.iload_n 1, 1) := dk_27 (dk_at dksX5_law_0 15 rfl rfl)
theorem dX5_law_16 : decode cX5_law 16 = .ok (.ifCond .ne 9, 3) := dk_154 0 9 (dk_at dksX5_law_0 16 rfl rfl)
theorem dX5_law_19 : decode cX5_law 19 = .ok (.ldc2_w 146, 3) := dk_20 0 146 (dk_at dksX5_law_0 19 rfl rfl)
theorem dX5_law_22 : decode cX5_law 22 = .ok (.goto 17, 3) := dk_167 0 17 (dk_at dksX5_law_1 0 rfl rfl)
theorem dX5_law_25 : decode cX5_law 25 = .ok (.iload_n 1, 1) := dk_27 (dk_at dksX5_law_1 3 rfl rfl)
theorem dX5_law_26 : decode cX5_law 26 = .ok (.iconst 4, 1) := dk_7 (dk_at dksX5_law_1 4 rfl rfl)
theorem dX5_law_27 : decode cX5_law 27 = .ok (.if_icmp .ge 9, 3) := dk_162 0 9 (dk_at dksX5_law_1 5 rfl rfl)
theorem dX5_law_30 : decode cX5_law 30 = .ok (.ldc2_w 167, 3) := dk_20 0 167 (dk_at dksX5_law_1 8 rfl rfl)
theorem dX5_law_33 : decode cX5_law 33 = .ok (.goto 6, 3) := dk_167 0 6 (dk_at dksX5_law_1 11 rfl rfl)
theorem dX5_law_36 : decode cX5_law 36 = .ok (.ldc2_w 169, 3) := dk_20 0 169 (dk_at dksX5_law_1 14 rfl rfl)
theorem dX5_law_39 : decode cX5_law 39 = .ok (.invokestatic 131, 3) := dk_184 0 131 (dk_at dksX5_law_1 17 rfl rfl)
theorem dX5_law_42 : decode cX5_law 42 = .ok (.ifCond .ne 6, 3) := dk_154 0 6 (dk_at dksX5_law_1 20 rfl rfl)
theorem dX5_law_45 : decode cX5_law 45 = .ok (.bipush (-2), 2) := dk_16 254 (dk_at dksX5_law_2 0 rfl rfl)
theorem dX5_law_47 : decode cX5_law 47 = .ok (.ireturn, 1) := dk_172 (dk_at dksX5_law_2 2 rfl rfl)
theorem dX5_law_48 : decode cX5_law 48 = .ok (.aload_n 0, 1) := dk_42 (dk_at dksX5_law_2 3 rfl rfl)
theorem dX5_law_49 : decode cX5_law 49 = .ok (.getfield 7, 3) := dk_180 0 7 (dk_at dksX5_law_2 4 rfl rfl)
theorem dX5_law_52 : decode cX5_law 52 = .ok (.iload_n 1, 1) := dk_27 (dk_at dksX5_law_2 7 rfl rfl)
theorem dX5_law_53 : decode cX5_law 53 = .ok (.iaload, 1) := dk_46 (dk_at dksX5_law_2 8 rfl rfl)
theorem dX5_law_54 : decode cX5_law 54 = .ok (.istore_n 3, 1) := dk_62 (dk_at dksX5_law_2 9 rfl rfl)
theorem dX5_law_55 : decode cX5_law 55 = .ok (.aload_n 0, 1) := dk_42 (dk_at dksX5_law_2 10 rfl rfl)
theorem dX5_law_56 : decode cX5_law 56 = .ok (.getfield 7, 3) := dk_180 0 7 (dk_at dksX5_law_2 11 rfl rfl)
theorem dX5_law_59 : decode cX5_law 59 = .ok (.iload_n 1, 1) := dk_27 (dk_at dksX5_law_2 14 rfl rfl)
theorem dX5_law_60 : decode cX5_law 60 = .ok (.iload_n 2, 1) := dk_28 (dk_at dksX5_law_2 15 rfl rfl)
theorem dX5_law_61 : decode cX5_law 61 = .ok (.iastore, 1) := dk_79 (dk_at dksX5_law_2 16 rfl rfl)
theorem dX5_law_62 : decode cX5_law 62 = .ok (.iload_n 3, 1) := dk_29 (dk_at dksX5_law_2 17 rfl rfl)
theorem dX5_law_63 : decode cX5_law 63 = .ok (.ireturn, 1) := dk_172 (dk_at dksX5_law_2 18 rfl rfl)
abbrev cX5_press : ByteArray := prog_11_method_20_code
def yX5_press : MethodName := ⟨RX5, "press", "(II)I"⟩
def dkwX5_press_16 : List UInt8 := [180, 0, 159, 4, 96, 181, 0, 159, 42, 180, 0, 171, 172]
abbrev dktX5_press_16 : List UInt8 := dkwX5_press_16 ++ []
def dkwX5_press_15 : List UInt8 := [180, 0, 34, 27, 92, 46, 4, 96, 79, 42, 27, 181, 0, 64, 42, 42, 180, 0, 159, 181, 0, 68, 42, 89]
abbrev dktX5_press_15 : List UInt8 := dkwX5_press_15 ++ dktX5_press_16
def dkwX5_press_14 : List UInt8 := [180, 0, 71, 16, 6, 92, 47, 28, 133, 97, 80, 42, 180, 0, 31, 27, 92, 46, 4, 96, 79, 42]
abbrev dktX5_press_14 : List UInt8 := dkwX5_press_14 ++ dktX5_press_15
def dkwX5_press_13 : List UInt8 := [42, 180, 0, 171, 100, 133, 97, 80, 42, 180, 0, 71, 8, 92, 47, 42, 180, 0, 183, 133, 97, 80, 42]
abbrev dktX5_press_13 : List UInt8 := dkwX5_press_13 ++ dktX5_press_14
def dkwX5_press_12 : List UInt8 := [180, 0, 71, 6, 92, 47, 42, 180, 0, 171, 133, 97, 80, 42, 180, 0, 71, 7, 92, 47, 42, 180, 0, 195]
abbrev dktX5_press_12 : List UInt8 := dkwX5_press_12 ++ dktX5_press_13
def dkwX5_press_11 : List UInt8 := [42, 180, 0, 189, 133, 97, 80, 42, 180, 0, 71, 5, 92, 47, 42, 180, 0, 192, 133, 97, 80, 42]
abbrev dktX5_press_11 : List UInt8 := dkwX5_press_11 ++ dktX5_press_12
def dkwX5_press_10 : List UInt8 := [181, 0, 206, 42, 180, 0, 71, 3, 92, 47, 42, 180, 0, 186, 133, 97, 80, 42, 180, 0, 71, 4, 92, 47]
abbrev dktX5_press_10 : List UInt8 := dkwX5_press_10 ++ dktX5_press_11
def dkwX5_press_9 : List UInt8 := [180, 0, 206, 2, 79, 42, 180, 0, 61, 42, 180, 0, 206, 2, 79, 42, 89, 180, 0, 206, 4, 96]
abbrev dktX5_press_9 : List UInt8 := dkwX5_press_9 ++ dktX5_press_10
def dkwX5_press_8 : List UInt8 := [42, 180, 0, 171, 100, 79, 42, 180, 0, 55, 42, 180, 0, 206, 42, 180, 0, 192, 79, 42, 180, 0, 58, 42]
abbrev dktX5_press_8 : List UInt8 := dkwX5_press_8 ++ dktX5_press_9
def dkwX5_press_7 : List UInt8 := [180, 0, 49, 42, 180, 0, 206, 42, 180, 0, 171, 79, 42, 180, 0, 52, 42, 180, 0, 206, 42, 180, 0, 195]
abbrev dktX5_press_7 : List UInt8 := dkwX5_press_7 ++ dktX5_press_8
def dkwX5_press_6 : List UInt8 := [180, 0, 43, 42, 180, 0, 206, 28, 79, 42, 180, 0, 46, 42, 180, 0, 206, 42, 180, 0, 183, 79, 42]
abbrev dktX5_press_6 : List UInt8 := dkwX5_press_6 ++ dktX5_press_7
def dkwX5_press_5 : List UInt8 := [21, 4, 46, 100, 79, 132, 4, 1, 167, 255, 221, 42, 180, 0, 40, 42, 180, 0, 206, 27, 79, 42]
abbrev dktX5_press_5 : List UInt8 := dkwX5_press_5 ++ dktX5_press_6
def dkwX5_press_4 : List UInt8 := [180, 0, 75, 29, 46, 162, 0, 30, 42, 180, 0, 81, 6, 29, 104, 21, 4, 96, 92, 46, 42, 180, 0, 84]
abbrev dktX5_press_4 : List UInt8 := dkwX5_press_4 ++ dktX5_press_5
def dkwX5_press_3 : List UInt8 := [180, 0, 159, 4, 100, 160, 0, 7, 4, 167, 0, 4, 3, 182, 0, 209, 3, 54, 4, 21, 4, 42]
abbrev dktX5_press_3 : List UInt8 := dkwX5_press_3 ++ dktX5_press_4
def dkwX5_press_2 : List UInt8 := [172, 42, 180, 0, 25, 27, 46, 62, 42, 29, 28, 42, 180, 0, 64, 27, 160, 0, 20, 42, 180, 0, 68, 42]
abbrev dktX5_press_2 : List UInt8 := dkwX5_press_2 ++ dktX5_press_3
def dkwX5_press_1 : List UInt8 := [172, 42, 27, 182, 0, 164, 154, 0, 6, 16, 253, 172, 42, 180, 0, 206, 17, 0, 200, 160, 0, 6, 16, 252]
abbrev dktX5_press_1 : List UInt8 := dkwX5_press_1 ++ dktX5_press_2
def dkwX5_press_0 : List UInt8 := [42, 27, 182, 0, 156, 153, 0, 17, 28, 133, 20, 0, 202, 20, 0, 204, 184, 0, 131, 154, 0, 6, 16, 254]
abbrev dktX5_press_0 : List UInt8 := dkwX5_press_0 ++ dktX5_press_1
theorem dksX5_press_0 : cX5_press.data.toList.drop 0 = dktX5_press_0 := by decide +kernel
theorem dksX5_press_1 : cX5_press.data.toList.drop 24 = dktX5_press_1 := dk_seg dksX5_press_0 24 rfl rfl
theorem dksX5_press_2 : cX5_press.data.toList.drop 48 = dktX5_press_2 := dk_seg dksX5_press_1 24 rfl rfl
theorem dksX5_press_3 : cX5_press.data.toList.drop 72 = dktX5_press_3 := dk_seg dksX5_press_2 24 rfl rfl
theorem dksX5_press_4 : cX5_press.data.toList.drop 94 = dktX5_press_4 := dk_seg dksX5_press_3 22 rfl rfl
theorem dksX5_press_5 : cX5_press.data.toList.drop 118 = dktX5_press_5 := dk_seg dksX5_press_4 24 rfl rfl
theorem dksX5_press_6 : cX5_press.data.toList.drop 140 = dktX5_press_6 := dk_seg dksX5_press_5 22 rfl rfl
theorem dksX5_press_7 : cX5_press.data.toList.drop 163 = dktX5_press_7 := dk_seg dksX5_press_6 23 rfl rfl
theorem dksX5_press_8 : cX5_press.data.toList.drop 187 = dktX5_press_8 := dk_seg dksX5_press_7 24 rfl rfl
theorem dksX5_press_9 : cX5_press.data.toList.drop 211 = dktX5_press_9 := dk_seg dksX5_press_8 24 rfl rfl
theorem dksX5_press_10 : cX5_press.data.toList.drop 233 = dktX5_press_10 := dk_seg dksX5_press_9 22 rfl rfl
theorem dksX5_press_11 : cX5_press.data.toList.drop 257 = dktX5_press_11 := dk_seg dksX5_press_10 24 rfl rfl
theorem dksX5_press_12 : cX5_press.data.toList.drop 279 = dktX5_press_12 := dk_seg dksX5_press_11 22 rfl rfl
theorem dksX5_press_13 : cX5_press.data.toList.drop 303 = dktX5_press_13 := dk_seg dksX5_press_12 24 rfl rfl
theorem dksX5_press_14 : cX5_press.data.toList.drop 326 = dktX5_press_14 := dk_seg dksX5_press_13 23 rfl rfl
theorem dksX5_press_15 : cX5_press.data.toList.drop 348 = dktX5_press_15 := dk_seg dksX5_press_14 22 rfl rfl
theorem dksX5_press_16 : cX5_press.data.toList.drop 372 = dktX5_press_16 := dk_seg dksX5_press_15 24 rfl rfl
theorem dX5_press_0 : decode cX5_press 0 = .ok (.aload_n 0, 1) := dk_42 (dk_at dksX5_press_0 0 rfl rfl)
theorem dX5_press_1 : decode cX5_press 1 = .ok (.iload_n 1, 1) := dk_27 (dk_at dksX5_press_0 1 rfl rfl)
theorem dX5_press_2 : decode cX5_press 2 = .ok (.invokevirtual 156, 3) := dk_182 0 156 (dk_at dksX5_press_0 2 rfl rfl)
theorem dX5_press_5 : decode cX5_press 5 = .ok (.ifCond .eq 17, 3) := dk_153 0 17 (dk_at dksX5_press_0 5 rfl rfl)
theorem dX5_press_8 : decode cX5_press 8 = .ok (.iload_n 2, 1) := dk_28 (dk_at dksX5_press_0 8 rfl rfl)
theorem dX5_press_9 : decode cX5_press 9 = .ok (.i2l, 1) := dk_133 (dk_at dksX5_press_0 9 rfl rfl)
theorem dX5_press_10 : decode cX5_press 10 = .ok (.ldc2_w 202, 3) := dk_20 0 202 (dk_at dksX5_press_0 10 rfl rfl)
theorem dX5_press_13 : decode cX5_press 13 = .ok (.ldc2_w 204, 3) := dk_20 0 204 (dk_at dksX5_press_0 13 rfl rfl)
theorem dX5_press_16 : decode cX5_press 16 = .ok (.invokestatic 131, 3) := dk_184 0 131 (dk_at dksX5_press_0 16 rfl rfl)
theorem dX5_press_19 : decode cX5_press 19 = .ok (.ifCond .ne 6, 3) := dk_154 0 6 (dk_at dksX5_press_0 19 rfl rfl)
theorem dX5_press_22 : decode cX5_press 22 = .ok (.bipush (-2), 2) := dk_16 254 (dk_at dksX5_press_0 22 rfl rfl)
theorem dX5_press_24 : decode cX5_press 24 = .ok (.ireturn, 1) := dk_172 (dk_at dksX5_press_1 0 rfl rfl)
theorem dX5_press_25 : decode cX5_press 25 = .ok (.aload_n 0, 1) := dk_42 (dk_at dksX5_press_1 1 rfl rfl)
theorem dX5_press_26 : decode cX5_press 26 = .ok (.iload_n 1, 1) := dk_27 (dk_at dksX5_press_1 2 rfl rfl)
theorem dX5_press_27 : decode cX5_press 27 = .ok (.invokevirtual 164, 3) := dk_182 0 164 (dk_at dksX5_press_1 3 rfl rfl)
theorem dX5_press_30 : decode cX5_press 30 = .ok (.ifCond .ne 6, 3) := dk_154 0 6 (dk_at dksX5_press_1 6 rfl rfl)
theorem dX5_press_33 : decode cX5_press 33 = .ok (.bipush (-3), 2) := dk_16 253 (dk_at dksX5_press_1 9 rfl rfl)
theorem dX5_press_35 : decode cX5_press 35 = .ok (.ireturn, 1) := dk_172 (dk_at dksX5_press_1 11 rfl rfl)
theorem dX5_press_36 : decode cX5_press 36 = .ok (.aload_n 0, 1) := dk_42 (dk_at dksX5_press_1 12 rfl rfl)
theorem dX5_press_37 : decode cX5_press 37 = .ok (.getfield 206, 3) := dk_180 0 206 (dk_at dksX5_press_1 13 rfl rfl)
theorem dX5_press_40 : decode cX5_press 40 = .ok (.sipush 200, 3) := dk_17 0 200 (dk_at dksX5_press_1 16 rfl rfl)
theorem dX5_press_43 : decode cX5_press 43 = .ok (.if_icmp .ne 6, 3) := dk_160 0 6 (dk_at dksX5_press_1 19 rfl rfl)
theorem dX5_press_46 : decode cX5_press 46 = .ok (.bipush (-4), 2) := dk_16 252 (dk_at dksX5_press_1 22 rfl rfl)
theorem dX5_press_48 : decode cX5_press 48 = .ok (.ireturn, 1) := dk_172 (dk_at dksX5_press_2 0 rfl rfl)
theorem dX5_press_49 : decode cX5_press 49 = .ok (.aload_n 0, 1) := dk_42 (dk_at dksX5_press_2 1 rfl rfl)
theorem dX5_press_50 : decode cX5_press 50 = .ok (.getfield 25, 3) := dk_180 0 25 (dk_at dksX5_press_2 2 rfl rfl)
theorem dX5_press_53 : decode cX5_press 53 = .ok (.iload_n 1, 1) := dk_27 (dk_at dksX5_press_2 5 rfl rfl)
theorem dX5_press_54 : decode cX5_press 54 = .ok (.iaload, 1) := dk_46 (dk_at dksX5_press_2 6 rfl rfl)
theorem dX5_press_55 : decode cX5_press 55 = .ok (.istore_n 3, 1) := dk_62 (dk_at dksX5_press_2 7 rfl rfl)
theorem dX5_press_56 : decode cX5_press 56 = .ok (.aload_n 0, 1) := dk_42 (dk_at dksX5_press_2 8 rfl rfl)
theorem dX5_press_57 : decode cX5_press 57 = .ok (.iload_n 3, 1) := dk_29 (dk_at dksX5_press_2 9 rfl rfl)
theorem dX5_press_58 : decode cX5_press 58 = .ok (.iload_n 2, 1) := dk_28 (dk_at dksX5_press_2 10 rfl rfl)
theorem dX5_press_59 : decode cX5_press 59 = .ok (.aload_n 0, 1) := dk_42 (dk_at dksX5_press_2 11 rfl rfl)
theorem dX5_press_60 : decode cX5_press 60 = .ok (.getfield 64, 3) := dk_180 0 64 (dk_at dksX5_press_2 12 rfl rfl)
theorem dX5_press_63 : decode cX5_press 63 = .ok (.iload_n 1, 1) := dk_27 (dk_at dksX5_press_2 15 rfl rfl)
theorem dX5_press_64 : decode cX5_press 64 = .ok (.if_icmp .ne 20, 3) := dk_160 0 20 (dk_at dksX5_press_2 16 rfl rfl)
theorem dX5_press_67 : decode cX5_press 67 = .ok (.aload_n 0, 1) := dk_42 (dk_at dksX5_press_2 19 rfl rfl)
theorem dX5_press_68 : decode cX5_press 68 = .ok (.getfield 68, 3) := dk_180 0 68 (dk_at dksX5_press_2 20 rfl rfl)
theorem dX5_press_71 : decode cX5_press 71 = .ok (.aload_n 0, 1) := dk_42 (dk_at dksX5_press_2 23 rfl rfl)
theorem dX5_press_72 : decode cX5_press 72 = .ok (.getfield 159, 3) := dk_180 0 159 (dk_at dksX5_press_3 0 rfl rfl)
theorem dX5_press_75 : decode cX5_press 75 = .ok (.iconst 1, 1) := dk_4 (dk_at dksX5_press_3 3 rfl rfl)
theorem dX5_press_76 : decode cX5_press 76 = .ok (.isub, 1) := dk_100 (dk_at dksX5_press_3 4 rfl rfl)
theorem dX5_press_77 : decode cX5_press 77 = .ok (.if_icmp .ne 7, 3) := dk_160 0 7 (dk_at dksX5_press_3 5 rfl rfl)
theorem dX5_press_80 : decode cX5_press 80 = .ok (.iconst 1, 1) := dk_4 (dk_at dksX5_press_3 8 rfl rfl)
theorem dX5_press_81 : decode cX5_press 81 = .ok (.goto 4, 3) := dk_167 0 4 (dk_at dksX5_press_3 9 rfl rfl)
theorem dX5_press_84 : decode cX5_press 84 = .ok (.iconst 0, 1) := dk_3 (dk_at dksX5_press_3 12 rfl rfl)
theorem dX5_press_85 : decode cX5_press 85 = .ok (.invokevirtual 209, 3) := dk_182 0 209 (dk_at dksX5_press_3 13 rfl rfl)
theorem dX5_press_88 : decode cX5_press 88 = .ok (.iconst 0, 1) := dk_3 (dk_at dksX5_press_3 16 rfl rfl)
theorem dX5_press_89 : decode cX5_press 89 = .ok (.istore 4, 2) := dk_54 4 (dk_at dksX5_press_3 17 rfl rfl)
theorem dX5_press_91 : decode cX5_press 91 = .ok (.iload 4, 2) := dk_21 4 (dk_at dksX5_press_3 19 rfl rfl)
theorem dX5_press_93 : decode cX5_press 93 = .ok (.aload_n 0, 1) := dk_42 (dk_at dksX5_press_3 21 rfl rfl)
theorem dX5_press_94 : decode cX5_press 94 = .ok (.getfield 75, 3) := dk_180 0 75 (dk_at dksX5_press_4 0 rfl rfl)
theorem dX5_press_97 : decode cX5_press 97 = .ok (.iload_n 3, 1) := dk_29 (dk_at dksX5_press_4 3 rfl rfl)
theorem dX5_press_98 : decode cX5_press 98 = .ok (.iaload, 1) := dk_46 (dk_at dksX5_press_4 4 rfl rfl)
theorem dX5_press_99 : decode cX5_press 99 = .ok (.if_icmp .ge 30, 3) := dk_162 0 30 (dk_at dksX5_press_4 5 rfl rfl)
theorem dX5_press_102 : decode cX5_press 102 = .ok (.aload_n 0, 1) := dk_42 (dk_at dksX5_press_4 8 rfl rfl)
theorem dX5_press_103 : decode cX5_press 103 = .ok (.getfield 81, 3) := dk_180 0 81 (dk_at dksX5_press_4 9 rfl rfl)
theorem dX5_press_106 : decode cX5_press 106 = .ok (.iconst 3, 1) := dk_6 (dk_at dksX5_press_4 12 rfl rfl)
theorem dX5_press_107 : decode cX5_press 107 = .ok (.iload_n 3, 1) := dk_29 (dk_at dksX5_press_4 13 rfl rfl)
theorem dX5_press_108 : decode cX5_press 108 = .ok (.imul, 1) := dk_104 (dk_at dksX5_press_4 14 rfl rfl)
theorem dX5_press_109 : decode cX5_press 109 = .ok (.iload 4, 2) := dk_21 4 (dk_at dksX5_press_4 15 rfl rfl)
theorem dX5_press_111 : decode cX5_press 111 = .ok (.iadd, 1) := dk_96 (dk_at dksX5_press_4 17 rfl rfl)
theorem dX5_press_112 : decode cX5_press 112 = .ok (.dup2, 1) := dk_92 (dk_at dksX5_press_4 18 rfl rfl)
theorem dX5_press_113 : decode cX5_press 113 = .ok (.iaload, 1) := dk_46 (dk_at dksX5_press_4 19 rfl rfl)
theorem dX5_press_114 : decode cX5_press 114 = .ok (.aload_n 0, 1) := dk_42 (dk_at dksX5_press_4 20 rfl rfl)
theorem dX5_press_115 : decode cX5_press 115 = .ok (.getfield 84, 3) := dk_180 0 84 (dk_at dksX5_press_4 21 rfl rfl)
theorem dX5_press_118 : decode cX5_press 118 = .ok (.iload 4, 2) := dk_21 4 (dk_at dksX5_press_5 0 rfl rfl)
theorem dX5_press_120 : decode cX5_press 120 = .ok (.iaload, 1) := dk_46 (dk_at dksX5_press_5 2 rfl rfl)
theorem dX5_press_121 : decode cX5_press 121 = .ok (.isub, 1) := dk_100 (dk_at dksX5_press_5 3 rfl rfl)
theorem dX5_press_122 : decode cX5_press 122 = .ok (.iastore, 1) := dk_79 (dk_at dksX5_press_5 4 rfl rfl)
theorem dX5_press_123 : decode cX5_press 123 = .ok (.iinc 4 1, 3) := dk_132 4 1 (dk_at dksX5_press_5 5 rfl rfl)
theorem dX5_press_126 : decode cX5_press 126 = .ok (.goto (-35), 3) := dk_167 255 221 (dk_at dksX5_press_5 8 rfl rfl)
theorem dX5_press_129 : decode cX5_press 129 = .ok (.aload_n 0, 1) := dk_42 (dk_at dksX5_press_5 11 rfl rfl)
theorem dX5_press_130 : decode cX5_press 130 = .ok (.getfield 40, 3) := dk_180 0 40 (dk_at dksX5_press_5 12 rfl rfl)
theorem dX5_press_133 : decode cX5_press 133 = .ok (.aload_n 0, 1) := dk_42 (dk_at dksX5_press_5 15 rfl rfl)
theorem dX5_press_134 : decode cX5_press 134 = .ok (.getfield 206, 3) := dk_180 0 206 (dk_at dksX5_press_5 16 rfl rfl)
theorem dX5_press_137 : decode cX5_press 137 = .ok (.iload_n 1, 1) := dk_27 (dk_at dksX5_press_5 19 rfl rfl)
theorem dX5_press_138 : decode cX5_press 138 = .ok (.iastore, 1) := dk_79 (dk_at dksX5_press_5 20 rfl rfl)
theorem dX5_press_139 : decode cX5_press 139 = .ok (.aload_n 0, 1) := dk_42 (dk_at dksX5_press_5 21 rfl rfl)
theorem dX5_press_140 : decode cX5_press 140 = .ok (.getfield 43, 3) := dk_180 0 43 (dk_at dksX5_press_6 0 rfl rfl)
theorem dX5_press_143 : decode cX5_press 143 = .ok (.aload_n 0, 1) := dk_42 (dk_at dksX5_press_6 3 rfl rfl)
theorem dX5_press_144 : decode cX5_press 144 = .ok (.getfield 206, 3) := dk_180 0 206 (dk_at dksX5_press_6 4 rfl rfl)
theorem dX5_press_147 : decode cX5_press 147 = .ok (.iload_n 2, 1) := dk_28 (dk_at dksX5_press_6 7 rfl rfl)
theorem dX5_press_148 : decode cX5_press 148 = .ok (.iastore, 1) := dk_79 (dk_at dksX5_press_6 8 rfl rfl)
theorem dX5_press_149 : decode cX5_press 149 = .ok (.aload_n 0, 1) := dk_42 (dk_at dksX5_press_6 9 rfl rfl)
theorem dX5_press_150 : decode cX5_press 150 = .ok (.getfield 46, 3) := dk_180 0 46 (dk_at dksX5_press_6 10 rfl rfl)
theorem dX5_press_153 : decode cX5_press 153 = .ok (.aload_n 0, 1) := dk_42 (dk_at dksX5_press_6 13 rfl rfl)
theorem dX5_press_154 : decode cX5_press 154 = .ok (.getfield 206, 3) := dk_180 0 206 (dk_at dksX5_press_6 14 rfl rfl)
theorem dX5_press_157 : decode cX5_press 157 = .ok (.aload_n 0, 1) := dk_42 (dk_at dksX5_press_6 17 rfl rfl)
theorem dX5_press_158 : decode cX5_press 158 = .ok (.getfield 183, 3) := dk_180 0 183 (dk_at dksX5_press_6 18 rfl rfl)
theorem dX5_press_161 : decode cX5_press 161 = .ok (.iastore, 1) := dk_79 (dk_at dksX5_press_6 21 rfl rfl)
theorem dX5_press_162 : decode cX5_press 162 = .ok (.aload_n 0, 1) := dk_42 (dk_at dksX5_press_6 22 rfl rfl)
theorem dX5_press_163 : decode cX5_press 163 = .ok (.getfield 49, 3) := dk_180 0 49 (dk_at dksX5_press_7 0 rfl rfl)
theorem dX5_press_166 : decode cX5_press 166 = .ok (.aload_n 0, 1) := dk_42 (dk_at dksX5_press_7 3 rfl rfl)
theorem dX5_press_167 : decode cX5_press 167 = .ok (.getfield 206, 3) := dk_180 0 206 (dk_at dksX5_press_7 4 rfl rfl)
theorem dX5_press_170 : decode cX5_press 170 = .ok (.aload_n 0, 1) := dk_42 (dk_at dksX5_press_7 7 rfl rfl)
theorem dX5_press_171 : decode cX5_press 171 = .ok (.getfield 171, 3) := dk_180 0 171 (dk_at dksX5_press_7 8 rfl rfl)
theorem dX5_press_174 : decode cX5_press 174 = .ok (.iastore, 1) := dk_79 (dk_at dksX5_press_7 11 rfl rfl)
theorem dX5_press_175 : decode cX5_press 175 = .ok (.aload_n 0, 1) := dk_42 (dk_at dksX5_press_7 12 rfl rfl)
theorem dX5_press_176 : decode cX5_press 176 = .ok (.getfield 52, 3) := dk_180 0 52 (dk_at dksX5_press_7 13 rfl rfl)
theorem dX5_press_179 : decode cX5_press 179 = .ok (.aload_n 0, 1) := dk_42 (dk_at dksX5_press_7 16 rfl rfl)
theorem dX5_press_180 : decode cX5_press 180 = .ok (.getfield 206, 3) := dk_180 0 206 (dk_at dksX5_press_7 17 rfl rfl)
theorem dX5_press_183 : decode cX5_press 183 = .ok (.aload_n 0, 1) := dk_42 (dk_at dksX5_press_7 20 rfl rfl)
theorem dX5_press_184 : decode cX5_press 184 = .ok (.getfield 195, 3) := dk_180 0 195 (dk_at dksX5_press_7 21 rfl rfl)
theorem dX5_press_187 : decode cX5_press 187 = .ok (.aload_n 0, 1) := dk_42 (dk_at dksX5_press_8 0 rfl rfl)
theorem dX5_press_188 : decode cX5_press 188 = .ok (.getfield 171, 3) := dk_180 0 171 (dk_at dksX5_press_8 1 rfl rfl)
theorem dX5_press_191 : decode cX5_press 191 = .ok (.isub, 1) := dk_100 (dk_at dksX5_press_8 4 rfl rfl)
theorem dX5_press_192 : decode cX5_press 192 = .ok (.iastore, 1) := dk_79 (dk_at dksX5_press_8 5 rfl rfl)
theorem dX5_press_193 : decode cX5_press 193 = .ok (.aload_n 0, 1) := dk_42 (dk_at dksX5_press_8 6 rfl rfl)
theorem dX5_press_194 : decode cX5_press 194 = .ok (.getfield 55, 3) := dk_180 0 55 (dk_at dksX5_press_8 7 rfl rfl)
theorem dX5_press_197 : decode cX5_press 197 = .ok (.aload_n 0, 1) := dk_42 (dk_at dksX5_press_8 10 rfl rfl)
theorem dX5_press_198 : decode cX5_press 198 = .ok (.getfield 206, 3) := dk_180 0 206 (dk_at dksX5_press_8 11 rfl rfl)
theorem dX5_press_201 : decode cX5_press 201 = .ok (.aload_n 0, 1) := dk_42 (dk_at dksX5_press_8 14 rfl rfl)
theorem dX5_press_202 : decode cX5_press 202 = .ok (.getfield 192, 3) := dk_180 0 192 (dk_at dksX5_press_8 15 rfl rfl)
theorem dX5_press_205 : decode cX5_press 205 = .ok (.iastore, 1) := dk_79 (dk_at dksX5_press_8 18 rfl rfl)
theorem dX5_press_206 : decode cX5_press 206 = .ok (.aload_n 0, 1) := dk_42 (dk_at dksX5_press_8 19 rfl rfl)
theorem dX5_press_207 : decode cX5_press 207 = .ok (.getfield 58, 3) := dk_180 0 58 (dk_at dksX5_press_8 20 rfl rfl)
theorem dX5_press_210 : decode cX5_press 210 = .ok (.aload_n 0, 1) := dk_42 (dk_at dksX5_press_8 23 rfl rfl)
theorem dX5_press_211 : decode cX5_press 211 = .ok (.getfield 206, 3) := dk_180 0 206 (dk_at dksX5_press_9 0 rfl rfl)
theorem dX5_press_214 : decode cX5_press 214 = .ok (.iconst (-1), 1) := dk_2 (dk_at dksX5_press_9 3 rfl rfl)
theorem dX5_press_215 : decode cX5_press 215 = .ok (.iastore, 1) := dk_79 (dk_at dksX5_press_9 4 rfl rfl)
theorem dX5_press_216 : decode cX5_press 216 = .ok (.aload_n 0, 1) := dk_42 (dk_at dksX5_press_9 5 rfl rfl)
theorem dX5_press_217 : decode cX5_press 217 = .ok (.getfield 61, 3) := dk_180 0 61 (dk_at dksX5_press_9 6 rfl rfl)
theorem dX5_press_220 : decode cX5_press 220 = .ok (.aload_n 0, 1) := dk_42 (dk_at dksX5_press_9 9 rfl rfl)
theorem dX5_press_221 : decode cX5_press 221 = .ok (.getfield 206, 3) := dk_180 0 206 (dk_at dksX5_press_9 10 rfl rfl)
theorem dX5_press_224 : decode cX5_press 224 = .ok (.iconst (-1), 1) := dk_2 (dk_at dksX5_press_9 13 rfl rfl)
theorem dX5_press_225 : decode cX5_press 225 = .ok (.iastore, 1) := dk_79 (dk_at dksX5_press_9 14 rfl rfl)
theorem dX5_press_226 : decode cX5_press 226 = .ok (.aload_n 0, 1) := dk_42 (dk_at dksX5_press_9 15 rfl rfl)
theorem dX5_press_227 : decode cX5_press 227 = .ok (.dup, 1) := dk_89 (dk_at dksX5_press_9 16 rfl rfl)
theorem dX5_press_228 : decode cX5_press 228 = .ok (.getfield 206, 3) := dk_180 0 206 (dk_at dksX5_press_9 17 rfl rfl)
theorem dX5_press_231 : decode cX5_press 231 = .ok (.iconst 1, 1) := dk_4 (dk_at dksX5_press_9 20 rfl rfl)
theorem dX5_press_232 : decode cX5_press 232 = .ok (.iadd, 1) := dk_96 (dk_at dksX5_press_9 21 rfl rfl)
theorem dX5_press_233 : decode cX5_press 233 = .ok (.putfield 206, 3) := dk_181 0 206 (dk_at dksX5_press_10 0 rfl rfl)
theorem dX5_press_236 : decode cX5_press 236 = .ok (.aload_n 0, 1) := dk_42 (dk_at dksX5_press_10 3 rfl rfl)
theorem dX5_press_237 : decode cX5_press 237 = .ok (.getfield 71, 3) := dk_180 0 71 (dk_at dksX5_press_10 4 rfl rfl)
theorem dX5_press_240 : decode cX5_press 240 = .ok (.iconst 0, 1) := dk_3 (dk_at dksX5_press_10 7 rfl rfl)
theorem dX5_press_241 : decode cX5_press 241 = .ok (.dup2, 1) := dk_92 (dk_at dksX5_press_10 8 rfl rfl)
theorem dX5_press_242 : decode cX5_press 242 = .ok (.laload, 1) := dk_47 (dk_at dksX5_press_10 9 rfl rfl)
theorem dX5_press_243 : decode cX5_press 243 = .ok (.aload_n 0, 1) := dk_42 (dk_at dksX5_press_10 10 rfl rfl)
theorem dX5_press_244 : decode cX5_press 244 = .ok (.getfield 186, 3) := dk_180 0 186 (dk_at dksX5_press_10 11 rfl rfl)
theorem dX5_press_247 : decode cX5_press 247 = .ok (.i2l, 1) := dk_133 (dk_at dksX5_press_10 14 rfl rfl)
theorem dX5_press_248 : decode cX5_press 248 = .ok (.ladd, 1) := dk_97 (dk_at dksX5_press_10 15 rfl rfl)
theorem dX5_press_249 : decode cX5_press 249 = .ok (.lastore, 1) := dk_80 (dk_at dksX5_press_10 16 rfl rfl)
theorem dX5_press_250 : decode cX5_press 250 = .ok (.aload_n 0, 1) := dk_42 (dk_at dksX5_press_10 17 rfl rfl)
theorem dX5_press_251 : decode cX5_press 251 = .ok (.getfield 71, 3) := dk_180 0 71 (dk_at dksX5_press_10 18 rfl rfl)
theorem dX5_press_254 : decode cX5_press 254 = .ok (.iconst 1, 1) := dk_4 (dk_at dksX5_press_10 21 rfl rfl)
theorem dX5_press_255 : decode cX5_press 255 = .ok (.dup2, 1) := dk_92 (dk_at dksX5_press_10 22 rfl rfl)
theorem dX5_press_256 : decode cX5_press 256 = .ok (.laload, 1) := dk_47 (dk_at dksX5_press_10 23 rfl rfl)
theorem dX5_press_257 : decode cX5_press 257 = .ok (.aload_n 0, 1) := dk_42 (dk_at dksX5_press_11 0 rfl rfl)
theorem dX5_press_258 : decode cX5_press 258 = .ok (.getfield 189, 3) := dk_180 0 189 (dk_at dksX5_press_11 1 rfl rfl)
theorem dX5_press_261 : decode cX5_press 261 = .ok (.i2l, 1) := dk_133 (dk_at dksX5_press_11 4 rfl rfl)
theorem dX5_press_262 : decode cX5_press 262 = .ok (.ladd, 1) := dk_97 (dk_at dksX5_press_11 5 rfl rfl)
theorem dX5_press_263 : decode cX5_press 263 = .ok (.lastore, 1) := dk_80 (dk_at dksX5_press_11 6 rfl rfl)
theorem dX5_press_264 : decode cX5_press 264 = .ok (.aload_n 0, 1) := dk_42 (dk_at dksX5_press_11 7 rfl rfl)
theorem dX5_press_265 : decode cX5_press 265 = .ok (.getfield 71, 3) := dk_180 0 71 (dk_at dksX5_press_11 8 rfl rfl)
theorem dX5_press_268 : decode cX5_press 268 = .ok (.iconst 2, 1) := dk_5 (dk_at dksX5_press_11 11 rfl rfl)
theorem dX5_press_269 : decode cX5_press 269 = .ok (.dup2, 1) := dk_92 (dk_at dksX5_press_11 12 rfl rfl)
theorem dX5_press_270 : decode cX5_press 270 = .ok (.laload, 1) := dk_47 (dk_at dksX5_press_11 13 rfl rfl)
theorem dX5_press_271 : decode cX5_press 271 = .ok (.aload_n 0, 1) := dk_42 (dk_at dksX5_press_11 14 rfl rfl)
theorem dX5_press_272 : decode cX5_press 272 = .ok (.getfield 192, 3) := dk_180 0 192 (dk_at dksX5_press_11 15 rfl rfl)
theorem dX5_press_275 : decode cX5_press 275 = .ok (.i2l, 1) := dk_133 (dk_at dksX5_press_11 18 rfl rfl)
theorem dX5_press_276 : decode cX5_press 276 = .ok (.ladd, 1) := dk_97 (dk_at dksX5_press_11 19 rfl rfl)
theorem dX5_press_277 : decode cX5_press 277 = .ok (.lastore, 1) := dk_80 (dk_at dksX5_press_11 20 rfl rfl)
theorem dX5_press_278 : decode cX5_press 278 = .ok (.aload_n 0, 1) := dk_42 (dk_at dksX5_press_11 21 rfl rfl)
theorem dX5_press_279 : decode cX5_press 279 = .ok (.getfield 71, 3) := dk_180 0 71 (dk_at dksX5_press_12 0 rfl rfl)
theorem dX5_press_282 : decode cX5_press 282 = .ok (.iconst 3, 1) := dk_6 (dk_at dksX5_press_12 3 rfl rfl)
theorem dX5_press_283 : decode cX5_press 283 = .ok (.dup2, 1) := dk_92 (dk_at dksX5_press_12 4 rfl rfl)
theorem dX5_press_284 : decode cX5_press 284 = .ok (.laload, 1) := dk_47 (dk_at dksX5_press_12 5 rfl rfl)
theorem dX5_press_285 : decode cX5_press 285 = .ok (.aload_n 0, 1) := dk_42 (dk_at dksX5_press_12 6 rfl rfl)
theorem dX5_press_286 : decode cX5_press 286 = .ok (.getfield 171, 3) := dk_180 0 171 (dk_at dksX5_press_12 7 rfl rfl)
theorem dX5_press_289 : decode cX5_press 289 = .ok (.i2l, 1) := dk_133 (dk_at dksX5_press_12 10 rfl rfl)
theorem dX5_press_290 : decode cX5_press 290 = .ok (.ladd, 1) := dk_97 (dk_at dksX5_press_12 11 rfl rfl)
theorem dX5_press_291 : decode cX5_press 291 = .ok (.lastore, 1) := dk_80 (dk_at dksX5_press_12 12 rfl rfl)
theorem dX5_press_292 : decode cX5_press 292 = .ok (.aload_n 0, 1) := dk_42 (dk_at dksX5_press_12 13 rfl rfl)
theorem dX5_press_293 : decode cX5_press 293 = .ok (.getfield 71, 3) := dk_180 0 71 (dk_at dksX5_press_12 14 rfl rfl)
theorem dX5_press_296 : decode cX5_press 296 = .ok (.iconst 4, 1) := dk_7 (dk_at dksX5_press_12 17 rfl rfl)
theorem dX5_press_297 : decode cX5_press 297 = .ok (.dup2, 1) := dk_92 (dk_at dksX5_press_12 18 rfl rfl)
theorem dX5_press_298 : decode cX5_press 298 = .ok (.laload, 1) := dk_47 (dk_at dksX5_press_12 19 rfl rfl)
theorem dX5_press_299 : decode cX5_press 299 = .ok (.aload_n 0, 1) := dk_42 (dk_at dksX5_press_12 20 rfl rfl)
theorem dX5_press_300 : decode cX5_press 300 = .ok (.getfield 195, 3) := dk_180 0 195 (dk_at dksX5_press_12 21 rfl rfl)
theorem dX5_press_303 : decode cX5_press 303 = .ok (.aload_n 0, 1) := dk_42 (dk_at dksX5_press_13 0 rfl rfl)
theorem dX5_press_304 : decode cX5_press 304 = .ok (.getfield 171, 3) := dk_180 0 171 (dk_at dksX5_press_13 1 rfl rfl)
theorem dX5_press_307 : decode cX5_press 307 = .ok (.isub, 1) := dk_100 (dk_at dksX5_press_13 4 rfl rfl)
theorem dX5_press_308 : decode cX5_press 308 = .ok (.i2l, 1) := dk_133 (dk_at dksX5_press_13 5 rfl rfl)
theorem dX5_press_309 : decode cX5_press 309 = .ok (.ladd, 1) := dk_97 (dk_at dksX5_press_13 6 rfl rfl)
theorem dX5_press_310 : decode cX5_press 310 = .ok (.lastore, 1) := dk_80 (dk_at dksX5_press_13 7 rfl rfl)
theorem dX5_press_311 : decode cX5_press 311 = .ok (.aload_n 0, 1) := dk_42 (dk_at dksX5_press_13 8 rfl rfl)
theorem dX5_press_312 : decode cX5_press 312 = .ok (.getfield 71, 3) := dk_180 0 71 (dk_at dksX5_press_13 9 rfl rfl)
theorem dX5_press_315 : decode cX5_press 315 = .ok (.iconst 5, 1) := dk_8 (dk_at dksX5_press_13 12 rfl rfl)
theorem dX5_press_316 : decode cX5_press 316 = .ok (.dup2, 1) := dk_92 (dk_at dksX5_press_13 13 rfl rfl)
theorem dX5_press_317 : decode cX5_press 317 = .ok (.laload, 1) := dk_47 (dk_at dksX5_press_13 14 rfl rfl)
theorem dX5_press_318 : decode cX5_press 318 = .ok (.aload_n 0, 1) := dk_42 (dk_at dksX5_press_13 15 rfl rfl)
theorem dX5_press_319 : decode cX5_press 319 = .ok (.getfield 183, 3) := dk_180 0 183 (dk_at dksX5_press_13 16 rfl rfl)
theorem dX5_press_322 : decode cX5_press 322 = .ok (.i2l, 1) := dk_133 (dk_at dksX5_press_13 19 rfl rfl)
theorem dX5_press_323 : decode cX5_press 323 = .ok (.ladd, 1) := dk_97 (dk_at dksX5_press_13 20 rfl rfl)
theorem dX5_press_324 : decode cX5_press 324 = .ok (.lastore, 1) := dk_80 (dk_at dksX5_press_13 21 rfl rfl)
theorem dX5_press_325 : decode cX5_press 325 = .ok (.aload_n 0, 1) := dk_42 (dk_at dksX5_press_13 22 rfl rfl)
theorem dX5_press_326 : decode cX5_press 326 = .ok (.getfield 71, 3) := dk_180 0 71 (dk_at dksX5_press_14 0 rfl rfl)
theorem dX5_press_329 : decode cX5_press 329 = .ok (.bipush 6, 2) := dk_16 6 (dk_at dksX5_press_14 3 rfl rfl)
theorem dX5_press_331 : decode cX5_press 331 = .ok (.dup2, 1) := dk_92 (dk_at dksX5_press_14 5 rfl rfl)
theorem dX5_press_332 : decode cX5_press 332 = .ok (.laload, 1) := dk_47 (dk_at dksX5_press_14 6 rfl rfl)
theorem dX5_press_333 : decode cX5_press 333 = .ok (.iload_n 2, 1) := dk_28 (dk_at dksX5_press_14 7 rfl rfl)
theorem dX5_press_334 : decode cX5_press 334 = .ok (.i2l, 1) := dk_133 (dk_at dksX5_press_14 8 rfl rfl)
theorem dX5_press_335 : decode cX5_press 335 = .ok (.ladd, 1) := dk_97 (dk_at dksX5_press_14 9 rfl rfl)
theorem dX5_press_336 : decode cX5_press 336 = .ok (.lastore, 1) := dk_80 (dk_at dksX5_press_14 10 rfl rfl)
theorem dX5_press_337 : decode cX5_press 337 = .ok (.aload_n 0, 1) := dk_42 (dk_at dksX5_press_14 11 rfl rfl)
theorem dX5_press_338 : decode cX5_press 338 = .ok (.getfield 31, 3) := dk_180 0 31 (dk_at dksX5_press_14 12 rfl rfl)
theorem dX5_press_341 : decode cX5_press 341 = .ok (.iload_n 1, 1) := dk_27 (dk_at dksX5_press_14 15 rfl rfl)
theorem dX5_press_342 : decode cX5_press 342 = .ok (.dup2, 1) := dk_92 (dk_at dksX5_press_14 16 rfl rfl)
theorem dX5_press_343 : decode cX5_press 343 = .ok (.iaload, 1) := dk_46 (dk_at dksX5_press_14 17 rfl rfl)
theorem dX5_press_344 : decode cX5_press 344 = .ok (.iconst 1, 1) := dk_4 (dk_at dksX5_press_14 18 rfl rfl)
theorem dX5_press_345 : decode cX5_press 345 = .ok (.iadd, 1) := dk_96 (dk_at dksX5_press_14 19 rfl rfl)
theorem dX5_press_346 : decode cX5_press 346 = .ok (.iastore, 1) := dk_79 (dk_at dksX5_press_14 20 rfl rfl)
theorem dX5_press_347 : decode cX5_press 347 = .ok (.aload_n 0, 1) := dk_42 (dk_at dksX5_press_14 21 rfl rfl)
theorem dX5_press_348 : decode cX5_press 348 = .ok (.getfield 34, 3) := dk_180 0 34 (dk_at dksX5_press_15 0 rfl rfl)
theorem dX5_press_351 : decode cX5_press 351 = .ok (.iload_n 1, 1) := dk_27 (dk_at dksX5_press_15 3 rfl rfl)
theorem dX5_press_352 : decode cX5_press 352 = .ok (.dup2, 1) := dk_92 (dk_at dksX5_press_15 4 rfl rfl)
theorem dX5_press_353 : decode cX5_press 353 = .ok (.iaload, 1) := dk_46 (dk_at dksX5_press_15 5 rfl rfl)
theorem dX5_press_354 : decode cX5_press 354 = .ok (.iconst 1, 1) := dk_4 (dk_at dksX5_press_15 6 rfl rfl)
theorem dX5_press_355 : decode cX5_press 355 = .ok (.iadd, 1) := dk_96 (dk_at dksX5_press_15 7 rfl rfl)
theorem dX5_press_356 : decode cX5_press 356 = .ok (.iastore, 1) := dk_79 (dk_at dksX5_press_15 8 rfl rfl)
theorem dX5_press_357 : decode cX5_press 357 = .ok (.aload_n 0, 1) := dk_42 (dk_at dksX5_press_15 9 rfl rfl)
theorem dX5_press_358 : decode cX5_press 358 = .ok (.iload_n 1, 1) := dk_27 (dk_at dksX5_press_15 10 rfl rfl)
theorem dX5_press_359 : decode cX5_press 359 = .ok (.putfield 64, 3) := dk_181 0 64 (dk_at dksX5_press_15 11 rfl rfl)
theorem dX5_press_362 : decode cX5_press 362 = .ok (.aload_n 0, 1) := dk_42 (dk_at dksX5_press_15 14 rfl rfl)
theorem dX5_press_363 : decode cX5_press 363 = .ok (.aload_n 0, 1) := dk_42 (dk_at dksX5_press_15 15 rfl rfl)
theorem dX5_press_364 : decode cX5_press 364 = .ok (.getfield 159, 3) := dk_180 0 159 (dk_at dksX5_press_15 16 rfl rfl)
theorem dX5_press_367 : decode cX5_press 367 = .ok (.putfield 68, 3) := dk_181 0 68 (dk_at dksX5_press_15 19 rfl rfl)
theorem dX5_press_370 : decode cX5_press 370 = .ok (.aload_n 0, 1) := dk_42 (dk_at dksX5_press_15 22 rfl rfl)
theorem dX5_press_371 : decode cX5_press 371 = .ok (.dup, 1) := dk_89 (dk_at dksX5_press_15 23 rfl rfl)
theorem dX5_press_372 : decode cX5_press 372 = .ok (.getfield 159, 3) := dk_180 0 159 (dk_at dksX5_press_16 0 rfl rfl)
theorem dX5_press_375 : decode cX5_press 375 = .ok (.iconst 1, 1) := dk_4 (dk_at dksX5_press_16 3 rfl rfl)
theorem dX5_press_376 : decode cX5_press 376 = .ok (.iadd, 1) := dk_96 (dk_at dksX5_press_16 4 rfl rfl)
theorem dX5_press_377 : decode cX5_press 377 = .ok (.putfield 159, 3) := dk_181 0 159 (dk_at dksX5_press_16 5 rfl rfl)
theorem dX5_press_380 : decode cX5_press 380 = .ok (.aload_n 0, 1) := dk_42 (dk_at dksX5_press_16 8 rfl rfl)
theorem dX5_press_381 : decode cX5_press 381 = .ok (.getfield 171, 3) := dk_180 0 171 (dk_at dksX5_press_16 9 rfl rfl)
theorem dX5_press_384 : decode cX5_press 384 = .ok (.ireturn, 1) := dk_172 (dk_at dksX5_press_16 12 rfl rfl)
abbrev cX5_findBar : ByteArray := prog_11_method_19_code
def yX5_findBar : MethodName := ⟨RX5, "findBar", "(IIZ)V"⟩
def dkwX5_findBar_8 : List UInt8 := [180, 0, 195, 182, 0, 198, 177]
abbrev dktX5_findBar_8 : List UInt8 := dkwX5_findBar_8 ++ []
def dkwX5_findBar_7 : List UInt8 := [6, 46, 167, 0, 5, 21, 5, 181, 0, 192, 42, 21, 5, 42, 180, 0, 192, 100, 181, 0, 195, 42, 27, 42]
abbrev dktX5_findBar_7 : List UInt8 := dkwX5_findBar_7 ++ dktX5_findBar_8
def dkwX5_findBar_6 : List UInt8 := [42, 29, 154, 0, 7, 3, 167, 0, 25, 42, 180, 0, 7, 6, 46, 21, 5, 162, 0, 12, 42, 180, 0, 7]
abbrev dktX5_findBar_6 : List UInt8 := dkwX5_findBar_6 ++ dktX5_findBar_7
def dkwX5_findBar_5 : List UInt8 := [42, 180, 0, 186, 100, 181, 0, 189, 42, 180, 0, 183, 42, 180, 0, 186, 100, 42, 180, 0, 189, 100, 54, 5]
abbrev dktX5_findBar_5 : List UInt8 := dkwX5_findBar_5 ++ dktX5_findBar_6
def dkwX5_findBar_4 : List UInt8 := [180, 0, 183, 42, 180, 0, 186, 100, 162, 0, 12, 42, 180, 0, 7, 5, 46, 167, 0, 12, 42, 180, 0, 183]
abbrev dktX5_findBar_4 : List UInt8 := dkwX5_findBar_4 ++ dktX5_findBar_5
def dkwX5_findBar_3 : List UInt8 := [180, 0, 7, 4, 46, 167, 0, 7, 42, 180, 0, 183, 181, 0, 186, 42, 42, 180, 0, 7, 5, 46, 42]
abbrev dktX5_findBar_3 : List UInt8 := dkwX5_findBar_3 ++ dktX5_findBar_4
def dkwX5_findBar_2 : List UInt8 := [20, 0, 181, 109, 136, 181, 0, 183, 42, 42, 180, 0, 7, 4, 46, 42, 180, 0, 183, 162, 0, 12, 42]
abbrev dktX5_findBar_2 : List UInt8 := dkwX5_findBar_2 ++ dktX5_findBar_3
def dkwX5_findBar_1 : List UInt8 := [42, 21, 4, 133, 42, 180, 0, 16, 27, 46, 133, 105, 17, 3, 232, 42, 180, 0, 7, 8, 46, 96, 133, 105]
abbrev dktX5_findBar_1 : List UInt8 := dkwX5_findBar_1 ++ dktX5_findBar_2
def dkwX5_findBar_0 : List UInt8 := [28, 42, 180, 0, 7, 3, 46, 164, 0, 14, 28, 42, 180, 0, 7, 3, 46, 100, 167, 0, 4, 3, 54, 4]
abbrev dktX5_findBar_0 : List UInt8 := dkwX5_findBar_0 ++ dktX5_findBar_1
theorem dksX5_findBar_0 : cX5_findBar.data.toList.drop 0 = dktX5_findBar_0 := by decide +kernel
theorem dksX5_findBar_1 : cX5_findBar.data.toList.drop 24 = dktX5_findBar_1 := dk_seg dksX5_findBar_0 24 rfl rfl
theorem dksX5_findBar_2 : cX5_findBar.data.toList.drop 48 = dktX5_findBar_2 := dk_seg dksX5_findBar_1 24 rfl rfl
theorem dksX5_findBar_3 : cX5_findBar.data.toList.drop 71 = dktX5_findBar_3 := dk_seg dksX5_findBar_2 23 rfl rfl
theorem dksX5_findBar_4 : cX5_findBar.data.toList.drop 94 = dktX5_findBar_4 := dk_seg dksX5_findBar_3 23 rfl rfl
theorem dksX5_findBar_5 : cX5_findBar.data.toList.drop 118 = dktX5_findBar_5 := dk_seg dksX5_findBar_4 24 rfl rfl
theorem dksX5_findBar_6 : cX5_findBar.data.toList.drop 142 = dktX5_findBar_6 := dk_seg dksX5_findBar_5 24 rfl rfl
theorem dksX5_findBar_7 : cX5_findBar.data.toList.drop 166 = dktX5_findBar_7 := dk_seg dksX5_findBar_6 24 rfl rfl
theorem dksX5_findBar_8 : cX5_findBar.data.toList.drop 190 = dktX5_findBar_8 := dk_seg dksX5_findBar_7 24 rfl rfl
theorem dX5_findBar_0 : decode cX5_findBar 0 = .ok (.iload_n 2, 1) := dk_28 (dk_at dksX5_findBar_0 0 rfl rfl)
theorem dX5_findBar_1 : decode cX5_findBar 1 = .ok (.aload_n 0, 1) := dk_42 (dk_at dksX5_findBar_0 1 rfl rfl)
theorem dX5_findBar_2 : decode cX5_findBar 2 = .ok (.getfield 7, 3) := dk_180 0 7 (dk_at dksX5_findBar_0 2 rfl rfl)
theorem dX5_findBar_5 : decode cX5_findBar 5 = .ok (.iconst 0, 1) := dk_3 (dk_at dksX5_findBar_0 5 rfl rfl)
theorem dX5_findBar_6 : decode cX5_findBar 6 = .ok (.iaload, 1) := dk_46 (dk_at dksX5_findBar_0 6 rfl rfl)
theorem dX5_findBar_7 : decode cX5_findBar 7 = .ok (.if_icmp .le 14, 3) := dk_164 0 14 (dk_at dksX5_findBar_0 7 rfl rfl)
theorem dX5_findBar_10 : decode cX5_findBar 10 = .ok (.iload_n 2, 1) := dk_28 (dk_at dksX5_findBar_0 10 rfl rfl)
theorem dX5_findBar_11 : decode cX5_findBar 11 = .ok (.aload_n 0, 1) := dk_42 (dk_at dksX5_findBar_0 11 rfl rfl)
theorem dX5_findBar_12 : decode cX5_findBar 12 = .ok (.getfield 7, 3) := dk_180 0 7 (dk_at dksX5_findBar_0 12 rfl rfl)
theorem dX5_findBar_15 : decode cX5_findBar 15 = .ok (.iconst 0, 1) := dk_3 (dk_at dksX5_findBar_0 15 rfl rfl)
theorem dX5_findBar_16 : decode cX5_findBar 16 = .ok (.iaload, 1) := dk_46 (dk_at dksX5_findBar_0 16 rfl rfl)
theorem dX5_findBar_17 : decode cX5_findBar 17 = .ok (.isub, 1) := dk_100 (dk_at dksX5_findBar_0 17 rfl rfl)
theorem dX5_findBar_18 : decode cX5_findBar 18 = .ok (.goto 4, 3) := dk_167 0 4 (dk_at dksX5_findBar_0 18 rfl rfl)
theorem dX5_findBar_21 : decode cX5_findBar 21 = .ok (.iconst 0, 1) := dk_3 (dk_at dksX5_findBar_0 21 rfl rfl)
theorem dX5_findBar_22 : decode cX5_findBar 22 = .ok (.istore 4, 2) := dk_54 4 (dk_at dksX5_findBar_0 22 rfl rfl)
theorem dX5_findBar_24 : decode cX5_findBar 24 = .ok (.aload_n 0, 1) := dk_42 (dk_at dksX5_findBar_1 0 rfl rfl)
theorem dX5_findBar_25 : decode cX5_findBar 25 = .ok (.iload 4, 2) := dk_21 4 (dk_at dksX5_findBar_1 1 rfl rfl)
theorem dX5_findBar_27 : decode cX5_findBar 27 = .ok (.i2l, 1) := dk_133 (dk_at dksX5_findBar_1 3 rfl rfl)
theorem dX5_findBar_28 : decode cX5_findBar 28 = .ok (.aload_n 0, 1) := dk_42 (dk_at dksX5_findBar_1 4 rfl rfl)
theorem dX5_findBar_29 : decode cX5_findBar 29 = .ok (.getfield 16, 3) := dk_180 0 16 (dk_at dksX5_findBar_1 5 rfl rfl)
theorem dX5_findBar_32 : decode cX5_findBar 32 = .ok (.iload_n 1, 1) := dk_27 (dk_at dksX5_findBar_1 8 rfl rfl)
theorem dX5_findBar_33 : decode cX5_findBar 33 = .ok (.iaload, 1) := dk_46 (dk_at dksX5_findBar_1 9 rfl rfl)
theorem dX5_findBar_34 : decode cX5_findBar 34 = .ok (.i2l, 1) := dk_133 (dk_at dksX5_findBar_1 10 rfl rfl)
theorem dX5_findBar_35 : decode cX5_findBar 35 = .ok (.lmul, 1) := dk_105 (dk_at dksX5_findBar_1 11 rfl rfl)
theorem dX5_findBar_36 : decode cX5_findBar 36 = .ok (.sipush 1000, 3) := dk_17 3 232 (dk_at dksX5_findBar_1 12 rfl rfl)
theorem dX5_findBar_39 : decode cX5_findBar 39 = .ok (.aload_n 0, 1) := dk_42 (dk_at dksX5_findBar_1 15 rfl rfl)
theorem dX5_findBar_40 : decode cX5_findBar 40 = .ok (.getfield 7, 3) := dk_180 0 7 (dk_at dksX5_findBar_1 16 rfl rfl)
theorem dX5_findBar_43 : decode cX5_findBar 43 = .ok (.iconst 5, 1) := dk_8 (dk_at dksX5_findBar_1 19 rfl rfl)
theorem dX5_findBar_44 : decode cX5_findBar 44 = .ok (.iaload, 1) := dk_46 (dk_at dksX5_findBar_1 20 rfl rfl)
theorem dX5_findBar_45 : decode cX5_findBar 45 = .ok (.iadd, 1) := dk_96 (dk_at dksX5_findBar_1 21 rfl rfl)
theorem dX5_findBar_46 : decode cX5_findBar 46 = .ok (.i2l, 1) := dk_133 (dk_at dksX5_findBar_1 22 rfl rfl)
theorem dX5_findBar_47 : decode cX5_findBar 47 = .ok (.lmul, 1) := dk_105 (dk_at dksX5_findBar_1 23 rfl rfl)
theorem dX5_findBar_48 : decode cX5_findBar 48 = .ok (.ldc2_w 181, 3) := dk_20 0 181 (dk_at dksX5_findBar_2 0 rfl rfl)
theorem dX5_findBar_51 : decode cX5_findBar 51 = .ok (.ldiv, 1) := dk_109 (dk_at dksX5_findBar_2 3 rfl rfl)
theorem dX5_findBar_52 : decode cX5_findBar 52 = .ok (.l2i, 1) := dk_136 (dk_at dksX5_findBar_2 4 rfl rfl)
theorem dX5_findBar_53 : decode cX5_findBar 53 = .ok (.putfield 183, 3) := dk_181 0 183 (dk_at dksX5_findBar_2 5 rfl rfl)
theorem dX5_findBar_56 : decode cX5_findBar 56 = .ok (.aload_n 0, 1) := dk_42 (dk_at dksX5_findBar_2 8 rfl rfl)
theorem dX5_findBar_57 : decode cX5_findBar 57 = .ok (.aload_n 0, 1) := dk_42 (dk_at dksX5_findBar_2 9 rfl rfl)
theorem dX5_findBar_58 : decode cX5_findBar 58 = .ok (.getfield 7, 3) := dk_180 0 7 (dk_at dksX5_findBar_2 10 rfl rfl)
theorem dX5_findBar_61 : decode cX5_findBar 61 = .ok (.iconst 1, 1) := dk_4 (dk_at dksX5_findBar_2 13 rfl rfl)
theorem dX5_findBar_62 : decode cX5_findBar 62 = .ok (.iaload, 1) := dk_46 (dk_at dksX5_findBar_2 14 rfl rfl)
theorem dX5_findBar_63 : decode cX5_findBar 63 = .ok (.aload_n 0, 1) := dk_42 (dk_at dksX5_findBar_2 15 rfl rfl)
theorem dX5_findBar_64 : decode cX5_findBar 64 = .ok (.getfield 183, 3) := dk_180 0 183 (dk_at dksX5_findBar_2 16 rfl rfl)
theorem dX5_findBar_67 : decode cX5_findBar 67 = .ok (.if_icmp .ge 12, 3) := dk_162 0 12 (dk_at dksX5_findBar_2 19 rfl rfl)
theorem dX5_findBar_70 : decode cX5_findBar 70 = .ok (.aload_n 0, 1) := dk_42 (dk_at dksX5_findBar_2 22 rfl rfl)
theorem dX5_findBar_71 : decode cX5_findBar 71 = .ok (.getfield 7, 3) := dk_180 0 7 (dk_at dksX5_findBar_3 0 rfl rfl)
theorem dX5_findBar_74 : decode cX5_findBar 74 = .ok (.iconst 1, 1) := dk_4 (dk_at dksX5_findBar_3 3 rfl rfl)
theorem dX5_findBar_75 : decode cX5_findBar 75 = .ok (.iaload, 1) := dk_46 (dk_at dksX5_findBar_3 4 rfl rfl)
theorem dX5_findBar_76 : decode cX5_findBar 76 = .ok (.goto 7, 3) := dk_167 0 7 (dk_at dksX5_findBar_3 5 rfl rfl)
theorem dX5_findBar_79 : decode cX5_findBar 79 = .ok (.aload_n 0, 1) := dk_42 (dk_at dksX5_findBar_3 8 rfl rfl)
theorem dX5_findBar_80 : decode cX5_findBar 80 = .ok (.getfield 183, 3) := dk_180 0 183 (dk_at dksX5_findBar_3 9 rfl rfl)
theorem dX5_findBar_83 : decode cX5_findBar 83 = .ok (.putfield 186, 3) := dk_181 0 186 (dk_at dksX5_findBar_3 12 rfl rfl)
theorem dX5_findBar_86 : decode cX5_findBar 86 = .ok (.aload_n 0, 1) := dk_42 (dk_at dksX5_findBar_3 15 rfl rfl)
theorem dX5_findBar_87 : decode cX5_findBar 87 = .ok (.aload_n 0, 1) := dk_42 (dk_at dksX5_findBar_3 16 rfl rfl)
theorem dX5_findBar_88 : decode cX5_findBar 88 = .ok (.getfield 7, 3) := dk_180 0 7 (dk_at dksX5_findBar_3 17 rfl rfl)
theorem dX5_findBar_91 : decode cX5_findBar 91 = .ok (.iconst 2, 1) := dk_5 (dk_at dksX5_findBar_3 20 rfl rfl)
theorem dX5_findBar_92 : decode cX5_findBar 92 = .ok (.iaload, 1) := dk_46 (dk_at dksX5_findBar_3 21 rfl rfl)
theorem dX5_findBar_93 : decode cX5_findBar 93 = .ok (.aload_n 0, 1) := dk_42 (dk_at dksX5_findBar_3 22 rfl rfl)
theorem dX5_findBar_94 : decode cX5_findBar 94 = .ok (.getfield 183, 3) := dk_180 0 183 (dk_at dksX5_findBar_4 0 rfl rfl)
theorem dX5_findBar_97 : decode cX5_findBar 97 = .ok (.aload_n 0, 1) := dk_42 (dk_at dksX5_findBar_4 3 rfl rfl)
theorem dX5_findBar_98 : decode cX5_findBar 98 = .ok (.getfield 186, 3) := dk_180 0 186 (dk_at dksX5_findBar_4 4 rfl rfl)
theorem dX5_findBar_101 : decode cX5_findBar 101 = .ok (.isub, 1) := dk_100 (dk_at dksX5_findBar_4 7 rfl rfl)
theorem dX5_findBar_102 : decode cX5_findBar 102 = .ok (.if_icmp .ge 12, 3) := dk_162 0 12 (dk_at dksX5_findBar_4 8 rfl rfl)
theorem dX5_findBar_105 : decode cX5_findBar 105 = .ok (.aload_n 0, 1) := dk_42 (dk_at dksX5_findBar_4 11 rfl rfl)
theorem dX5_findBar_106 : decode cX5_findBar 106 = .ok (.getfield 7, 3) := dk_180 0 7 (dk_at dksX5_findBar_4 12 rfl rfl)
theorem dX5_findBar_109 : decode cX5_findBar 109 = .ok (.iconst 2, 1) := dk_5 (dk_at dksX5_findBar_4 15 rfl rfl)
theorem dX5_findBar_110 : decode cX5_findBar 110 = .ok (.iaload, 1) := dk_46 (dk_at dksX5_findBar_4 16 rfl rfl)
theorem dX5_findBar_111 : decode cX5_findBar 111 = .ok (.goto 12, 3) := dk_167 0 12 (dk_at dksX5_findBar_4 17 rfl rfl)
theorem dX5_findBar_114 : decode cX5_findBar 114 = .ok (.aload_n 0, 1) := dk_42 (dk_at dksX5_findBar_4 20 rfl rfl)
theorem dX5_findBar_115 : decode cX5_findBar 115 = .ok (.getfield 183, 3) := dk_180 0 183 (dk_at dksX5_findBar_4 21 rfl rfl)
theorem dX5_findBar_118 : decode cX5_findBar 118 = .ok (.aload_n 0, 1) := dk_42 (dk_at dksX5_findBar_5 0 rfl rfl)
theorem dX5_findBar_119 : decode cX5_findBar 119 = .ok (.getfield 186, 3) := dk_180 0 186 (dk_at dksX5_findBar_5 1 rfl rfl)
theorem dX5_findBar_122 : decode cX5_findBar 122 = .ok (.isub, 1) := dk_100 (dk_at dksX5_findBar_5 4 rfl rfl)
theorem dX5_findBar_123 : decode cX5_findBar 123 = .ok (.putfield 189, 3) := dk_181 0 189 (dk_at dksX5_findBar_5 5 rfl rfl)
theorem dX5_findBar_126 : decode cX5_findBar 126 = .ok (.aload_n 0, 1) := dk_42 (dk_at dksX5_findBar_5 8 rfl rfl)
theorem dX5_findBar_127 : decode cX5_findBar 127 = .ok (.getfield 183, 3) := dk_180 0 183 (dk_at dksX5_findBar_5 9 rfl rfl)
theorem dX5_findBar_130 : decode cX5_findBar 130 = .ok (.aload_n 0, 1) := dk_42 (dk_at dksX5_findBar_5 12 rfl rfl)
theorem dX5_findBar_131 : decode cX5_findBar 131 = .ok (.getfield 186, 3) := dk_180 0 186 (dk_at dksX5_findBar_5 13 rfl rfl)
theorem dX5_findBar_134 : decode cX5_findBar 134 = .ok (.isub, 1) := dk_100 (dk_at dksX5_findBar_5 16 rfl rfl)
theorem dX5_findBar_135 : decode cX5_findBar 135 = .ok (.aload_n 0, 1) := dk_42 (dk_at dksX5_findBar_5 17 rfl rfl)
theorem dX5_findBar_136 : decode cX5_findBar 136 = .ok (.getfield 189, 3) := dk_180 0 189 (dk_at dksX5_findBar_5 18 rfl rfl)
theorem dX5_findBar_139 : decode cX5_findBar 139 = .ok (.isub, 1) := dk_100 (dk_at dksX5_findBar_5 21 rfl rfl)
theorem dX5_findBar_140 : decode cX5_findBar 140 = .ok (.istore 5, 2) := dk_54 5 (dk_at dksX5_findBar_5 22 rfl rfl)
theorem dX5_findBar_142 : decode cX5_findBar 142 = .ok (.aload_n 0, 1) := dk_42 (dk_at dksX5_findBar_6 0 rfl rfl)
theorem dX5_findBar_143 : decode cX5_findBar 143 = .ok (.iload_n 3, 1) := dk_29 (dk_at dksX5_findBar_6 1 rfl rfl)
theorem dX5_findBar_144 : decode cX5_findBar 144 = .ok (.ifCond .ne 7, 3) := dk_154 0 7 (dk_at dksX5_findBar_6 2 rfl rfl)
theorem dX5_findBar_147 : decode cX5_findBar 147 = .ok (.iconst 0, 1) := dk_3 (dk_at dksX5_findBar_6 5 rfl rfl)
theorem dX5_findBar_148 : decode cX5_findBar 148 = .ok (.goto 25, 3) := dk_167 0 25 (dk_at dksX5_findBar_6 6 rfl rfl)
theorem dX5_findBar_151 : decode cX5_findBar 151 = .ok (.aload_n 0, 1) := dk_42 (dk_at dksX5_findBar_6 9 rfl rfl)
theorem dX5_findBar_152 : decode cX5_findBar 152 = .ok (.getfield 7, 3) := dk_180 0 7 (dk_at dksX5_findBar_6 10 rfl rfl)
theorem dX5_findBar_155 : decode cX5_findBar 155 = .ok (.iconst 3, 1) := dk_6 (dk_at dksX5_findBar_6 13 rfl rfl)
theorem dX5_findBar_156 : decode cX5_findBar 156 = .ok (.iaload, 1) := dk_46 (dk_at dksX5_findBar_6 14 rfl rfl)
theorem dX5_findBar_157 : decode cX5_findBar 157 = .ok (.iload 5, 2) := dk_21 5 (dk_at dksX5_findBar_6 15 rfl rfl)
theorem dX5_findBar_159 : decode cX5_findBar 159 = .ok (.if_icmp .ge 12, 3) := dk_162 0 12 (dk_at dksX5_findBar_6 17 rfl rfl)
theorem dX5_findBar_162 : decode cX5_findBar 162 = .ok (.aload_n 0, 1) := dk_42 (dk_at dksX5_findBar_6 20 rfl rfl)
theorem dX5_findBar_163 : decode cX5_findBar 163 = .ok (.getfield 7, 3) := dk_180 0 7 (dk_at dksX5_findBar_6 21 rfl rfl)
theorem dX5_findBar_166 : decode cX5_findBar 166 = .ok (.iconst 3, 1) := dk_6 (dk_at dksX5_findBar_7 0 rfl rfl)
theorem dX5_findBar_167 : decode cX5_findBar 167 = .ok (.iaload, 1) := dk_46 (dk_at dksX5_findBar_7 1 rfl rfl)
theorem dX5_findBar_168 : decode cX5_findBar 168 = .ok (.goto 5, 3) := dk_167 0 5 (dk_at dksX5_findBar_7 2 rfl rfl)
theorem dX5_findBar_171 : decode cX5_findBar 171 = .ok (.iload 5, 2) := dk_21 5 (dk_at dksX5_findBar_7 5 rfl rfl)
theorem dX5_findBar_173 : decode cX5_findBar 173 = .ok (.putfield 192, 3) := dk_181 0 192 (dk_at dksX5_findBar_7 7 rfl rfl)
theorem dX5_findBar_176 : decode cX5_findBar 176 = .ok (.aload_n 0, 1) := dk_42 (dk_at dksX5_findBar_7 10 rfl rfl)
theorem dX5_findBar_177 : decode cX5_findBar 177 = .ok (.iload 5, 2) := dk_21 5 (dk_at dksX5_findBar_7 11 rfl rfl)
theorem dX5_findBar_179 : decode cX5_findBar 179 = .ok (.aload_n 0, 1) := dk_42 (dk_at dksX5_findBar_7 13 rfl rfl)
theorem dX5_findBar_180 : decode cX5_findBar 180 = .ok (.getfield 192, 3) := dk_180 0 192 (dk_at dksX5_findBar_7 14 rfl rfl)
theorem dX5_findBar_183 : decode cX5_findBar 183 = .ok (.isub, 1) := dk_100 (dk_at dksX5_findBar_7 17 rfl rfl)
theorem dX5_findBar_184 : decode cX5_findBar 184 = .ok (.putfield 195, 3) := dk_181 0 195 (dk_at dksX5_findBar_7 18 rfl rfl)
theorem dX5_findBar_187 : decode cX5_findBar 187 = .ok (.aload_n 0, 1) := dk_42 (dk_at dksX5_findBar_7 21 rfl rfl)
theorem dX5_findBar_188 : decode cX5_findBar 188 = .ok (.iload_n 1, 1) := dk_27 (dk_at dksX5_findBar_7 22 rfl rfl)
theorem dX5_findBar_189 : decode cX5_findBar 189 = .ok (.aload_n 0, 1) := dk_42 (dk_at dksX5_findBar_7 23 rfl rfl)
theorem dX5_findBar_190 : decode cX5_findBar 190 = .ok (.getfield 195, 3) := dk_180 0 195 (dk_at dksX5_findBar_8 0 rfl rfl)
theorem dX5_findBar_193 : decode cX5_findBar 193 = .ok (.invokevirtual 198, 3) := dk_182 0 198 (dk_at dksX5_findBar_8 3 rfl rfl)
theorem dX5_findBar_196 : decode cX5_findBar 196 = .ok (.return_, 1) := dk_177 (dk_at dksX5_findBar_8 6 rfl rfl)
abbrev cX5_findPattern : ByteArray := prog_11_method_17_code
def yX5_findPattern : MethodName := ⟨RX5, "findPattern", "(II)V"⟩
def dkwX5_findPattern_10 : List UInt8 := [42, 180, 0, 84, 5, 21, 8, 79, 132, 6, 255, 167, 255, 48, 132, 5, 255, 167, 255, 29, 177]
abbrev dktX5_findPattern_10 : List UInt8 := dkwX5_findPattern_10 ++ []
def dkwX5_findPattern_9 : List UInt8 := [21, 6, 96, 21, 8, 96, 54, 4, 42, 180, 0, 84, 3, 21, 5, 79, 42, 180, 0, 84, 4, 21, 6, 79]
abbrev dktX5_findPattern_9 : List UInt8 := dkwX5_findPattern_9 ++ dktX5_findPattern_10
def dkwX5_findPattern_8 : List UInt8 := [160, 0, 56, 21, 5, 21, 6, 96, 21, 8, 96, 21, 4, 162, 0, 43, 42, 21, 9, 181, 0, 171, 21, 5]
abbrev dktX5_findPattern_8 : List UInt8 := dkwX5_findPattern_8 ++ dktX5_findPattern_9
def dkwX5_findPattern_7 : List UInt8 := [27, 5, 182, 0, 178, 104, 96, 54, 9, 21, 9, 42, 180, 0, 171, 163, 0, 25, 21, 9, 42, 180, 0, 171]
abbrev dktX5_findPattern_7 : List UInt8 := dkwX5_findPattern_7 ++ dktX5_findPattern_8
def dkwX5_findPattern_6 : List UInt8 := [54, 8, 21, 5, 42, 27, 3, 182, 0, 178, 104, 21, 6, 42, 27, 4, 182, 0, 178, 104, 96, 21, 8, 42]
abbrev dktX5_findPattern_6 : List UInt8 := dkwX5_findPattern_6 ++ dktX5_findPattern_7
def dkwX5_findPattern_5 : List UInt8 := [54, 8, 21, 8, 42, 27, 5, 182, 0, 174, 164, 0, 12, 42, 27, 5, 182, 0, 174, 167, 0, 5, 21, 8]
abbrev dktX5_findPattern_5 : List UInt8 := dkwX5_findPattern_5 ++ dktX5_findPattern_6
def dkwX5_findPattern_4 : List UInt8 := [162, 0, 7, 3, 167, 0, 19, 21, 7, 42, 27, 5, 182, 0, 178, 42, 180, 0, 7, 7, 46, 96, 108]
abbrev dktX5_findPattern_4 : List UInt8 := dkwX5_findPattern_4 ++ dktX5_findPattern_5
def dkwX5_findPattern_3 : List UInt8 := [180, 0, 7, 7, 46, 96, 104, 100, 54, 7, 21, 7, 155, 0, 161, 42, 180, 0, 75, 27, 46, 6]
abbrev dktX5_findPattern_3 : List UInt8 := dkwX5_findPattern_3 ++ dktX5_findPattern_4
def dkwX5_findPattern_2 : List UInt8 := [27, 3, 182, 0, 178, 42, 180, 0, 7, 7, 46, 96, 104, 100, 21, 6, 42, 27, 4, 182, 0, 178, 42]
abbrev dktX5_findPattern_2 : List UInt8 := dkwX5_findPattern_2 ++ dktX5_findPattern_3
def dkwX5_findPattern_1 : List UInt8 := [54, 5, 21, 5, 155, 0, 228, 42, 27, 4, 182, 0, 174, 54, 6, 21, 6, 155, 0, 209, 29, 21, 5, 42]
abbrev dktX5_findPattern_1 : List UInt8 := dkwX5_findPattern_1 ++ dktX5_findPattern_2
def dkwX5_findPattern_0 : List UInt8 := [28, 42, 180, 0, 7, 7, 46, 96, 62, 42, 2, 181, 0, 171, 3, 54, 4, 42, 27, 3, 182, 0, 174]
abbrev dktX5_findPattern_0 : List UInt8 := dkwX5_findPattern_0 ++ dktX5_findPattern_1
theorem dksX5_findPattern_0 : cX5_findPattern.data.toList.drop 0 = dktX5_findPattern_0 := by decide +kernel
theorem dksX5_findPattern_1 : cX5_findPattern.data.toList.drop 23 = dktX5_findPattern_1 := dk_seg dksX5_findPattern_0 23 rfl rfl
theorem dksX5_findPattern_2 : cX5_findPattern.data.toList.drop 47 = dktX5_findPattern_2 := dk_seg dksX5_findPattern_1 24 rfl rfl
theorem dksX5_findPattern_3 : cX5_findPattern.data.toList.drop 70 = dktX5_findPattern_3 := dk_seg dksX5_findPattern_2 23 rfl rfl
theorem dksX5_findPattern_4 : cX5_findPattern.data.toList.drop 92 = dktX5_findPattern_4 := dk_seg dksX5_findPattern_3 22 rfl rfl
theorem dksX5_findPattern_5 : cX5_findPattern.data.toList.drop 115 = dktX5_findPattern_5 := dk_seg dksX5_findPattern_4 23 rfl rfl
theorem dksX5_findPattern_6 : cX5_findPattern.data.toList.drop 139 = dktX5_findPattern_6 := dk_seg dksX5_findPattern_5 24 rfl rfl
theorem dksX5_findPattern_7 : cX5_findPattern.data.toList.drop 163 = dktX5_findPattern_7 := dk_seg dksX5_findPattern_6 24 rfl rfl
theorem dksX5_findPattern_8 : cX5_findPattern.data.toList.drop 187 = dktX5_findPattern_8 := dk_seg dksX5_findPattern_7 24 rfl rfl
theorem dksX5_findPattern_9 : cX5_findPattern.data.toList.drop 211 = dktX5_findPattern_9 := dk_seg dksX5_findPattern_8 24 rfl rfl
theorem dksX5_findPattern_10 : cX5_findPattern.data.toList.drop 235 = dktX5_findPattern_10 := dk_seg dksX5_findPattern_9 24 rfl rfl
theorem dX5_findPattern_0 : decode cX5_findPattern 0 = .ok (.iload_n 2, 1) := dk_28 (dk_at dksX5_findPattern_0 0 rfl rfl)
theorem dX5_findPattern_1 : decode cX5_findPattern 1 = .ok (.aload_n 0, 1) := dk_42 (dk_at dksX5_findPattern_0 1 rfl rfl)
theorem dX5_findPattern_2 : decode cX5_findPattern 2 = .ok (.getfield 7, 3) := dk_180 0 7 (dk_at dksX5_findPattern_0 2 rfl rfl)
theorem dX5_findPattern_5 : decode cX5_findPattern 5 = .ok (.iconst 4, 1) := dk_7 (dk_at dksX5_findPattern_0 5 rfl rfl)
theorem dX5_findPattern_6 : decode cX5_findPattern 6 = .ok (.iaload, 1) := dk_46 (dk_at dksX5_findPattern_0 6 rfl rfl)
theorem dX5_findPattern_7 : decode cX5_findPattern 7 = .ok (.iadd, 1) := dk_96 (dk_at dksX5_findPattern_0 7 rfl rfl)
theorem dX5_findPattern_8 : decode cX5_findPattern 8 = .ok (.istore_n 3, 1) := dk_62 (dk_at dksX5_findPattern_0 8 rfl rfl)
theorem dX5_findPattern_9 : decode cX5_findPattern 9 = .ok (.aload_n 0, 1) := dk_42 (dk_at dksX5_findPattern_0 9 rfl rfl)
theorem dX5_findPattern_10 : decode cX5_findPattern 10 = .ok (.iconst (-1), 1) := dk_2 (dk_at dksX5_findPattern_0 10 rfl rfl)
theorem dX5_findPattern_11 : decode cX5_findPattern 11 = .ok (.putfield 171, 3) := dk_181 0 171 (dk_at dksX5_findPattern_0 11 rfl rfl)
theorem dX5_findPattern_14 : decode cX5_findPattern 14 = .ok (.iconst 0, 1) := dk_3 (dk_at dksX5_findPattern_0 14 rfl rfl)
theorem dX5_findPattern_15 : decode cX5_findPattern 15 = .ok (.istore 4, 2) := dk_54 4 (dk_at dksX5_findPattern_0 15 rfl rfl)
theorem dX5_findPattern_17 : decode cX5_findPattern 17 = .ok (.aload_n 0, 1) := dk_42 (dk_at dksX5_findPattern_0 17 rfl rfl)
theorem dX5_findPattern_18 : decode cX5_findPattern 18 = .ok (.iload_n 1, 1) := dk_27 (dk_at dksX5_findPattern_0 18 rfl rfl)
theorem dX5_findPattern_19 : decode cX5_findPattern 19 = .ok (.iconst 0, 1) := dk_3 (dk_at dksX5_findPattern_0 19 rfl rfl)
theorem dX5_findPattern_20 : decode cX5_findPattern 20 = .ok (.invokevirtual 174, 3) := dk_182 0 174 (dk_at dksX5_findPattern_0 20 rfl rfl)
theorem dX5_findPattern_23 : decode cX5_findPattern 23 = .ok (.istore 5, 2) := dk_54 5 (dk_at dksX5_findPattern_1 0 rfl rfl)
theorem dX5_findPattern_25 : decode cX5_findPattern 25 = .ok (.iload 5, 2) := dk_21 5 (dk_at dksX5_findPattern_1 2 rfl rfl)
theorem dX5_findPattern_27 : decode cX5_findPattern 27 = .ok (.ifCond .lt 228, 3) := dk_155 0 228 (dk_at dksX5_findPattern_1 4 rfl rfl)
theorem dX5_findPattern_30 : decode cX5_findPattern 30 = .ok (.aload_n 0, 1) := dk_42 (dk_at dksX5_findPattern_1 7 rfl rfl)
theorem dX5_findPattern_31 : decode cX5_findPattern 31 = .ok (.iload_n 1, 1) := dk_27 (dk_at dksX5_findPattern_1 8 rfl rfl)
theorem dX5_findPattern_32 : decode cX5_findPattern 32 = .ok (.iconst 1, 1) := dk_4 (dk_at dksX5_findPattern_1 9 rfl rfl)
theorem dX5_findPattern_33 : decode cX5_findPattern 33 = .ok (.invokevirtual 174, 3) := dk_182 0 174 (dk_at dksX5_findPattern_1 10 rfl rfl)
theorem dX5_findPattern_36 : decode cX5_findPattern 36 = .ok (.istore 6, 2) := dk_54 6 (dk_at dksX5_findPattern_1 13 rfl rfl)
theorem dX5_findPattern_38 : decode cX5_findPattern 38 = .ok (.iload 6, 2) := dk_21 6 (dk_at dksX5_findPattern_1 15 rfl rfl)
theorem dX5_findPattern_40 : decode cX5_findPattern 40 = .ok (.ifCond .lt 209, 3) := dk_155 0 209 (dk_at dksX5_findPattern_1 17 rfl rfl)
theorem dX5_findPattern_43 : decode cX5_findPattern 43 = .ok (.iload_n 3, 1) := dk_29 (dk_at dksX5_findPattern_1 20 rfl rfl)
theorem dX5_findPattern_44 : decode cX5_findPattern 44 = .ok (.iload 5, 2) := dk_21 5 (dk_at dksX5_findPattern_1 21 rfl rfl)
theorem dX5_findPattern_46 : decode cX5_findPattern 46 = .ok (.aload_n 0, 1) := dk_42 (dk_at dksX5_findPattern_1 23 rfl rfl)
theorem dX5_findPattern_47 : decode cX5_findPattern 47 = .ok (.iload_n 1, 1) := dk_27 (dk_at dksX5_findPattern_2 0 rfl rfl)
theorem dX5_findPattern_48 : decode cX5_findPattern 48 = .ok (.iconst 0, 1) := dk_3 (dk_at dksX5_findPattern_2 1 rfl rfl)
theorem dX5_findPattern_49 : decode cX5_findPattern 49 = .ok (.invokevirtual 178, 3) := dk_182 0 178 (dk_at dksX5_findPattern_2 2 rfl rfl)
theorem dX5_findPattern_52 : decode cX5_findPattern 52 = .ok (.aload_n 0, 1) := dk_42 (dk_at dksX5_findPattern_2 5 rfl rfl)
theorem dX5_findPattern_53 : decode cX5_findPattern 53 = .ok (.getfield 7, 3) := dk_180 0 7 (dk_at dksX5_findPattern_2 6 rfl rfl)
theorem dX5_findPattern_56 : decode cX5_findPattern 56 = .ok (.iconst 4, 1) := dk_7 (dk_at dksX5_findPattern_2 9 rfl rfl)
theorem dX5_findPattern_57 : decode cX5_findPattern 57 = .ok (.iaload, 1) := dk_46 (dk_at dksX5_findPattern_2 10 rfl rfl)
theorem dX5_findPattern_58 : decode cX5_findPattern 58 = .ok (.iadd, 1) := dk_96 (dk_at dksX5_findPattern_2 11 rfl rfl)
theorem dX5_findPattern_59 : decode cX5_findPattern 59 = .ok (.imul, 1) := dk_104 (dk_at dksX5_findPattern_2 12 rfl rfl)
theorem dX5_findPattern_60 : decode cX5_findPattern 60 = .ok (.isub, 1) := dk_100 (dk_at dksX5_findPattern_2 13 rfl rfl)
theorem dX5_findPattern_61 : decode cX5_findPattern 61 = .ok (.iload 6, 2) := dk_21 6 (dk_at dksX5_findPattern_2 14 rfl rfl)
theorem dX5_findPattern_63 : decode cX5_findPattern 63 = .ok (.aload_n 0, 1) := dk_42 (dk_at dksX5_findPattern_2 16 rfl rfl)
theorem dX5_findPattern_64 : decode cX5_findPattern 64 = .ok (.iload_n 1, 1) := dk_27 (dk_at dksX5_findPattern_2 17 rfl rfl)
theorem dX5_findPattern_65 : decode cX5_findPattern 65 = .ok (.iconst 1, 1) := dk_4 (dk_at dksX5_findPattern_2 18 rfl rfl)
theorem dX5_findPattern_66 : decode cX5_findPattern 66 = .ok (.invokevirtual 178, 3) := dk_182 0 178 (dk_at dksX5_findPattern_2 19 rfl rfl)
theorem dX5_findPattern_69 : decode cX5_findPattern 69 = .ok (.aload_n 0, 1) := dk_42 (dk_at dksX5_findPattern_2 22 rfl rfl)
theorem dX5_findPattern_70 : decode cX5_findPattern 70 = .ok (.getfield 7, 3) := dk_180 0 7 (dk_at dksX5_findPattern_3 0 rfl rfl)
theorem dX5_findPattern_73 : decode cX5_findPattern 73 = .ok (.iconst 4, 1) := dk_7 (dk_at dksX5_findPattern_3 3 rfl rfl)
theorem dX5_findPattern_74 : decode cX5_findPattern 74 = .ok (.iaload, 1) := dk_46 (dk_at dksX5_findPattern_3 4 rfl rfl)
theorem dX5_findPattern_75 : decode cX5_findPattern 75 = .ok (.iadd, 1) := dk_96 (dk_at dksX5_findPattern_3 5 rfl rfl)
theorem dX5_findPattern_76 : decode cX5_findPattern 76 = .ok (.imul, 1) := dk_104 (dk_at dksX5_findPattern_3 6 rfl rfl)
theorem dX5_findPattern_77 : decode cX5_findPattern 77 = .ok (.isub, 1) := dk_100 (dk_at dksX5_findPattern_3 7 rfl rfl)
theorem dX5_findPattern_78 : decode cX5_findPattern 78 = .ok (.istore 7, 2) := dk_54 7 (dk_at dksX5_findPattern_3 8 rfl rfl)
theorem dX5_findPattern_80 : decode cX5_findPattern 80 = .ok (.iload 7, 2) := dk_21 7 (dk_at dksX5_findPattern_3 10 rfl rfl)
theorem dX5_findPattern_82 : decode cX5_findPattern 82 = .ok (.ifCond .lt 161, 3) := dk_155 0 161 (dk_at dksX5_findPattern_3 12 rfl rfl)
theorem dX5_findPattern_85 : decode cX5_findPattern 85 = .ok (.aload_n 0, 1) := dk_42 (dk_at dksX5_findPattern_3 15 rfl rfl)
theorem dX5_findPattern_86 : decode cX5_findPattern 86 = .ok (.getfield 75, 3) := dk_180 0 75 (dk_at dksX5_findPattern_3 16 rfl rfl)
theorem dX5_findPattern_89 : decode cX5_findPattern 89 = .ok (.iload_n 1, 1) := dk_27 (dk_at dksX5_findPattern_3 19 rfl rfl)
theorem dX5_findPattern_90 : decode cX5_findPattern 90 = .ok (.iaload, 1) := dk_46 (dk_at dksX5_findPattern_3 20 rfl rfl)
theorem dX5_findPattern_91 : decode cX5_findPattern 91 = .ok (.iconst 3, 1) := dk_6 (dk_at dksX5_findPattern_3 21 rfl rfl)
theorem dX5_findPattern_92 : decode cX5_findPattern 92 = .ok (.if_icmp .ge 7, 3) := dk_162 0 7 (dk_at dksX5_findPattern_4 0 rfl rfl)
theorem dX5_findPattern_95 : decode cX5_findPattern 95 = .ok (.iconst 0, 1) := dk_3 (dk_at dksX5_findPattern_4 3 rfl rfl)
theorem dX5_findPattern_96 : decode cX5_findPattern 96 = .ok (.goto 19, 3) := dk_167 0 19 (dk_at dksX5_findPattern_4 4 rfl rfl)
theorem dX5_findPattern_99 : decode cX5_findPattern 99 = .ok (.iload 7, 2) := dk_21 7 (dk_at dksX5_findPattern_4 7 rfl rfl)
theorem dX5_findPattern_101 : decode cX5_findPattern 101 = .ok (.aload_n 0, 1) := dk_42 (dk_at dksX5_findPattern_4 9 rfl rfl)
theorem dX5_findPattern_102 : decode cX5_findPattern 102 = .ok (.iload_n 1, 1) := dk_27 (dk_at dksX5_findPattern_4 10 rfl rfl)
theorem dX5_findPattern_103 : decode cX5_findPattern 103 = .ok (.iconst 2, 1) := dk_5 (dk_at dksX5_findPattern_4 11 rfl rfl)
theorem dX5_findPattern_104 : decode cX5_findPattern 104 = .ok (.invokevirtual 178, 3) := dk_182 0 178 (dk_at dksX5_findPattern_4 12 rfl rfl)
theorem dX5_findPattern_107 : decode cX5_findPattern 107 = .ok (.aload_n 0, 1) := dk_42 (dk_at dksX5_findPattern_4 15 rfl rfl)
theorem dX5_findPattern_108 : decode cX5_findPattern 108 = .ok (.getfield 7, 3) := dk_180 0 7 (dk_at dksX5_findPattern_4 16 rfl rfl)
theorem dX5_findPattern_111 : decode cX5_findPattern 111 = .ok (.iconst 4, 1) := dk_7 (dk_at dksX5_findPattern_4 19 rfl rfl)
theorem dX5_findPattern_112 : decode cX5_findPattern 112 = .ok (.iaload, 1) := dk_46 (dk_at dksX5_findPattern_4 20 rfl rfl)
theorem dX5_findPattern_113 : decode cX5_findPattern 113 = .ok (.iadd, 1) := dk_96 (dk_at dksX5_findPattern_4 21 rfl rfl)
theorem dX5_findPattern_114 : decode cX5_findPattern 114 = .ok (.idiv, 1) := dk_108 (dk_at dksX5_findPattern_4 22 rfl rfl)
theorem dX5_findPattern_115 : decode cX5_findPattern 115 = .ok (.istore 8, 2) := dk_54 8 (dk_at dksX5_findPattern_5 0 rfl rfl)
theorem dX5_findPattern_117 : decode cX5_findPattern 117 = .ok (.iload 8, 2) := dk_21 8 (dk_at dksX5_findPattern_5 2 rfl rfl)
theorem dX5_findPattern_119 : decode cX5_findPattern 119 = .ok (.aload_n 0, 1) := dk_42 (dk_at dksX5_findPattern_5 4 rfl rfl)
theorem dX5_findPattern_120 : decode cX5_findPattern 120 = .ok (.iload_n 1, 1) := dk_27 (dk_at dksX5_findPattern_5 5 rfl rfl)
theorem dX5_findPattern_121 : decode cX5_findPattern 121 = .ok (.iconst 2, 1) := dk_5 (dk_at dksX5_findPattern_5 6 rfl rfl)
theorem dX5_findPattern_122 : decode cX5_findPattern 122 = .ok (.invokevirtual 174, 3) := dk_182 0 174 (dk_at dksX5_findPattern_5 7 rfl rfl)
theorem dX5_findPattern_125 : decode cX5_findPattern 125 = .ok (.if_icmp .le 12, 3) := dk_164 0 12 (dk_at dksX5_findPattern_5 10 rfl rfl)
theorem dX5_findPattern_128 : decode cX5_findPattern 128 = .ok (.aload_n 0, 1) := dk_42 (dk_at dksX5_findPattern_5 13 rfl rfl)
theorem dX5_findPattern_129 : decode cX5_findPattern 129 = .ok (.iload_n 1, 1) := dk_27 (dk_at dksX5_findPattern_5 14 rfl rfl)
theorem dX5_findPattern_130 : decode cX5_findPattern 130 = .ok (.iconst 2, 1) := dk_5 (dk_at dksX5_findPattern_5 15 rfl rfl)
theorem dX5_findPattern_131 : decode cX5_findPattern 131 = .ok (.invokevirtual 174, 3) := dk_182 0 174 (dk_at dksX5_findPattern_5 16 rfl rfl)
theorem dX5_findPattern_134 : decode cX5_findPattern 134 = .ok (.goto 5, 3) := dk_167 0 5 (dk_at dksX5_findPattern_5 19 rfl rfl)
theorem dX5_findPattern_137 : decode cX5_findPattern 137 = .ok (.iload 8, 2) := dk_21 8 (dk_at dksX5_findPattern_5 22 rfl rfl)
theorem dX5_findPattern_139 : decode cX5_findPattern 139 = .ok (.istore 8, 2) := dk_54 8 (dk_at dksX5_findPattern_6 0 rfl rfl)
theorem dX5_findPattern_141 : decode cX5_findPattern 141 = .ok (.iload 5, 2) := dk_21 5 (dk_at dksX5_findPattern_6 2 rfl rfl)
theorem dX5_findPattern_143 : decode cX5_findPattern 143 = .ok (.aload_n 0, 1) := dk_42 (dk_at dksX5_findPattern_6 4 rfl rfl)
theorem dX5_findPattern_144 : decode cX5_findPattern 144 = .ok (.iload_n 1, 1) := dk_27 (dk_at dksX5_findPattern_6 5 rfl rfl)
theorem dX5_findPattern_145 : decode cX5_findPattern 145 = .ok (.iconst 0, 1) := dk_3 (dk_at dksX5_findPattern_6 6 rfl rfl)
theorem dX5_findPattern_146 : decode cX5_findPattern 146 = .ok (.invokevirtual 178, 3) := dk_182 0 178 (dk_at dksX5_findPattern_6 7 rfl rfl)
theorem dX5_findPattern_149 : decode cX5_findPattern 149 = .ok (.imul, 1) := dk_104 (dk_at dksX5_findPattern_6 10 rfl rfl)
theorem dX5_findPattern_150 : decode cX5_findPattern 150 = .ok (.iload 6, 2) := dk_21 6 (dk_at dksX5_findPattern_6 11 rfl rfl)
theorem dX5_findPattern_152 : decode cX5_findPattern 152 = .ok (.aload_n 0, 1) := dk_42 (dk_at dksX5_findPattern_6 13 rfl rfl)
theorem dX5_findPattern_153 : decode cX5_findPattern 153 = .ok (.iload_n 1, 1) := dk_27 (dk_at dksX5_findPattern_6 14 rfl rfl)
theorem dX5_findPattern_154 : decode cX5_findPattern 154 = .ok (.iconst 1, 1) := dk_4 (dk_at dksX5_findPattern_6 15 rfl rfl)
theorem dX5_findPattern_155 : decode cX5_findPattern 155 = .ok (.invokevirtual 178, 3) := dk_182 0 178 (dk_at dksX5_findPattern_6 16 rfl rfl)
theorem dX5_findPattern_158 : decode cX5_findPattern 158 = .ok (.imul, 1) := dk_104 (dk_at dksX5_findPattern_6 19 rfl rfl)
theorem dX5_findPattern_159 : decode cX5_findPattern 159 = .ok (.iadd, 1) := dk_96 (dk_at dksX5_findPattern_6 20 rfl rfl)
theorem dX5_findPattern_160 : decode cX5_findPattern 160 = .ok (.iload 8, 2) := dk_21 8 (dk_at dksX5_findPattern_6 21 rfl rfl)
theorem dX5_findPattern_162 : decode cX5_findPattern 162 = .ok (.aload_n 0, 1) := dk_42 (dk_at dksX5_findPattern_6 23 rfl rfl)
theorem dX5_findPattern_163 : decode cX5_findPattern 163 = .ok (.iload_n 1, 1) := dk_27 (dk_at dksX5_findPattern_7 0 rfl rfl)
theorem dX5_findPattern_164 : decode cX5_findPattern 164 = .ok (.iconst 2, 1) := dk_5 (dk_at dksX5_findPattern_7 1 rfl rfl)
theorem dX5_findPattern_165 : decode cX5_findPattern 165 = .ok (.invokevirtual 178, 3) := dk_182 0 178 (dk_at dksX5_findPattern_7 2 rfl rfl)
theorem dX5_findPattern_168 : decode cX5_findPattern 168 = .ok (.imul, 1) := dk_104 (dk_at dksX5_findPattern_7 5 rfl rfl)
theorem dX5_findPattern_169 : decode cX5_findPattern 169 = .ok (.iadd, 1) := dk_96 (dk_at dksX5_findPattern_7 6 rfl rfl)
theorem dX5_findPattern_170 : decode cX5_findPattern 170 = .ok (.istore 9, 2) := dk_54 9 (dk_at dksX5_findPattern_7 7 rfl rfl)
theorem dX5_findPattern_172 : decode cX5_findPattern 172 = .ok (.iload 9, 2) := dk_21 9 (dk_at dksX5_findPattern_7 9 rfl rfl)
theorem dX5_findPattern_174 : decode cX5_findPattern 174 = .ok (.aload_n 0, 1) := dk_42 (dk_at dksX5_findPattern_7 11 rfl rfl)
theorem dX5_findPattern_175 : decode cX5_findPattern 175 = .ok (.getfield 171, 3) := dk_180 0 171 (dk_at dksX5_findPattern_7 12 rfl rfl)
theorem dX5_findPattern_178 : decode cX5_findPattern 178 = .ok (.if_icmp .gt 25, 3) := dk_163 0 25 (dk_at dksX5_findPattern_7 15 rfl rfl)
theorem dX5_findPattern_181 : decode cX5_findPattern 181 = .ok (.iload 9, 2) := dk_21 9 (dk_at dksX5_findPattern_7 18 rfl rfl)
theorem dX5_findPattern_183 : decode cX5_findPattern 183 = .ok (.aload_n 0, 1) := dk_42 (dk_at dksX5_findPattern_7 20 rfl rfl)
theorem dX5_findPattern_184 : decode cX5_findPattern 184 = .ok (.getfield 171, 3) := dk_180 0 171 (dk_at dksX5_findPattern_7 21 rfl rfl)
theorem dX5_findPattern_187 : decode cX5_findPattern 187 = .ok (.if_icmp .ne 56, 3) := dk_160 0 56 (dk_at dksX5_findPattern_8 0 rfl rfl)
theorem dX5_findPattern_190 : decode cX5_findPattern 190 = .ok (.iload 5, 2) := dk_21 5 (dk_at dksX5_findPattern_8 3 rfl rfl)
theorem dX5_findPattern_192 : decode cX5_findPattern 192 = .ok (.iload 6, 2) := dk_21 6 (dk_at dksX5_findPattern_8 5 rfl rfl)
theorem dX5_findPattern_194 : decode cX5_findPattern 194 = .ok (.iadd, 1) := dk_96 (dk_at dksX5_findPattern_8 7 rfl rfl)
theorem dX5_findPattern_195 : decode cX5_findPattern 195 = .ok (.iload 8, 2) := dk_21 8 (dk_at dksX5_findPattern_8 8 rfl rfl)
theorem dX5_findPattern_197 : decode cX5_findPattern 197 = .ok (.iadd, 1) := dk_96 (dk_at dksX5_findPattern_8 10 rfl rfl)
theorem dX5_findPattern_198 : decode cX5_findPattern 198 = .ok (.iload 4, 2) := dk_21 4 (dk_at dksX5_findPattern_8 11 rfl rfl)
theorem dX5_findPattern_200 : decode cX5_findPattern 200 = .ok (.if_icmp .ge 43, 3) := dk_162 0 43 (dk_at dksX5_findPattern_8 13 rfl rfl)
theorem dX5_findPattern_203 : decode cX5_findPattern 203 = .ok (.aload_n 0, 1) := dk_42 (dk_at dksX5_findPattern_8 16 rfl rfl)
theorem dX5_findPattern_204 : decode cX5_findPattern 204 = .ok (.iload 9, 2) := dk_21 9 (dk_at dksX5_findPattern_8 17 rfl rfl)
theorem dX5_findPattern_206 : decode cX5_findPattern 206 = .ok (.putfield 171, 3) := dk_181 0 171 (dk_at dksX5_findPattern_8 19 rfl rfl)
theorem dX5_findPattern_209 : decode cX5_findPattern 209 = .ok (.iload 5, 2) := dk_21 5 (dk_at dksX5_findPattern_8 22 rfl rfl)
theorem dX5_findPattern_211 : decode cX5_findPattern 211 = .ok (.iload 6, 2) := dk_21 6 (dk_at dksX5_findPattern_9 0 rfl rfl)
theorem dX5_findPattern_213 : decode cX5_findPattern 213 = .ok (.iadd, 1) := dk_96 (dk_at dksX5_findPattern_9 2 rfl rfl)
theorem dX5_findPattern_214 : decode cX5_findPattern 214 = .ok (.iload 8, 2) := dk_21 8 (dk_at dksX5_findPattern_9 3 rfl rfl)
theorem dX5_findPattern_216 : decode cX5_findPattern 216 = .ok (.iadd, 1) := dk_96 (dk_at dksX5_findPattern_9 5 rfl rfl)
theorem dX5_findPattern_217 : decode cX5_findPattern 217 = .ok (.istore 4, 2) := dk_54 4 (dk_at dksX5_findPattern_9 6 rfl rfl)
theorem dX5_findPattern_219 : decode cX5_findPattern 219 = .ok (.aload_n 0, 1) := dk_42 (dk_at dksX5_findPattern_9 8 rfl rfl)
theorem dX5_findPattern_220 : decode cX5_findPattern 220 = .ok (.getfield 84, 3) := dk_180 0 84 (dk_at dksX5_findPattern_9 9 rfl rfl)
theorem dX5_findPattern_223 : decode cX5_findPattern 223 = .ok (.iconst 0, 1) := dk_3 (dk_at dksX5_findPattern_9 12 rfl rfl)
theorem dX5_findPattern_224 : decode cX5_findPattern 224 = .ok (.iload 5, 2) := dk_21 5 (dk_at dksX5_findPattern_9 13 rfl rfl)
theorem dX5_findPattern_226 : decode cX5_findPattern 226 = .ok (.iastore, 1) := dk_79 (dk_at dksX5_findPattern_9 15 rfl rfl)
theorem dX5_findPattern_227 : decode cX5_findPattern 227 = .ok (.aload_n 0, 1) := dk_42 (dk_at dksX5_findPattern_9 16 rfl rfl)
theorem dX5_findPattern_228 : decode cX5_findPattern 228 = .ok (.getfield 84, 3) := dk_180 0 84 (dk_at dksX5_findPattern_9 17 rfl rfl)
theorem dX5_findPattern_231 : decode cX5_findPattern 231 = .ok (.iconst 1, 1) := dk_4 (dk_at dksX5_findPattern_9 20 rfl rfl)
theorem dX5_findPattern_232 : decode cX5_findPattern 232 = .ok (.iload 6, 2) := dk_21 6 (dk_at dksX5_findPattern_9 21 rfl rfl)
theorem dX5_findPattern_234 : decode cX5_findPattern 234 = .ok (.iastore, 1) := dk_79 (dk_at dksX5_findPattern_9 23 rfl rfl)
theorem dX5_findPattern_235 : decode cX5_findPattern 235 = .ok (.aload_n 0, 1) := dk_42 (dk_at dksX5_findPattern_10 0 rfl rfl)
theorem dX5_findPattern_236 : decode cX5_findPattern 236 = .ok (.getfield 84, 3) := dk_180 0 84 (dk_at dksX5_findPattern_10 1 rfl rfl)
theorem dX5_findPattern_239 : decode cX5_findPattern 239 = .ok (.iconst 2, 1) := dk_5 (dk_at dksX5_findPattern_10 4 rfl rfl)
theorem dX5_findPattern_240 : decode cX5_findPattern 240 = .ok (.iload 8, 2) := dk_21 8 (dk_at dksX5_findPattern_10 5 rfl rfl)
theorem dX5_findPattern_242 : decode cX5_findPattern 242 = .ok (.iastore, 1) := dk_79 (dk_at dksX5_findPattern_10 7 rfl rfl)
theorem dX5_findPattern_243 : decode cX5_findPattern 243 = .ok (.iinc 6 (-1), 3) := dk_132 6 255 (dk_at dksX5_findPattern_10 8 rfl rfl)
theorem dX5_findPattern_246 : decode cX5_findPattern 246 = .ok (.goto (-208), 3) := dk_167 255 48 (dk_at dksX5_findPattern_10 11 rfl rfl)
theorem dX5_findPattern_249 : decode cX5_findPattern 249 = .ok (.iinc 5 (-1), 3) := dk_132 5 255 (dk_at dksX5_findPattern_10 14 rfl rfl)
theorem dX5_findPattern_252 : decode cX5_findPattern 252 = .ok (.goto (-227), 3) := dk_167 255 29 (dk_at dksX5_findPattern_10 17 rfl rfl)
theorem dX5_findPattern_255 : decode cX5_findPattern 255 = .ok (.return_, 1) := dk_177 (dk_at dksX5_findPattern_10 20 rfl rfl)
abbrev cX5_most : ByteArray := prog_11_method_16_code
def yX5_most : MethodName := ⟨RX5, "most", "(II)I"⟩
def dkwX5_most_1 : List UInt8 := [164, 0, 8, 16, 60, 167, 0, 13, 42, 180, 0, 81, 6, 27, 104, 28, 96, 46, 172]
abbrev dktX5_most_1 : List UInt8 := dkwX5_most_1 ++ []
def dkwX5_most_0 : List UInt8 := [28, 42, 180, 0, 75, 27, 46, 161, 0, 5, 3, 172, 42, 180, 0, 81, 6, 27, 104, 28, 96, 46, 16, 60]
abbrev dktX5_most_0 : List UInt8 := dkwX5_most_0 ++ dktX5_most_1
theorem dksX5_most_0 : cX5_most.data.toList.drop 0 = dktX5_most_0 := by decide +kernel
theorem dksX5_most_1 : cX5_most.data.toList.drop 24 = dktX5_most_1 := dk_seg dksX5_most_0 24 rfl rfl
theorem dX5_most_0 : decode cX5_most 0 = .ok (.iload_n 2, 1) := dk_28 (dk_at dksX5_most_0 0 rfl rfl)
theorem dX5_most_1 : decode cX5_most 1 = .ok (.aload_n 0, 1) := dk_42 (dk_at dksX5_most_0 1 rfl rfl)
theorem dX5_most_2 : decode cX5_most 2 = .ok (.getfield 75, 3) := dk_180 0 75 (dk_at dksX5_most_0 2 rfl rfl)
theorem dX5_most_5 : decode cX5_most 5 = .ok (.iload_n 1, 1) := dk_27 (dk_at dksX5_most_0 5 rfl rfl)
theorem dX5_most_6 : decode cX5_most 6 = .ok (.iaload, 1) := dk_46 (dk_at dksX5_most_0 6 rfl rfl)
theorem dX5_most_7 : decode cX5_most 7 = .ok (.if_icmp .lt 5, 3) := dk_161 0 5 (dk_at dksX5_most_0 7 rfl rfl)
theorem dX5_most_10 : decode cX5_most 10 = .ok (.iconst 0, 1) := dk_3 (dk_at dksX5_most_0 10 rfl rfl)
theorem dX5_most_11 : decode cX5_most 11 = .ok (.ireturn, 1) := dk_172 (dk_at dksX5_most_0 11 rfl rfl)
theorem dX5_most_12 : decode cX5_most 12 = .ok (.aload_n 0, 1) := dk_42 (dk_at dksX5_most_0 12 rfl rfl)
theorem dX5_most_13 : decode cX5_most 13 = .ok (.getfield 81, 3) := dk_180 0 81 (dk_at dksX5_most_0 13 rfl rfl)
theorem dX5_most_16 : decode cX5_most 16 = .ok (.iconst 3, 1) := dk_6 (dk_at dksX5_most_0 16 rfl rfl)
theorem dX5_most_17 : decode cX5_most 17 = .ok (.iload_n 1, 1) := dk_27 (dk_at dksX5_most_0 17 rfl rfl)
theorem dX5_most_18 : decode cX5_most 18 = .ok (.imul, 1) := dk_104 (dk_at dksX5_most_0 18 rfl rfl)
theorem dX5_most_19 : decode cX5_most 19 = .ok (.iload_n 2, 1) := dk_28 (dk_at dksX5_most_0 19 rfl rfl)
theorem dX5_most_20 : decode cX5_most 20 = .ok (.iadd, 1) := dk_96 (dk_at dksX5_most_0 20 rfl rfl)
theorem dX5_most_21 : decode cX5_most 21 = .ok (.iaload, 1) := dk_46 (dk_at dksX5_most_0 21 rfl rfl)
theorem dX5_most_22 : decode cX5_most 22 = .ok (.bipush 60, 2) := dk_16 60 (dk_at dksX5_most_0 22 rfl rfl)
theorem dX5_most_24 : decode cX5_most 24 = .ok (.if_icmp .le 8, 3) := dk_164 0 8 (dk_at dksX5_most_1 0 rfl rfl)
theorem dX5_most_27 : decode cX5_most 27 = .ok (.bipush 60, 2) := dk_16 60 (dk_at dksX5_most_1 3 rfl rfl)
theorem dX5_most_29 : decode cX5_most 29 = .ok (.goto 13, 3) := dk_167 0 13 (dk_at dksX5_most_1 5 rfl rfl)
theorem dX5_most_32 : decode cX5_most 32 = .ok (.aload_n 0, 1) := dk_42 (dk_at dksX5_most_1 8 rfl rfl)
theorem dX5_most_33 : decode cX5_most 33 = .ok (.getfield 81, 3) := dk_180 0 81 (dk_at dksX5_most_1 9 rfl rfl)
theorem dX5_most_36 : decode cX5_most 36 = .ok (.iconst 3, 1) := dk_6 (dk_at dksX5_most_1 12 rfl rfl)
theorem dX5_most_37 : decode cX5_most 37 = .ok (.iload_n 1, 1) := dk_27 (dk_at dksX5_most_1 13 rfl rfl)
theorem dX5_most_38 : decode cX5_most 38 = .ok (.imul, 1) := dk_104 (dk_at dksX5_most_1 14 rfl rfl)
theorem dX5_most_39 : decode cX5_most 39 = .ok (.iload_n 2, 1) := dk_28 (dk_at dksX5_most_1 15 rfl rfl)
theorem dX5_most_40 : decode cX5_most 40 = .ok (.iadd, 1) := dk_96 (dk_at dksX5_most_1 16 rfl rfl)
theorem dX5_most_41 : decode cX5_most 41 = .ok (.iaload, 1) := dk_46 (dk_at dksX5_most_1 17 rfl rfl)
theorem dX5_most_42 : decode cX5_most 42 = .ok (.ireturn, 1) := dk_172 (dk_at dksX5_most_1 18 rfl rfl)
abbrev cX5_lengthOf : ByteArray := prog_11_method_18_code
def yX5_lengthOf : MethodName := ⟨RX5, "lengthOf", "(II)I"⟩
def dkwX5_lengthOf_1 : List UInt8 := [172]
abbrev dktX5_lengthOf_1 : List UInt8 := dkwX5_lengthOf_1 ++ []
def dkwX5_lengthOf_0 : List UInt8 := [28, 42, 180, 0, 75, 27, 46, 162, 0, 16, 42, 180, 0, 78, 6, 27, 104, 28, 96, 46, 167, 0, 4, 3]
abbrev dktX5_lengthOf_0 : List UInt8 := dkwX5_lengthOf_0 ++ dktX5_lengthOf_1
theorem dksX5_lengthOf_0 : cX5_lengthOf.data.toList.drop 0 = dktX5_lengthOf_0 := by decide +kernel
theorem dksX5_lengthOf_1 : cX5_lengthOf.data.toList.drop 24 = dktX5_lengthOf_1 := dk_seg dksX5_lengthOf_0 24 rfl rfl
theorem dX5_lengthOf_0 : decode cX5_lengthOf 0 = .ok (.iload_n 2, 1) := dk_28 (dk_at dksX5_lengthOf_0 0 rfl rfl)
theorem dX5_lengthOf_1 : decode cX5_lengthOf 1 = .ok (.aload_n 0, 1) := dk_42 (dk_at dksX5_lengthOf_0 1 rfl rfl)
theorem dX5_lengthOf_2 : decode cX5_lengthOf 2 = .ok (.getfield 75, 3) := dk_180 0 75 (dk_at dksX5_lengthOf_0 2 rfl rfl)
theorem dX5_lengthOf_5 : decode cX5_lengthOf 5 = .ok (.iload_n 1, 1) := dk_27 (dk_at dksX5_lengthOf_0 5 rfl rfl)
theorem dX5_lengthOf_6 : decode cX5_lengthOf 6 = .ok (.iaload, 1) := dk_46 (dk_at dksX5_lengthOf_0 6 rfl rfl)
theorem dX5_lengthOf_7 : decode cX5_lengthOf 7 = .ok (.if_icmp .ge 16, 3) := dk_162 0 16 (dk_at dksX5_lengthOf_0 7 rfl rfl)
theorem dX5_lengthOf_10 : decode cX5_lengthOf 10 = .ok (.aload_n 0, 1) := dk_42 (dk_at dksX5_lengthOf_0 10 rfl rfl)
theorem dX5_lengthOf_11 : decode cX5_lengthOf 11 = .ok (.getfield 78, 3) := dk_180 0 78 (dk_at dksX5_lengthOf_0 11 rfl rfl)
theorem dX5_lengthOf_14 : decode cX5_lengthOf 14 = .ok (.iconst 3, 1) := dk_6 (dk_at dksX5_lengthOf_0 14 rfl rfl)
theorem dX5_lengthOf_15 : decode cX5_lengthOf 15 = .ok (.iload_n 1, 1) := dk_27 (dk_at dksX5_lengthOf_0 15 rfl rfl)
theorem dX5_lengthOf_16 : decode cX5_lengthOf 16 = .ok (.imul, 1) := dk_104 (dk_at dksX5_lengthOf_0 16 rfl rfl)
theorem dX5_lengthOf_17 : decode cX5_lengthOf 17 = .ok (.iload_n 2, 1) := dk_28 (dk_at dksX5_lengthOf_0 17 rfl rfl)
theorem dX5_lengthOf_18 : decode cX5_lengthOf 18 = .ok (.iadd, 1) := dk_96 (dk_at dksX5_lengthOf_0 18 rfl rfl)
theorem dX5_lengthOf_19 : decode cX5_lengthOf 19 = .ok (.iaload, 1) := dk_46 (dk_at dksX5_lengthOf_0 19 rfl rfl)
theorem dX5_lengthOf_20 : decode cX5_lengthOf 20 = .ok (.goto 4, 3) := dk_167 0 4 (dk_at dksX5_lengthOf_0 20 rfl rfl)
theorem dX5_lengthOf_23 : decode cX5_lengthOf 23 = .ok (.iconst 0, 1) := dk_3 (dk_at dksX5_lengthOf_0 23 rfl rfl)
theorem dX5_lengthOf_24 : decode cX5_lengthOf 24 = .ok (.ireturn, 1) := dk_172 (dk_at dksX5_lengthOf_1 0 rfl rfl)
abbrev cX5_bar : ByteArray := prog_11_method_22_code
def yX5_bar : MethodName := ⟨RX5, "bar", "(II)I"⟩
def dkwX5_bar_4 : List UInt8 := [27, 46, 172, 16, 254, 172]
abbrev dktX5_bar_4 : List UInt8 := dkwX5_bar_4 ++ []
def dkwX5_bar_3 : List UInt8 := [180, 0, 49, 27, 46, 172, 42, 180, 0, 52, 27, 46, 172, 42, 180, 0, 55, 27, 46, 172, 42, 180, 0, 58]
abbrev dktX5_bar_3 : List UInt8 := dkwX5_bar_3 ++ dktX5_bar_4
def dkwX5_bar_2 : List UInt8 := [42, 180, 0, 40, 27, 46, 172, 42, 180, 0, 43, 27, 46, 172, 42, 180, 0, 46, 27, 46, 172, 42]
abbrev dktX5_bar_2 : List UInt8 := dkwX5_bar_2 ++ dktX5_bar_3
def dkwX5_bar_1 : List UInt8 := [170, 0, 0, 0, 0, 0, 0, 93, 0, 0, 0, 0, 0, 0, 0, 6, 0, 0, 0, 44, 0, 0, 0, 51, 0, 0, 0, 58, 0, 0, 0, 65, 0, 0, 0, 72, 0, 0, 0, 79, 0, 0, 0, 86]
abbrev dktX5_bar_1 : List UInt8 := dkwX5_bar_1 ++ dktX5_bar_2
def dkwX5_bar_0 : List UInt8 := [42, 27, 182, 0, 213, 154, 0, 6, 16, 254, 172, 28]
abbrev dktX5_bar_0 : List UInt8 := dkwX5_bar_0 ++ dktX5_bar_1
theorem dksX5_bar_0 : cX5_bar.data.toList.drop 0 = dktX5_bar_0 := by decide +kernel
theorem dksX5_bar_1 : cX5_bar.data.toList.drop 12 = dktX5_bar_1 := dk_seg dksX5_bar_0 12 rfl rfl
theorem dksX5_bar_2 : cX5_bar.data.toList.drop 56 = dktX5_bar_2 := dk_seg dksX5_bar_1 44 rfl rfl
theorem dksX5_bar_3 : cX5_bar.data.toList.drop 78 = dktX5_bar_3 := dk_seg dksX5_bar_2 22 rfl rfl
theorem dksX5_bar_4 : cX5_bar.data.toList.drop 102 = dktX5_bar_4 := dk_seg dksX5_bar_3 24 rfl rfl
theorem dX5_bar_0 : decode cX5_bar 0 = .ok (.aload_n 0, 1) := dk_42 (dk_at dksX5_bar_0 0 rfl rfl)
theorem dX5_bar_1 : decode cX5_bar 1 = .ok (.iload_n 1, 1) := dk_27 (dk_at dksX5_bar_0 1 rfl rfl)
theorem dX5_bar_2 : decode cX5_bar 2 = .ok (.invokevirtual 213, 3) := dk_182 0 213 (dk_at dksX5_bar_0 2 rfl rfl)
theorem dX5_bar_5 : decode cX5_bar 5 = .ok (.ifCond .ne 6, 3) := dk_154 0 6 (dk_at dksX5_bar_0 5 rfl rfl)
theorem dX5_bar_8 : decode cX5_bar 8 = .ok (.bipush (-2), 2) := dk_16 254 (dk_at dksX5_bar_0 8 rfl rfl)
theorem dX5_bar_10 : decode cX5_bar 10 = .ok (.ireturn, 1) := dk_172 (dk_at dksX5_bar_0 10 rfl rfl)
theorem dX5_bar_11 : decode cX5_bar 11 = .ok (.iload_n 2, 1) := dk_28 (dk_at dksX5_bar_0 11 rfl rfl)
theorem dX5_bar_12 : decode cX5_bar 12 = .ok (.tableswitch 93 0 6 #[44, 51, 58, 65, 72, 79, 86], 44) := by decide +kernel
theorem dX5_bar_56 : decode cX5_bar 56 = .ok (.aload_n 0, 1) := dk_42 (dk_at dksX5_bar_2 0 rfl rfl)
theorem dX5_bar_57 : decode cX5_bar 57 = .ok (.getfield 40, 3) := dk_180 0 40 (dk_at dksX5_bar_2 1 rfl rfl)
theorem dX5_bar_60 : decode cX5_bar 60 = .ok (.iload_n 1, 1) := dk_27 (dk_at dksX5_bar_2 4 rfl rfl)
theorem dX5_bar_61 : decode cX5_bar 61 = .ok (.iaload, 1) := dk_46 (dk_at dksX5_bar_2 5 rfl rfl)
theorem dX5_bar_62 : decode cX5_bar 62 = .ok (.ireturn, 1) := dk_172 (dk_at dksX5_bar_2 6 rfl rfl)
theorem dX5_bar_63 : decode cX5_bar 63 = .ok (.aload_n 0, 1) := dk_42 (dk_at dksX5_bar_2 7 rfl rfl)
theorem dX5_bar_64 : decode cX5_bar 64 = .ok (.getfield 43, 3) := dk_180 0 43 (dk_at dksX5_bar_2 8 rfl rfl)
theorem dX5_bar_67 : decode cX5_bar 67 = .ok (.iload_n 1, 1) := dk_27 (dk_at dksX5_bar_2 11 rfl rfl)
theorem dX5_bar_68 : decode cX5_bar 68 = .ok (.iaload, 1) := dk_46 (dk_at dksX5_bar_2 12 rfl rfl)
theorem dX5_bar_69 : decode cX5_bar 69 = .ok (.ireturn, 1) := dk_172 (dk_at dksX5_bar_2 13 rfl rfl)
theorem dX5_bar_70 : decode cX5_bar 70 = .ok (.aload_n 0, 1) := dk_42 (dk_at dksX5_bar_2 14 rfl rfl)
theorem dX5_bar_71 : decode cX5_bar 71 = .ok (.getfield 46, 3) := dk_180 0 46 (dk_at dksX5_bar_2 15 rfl rfl)
theorem dX5_bar_74 : decode cX5_bar 74 = .ok (.iload_n 1, 1) := dk_27 (dk_at dksX5_bar_2 18 rfl rfl)
theorem dX5_bar_75 : decode cX5_bar 75 = .ok (.iaload, 1) := dk_46 (dk_at dksX5_bar_2 19 rfl rfl)
theorem dX5_bar_76 : decode cX5_bar 76 = .ok (.ireturn, 1) := dk_172 (dk_at dksX5_bar_2 20 rfl rfl)
theorem dX5_bar_77 : decode cX5_bar 77 = .ok (.aload_n 0, 1) := dk_42 (dk_at dksX5_bar_2 21 rfl rfl)
theorem dX5_bar_78 : decode cX5_bar 78 = .ok (.getfield 49, 3) := dk_180 0 49 (dk_at dksX5_bar_3 0 rfl rfl)
theorem dX5_bar_81 : decode cX5_bar 81 = .ok (.iload_n 1, 1) := dk_27 (dk_at dksX5_bar_3 3 rfl rfl)
theorem dX5_bar_82 : decode cX5_bar 82 = .ok (.iaload, 1) := dk_46 (dk_at dksX5_bar_3 4 rfl rfl)
theorem dX5_bar_83 : decode cX5_bar 83 = .ok (.ireturn, 1) := dk_172 (dk_at dksX5_bar_3 5 rfl rfl)
theorem dX5_bar_84 : decode cX5_bar 84 = .ok (.aload_n 0, 1) := dk_42 (dk_at dksX5_bar_3 6 rfl rfl)
theorem dX5_bar_85 : decode cX5_bar 85 = .ok (.getfield 52, 3) := dk_180 0 52 (dk_at dksX5_bar_3 7 rfl rfl)
theorem dX5_bar_88 : decode cX5_bar 88 = .ok (.iload_n 1, 1) := dk_27 (dk_at dksX5_bar_3 10 rfl rfl)
theorem dX5_bar_89 : decode cX5_bar 89 = .ok (.iaload, 1) := dk_46 (dk_at dksX5_bar_3 11 rfl rfl)
theorem dX5_bar_90 : decode cX5_bar 90 = .ok (.ireturn, 1) := dk_172 (dk_at dksX5_bar_3 12 rfl rfl)
theorem dX5_bar_91 : decode cX5_bar 91 = .ok (.aload_n 0, 1) := dk_42 (dk_at dksX5_bar_3 13 rfl rfl)
theorem dX5_bar_92 : decode cX5_bar 92 = .ok (.getfield 55, 3) := dk_180 0 55 (dk_at dksX5_bar_3 14 rfl rfl)
theorem dX5_bar_95 : decode cX5_bar 95 = .ok (.iload_n 1, 1) := dk_27 (dk_at dksX5_bar_3 17 rfl rfl)
theorem dX5_bar_96 : decode cX5_bar 96 = .ok (.iaload, 1) := dk_46 (dk_at dksX5_bar_3 18 rfl rfl)
theorem dX5_bar_97 : decode cX5_bar 97 = .ok (.ireturn, 1) := dk_172 (dk_at dksX5_bar_3 19 rfl rfl)
theorem dX5_bar_98 : decode cX5_bar 98 = .ok (.aload_n 0, 1) := dk_42 (dk_at dksX5_bar_3 20 rfl rfl)
theorem dX5_bar_99 : decode cX5_bar 99 = .ok (.getfield 58, 3) := dk_180 0 58 (dk_at dksX5_bar_3 21 rfl rfl)
theorem dX5_bar_102 : decode cX5_bar 102 = .ok (.iload_n 1, 1) := dk_27 (dk_at dksX5_bar_4 0 rfl rfl)
theorem dX5_bar_103 : decode cX5_bar 103 = .ok (.iaload, 1) := dk_46 (dk_at dksX5_bar_4 1 rfl rfl)
theorem dX5_bar_104 : decode cX5_bar 104 = .ok (.ireturn, 1) := dk_172 (dk_at dksX5_bar_4 2 rfl rfl)
theorem dX5_bar_105 : decode cX5_bar 105 = .ok (.bipush (-2), 2) := dk_16 254 (dk_at dksX5_bar_4 3 rfl rfl)
theorem dX5_bar_107 : decode cX5_bar 107 = .ok (.ireturn, 1) := dk_172 (dk_at dksX5_bar_4 5 rfl rfl)
abbrev cX5_isBar : ByteArray := prog_11_method_21_code
def yX5_isBar : MethodName := ⟨RX5, "isBar", "(I)Z"⟩
def dkwX5_isBar_0 : List UInt8 := [27, 133, 9, 42, 180, 0, 206, 4, 100, 133, 184, 0, 131, 172]
abbrev dktX5_isBar_0 : List UInt8 := dkwX5_isBar_0 ++ []
theorem dksX5_isBar_0 : cX5_isBar.data.toList.drop 0 = dktX5_isBar_0 := by decide +kernel
theorem dX5_isBar_0 : decode cX5_isBar 0 = .ok (.iload_n 1, 1) := dk_27 (dk_at dksX5_isBar_0 0 rfl rfl)
theorem dX5_isBar_1 : decode cX5_isBar 1 = .ok (.i2l, 1) := dk_133 (dk_at dksX5_isBar_0 1 rfl rfl)
theorem dX5_isBar_2 : decode cX5_isBar 2 = .ok (.lconst 0, 1) := dk_9 (dk_at dksX5_isBar_0 2 rfl rfl)
theorem dX5_isBar_3 : decode cX5_isBar 3 = .ok (.aload_n 0, 1) := dk_42 (dk_at dksX5_isBar_0 3 rfl rfl)
theorem dX5_isBar_4 : decode cX5_isBar 4 = .ok (.getfield 206, 3) := dk_180 0 206 (dk_at dksX5_isBar_0 4 rfl rfl)
theorem dX5_isBar_7 : decode cX5_isBar 7 = .ok (.iconst 1, 1) := dk_4 (dk_at dksX5_isBar_0 7 rfl rfl)
theorem dX5_isBar_8 : decode cX5_isBar 8 = .ok (.isub, 1) := dk_100 (dk_at dksX5_isBar_0 8 rfl rfl)
theorem dX5_isBar_9 : decode cX5_isBar 9 = .ok (.i2l, 1) := dk_133 (dk_at dksX5_isBar_0 9 rfl rfl)
theorem dX5_isBar_10 : decode cX5_isBar 10 = .ok (.invokestatic 131, 3) := dk_184 0 131 (dk_at dksX5_isBar_0 10 rfl rfl)
theorem dX5_isBar_13 : decode cX5_isBar 13 = .ok (.ireturn, 1) := dk_172 (dk_at dksX5_isBar_0 13 rfl rfl)
abbrev cX5_order : ByteArray := prog_11_method_23_code
def yX5_order : MethodName := ⟨RX5, "order", "(III)I"⟩
def dkwX5_order_4 : List UInt8 := [180, 0, 75, 27, 46, 4, 100, 172]
abbrev dktX5_order_4 : List UInt8 := dkwX5_order_4 ++ []
def dkwX5_order_3 : List UInt8 := [27, 104, 42, 180, 0, 75, 27, 46, 96, 29, 79, 42, 180, 0, 75, 27, 92, 46, 4, 96, 79, 42]
abbrev dktX5_order_3 : List UInt8 := dkwX5_order_3 ++ dktX5_order_4
def dkwX5_order_2 : List UInt8 := [16, 252, 172, 42, 180, 0, 78, 6, 27, 104, 42, 180, 0, 75, 27, 46, 96, 28, 79, 42, 180, 0, 81, 6]
abbrev dktX5_order_2 : List UInt8 := dkwX5_order_2 ++ dktX5_order_3
def dkwX5_order_1 : List UInt8 := [9, 20, 0, 218, 184, 0, 131, 154, 0, 6, 16, 254, 172, 42, 180, 0, 75, 27, 46, 6, 160, 0, 6]
abbrev dktX5_order_1 : List UInt8 := dkwX5_order_1 ++ dktX5_order_2
def dkwX5_order_0 : List UInt8 := [42, 27, 182, 0, 150, 153, 0, 29, 28, 133, 20, 0, 146, 20, 0, 216, 184, 0, 131, 153, 0, 15, 29, 133]
abbrev dktX5_order_0 : List UInt8 := dkwX5_order_0 ++ dktX5_order_1
theorem dksX5_order_0 : cX5_order.data.toList.drop 0 = dktX5_order_0 := by decide +kernel
theorem dksX5_order_1 : cX5_order.data.toList.drop 24 = dktX5_order_1 := dk_seg dksX5_order_0 24 rfl rfl
theorem dksX5_order_2 : cX5_order.data.toList.drop 47 = dktX5_order_2 := dk_seg dksX5_order_1 23 rfl rfl
theorem dksX5_order_3 : cX5_order.data.toList.drop 71 = dktX5_order_3 := dk_seg dksX5_order_2 24 rfl rfl
theorem dksX5_order_4 : cX5_order.data.toList.drop 93 = dktX5_order_4 := dk_seg dksX5_order_3 22 rfl rfl
theorem dX5_order_0 : decode cX5_order 0 = .ok (.aload_n 0, 1) := dk_42 (dk_at dksX5_order_0 0 rfl rfl)
theorem dX5_order_1 : decode cX5_order 1 = .ok (.iload_n 1, 1) := dk_27 (dk_at dksX5_order_0 1 rfl rfl)
theorem dX5_order_2 : decode cX5_order 2 = .ok (.invokevirtual 150, 3) := dk_182 0 150 (dk_at dksX5_order_0 2 rfl rfl)
theorem dX5_order_5 : decode cX5_order 5 = .ok (.ifCond .eq 29, 3) := dk_153 0 29 (dk_at dksX5_order_0 5 rfl rfl)
theorem dX5_order_8 : decode cX5_order 8 = .ok (.iload_n 2, 1) := dk_28 (dk_at dksX5_order_0 8 rfl rfl)
theorem dX5_order_9 : decode cX5_order 9 = .ok (.i2l, 1) := dk_133 (dk_at dksX5_order_0 9 rfl rfl)
theorem dX5_order_10 : decode cX5_order 10 = .ok (.ldc2_w 146, 3) := dk_20 0 146 (dk_at dksX5_order_0 10 rfl rfl)
theorem dX5_order_13 : decode cX5_order 13 = .ok (.ldc2_w 216, 3) := dk_20 0 216 (dk_at dksX5_order_0 13 rfl rfl)
theorem dX5_order_16 : decode cX5_order 16 = .ok (.invokestatic 131, 3) := dk_184 0 131 (dk_at dksX5_order_0 16 rfl rfl)
theorem dX5_order_19 : decode cX5_order 19 = .ok (.ifCond .eq 15, 3) := dk_153 0 15 (dk_at dksX5_order_0 19 rfl rfl)
theorem dX5_order_22 : decode cX5_order 22 = .ok (.iload_n 3, 1) := dk_29 (dk_at dksX5_order_0 22 rfl rfl)
theorem dX5_order_23 : decode cX5_order 23 = .ok (.i2l, 1) := dk_133 (dk_at dksX5_order_0 23 rfl rfl)
theorem dX5_order_24 : decode cX5_order 24 = .ok (.lconst 0, 1) := dk_9 (dk_at dksX5_order_1 0 rfl rfl)
theorem dX5_order_25 : decode cX5_order 25 = .ok (.ldc2_w 218, 3) := dk_20 0 218 (dk_at dksX5_order_1 1 rfl rfl)
theorem dX5_order_28 : decode cX5_order 28 = .ok (.invokestatic 131, 3) := dk_184 0 131 (dk_at dksX5_order_1 4 rfl rfl)
theorem dX5_order_31 : decode cX5_order 31 = .ok (.ifCond .ne 6, 3) := dk_154 0 6 (dk_at dksX5_order_1 7 rfl rfl)
theorem dX5_order_34 : decode cX5_order 34 = .ok (.bipush (-2), 2) := dk_16 254 (dk_at dksX5_order_1 10 rfl rfl)
theorem dX5_order_36 : decode cX5_order 36 = .ok (.ireturn, 1) := dk_172 (dk_at dksX5_order_1 12 rfl rfl)
theorem dX5_order_37 : decode cX5_order 37 = .ok (.aload_n 0, 1) := dk_42 (dk_at dksX5_order_1 13 rfl rfl)
theorem dX5_order_38 : decode cX5_order 38 = .ok (.getfield 75, 3) := dk_180 0 75 (dk_at dksX5_order_1 14 rfl rfl)
theorem dX5_order_41 : decode cX5_order 41 = .ok (.iload_n 1, 1) := dk_27 (dk_at dksX5_order_1 17 rfl rfl)
theorem dX5_order_42 : decode cX5_order 42 = .ok (.iaload, 1) := dk_46 (dk_at dksX5_order_1 18 rfl rfl)
theorem dX5_order_43 : decode cX5_order 43 = .ok (.iconst 3, 1) := dk_6 (dk_at dksX5_order_1 19 rfl rfl)
theorem dX5_order_44 : decode cX5_order 44 = .ok (.if_icmp .ne 6, 3) := dk_160 0 6 (dk_at dksX5_order_1 20 rfl rfl)
theorem dX5_order_47 : decode cX5_order 47 = .ok (.bipush (-4), 2) := dk_16 252 (dk_at dksX5_order_2 0 rfl rfl)
theorem dX5_order_49 : decode cX5_order 49 = .ok (.ireturn, 1) := dk_172 (dk_at dksX5_order_2 2 rfl rfl)
theorem dX5_order_50 : decode cX5_order 50 = .ok (.aload_n 0, 1) := dk_42 (dk_at dksX5_order_2 3 rfl rfl)
theorem dX5_order_51 : decode cX5_order 51 = .ok (.getfield 78, 3) := dk_180 0 78 (dk_at dksX5_order_2 4 rfl rfl)
theorem dX5_order_54 : decode cX5_order 54 = .ok (.iconst 3, 1) := dk_6 (dk_at dksX5_order_2 7 rfl rfl)
theorem dX5_order_55 : decode cX5_order 55 = .ok (.iload_n 1, 1) := dk_27 (dk_at dksX5_order_2 8 rfl rfl)
theorem dX5_order_56 : decode cX5_order 56 = .ok (.imul, 1) := dk_104 (dk_at dksX5_order_2 9 rfl rfl)
theorem dX5_order_57 : decode cX5_order 57 = .ok (.aload_n 0, 1) := dk_42 (dk_at dksX5_order_2 10 rfl rfl)
theorem dX5_order_58 : decode cX5_order 58 = .ok (.getfield 75, 3) := dk_180 0 75 (dk_at dksX5_order_2 11 rfl rfl)
theorem dX5_order_61 : decode cX5_order 61 = .ok (.iload_n 1, 1) := dk_27 (dk_at dksX5_order_2 14 rfl rfl)
theorem dX5_order_62 : decode cX5_order 62 = .ok (.iaload, 1) := dk_46 (dk_at dksX5_order_2 15 rfl rfl)
theorem dX5_order_63 : decode cX5_order 63 = .ok (.iadd, 1) := dk_96 (dk_at dksX5_order_2 16 rfl rfl)
theorem dX5_order_64 : decode cX5_order 64 = .ok (.iload_n 2, 1) := dk_28 (dk_at dksX5_order_2 17 rfl rfl)
theorem dX5_order_65 : decode cX5_order 65 = .ok (.iastore, 1) := dk_79 (dk_at dksX5_order_2 18 rfl rfl)
theorem dX5_order_66 : decode cX5_order 66 = .ok (.aload_n 0, 1) := dk_42 (dk_at dksX5_order_2 19 rfl rfl)
theorem dX5_order_67 : decode cX5_order 67 = .ok (.getfield 81, 3) := dk_180 0 81 (dk_at dksX5_order_2 20 rfl rfl)
theorem dX5_order_70 : decode cX5_order 70 = .ok (.iconst 3, 1) := dk_6 (dk_at dksX5_order_2 23 rfl rfl)
theorem dX5_order_71 : decode cX5_order 71 = .ok (.iload_n 1, 1) := dk_27 (dk_at dksX5_order_3 0 rfl rfl)
theorem dX5_order_72 : decode cX5_order 72 = .ok (.imul, 1) := dk_104 (dk_at dksX5_order_3 1 rfl rfl)
theorem dX5_order_73 : decode cX5_order 73 = .ok (.aload_n 0, 1) := dk_42 (dk_at dksX5_order_3 2 rfl rfl)
theorem dX5_order_74 : decode cX5_order 74 = .ok (.getfield 75, 3) := dk_180 0 75 (dk_at dksX5_order_3 3 rfl rfl)
theorem dX5_order_77 : decode cX5_order 77 = .ok (.iload_n 1, 1) := dk_27 (dk_at dksX5_order_3 6 rfl rfl)
theorem dX5_order_78 : decode cX5_order 78 = .ok (.iaload, 1) := dk_46 (dk_at dksX5_order_3 7 rfl rfl)
theorem dX5_order_79 : decode cX5_order 79 = .ok (.iadd, 1) := dk_96 (dk_at dksX5_order_3 8 rfl rfl)
theorem dX5_order_80 : decode cX5_order 80 = .ok (.iload_n 3, 1) := dk_29 (dk_at dksX5_order_3 9 rfl rfl)
theorem dX5_order_81 : decode cX5_order 81 = .ok (.iastore, 1) := dk_79 (dk_at dksX5_order_3 10 rfl rfl)
theorem dX5_order_82 : decode cX5_order 82 = .ok (.aload_n 0, 1) := dk_42 (dk_at dksX5_order_3 11 rfl rfl)
theorem dX5_order_83 : decode cX5_order 83 = .ok (.getfield 75, 3) := dk_180 0 75 (dk_at dksX5_order_3 12 rfl rfl)
theorem dX5_order_86 : decode cX5_order 86 = .ok (.iload_n 1, 1) := dk_27 (dk_at dksX5_order_3 15 rfl rfl)
theorem dX5_order_87 : decode cX5_order 87 = .ok (.dup2, 1) := dk_92 (dk_at dksX5_order_3 16 rfl rfl)
theorem dX5_order_88 : decode cX5_order 88 = .ok (.iaload, 1) := dk_46 (dk_at dksX5_order_3 17 rfl rfl)
theorem dX5_order_89 : decode cX5_order 89 = .ok (.iconst 1, 1) := dk_4 (dk_at dksX5_order_3 18 rfl rfl)
theorem dX5_order_90 : decode cX5_order 90 = .ok (.iadd, 1) := dk_96 (dk_at dksX5_order_3 19 rfl rfl)
theorem dX5_order_91 : decode cX5_order 91 = .ok (.iastore, 1) := dk_79 (dk_at dksX5_order_3 20 rfl rfl)
theorem dX5_order_92 : decode cX5_order 92 = .ok (.aload_n 0, 1) := dk_42 (dk_at dksX5_order_3 21 rfl rfl)
theorem dX5_order_93 : decode cX5_order 93 = .ok (.getfield 75, 3) := dk_180 0 75 (dk_at dksX5_order_4 0 rfl rfl)
theorem dX5_order_96 : decode cX5_order 96 = .ok (.iload_n 1, 1) := dk_27 (dk_at dksX5_order_4 3 rfl rfl)
theorem dX5_order_97 : decode cX5_order 97 = .ok (.iaload, 1) := dk_46 (dk_at dksX5_order_4 4 rfl rfl)
theorem dX5_order_98 : decode cX5_order 98 = .ok (.iconst 1, 1) := dk_4 (dk_at dksX5_order_4 5 rfl rfl)
theorem dX5_order_99 : decode cX5_order 99 = .ok (.isub, 1) := dk_100 (dk_at dksX5_order_4 6 rfl rfl)
theorem dX5_order_100 : decode cX5_order 100 = .ok (.ireturn, 1) := dk_172 (dk_at dksX5_order_4 7 rfl rfl)
abbrev cX5_wanted : ByteArray := prog_11_method_24_code
def yX5_wanted : MethodName := ⟨RX5, "wanted", "(II)I"⟩
def dkwX5_wanted_1 : List UInt8 := [153, 0, 16, 42, 180, 0, 81, 6, 27, 104, 28, 96, 46, 167, 0, 5, 16, 254, 172]
abbrev dktX5_wanted_1 : List UInt8 := dkwX5_wanted_1 ++ []
def dkwX5_wanted_0 : List UInt8 := [42, 27, 182, 0, 150, 153, 0, 34, 28, 133, 9, 42, 180, 0, 75, 27, 46, 4, 100, 133, 184, 0, 131]
abbrev dktX5_wanted_0 : List UInt8 := dkwX5_wanted_0 ++ dktX5_wanted_1
theorem dksX5_wanted_0 : cX5_wanted.data.toList.drop 0 = dktX5_wanted_0 := by decide +kernel
theorem dksX5_wanted_1 : cX5_wanted.data.toList.drop 23 = dktX5_wanted_1 := dk_seg dksX5_wanted_0 23 rfl rfl
theorem dX5_wanted_0 : decode cX5_wanted 0 = .ok (.aload_n 0, 1) := dk_42 (dk_at dksX5_wanted_0 0 rfl rfl)
theorem dX5_wanted_1 : decode cX5_wanted 1 = .ok (.iload_n 1, 1) := dk_27 (dk_at dksX5_wanted_0 1 rfl rfl)
theorem dX5_wanted_2 : decode cX5_wanted 2 = .ok (.invokevirtual 150, 3) := dk_182 0 150 (dk_at dksX5_wanted_0 2 rfl rfl)
theorem dX5_wanted_5 : decode cX5_wanted 5 = .ok (.ifCond .eq 34, 3) := dk_153 0 34 (dk_at dksX5_wanted_0 5 rfl rfl)
theorem dX5_wanted_8 : decode cX5_wanted 8 = .ok (.iload_n 2, 1) := dk_28 (dk_at dksX5_wanted_0 8 rfl rfl)
theorem dX5_wanted_9 : decode cX5_wanted 9 = .ok (.i2l, 1) := dk_133 (dk_at dksX5_wanted_0 9 rfl rfl)
theorem dX5_wanted_10 : decode cX5_wanted 10 = .ok (.lconst 0, 1) := dk_9 (dk_at dksX5_wanted_0 10 rfl rfl)
theorem dX5_wanted_11 : decode cX5_wanted 11 = .ok (.aload_n 0, 1) := dk_42 (dk_at dksX5_wanted_0 11 rfl rfl)
theorem dX5_wanted_12 : decode cX5_wanted 12 = .ok (.getfield 75, 3) := dk_180 0 75 (dk_at dksX5_wanted_0 12 rfl rfl)
theorem dX5_wanted_15 : decode cX5_wanted 15 = .ok (.iload_n 1, 1) := dk_27 (dk_at dksX5_wanted_0 15 rfl rfl)
theorem dX5_wanted_16 : decode cX5_wanted 16 = .ok (.iaload, 1) := dk_46 (dk_at dksX5_wanted_0 16 rfl rfl)
theorem dX5_wanted_17 : decode cX5_wanted 17 = .ok (.iconst 1, 1) := dk_4 (dk_at dksX5_wanted_0 17 rfl rfl)
theorem dX5_wanted_18 : decode cX5_wanted 18 = .ok (.isub, 1) := dk_100 (dk_at dksX5_wanted_0 18 rfl rfl)
theorem dX5_wanted_19 : decode cX5_wanted 19 = .ok (.i2l, 1) := dk_133 (dk_at dksX5_wanted_0 19 rfl rfl)
theorem dX5_wanted_20 : decode cX5_wanted 20 = .ok (.invokestatic 131, 3) := dk_184 0 131 (dk_at dksX5_wanted_0 20 rfl rfl)
theorem dX5_wanted_23 : decode cX5_wanted 23 = .ok (.ifCond .eq 16, 3) := dk_153 0 16 (dk_at dksX5_wanted_1 0 rfl rfl)
theorem dX5_wanted_26 : decode cX5_wanted 26 = .ok (.aload_n 0, 1) := dk_42 (dk_at dksX5_wanted_1 3 rfl rfl)
theorem dX5_wanted_27 : decode cX5_wanted 27 = .ok (.getfield 81, 3) := dk_180 0 81 (dk_at dksX5_wanted_1 4 rfl rfl)
theorem dX5_wanted_30 : decode cX5_wanted 30 = .ok (.iconst 3, 1) := dk_6 (dk_at dksX5_wanted_1 7 rfl rfl)
theorem dX5_wanted_31 : decode cX5_wanted 31 = .ok (.iload_n 1, 1) := dk_27 (dk_at dksX5_wanted_1 8 rfl rfl)
theorem dX5_wanted_32 : decode cX5_wanted 32 = .ok (.imul, 1) := dk_104 (dk_at dksX5_wanted_1 9 rfl rfl)
theorem dX5_wanted_33 : decode cX5_wanted 33 = .ok (.iload_n 2, 1) := dk_28 (dk_at dksX5_wanted_1 10 rfl rfl)
theorem dX5_wanted_34 : decode cX5_wanted 34 = .ok (.iadd, 1) := dk_96 (dk_at dksX5_wanted_1 11 rfl rfl)
theorem dX5_wanted_35 : decode cX5_wanted 35 = .ok (.iaload, 1) := dk_46 (dk_at dksX5_wanted_1 12 rfl rfl)
theorem dX5_wanted_36 : decode cX5_wanted 36 = .ok (.goto 5, 3) := dk_167 0 5 (dk_at dksX5_wanted_1 13 rfl rfl)
theorem dX5_wanted_39 : decode cX5_wanted 39 = .ok (.bipush (-2), 2) := dk_16 254 (dk_at dksX5_wanted_1 16 rfl rfl)
theorem dX5_wanted_41 : decode cX5_wanted 41 = .ok (.ireturn, 1) := dk_172 (dk_at dksX5_wanted_1 18 rfl rfl)
abbrev cX5_pattern : ByteArray := prog_11_method_25_code
def yX5_pattern : MethodName := ⟨RX5, "pattern", "(III)I"⟩
def dkwX5_pattern_2 : List UInt8 := [180, 0, 171, 167, 0, 9, 42, 180, 0, 84, 29, 46, 172]
abbrev dktX5_pattern_2 : List UInt8 := dkwX5_pattern_2 ++ []
def dkwX5_pattern_1 : List UInt8 := [20, 0, 144, 184, 0, 131, 154, 0, 6, 16, 254, 172, 42, 27, 28, 182, 0, 198, 29, 6, 160, 0, 10, 42]
abbrev dktX5_pattern_1 : List UInt8 := dkwX5_pattern_1 ++ dktX5_pattern_2
def dkwX5_pattern_0 : List UInt8 := [42, 27, 182, 0, 150, 153, 0, 27, 28, 133, 9, 20, 0, 220, 184, 0, 131, 153, 0, 15, 29, 133, 9]
abbrev dktX5_pattern_0 : List UInt8 := dkwX5_pattern_0 ++ dktX5_pattern_1
theorem dksX5_pattern_0 : cX5_pattern.data.toList.drop 0 = dktX5_pattern_0 := by decide +kernel
theorem dksX5_pattern_1 : cX5_pattern.data.toList.drop 23 = dktX5_pattern_1 := dk_seg dksX5_pattern_0 23 rfl rfl
theorem dksX5_pattern_2 : cX5_pattern.data.toList.drop 47 = dktX5_pattern_2 := dk_seg dksX5_pattern_1 24 rfl rfl
theorem dX5_pattern_0 : decode cX5_pattern 0 = .ok (.aload_n 0, 1) := dk_42 (dk_at dksX5_pattern_0 0 rfl rfl)
theorem dX5_pattern_1 : decode cX5_pattern 1 = .ok (.iload_n 1, 1) := dk_27 (dk_at dksX5_pattern_0 1 rfl rfl)
theorem dX5_pattern_2 : decode cX5_pattern 2 = .ok (.invokevirtual 150, 3) := dk_182 0 150 (dk_at dksX5_pattern_0 2 rfl rfl)
theorem dX5_pattern_5 : decode cX5_pattern 5 = .ok (.ifCond .eq 27, 3) := dk_153 0 27 (dk_at dksX5_pattern_0 5 rfl rfl)
theorem dX5_pattern_8 : decode cX5_pattern 8 = .ok (.iload_n 2, 1) := dk_28 (dk_at dksX5_pattern_0 8 rfl rfl)
theorem dX5_pattern_9 : decode cX5_pattern 9 = .ok (.i2l, 1) := dk_133 (dk_at dksX5_pattern_0 9 rfl rfl)
theorem dX5_pattern_10 : decode cX5_pattern 10 = .ok (.lconst 0, 1) := dk_9 (dk_at dksX5_pattern_0 10 rfl rfl)
theorem dX5_pattern_11 : decode cX5_pattern 11 = .ok (.ldc2_w 220, 3) := dk_20 0 220 (dk_at dksX5_pattern_0 11 rfl rfl)
theorem dX5_pattern_14 : decode cX5_pattern 14 = .ok (.invokestatic 131, 3) := dk_184 0 131 (dk_at dksX5_pattern_0 14 rfl rfl)
theorem dX5_pattern_17 : decode cX5_pattern 17 = .ok (.ifCond .eq 15, 3) := dk_153 0 15 (dk_at dksX5_pattern_0 17 rfl rfl)
theorem dX5_pattern_20 : decode cX5_pattern 20 = .ok (.iload_n 3, 1) := dk_29 (dk_at dksX5_pattern_0 20 rfl rfl)
theorem dX5_pattern_21 : decode cX5_pattern 21 = .ok (.i2l, 1) := dk_133 (dk_at dksX5_pattern_0 21 rfl rfl)
theorem dX5_pattern_22 : decode cX5_pattern 22 = .ok (.lconst 0, 1) := dk_9 (dk_at dksX5_pattern_0 22 rfl rfl)
theorem dX5_pattern_23 : decode cX5_pattern 23 = .ok (.ldc2_w 144, 3) := dk_20 0 144 (dk_at dksX5_pattern_1 0 rfl rfl)
theorem dX5_pattern_26 : decode cX5_pattern 26 = .ok (.invokestatic 131, 3) := dk_184 0 131 (dk_at dksX5_pattern_1 3 rfl rfl)
theorem dX5_pattern_29 : decode cX5_pattern 29 = .ok (.ifCond .ne 6, 3) := dk_154 0 6 (dk_at dksX5_pattern_1 6 rfl rfl)
theorem dX5_pattern_32 : decode cX5_pattern 32 = .ok (.bipush (-2), 2) := dk_16 254 (dk_at dksX5_pattern_1 9 rfl rfl)
theorem dX5_pattern_34 : decode cX5_pattern 34 = .ok (.ireturn, 1) := dk_172 (dk_at dksX5_pattern_1 11 rfl rfl)
theorem dX5_pattern_35 : decode cX5_pattern 35 = .ok (.aload_n 0, 1) := dk_42 (dk_at dksX5_pattern_1 12 rfl rfl)
theorem dX5_pattern_36 : decode cX5_pattern 36 = .ok (.iload_n 1, 1) := dk_27 (dk_at dksX5_pattern_1 13 rfl rfl)
theorem dX5_pattern_37 : decode cX5_pattern 37 = .ok (.iload_n 2, 1) := dk_28 (dk_at dksX5_pattern_1 14 rfl rfl)
theorem dX5_pattern_38 : decode cX5_pattern 38 = .ok (.invokevirtual 198, 3) := dk_182 0 198 (dk_at dksX5_pattern_1 15 rfl rfl)
theorem dX5_pattern_41 : decode cX5_pattern 41 = .ok (.iload_n 3, 1) := dk_29 (dk_at dksX5_pattern_1 18 rfl rfl)
theorem dX5_pattern_42 : decode cX5_pattern 42 = .ok (.iconst 3, 1) := dk_6 (dk_at dksX5_pattern_1 19 rfl rfl)
theorem dX5_pattern_43 : decode cX5_pattern 43 = .ok (.if_icmp .ne 10, 3) := dk_160 0 10 (dk_at dksX5_pattern_1 20 rfl rfl)
theorem dX5_pattern_46 : decode cX5_pattern 46 = .ok (.aload_n 0, 1) := dk_42 (dk_at dksX5_pattern_1 23 rfl rfl)
theorem dX5_pattern_47 : decode cX5_pattern 47 = .ok (.getfield 171, 3) := dk_180 0 171 (dk_at dksX5_pattern_2 0 rfl rfl)
theorem dX5_pattern_50 : decode cX5_pattern 50 = .ok (.goto 9, 3) := dk_167 0 9 (dk_at dksX5_pattern_2 3 rfl rfl)
theorem dX5_pattern_53 : decode cX5_pattern 53 = .ok (.aload_n 0, 1) := dk_42 (dk_at dksX5_pattern_2 6 rfl rfl)
theorem dX5_pattern_54 : decode cX5_pattern 54 = .ok (.getfield 84, 3) := dk_180 0 84 (dk_at dksX5_pattern_2 7 rfl rfl)
theorem dX5_pattern_57 : decode cX5_pattern 57 = .ok (.iload_n 3, 1) := dk_29 (dk_at dksX5_pattern_2 10 rfl rfl)
theorem dX5_pattern_58 : decode cX5_pattern 58 = .ok (.iaload, 1) := dk_46 (dk_at dksX5_pattern_2 11 rfl rfl)
theorem dX5_pattern_59 : decode cX5_pattern 59 = .ok (.ireturn, 1) := dk_172 (dk_at dksX5_pattern_2 12 rfl rfl)
abbrev cX5_account : ByteArray := prog_11_method_26_code
def yX5_account : MethodName := ⟨RX5, "account", "(I)I"⟩
def dkwX5_account_1 : List UInt8 := [172]
abbrev dktX5_account_1 : List UInt8 := dkwX5_account_1 ++ []
def dkwX5_account_0 : List UInt8 := [27, 133, 9, 20, 0, 222, 184, 0, 131, 153, 0, 13, 42, 180, 0, 71, 27, 47, 136, 167, 0, 5, 16, 254]
abbrev dktX5_account_0 : List UInt8 := dkwX5_account_0 ++ dktX5_account_1
theorem dksX5_account_0 : cX5_account.data.toList.drop 0 = dktX5_account_0 := by decide +kernel
theorem dksX5_account_1 : cX5_account.data.toList.drop 24 = dktX5_account_1 := dk_seg dksX5_account_0 24 rfl rfl
theorem dX5_account_0 : decode cX5_account 0 = .ok (.iload_n 1, 1) := dk_27 (dk_at dksX5_account_0 0 rfl rfl)
theorem dX5_account_1 : decode cX5_account 1 = .ok (.i2l, 1) := dk_133 (dk_at dksX5_account_0 1 rfl rfl)
theorem dX5_account_2 : decode cX5_account 2 = .ok (.lconst 0, 1) := dk_9 (dk_at dksX5_account_0 2 rfl rfl)
theorem dX5_account_3 : decode cX5_account 3 = .ok (.ldc2_w 222, 3) := dk_20 0 222 (dk_at dksX5_account_0 3 rfl rfl)
theorem dX5_account_6 : decode cX5_account 6 = .ok (.invokestatic 131, 3) := dk_184 0 131 (dk_at dksX5_account_0 6 rfl rfl)
theorem dX5_account_9 : decode cX5_account 9 = .ok (.ifCond .eq 13, 3) := dk_153 0 13 (dk_at dksX5_account_0 9 rfl rfl)
theorem dX5_account_12 : decode cX5_account 12 = .ok (.aload_n 0, 1) := dk_42 (dk_at dksX5_account_0 12 rfl rfl)
theorem dX5_account_13 : decode cX5_account 13 = .ok (.getfield 71, 3) := dk_180 0 71 (dk_at dksX5_account_0 13 rfl rfl)
theorem dX5_account_16 : decode cX5_account 16 = .ok (.iload_n 1, 1) := dk_27 (dk_at dksX5_account_0 16 rfl rfl)
theorem dX5_account_17 : decode cX5_account 17 = .ok (.laload, 1) := dk_47 (dk_at dksX5_account_0 17 rfl rfl)
theorem dX5_account_18 : decode cX5_account 18 = .ok (.l2i, 1) := dk_136 (dk_at dksX5_account_0 18 rfl rfl)
theorem dX5_account_19 : decode cX5_account 19 = .ok (.goto 5, 3) := dk_167 0 5 (dk_at dksX5_account_0 19 rfl rfl)
theorem dX5_account_22 : decode cX5_account 22 = .ok (.bipush (-2), 2) := dk_16 254 (dk_at dksX5_account_0 22 rfl rfl)
theorem dX5_account_24 : decode cX5_account 24 = .ok (.ireturn, 1) := dk_172 (dk_at dksX5_account_1 0 rfl rfl)
abbrev cX5_stock : ByteArray := prog_11_method_27_code
def yX5_stock : MethodName := ⟨RX5, "stock", "(I)I"⟩
def dkwX5_stock_2 : List UInt8 := [181, 0, 224, 42, 180, 0, 224, 172]
abbrev dktX5_stock_2 : List UInt8 := dkwX5_stock_2 ++ []
def dkwX5_stock_1 : List UInt8 := [160, 0, 6, 16, 252, 172, 42, 180, 0, 87, 42, 180, 0, 224, 27, 79, 42, 89, 180, 0, 224, 4, 96]
abbrev dktX5_stock_1 : List UInt8 := dkwX5_stock_1 ++ dktX5_stock_2
def dkwX5_stock_0 : List UInt8 := [27, 133, 20, 0, 202, 20, 0, 204, 184, 0, 131, 154, 0, 6, 16, 254, 172, 42, 180, 0, 224, 16, 6]
abbrev dktX5_stock_0 : List UInt8 := dkwX5_stock_0 ++ dktX5_stock_1
theorem dksX5_stock_0 : cX5_stock.data.toList.drop 0 = dktX5_stock_0 := by decide +kernel
theorem dksX5_stock_1 : cX5_stock.data.toList.drop 23 = dktX5_stock_1 := dk_seg dksX5_stock_0 23 rfl rfl
theorem dksX5_stock_2 : cX5_stock.data.toList.drop 46 = dktX5_stock_2 := dk_seg dksX5_stock_1 23 rfl rfl
theorem dX5_stock_0 : decode cX5_stock 0 = .ok (.iload_n 1, 1) := dk_27 (dk_at dksX5_stock_0 0 rfl rfl)
theorem dX5_stock_1 : decode cX5_stock 1 = .ok (.i2l, 1) := dk_133 (dk_at dksX5_stock_0 1 rfl rfl)
theorem dX5_stock_2 : decode cX5_stock 2 = .ok (.ldc2_w 202, 3) := dk_20 0 202 (dk_at dksX5_stock_0 2 rfl rfl)
theorem dX5_stock_5 : decode cX5_stock 5 = .ok (.ldc2_w 204, 3) := dk_20 0 204 (dk_at dksX5_stock_0 5 rfl rfl)
theorem dX5_stock_8 : decode cX5_stock 8 = .ok (.invokestatic 131, 3) := dk_184 0 131 (dk_at dksX5_stock_0 8 rfl rfl)
theorem dX5_stock_11 : decode cX5_stock 11 = .ok (.ifCond .ne 6, 3) := dk_154 0 6 (dk_at dksX5_stock_0 11 rfl rfl)
theorem dX5_stock_14 : decode cX5_stock 14 = .ok (.bipush (-2), 2) := dk_16 254 (dk_at dksX5_stock_0 14 rfl rfl)
theorem dX5_stock_16 : decode cX5_stock 16 = .ok (.ireturn, 1) := dk_172 (dk_at dksX5_stock_0 16 rfl rfl)
theorem dX5_stock_17 : decode cX5_stock 17 = .ok (.aload_n 0, 1) := dk_42 (dk_at dksX5_stock_0 17 rfl rfl)
theorem dX5_stock_18 : decode cX5_stock 18 = .ok (.getfield 224, 3) := dk_180 0 224 (dk_at dksX5_stock_0 18 rfl rfl)
theorem dX5_stock_21 : decode cX5_stock 21 = .ok (.bipush 6, 2) := dk_16 6 (dk_at dksX5_stock_0 21 rfl rfl)
theorem dX5_stock_23 : decode cX5_stock 23 = .ok (.if_icmp .ne 6, 3) := dk_160 0 6 (dk_at dksX5_stock_1 0 rfl rfl)
theorem dX5_stock_26 : decode cX5_stock 26 = .ok (.bipush (-4), 2) := dk_16 252 (dk_at dksX5_stock_1 3 rfl rfl)
theorem dX5_stock_28 : decode cX5_stock 28 = .ok (.ireturn, 1) := dk_172 (dk_at dksX5_stock_1 5 rfl rfl)
theorem dX5_stock_29 : decode cX5_stock 29 = .ok (.aload_n 0, 1) := dk_42 (dk_at dksX5_stock_1 6 rfl rfl)
theorem dX5_stock_30 : decode cX5_stock 30 = .ok (.getfield 87, 3) := dk_180 0 87 (dk_at dksX5_stock_1 7 rfl rfl)
theorem dX5_stock_33 : decode cX5_stock 33 = .ok (.aload_n 0, 1) := dk_42 (dk_at dksX5_stock_1 10 rfl rfl)
theorem dX5_stock_34 : decode cX5_stock 34 = .ok (.getfield 224, 3) := dk_180 0 224 (dk_at dksX5_stock_1 11 rfl rfl)
theorem dX5_stock_37 : decode cX5_stock 37 = .ok (.iload_n 1, 1) := dk_27 (dk_at dksX5_stock_1 14 rfl rfl)
theorem dX5_stock_38 : decode cX5_stock 38 = .ok (.iastore, 1) := dk_79 (dk_at dksX5_stock_1 15 rfl rfl)
theorem dX5_stock_39 : decode cX5_stock 39 = .ok (.aload_n 0, 1) := dk_42 (dk_at dksX5_stock_1 16 rfl rfl)
theorem dX5_stock_40 : decode cX5_stock 40 = .ok (.dup, 1) := dk_89 (dk_at dksX5_stock_1 17 rfl rfl)
theorem dX5_stock_41 : decode cX5_stock 41 = .ok (.getfield 224, 3) := dk_180 0 224 (dk_at dksX5_stock_1 18 rfl rfl)
theorem dX5_stock_44 : decode cX5_stock 44 = .ok (.iconst 1, 1) := dk_4 (dk_at dksX5_stock_1 21 rfl rfl)
theorem dX5_stock_45 : decode cX5_stock 45 = .ok (.iadd, 1) := dk_96 (dk_at dksX5_stock_1 22 rfl rfl)
theorem dX5_stock_46 : decode cX5_stock 46 = .ok (.putfield 224, 3) := dk_181 0 224 (dk_at dksX5_stock_2 0 rfl rfl)
theorem dX5_stock_49 : decode cX5_stock 49 = .ok (.aload_n 0, 1) := dk_42 (dk_at dksX5_stock_2 3 rfl rfl)
theorem dX5_stock_50 : decode cX5_stock 50 = .ok (.getfield 224, 3) := dk_180 0 224 (dk_at dksX5_stock_2 4 rfl rfl)
theorem dX5_stock_53 : decode cX5_stock 53 = .ok (.ireturn, 1) := dk_172 (dk_at dksX5_stock_2 7 rfl rfl)
abbrev cX5_best : ByteArray := prog_11_method_28_code
def yX5_best : MethodName := ⟨RX5, "best", "(IZ)I"⟩
def dkwX5_best_6 : List UInt8 := [167, 255, 136, 29, 172]
abbrev dktX5_best_6 : List UInt8 := dkwX5_best_6 ++ []
def dkwX5_best_5 : List UInt8 := [46, 29, 162, 0, 17, 42, 180, 0, 87, 21, 5, 46, 62, 42, 180, 0, 171, 54, 4, 132, 5, 1]
abbrev dktX5_best_5 : List UInt8 := dkwX5_best_5 ++ dktX5_best_6
def dkwX5_best_4 : List UInt8 := [55, 8, 22, 6, 22, 8, 148, 157, 0, 22, 22, 6, 22, 8, 148, 154, 0, 28, 42, 180, 0, 87, 21, 5]
abbrev dktX5_best_4 : List UInt8 := dkwX5_best_4 ++ dktX5_best_5
def dkwX5_best_3 : List UInt8 := [55, 6, 29, 2, 160, 0, 7, 9, 167, 0, 15, 21, 4, 133, 42, 180, 0, 87, 21, 5, 46, 133, 105]
abbrev dktX5_best_3 : List UInt8 := dkwX5_best_3 ++ dktX5_best_4
def dkwX5_best_2 : List UInt8 := [42, 180, 0, 171, 158, 0, 86, 29, 2, 160, 0, 7, 10, 167, 0, 11, 42, 180, 0, 171, 133, 29, 133, 105]
abbrev dktX5_best_2 : List UInt8 := dkwX5_best_2 ++ dktX5_best_3
def dkwX5_best_1 : List UInt8 := [180, 0, 224, 162, 0, 117, 42, 42, 180, 0, 25, 27, 46, 42, 180, 0, 87, 21, 5, 46, 28, 182, 0, 209]
abbrev dktX5_best_1 : List UInt8 := dkwX5_best_1 ++ dktX5_best_2
def dkwX5_best_0 : List UInt8 := [42, 27, 182, 0, 156, 154, 0, 6, 16, 254, 172, 2, 62, 3, 54, 4, 3, 54, 5, 21, 5, 42]
abbrev dktX5_best_0 : List UInt8 := dkwX5_best_0 ++ dktX5_best_1
theorem dksX5_best_0 : cX5_best.data.toList.drop 0 = dktX5_best_0 := by decide +kernel
theorem dksX5_best_1 : cX5_best.data.toList.drop 22 = dktX5_best_1 := dk_seg dksX5_best_0 22 rfl rfl
theorem dksX5_best_2 : cX5_best.data.toList.drop 46 = dktX5_best_2 := dk_seg dksX5_best_1 24 rfl rfl
theorem dksX5_best_3 : cX5_best.data.toList.drop 70 = dktX5_best_3 := dk_seg dksX5_best_2 24 rfl rfl
theorem dksX5_best_4 : cX5_best.data.toList.drop 93 = dktX5_best_4 := dk_seg dksX5_best_3 23 rfl rfl
theorem dksX5_best_5 : cX5_best.data.toList.drop 117 = dktX5_best_5 := dk_seg dksX5_best_4 24 rfl rfl
theorem dksX5_best_6 : cX5_best.data.toList.drop 139 = dktX5_best_6 := dk_seg dksX5_best_5 22 rfl rfl
theorem dX5_best_0 : decode cX5_best 0 = .ok (.aload_n 0, 1) := dk_42 (dk_at dksX5_best_0 0 rfl rfl)
theorem dX5_best_1 : decode cX5_best 1 = .ok (.iload_n 1, 1) := dk_27 (dk_at dksX5_best_0 1 rfl rfl)
theorem dX5_best_2 : decode cX5_best 2 = .ok (.invokevirtual 156, 3) := dk_182 0 156 (dk_at dksX5_best_0 2 rfl rfl)
theorem dX5_best_5 : decode cX5_best 5 = .ok (.ifCond .ne 6, 3) := dk_154 0 6 (dk_at dksX5_best_0 5 rfl rfl)
theorem dX5_best_8 : decode cX5_best 8 = .ok (.bipush (-2), 2) := dk_16 254 (dk_at dksX5_best_0 8 rfl rfl)
theorem dX5_best_10 : decode cX5_best 10 = .ok (.ireturn, 1) := dk_172 (dk_at dksX5_best_0 10 rfl rfl)
theorem dX5_best_11 : decode cX5_best 11 = .ok (.iconst (-1), 1) := dk_2 (dk_at dksX5_best_0 11 rfl rfl)
theorem dX5_best_12 : decode cX5_best 12 = .ok (.istore_n 3, 1) := dk_62 (dk_at dksX5_best_0 12 rfl rfl)
theorem dX5_best_13 : decode cX5_best 13 = .ok (.iconst 0, 1) := dk_3 (dk_at dksX5_best_0 13 rfl rfl)
theorem dX5_best_14 : decode cX5_best 14 = .ok (.istore 4, 2) := dk_54 4 (dk_at dksX5_best_0 14 rfl rfl)
theorem dX5_best_16 : decode cX5_best 16 = .ok (.iconst 0, 1) := dk_3 (dk_at dksX5_best_0 16 rfl rfl)
theorem dX5_best_17 : decode cX5_best 17 = .ok (.istore 5, 2) := dk_54 5 (dk_at dksX5_best_0 17 rfl rfl)
theorem dX5_best_19 : decode cX5_best 19 = .ok (.iload 5, 2) := dk_21 5 (dk_at dksX5_best_0 19 rfl rfl)
theorem dX5_best_21 : decode cX5_best 21 = .ok (.aload_n 0, 1) := dk_42 (dk_at dksX5_best_0 21 rfl rfl)
theorem dX5_best_22 : decode cX5_best 22 = .ok (.getfield 224, 3) := dk_180 0 224 (dk_at dksX5_best_1 0 rfl rfl)
theorem dX5_best_25 : decode cX5_best 25 = .ok (.if_icmp .ge 117, 3) := dk_162 0 117 (dk_at dksX5_best_1 3 rfl rfl)
theorem dX5_best_28 : decode cX5_best 28 = .ok (.aload_n 0, 1) := dk_42 (dk_at dksX5_best_1 6 rfl rfl)
theorem dX5_best_29 : decode cX5_best 29 = .ok (.aload_n 0, 1) := dk_42 (dk_at dksX5_best_1 7 rfl rfl)
theorem dX5_best_30 : decode cX5_best 30 = .ok (.getfield 25, 3) := dk_180 0 25 (dk_at dksX5_best_1 8 rfl rfl)
theorem dX5_best_33 : decode cX5_best 33 = .ok (.iload_n 1, 1) := dk_27 (dk_at dksX5_best_1 11 rfl rfl)
theorem dX5_best_34 : decode cX5_best 34 = .ok (.iaload, 1) := dk_46 (dk_at dksX5_best_1 12 rfl rfl)
theorem dX5_best_35 : decode cX5_best 35 = .ok (.aload_n 0, 1) := dk_42 (dk_at dksX5_best_1 13 rfl rfl)
theorem dX5_best_36 : decode cX5_best 36 = .ok (.getfield 87, 3) := dk_180 0 87 (dk_at dksX5_best_1 14 rfl rfl)
theorem dX5_best_39 : decode cX5_best 39 = .ok (.iload 5, 2) := dk_21 5 (dk_at dksX5_best_1 17 rfl rfl)
theorem dX5_best_41 : decode cX5_best 41 = .ok (.iaload, 1) := dk_46 (dk_at dksX5_best_1 19 rfl rfl)
theorem dX5_best_42 : decode cX5_best 42 = .ok (.iload_n 2, 1) := dk_28 (dk_at dksX5_best_1 20 rfl rfl)
theorem dX5_best_43 : decode cX5_best 43 = .ok (.invokevirtual 209, 3) := dk_182 0 209 (dk_at dksX5_best_1 21 rfl rfl)
theorem dX5_best_46 : decode cX5_best 46 = .ok (.aload_n 0, 1) := dk_42 (dk_at dksX5_best_2 0 rfl rfl)
theorem dX5_best_47 : decode cX5_best 47 = .ok (.getfield 171, 3) := dk_180 0 171 (dk_at dksX5_best_2 1 rfl rfl)
theorem dX5_best_50 : decode cX5_best 50 = .ok (.ifCond .le 86, 3) := dk_158 0 86 (dk_at dksX5_best_2 4 rfl rfl)
theorem dX5_best_53 : decode cX5_best 53 = .ok (.iload_n 3, 1) := dk_29 (dk_at dksX5_best_2 7 rfl rfl)
theorem dX5_best_54 : decode cX5_best 54 = .ok (.iconst (-1), 1) := dk_2 (dk_at dksX5_best_2 8 rfl rfl)
theorem dX5_best_55 : decode cX5_best 55 = .ok (.if_icmp .ne 7, 3) := dk_160 0 7 (dk_at dksX5_best_2 9 rfl rfl)
theorem dX5_best_58 : decode cX5_best 58 = .ok (.lconst 1, 1) := dk_10 (dk_at dksX5_best_2 12 rfl rfl)
theorem dX5_best_59 : decode cX5_best 59 = .ok (.goto 11, 3) := dk_167 0 11 (dk_at dksX5_best_2 13 rfl rfl)
theorem dX5_best_62 : decode cX5_best 62 = .ok (.aload_n 0, 1) := dk_42 (dk_at dksX5_best_2 16 rfl rfl)
theorem dX5_best_63 : decode cX5_best 63 = .ok (.getfield 171, 3) := dk_180 0 171 (dk_at dksX5_best_2 17 rfl rfl)
theorem dX5_best_66 : decode cX5_best 66 = .ok (.i2l, 1) := dk_133 (dk_at dksX5_best_2 20 rfl rfl)
theorem dX5_best_67 : decode cX5_best 67 = .ok (.iload_n 3, 1) := dk_29 (dk_at dksX5_best_2 21 rfl rfl)
theorem dX5_best_68 : decode cX5_best 68 = .ok (.i2l, 1) := dk_133 (dk_at dksX5_best_2 22 rfl rfl)
theorem dX5_best_69 : decode cX5_best 69 = .ok (.lmul, 1) := dk_105 (dk_at dksX5_best_2 23 rfl rfl)
theorem dX5_best_70 : decode cX5_best 70 = .ok (.lstore 6, 2) := dk_55 6 (dk_at dksX5_best_3 0 rfl rfl)
theorem dX5_best_72 : decode cX5_best 72 = .ok (.iload_n 3, 1) := dk_29 (dk_at dksX5_best_3 2 rfl rfl)
theorem dX5_best_73 : decode cX5_best 73 = .ok (.iconst (-1), 1) := dk_2 (dk_at dksX5_best_3 3 rfl rfl)
theorem dX5_best_74 : decode cX5_best 74 = .ok (.if_icmp .ne 7, 3) := dk_160 0 7 (dk_at dksX5_best_3 4 rfl rfl)
theorem dX5_best_77 : decode cX5_best 77 = .ok (.lconst 0, 1) := dk_9 (dk_at dksX5_best_3 7 rfl rfl)
theorem dX5_best_78 : decode cX5_best 78 = .ok (.goto 15, 3) := dk_167 0 15 (dk_at dksX5_best_3 8 rfl rfl)
theorem dX5_best_81 : decode cX5_best 81 = .ok (.iload 4, 2) := dk_21 4 (dk_at dksX5_best_3 11 rfl rfl)
theorem dX5_best_83 : decode cX5_best 83 = .ok (.i2l, 1) := dk_133 (dk_at dksX5_best_3 13 rfl rfl)
theorem dX5_best_84 : decode cX5_best 84 = .ok (.aload_n 0, 1) := dk_42 (dk_at dksX5_best_3 14 rfl rfl)
theorem dX5_best_85 : decode cX5_best 85 = .ok (.getfield 87, 3) := dk_180 0 87 (dk_at dksX5_best_3 15 rfl rfl)
theorem dX5_best_88 : decode cX5_best 88 = .ok (.iload 5, 2) := dk_21 5 (dk_at dksX5_best_3 18 rfl rfl)
theorem dX5_best_90 : decode cX5_best 90 = .ok (.iaload, 1) := dk_46 (dk_at dksX5_best_3 20 rfl rfl)
theorem dX5_best_91 : decode cX5_best 91 = .ok (.i2l, 1) := dk_133 (dk_at dksX5_best_3 21 rfl rfl)
theorem dX5_best_92 : decode cX5_best 92 = .ok (.lmul, 1) := dk_105 (dk_at dksX5_best_3 22 rfl rfl)
theorem dX5_best_93 : decode cX5_best 93 = .ok (.lstore 8, 2) := dk_55 8 (dk_at dksX5_best_4 0 rfl rfl)
theorem dX5_best_95 : decode cX5_best 95 = .ok (.lload 6, 2) := dk_22 6 (dk_at dksX5_best_4 2 rfl rfl)
theorem dX5_best_97 : decode cX5_best 97 = .ok (.lload 8, 2) := dk_22 8 (dk_at dksX5_best_4 4 rfl rfl)
theorem dX5_best_99 : decode cX5_best 99 = .ok (.lcmp, 1) := dk_148 (dk_at dksX5_best_4 6 rfl rfl)
theorem dX5_best_100 : decode cX5_best 100 = .ok (.ifCond .gt 22, 3) := dk_157 0 22 (dk_at dksX5_best_4 7 rfl rfl)
theorem dX5_best_103 : decode cX5_best 103 = .ok (.lload 6, 2) := dk_22 6 (dk_at dksX5_best_4 10 rfl rfl)
theorem dX5_best_105 : decode cX5_best 105 = .ok (.lload 8, 2) := dk_22 8 (dk_at dksX5_best_4 12 rfl rfl)
theorem dX5_best_107 : decode cX5_best 107 = .ok (.lcmp, 1) := dk_148 (dk_at dksX5_best_4 14 rfl rfl)
theorem dX5_best_108 : decode cX5_best 108 = .ok (.ifCond .ne 28, 3) := dk_154 0 28 (dk_at dksX5_best_4 15 rfl rfl)
theorem dX5_best_111 : decode cX5_best 111 = .ok (.aload_n 0, 1) := dk_42 (dk_at dksX5_best_4 18 rfl rfl)
theorem dX5_best_112 : decode cX5_best 112 = .ok (.getfield 87, 3) := dk_180 0 87 (dk_at dksX5_best_4 19 rfl rfl)
theorem dX5_best_115 : decode cX5_best 115 = .ok (.iload 5, 2) := dk_21 5 (dk_at dksX5_best_4 22 rfl rfl)
theorem dX5_best_117 : decode cX5_best 117 = .ok (.iaload, 1) := dk_46 (dk_at dksX5_best_5 0 rfl rfl)
theorem dX5_best_118 : decode cX5_best 118 = .ok (.iload_n 3, 1) := dk_29 (dk_at dksX5_best_5 1 rfl rfl)
theorem dX5_best_119 : decode cX5_best 119 = .ok (.if_icmp .ge 17, 3) := dk_162 0 17 (dk_at dksX5_best_5 2 rfl rfl)
theorem dX5_best_122 : decode cX5_best 122 = .ok (.aload_n 0, 1) := dk_42 (dk_at dksX5_best_5 5 rfl rfl)
theorem dX5_best_123 : decode cX5_best 123 = .ok (.getfield 87, 3) := dk_180 0 87 (dk_at dksX5_best_5 6 rfl rfl)
theorem dX5_best_126 : decode cX5_best 126 = .ok (.iload 5, 2) := dk_21 5 (dk_at dksX5_best_5 9 rfl rfl)
theorem dX5_best_128 : decode cX5_best 128 = .ok (.iaload, 1) := dk_46 (dk_at dksX5_best_5 11 rfl rfl)
theorem dX5_best_129 : decode cX5_best 129 = .ok (.istore_n 3, 1) := dk_62 (dk_at dksX5_best_5 12 rfl rfl)
theorem dX5_best_130 : decode cX5_best 130 = .ok (.aload_n 0, 1) := dk_42 (dk_at dksX5_best_5 13 rfl rfl)
theorem dX5_best_131 : decode cX5_best 131 = .ok (.getfield 171, 3) := dk_180 0 171 (dk_at dksX5_best_5 14 rfl rfl)
theorem dX5_best_134 : decode cX5_best 134 = .ok (.istore 4, 2) := dk_54 4 (dk_at dksX5_best_5 17 rfl rfl)
theorem dX5_best_136 : decode cX5_best 136 = .ok (.iinc 5 1, 3) := dk_132 5 1 (dk_at dksX5_best_5 19 rfl rfl)
theorem dX5_best_139 : decode cX5_best 139 = .ok (.goto (-120), 3) := dk_167 255 136 (dk_at dksX5_best_6 0 rfl rfl)
theorem dX5_best_142 : decode cX5_best 142 = .ok (.iload_n 3, 1) := dk_29 (dk_at dksX5_best_6 3 rfl rfl)
theorem dX5_best_143 : decode cX5_best 143 = .ok (.ireturn, 1) := dk_172 (dk_at dksX5_best_6 4 rfl rfl)
abbrev cX5_job : ByteArray := prog_11_method_29_code
def yX5_job : MethodName := ⟨RX5, "job", "(III)I"⟩
def dkwX5_job_3 : List UInt8 := [42, 180, 0, 227, 29, 79, 42, 89, 180, 0, 227, 4, 96, 181, 0, 227, 42, 180, 0, 227, 4, 100, 172]
abbrev dktX5_job_3 : List UInt8 := dkwX5_job_3 ++ []
def dkwX5_job_2 : List UInt8 := [42, 180, 0, 90, 42, 180, 0, 227, 27, 79, 42, 180, 0, 93, 42, 180, 0, 227, 28, 79, 42, 180, 0, 96]
abbrev dktX5_job_2 : List UInt8 := dkwX5_job_2 ++ dktX5_job_3
def dkwX5_job_1 : List UInt8 := [20, 0, 181, 184, 0, 131, 154, 0, 6, 16, 254, 172, 42, 180, 0, 227, 16, 7, 160, 0, 6, 16, 252, 172]
abbrev dktX5_job_1 : List UInt8 := dkwX5_job_1 ++ dktX5_job_2
def dkwX5_job_0 : List UInt8 := [42, 27, 182, 0, 150, 153, 0, 27, 28, 133, 10, 20, 0, 154, 184, 0, 131, 153, 0, 15, 29, 133, 9]
abbrev dktX5_job_0 : List UInt8 := dkwX5_job_0 ++ dktX5_job_1
theorem dksX5_job_0 : cX5_job.data.toList.drop 0 = dktX5_job_0 := by decide +kernel
theorem dksX5_job_1 : cX5_job.data.toList.drop 23 = dktX5_job_1 := dk_seg dksX5_job_0 23 rfl rfl
theorem dksX5_job_2 : cX5_job.data.toList.drop 47 = dktX5_job_2 := dk_seg dksX5_job_1 24 rfl rfl
theorem dksX5_job_3 : cX5_job.data.toList.drop 71 = dktX5_job_3 := dk_seg dksX5_job_2 24 rfl rfl
theorem dX5_job_0 : decode cX5_job 0 = .ok (.aload_n 0, 1) := dk_42 (dk_at dksX5_job_0 0 rfl rfl)
theorem dX5_job_1 : decode cX5_job 1 = .ok (.iload_n 1, 1) := dk_27 (dk_at dksX5_job_0 1 rfl rfl)
theorem dX5_job_2 : decode cX5_job 2 = .ok (.invokevirtual 150, 3) := dk_182 0 150 (dk_at dksX5_job_0 2 rfl rfl)
theorem dX5_job_5 : decode cX5_job 5 = .ok (.ifCond .eq 27, 3) := dk_153 0 27 (dk_at dksX5_job_0 5 rfl rfl)
theorem dX5_job_8 : decode cX5_job 8 = .ok (.iload_n 2, 1) := dk_28 (dk_at dksX5_job_0 8 rfl rfl)
theorem dX5_job_9 : decode cX5_job 9 = .ok (.i2l, 1) := dk_133 (dk_at dksX5_job_0 9 rfl rfl)
theorem dX5_job_10 : decode cX5_job 10 = .ok (.lconst 1, 1) := dk_10 (dk_at dksX5_job_0 10 rfl rfl)
theorem dX5_job_11 : decode cX5_job 11 = .ok (.ldc2_w 154, 3) := dk_20 0 154 (dk_at dksX5_job_0 11 rfl rfl)
theorem dX5_job_14 : decode cX5_job 14 = .ok (.invokestatic 131, 3) := dk_184 0 131 (dk_at dksX5_job_0 14 rfl rfl)
theorem dX5_job_17 : decode cX5_job 17 = .ok (.ifCond .eq 15, 3) := dk_153 0 15 (dk_at dksX5_job_0 17 rfl rfl)
theorem dX5_job_20 : decode cX5_job 20 = .ok (.iload_n 3, 1) := dk_29 (dk_at dksX5_job_0 20 rfl rfl)
theorem dX5_job_21 : decode cX5_job 21 = .ok (.i2l, 1) := dk_133 (dk_at dksX5_job_0 21 rfl rfl)
theorem dX5_job_22 : decode cX5_job 22 = .ok (.lconst 0, 1) := dk_9 (dk_at dksX5_job_0 22 rfl rfl)
theorem dX5_job_23 : decode cX5_job 23 = .ok (.ldc2_w 181, 3) := dk_20 0 181 (dk_at dksX5_job_1 0 rfl rfl)
theorem dX5_job_26 : decode cX5_job 26 = .ok (.invokestatic 131, 3) := dk_184 0 131 (dk_at dksX5_job_1 3 rfl rfl)
theorem dX5_job_29 : decode cX5_job 29 = .ok (.ifCond .ne 6, 3) := dk_154 0 6 (dk_at dksX5_job_1 6 rfl rfl)
theorem dX5_job_32 : decode cX5_job 32 = .ok (.bipush (-2), 2) := dk_16 254 (dk_at dksX5_job_1 9 rfl rfl)
theorem dX5_job_34 : decode cX5_job 34 = .ok (.ireturn, 1) := dk_172 (dk_at dksX5_job_1 11 rfl rfl)
theorem dX5_job_35 : decode cX5_job 35 = .ok (.aload_n 0, 1) := dk_42 (dk_at dksX5_job_1 12 rfl rfl)
theorem dX5_job_36 : decode cX5_job 36 = .ok (.getfield 227, 3) := dk_180 0 227 (dk_at dksX5_job_1 13 rfl rfl)
theorem dX5_job_39 : decode cX5_job 39 = .ok (.bipush 7, 2) := dk_16 7 (dk_at dksX5_job_1 16 rfl rfl)
theorem dX5_job_41 : decode cX5_job 41 = .ok (.if_icmp .ne 6, 3) := dk_160 0 6 (dk_at dksX5_job_1 18 rfl rfl)
theorem dX5_job_44 : decode cX5_job 44 = .ok (.bipush (-4), 2) := dk_16 252 (dk_at dksX5_job_1 21 rfl rfl)
theorem dX5_job_46 : decode cX5_job 46 = .ok (.ireturn, 1) := dk_172 (dk_at dksX5_job_1 23 rfl rfl)
theorem dX5_job_47 : decode cX5_job 47 = .ok (.aload_n 0, 1) := dk_42 (dk_at dksX5_job_2 0 rfl rfl)
theorem dX5_job_48 : decode cX5_job 48 = .ok (.getfield 90, 3) := dk_180 0 90 (dk_at dksX5_job_2 1 rfl rfl)
theorem dX5_job_51 : decode cX5_job 51 = .ok (.aload_n 0, 1) := dk_42 (dk_at dksX5_job_2 4 rfl rfl)
theorem dX5_job_52 : decode cX5_job 52 = .ok (.getfield 227, 3) := dk_180 0 227 (dk_at dksX5_job_2 5 rfl rfl)
theorem dX5_job_55 : decode cX5_job 55 = .ok (.iload_n 1, 1) := dk_27 (dk_at dksX5_job_2 8 rfl rfl)
theorem dX5_job_56 : decode cX5_job 56 = .ok (.iastore, 1) := dk_79 (dk_at dksX5_job_2 9 rfl rfl)
theorem dX5_job_57 : decode cX5_job 57 = .ok (.aload_n 0, 1) := dk_42 (dk_at dksX5_job_2 10 rfl rfl)
theorem dX5_job_58 : decode cX5_job 58 = .ok (.getfield 93, 3) := dk_180 0 93 (dk_at dksX5_job_2 11 rfl rfl)
theorem dX5_job_61 : decode cX5_job 61 = .ok (.aload_n 0, 1) := dk_42 (dk_at dksX5_job_2 14 rfl rfl)
theorem dX5_job_62 : decode cX5_job 62 = .ok (.getfield 227, 3) := dk_180 0 227 (dk_at dksX5_job_2 15 rfl rfl)
theorem dX5_job_65 : decode cX5_job 65 = .ok (.iload_n 2, 1) := dk_28 (dk_at dksX5_job_2 18 rfl rfl)
theorem dX5_job_66 : decode cX5_job 66 = .ok (.iastore, 1) := dk_79 (dk_at dksX5_job_2 19 rfl rfl)
theorem dX5_job_67 : decode cX5_job 67 = .ok (.aload_n 0, 1) := dk_42 (dk_at dksX5_job_2 20 rfl rfl)
theorem dX5_job_68 : decode cX5_job 68 = .ok (.getfield 96, 3) := dk_180 0 96 (dk_at dksX5_job_2 21 rfl rfl)
theorem dX5_job_71 : decode cX5_job 71 = .ok (.aload_n 0, 1) := dk_42 (dk_at dksX5_job_3 0 rfl rfl)
theorem dX5_job_72 : decode cX5_job 72 = .ok (.getfield 227, 3) := dk_180 0 227 (dk_at dksX5_job_3 1 rfl rfl)
theorem dX5_job_75 : decode cX5_job 75 = .ok (.iload_n 3, 1) := dk_29 (dk_at dksX5_job_3 4 rfl rfl)
theorem dX5_job_76 : decode cX5_job 76 = .ok (.iastore, 1) := dk_79 (dk_at dksX5_job_3 5 rfl rfl)
theorem dX5_job_77 : decode cX5_job 77 = .ok (.aload_n 0, 1) := dk_42 (dk_at dksX5_job_3 6 rfl rfl)
theorem dX5_job_78 : decode cX5_job 78 = .ok (.dup, 1) := dk_89 (dk_at dksX5_job_3 7 rfl rfl)
theorem dX5_job_79 : decode cX5_job 79 = .ok (.getfield 227, 3) := dk_180 0 227 (dk_at dksX5_job_3 8 rfl rfl)
theorem dX5_job_82 : decode cX5_job 82 = .ok (.iconst 1, 1) := dk_4 (dk_at dksX5_job_3 11 rfl rfl)
theorem dX5_job_83 : decode cX5_job 83 = .ok (.iadd, 1) := dk_96 (dk_at dksX5_job_3 12 rfl rfl)
theorem dX5_job_84 : decode cX5_job 84 = .ok (.putfield 227, 3) := dk_181 0 227 (dk_at dksX5_job_3 13 rfl rfl)
theorem dX5_job_87 : decode cX5_job 87 = .ok (.aload_n 0, 1) := dk_42 (dk_at dksX5_job_3 16 rfl rfl)
theorem dX5_job_88 : decode cX5_job 88 = .ok (.getfield 227, 3) := dk_180 0 227 (dk_at dksX5_job_3 17 rfl rfl)
theorem dX5_job_91 : decode cX5_job 91 = .ok (.iconst 1, 1) := dk_4 (dk_at dksX5_job_3 20 rfl rfl)
theorem dX5_job_92 : decode cX5_job 92 = .ok (.isub, 1) := dk_100 (dk_at dksX5_job_3 21 rfl rfl)
theorem dX5_job_93 : decode cX5_job 93 = .ok (.ireturn, 1) := dk_172 (dk_at dksX5_job_3 22 rfl rfl)
abbrev cX5_change : ByteArray := prog_11_method_30_code
def yX5_change : MethodName := ⟨RX5, "change", "(I)I"⟩
def dkwX5_change_1 : List UInt8 := [181, 0, 99, 28, 172]
abbrev dktX5_change_1 : List UInt8 := dkwX5_change_1 ++ []
def dkwX5_change_0 : List UInt8 := [27, 133, 9, 20, 0, 169, 184, 0, 131, 154, 0, 6, 16, 254, 172, 42, 180, 0, 99, 61, 42, 27]
abbrev dktX5_change_0 : List UInt8 := dkwX5_change_0 ++ dktX5_change_1
theorem dksX5_change_0 : cX5_change.data.toList.drop 0 = dktX5_change_0 := by decide +kernel
theorem dksX5_change_1 : cX5_change.data.toList.drop 22 = dktX5_change_1 := dk_seg dksX5_change_0 22 rfl rfl
theorem dX5_change_0 : decode cX5_change 0 = .ok (.iload_n 1, 1) := dk_27 (dk_at dksX5_change_0 0 rfl rfl)
theorem dX5_change_1 : decode cX5_change 1 = .ok (.i2l, 1) := dk_133 (dk_at dksX5_change_0 1 rfl rfl)
theorem dX5_change_2 : decode cX5_change 2 = .ok (.lconst 0, 1) := dk_9 (dk_at dksX5_change_0 2 rfl rfl)
theorem dX5_change_3 : decode cX5_change 3 = .ok (.ldc2_w 169, 3) := dk_20 0 169 (dk_at dksX5_change_0 3 rfl rfl)
theorem dX5_change_6 : decode cX5_change 6 = .ok (.invokestatic 131, 3) := dk_184 0 131 (dk_at dksX5_change_0 6 rfl rfl)
theorem dX5_change_9 : decode cX5_change 9 = .ok (.ifCond .ne 6, 3) := dk_154 0 6 (dk_at dksX5_change_0 9 rfl rfl)
theorem dX5_change_12 : decode cX5_change 12 = .ok (.bipush (-2), 2) := dk_16 254 (dk_at dksX5_change_0 12 rfl rfl)
theorem dX5_change_14 : decode cX5_change 14 = .ok (.ireturn, 1) := dk_172 (dk_at dksX5_change_0 14 rfl rfl)
theorem dX5_change_15 : decode cX5_change 15 = .ok (.aload_n 0, 1) := dk_42 (dk_at dksX5_change_0 15 rfl rfl)
theorem dX5_change_16 : decode cX5_change 16 = .ok (.getfield 99, 3) := dk_180 0 99 (dk_at dksX5_change_0 16 rfl rfl)
theorem dX5_change_19 : decode cX5_change 19 = .ok (.istore_n 2, 1) := dk_61 (dk_at dksX5_change_0 19 rfl rfl)
theorem dX5_change_20 : decode cX5_change 20 = .ok (.aload_n 0, 1) := dk_42 (dk_at dksX5_change_0 20 rfl rfl)
theorem dX5_change_21 : decode cX5_change 21 = .ok (.iload_n 1, 1) := dk_27 (dk_at dksX5_change_0 21 rfl rfl)
theorem dX5_change_22 : decode cX5_change 22 = .ok (.putfield 99, 3) := dk_181 0 99 (dk_at dksX5_change_1 0 rfl rfl)
theorem dX5_change_25 : decode cX5_change 25 = .ok (.iload_n 2, 1) := dk_28 (dk_at dksX5_change_1 3 rfl rfl)
theorem dX5_change_26 : decode cX5_change 26 = .ok (.ireturn, 1) := dk_172 (dk_at dksX5_change_1 4 rfl rfl)
abbrev cX5_late : ByteArray := prog_11_method_33_code
def yX5_late : MethodName := ⟨RX5, "late", "()I"⟩
theorem dX5_late_0 : decode cX5_late 0 = .ok (.aload_n 0, 1) := by decide +kernel
theorem dX5_late_1 : decode cX5_late 1 = .ok (.invokevirtual 234, 3) := by decide +kernel
theorem dX5_late_4 : decode cX5_late 4 = .ok (.ireturn, 1) := by decide +kernel
abbrev cX5_findOrder : ByteArray := prog_11_method_32_code
def yX5_findOrder : MethodName := ⟨RX5, "findOrder", "()I"⟩
def dkwX5_findOrder_10 : List UInt8 := [167, 255, 62, 27, 2, 160, 0, 7, 3, 167, 0, 4, 27, 172]
abbrev dktX5_findOrder_10 : List UInt8 := dkwX5_findOrder_10 ++ []
def dkwX5_findOrder_9 : List UInt8 := [180, 0, 105, 21, 6, 42, 180, 0, 102, 21, 6, 46, 79, 132, 6, 1, 167, 255, 230, 42, 182, 0, 230, 62]
abbrev dktX5_findOrder_9 : List UInt8 := dkwX5_findOrder_9 ++ dktX5_findOrder_10
def dkwX5_findOrder_8 : List UInt8 := [162, 0, 41, 21, 5, 60, 21, 4, 61, 3, 54, 6, 21, 6, 42, 180, 0, 227, 162, 0, 23, 42]
abbrev dktX5_findOrder_8 : List UInt8 := dkwX5_findOrder_8 ++ dktX5_findOrder_9
def dkwX5_findOrder_7 : List UInt8 := [167, 255, 144, 27, 2, 159, 0, 21, 21, 5, 27, 161, 0, 15, 21, 5, 27, 160, 0, 47, 21, 4, 28]
abbrev dktX5_findOrder_7 : List UInt8 := dkwX5_findOrder_7 ++ dktX5_findOrder_8
def dkwX5_findOrder_6 : List UInt8 := [46, 164, 0, 16, 21, 4, 42, 180, 0, 96, 21, 7, 46, 100, 167, 0, 4, 3, 96, 54, 5, 132, 6, 1]
abbrev dktX5_findOrder_6 : List UInt8 := dkwX5_findOrder_6 ++ dktX5_findOrder_7
def dkwX5_findOrder_5 : List UInt8 := [54, 4, 21, 4, 42, 180, 0, 93, 21, 7, 46, 96, 54, 4, 21, 5, 21, 4, 42, 180, 0, 96, 21, 7]
abbrev dktX5_findOrder_5 : List UInt8 := dkwX5_findOrder_5 ++ dktX5_findOrder_6
def dkwX5_findOrder_4 : List UInt8 := [180, 0, 90, 42, 180, 0, 102, 21, 6, 4, 100, 46, 46, 46, 159, 0, 12, 21, 4, 42, 180, 0, 99, 96]
abbrev dktX5_findOrder_4 : List UInt8 := dkwX5_findOrder_4 ++ dktX5_findOrder_5
def dkwX5_findOrder_3 : List UInt8 := [21, 6, 158, 0, 46, 42, 180, 0, 13, 42, 180, 0, 90, 21, 7, 46, 46, 42, 180, 0, 13, 42]
abbrev dktX5_findOrder_3 : List UInt8 := dkwX5_findOrder_3 ++ dktX5_findOrder_4
def dkwX5_findOrder_2 : List UInt8 := [54, 5, 3, 54, 6, 21, 6, 42, 180, 0, 227, 162, 0, 109, 42, 180, 0, 102, 21, 6, 46, 54, 7]
abbrev dktX5_findOrder_2 : List UInt8 := dkwX5_findOrder_2 ++ dktX5_findOrder_3
def dkwX5_findOrder_1 : List UInt8 := [60, 3, 61, 42, 180, 0, 227, 158, 0, 7, 4, 167, 0, 4, 3, 62, 29, 153, 0, 196, 3, 54, 4, 3]
abbrev dktX5_findOrder_1 : List UInt8 := dkwX5_findOrder_1 ++ dktX5_findOrder_2
def dkwX5_findOrder_0 : List UInt8 := [3, 60, 27, 42, 180, 0, 227, 162, 0, 16, 42, 180, 0, 102, 27, 27, 79, 132, 1, 1, 167, 255, 238, 2]
abbrev dktX5_findOrder_0 : List UInt8 := dkwX5_findOrder_0 ++ dktX5_findOrder_1
theorem dksX5_findOrder_0 : cX5_findOrder.data.toList.drop 0 = dktX5_findOrder_0 := by decide +kernel
theorem dksX5_findOrder_1 : cX5_findOrder.data.toList.drop 24 = dktX5_findOrder_1 := dk_seg dksX5_findOrder_0 24 rfl rfl
theorem dksX5_findOrder_2 : cX5_findOrder.data.toList.drop 48 = dktX5_findOrder_2 := dk_seg dksX5_findOrder_1 24 rfl rfl
theorem dksX5_findOrder_3 : cX5_findOrder.data.toList.drop 71 = dktX5_findOrder_3 := dk_seg dksX5_findOrder_2 23 rfl rfl
theorem dksX5_findOrder_4 : cX5_findOrder.data.toList.drop 93 = dktX5_findOrder_4 := dk_seg dksX5_findOrder_3 22 rfl rfl
theorem dksX5_findOrder_5 : cX5_findOrder.data.toList.drop 117 = dktX5_findOrder_5 := dk_seg dksX5_findOrder_4 24 rfl rfl
theorem dksX5_findOrder_6 : cX5_findOrder.data.toList.drop 141 = dktX5_findOrder_6 := dk_seg dksX5_findOrder_5 24 rfl rfl
theorem dksX5_findOrder_7 : cX5_findOrder.data.toList.drop 165 = dktX5_findOrder_7 := dk_seg dksX5_findOrder_6 24 rfl rfl
theorem dksX5_findOrder_8 : cX5_findOrder.data.toList.drop 188 = dktX5_findOrder_8 := dk_seg dksX5_findOrder_7 23 rfl rfl
theorem dksX5_findOrder_9 : cX5_findOrder.data.toList.drop 210 = dktX5_findOrder_9 := dk_seg dksX5_findOrder_8 22 rfl rfl
theorem dksX5_findOrder_10 : cX5_findOrder.data.toList.drop 234 = dktX5_findOrder_10 := dk_seg dksX5_findOrder_9 24 rfl rfl
theorem dX5_findOrder_0 : decode cX5_findOrder 0 = .ok (.iconst 0, 1) := dk_3 (dk_at dksX5_findOrder_0 0 rfl rfl)
theorem dX5_findOrder_1 : decode cX5_findOrder 1 = .ok (.istore_n 1, 1) := dk_60 (dk_at dksX5_findOrder_0 1 rfl rfl)
theorem dX5_findOrder_2 : decode cX5_findOrder 2 = .ok (.iload_n 1, 1) := dk_27 (dk_at dksX5_findOrder_0 2 rfl rfl)
theorem dX5_findOrder_3 : decode cX5_findOrder 3 = .ok (.aload_n 0, 1) := dk_42 (dk_at dksX5_findOrder_0 3 rfl rfl)
theorem dX5_findOrder_4 : decode cX5_findOrder 4 = .ok (.getfield 227, 3) := dk_180 0 227 (dk_at dksX5_findOrder_0 4 rfl rfl)
theorem dX5_findOrder_7 : decode cX5_findOrder 7 = .ok (.if_icmp .ge 16, 3) := dk_162 0 16 (dk_at dksX5_findOrder_0 7 rfl rfl)
theorem dX5_findOrder_10 : decode cX5_findOrder 10 = .ok (.aload_n 0, 1) := dk_42 (dk_at dksX5_findOrder_0 10 rfl rfl)
theorem dX5_findOrder_11 : decode cX5_findOrder 11 = .ok (.getfield 102, 3) := dk_180 0 102 (dk_at dksX5_findOrder_0 11 rfl rfl)
theorem dX5_findOrder_14 : decode cX5_findOrder 14 = .ok (.iload_n 1, 1) := dk_27 (dk_at dksX5_findOrder_0 14 rfl rfl)
theorem dX5_findOrder_15 : decode cX5_findOrder 15 = .ok (.iload_n 1, 1) := dk_27 (dk_at dksX5_findOrder_0 15 rfl rfl)
theorem dX5_findOrder_16 : decode cX5_findOrder 16 = .ok (.iastore, 1) := dk_79 (dk_at dksX5_findOrder_0 16 rfl rfl)
theorem dX5_findOrder_17 : decode cX5_findOrder 17 = .ok (.iinc 1 1, 3) := dk_132 1 1 (dk_at dksX5_findOrder_0 17 rfl rfl)
theorem dX5_findOrder_20 : decode cX5_findOrder 20 = .ok (.goto (-18), 3) := dk_167 255 238 (dk_at dksX5_findOrder_0 20 rfl rfl)
theorem dX5_findOrder_23 : decode cX5_findOrder 23 = .ok (.iconst (-1), 1) := dk_2 (dk_at dksX5_findOrder_0 23 rfl rfl)
theorem dX5_findOrder_24 : decode cX5_findOrder 24 = .ok (.istore_n 1, 1) := dk_60 (dk_at dksX5_findOrder_1 0 rfl rfl)
theorem dX5_findOrder_25 : decode cX5_findOrder 25 = .ok (.iconst 0, 1) := dk_3 (dk_at dksX5_findOrder_1 1 rfl rfl)
theorem dX5_findOrder_26 : decode cX5_findOrder 26 = .ok (.istore_n 2, 1) := dk_61 (dk_at dksX5_findOrder_1 2 rfl rfl)
theorem dX5_findOrder_27 : decode cX5_findOrder 27 = .ok (.aload_n 0, 1) := dk_42 (dk_at dksX5_findOrder_1 3 rfl rfl)
theorem dX5_findOrder_28 : decode cX5_findOrder 28 = .ok (.getfield 227, 3) := dk_180 0 227 (dk_at dksX5_findOrder_1 4 rfl rfl)
theorem dX5_findOrder_31 : decode cX5_findOrder 31 = .ok (.ifCond .le 7, 3) := dk_158 0 7 (dk_at dksX5_findOrder_1 7 rfl rfl)
theorem dX5_findOrder_34 : decode cX5_findOrder 34 = .ok (.iconst 1, 1) := dk_4 (dk_at dksX5_findOrder_1 10 rfl rfl)
theorem dX5_findOrder_35 : decode cX5_findOrder 35 = .ok (.goto 4, 3) := dk_167 0 4 (dk_at dksX5_findOrder_1 11 rfl rfl)
theorem dX5_findOrder_38 : decode cX5_findOrder 38 = .ok (.iconst 0, 1) := dk_3 (dk_at dksX5_findOrder_1 14 rfl rfl)
theorem dX5_findOrder_39 : decode cX5_findOrder 39 = .ok (.istore_n 3, 1) := dk_62 (dk_at dksX5_findOrder_1 15 rfl rfl)
theorem dX5_findOrder_40 : decode cX5_findOrder 40 = .ok (.iload_n 3, 1) := dk_29 (dk_at dksX5_findOrder_1 16 rfl rfl)
theorem dX5_findOrder_41 : decode cX5_findOrder 41 = .ok (.ifCond .eq 196, 3) := dk_153 0 196 (dk_at dksX5_findOrder_1 17 rfl rfl)
theorem dX5_findOrder_44 : decode cX5_findOrder 44 = .ok (.iconst 0, 1) := dk_3 (dk_at dksX5_findOrder_1 20 rfl rfl)
theorem dX5_findOrder_45 : decode cX5_findOrder 45 = .ok (.istore 4, 2) := dk_54 4 (dk_at dksX5_findOrder_1 21 rfl rfl)
theorem dX5_findOrder_47 : decode cX5_findOrder 47 = .ok (.iconst 0, 1) := dk_3 (dk_at dksX5_findOrder_1 23 rfl rfl)
theorem dX5_findOrder_48 : decode cX5_findOrder 48 = .ok (.istore 5, 2) := dk_54 5 (dk_at dksX5_findOrder_2 0 rfl rfl)
theorem dX5_findOrder_50 : decode cX5_findOrder 50 = .ok (.iconst 0, 1) := dk_3 (dk_at dksX5_findOrder_2 2 rfl rfl)
theorem dX5_findOrder_51 : decode cX5_findOrder 51 = .ok (.istore 6, 2) := dk_54 6 (dk_at dksX5_findOrder_2 3 rfl rfl)
theorem dX5_findOrder_53 : decode cX5_findOrder 53 = .ok (.iload 6, 2) := dk_21 6 (dk_at dksX5_findOrder_2 5 rfl rfl)
theorem dX5_findOrder_55 : decode cX5_findOrder 55 = .ok (.aload_n 0, 1) := dk_42 (dk_at dksX5_findOrder_2 7 rfl rfl)
theorem dX5_findOrder_56 : decode cX5_findOrder 56 = .ok (.getfield 227, 3) := dk_180 0 227 (dk_at dksX5_findOrder_2 8 rfl rfl)
theorem dX5_findOrder_59 : decode cX5_findOrder 59 = .ok (.if_icmp .ge 109, 3) := dk_162 0 109 (dk_at dksX5_findOrder_2 11 rfl rfl)
theorem dX5_findOrder_62 : decode cX5_findOrder 62 = .ok (.aload_n 0, 1) := dk_42 (dk_at dksX5_findOrder_2 14 rfl rfl)
theorem dX5_findOrder_63 : decode cX5_findOrder 63 = .ok (.getfield 102, 3) := dk_180 0 102 (dk_at dksX5_findOrder_2 15 rfl rfl)
theorem dX5_findOrder_66 : decode cX5_findOrder 66 = .ok (.iload 6, 2) := dk_21 6 (dk_at dksX5_findOrder_2 18 rfl rfl)
theorem dX5_findOrder_68 : decode cX5_findOrder 68 = .ok (.iaload, 1) := dk_46 (dk_at dksX5_findOrder_2 20 rfl rfl)
theorem dX5_findOrder_69 : decode cX5_findOrder 69 = .ok (.istore 7, 2) := dk_54 7 (dk_at dksX5_findOrder_2 21 rfl rfl)
theorem dX5_findOrder_71 : decode cX5_findOrder 71 = .ok (.iload 6, 2) := dk_21 6 (dk_at dksX5_findOrder_3 0 rfl rfl)
theorem dX5_findOrder_73 : decode cX5_findOrder 73 = .ok (.ifCond .le 46, 3) := dk_158 0 46 (dk_at dksX5_findOrder_3 2 rfl rfl)
theorem dX5_findOrder_76 : decode cX5_findOrder 76 = .ok (.aload_n 0, 1) := dk_42 (dk_at dksX5_findOrder_3 5 rfl rfl)
theorem dX5_findOrder_77 : decode cX5_findOrder 77 = .ok (.getfield 13, 3) := dk_180 0 13 (dk_at dksX5_findOrder_3 6 rfl rfl)
theorem dX5_findOrder_80 : decode cX5_findOrder 80 = .ok (.aload_n 0, 1) := dk_42 (dk_at dksX5_findOrder_3 9 rfl rfl)
theorem dX5_findOrder_81 : decode cX5_findOrder 81 = .ok (.getfield 90, 3) := dk_180 0 90 (dk_at dksX5_findOrder_3 10 rfl rfl)
theorem dX5_findOrder_84 : decode cX5_findOrder 84 = .ok (.iload 7, 2) := dk_21 7 (dk_at dksX5_findOrder_3 13 rfl rfl)
theorem dX5_findOrder_86 : decode cX5_findOrder 86 = .ok (.iaload, 1) := dk_46 (dk_at dksX5_findOrder_3 15 rfl rfl)
theorem dX5_findOrder_87 : decode cX5_findOrder 87 = .ok (.iaload, 1) := dk_46 (dk_at dksX5_findOrder_3 16 rfl rfl)
theorem dX5_findOrder_88 : decode cX5_findOrder 88 = .ok (.aload_n 0, 1) := dk_42 (dk_at dksX5_findOrder_3 17 rfl rfl)
theorem dX5_findOrder_89 : decode cX5_findOrder 89 = .ok (.getfield 13, 3) := dk_180 0 13 (dk_at dksX5_findOrder_3 18 rfl rfl)
theorem dX5_findOrder_92 : decode cX5_findOrder 92 = .ok (.aload_n 0, 1) := dk_42 (dk_at dksX5_findOrder_3 21 rfl rfl)
theorem dX5_findOrder_93 : decode cX5_findOrder 93 = .ok (.getfield 90, 3) := dk_180 0 90 (dk_at dksX5_findOrder_4 0 rfl rfl)
theorem dX5_findOrder_96 : decode cX5_findOrder 96 = .ok (.aload_n 0, 1) := dk_42 (dk_at dksX5_findOrder_4 3 rfl rfl)
theorem dX5_findOrder_97 : decode cX5_findOrder 97 = .ok (.getfield 102, 3) := dk_180 0 102 (dk_at dksX5_findOrder_4 4 rfl rfl)
theorem dX5_findOrder_100 : decode cX5_findOrder 100 = .ok (.iload 6, 2) := dk_21 6 (dk_at dksX5_findOrder_4 7 rfl rfl)
theorem dX5_findOrder_102 : decode cX5_findOrder 102 = .ok (.iconst 1, 1) := dk_4 (dk_at dksX5_findOrder_4 9 rfl rfl)
theorem dX5_findOrder_103 : decode cX5_findOrder 103 = .ok (.isub, 1) := dk_100 (dk_at dksX5_findOrder_4 10 rfl rfl)
theorem dX5_findOrder_104 : decode cX5_findOrder 104 = .ok (.iaload, 1) := dk_46 (dk_at dksX5_findOrder_4 11 rfl rfl)
theorem dX5_findOrder_105 : decode cX5_findOrder 105 = .ok (.iaload, 1) := dk_46 (dk_at dksX5_findOrder_4 12 rfl rfl)
theorem dX5_findOrder_106 : decode cX5_findOrder 106 = .ok (.iaload, 1) := dk_46 (dk_at dksX5_findOrder_4 13 rfl rfl)
theorem dX5_findOrder_107 : decode cX5_findOrder 107 = .ok (.if_icmp .eq 12, 3) := dk_159 0 12 (dk_at dksX5_findOrder_4 14 rfl rfl)
theorem dX5_findOrder_110 : decode cX5_findOrder 110 = .ok (.iload 4, 2) := dk_21 4 (dk_at dksX5_findOrder_4 17 rfl rfl)
theorem dX5_findOrder_112 : decode cX5_findOrder 112 = .ok (.aload_n 0, 1) := dk_42 (dk_at dksX5_findOrder_4 19 rfl rfl)
theorem dX5_findOrder_113 : decode cX5_findOrder 113 = .ok (.getfield 99, 3) := dk_180 0 99 (dk_at dksX5_findOrder_4 20 rfl rfl)
theorem dX5_findOrder_116 : decode cX5_findOrder 116 = .ok (.iadd, 1) := dk_96 (dk_at dksX5_findOrder_4 23 rfl rfl)
theorem dX5_findOrder_117 : decode cX5_findOrder 117 = .ok (.istore 4, 2) := dk_54 4 (dk_at dksX5_findOrder_5 0 rfl rfl)
theorem dX5_findOrder_119 : decode cX5_findOrder 119 = .ok (.iload 4, 2) := dk_21 4 (dk_at dksX5_findOrder_5 2 rfl rfl)
theorem dX5_findOrder_121 : decode cX5_findOrder 121 = .ok (.aload_n 0, 1) := dk_42 (dk_at dksX5_findOrder_5 4 rfl rfl)
theorem dX5_findOrder_122 : decode cX5_findOrder 122 = .ok (.getfield 93, 3) := dk_180 0 93 (dk_at dksX5_findOrder_5 5 rfl rfl)
theorem dX5_findOrder_125 : decode cX5_findOrder 125 = .ok (.iload 7, 2) := dk_21 7 (dk_at dksX5_findOrder_5 8 rfl rfl)
theorem dX5_findOrder_127 : decode cX5_findOrder 127 = .ok (.iaload, 1) := dk_46 (dk_at dksX5_findOrder_5 10 rfl rfl)
theorem dX5_findOrder_128 : decode cX5_findOrder 128 = .ok (.iadd, 1) := dk_96 (dk_at dksX5_findOrder_5 11 rfl rfl)
theorem dX5_findOrder_129 : decode cX5_findOrder 129 = .ok (.istore 4, 2) := dk_54 4 (dk_at dksX5_findOrder_5 12 rfl rfl)
theorem dX5_findOrder_131 : decode cX5_findOrder 131 = .ok (.iload 5, 2) := dk_21 5 (dk_at dksX5_findOrder_5 14 rfl rfl)
theorem dX5_findOrder_133 : decode cX5_findOrder 133 = .ok (.iload 4, 2) := dk_21 4 (dk_at dksX5_findOrder_5 16 rfl rfl)
theorem dX5_findOrder_135 : decode cX5_findOrder 135 = .ok (.aload_n 0, 1) := dk_42 (dk_at dksX5_findOrder_5 18 rfl rfl)
theorem dX5_findOrder_136 : decode cX5_findOrder 136 = .ok (.getfield 96, 3) := dk_180 0 96 (dk_at dksX5_findOrder_5 19 rfl rfl)
theorem dX5_findOrder_139 : decode cX5_findOrder 139 = .ok (.iload 7, 2) := dk_21 7 (dk_at dksX5_findOrder_5 22 rfl rfl)
theorem dX5_findOrder_141 : decode cX5_findOrder 141 = .ok (.iaload, 1) := dk_46 (dk_at dksX5_findOrder_6 0 rfl rfl)
theorem dX5_findOrder_142 : decode cX5_findOrder 142 = .ok (.if_icmp .le 16, 3) := dk_164 0 16 (dk_at dksX5_findOrder_6 1 rfl rfl)
theorem dX5_findOrder_145 : decode cX5_findOrder 145 = .ok (.iload 4, 2) := dk_21 4 (dk_at dksX5_findOrder_6 4 rfl rfl)
theorem dX5_findOrder_147 : decode cX5_findOrder 147 = .ok (.aload_n 0, 1) := dk_42 (dk_at dksX5_findOrder_6 6 rfl rfl)
theorem dX5_findOrder_148 : decode cX5_findOrder 148 = .ok (.getfield 96, 3) := dk_180 0 96 (dk_at dksX5_findOrder_6 7 rfl rfl)
theorem dX5_findOrder_151 : decode cX5_findOrder 151 = .ok (.iload 7, 2) := dk_21 7 (dk_at dksX5_findOrder_6 10 rfl rfl)
theorem dX5_findOrder_153 : decode cX5_findOrder 153 = .ok (.iaload, 1) := dk_46 (dk_at dksX5_findOrder_6 12 rfl rfl)
theorem dX5_findOrder_154 : decode cX5_findOrder 154 = .ok (.isub, 1) := dk_100 (dk_at dksX5_findOrder_6 13 rfl rfl)
theorem dX5_findOrder_155 : decode cX5_findOrder 155 = .ok (.goto 4, 3) := dk_167 0 4 (dk_at dksX5_findOrder_6 14 rfl rfl)
theorem dX5_findOrder_158 : decode cX5_findOrder 158 = .ok (.iconst 0, 1) := dk_3 (dk_at dksX5_findOrder_6 17 rfl rfl)
theorem dX5_findOrder_159 : decode cX5_findOrder 159 = .ok (.iadd, 1) := dk_96 (dk_at dksX5_findOrder_6 18 rfl rfl)
theorem dX5_findOrder_160 : decode cX5_findOrder 160 = .ok (.istore 5, 2) := dk_54 5 (dk_at dksX5_findOrder_6 19 rfl rfl)
theorem dX5_findOrder_162 : decode cX5_findOrder 162 = .ok (.iinc 6 1, 3) := dk_132 6 1 (dk_at dksX5_findOrder_6 21 rfl rfl)
theorem dX5_findOrder_165 : decode cX5_findOrder 165 = .ok (.goto (-112), 3) := dk_167 255 144 (dk_at dksX5_findOrder_7 0 rfl rfl)
theorem dX5_findOrder_168 : decode cX5_findOrder 168 = .ok (.iload_n 1, 1) := dk_27 (dk_at dksX5_findOrder_7 3 rfl rfl)
theorem dX5_findOrder_169 : decode cX5_findOrder 169 = .ok (.iconst (-1), 1) := dk_2 (dk_at dksX5_findOrder_7 4 rfl rfl)
theorem dX5_findOrder_170 : decode cX5_findOrder 170 = .ok (.if_icmp .eq 21, 3) := dk_159 0 21 (dk_at dksX5_findOrder_7 5 rfl rfl)
theorem dX5_findOrder_173 : decode cX5_findOrder 173 = .ok (.iload 5, 2) := dk_21 5 (dk_at dksX5_findOrder_7 8 rfl rfl)
theorem dX5_findOrder_175 : decode cX5_findOrder 175 = .ok (.iload_n 1, 1) := dk_27 (dk_at dksX5_findOrder_7 10 rfl rfl)
theorem dX5_findOrder_176 : decode cX5_findOrder 176 = .ok (.if_icmp .lt 15, 3) := dk_161 0 15 (dk_at dksX5_findOrder_7 11 rfl rfl)
theorem dX5_findOrder_179 : decode cX5_findOrder 179 = .ok (.iload 5, 2) := dk_21 5 (dk_at dksX5_findOrder_7 14 rfl rfl)
theorem dX5_findOrder_181 : decode cX5_findOrder 181 = .ok (.iload_n 1, 1) := dk_27 (dk_at dksX5_findOrder_7 16 rfl rfl)
theorem dX5_findOrder_182 : decode cX5_findOrder 182 = .ok (.if_icmp .ne 47, 3) := dk_160 0 47 (dk_at dksX5_findOrder_7 17 rfl rfl)
theorem dX5_findOrder_185 : decode cX5_findOrder 185 = .ok (.iload 4, 2) := dk_21 4 (dk_at dksX5_findOrder_7 20 rfl rfl)
theorem dX5_findOrder_187 : decode cX5_findOrder 187 = .ok (.iload_n 2, 1) := dk_28 (dk_at dksX5_findOrder_7 22 rfl rfl)
theorem dX5_findOrder_188 : decode cX5_findOrder 188 = .ok (.if_icmp .ge 41, 3) := dk_162 0 41 (dk_at dksX5_findOrder_8 0 rfl rfl)
theorem dX5_findOrder_191 : decode cX5_findOrder 191 = .ok (.iload 5, 2) := dk_21 5 (dk_at dksX5_findOrder_8 3 rfl rfl)
theorem dX5_findOrder_193 : decode cX5_findOrder 193 = .ok (.istore_n 1, 1) := dk_60 (dk_at dksX5_findOrder_8 5 rfl rfl)
theorem dX5_findOrder_194 : decode cX5_findOrder 194 = .ok (.iload 4, 2) := dk_21 4 (dk_at dksX5_findOrder_8 6 rfl rfl)
theorem dX5_findOrder_196 : decode cX5_findOrder 196 = .ok (.istore_n 2, 1) := dk_61 (dk_at dksX5_findOrder_8 8 rfl rfl)
theorem dX5_findOrder_197 : decode cX5_findOrder 197 = .ok (.iconst 0, 1) := dk_3 (dk_at dksX5_findOrder_8 9 rfl rfl)
theorem dX5_findOrder_198 : decode cX5_findOrder 198 = .ok (.istore 6, 2) := dk_54 6 (dk_at dksX5_findOrder_8 10 rfl rfl)
theorem dX5_findOrder_200 : decode cX5_findOrder 200 = .ok (.iload 6, 2) := dk_21 6 (dk_at dksX5_findOrder_8 12 rfl rfl)
theorem dX5_findOrder_202 : decode cX5_findOrder 202 = .ok (.aload_n 0, 1) := dk_42 (dk_at dksX5_findOrder_8 14 rfl rfl)
theorem dX5_findOrder_203 : decode cX5_findOrder 203 = .ok (.getfield 227, 3) := dk_180 0 227 (dk_at dksX5_findOrder_8 15 rfl rfl)
theorem dX5_findOrder_206 : decode cX5_findOrder 206 = .ok (.if_icmp .ge 23, 3) := dk_162 0 23 (dk_at dksX5_findOrder_8 18 rfl rfl)
theorem dX5_findOrder_209 : decode cX5_findOrder 209 = .ok (.aload_n 0, 1) := dk_42 (dk_at dksX5_findOrder_8 21 rfl rfl)
theorem dX5_findOrder_210 : decode cX5_findOrder 210 = .ok (.getfield 105, 3) := dk_180 0 105 (dk_at dksX5_findOrder_9 0 rfl rfl)
theorem dX5_findOrder_213 : decode cX5_findOrder 213 = .ok (.iload 6, 2) := dk_21 6 (dk_at dksX5_findOrder_9 3 rfl rfl)
theorem dX5_findOrder_215 : decode cX5_findOrder 215 = .ok (.aload_n 0, 1) := dk_42 (dk_at dksX5_findOrder_9 5 rfl rfl)
theorem dX5_findOrder_216 : decode cX5_findOrder 216 = .ok (.getfield 102, 3) := dk_180 0 102 (dk_at dksX5_findOrder_9 6 rfl rfl)
theorem dX5_findOrder_219 : decode cX5_findOrder 219 = .ok (.iload 6, 2) := dk_21 6 (dk_at dksX5_findOrder_9 9 rfl rfl)
theorem dX5_findOrder_221 : decode cX5_findOrder 221 = .ok (.iaload, 1) := dk_46 (dk_at dksX5_findOrder_9 11 rfl rfl)
theorem dX5_findOrder_222 : decode cX5_findOrder 222 = .ok (.iastore, 1) := dk_79 (dk_at dksX5_findOrder_9 12 rfl rfl)
theorem dX5_findOrder_223 : decode cX5_findOrder 223 = .ok (.iinc 6 1, 3) := dk_132 6 1 (dk_at dksX5_findOrder_9 13 rfl rfl)
theorem dX5_findOrder_226 : decode cX5_findOrder 226 = .ok (.goto (-26), 3) := dk_167 255 230 (dk_at dksX5_findOrder_9 16 rfl rfl)
theorem dX5_findOrder_229 : decode cX5_findOrder 229 = .ok (.aload_n 0, 1) := dk_42 (dk_at dksX5_findOrder_9 19 rfl rfl)
theorem dX5_findOrder_230 : decode cX5_findOrder 230 = .ok (.invokevirtual 230, 3) := dk_182 0 230 (dk_at dksX5_findOrder_9 20 rfl rfl)
theorem dX5_findOrder_233 : decode cX5_findOrder 233 = .ok (.istore_n 3, 1) := dk_62 (dk_at dksX5_findOrder_9 23 rfl rfl)
theorem dX5_findOrder_234 : decode cX5_findOrder 234 = .ok (.goto (-194), 3) := dk_167 255 62 (dk_at dksX5_findOrder_10 0 rfl rfl)
theorem dX5_findOrder_237 : decode cX5_findOrder 237 = .ok (.iload_n 1, 1) := dk_27 (dk_at dksX5_findOrder_10 3 rfl rfl)
theorem dX5_findOrder_238 : decode cX5_findOrder 238 = .ok (.iconst (-1), 1) := dk_2 (dk_at dksX5_findOrder_10 4 rfl rfl)
theorem dX5_findOrder_239 : decode cX5_findOrder 239 = .ok (.if_icmp .ne 7, 3) := dk_160 0 7 (dk_at dksX5_findOrder_10 5 rfl rfl)
theorem dX5_findOrder_242 : decode cX5_findOrder 242 = .ok (.iconst 0, 1) := dk_3 (dk_at dksX5_findOrder_10 8 rfl rfl)
theorem dX5_findOrder_243 : decode cX5_findOrder 243 = .ok (.goto 4, 3) := dk_167 0 4 (dk_at dksX5_findOrder_10 9 rfl rfl)
theorem dX5_findOrder_246 : decode cX5_findOrder 246 = .ok (.iload_n 1, 1) := dk_27 (dk_at dksX5_findOrder_10 12 rfl rfl)
theorem dX5_findOrder_247 : decode cX5_findOrder 247 = .ok (.ireturn, 1) := dk_172 (dk_at dksX5_findOrder_10 13 rfl rfl)
abbrev cX5_nextRow : ByteArray := prog_11_method_31_code
def yX5_nextRow : MethodName := ⟨RX5, "nextRow", "()Z"⟩
def dkwX5_nextRow_6 : List UInt8 := [132, 4, 1, 132, 5, 255, 167, 255, 213, 4, 172]
abbrev dktX5_nextRow_6 : List UInt8 := dkwX5_nextRow_6 ++ []
def dkwX5_nextRow_5 : List UInt8 := [46, 62, 42, 180, 0, 102, 21, 4, 42, 180, 0, 102, 21, 5, 46, 79, 42, 180, 0, 102, 21, 5, 29, 79]
abbrev dktX5_nextRow_5 : List UInt8 := dkwX5_nextRow_5 ++ dktX5_nextRow_6
def dkwX5_nextRow_4 : List UInt8 := [96, 54, 4, 42, 180, 0, 227, 4, 100, 54, 5, 21, 4, 21, 5, 162, 0, 42, 42, 180, 0, 102, 21, 4]
abbrev dktX5_nextRow_4 : List UInt8 := dkwX5_nextRow_4 ++ dktX5_nextRow_5
def dkwX5_nextRow_3 : List UInt8 := [27, 46, 62, 42, 180, 0, 102, 27, 42, 180, 0, 102, 28, 46, 79, 42, 180, 0, 102, 28, 29, 79, 27, 4]
abbrev dktX5_nextRow_3 : List UInt8 := dkwX5_nextRow_3 ++ dktX5_nextRow_4
def dkwX5_nextRow_2 : List UInt8 := [180, 0, 102, 28, 46, 42, 180, 0, 102, 27, 46, 162, 0, 9, 132, 2, 255, 167, 255, 238, 42, 180, 0, 102]
abbrev dktX5_nextRow_2 : List UInt8 := dkwX5_nextRow_2 ++ dktX5_nextRow_3
def dkwX5_nextRow_1 : List UInt8 := [46, 164, 0, 9, 132, 1, 255, 167, 255, 232, 27, 156, 0, 5, 3, 172, 42, 180, 0, 227, 4, 100, 61, 42]
abbrev dktX5_nextRow_1 : List UInt8 := dkwX5_nextRow_1 ++ dktX5_nextRow_2
def dkwX5_nextRow_0 : List UInt8 := [42, 180, 0, 227, 5, 100, 60, 27, 155, 0, 26, 42, 180, 0, 102, 27, 46, 42, 180, 0, 102, 27, 4, 96]
abbrev dktX5_nextRow_0 : List UInt8 := dkwX5_nextRow_0 ++ dktX5_nextRow_1
theorem dksX5_nextRow_0 : cX5_nextRow.data.toList.drop 0 = dktX5_nextRow_0 := by decide +kernel
theorem dksX5_nextRow_1 : cX5_nextRow.data.toList.drop 24 = dktX5_nextRow_1 := dk_seg dksX5_nextRow_0 24 rfl rfl
theorem dksX5_nextRow_2 : cX5_nextRow.data.toList.drop 48 = dktX5_nextRow_2 := dk_seg dksX5_nextRow_1 24 rfl rfl
theorem dksX5_nextRow_3 : cX5_nextRow.data.toList.drop 72 = dktX5_nextRow_3 := dk_seg dksX5_nextRow_2 24 rfl rfl
theorem dksX5_nextRow_4 : cX5_nextRow.data.toList.drop 96 = dktX5_nextRow_4 := dk_seg dksX5_nextRow_3 24 rfl rfl
theorem dksX5_nextRow_5 : cX5_nextRow.data.toList.drop 120 = dktX5_nextRow_5 := dk_seg dksX5_nextRow_4 24 rfl rfl
theorem dksX5_nextRow_6 : cX5_nextRow.data.toList.drop 144 = dktX5_nextRow_6 := dk_seg dksX5_nextRow_5 24 rfl rfl
theorem dX5_nextRow_0 : decode cX5_nextRow 0 = .ok (.aload_n 0, 1) := dk_42 (dk_at dksX5_nextRow_0 0 rfl rfl)
theorem dX5_nextRow_1 : decode cX5_nextRow 1 = .ok (.getfield 227, 3) := dk_180 0 227 (dk_at dksX5_nextRow_0 1 rfl rfl)
theorem dX5_nextRow_4 : decode cX5_nextRow 4 = .ok (.iconst 2, 1) := dk_5 (dk_at dksX5_nextRow_0 4 rfl rfl)
theorem dX5_nextRow_5 : decode cX5_nextRow 5 = .ok (.isub, 1) := dk_100 (dk_at dksX5_nextRow_0 5 rfl rfl)
theorem dX5_nextRow_6 : decode cX5_nextRow 6 = .ok (.istore_n 1, 1) := dk_60 (dk_at dksX5_nextRow_0 6 rfl rfl)
theorem dX5_nextRow_7 : decode cX5_nextRow 7 = .ok (.iload_n 1, 1) := dk_27 (dk_at dksX5_nextRow_0 7 rfl rfl)
theorem dX5_nextRow_8 : decode cX5_nextRow 8 = .ok (.ifCond .lt 26, 3) := dk_155 0 26 (dk_at dksX5_nextRow_0 8 rfl rfl)
theorem dX5_nextRow_11 : decode cX5_nextRow 11 = .ok (.aload_n 0, 1) := dk_42 (dk_at dksX5_nextRow_0 11 rfl rfl)
theorem dX5_nextRow_12 : decode cX5_nextRow 12 = .ok (.getfield 102, 3) := dk_180 0 102 (dk_at dksX5_nextRow_0 12 rfl rfl)
theorem dX5_nextRow_15 : decode cX5_nextRow 15 = .ok (.iload_n 1, 1) := dk_27 (dk_at dksX5_nextRow_0 15 rfl rfl)
theorem dX5_nextRow_16 : decode cX5_nextRow 16 = .ok (.iaload, 1) := dk_46 (dk_at dksX5_nextRow_0 16 rfl rfl)
theorem dX5_nextRow_17 : decode cX5_nextRow 17 = .ok (.aload_n 0, 1) := dk_42 (dk_at dksX5_nextRow_0 17 rfl rfl)
theorem dX5_nextRow_18 : decode cX5_nextRow 18 = .ok (.getfield 102, 3) := dk_180 0 102 (dk_at dksX5_nextRow_0 18 rfl rfl)
theorem dX5_nextRow_21 : decode cX5_nextRow 21 = .ok (.iload_n 1, 1) := dk_27 (dk_at dksX5_nextRow_0 21 rfl rfl)
theorem dX5_nextRow_22 : decode cX5_nextRow 22 = .ok (.iconst 1, 1) := dk_4 (dk_at dksX5_nextRow_0 22 rfl rfl)
theorem dX5_nextRow_23 : decode cX5_nextRow 23 = .ok (.iadd, 1) := dk_96 (dk_at dksX5_nextRow_0 23 rfl rfl)
theorem dX5_nextRow_24 : decode cX5_nextRow 24 = .ok (.iaload, 1) := dk_46 (dk_at dksX5_nextRow_1 0 rfl rfl)
theorem dX5_nextRow_25 : decode cX5_nextRow 25 = .ok (.if_icmp .le 9, 3) := dk_164 0 9 (dk_at dksX5_nextRow_1 1 rfl rfl)
theorem dX5_nextRow_28 : decode cX5_nextRow 28 = .ok (.iinc 1 (-1), 3) := dk_132 1 255 (dk_at dksX5_nextRow_1 4 rfl rfl)
theorem dX5_nextRow_31 : decode cX5_nextRow 31 = .ok (.goto (-24), 3) := dk_167 255 232 (dk_at dksX5_nextRow_1 7 rfl rfl)
theorem dX5_nextRow_34 : decode cX5_nextRow 34 = .ok (.iload_n 1, 1) := dk_27 (dk_at dksX5_nextRow_1 10 rfl rfl)
theorem dX5_nextRow_35 : decode cX5_nextRow 35 = .ok (.ifCond .ge 5, 3) := dk_156 0 5 (dk_at dksX5_nextRow_1 11 rfl rfl)
theorem dX5_nextRow_38 : decode cX5_nextRow 38 = .ok (.iconst 0, 1) := dk_3 (dk_at dksX5_nextRow_1 14 rfl rfl)
theorem dX5_nextRow_39 : decode cX5_nextRow 39 = .ok (.ireturn, 1) := dk_172 (dk_at dksX5_nextRow_1 15 rfl rfl)
theorem dX5_nextRow_40 : decode cX5_nextRow 40 = .ok (.aload_n 0, 1) := dk_42 (dk_at dksX5_nextRow_1 16 rfl rfl)
theorem dX5_nextRow_41 : decode cX5_nextRow 41 = .ok (.getfield 227, 3) := dk_180 0 227 (dk_at dksX5_nextRow_1 17 rfl rfl)
theorem dX5_nextRow_44 : decode cX5_nextRow 44 = .ok (.iconst 1, 1) := dk_4 (dk_at dksX5_nextRow_1 20 rfl rfl)
theorem dX5_nextRow_45 : decode cX5_nextRow 45 = .ok (.isub, 1) := dk_100 (dk_at dksX5_nextRow_1 21 rfl rfl)
theorem dX5_nextRow_46 : decode cX5_nextRow 46 = .ok (.istore_n 2, 1) := dk_61 (dk_at dksX5_nextRow_1 22 rfl rfl)
theorem dX5_nextRow_47 : decode cX5_nextRow 47 = .ok (.aload_n 0, 1) := dk_42 (dk_at dksX5_nextRow_1 23 rfl rfl)
theorem dX5_nextRow_48 : decode cX5_nextRow 48 = .ok (.getfield 102, 3) := dk_180 0 102 (dk_at dksX5_nextRow_2 0 rfl rfl)
theorem dX5_nextRow_51 : decode cX5_nextRow 51 = .ok (.iload_n 2, 1) := dk_28 (dk_at dksX5_nextRow_2 3 rfl rfl)
theorem dX5_nextRow_52 : decode cX5_nextRow 52 = .ok (.iaload, 1) := dk_46 (dk_at dksX5_nextRow_2 4 rfl rfl)
theorem dX5_nextRow_53 : decode cX5_nextRow 53 = .ok (.aload_n 0, 1) := dk_42 (dk_at dksX5_nextRow_2 5 rfl rfl)
theorem dX5_nextRow_54 : decode cX5_nextRow 54 = .ok (.getfield 102, 3) := dk_180 0 102 (dk_at dksX5_nextRow_2 6 rfl rfl)
theorem dX5_nextRow_57 : decode cX5_nextRow 57 = .ok (.iload_n 1, 1) := dk_27 (dk_at dksX5_nextRow_2 9 rfl rfl)
theorem dX5_nextRow_58 : decode cX5_nextRow 58 = .ok (.iaload, 1) := dk_46 (dk_at dksX5_nextRow_2 10 rfl rfl)
theorem dX5_nextRow_59 : decode cX5_nextRow 59 = .ok (.if_icmp .ge 9, 3) := dk_162 0 9 (dk_at dksX5_nextRow_2 11 rfl rfl)
theorem dX5_nextRow_62 : decode cX5_nextRow 62 = .ok (.iinc 2 (-1), 3) := dk_132 2 255 (dk_at dksX5_nextRow_2 14 rfl rfl)
theorem dX5_nextRow_65 : decode cX5_nextRow 65 = .ok (.goto (-18), 3) := dk_167 255 238 (dk_at dksX5_nextRow_2 17 rfl rfl)
theorem dX5_nextRow_68 : decode cX5_nextRow 68 = .ok (.aload_n 0, 1) := dk_42 (dk_at dksX5_nextRow_2 20 rfl rfl)
theorem dX5_nextRow_69 : decode cX5_nextRow 69 = .ok (.getfield 102, 3) := dk_180 0 102 (dk_at dksX5_nextRow_2 21 rfl rfl)
theorem dX5_nextRow_72 : decode cX5_nextRow 72 = .ok (.iload_n 1, 1) := dk_27 (dk_at dksX5_nextRow_3 0 rfl rfl)
theorem dX5_nextRow_73 : decode cX5_nextRow 73 = .ok (.iaload, 1) := dk_46 (dk_at dksX5_nextRow_3 1 rfl rfl)
theorem dX5_nextRow_74 : decode cX5_nextRow 74 = .ok (.istore_n 3, 1) := dk_62 (dk_at dksX5_nextRow_3 2 rfl rfl)
theorem dX5_nextRow_75 : decode cX5_nextRow 75 = .ok (.aload_n 0, 1) := dk_42 (dk_at dksX5_nextRow_3 3 rfl rfl)
theorem dX5_nextRow_76 : decode cX5_nextRow 76 = .ok (.getfield 102, 3) := dk_180 0 102 (dk_at dksX5_nextRow_3 4 rfl rfl)
theorem dX5_nextRow_79 : decode cX5_nextRow 79 = .ok (.iload_n 1, 1) := dk_27 (dk_at dksX5_nextRow_3 7 rfl rfl)
theorem dX5_nextRow_80 : decode cX5_nextRow 80 = .ok (.aload_n 0, 1) := dk_42 (dk_at dksX5_nextRow_3 8 rfl rfl)
theorem dX5_nextRow_81 : decode cX5_nextRow 81 = .ok (.getfield 102, 3) := dk_180 0 102 (dk_at dksX5_nextRow_3 9 rfl rfl)
theorem dX5_nextRow_84 : decode cX5_nextRow 84 = .ok (.iload_n 2, 1) := dk_28 (dk_at dksX5_nextRow_3 12 rfl rfl)
theorem dX5_nextRow_85 : decode cX5_nextRow 85 = .ok (.iaload, 1) := dk_46 (dk_at dksX5_nextRow_3 13 rfl rfl)
theorem dX5_nextRow_86 : decode cX5_nextRow 86 = .ok (.iastore, 1) := dk_79 (dk_at dksX5_nextRow_3 14 rfl rfl)
theorem dX5_nextRow_87 : decode cX5_nextRow 87 = .ok (.aload_n 0, 1) := dk_42 (dk_at dksX5_nextRow_3 15 rfl rfl)
theorem dX5_nextRow_88 : decode cX5_nextRow 88 = .ok (.getfield 102, 3) := dk_180 0 102 (dk_at dksX5_nextRow_3 16 rfl rfl)
theorem dX5_nextRow_91 : decode cX5_nextRow 91 = .ok (.iload_n 2, 1) := dk_28 (dk_at dksX5_nextRow_3 19 rfl rfl)
theorem dX5_nextRow_92 : decode cX5_nextRow 92 = .ok (.iload_n 3, 1) := dk_29 (dk_at dksX5_nextRow_3 20 rfl rfl)
theorem dX5_nextRow_93 : decode cX5_nextRow 93 = .ok (.iastore, 1) := dk_79 (dk_at dksX5_nextRow_3 21 rfl rfl)
theorem dX5_nextRow_94 : decode cX5_nextRow 94 = .ok (.iload_n 1, 1) := dk_27 (dk_at dksX5_nextRow_3 22 rfl rfl)
theorem dX5_nextRow_95 : decode cX5_nextRow 95 = .ok (.iconst 1, 1) := dk_4 (dk_at dksX5_nextRow_3 23 rfl rfl)
theorem dX5_nextRow_96 : decode cX5_nextRow 96 = .ok (.iadd, 1) := dk_96 (dk_at dksX5_nextRow_4 0 rfl rfl)
theorem dX5_nextRow_97 : decode cX5_nextRow 97 = .ok (.istore 4, 2) := dk_54 4 (dk_at dksX5_nextRow_4 1 rfl rfl)
theorem dX5_nextRow_99 : decode cX5_nextRow 99 = .ok (.aload_n 0, 1) := dk_42 (dk_at dksX5_nextRow_4 3 rfl rfl)
theorem dX5_nextRow_100 : decode cX5_nextRow 100 = .ok (.getfield 227, 3) := dk_180 0 227 (dk_at dksX5_nextRow_4 4 rfl rfl)
theorem dX5_nextRow_103 : decode cX5_nextRow 103 = .ok (.iconst 1, 1) := dk_4 (dk_at dksX5_nextRow_4 7 rfl rfl)
theorem dX5_nextRow_104 : decode cX5_nextRow 104 = .ok (.isub, 1) := dk_100 (dk_at dksX5_nextRow_4 8 rfl rfl)
theorem dX5_nextRow_105 : decode cX5_nextRow 105 = .ok (.istore 5, 2) := dk_54 5 (dk_at dksX5_nextRow_4 9 rfl rfl)
theorem dX5_nextRow_107 : decode cX5_nextRow 107 = .ok (.iload 4, 2) := dk_21 4 (dk_at dksX5_nextRow_4 11 rfl rfl)
theorem dX5_nextRow_109 : decode cX5_nextRow 109 = .ok (.iload 5, 2) := dk_21 5 (dk_at dksX5_nextRow_4 13 rfl rfl)
theorem dX5_nextRow_111 : decode cX5_nextRow 111 = .ok (.if_icmp .ge 42, 3) := dk_162 0 42 (dk_at dksX5_nextRow_4 15 rfl rfl)
theorem dX5_nextRow_114 : decode cX5_nextRow 114 = .ok (.aload_n 0, 1) := dk_42 (dk_at dksX5_nextRow_4 18 rfl rfl)
theorem dX5_nextRow_115 : decode cX5_nextRow 115 = .ok (.getfield 102, 3) := dk_180 0 102 (dk_at dksX5_nextRow_4 19 rfl rfl)
theorem dX5_nextRow_118 : decode cX5_nextRow 118 = .ok (.iload 4, 2) := dk_21 4 (dk_at dksX5_nextRow_4 22 rfl rfl)
theorem dX5_nextRow_120 : decode cX5_nextRow 120 = .ok (.iaload, 1) := dk_46 (dk_at dksX5_nextRow_5 0 rfl rfl)
theorem dX5_nextRow_121 : decode cX5_nextRow 121 = .ok (.istore_n 3, 1) := dk_62 (dk_at dksX5_nextRow_5 1 rfl rfl)
theorem dX5_nextRow_122 : decode cX5_nextRow 122 = .ok (.aload_n 0, 1) := dk_42 (dk_at dksX5_nextRow_5 2 rfl rfl)
theorem dX5_nextRow_123 : decode cX5_nextRow 123 = .ok (.getfield 102, 3) := dk_180 0 102 (dk_at dksX5_nextRow_5 3 rfl rfl)
theorem dX5_nextRow_126 : decode cX5_nextRow 126 = .ok (.iload 4, 2) := dk_21 4 (dk_at dksX5_nextRow_5 6 rfl rfl)
theorem dX5_nextRow_128 : decode cX5_nextRow 128 = .ok (.aload_n 0, 1) := dk_42 (dk_at dksX5_nextRow_5 8 rfl rfl)
theorem dX5_nextRow_129 : decode cX5_nextRow 129 = .ok (.getfield 102, 3) := dk_180 0 102 (dk_at dksX5_nextRow_5 9 rfl rfl)
theorem dX5_nextRow_132 : decode cX5_nextRow 132 = .ok (.iload 5, 2) := dk_21 5 (dk_at dksX5_nextRow_5 12 rfl rfl)
theorem dX5_nextRow_134 : decode cX5_nextRow 134 = .ok (.iaload, 1) := dk_46 (dk_at dksX5_nextRow_5 14 rfl rfl)
theorem dX5_nextRow_135 : decode cX5_nextRow 135 = .ok (.iastore, 1) := dk_79 (dk_at dksX5_nextRow_5 15 rfl rfl)
theorem dX5_nextRow_136 : decode cX5_nextRow 136 = .ok (.aload_n 0, 1) := dk_42 (dk_at dksX5_nextRow_5 16 rfl rfl)
theorem dX5_nextRow_137 : decode cX5_nextRow 137 = .ok (.getfield 102, 3) := dk_180 0 102 (dk_at dksX5_nextRow_5 17 rfl rfl)
theorem dX5_nextRow_140 : decode cX5_nextRow 140 = .ok (.iload 5, 2) := dk_21 5 (dk_at dksX5_nextRow_5 20 rfl rfl)
theorem dX5_nextRow_142 : decode cX5_nextRow 142 = .ok (.iload_n 3, 1) := dk_29 (dk_at dksX5_nextRow_5 22 rfl rfl)
theorem dX5_nextRow_143 : decode cX5_nextRow 143 = .ok (.iastore, 1) := dk_79 (dk_at dksX5_nextRow_5 23 rfl rfl)
theorem dX5_nextRow_144 : decode cX5_nextRow 144 = .ok (.iinc 4 1, 3) := dk_132 4 1 (dk_at dksX5_nextRow_6 0 rfl rfl)
theorem dX5_nextRow_147 : decode cX5_nextRow 147 = .ok (.iinc 5 (-1), 3) := dk_132 5 255 (dk_at dksX5_nextRow_6 3 rfl rfl)
theorem dX5_nextRow_150 : decode cX5_nextRow 150 = .ok (.goto (-43), 3) := dk_167 255 213 (dk_at dksX5_nextRow_6 6 rfl rfl)
theorem dX5_nextRow_153 : decode cX5_nextRow 153 = .ok (.iconst 1, 1) := dk_4 (dk_at dksX5_nextRow_6 9 rfl rfl)
theorem dX5_nextRow_154 : decode cX5_nextRow 154 = .ok (.ireturn, 1) := dk_172 (dk_at dksX5_nextRow_6 10 rfl rfl)
abbrev cX5_planned : ByteArray := prog_11_method_34_code
def yX5_planned : MethodName := ⟨RX5, "planned", "(I)I"⟩
def dkwX5_planned_1 : List UInt8 := [42, 180, 0, 105, 27, 46, 172]
abbrev dktX5_planned_1 : List UInt8 := dkwX5_planned_1 ++ []
def dkwX5_planned_0 : List UInt8 := [27, 133, 9, 42, 180, 0, 227, 4, 100, 133, 184, 0, 131, 154, 0, 6, 16, 254, 172, 42, 182, 0, 234, 61]
abbrev dktX5_planned_0 : List UInt8 := dkwX5_planned_0 ++ dktX5_planned_1
theorem dksX5_planned_0 : cX5_planned.data.toList.drop 0 = dktX5_planned_0 := by decide +kernel
theorem dksX5_planned_1 : cX5_planned.data.toList.drop 24 = dktX5_planned_1 := dk_seg dksX5_planned_0 24 rfl rfl
theorem dX5_planned_0 : decode cX5_planned 0 = .ok (.iload_n 1, 1) := dk_27 (dk_at dksX5_planned_0 0 rfl rfl)
theorem dX5_planned_1 : decode cX5_planned 1 = .ok (.i2l, 1) := dk_133 (dk_at dksX5_planned_0 1 rfl rfl)
theorem dX5_planned_2 : decode cX5_planned 2 = .ok (.lconst 0, 1) := dk_9 (dk_at dksX5_planned_0 2 rfl rfl)
theorem dX5_planned_3 : decode cX5_planned 3 = .ok (.aload_n 0, 1) := dk_42 (dk_at dksX5_planned_0 3 rfl rfl)
theorem dX5_planned_4 : decode cX5_planned 4 = .ok (.getfield 227, 3) := dk_180 0 227 (dk_at dksX5_planned_0 4 rfl rfl)
theorem dX5_planned_7 : decode cX5_planned 7 = .ok (.iconst 1, 1) := dk_4 (dk_at dksX5_planned_0 7 rfl rfl)
theorem dX5_planned_8 : decode cX5_planned 8 = .ok (.isub, 1) := dk_100 (dk_at dksX5_planned_0 8 rfl rfl)
theorem dX5_planned_9 : decode cX5_planned 9 = .ok (.i2l, 1) := dk_133 (dk_at dksX5_planned_0 9 rfl rfl)
theorem dX5_planned_10 : decode cX5_planned 10 = .ok (.invokestatic 131, 3) := dk_184 0 131 (dk_at dksX5_planned_0 10 rfl rfl)
theorem dX5_planned_13 : decode cX5_planned 13 = .ok (.ifCond .ne 6, 3) := dk_154 0 6 (dk_at dksX5_planned_0 13 rfl rfl)
theorem dX5_planned_16 : decode cX5_planned 16 = .ok (.bipush (-2), 2) := dk_16 254 (dk_at dksX5_planned_0 16 rfl rfl)
theorem dX5_planned_18 : decode cX5_planned 18 = .ok (.ireturn, 1) := dk_172 (dk_at dksX5_planned_0 18 rfl rfl)
theorem dX5_planned_19 : decode cX5_planned 19 = .ok (.aload_n 0, 1) := dk_42 (dk_at dksX5_planned_0 19 rfl rfl)
theorem dX5_planned_20 : decode cX5_planned 20 = .ok (.invokevirtual 234, 3) := dk_182 0 234 (dk_at dksX5_planned_0 20 rfl rfl)
theorem dX5_planned_23 : decode cX5_planned 23 = .ok (.istore_n 2, 1) := dk_61 (dk_at dksX5_planned_0 23 rfl rfl)
theorem dX5_planned_24 : decode cX5_planned 24 = .ok (.aload_n 0, 1) := dk_42 (dk_at dksX5_planned_1 0 rfl rfl)
theorem dX5_planned_25 : decode cX5_planned 25 = .ok (.getfield 105, 3) := dk_180 0 105 (dk_at dksX5_planned_1 1 rfl rfl)
theorem dX5_planned_28 : decode cX5_planned 28 = .ok (.iload_n 1, 1) := dk_27 (dk_at dksX5_planned_1 4 rfl rfl)
theorem dX5_planned_29 : decode cX5_planned 29 = .ok (.iaload, 1) := dk_46 (dk_at dksX5_planned_1 5 rfl rfl)
theorem dX5_planned_30 : decode cX5_planned 30 = .ok (.ireturn, 1) := dk_172 (dk_at dksX5_planned_1 6 rfl rfl)
abbrev cX5_room : ByteArray := prog_11_method_35_code
def yX5_room : MethodName := ⟨RX5, "room", "(I)I"⟩
def dkwX5_room_1 : List UInt8 := [181, 0, 109, 28, 172]
abbrev dktX5_room_1 : List UInt8 := dkwX5_room_1 ++ []
def dkwX5_room_0 : List UInt8 := [27, 133, 20, 0, 181, 20, 0, 238, 184, 0, 131, 154, 0, 6, 16, 254, 172, 42, 180, 0, 109, 61, 42, 27]
abbrev dktX5_room_0 : List UInt8 := dkwX5_room_0 ++ dktX5_room_1
theorem dksX5_room_0 : cX5_room.data.toList.drop 0 = dktX5_room_0 := by decide +kernel
theorem dksX5_room_1 : cX5_room.data.toList.drop 24 = dktX5_room_1 := dk_seg dksX5_room_0 24 rfl rfl
theorem dX5_room_0 : decode cX5_room 0 = .ok (.iload_n 1, 1) := dk_27 (dk_at dksX5_room_0 0 rfl rfl)
theorem dX5_room_1 : decode cX5_room 1 = .ok (.i2l, 1) := dk_133 (dk_at dksX5_room_0 1 rfl rfl)
theorem dX5_room_2 : decode cX5_room 2 = .ok (.ldc2_w 181, 3) := dk_20 0 181 (dk_at dksX5_room_0 2 rfl rfl)
theorem dX5_room_5 : decode cX5_room 5 = .ok (.ldc2_w 238, 3) := dk_20 0 238 (dk_at dksX5_room_0 5 rfl rfl)
theorem dX5_room_8 : decode cX5_room 8 = .ok (.invokestatic 131, 3) := dk_184 0 131 (dk_at dksX5_room_0 8 rfl rfl)
theorem dX5_room_11 : decode cX5_room 11 = .ok (.ifCond .ne 6, 3) := dk_154 0 6 (dk_at dksX5_room_0 11 rfl rfl)
theorem dX5_room_14 : decode cX5_room 14 = .ok (.bipush (-2), 2) := dk_16 254 (dk_at dksX5_room_0 14 rfl rfl)
theorem dX5_room_16 : decode cX5_room 16 = .ok (.ireturn, 1) := dk_172 (dk_at dksX5_room_0 16 rfl rfl)
theorem dX5_room_17 : decode cX5_room 17 = .ok (.aload_n 0, 1) := dk_42 (dk_at dksX5_room_0 17 rfl rfl)
theorem dX5_room_18 : decode cX5_room 18 = .ok (.getfield 109, 3) := dk_180 0 109 (dk_at dksX5_room_0 18 rfl rfl)
theorem dX5_room_21 : decode cX5_room 21 = .ok (.istore_n 2, 1) := dk_61 (dk_at dksX5_room_0 21 rfl rfl)
theorem dX5_room_22 : decode cX5_room 22 = .ok (.aload_n 0, 1) := dk_42 (dk_at dksX5_room_0 22 rfl rfl)
theorem dX5_room_23 : decode cX5_room 23 = .ok (.iload_n 1, 1) := dk_27 (dk_at dksX5_room_0 23 rfl rfl)
theorem dX5_room_24 : decode cX5_room 24 = .ok (.putfield 109, 3) := dk_181 0 109 (dk_at dksX5_room_1 0 rfl rfl)
theorem dX5_room_27 : decode cX5_room 27 = .ok (.iload_n 2, 1) := dk_28 (dk_at dksX5_room_1 3 rfl rfl)
theorem dX5_room_28 : decode cX5_room 28 = .ok (.ireturn, 1) := dk_172 (dk_at dksX5_room_1 4 rfl rfl)
abbrev cX5_age : ByteArray := prog_11_method_39_code
def yX5_age : MethodName := ⟨RX5, "age", "()I"⟩
def dkwX5_age_3 : List UInt8 := [172]
abbrev dktX5_age_3 : List UInt8 := dkwX5_age_3 ++ []
def dkwX5_age_2 : List UInt8 := [42, 180, 0, 58, 28, 46, 79, 132, 2, 1, 167, 255, 217, 42, 89, 180, 0, 249, 4, 96, 181, 0, 249, 27]
abbrev dktX5_age_2 : List UInt8 := dkwX5_age_2 ++ dktX5_age_3
def dkwX5_age_1 : List UInt8 := [162, 0, 37, 42, 180, 0, 58, 28, 42, 180, 0, 112, 28, 51, 153, 0, 10, 42, 180, 0, 249, 167, 0, 9]
abbrev dktX5_age_1 : List UInt8 := dkwX5_age_1 ++ dktX5_age_2
def dkwX5_age_0 : List UInt8 := [42, 182, 0, 243, 42, 182, 0, 246, 60, 27, 154, 0, 6, 16, 253, 172, 3, 61, 28, 42, 180, 0, 206]
abbrev dktX5_age_0 : List UInt8 := dkwX5_age_0 ++ dktX5_age_1
theorem dksX5_age_0 : cX5_age.data.toList.drop 0 = dktX5_age_0 := by decide +kernel
theorem dksX5_age_1 : cX5_age.data.toList.drop 23 = dktX5_age_1 := dk_seg dksX5_age_0 23 rfl rfl
theorem dksX5_age_2 : cX5_age.data.toList.drop 47 = dktX5_age_2 := dk_seg dksX5_age_1 24 rfl rfl
theorem dksX5_age_3 : cX5_age.data.toList.drop 71 = dktX5_age_3 := dk_seg dksX5_age_2 24 rfl rfl
theorem dX5_age_0 : decode cX5_age 0 = .ok (.aload_n 0, 1) := dk_42 (dk_at dksX5_age_0 0 rfl rfl)
theorem dX5_age_1 : decode cX5_age 1 = .ok (.invokevirtual 243, 3) := dk_182 0 243 (dk_at dksX5_age_0 1 rfl rfl)
theorem dX5_age_4 : decode cX5_age 4 = .ok (.aload_n 0, 1) := dk_42 (dk_at dksX5_age_0 4 rfl rfl)
theorem dX5_age_5 : decode cX5_age 5 = .ok (.invokevirtual 246, 3) := dk_182 0 246 (dk_at dksX5_age_0 5 rfl rfl)
theorem dX5_age_8 : decode cX5_age 8 = .ok (.istore_n 1, 1) := dk_60 (dk_at dksX5_age_0 8 rfl rfl)
theorem dX5_age_9 : decode cX5_age 9 = .ok (.iload_n 1, 1) := dk_27 (dk_at dksX5_age_0 9 rfl rfl)
theorem dX5_age_10 : decode cX5_age 10 = .ok (.ifCond .ne 6, 3) := dk_154 0 6 (dk_at dksX5_age_0 10 rfl rfl)
theorem dX5_age_13 : decode cX5_age 13 = .ok (.bipush (-3), 2) := dk_16 253 (dk_at dksX5_age_0 13 rfl rfl)
theorem dX5_age_15 : decode cX5_age 15 = .ok (.ireturn, 1) := dk_172 (dk_at dksX5_age_0 15 rfl rfl)
theorem dX5_age_16 : decode cX5_age 16 = .ok (.iconst 0, 1) := dk_3 (dk_at dksX5_age_0 16 rfl rfl)
theorem dX5_age_17 : decode cX5_age 17 = .ok (.istore_n 2, 1) := dk_61 (dk_at dksX5_age_0 17 rfl rfl)
theorem dX5_age_18 : decode cX5_age 18 = .ok (.iload_n 2, 1) := dk_28 (dk_at dksX5_age_0 18 rfl rfl)
theorem dX5_age_19 : decode cX5_age 19 = .ok (.aload_n 0, 1) := dk_42 (dk_at dksX5_age_0 19 rfl rfl)
theorem dX5_age_20 : decode cX5_age 20 = .ok (.getfield 206, 3) := dk_180 0 206 (dk_at dksX5_age_0 20 rfl rfl)
theorem dX5_age_23 : decode cX5_age 23 = .ok (.if_icmp .ge 37, 3) := dk_162 0 37 (dk_at dksX5_age_1 0 rfl rfl)
theorem dX5_age_26 : decode cX5_age 26 = .ok (.aload_n 0, 1) := dk_42 (dk_at dksX5_age_1 3 rfl rfl)
theorem dX5_age_27 : decode cX5_age 27 = .ok (.getfield 58, 3) := dk_180 0 58 (dk_at dksX5_age_1 4 rfl rfl)
theorem dX5_age_30 : decode cX5_age 30 = .ok (.iload_n 2, 1) := dk_28 (dk_at dksX5_age_1 7 rfl rfl)
theorem dX5_age_31 : decode cX5_age 31 = .ok (.aload_n 0, 1) := dk_42 (dk_at dksX5_age_1 8 rfl rfl)
theorem dX5_age_32 : decode cX5_age 32 = .ok (.getfield 112, 3) := dk_180 0 112 (dk_at dksX5_age_1 9 rfl rfl)
theorem dX5_age_35 : decode cX5_age 35 = .ok (.iload_n 2, 1) := dk_28 (dk_at dksX5_age_1 12 rfl rfl)
theorem dX5_age_36 : decode cX5_age 36 = .ok (.baload, 1) := dk_51 (dk_at dksX5_age_1 13 rfl rfl)
theorem dX5_age_37 : decode cX5_age 37 = .ok (.ifCond .eq 10, 3) := dk_153 0 10 (dk_at dksX5_age_1 14 rfl rfl)
theorem dX5_age_40 : decode cX5_age 40 = .ok (.aload_n 0, 1) := dk_42 (dk_at dksX5_age_1 17 rfl rfl)
theorem dX5_age_41 : decode cX5_age 41 = .ok (.getfield 249, 3) := dk_180 0 249 (dk_at dksX5_age_1 18 rfl rfl)
theorem dX5_age_44 : decode cX5_age 44 = .ok (.goto 9, 3) := dk_167 0 9 (dk_at dksX5_age_1 21 rfl rfl)
theorem dX5_age_47 : decode cX5_age 47 = .ok (.aload_n 0, 1) := dk_42 (dk_at dksX5_age_2 0 rfl rfl)
theorem dX5_age_48 : decode cX5_age 48 = .ok (.getfield 58, 3) := dk_180 0 58 (dk_at dksX5_age_2 1 rfl rfl)
theorem dX5_age_51 : decode cX5_age 51 = .ok (.iload_n 2, 1) := dk_28 (dk_at dksX5_age_2 4 rfl rfl)
theorem dX5_age_52 : decode cX5_age 52 = .ok (.iaload, 1) := dk_46 (dk_at dksX5_age_2 5 rfl rfl)
theorem dX5_age_53 : decode cX5_age 53 = .ok (.iastore, 1) := dk_79 (dk_at dksX5_age_2 6 rfl rfl)
theorem dX5_age_54 : decode cX5_age 54 = .ok (.iinc 2 1, 3) := dk_132 2 1 (dk_at dksX5_age_2 7 rfl rfl)
theorem dX5_age_57 : decode cX5_age 57 = .ok (.goto (-39), 3) := dk_167 255 217 (dk_at dksX5_age_2 10 rfl rfl)
theorem dX5_age_60 : decode cX5_age 60 = .ok (.aload_n 0, 1) := dk_42 (dk_at dksX5_age_2 13 rfl rfl)
theorem dX5_age_61 : decode cX5_age 61 = .ok (.dup, 1) := dk_89 (dk_at dksX5_age_2 14 rfl rfl)
theorem dX5_age_62 : decode cX5_age 62 = .ok (.getfield 249, 3) := dk_180 0 249 (dk_at dksX5_age_2 15 rfl rfl)
theorem dX5_age_65 : decode cX5_age 65 = .ok (.iconst 1, 1) := dk_4 (dk_at dksX5_age_2 18 rfl rfl)
theorem dX5_age_66 : decode cX5_age 66 = .ok (.iadd, 1) := dk_96 (dk_at dksX5_age_2 19 rfl rfl)
theorem dX5_age_67 : decode cX5_age 67 = .ok (.putfield 249, 3) := dk_181 0 249 (dk_at dksX5_age_2 20 rfl rfl)
theorem dX5_age_70 : decode cX5_age 70 = .ok (.iload_n 1, 1) := dk_27 (dk_at dksX5_age_2 23 rfl rfl)
theorem dX5_age_71 : decode cX5_age 71 = .ok (.ireturn, 1) := dk_172 (dk_at dksX5_age_3 0 rfl rfl)
abbrev cX5_noneGone : ByteArray := prog_11_method_37_code
def yX5_noneGone : MethodName := ⟨RX5, "noneGone", "()V"⟩
def dkwX5_noneGone_0 : List UInt8 := [3, 60, 27, 17, 0, 200, 162, 0, 16, 42, 180, 0, 112, 27, 3, 84, 132, 1, 1, 167, 255, 239, 177]
abbrev dktX5_noneGone_0 : List UInt8 := dkwX5_noneGone_0 ++ []
theorem dksX5_noneGone_0 : cX5_noneGone.data.toList.drop 0 = dktX5_noneGone_0 := by decide +kernel
theorem dX5_noneGone_0 : decode cX5_noneGone 0 = .ok (.iconst 0, 1) := dk_3 (dk_at dksX5_noneGone_0 0 rfl rfl)
theorem dX5_noneGone_1 : decode cX5_noneGone 1 = .ok (.istore_n 1, 1) := dk_60 (dk_at dksX5_noneGone_0 1 rfl rfl)
theorem dX5_noneGone_2 : decode cX5_noneGone 2 = .ok (.iload_n 1, 1) := dk_27 (dk_at dksX5_noneGone_0 2 rfl rfl)
theorem dX5_noneGone_3 : decode cX5_noneGone 3 = .ok (.sipush 200, 3) := dk_17 0 200 (dk_at dksX5_noneGone_0 3 rfl rfl)
theorem dX5_noneGone_6 : decode cX5_noneGone 6 = .ok (.if_icmp .ge 16, 3) := dk_162 0 16 (dk_at dksX5_noneGone_0 6 rfl rfl)
theorem dX5_noneGone_9 : decode cX5_noneGone 9 = .ok (.aload_n 0, 1) := dk_42 (dk_at dksX5_noneGone_0 9 rfl rfl)
theorem dX5_noneGone_10 : decode cX5_noneGone 10 = .ok (.getfield 112, 3) := dk_180 0 112 (dk_at dksX5_noneGone_0 10 rfl rfl)
theorem dX5_noneGone_13 : decode cX5_noneGone 13 = .ok (.iload_n 1, 1) := dk_27 (dk_at dksX5_noneGone_0 13 rfl rfl)
theorem dX5_noneGone_14 : decode cX5_noneGone 14 = .ok (.iconst 0, 1) := dk_3 (dk_at dksX5_noneGone_0 14 rfl rfl)
theorem dX5_noneGone_15 : decode cX5_noneGone 15 = .ok (.bastore, 1) := dk_84 (dk_at dksX5_noneGone_0 15 rfl rfl)
theorem dX5_noneGone_16 : decode cX5_noneGone 16 = .ok (.iinc 1 1, 3) := dk_132 1 1 (dk_at dksX5_noneGone_0 16 rfl rfl)
theorem dX5_noneGone_19 : decode cX5_noneGone 19 = .ok (.goto (-17), 3) := dk_167 255 239 (dk_at dksX5_noneGone_0 19 rfl rfl)
theorem dX5_noneGone_22 : decode cX5_noneGone 22 = .ok (.return_, 1) := dk_177 (dk_at dksX5_noneGone_0 22 rfl rfl)
abbrev cX5_takes : ByteArray := prog_11_method_38_code
def yX5_takes : MethodName := ⟨RX5, "takes", "()I"⟩
def dkwX5_takes_7 : List UInt8 := [132, 2, 1, 132, 5, 1, 167, 255, 141, 28, 172]
abbrev dktX5_takes_7 : List UInt8 := dkwX5_takes_7 ++ []
def dkwX5_takes_6 : List UInt8 := [21, 4, 153, 0, 24, 42, 180, 0, 112, 21, 5, 4, 84, 29, 42, 180, 0, 49, 21, 5, 46, 96, 62]
abbrev dktX5_takes_6 : List UInt8 := dkwX5_takes_6 ++ dktX5_takes_7
def dkwX5_takes_5 : List UInt8 := [29, 42, 180, 0, 49, 21, 5, 46, 96, 42, 180, 0, 109, 163, 0, 7, 4, 167, 0, 4, 3, 54, 4]
abbrev dktX5_takes_5 : List UInt8 := dkwX5_takes_5 ++ dktX5_takes_6
def dkwX5_takes_4 : List UInt8 := [46, 42, 180, 0, 19, 42, 180, 0, 25, 42, 180, 0, 40, 27, 46, 46, 46, 160, 0, 56, 28, 153, 0, 19]
abbrev dktX5_takes_4 : List UInt8 := dkwX5_takes_4 ++ dktX5_takes_5
def dkwX5_takes_3 : List UInt8 := [21, 5, 182, 0, 240, 153, 0, 92, 42, 180, 0, 19, 42, 180, 0, 25, 42, 180, 0, 40, 21, 5, 46, 46]
abbrev dktX5_takes_3 : List UInt8 := dkwX5_takes_3 ++ dktX5_takes_4
def dkwX5_takes_2 : List UInt8 := [3, 62, 4, 54, 4, 27, 54, 5, 21, 5, 42, 180, 0, 206, 162, 0, 112, 21, 4, 153, 0, 107, 42]
abbrev dktX5_takes_2 : List UInt8 := dkwX5_takes_2 ++ dktX5_takes_3
def dkwX5_takes_1 : List UInt8 := [153, 0, 7, 28, 167, 0, 4, 2, 60, 132, 2, 1, 167, 255, 226, 27, 2, 160, 0, 5, 3, 172, 3, 61]
abbrev dktX5_takes_1 : List UInt8 := dkwX5_takes_1 ++ dktX5_takes_2
def dkwX5_takes_0 : List UInt8 := [2, 60, 3, 61, 28, 42, 180, 0, 206, 162, 0, 28, 27, 2, 160, 0, 23, 42, 28, 182, 0, 240]
abbrev dktX5_takes_0 : List UInt8 := dkwX5_takes_0 ++ dktX5_takes_1
theorem dksX5_takes_0 : cX5_takes.data.toList.drop 0 = dktX5_takes_0 := by decide +kernel
theorem dksX5_takes_1 : cX5_takes.data.toList.drop 22 = dktX5_takes_1 := dk_seg dksX5_takes_0 22 rfl rfl
theorem dksX5_takes_2 : cX5_takes.data.toList.drop 46 = dktX5_takes_2 := dk_seg dksX5_takes_1 24 rfl rfl
theorem dksX5_takes_3 : cX5_takes.data.toList.drop 69 = dktX5_takes_3 := dk_seg dksX5_takes_2 23 rfl rfl
theorem dksX5_takes_4 : cX5_takes.data.toList.drop 93 = dktX5_takes_4 := dk_seg dksX5_takes_3 24 rfl rfl
theorem dksX5_takes_5 : cX5_takes.data.toList.drop 117 = dktX5_takes_5 := dk_seg dksX5_takes_4 24 rfl rfl
theorem dksX5_takes_6 : cX5_takes.data.toList.drop 140 = dktX5_takes_6 := dk_seg dksX5_takes_5 23 rfl rfl
theorem dksX5_takes_7 : cX5_takes.data.toList.drop 163 = dktX5_takes_7 := dk_seg dksX5_takes_6 23 rfl rfl
theorem dX5_takes_0 : decode cX5_takes 0 = .ok (.iconst (-1), 1) := dk_2 (dk_at dksX5_takes_0 0 rfl rfl)
theorem dX5_takes_1 : decode cX5_takes 1 = .ok (.istore_n 1, 1) := dk_60 (dk_at dksX5_takes_0 1 rfl rfl)
theorem dX5_takes_2 : decode cX5_takes 2 = .ok (.iconst 0, 1) := dk_3 (dk_at dksX5_takes_0 2 rfl rfl)
theorem dX5_takes_3 : decode cX5_takes 3 = .ok (.istore_n 2, 1) := dk_61 (dk_at dksX5_takes_0 3 rfl rfl)
theorem dX5_takes_4 : decode cX5_takes 4 = .ok (.iload_n 2, 1) := dk_28 (dk_at dksX5_takes_0 4 rfl rfl)
theorem dX5_takes_5 : decode cX5_takes 5 = .ok (.aload_n 0, 1) := dk_42 (dk_at dksX5_takes_0 5 rfl rfl)
theorem dX5_takes_6 : decode cX5_takes 6 = .ok (.getfield 206, 3) := dk_180 0 206 (dk_at dksX5_takes_0 6 rfl rfl)
theorem dX5_takes_9 : decode cX5_takes 9 = .ok (.if_icmp .ge 28, 3) := dk_162 0 28 (dk_at dksX5_takes_0 9 rfl rfl)
theorem dX5_takes_12 : decode cX5_takes 12 = .ok (.iload_n 1, 1) := dk_27 (dk_at dksX5_takes_0 12 rfl rfl)
theorem dX5_takes_13 : decode cX5_takes 13 = .ok (.iconst (-1), 1) := dk_2 (dk_at dksX5_takes_0 13 rfl rfl)
theorem dX5_takes_14 : decode cX5_takes 14 = .ok (.if_icmp .ne 23, 3) := dk_160 0 23 (dk_at dksX5_takes_0 14 rfl rfl)
theorem dX5_takes_17 : decode cX5_takes 17 = .ok (.aload_n 0, 1) := dk_42 (dk_at dksX5_takes_0 17 rfl rfl)
theorem dX5_takes_18 : decode cX5_takes 18 = .ok (.iload_n 2, 1) := dk_28 (dk_at dksX5_takes_0 18 rfl rfl)
theorem dX5_takes_19 : decode cX5_takes 19 = .ok (.invokevirtual 240, 3) := dk_182 0 240 (dk_at dksX5_takes_0 19 rfl rfl)
theorem dX5_takes_22 : decode cX5_takes 22 = .ok (.ifCond .eq 7, 3) := dk_153 0 7 (dk_at dksX5_takes_1 0 rfl rfl)
theorem dX5_takes_25 : decode cX5_takes 25 = .ok (.iload_n 2, 1) := dk_28 (dk_at dksX5_takes_1 3 rfl rfl)
theorem dX5_takes_26 : decode cX5_takes 26 = .ok (.goto 4, 3) := dk_167 0 4 (dk_at dksX5_takes_1 4 rfl rfl)
theorem dX5_takes_29 : decode cX5_takes 29 = .ok (.iconst (-1), 1) := dk_2 (dk_at dksX5_takes_1 7 rfl rfl)
theorem dX5_takes_30 : decode cX5_takes 30 = .ok (.istore_n 1, 1) := dk_60 (dk_at dksX5_takes_1 8 rfl rfl)
theorem dX5_takes_31 : decode cX5_takes 31 = .ok (.iinc 2 1, 3) := dk_132 2 1 (dk_at dksX5_takes_1 9 rfl rfl)
theorem dX5_takes_34 : decode cX5_takes 34 = .ok (.goto (-30), 3) := dk_167 255 226 (dk_at dksX5_takes_1 12 rfl rfl)
theorem dX5_takes_37 : decode cX5_takes 37 = .ok (.iload_n 1, 1) := dk_27 (dk_at dksX5_takes_1 15 rfl rfl)
theorem dX5_takes_38 : decode cX5_takes 38 = .ok (.iconst (-1), 1) := dk_2 (dk_at dksX5_takes_1 16 rfl rfl)
theorem dX5_takes_39 : decode cX5_takes 39 = .ok (.if_icmp .ne 5, 3) := dk_160 0 5 (dk_at dksX5_takes_1 17 rfl rfl)
theorem dX5_takes_42 : decode cX5_takes 42 = .ok (.iconst 0, 1) := dk_3 (dk_at dksX5_takes_1 20 rfl rfl)
theorem dX5_takes_43 : decode cX5_takes 43 = .ok (.ireturn, 1) := dk_172 (dk_at dksX5_takes_1 21 rfl rfl)
theorem dX5_takes_44 : decode cX5_takes 44 = .ok (.iconst 0, 1) := dk_3 (dk_at dksX5_takes_1 22 rfl rfl)
theorem dX5_takes_45 : decode cX5_takes 45 = .ok (.istore_n 2, 1) := dk_61 (dk_at dksX5_takes_1 23 rfl rfl)
theorem dX5_takes_46 : decode cX5_takes 46 = .ok (.iconst 0, 1) := dk_3 (dk_at dksX5_takes_2 0 rfl rfl)
theorem dX5_takes_47 : decode cX5_takes 47 = .ok (.istore_n 3, 1) := dk_62 (dk_at dksX5_takes_2 1 rfl rfl)
theorem dX5_takes_48 : decode cX5_takes 48 = .ok (.iconst 1, 1) := dk_4 (dk_at dksX5_takes_2 2 rfl rfl)
theorem dX5_takes_49 : decode cX5_takes 49 = .ok (.istore 4, 2) := dk_54 4 (dk_at dksX5_takes_2 3 rfl rfl)
theorem dX5_takes_51 : decode cX5_takes 51 = .ok (.iload_n 1, 1) := dk_27 (dk_at dksX5_takes_2 5 rfl rfl)
theorem dX5_takes_52 : decode cX5_takes 52 = .ok (.istore 5, 2) := dk_54 5 (dk_at dksX5_takes_2 6 rfl rfl)
theorem dX5_takes_54 : decode cX5_takes 54 = .ok (.iload 5, 2) := dk_21 5 (dk_at dksX5_takes_2 8 rfl rfl)
theorem dX5_takes_56 : decode cX5_takes 56 = .ok (.aload_n 0, 1) := dk_42 (dk_at dksX5_takes_2 10 rfl rfl)
theorem dX5_takes_57 : decode cX5_takes 57 = .ok (.getfield 206, 3) := dk_180 0 206 (dk_at dksX5_takes_2 11 rfl rfl)
theorem dX5_takes_60 : decode cX5_takes 60 = .ok (.if_icmp .ge 112, 3) := dk_162 0 112 (dk_at dksX5_takes_2 14 rfl rfl)
theorem dX5_takes_63 : decode cX5_takes 63 = .ok (.iload 4, 2) := dk_21 4 (dk_at dksX5_takes_2 17 rfl rfl)
theorem dX5_takes_65 : decode cX5_takes 65 = .ok (.ifCond .eq 107, 3) := dk_153 0 107 (dk_at dksX5_takes_2 19 rfl rfl)
theorem dX5_takes_68 : decode cX5_takes 68 = .ok (.aload_n 0, 1) := dk_42 (dk_at dksX5_takes_2 22 rfl rfl)
theorem dX5_takes_69 : decode cX5_takes 69 = .ok (.iload 5, 2) := dk_21 5 (dk_at dksX5_takes_3 0 rfl rfl)
theorem dX5_takes_71 : decode cX5_takes 71 = .ok (.invokevirtual 240, 3) := dk_182 0 240 (dk_at dksX5_takes_3 2 rfl rfl)
theorem dX5_takes_74 : decode cX5_takes 74 = .ok (.ifCond .eq 92, 3) := dk_153 0 92 (dk_at dksX5_takes_3 5 rfl rfl)
theorem dX5_takes_77 : decode cX5_takes 77 = .ok (.aload_n 0, 1) := dk_42 (dk_at dksX5_takes_3 8 rfl rfl)
theorem dX5_takes_78 : decode cX5_takes 78 = .ok (.getfield 19, 3) := dk_180 0 19 (dk_at dksX5_takes_3 9 rfl rfl)
theorem dX5_takes_81 : decode cX5_takes 81 = .ok (.aload_n 0, 1) := dk_42 (dk_at dksX5_takes_3 12 rfl rfl)
theorem dX5_takes_82 : decode cX5_takes 82 = .ok (.getfield 25, 3) := dk_180 0 25 (dk_at dksX5_takes_3 13 rfl rfl)
theorem dX5_takes_85 : decode cX5_takes 85 = .ok (.aload_n 0, 1) := dk_42 (dk_at dksX5_takes_3 16 rfl rfl)
theorem dX5_takes_86 : decode cX5_takes 86 = .ok (.getfield 40, 3) := dk_180 0 40 (dk_at dksX5_takes_3 17 rfl rfl)
theorem dX5_takes_89 : decode cX5_takes 89 = .ok (.iload 5, 2) := dk_21 5 (dk_at dksX5_takes_3 20 rfl rfl)
theorem dX5_takes_91 : decode cX5_takes 91 = .ok (.iaload, 1) := dk_46 (dk_at dksX5_takes_3 22 rfl rfl)
theorem dX5_takes_92 : decode cX5_takes 92 = .ok (.iaload, 1) := dk_46 (dk_at dksX5_takes_3 23 rfl rfl)
theorem dX5_takes_93 : decode cX5_takes 93 = .ok (.iaload, 1) := dk_46 (dk_at dksX5_takes_4 0 rfl rfl)
theorem dX5_takes_94 : decode cX5_takes 94 = .ok (.aload_n 0, 1) := dk_42 (dk_at dksX5_takes_4 1 rfl rfl)
theorem dX5_takes_95 : decode cX5_takes 95 = .ok (.getfield 19, 3) := dk_180 0 19 (dk_at dksX5_takes_4 2 rfl rfl)
theorem dX5_takes_98 : decode cX5_takes 98 = .ok (.aload_n 0, 1) := dk_42 (dk_at dksX5_takes_4 5 rfl rfl)
theorem dX5_takes_99 : decode cX5_takes 99 = .ok (.getfield 25, 3) := dk_180 0 25 (dk_at dksX5_takes_4 6 rfl rfl)
theorem dX5_takes_102 : decode cX5_takes 102 = .ok (.aload_n 0, 1) := dk_42 (dk_at dksX5_takes_4 9 rfl rfl)
theorem dX5_takes_103 : decode cX5_takes 103 = .ok (.getfield 40, 3) := dk_180 0 40 (dk_at dksX5_takes_4 10 rfl rfl)
theorem dX5_takes_106 : decode cX5_takes 106 = .ok (.iload_n 1, 1) := dk_27 (dk_at dksX5_takes_4 13 rfl rfl)
theorem dX5_takes_107 : decode cX5_takes 107 = .ok (.iaload, 1) := dk_46 (dk_at dksX5_takes_4 14 rfl rfl)
theorem dX5_takes_108 : decode cX5_takes 108 = .ok (.iaload, 1) := dk_46 (dk_at dksX5_takes_4 15 rfl rfl)
theorem dX5_takes_109 : decode cX5_takes 109 = .ok (.iaload, 1) := dk_46 (dk_at dksX5_takes_4 16 rfl rfl)
theorem dX5_takes_110 : decode cX5_takes 110 = .ok (.if_icmp .ne 56, 3) := dk_160 0 56 (dk_at dksX5_takes_4 17 rfl rfl)
theorem dX5_takes_113 : decode cX5_takes 113 = .ok (.iload_n 2, 1) := dk_28 (dk_at dksX5_takes_4 20 rfl rfl)
theorem dX5_takes_114 : decode cX5_takes 114 = .ok (.ifCond .eq 19, 3) := dk_153 0 19 (dk_at dksX5_takes_4 21 rfl rfl)
theorem dX5_takes_117 : decode cX5_takes 117 = .ok (.iload_n 3, 1) := dk_29 (dk_at dksX5_takes_5 0 rfl rfl)
theorem dX5_takes_118 : decode cX5_takes 118 = .ok (.aload_n 0, 1) := dk_42 (dk_at dksX5_takes_5 1 rfl rfl)
theorem dX5_takes_119 : decode cX5_takes 119 = .ok (.getfield 49, 3) := dk_180 0 49 (dk_at dksX5_takes_5 2 rfl rfl)
theorem dX5_takes_122 : decode cX5_takes 122 = .ok (.iload 5, 2) := dk_21 5 (dk_at dksX5_takes_5 5 rfl rfl)
theorem dX5_takes_124 : decode cX5_takes 124 = .ok (.iaload, 1) := dk_46 (dk_at dksX5_takes_5 7 rfl rfl)
theorem dX5_takes_125 : decode cX5_takes 125 = .ok (.iadd, 1) := dk_96 (dk_at dksX5_takes_5 8 rfl rfl)
theorem dX5_takes_126 : decode cX5_takes 126 = .ok (.aload_n 0, 1) := dk_42 (dk_at dksX5_takes_5 9 rfl rfl)
theorem dX5_takes_127 : decode cX5_takes 127 = .ok (.getfield 109, 3) := dk_180 0 109 (dk_at dksX5_takes_5 10 rfl rfl)
theorem dX5_takes_130 : decode cX5_takes 130 = .ok (.if_icmp .gt 7, 3) := dk_163 0 7 (dk_at dksX5_takes_5 13 rfl rfl)
theorem dX5_takes_133 : decode cX5_takes 133 = .ok (.iconst 1, 1) := dk_4 (dk_at dksX5_takes_5 16 rfl rfl)
theorem dX5_takes_134 : decode cX5_takes 134 = .ok (.goto 4, 3) := dk_167 0 4 (dk_at dksX5_takes_5 17 rfl rfl)
theorem dX5_takes_137 : decode cX5_takes 137 = .ok (.iconst 0, 1) := dk_3 (dk_at dksX5_takes_5 20 rfl rfl)
theorem dX5_takes_138 : decode cX5_takes 138 = .ok (.istore 4, 2) := dk_54 4 (dk_at dksX5_takes_5 21 rfl rfl)
theorem dX5_takes_140 : decode cX5_takes 140 = .ok (.iload 4, 2) := dk_21 4 (dk_at dksX5_takes_6 0 rfl rfl)
theorem dX5_takes_142 : decode cX5_takes 142 = .ok (.ifCond .eq 24, 3) := dk_153 0 24 (dk_at dksX5_takes_6 2 rfl rfl)
theorem dX5_takes_145 : decode cX5_takes 145 = .ok (.aload_n 0, 1) := dk_42 (dk_at dksX5_takes_6 5 rfl rfl)
theorem dX5_takes_146 : decode cX5_takes 146 = .ok (.getfield 112, 3) := dk_180 0 112 (dk_at dksX5_takes_6 6 rfl rfl)
theorem dX5_takes_149 : decode cX5_takes 149 = .ok (.iload 5, 2) := dk_21 5 (dk_at dksX5_takes_6 9 rfl rfl)
theorem dX5_takes_151 : decode cX5_takes 151 = .ok (.iconst 1, 1) := dk_4 (dk_at dksX5_takes_6 11 rfl rfl)
theorem dX5_takes_152 : decode cX5_takes 152 = .ok (.bastore, 1) := dk_84 (dk_at dksX5_takes_6 12 rfl rfl)
theorem dX5_takes_153 : decode cX5_takes 153 = .ok (.iload_n 3, 1) := dk_29 (dk_at dksX5_takes_6 13 rfl rfl)
theorem dX5_takes_154 : decode cX5_takes 154 = .ok (.aload_n 0, 1) := dk_42 (dk_at dksX5_takes_6 14 rfl rfl)
theorem dX5_takes_155 : decode cX5_takes 155 = .ok (.getfield 49, 3) := dk_180 0 49 (dk_at dksX5_takes_6 15 rfl rfl)
theorem dX5_takes_158 : decode cX5_takes 158 = .ok (.iload 5, 2) := dk_21 5 (dk_at dksX5_takes_6 18 rfl rfl)
theorem dX5_takes_160 : decode cX5_takes 160 = .ok (.iaload, 1) := dk_46 (dk_at dksX5_takes_6 20 rfl rfl)
theorem dX5_takes_161 : decode cX5_takes 161 = .ok (.iadd, 1) := dk_96 (dk_at dksX5_takes_6 21 rfl rfl)
theorem dX5_takes_162 : decode cX5_takes 162 = .ok (.istore_n 3, 1) := dk_62 (dk_at dksX5_takes_6 22 rfl rfl)
theorem dX5_takes_163 : decode cX5_takes 163 = .ok (.iinc 2 1, 3) := dk_132 2 1 (dk_at dksX5_takes_7 0 rfl rfl)
theorem dX5_takes_166 : decode cX5_takes 166 = .ok (.iinc 5 1, 3) := dk_132 5 1 (dk_at dksX5_takes_7 3 rfl rfl)
theorem dX5_takes_169 : decode cX5_takes 169 = .ok (.goto (-115), 3) := dk_167 255 141 (dk_at dksX5_takes_7 6 rfl rfl)
theorem dX5_takes_172 : decode cX5_takes 172 = .ok (.iload_n 2, 1) := dk_28 (dk_at dksX5_takes_7 9 rfl rfl)
theorem dX5_takes_173 : decode cX5_takes 173 = .ok (.ireturn, 1) := dk_172 (dk_at dksX5_takes_7 10 rfl rfl)
abbrev cX5_waits : ByteArray := prog_11_method_36_code
def yX5_waits : MethodName := ⟨RX5, "waits", "(I)Z"⟩
def dkwX5_waits_1 : List UInt8 := [51, 154, 0, 7, 4, 167, 0, 4, 3, 172]
abbrev dktX5_waits_1 : List UInt8 := dkwX5_waits_1 ++ []
def dkwX5_waits_0 : List UInt8 := [42, 180, 0, 58, 27, 46, 2, 160, 0, 25, 42, 180, 0, 49, 27, 46, 158, 0, 16, 42, 180, 0, 112, 27]
abbrev dktX5_waits_0 : List UInt8 := dkwX5_waits_0 ++ dktX5_waits_1
theorem dksX5_waits_0 : cX5_waits.data.toList.drop 0 = dktX5_waits_0 := by decide +kernel
theorem dksX5_waits_1 : cX5_waits.data.toList.drop 24 = dktX5_waits_1 := dk_seg dksX5_waits_0 24 rfl rfl
theorem dX5_waits_0 : decode cX5_waits 0 = .ok (.aload_n 0, 1) := dk_42 (dk_at dksX5_waits_0 0 rfl rfl)
theorem dX5_waits_1 : decode cX5_waits 1 = .ok (.getfield 58, 3) := dk_180 0 58 (dk_at dksX5_waits_0 1 rfl rfl)
theorem dX5_waits_4 : decode cX5_waits 4 = .ok (.iload_n 1, 1) := dk_27 (dk_at dksX5_waits_0 4 rfl rfl)
theorem dX5_waits_5 : decode cX5_waits 5 = .ok (.iaload, 1) := dk_46 (dk_at dksX5_waits_0 5 rfl rfl)
theorem dX5_waits_6 : decode cX5_waits 6 = .ok (.iconst (-1), 1) := dk_2 (dk_at dksX5_waits_0 6 rfl rfl)
theorem dX5_waits_7 : decode cX5_waits 7 = .ok (.if_icmp .ne 25, 3) := dk_160 0 25 (dk_at dksX5_waits_0 7 rfl rfl)
theorem dX5_waits_10 : decode cX5_waits 10 = .ok (.aload_n 0, 1) := dk_42 (dk_at dksX5_waits_0 10 rfl rfl)
theorem dX5_waits_11 : decode cX5_waits 11 = .ok (.getfield 49, 3) := dk_180 0 49 (dk_at dksX5_waits_0 11 rfl rfl)
theorem dX5_waits_14 : decode cX5_waits 14 = .ok (.iload_n 1, 1) := dk_27 (dk_at dksX5_waits_0 14 rfl rfl)
theorem dX5_waits_15 : decode cX5_waits 15 = .ok (.iaload, 1) := dk_46 (dk_at dksX5_waits_0 15 rfl rfl)
theorem dX5_waits_16 : decode cX5_waits 16 = .ok (.ifCond .le 16, 3) := dk_158 0 16 (dk_at dksX5_waits_0 16 rfl rfl)
theorem dX5_waits_19 : decode cX5_waits 19 = .ok (.aload_n 0, 1) := dk_42 (dk_at dksX5_waits_0 19 rfl rfl)
theorem dX5_waits_20 : decode cX5_waits 20 = .ok (.getfield 112, 3) := dk_180 0 112 (dk_at dksX5_waits_0 20 rfl rfl)
theorem dX5_waits_23 : decode cX5_waits 23 = .ok (.iload_n 1, 1) := dk_27 (dk_at dksX5_waits_0 23 rfl rfl)
theorem dX5_waits_24 : decode cX5_waits 24 = .ok (.baload, 1) := dk_51 (dk_at dksX5_waits_1 0 rfl rfl)
theorem dX5_waits_25 : decode cX5_waits 25 = .ok (.ifCond .ne 7, 3) := dk_154 0 7 (dk_at dksX5_waits_1 1 rfl rfl)
theorem dX5_waits_28 : decode cX5_waits 28 = .ok (.iconst 1, 1) := dk_4 (dk_at dksX5_waits_1 4 rfl rfl)
theorem dX5_waits_29 : decode cX5_waits 29 = .ok (.goto 4, 3) := dk_167 0 4 (dk_at dksX5_waits_1 5 rfl rfl)
theorem dX5_waits_32 : decode cX5_waits 32 = .ok (.iconst 0, 1) := dk_3 (dk_at dksX5_waits_1 8 rfl rfl)
theorem dX5_waits_33 : decode cX5_waits 33 = .ok (.ireturn, 1) := dk_172 (dk_at dksX5_waits_1 9 rfl rfl)
abbrev cX5_batches : ByteArray := prog_11_method_40_code
def yX5_batches : MethodName := ⟨RX5, "batches", "()I"⟩
def dkwX5_batches_0 : List UInt8 := [42, 182, 0, 243, 3, 60, 42, 182, 0, 246, 158, 0, 9, 132, 1, 1, 167, 255, 246, 27, 172]
abbrev dktX5_batches_0 : List UInt8 := dkwX5_batches_0 ++ []
theorem dksX5_batches_0 : cX5_batches.data.toList.drop 0 = dktX5_batches_0 := by decide +kernel
theorem dX5_batches_0 : decode cX5_batches 0 = .ok (.aload_n 0, 1) := dk_42 (dk_at dksX5_batches_0 0 rfl rfl)
theorem dX5_batches_1 : decode cX5_batches 1 = .ok (.invokevirtual 243, 3) := dk_182 0 243 (dk_at dksX5_batches_0 1 rfl rfl)
theorem dX5_batches_4 : decode cX5_batches 4 = .ok (.iconst 0, 1) := dk_3 (dk_at dksX5_batches_0 4 rfl rfl)
theorem dX5_batches_5 : decode cX5_batches 5 = .ok (.istore_n 1, 1) := dk_60 (dk_at dksX5_batches_0 5 rfl rfl)
theorem dX5_batches_6 : decode cX5_batches 6 = .ok (.aload_n 0, 1) := dk_42 (dk_at dksX5_batches_0 6 rfl rfl)
theorem dX5_batches_7 : decode cX5_batches 7 = .ok (.invokevirtual 246, 3) := dk_182 0 246 (dk_at dksX5_batches_0 7 rfl rfl)
theorem dX5_batches_10 : decode cX5_batches 10 = .ok (.ifCond .le 9, 3) := dk_158 0 9 (dk_at dksX5_batches_0 10 rfl rfl)
theorem dX5_batches_13 : decode cX5_batches 13 = .ok (.iinc 1 1, 3) := dk_132 1 1 (dk_at dksX5_batches_0 13 rfl rfl)
theorem dX5_batches_16 : decode cX5_batches 16 = .ok (.goto (-10), 3) := dk_167 255 246 (dk_at dksX5_batches_0 16 rfl rfl)
theorem dX5_batches_19 : decode cX5_batches 19 = .ok (.iload_n 1, 1) := dk_27 (dk_at dksX5_batches_0 19 rfl rfl)
theorem dX5_batches_20 : decode cX5_batches 20 = .ok (.ireturn, 1) := dk_172 (dk_at dksX5_batches_0 20 rfl rfl)
abbrev cX5_sample : ByteArray := prog_11_method_41_code
def yX5_sample : MethodName := ⟨RX5, "sample", "(IZ)I"⟩
def dkwX5_sample_1 : List UInt8 := [3, 79, 4, 172]
abbrev dktX5_sample_1 : List UInt8 := dkwX5_sample_1 ++ []
def dkwX5_sample_0 : List UInt8 := [42, 27, 182, 0, 213, 154, 0, 6, 16, 254, 172, 42, 180, 0, 61, 27, 28, 153, 0, 7, 4, 167, 0, 4]
abbrev dktX5_sample_0 : List UInt8 := dkwX5_sample_0 ++ dktX5_sample_1
theorem dksX5_sample_0 : cX5_sample.data.toList.drop 0 = dktX5_sample_0 := by decide +kernel
theorem dksX5_sample_1 : cX5_sample.data.toList.drop 24 = dktX5_sample_1 := dk_seg dksX5_sample_0 24 rfl rfl
theorem dX5_sample_0 : decode cX5_sample 0 = .ok (.aload_n 0, 1) := dk_42 (dk_at dksX5_sample_0 0 rfl rfl)
theorem dX5_sample_1 : decode cX5_sample 1 = .ok (.iload_n 1, 1) := dk_27 (dk_at dksX5_sample_0 1 rfl rfl)
theorem dX5_sample_2 : decode cX5_sample 2 = .ok (.invokevirtual 213, 3) := dk_182 0 213 (dk_at dksX5_sample_0 2 rfl rfl)
theorem dX5_sample_5 : decode cX5_sample 5 = .ok (.ifCond .ne 6, 3) := dk_154 0 6 (dk_at dksX5_sample_0 5 rfl rfl)
theorem dX5_sample_8 : decode cX5_sample 8 = .ok (.bipush (-2), 2) := dk_16 254 (dk_at dksX5_sample_0 8 rfl rfl)
theorem dX5_sample_10 : decode cX5_sample 10 = .ok (.ireturn, 1) := dk_172 (dk_at dksX5_sample_0 10 rfl rfl)
theorem dX5_sample_11 : decode cX5_sample 11 = .ok (.aload_n 0, 1) := dk_42 (dk_at dksX5_sample_0 11 rfl rfl)
theorem dX5_sample_12 : decode cX5_sample 12 = .ok (.getfield 61, 3) := dk_180 0 61 (dk_at dksX5_sample_0 12 rfl rfl)
theorem dX5_sample_15 : decode cX5_sample 15 = .ok (.iload_n 1, 1) := dk_27 (dk_at dksX5_sample_0 15 rfl rfl)
theorem dX5_sample_16 : decode cX5_sample 16 = .ok (.iload_n 2, 1) := dk_28 (dk_at dksX5_sample_0 16 rfl rfl)
theorem dX5_sample_17 : decode cX5_sample 17 = .ok (.ifCond .eq 7, 3) := dk_153 0 7 (dk_at dksX5_sample_0 17 rfl rfl)
theorem dX5_sample_20 : decode cX5_sample 20 = .ok (.iconst 1, 1) := dk_4 (dk_at dksX5_sample_0 20 rfl rfl)
theorem dX5_sample_21 : decode cX5_sample 21 = .ok (.goto 4, 3) := dk_167 0 4 (dk_at dksX5_sample_0 21 rfl rfl)
theorem dX5_sample_24 : decode cX5_sample 24 = .ok (.iconst 0, 1) := dk_3 (dk_at dksX5_sample_1 0 rfl rfl)
theorem dX5_sample_25 : decode cX5_sample 25 = .ok (.iastore, 1) := dk_79 (dk_at dksX5_sample_1 1 rfl rfl)
theorem dX5_sample_26 : decode cX5_sample 26 = .ok (.iconst 1, 1) := dk_4 (dk_at dksX5_sample_1 2 rfl rfl)
theorem dX5_sample_27 : decode cX5_sample 27 = .ok (.ireturn, 1) := dk_172 (dk_at dksX5_sample_1 3 rfl rfl)
abbrev cX5_suspect : ByteArray := prog_11_method_43_code
def yX5_suspect : MethodName := ⟨RX5, "suspect", "(I)I"⟩
def dkwX5_suspect_1 : List UInt8 := [167, 0, 4, 3, 172]
abbrev dktX5_suspect_1 : List UInt8 := dkwX5_suspect_1 ++ []
def dkwX5_suspect_0 : List UInt8 := [42, 27, 182, 0, 213, 154, 0, 8, 16, 254, 167, 0, 16, 42, 27, 182, 0, 252, 153, 0, 7, 4]
abbrev dktX5_suspect_0 : List UInt8 := dkwX5_suspect_0 ++ dktX5_suspect_1
theorem dksX5_suspect_0 : cX5_suspect.data.toList.drop 0 = dktX5_suspect_0 := by decide +kernel
theorem dksX5_suspect_1 : cX5_suspect.data.toList.drop 22 = dktX5_suspect_1 := dk_seg dksX5_suspect_0 22 rfl rfl
theorem dX5_suspect_0 : decode cX5_suspect 0 = .ok (.aload_n 0, 1) := dk_42 (dk_at dksX5_suspect_0 0 rfl rfl)
theorem dX5_suspect_1 : decode cX5_suspect 1 = .ok (.iload_n 1, 1) := dk_27 (dk_at dksX5_suspect_0 1 rfl rfl)
theorem dX5_suspect_2 : decode cX5_suspect 2 = .ok (.invokevirtual 213, 3) := dk_182 0 213 (dk_at dksX5_suspect_0 2 rfl rfl)
theorem dX5_suspect_5 : decode cX5_suspect 5 = .ok (.ifCond .ne 8, 3) := dk_154 0 8 (dk_at dksX5_suspect_0 5 rfl rfl)
theorem dX5_suspect_8 : decode cX5_suspect 8 = .ok (.bipush (-2), 2) := dk_16 254 (dk_at dksX5_suspect_0 8 rfl rfl)
theorem dX5_suspect_10 : decode cX5_suspect 10 = .ok (.goto 16, 3) := dk_167 0 16 (dk_at dksX5_suspect_0 10 rfl rfl)
theorem dX5_suspect_13 : decode cX5_suspect 13 = .ok (.aload_n 0, 1) := dk_42 (dk_at dksX5_suspect_0 13 rfl rfl)
theorem dX5_suspect_14 : decode cX5_suspect 14 = .ok (.iload_n 1, 1) := dk_27 (dk_at dksX5_suspect_0 14 rfl rfl)
theorem dX5_suspect_15 : decode cX5_suspect 15 = .ok (.invokevirtual 252, 3) := dk_182 0 252 (dk_at dksX5_suspect_0 15 rfl rfl)
theorem dX5_suspect_18 : decode cX5_suspect 18 = .ok (.ifCond .eq 7, 3) := dk_153 0 7 (dk_at dksX5_suspect_0 18 rfl rfl)
theorem dX5_suspect_21 : decode cX5_suspect 21 = .ok (.iconst 1, 1) := dk_4 (dk_at dksX5_suspect_0 21 rfl rfl)
theorem dX5_suspect_22 : decode cX5_suspect 22 = .ok (.goto 4, 3) := dk_167 0 4 (dk_at dksX5_suspect_1 0 rfl rfl)
theorem dX5_suspect_25 : decode cX5_suspect 25 = .ok (.iconst 0, 1) := dk_3 (dk_at dksX5_suspect_1 3 rfl rfl)
theorem dX5_suspect_26 : decode cX5_suspect 26 = .ok (.ireturn, 1) := dk_172 (dk_at dksX5_suspect_1 4 rfl rfl)
abbrev cX5_isSuspect : ByteArray := prog_11_method_42_code
def yX5_isSuspect : MethodName := ⟨RX5, "isSuspect", "(I)Z"⟩
def dkwX5_isSuspect_5 : List UInt8 := [21, 5, 29, 96, 54, 5, 167, 255, 177, 132, 3, 2, 167, 255, 158, 28, 172]
abbrev dktX5_isSuspect_5 : List UInt8 := dkwX5_isSuspect_5 ++ []
def dkwX5_isSuspect_4 : List UInt8 := [3, 54, 4, 28, 154, 0, 13, 42, 180, 0, 61, 21, 5, 46, 154, 0, 7, 4, 167, 0, 4, 3, 61]
abbrev dktX5_isSuspect_4 : List UInt8 := dkwX5_isSuspect_4 ++ dktX5_isSuspect_5
def dkwX5_isSuspect_3 : List UInt8 := [42, 180, 0, 40, 27, 46, 160, 0, 41, 42, 180, 0, 61, 21, 5, 46, 4, 160, 0, 7, 4, 167, 0, 4]
abbrev dktX5_isSuspect_3 : List UInt8 := dkwX5_isSuspect_3 ++ dktX5_isSuspect_4
def dkwX5_isSuspect_2 : List UInt8 := [155, 0, 80, 21, 5, 42, 180, 0, 206, 162, 0, 71, 21, 4, 154, 0, 66, 42, 180, 0, 40, 21, 5, 46]
abbrev dktX5_isSuspect_2 : List UInt8 := dkwX5_isSuspect_2 ++ dktX5_isSuspect_3
def dkwX5_isSuspect_1 : List UInt8 := [167, 0, 4, 3, 61, 2, 62, 29, 5, 162, 0, 99, 3, 54, 4, 27, 29, 96, 54, 5, 21, 5]
abbrev dktX5_isSuspect_1 : List UInt8 := dkwX5_isSuspect_1 ++ dktX5_isSuspect_2
def dkwX5_isSuspect_0 : List UInt8 := [42, 180, 0, 61, 27, 46, 4, 160, 0, 5, 3, 172, 42, 180, 0, 61, 27, 46, 154, 0, 7, 4]
abbrev dktX5_isSuspect_0 : List UInt8 := dkwX5_isSuspect_0 ++ dktX5_isSuspect_1
theorem dksX5_isSuspect_0 : cX5_isSuspect.data.toList.drop 0 = dktX5_isSuspect_0 := by decide +kernel
theorem dksX5_isSuspect_1 : cX5_isSuspect.data.toList.drop 22 = dktX5_isSuspect_1 := dk_seg dksX5_isSuspect_0 22 rfl rfl
theorem dksX5_isSuspect_2 : cX5_isSuspect.data.toList.drop 44 = dktX5_isSuspect_2 := dk_seg dksX5_isSuspect_1 22 rfl rfl
theorem dksX5_isSuspect_3 : cX5_isSuspect.data.toList.drop 68 = dktX5_isSuspect_3 := dk_seg dksX5_isSuspect_2 24 rfl rfl
theorem dksX5_isSuspect_4 : cX5_isSuspect.data.toList.drop 92 = dktX5_isSuspect_4 := dk_seg dksX5_isSuspect_3 24 rfl rfl
theorem dksX5_isSuspect_5 : cX5_isSuspect.data.toList.drop 115 = dktX5_isSuspect_5 := dk_seg dksX5_isSuspect_4 23 rfl rfl
theorem dX5_isSuspect_0 : decode cX5_isSuspect 0 = .ok (.aload_n 0, 1) := dk_42 (dk_at dksX5_isSuspect_0 0 rfl rfl)
theorem dX5_isSuspect_1 : decode cX5_isSuspect 1 = .ok (.getfield 61, 3) := dk_180 0 61 (dk_at dksX5_isSuspect_0 1 rfl rfl)
theorem dX5_isSuspect_4 : decode cX5_isSuspect 4 = .ok (.iload_n 1, 1) := dk_27 (dk_at dksX5_isSuspect_0 4 rfl rfl)
theorem dX5_isSuspect_5 : decode cX5_isSuspect 5 = .ok (.iaload, 1) := dk_46 (dk_at dksX5_isSuspect_0 5 rfl rfl)
theorem dX5_isSuspect_6 : decode cX5_isSuspect 6 = .ok (.iconst 1, 1) := dk_4 (dk_at dksX5_isSuspect_0 6 rfl rfl)
theorem dX5_isSuspect_7 : decode cX5_isSuspect 7 = .ok (.if_icmp .ne 5, 3) := dk_160 0 5 (dk_at dksX5_isSuspect_0 7 rfl rfl)
theorem dX5_isSuspect_10 : decode cX5_isSuspect 10 = .ok (.iconst 0, 1) := dk_3 (dk_at dksX5_isSuspect_0 10 rfl rfl)
theorem dX5_isSuspect_11 : decode cX5_isSuspect 11 = .ok (.ireturn, 1) := dk_172 (dk_at dksX5_isSuspect_0 11 rfl rfl)
theorem dX5_isSuspect_12 : decode cX5_isSuspect 12 = .ok (.aload_n 0, 1) := dk_42 (dk_at dksX5_isSuspect_0 12 rfl rfl)
theorem dX5_isSuspect_13 : decode cX5_isSuspect 13 = .ok (.getfield 61, 3) := dk_180 0 61 (dk_at dksX5_isSuspect_0 13 rfl rfl)
theorem dX5_isSuspect_16 : decode cX5_isSuspect 16 = .ok (.iload_n 1, 1) := dk_27 (dk_at dksX5_isSuspect_0 16 rfl rfl)
theorem dX5_isSuspect_17 : decode cX5_isSuspect 17 = .ok (.iaload, 1) := dk_46 (dk_at dksX5_isSuspect_0 17 rfl rfl)
theorem dX5_isSuspect_18 : decode cX5_isSuspect 18 = .ok (.ifCond .ne 7, 3) := dk_154 0 7 (dk_at dksX5_isSuspect_0 18 rfl rfl)
theorem dX5_isSuspect_21 : decode cX5_isSuspect 21 = .ok (.iconst 1, 1) := dk_4 (dk_at dksX5_isSuspect_0 21 rfl rfl)
theorem dX5_isSuspect_22 : decode cX5_isSuspect 22 = .ok (.goto 4, 3) := dk_167 0 4 (dk_at dksX5_isSuspect_1 0 rfl rfl)
theorem dX5_isSuspect_25 : decode cX5_isSuspect 25 = .ok (.iconst 0, 1) := dk_3 (dk_at dksX5_isSuspect_1 3 rfl rfl)
theorem dX5_isSuspect_26 : decode cX5_isSuspect 26 = .ok (.istore_n 2, 1) := dk_61 (dk_at dksX5_isSuspect_1 4 rfl rfl)
theorem dX5_isSuspect_27 : decode cX5_isSuspect 27 = .ok (.iconst (-1), 1) := dk_2 (dk_at dksX5_isSuspect_1 5 rfl rfl)
theorem dX5_isSuspect_28 : decode cX5_isSuspect 28 = .ok (.istore_n 3, 1) := dk_62 (dk_at dksX5_isSuspect_1 6 rfl rfl)
theorem dX5_isSuspect_29 : decode cX5_isSuspect 29 = .ok (.iload_n 3, 1) := dk_29 (dk_at dksX5_isSuspect_1 7 rfl rfl)
theorem dX5_isSuspect_30 : decode cX5_isSuspect 30 = .ok (.iconst 2, 1) := dk_5 (dk_at dksX5_isSuspect_1 8 rfl rfl)
theorem dX5_isSuspect_31 : decode cX5_isSuspect 31 = .ok (.if_icmp .ge 99, 3) := dk_162 0 99 (dk_at dksX5_isSuspect_1 9 rfl rfl)
theorem dX5_isSuspect_34 : decode cX5_isSuspect 34 = .ok (.iconst 0, 1) := dk_3 (dk_at dksX5_isSuspect_1 12 rfl rfl)
theorem dX5_isSuspect_35 : decode cX5_isSuspect 35 = .ok (.istore 4, 2) := dk_54 4 (dk_at dksX5_isSuspect_1 13 rfl rfl)
theorem dX5_isSuspect_37 : decode cX5_isSuspect 37 = .ok (.iload_n 1, 1) := dk_27 (dk_at dksX5_isSuspect_1 15 rfl rfl)
theorem dX5_isSuspect_38 : decode cX5_isSuspect 38 = .ok (.iload_n 3, 1) := dk_29 (dk_at dksX5_isSuspect_1 16 rfl rfl)
theorem dX5_isSuspect_39 : decode cX5_isSuspect 39 = .ok (.iadd, 1) := dk_96 (dk_at dksX5_isSuspect_1 17 rfl rfl)
theorem dX5_isSuspect_40 : decode cX5_isSuspect 40 = .ok (.istore 5, 2) := dk_54 5 (dk_at dksX5_isSuspect_1 18 rfl rfl)
theorem dX5_isSuspect_42 : decode cX5_isSuspect 42 = .ok (.iload 5, 2) := dk_21 5 (dk_at dksX5_isSuspect_1 20 rfl rfl)
theorem dX5_isSuspect_44 : decode cX5_isSuspect 44 = .ok (.ifCond .lt 80, 3) := dk_155 0 80 (dk_at dksX5_isSuspect_2 0 rfl rfl)
theorem dX5_isSuspect_47 : decode cX5_isSuspect 47 = .ok (.iload 5, 2) := dk_21 5 (dk_at dksX5_isSuspect_2 3 rfl rfl)
theorem dX5_isSuspect_49 : decode cX5_isSuspect 49 = .ok (.aload_n 0, 1) := dk_42 (dk_at dksX5_isSuspect_2 5 rfl rfl)
theorem dX5_isSuspect_50 : decode cX5_isSuspect 50 = .ok (.getfield 206, 3) := dk_180 0 206 (dk_at dksX5_isSuspect_2 6 rfl rfl)
theorem dX5_isSuspect_53 : decode cX5_isSuspect 53 = .ok (.if_icmp .ge 71, 3) := dk_162 0 71 (dk_at dksX5_isSuspect_2 9 rfl rfl)
theorem dX5_isSuspect_56 : decode cX5_isSuspect 56 = .ok (.iload 4, 2) := dk_21 4 (dk_at dksX5_isSuspect_2 12 rfl rfl)
theorem dX5_isSuspect_58 : decode cX5_isSuspect 58 = .ok (.ifCond .ne 66, 3) := dk_154 0 66 (dk_at dksX5_isSuspect_2 14 rfl rfl)
theorem dX5_isSuspect_61 : decode cX5_isSuspect 61 = .ok (.aload_n 0, 1) := dk_42 (dk_at dksX5_isSuspect_2 17 rfl rfl)
theorem dX5_isSuspect_62 : decode cX5_isSuspect 62 = .ok (.getfield 40, 3) := dk_180 0 40 (dk_at dksX5_isSuspect_2 18 rfl rfl)
theorem dX5_isSuspect_65 : decode cX5_isSuspect 65 = .ok (.iload 5, 2) := dk_21 5 (dk_at dksX5_isSuspect_2 21 rfl rfl)
theorem dX5_isSuspect_67 : decode cX5_isSuspect 67 = .ok (.iaload, 1) := dk_46 (dk_at dksX5_isSuspect_2 23 rfl rfl)
theorem dX5_isSuspect_68 : decode cX5_isSuspect 68 = .ok (.aload_n 0, 1) := dk_42 (dk_at dksX5_isSuspect_3 0 rfl rfl)
theorem dX5_isSuspect_69 : decode cX5_isSuspect 69 = .ok (.getfield 40, 3) := dk_180 0 40 (dk_at dksX5_isSuspect_3 1 rfl rfl)
theorem dX5_isSuspect_72 : decode cX5_isSuspect 72 = .ok (.iload_n 1, 1) := dk_27 (dk_at dksX5_isSuspect_3 4 rfl rfl)
theorem dX5_isSuspect_73 : decode cX5_isSuspect 73 = .ok (.iaload, 1) := dk_46 (dk_at dksX5_isSuspect_3 5 rfl rfl)
theorem dX5_isSuspect_74 : decode cX5_isSuspect 74 = .ok (.if_icmp .ne 41, 3) := dk_160 0 41 (dk_at dksX5_isSuspect_3 6 rfl rfl)
theorem dX5_isSuspect_77 : decode cX5_isSuspect 77 = .ok (.aload_n 0, 1) := dk_42 (dk_at dksX5_isSuspect_3 9 rfl rfl)
theorem dX5_isSuspect_78 : decode cX5_isSuspect 78 = .ok (.getfield 61, 3) := dk_180 0 61 (dk_at dksX5_isSuspect_3 10 rfl rfl)
theorem dX5_isSuspect_81 : decode cX5_isSuspect 81 = .ok (.iload 5, 2) := dk_21 5 (dk_at dksX5_isSuspect_3 13 rfl rfl)
theorem dX5_isSuspect_83 : decode cX5_isSuspect 83 = .ok (.iaload, 1) := dk_46 (dk_at dksX5_isSuspect_3 15 rfl rfl)
theorem dX5_isSuspect_84 : decode cX5_isSuspect 84 = .ok (.iconst 1, 1) := dk_4 (dk_at dksX5_isSuspect_3 16 rfl rfl)
theorem dX5_isSuspect_85 : decode cX5_isSuspect 85 = .ok (.if_icmp .ne 7, 3) := dk_160 0 7 (dk_at dksX5_isSuspect_3 17 rfl rfl)
theorem dX5_isSuspect_88 : decode cX5_isSuspect 88 = .ok (.iconst 1, 1) := dk_4 (dk_at dksX5_isSuspect_3 20 rfl rfl)
theorem dX5_isSuspect_89 : decode cX5_isSuspect 89 = .ok (.goto 4, 3) := dk_167 0 4 (dk_at dksX5_isSuspect_3 21 rfl rfl)
theorem dX5_isSuspect_92 : decode cX5_isSuspect 92 = .ok (.iconst 0, 1) := dk_3 (dk_at dksX5_isSuspect_4 0 rfl rfl)
theorem dX5_isSuspect_93 : decode cX5_isSuspect 93 = .ok (.istore 4, 2) := dk_54 4 (dk_at dksX5_isSuspect_4 1 rfl rfl)
theorem dX5_isSuspect_95 : decode cX5_isSuspect 95 = .ok (.iload_n 2, 1) := dk_28 (dk_at dksX5_isSuspect_4 3 rfl rfl)
theorem dX5_isSuspect_96 : decode cX5_isSuspect 96 = .ok (.ifCond .ne 13, 3) := dk_154 0 13 (dk_at dksX5_isSuspect_4 4 rfl rfl)
theorem dX5_isSuspect_99 : decode cX5_isSuspect 99 = .ok (.aload_n 0, 1) := dk_42 (dk_at dksX5_isSuspect_4 7 rfl rfl)
theorem dX5_isSuspect_100 : decode cX5_isSuspect 100 = .ok (.getfield 61, 3) := dk_180 0 61 (dk_at dksX5_isSuspect_4 8 rfl rfl)
theorem dX5_isSuspect_103 : decode cX5_isSuspect 103 = .ok (.iload 5, 2) := dk_21 5 (dk_at dksX5_isSuspect_4 11 rfl rfl)
theorem dX5_isSuspect_105 : decode cX5_isSuspect 105 = .ok (.iaload, 1) := dk_46 (dk_at dksX5_isSuspect_4 13 rfl rfl)
theorem dX5_isSuspect_106 : decode cX5_isSuspect 106 = .ok (.ifCond .ne 7, 3) := dk_154 0 7 (dk_at dksX5_isSuspect_4 14 rfl rfl)
theorem dX5_isSuspect_109 : decode cX5_isSuspect 109 = .ok (.iconst 1, 1) := dk_4 (dk_at dksX5_isSuspect_4 17 rfl rfl)
theorem dX5_isSuspect_110 : decode cX5_isSuspect 110 = .ok (.goto 4, 3) := dk_167 0 4 (dk_at dksX5_isSuspect_4 18 rfl rfl)
theorem dX5_isSuspect_113 : decode cX5_isSuspect 113 = .ok (.iconst 0, 1) := dk_3 (dk_at dksX5_isSuspect_4 21 rfl rfl)
theorem dX5_isSuspect_114 : decode cX5_isSuspect 114 = .ok (.istore_n 2, 1) := dk_61 (dk_at dksX5_isSuspect_4 22 rfl rfl)
theorem dX5_isSuspect_115 : decode cX5_isSuspect 115 = .ok (.iload 5, 2) := dk_21 5 (dk_at dksX5_isSuspect_5 0 rfl rfl)
theorem dX5_isSuspect_117 : decode cX5_isSuspect 117 = .ok (.iload_n 3, 1) := dk_29 (dk_at dksX5_isSuspect_5 2 rfl rfl)
theorem dX5_isSuspect_118 : decode cX5_isSuspect 118 = .ok (.iadd, 1) := dk_96 (dk_at dksX5_isSuspect_5 3 rfl rfl)
theorem dX5_isSuspect_119 : decode cX5_isSuspect 119 = .ok (.istore 5, 2) := dk_54 5 (dk_at dksX5_isSuspect_5 4 rfl rfl)
theorem dX5_isSuspect_121 : decode cX5_isSuspect 121 = .ok (.goto (-79), 3) := dk_167 255 177 (dk_at dksX5_isSuspect_5 6 rfl rfl)
theorem dX5_isSuspect_124 : decode cX5_isSuspect 124 = .ok (.iinc 3 2, 3) := dk_132 3 2 (dk_at dksX5_isSuspect_5 9 rfl rfl)
theorem dX5_isSuspect_127 : decode cX5_isSuspect 127 = .ok (.goto (-98), 3) := dk_167 255 158 (dk_at dksX5_isSuspect_5 12 rfl rfl)
theorem dX5_isSuspect_130 : decode cX5_isSuspect 130 = .ok (.iload_n 2, 1) := dk_28 (dk_at dksX5_isSuspect_5 15 rfl rfl)
theorem dX5_isSuspect_131 : decode cX5_isSuspect 131 = .ok (.ireturn, 1) := dk_172 (dk_at dksX5_isSuspect_5 16 rfl rfl)
abbrev cX5_held : ByteArray := prog_11_method_44_code
def yX5_held : MethodName := ⟨RX5, "held", "()I"⟩
def dkwX5_held_1 : List UInt8 := [180, 0, 49, 28, 46, 167, 0, 4, 3, 96, 60, 132, 2, 1, 167, 255, 224, 27, 172]
abbrev dktX5_held_1 : List UInt8 := dkwX5_held_1 ++ []
def dkwX5_held_0 : List UInt8 := [3, 60, 3, 61, 28, 42, 180, 0, 206, 162, 0, 30, 27, 42, 28, 182, 0, 252, 153, 0, 12, 42]
abbrev dktX5_held_0 : List UInt8 := dkwX5_held_0 ++ dktX5_held_1
theorem dksX5_held_0 : cX5_held.data.toList.drop 0 = dktX5_held_0 := by decide +kernel
theorem dksX5_held_1 : cX5_held.data.toList.drop 22 = dktX5_held_1 := dk_seg dksX5_held_0 22 rfl rfl
theorem dX5_held_0 : decode cX5_held 0 = .ok (.iconst 0, 1) := dk_3 (dk_at dksX5_held_0 0 rfl rfl)
theorem dX5_held_1 : decode cX5_held 1 = .ok (.istore_n 1, 1) := dk_60 (dk_at dksX5_held_0 1 rfl rfl)
theorem dX5_held_2 : decode cX5_held 2 = .ok (.iconst 0, 1) := dk_3 (dk_at dksX5_held_0 2 rfl rfl)
theorem dX5_held_3 : decode cX5_held 3 = .ok (.istore_n 2, 1) := dk_61 (dk_at dksX5_held_0 3 rfl rfl)
theorem dX5_held_4 : decode cX5_held 4 = .ok (.iload_n 2, 1) := dk_28 (dk_at dksX5_held_0 4 rfl rfl)
theorem dX5_held_5 : decode cX5_held 5 = .ok (.aload_n 0, 1) := dk_42 (dk_at dksX5_held_0 5 rfl rfl)
theorem dX5_held_6 : decode cX5_held 6 = .ok (.getfield 206, 3) := dk_180 0 206 (dk_at dksX5_held_0 6 rfl rfl)
theorem dX5_held_9 : decode cX5_held 9 = .ok (.if_icmp .ge 30, 3) := dk_162 0 30 (dk_at dksX5_held_0 9 rfl rfl)
theorem dX5_held_12 : decode cX5_held 12 = .ok (.iload_n 1, 1) := dk_27 (dk_at dksX5_held_0 12 rfl rfl)
theorem dX5_held_13 : decode cX5_held 13 = .ok (.aload_n 0, 1) := dk_42 (dk_at dksX5_held_0 13 rfl rfl)
theorem dX5_held_14 : decode cX5_held 14 = .ok (.iload_n 2, 1) := dk_28 (dk_at dksX5_held_0 14 rfl rfl)
theorem dX5_held_15 : decode cX5_held 15 = .ok (.invokevirtual 252, 3) := dk_182 0 252 (dk_at dksX5_held_0 15 rfl rfl)
theorem dX5_held_18 : decode cX5_held 18 = .ok (.ifCond .eq 12, 3) := dk_153 0 12 (dk_at dksX5_held_0 18 rfl rfl)
theorem dX5_held_21 : decode cX5_held 21 = .ok (.aload_n 0, 1) := dk_42 (dk_at dksX5_held_0 21 rfl rfl)
theorem dX5_held_22 : decode cX5_held 22 = .ok (.getfield 49, 3) := dk_180 0 49 (dk_at dksX5_held_1 0 rfl rfl)
theorem dX5_held_25 : decode cX5_held 25 = .ok (.iload_n 2, 1) := dk_28 (dk_at dksX5_held_1 3 rfl rfl)
theorem dX5_held_26 : decode cX5_held 26 = .ok (.iaload, 1) := dk_46 (dk_at dksX5_held_1 4 rfl rfl)
theorem dX5_held_27 : decode cX5_held 27 = .ok (.goto 4, 3) := dk_167 0 4 (dk_at dksX5_held_1 5 rfl rfl)
theorem dX5_held_30 : decode cX5_held 30 = .ok (.iconst 0, 1) := dk_3 (dk_at dksX5_held_1 8 rfl rfl)
theorem dX5_held_31 : decode cX5_held 31 = .ok (.iadd, 1) := dk_96 (dk_at dksX5_held_1 9 rfl rfl)
theorem dX5_held_32 : decode cX5_held 32 = .ok (.istore_n 1, 1) := dk_60 (dk_at dksX5_held_1 10 rfl rfl)
theorem dX5_held_33 : decode cX5_held 33 = .ok (.iinc 2 1, 3) := dk_132 2 1 (dk_at dksX5_held_1 11 rfl rfl)
theorem dX5_held_36 : decode cX5_held 36 = .ok (.goto (-32), 3) := dk_167 255 224 (dk_at dksX5_held_1 14 rfl rfl)
theorem dX5_held_39 : decode cX5_held 39 = .ok (.iload_n 1, 1) := dk_27 (dk_at dksX5_held_1 17 rfl rfl)
theorem dX5_held_40 : decode cX5_held 40 = .ok (.ireturn, 1) := dk_172 (dk_at dksX5_held_1 18 rfl rfl)
abbrev cX5_drift : ByteArray := prog_11_method_45_code
def yX5_drift : MethodName := ⟨RX5, "drift", "(II)I"⟩
def dkwX5_drift_6 : List UInt8 := [4, 100, 167, 0, 5, 21, 5, 172]
abbrev dktX5_drift_6 : List UInt8 := dkwX5_drift_6 ++ []
def dkwX5_drift_5 : List UInt8 := [154, 0, 7, 19, 1, 2, 172, 29, 21, 4, 108, 54, 5, 21, 5, 21, 4, 104, 29, 164, 0, 10, 21, 5]
abbrev dktX5_drift_5 : List UInt8 := dkwX5_drift_5 ++ dktX5_drift_6
def dkwX5_drift_4 : List UInt8 := [42, 180, 0, 40, 21, 5, 46, 46, 46, 100, 96, 62, 132, 4, 1, 132, 5, 1, 167, 255, 175, 21, 4]
abbrev dktX5_drift_4 : List UInt8 := dkwX5_drift_4 ++ dktX5_drift_5
def dkwX5_drift_3 : List UInt8 := [21, 6, 133, 10, 20, 1, 0, 184, 0, 131, 153, 0, 29, 29, 21, 6, 42, 180, 0, 22, 42, 180, 0, 25]
abbrev dktX5_drift_3 : List UInt8 := dkwX5_drift_3 ++ dktX5_drift_4
def dkwX5_drift_2 : List UInt8 := [21, 5, 42, 180, 0, 119, 3, 46, 161, 0, 7, 2, 167, 0, 10, 42, 180, 0, 122, 21, 5, 46, 54, 6]
abbrev dktX5_drift_2 : List UInt8 := dkwX5_drift_2 ++ dktX5_drift_3
def dkwX5_drift_1 : List UInt8 := [3, 62, 3, 54, 4, 27, 54, 5, 21, 5, 28, 163, 0, 81, 42, 180, 0, 116, 3, 46, 155, 0, 14]
abbrev dktX5_drift_1 : List UInt8 := dkwX5_drift_1 ++ dktX5_drift_2
def dkwX5_drift_0 : List UInt8 := [42, 27, 182, 0, 213, 153, 0, 16, 42, 28, 182, 0, 213, 153, 0, 8, 27, 28, 164, 0, 6, 18, 255, 172]
abbrev dktX5_drift_0 : List UInt8 := dkwX5_drift_0 ++ dktX5_drift_1
theorem dksX5_drift_0 : cX5_drift.data.toList.drop 0 = dktX5_drift_0 := by decide +kernel
theorem dksX5_drift_1 : cX5_drift.data.toList.drop 24 = dktX5_drift_1 := dk_seg dksX5_drift_0 24 rfl rfl
theorem dksX5_drift_2 : cX5_drift.data.toList.drop 47 = dktX5_drift_2 := dk_seg dksX5_drift_1 23 rfl rfl
theorem dksX5_drift_3 : cX5_drift.data.toList.drop 71 = dktX5_drift_3 := dk_seg dksX5_drift_2 24 rfl rfl
theorem dksX5_drift_4 : cX5_drift.data.toList.drop 95 = dktX5_drift_4 := dk_seg dksX5_drift_3 24 rfl rfl
theorem dksX5_drift_5 : cX5_drift.data.toList.drop 118 = dktX5_drift_5 := dk_seg dksX5_drift_4 23 rfl rfl
theorem dksX5_drift_6 : cX5_drift.data.toList.drop 142 = dktX5_drift_6 := dk_seg dksX5_drift_5 24 rfl rfl
theorem dX5_drift_0 : decode cX5_drift 0 = .ok (.aload_n 0, 1) := dk_42 (dk_at dksX5_drift_0 0 rfl rfl)
theorem dX5_drift_1 : decode cX5_drift 1 = .ok (.iload_n 1, 1) := dk_27 (dk_at dksX5_drift_0 1 rfl rfl)
theorem dX5_drift_2 : decode cX5_drift 2 = .ok (.invokevirtual 213, 3) := dk_182 0 213 (dk_at dksX5_drift_0 2 rfl rfl)
theorem dX5_drift_5 : decode cX5_drift 5 = .ok (.ifCond .eq 16, 3) := dk_153 0 16 (dk_at dksX5_drift_0 5 rfl rfl)
theorem dX5_drift_8 : decode cX5_drift 8 = .ok (.aload_n 0, 1) := dk_42 (dk_at dksX5_drift_0 8 rfl rfl)
theorem dX5_drift_9 : decode cX5_drift 9 = .ok (.iload_n 2, 1) := dk_28 (dk_at dksX5_drift_0 9 rfl rfl)
theorem dX5_drift_10 : decode cX5_drift 10 = .ok (.invokevirtual 213, 3) := dk_182 0 213 (dk_at dksX5_drift_0 10 rfl rfl)
theorem dX5_drift_13 : decode cX5_drift 13 = .ok (.ifCond .eq 8, 3) := dk_153 0 8 (dk_at dksX5_drift_0 13 rfl rfl)
theorem dX5_drift_16 : decode cX5_drift 16 = .ok (.iload_n 1, 1) := dk_27 (dk_at dksX5_drift_0 16 rfl rfl)
theorem dX5_drift_17 : decode cX5_drift 17 = .ok (.iload_n 2, 1) := dk_28 (dk_at dksX5_drift_0 17 rfl rfl)
theorem dX5_drift_18 : decode cX5_drift 18 = .ok (.if_icmp .le 6, 3) := dk_164 0 6 (dk_at dksX5_drift_0 18 rfl rfl)
theorem dX5_drift_21 : decode cX5_drift 21 = .ok (.ldc 255, 2) := dk_18 255 (dk_at dksX5_drift_0 21 rfl rfl)
theorem dX5_drift_23 : decode cX5_drift 23 = .ok (.ireturn, 1) := dk_172 (dk_at dksX5_drift_0 23 rfl rfl)
theorem dX5_drift_24 : decode cX5_drift 24 = .ok (.iconst 0, 1) := dk_3 (dk_at dksX5_drift_1 0 rfl rfl)
theorem dX5_drift_25 : decode cX5_drift 25 = .ok (.istore_n 3, 1) := dk_62 (dk_at dksX5_drift_1 1 rfl rfl)
theorem dX5_drift_26 : decode cX5_drift 26 = .ok (.iconst 0, 1) := dk_3 (dk_at dksX5_drift_1 2 rfl rfl)
theorem dX5_drift_27 : decode cX5_drift 27 = .ok (.istore 4, 2) := dk_54 4 (dk_at dksX5_drift_1 3 rfl rfl)
theorem dX5_drift_29 : decode cX5_drift 29 = .ok (.iload_n 1, 1) := dk_27 (dk_at dksX5_drift_1 5 rfl rfl)
theorem dX5_drift_30 : decode cX5_drift 30 = .ok (.istore 5, 2) := dk_54 5 (dk_at dksX5_drift_1 6 rfl rfl)
theorem dX5_drift_32 : decode cX5_drift 32 = .ok (.iload 5, 2) := dk_21 5 (dk_at dksX5_drift_1 8 rfl rfl)
theorem dX5_drift_34 : decode cX5_drift 34 = .ok (.iload_n 2, 1) := dk_28 (dk_at dksX5_drift_1 10 rfl rfl)
theorem dX5_drift_35 : decode cX5_drift 35 = .ok (.if_icmp .gt 81, 3) := dk_163 0 81 (dk_at dksX5_drift_1 11 rfl rfl)
theorem dX5_drift_38 : decode cX5_drift 38 = .ok (.aload_n 0, 1) := dk_42 (dk_at dksX5_drift_1 14 rfl rfl)
theorem dX5_drift_39 : decode cX5_drift 39 = .ok (.getfield 116, 3) := dk_180 0 116 (dk_at dksX5_drift_1 15 rfl rfl)
theorem dX5_drift_42 : decode cX5_drift 42 = .ok (.iconst 0, 1) := dk_3 (dk_at dksX5_drift_1 18 rfl rfl)
theorem dX5_drift_43 : decode cX5_drift 43 = .ok (.iaload, 1) := dk_46 (dk_at dksX5_drift_1 19 rfl rfl)
theorem dX5_drift_44 : decode cX5_drift 44 = .ok (.ifCond .lt 14, 3) := dk_155 0 14 (dk_at dksX5_drift_1 20 rfl rfl)
theorem dX5_drift_47 : decode cX5_drift 47 = .ok (.iload 5, 2) := dk_21 5 (dk_at dksX5_drift_2 0 rfl rfl)
theorem dX5_drift_49 : decode cX5_drift 49 = .ok (.aload_n 0, 1) := dk_42 (dk_at dksX5_drift_2 2 rfl rfl)
theorem dX5_drift_50 : decode cX5_drift 50 = .ok (.getfield 119, 3) := dk_180 0 119 (dk_at dksX5_drift_2 3 rfl rfl)
theorem dX5_drift_53 : decode cX5_drift 53 = .ok (.iconst 0, 1) := dk_3 (dk_at dksX5_drift_2 6 rfl rfl)
theorem dX5_drift_54 : decode cX5_drift 54 = .ok (.iaload, 1) := dk_46 (dk_at dksX5_drift_2 7 rfl rfl)
theorem dX5_drift_55 : decode cX5_drift 55 = .ok (.if_icmp .lt 7, 3) := dk_161 0 7 (dk_at dksX5_drift_2 8 rfl rfl)
theorem dX5_drift_58 : decode cX5_drift 58 = .ok (.iconst (-1), 1) := dk_2 (dk_at dksX5_drift_2 11 rfl rfl)
theorem dX5_drift_59 : decode cX5_drift 59 = .ok (.goto 10, 3) := dk_167 0 10 (dk_at dksX5_drift_2 12 rfl rfl)
theorem dX5_drift_62 : decode cX5_drift 62 = .ok (.aload_n 0, 1) := dk_42 (dk_at dksX5_drift_2 15 rfl rfl)
theorem dX5_drift_63 : decode cX5_drift 63 = .ok (.getfield 122, 3) := dk_180 0 122 (dk_at dksX5_drift_2 16 rfl rfl)
theorem dX5_drift_66 : decode cX5_drift 66 = .ok (.iload 5, 2) := dk_21 5 (dk_at dksX5_drift_2 19 rfl rfl)
theorem dX5_drift_68 : decode cX5_drift 68 = .ok (.iaload, 1) := dk_46 (dk_at dksX5_drift_2 21 rfl rfl)
theorem dX5_drift_69 : decode cX5_drift 69 = .ok (.istore 6, 2) := dk_54 6 (dk_at dksX5_drift_2 22 rfl rfl)
theorem dX5_drift_71 : decode cX5_drift 71 = .ok (.iload 6, 2) := dk_21 6 (dk_at dksX5_drift_3 0 rfl rfl)
theorem dX5_drift_73 : decode cX5_drift 73 = .ok (.i2l, 1) := dk_133 (dk_at dksX5_drift_3 2 rfl rfl)
theorem dX5_drift_74 : decode cX5_drift 74 = .ok (.lconst 1, 1) := dk_10 (dk_at dksX5_drift_3 3 rfl rfl)
theorem dX5_drift_75 : decode cX5_drift 75 = .ok (.ldc2_w 256, 3) := dk_20 1 0 (dk_at dksX5_drift_3 4 rfl rfl)
theorem dX5_drift_78 : decode cX5_drift 78 = .ok (.invokestatic 131, 3) := dk_184 0 131 (dk_at dksX5_drift_3 7 rfl rfl)
theorem dX5_drift_81 : decode cX5_drift 81 = .ok (.ifCond .eq 29, 3) := dk_153 0 29 (dk_at dksX5_drift_3 10 rfl rfl)
theorem dX5_drift_84 : decode cX5_drift 84 = .ok (.iload_n 3, 1) := dk_29 (dk_at dksX5_drift_3 13 rfl rfl)
theorem dX5_drift_85 : decode cX5_drift 85 = .ok (.iload 6, 2) := dk_21 6 (dk_at dksX5_drift_3 14 rfl rfl)
theorem dX5_drift_87 : decode cX5_drift 87 = .ok (.aload_n 0, 1) := dk_42 (dk_at dksX5_drift_3 16 rfl rfl)
theorem dX5_drift_88 : decode cX5_drift 88 = .ok (.getfield 22, 3) := dk_180 0 22 (dk_at dksX5_drift_3 17 rfl rfl)
theorem dX5_drift_91 : decode cX5_drift 91 = .ok (.aload_n 0, 1) := dk_42 (dk_at dksX5_drift_3 20 rfl rfl)
theorem dX5_drift_92 : decode cX5_drift 92 = .ok (.getfield 25, 3) := dk_180 0 25 (dk_at dksX5_drift_3 21 rfl rfl)
theorem dX5_drift_95 : decode cX5_drift 95 = .ok (.aload_n 0, 1) := dk_42 (dk_at dksX5_drift_4 0 rfl rfl)
theorem dX5_drift_96 : decode cX5_drift 96 = .ok (.getfield 40, 3) := dk_180 0 40 (dk_at dksX5_drift_4 1 rfl rfl)
theorem dX5_drift_99 : decode cX5_drift 99 = .ok (.iload 5, 2) := dk_21 5 (dk_at dksX5_drift_4 4 rfl rfl)
theorem dX5_drift_101 : decode cX5_drift 101 = .ok (.iaload, 1) := dk_46 (dk_at dksX5_drift_4 6 rfl rfl)
theorem dX5_drift_102 : decode cX5_drift 102 = .ok (.iaload, 1) := dk_46 (dk_at dksX5_drift_4 7 rfl rfl)
theorem dX5_drift_103 : decode cX5_drift 103 = .ok (.iaload, 1) := dk_46 (dk_at dksX5_drift_4 8 rfl rfl)
theorem dX5_drift_104 : decode cX5_drift 104 = .ok (.isub, 1) := dk_100 (dk_at dksX5_drift_4 9 rfl rfl)
theorem dX5_drift_105 : decode cX5_drift 105 = .ok (.iadd, 1) := dk_96 (dk_at dksX5_drift_4 10 rfl rfl)
theorem dX5_drift_106 : decode cX5_drift 106 = .ok (.istore_n 3, 1) := dk_62 (dk_at dksX5_drift_4 11 rfl rfl)
theorem dX5_drift_107 : decode cX5_drift 107 = .ok (.iinc 4 1, 3) := dk_132 4 1 (dk_at dksX5_drift_4 12 rfl rfl)
theorem dX5_drift_110 : decode cX5_drift 110 = .ok (.iinc 5 1, 3) := dk_132 5 1 (dk_at dksX5_drift_4 15 rfl rfl)
theorem dX5_drift_113 : decode cX5_drift 113 = .ok (.goto (-81), 3) := dk_167 255 175 (dk_at dksX5_drift_4 18 rfl rfl)
theorem dX5_drift_116 : decode cX5_drift 116 = .ok (.iload 4, 2) := dk_21 4 (dk_at dksX5_drift_4 21 rfl rfl)
theorem dX5_drift_118 : decode cX5_drift 118 = .ok (.ifCond .ne 7, 3) := dk_154 0 7 (dk_at dksX5_drift_5 0 rfl rfl)
theorem dX5_drift_121 : decode cX5_drift 121 = .ok (.ldc_w 258, 3) := dk_19 1 2 (dk_at dksX5_drift_5 3 rfl rfl)
theorem dX5_drift_124 : decode cX5_drift 124 = .ok (.ireturn, 1) := dk_172 (dk_at dksX5_drift_5 6 rfl rfl)
theorem dX5_drift_125 : decode cX5_drift 125 = .ok (.iload_n 3, 1) := dk_29 (dk_at dksX5_drift_5 7 rfl rfl)
theorem dX5_drift_126 : decode cX5_drift 126 = .ok (.iload 4, 2) := dk_21 4 (dk_at dksX5_drift_5 8 rfl rfl)
theorem dX5_drift_128 : decode cX5_drift 128 = .ok (.idiv, 1) := dk_108 (dk_at dksX5_drift_5 10 rfl rfl)
theorem dX5_drift_129 : decode cX5_drift 129 = .ok (.istore 5, 2) := dk_54 5 (dk_at dksX5_drift_5 11 rfl rfl)
theorem dX5_drift_131 : decode cX5_drift 131 = .ok (.iload 5, 2) := dk_21 5 (dk_at dksX5_drift_5 13 rfl rfl)
theorem dX5_drift_133 : decode cX5_drift 133 = .ok (.iload 4, 2) := dk_21 4 (dk_at dksX5_drift_5 15 rfl rfl)
theorem dX5_drift_135 : decode cX5_drift 135 = .ok (.imul, 1) := dk_104 (dk_at dksX5_drift_5 17 rfl rfl)
theorem dX5_drift_136 : decode cX5_drift 136 = .ok (.iload_n 3, 1) := dk_29 (dk_at dksX5_drift_5 18 rfl rfl)
theorem dX5_drift_137 : decode cX5_drift 137 = .ok (.if_icmp .le 10, 3) := dk_164 0 10 (dk_at dksX5_drift_5 19 rfl rfl)
theorem dX5_drift_140 : decode cX5_drift 140 = .ok (.iload 5, 2) := dk_21 5 (dk_at dksX5_drift_5 22 rfl rfl)
theorem dX5_drift_142 : decode cX5_drift 142 = .ok (.iconst 1, 1) := dk_4 (dk_at dksX5_drift_6 0 rfl rfl)
theorem dX5_drift_143 : decode cX5_drift 143 = .ok (.isub, 1) := dk_100 (dk_at dksX5_drift_6 1 rfl rfl)
theorem dX5_drift_144 : decode cX5_drift 144 = .ok (.goto 5, 3) := dk_167 0 5 (dk_at dksX5_drift_6 2 rfl rfl)
theorem dX5_drift_147 : decode cX5_drift 147 = .ok (.iload 5, 2) := dk_21 5 (dk_at dksX5_drift_6 5 rfl rfl)
theorem dX5_drift_149 : decode cX5_drift 149 = .ok (.ireturn, 1) := dk_172 (dk_at dksX5_drift_6 7 rfl rfl)
abbrev cX5_sheet : ByteArray := prog_11_method_48_code
def yX5_sheet : MethodName := ⟨RX5, "sheet", "(III)I"⟩
def dkwX5_sheet_3 : List UInt8 := [21, 4, 96, 3, 79, 132, 4, 1, 167, 255, 233, 29, 172]
abbrev dktX5_sheet_3 : List UInt8 := dkwX5_sheet_3 ++ []
def dkwX5_sheet_2 : List UInt8 := [180, 0, 119, 27, 29, 79, 3, 54, 4, 21, 4, 29, 162, 0, 23, 42, 180, 0, 122, 17, 0, 200, 27, 104]
abbrev dktX5_sheet_2 : List UInt8 := dkwX5_sheet_2 ++ dktX5_sheet_3
def dkwX5_sheet_1 : List UInt8 := [164, 0, 6, 16, 254, 172, 29, 156, 0, 9, 42, 8, 182, 1, 9, 172, 42, 180, 0, 116, 27, 28, 79, 42]
abbrev dktX5_sheet_1 : List UInt8 := dkwX5_sheet_1 ++ dktX5_sheet_2
def dkwX5_sheet_0 : List UInt8 := [27, 184, 1, 6, 153, 0, 22, 28, 133, 9, 20, 0, 138, 184, 0, 131, 153, 0, 10, 29, 17, 0, 200]
abbrev dktX5_sheet_0 : List UInt8 := dkwX5_sheet_0 ++ dktX5_sheet_1
theorem dksX5_sheet_0 : cX5_sheet.data.toList.drop 0 = dktX5_sheet_0 := by decide +kernel
theorem dksX5_sheet_1 : cX5_sheet.data.toList.drop 23 = dktX5_sheet_1 := dk_seg dksX5_sheet_0 23 rfl rfl
theorem dksX5_sheet_2 : cX5_sheet.data.toList.drop 47 = dktX5_sheet_2 := dk_seg dksX5_sheet_1 24 rfl rfl
theorem dksX5_sheet_3 : cX5_sheet.data.toList.drop 71 = dktX5_sheet_3 := dk_seg dksX5_sheet_2 24 rfl rfl
theorem dX5_sheet_0 : decode cX5_sheet 0 = .ok (.iload_n 1, 1) := dk_27 (dk_at dksX5_sheet_0 0 rfl rfl)
theorem dX5_sheet_1 : decode cX5_sheet 1 = .ok (.invokestatic 262, 3) := dk_184 1 6 (dk_at dksX5_sheet_0 1 rfl rfl)
theorem dX5_sheet_4 : decode cX5_sheet 4 = .ok (.ifCond .eq 22, 3) := dk_153 0 22 (dk_at dksX5_sheet_0 4 rfl rfl)
theorem dX5_sheet_7 : decode cX5_sheet 7 = .ok (.iload_n 2, 1) := dk_28 (dk_at dksX5_sheet_0 7 rfl rfl)
theorem dX5_sheet_8 : decode cX5_sheet 8 = .ok (.i2l, 1) := dk_133 (dk_at dksX5_sheet_0 8 rfl rfl)
theorem dX5_sheet_9 : decode cX5_sheet 9 = .ok (.lconst 0, 1) := dk_9 (dk_at dksX5_sheet_0 9 rfl rfl)
theorem dX5_sheet_10 : decode cX5_sheet 10 = .ok (.ldc2_w 138, 3) := dk_20 0 138 (dk_at dksX5_sheet_0 10 rfl rfl)
theorem dX5_sheet_13 : decode cX5_sheet 13 = .ok (.invokestatic 131, 3) := dk_184 0 131 (dk_at dksX5_sheet_0 13 rfl rfl)
theorem dX5_sheet_16 : decode cX5_sheet 16 = .ok (.ifCond .eq 10, 3) := dk_153 0 10 (dk_at dksX5_sheet_0 16 rfl rfl)
theorem dX5_sheet_19 : decode cX5_sheet 19 = .ok (.iload_n 3, 1) := dk_29 (dk_at dksX5_sheet_0 19 rfl rfl)
theorem dX5_sheet_20 : decode cX5_sheet 20 = .ok (.sipush 200, 3) := dk_17 0 200 (dk_at dksX5_sheet_0 20 rfl rfl)
theorem dX5_sheet_23 : decode cX5_sheet 23 = .ok (.if_icmp .le 6, 3) := dk_164 0 6 (dk_at dksX5_sheet_1 0 rfl rfl)
theorem dX5_sheet_26 : decode cX5_sheet 26 = .ok (.bipush (-2), 2) := dk_16 254 (dk_at dksX5_sheet_1 3 rfl rfl)
theorem dX5_sheet_28 : decode cX5_sheet 28 = .ok (.ireturn, 1) := dk_172 (dk_at dksX5_sheet_1 5 rfl rfl)
theorem dX5_sheet_29 : decode cX5_sheet 29 = .ok (.iload_n 3, 1) := dk_29 (dk_at dksX5_sheet_1 6 rfl rfl)
theorem dX5_sheet_30 : decode cX5_sheet 30 = .ok (.ifCond .ge 9, 3) := dk_156 0 9 (dk_at dksX5_sheet_1 7 rfl rfl)
theorem dX5_sheet_33 : decode cX5_sheet 33 = .ok (.aload_n 0, 1) := dk_42 (dk_at dksX5_sheet_1 10 rfl rfl)
theorem dX5_sheet_34 : decode cX5_sheet 34 = .ok (.iconst 5, 1) := dk_8 (dk_at dksX5_sheet_1 11 rfl rfl)
theorem dX5_sheet_35 : decode cX5_sheet 35 = .ok (.invokevirtual 265, 3) := dk_182 1 9 (dk_at dksX5_sheet_1 12 rfl rfl)
theorem dX5_sheet_38 : decode cX5_sheet 38 = .ok (.ireturn, 1) := dk_172 (dk_at dksX5_sheet_1 15 rfl rfl)
theorem dX5_sheet_39 : decode cX5_sheet 39 = .ok (.aload_n 0, 1) := dk_42 (dk_at dksX5_sheet_1 16 rfl rfl)
theorem dX5_sheet_40 : decode cX5_sheet 40 = .ok (.getfield 116, 3) := dk_180 0 116 (dk_at dksX5_sheet_1 17 rfl rfl)
theorem dX5_sheet_43 : decode cX5_sheet 43 = .ok (.iload_n 1, 1) := dk_27 (dk_at dksX5_sheet_1 20 rfl rfl)
theorem dX5_sheet_44 : decode cX5_sheet 44 = .ok (.iload_n 2, 1) := dk_28 (dk_at dksX5_sheet_1 21 rfl rfl)
theorem dX5_sheet_45 : decode cX5_sheet 45 = .ok (.iastore, 1) := dk_79 (dk_at dksX5_sheet_1 22 rfl rfl)
theorem dX5_sheet_46 : decode cX5_sheet 46 = .ok (.aload_n 0, 1) := dk_42 (dk_at dksX5_sheet_1 23 rfl rfl)
theorem dX5_sheet_47 : decode cX5_sheet 47 = .ok (.getfield 119, 3) := dk_180 0 119 (dk_at dksX5_sheet_2 0 rfl rfl)
theorem dX5_sheet_50 : decode cX5_sheet 50 = .ok (.iload_n 1, 1) := dk_27 (dk_at dksX5_sheet_2 3 rfl rfl)
theorem dX5_sheet_51 : decode cX5_sheet 51 = .ok (.iload_n 3, 1) := dk_29 (dk_at dksX5_sheet_2 4 rfl rfl)
theorem dX5_sheet_52 : decode cX5_sheet 52 = .ok (.iastore, 1) := dk_79 (dk_at dksX5_sheet_2 5 rfl rfl)
theorem dX5_sheet_53 : decode cX5_sheet 53 = .ok (.iconst 0, 1) := dk_3 (dk_at dksX5_sheet_2 6 rfl rfl)
theorem dX5_sheet_54 : decode cX5_sheet 54 = .ok (.istore 4, 2) := dk_54 4 (dk_at dksX5_sheet_2 7 rfl rfl)
theorem dX5_sheet_56 : decode cX5_sheet 56 = .ok (.iload 4, 2) := dk_21 4 (dk_at dksX5_sheet_2 9 rfl rfl)
theorem dX5_sheet_58 : decode cX5_sheet 58 = .ok (.iload_n 3, 1) := dk_29 (dk_at dksX5_sheet_2 11 rfl rfl)
theorem dX5_sheet_59 : decode cX5_sheet 59 = .ok (.if_icmp .ge 23, 3) := dk_162 0 23 (dk_at dksX5_sheet_2 12 rfl rfl)
theorem dX5_sheet_62 : decode cX5_sheet 62 = .ok (.aload_n 0, 1) := dk_42 (dk_at dksX5_sheet_2 15 rfl rfl)
theorem dX5_sheet_63 : decode cX5_sheet 63 = .ok (.getfield 122, 3) := dk_180 0 122 (dk_at dksX5_sheet_2 16 rfl rfl)
theorem dX5_sheet_66 : decode cX5_sheet 66 = .ok (.sipush 200, 3) := dk_17 0 200 (dk_at dksX5_sheet_2 19 rfl rfl)
theorem dX5_sheet_69 : decode cX5_sheet 69 = .ok (.iload_n 1, 1) := dk_27 (dk_at dksX5_sheet_2 22 rfl rfl)
theorem dX5_sheet_70 : decode cX5_sheet 70 = .ok (.imul, 1) := dk_104 (dk_at dksX5_sheet_2 23 rfl rfl)
theorem dX5_sheet_71 : decode cX5_sheet 71 = .ok (.iload 4, 2) := dk_21 4 (dk_at dksX5_sheet_3 0 rfl rfl)
theorem dX5_sheet_73 : decode cX5_sheet 73 = .ok (.iadd, 1) := dk_96 (dk_at dksX5_sheet_3 2 rfl rfl)
theorem dX5_sheet_74 : decode cX5_sheet 74 = .ok (.iconst 0, 1) := dk_3 (dk_at dksX5_sheet_3 3 rfl rfl)
theorem dX5_sheet_75 : decode cX5_sheet 75 = .ok (.iastore, 1) := dk_79 (dk_at dksX5_sheet_3 4 rfl rfl)
theorem dX5_sheet_76 : decode cX5_sheet 76 = .ok (.iinc 4 1, 3) := dk_132 4 1 (dk_at dksX5_sheet_3 5 rfl rfl)
theorem dX5_sheet_79 : decode cX5_sheet 79 = .ok (.goto (-23), 3) := dk_167 255 233 (dk_at dksX5_sheet_3 8 rfl rfl)
theorem dX5_sheet_82 : decode cX5_sheet 82 = .ok (.iload_n 3, 1) := dk_29 (dk_at dksX5_sheet_3 11 rfl rfl)
theorem dX5_sheet_83 : decode cX5_sheet 83 = .ok (.ireturn, 1) := dk_172 (dk_at dksX5_sheet_3 12 rfl rfl)
abbrev cX5_isSheet : ByteArray := prog_11_method_47_code
def yX5_isSheet : MethodName := ⟨RX5, "isSheet", "(I)Z"⟩
def dkwX5_isSheet_0 : List UInt8 := [26, 133, 9, 20, 0, 144, 184, 0, 131, 172]
abbrev dktX5_isSheet_0 : List UInt8 := dkwX5_isSheet_0 ++ []
theorem dksX5_isSheet_0 : cX5_isSheet.data.toList.drop 0 = dktX5_isSheet_0 := by decide +kernel
theorem dX5_isSheet_0 : decode cX5_isSheet 0 = .ok (.iload_n 0, 1) := dk_26 (dk_at dksX5_isSheet_0 0 rfl rfl)
theorem dX5_isSheet_1 : decode cX5_isSheet 1 = .ok (.i2l, 1) := dk_133 (dk_at dksX5_isSheet_0 1 rfl rfl)
theorem dX5_isSheet_2 : decode cX5_isSheet 2 = .ok (.lconst 0, 1) := dk_9 (dk_at dksX5_isSheet_0 2 rfl rfl)
theorem dX5_isSheet_3 : decode cX5_isSheet 3 = .ok (.ldc2_w 144, 3) := dk_20 0 144 (dk_at dksX5_isSheet_0 3 rfl rfl)
theorem dX5_isSheet_6 : decode cX5_isSheet 6 = .ok (.invokestatic 131, 3) := dk_184 0 131 (dk_at dksX5_isSheet_0 6 rfl rfl)
theorem dX5_isSheet_9 : decode cX5_isSheet 9 = .ok (.ireturn, 1) := dk_172 (dk_at dksX5_isSheet_0 9 rfl rfl)
abbrev cX5_met : ByteArray := prog_11_method_46_code
def yX5_met : MethodName := ⟨RX5, "met", "(I)I"⟩
def dkwX5_met_0 : List UInt8 := [42, 27, 181, 1, 3, 16, 246, 27, 100, 172]
abbrev dktX5_met_0 : List UInt8 := dkwX5_met_0 ++ []
theorem dksX5_met_0 : cX5_met.data.toList.drop 0 = dktX5_met_0 := by decide +kernel
theorem dX5_met_0 : decode cX5_met 0 = .ok (.aload_n 0, 1) := dk_42 (dk_at dksX5_met_0 0 rfl rfl)
theorem dX5_met_1 : decode cX5_met 1 = .ok (.iload_n 1, 1) := dk_27 (dk_at dksX5_met_0 1 rfl rfl)
theorem dX5_met_2 : decode cX5_met 2 = .ok (.putfield 259, 3) := dk_181 1 3 (dk_at dksX5_met_0 2 rfl rfl)
theorem dX5_met_5 : decode cX5_met 5 = .ok (.bipush (-10), 2) := dk_16 246 (dk_at dksX5_met_0 5 rfl rfl)
theorem dX5_met_7 : decode cX5_met 7 = .ok (.iload_n 1, 1) := dk_27 (dk_at dksX5_met_0 7 rfl rfl)
theorem dX5_met_8 : decode cX5_met 8 = .ok (.isub, 1) := dk_100 (dk_at dksX5_met_0 8 rfl rfl)
theorem dX5_met_9 : decode cX5_met 9 = .ok (.ireturn, 1) := dk_172 (dk_at dksX5_met_0 9 rfl rfl)
abbrev cX5_lose : ByteArray := prog_11_method_49_code
def yX5_lose : MethodName := ⟨RX5, "lose", "(I)I"⟩
def dkwX5_lose_1 : List UInt8 := [172, 42, 180, 0, 116, 27, 2, 79, 42, 180, 0, 119, 27, 46, 172]
abbrev dktX5_lose_1 : List UInt8 := dkwX5_lose_1 ++ []
def dkwX5_lose_0 : List UInt8 := [27, 184, 1, 6, 154, 0, 6, 16, 254, 172, 42, 180, 0, 116, 27, 46, 156, 0, 9, 42, 4, 182, 1, 9]
abbrev dktX5_lose_0 : List UInt8 := dkwX5_lose_0 ++ dktX5_lose_1
theorem dksX5_lose_0 : cX5_lose.data.toList.drop 0 = dktX5_lose_0 := by decide +kernel
theorem dksX5_lose_1 : cX5_lose.data.toList.drop 24 = dktX5_lose_1 := dk_seg dksX5_lose_0 24 rfl rfl
theorem dX5_lose_0 : decode cX5_lose 0 = .ok (.iload_n 1, 1) := dk_27 (dk_at dksX5_lose_0 0 rfl rfl)
theorem dX5_lose_1 : decode cX5_lose 1 = .ok (.invokestatic 262, 3) := dk_184 1 6 (dk_at dksX5_lose_0 1 rfl rfl)
theorem dX5_lose_4 : decode cX5_lose 4 = .ok (.ifCond .ne 6, 3) := dk_154 0 6 (dk_at dksX5_lose_0 4 rfl rfl)
theorem dX5_lose_7 : decode cX5_lose 7 = .ok (.bipush (-2), 2) := dk_16 254 (dk_at dksX5_lose_0 7 rfl rfl)
theorem dX5_lose_9 : decode cX5_lose 9 = .ok (.ireturn, 1) := dk_172 (dk_at dksX5_lose_0 9 rfl rfl)
theorem dX5_lose_10 : decode cX5_lose 10 = .ok (.aload_n 0, 1) := dk_42 (dk_at dksX5_lose_0 10 rfl rfl)
theorem dX5_lose_11 : decode cX5_lose 11 = .ok (.getfield 116, 3) := dk_180 0 116 (dk_at dksX5_lose_0 11 rfl rfl)
theorem dX5_lose_14 : decode cX5_lose 14 = .ok (.iload_n 1, 1) := dk_27 (dk_at dksX5_lose_0 14 rfl rfl)
theorem dX5_lose_15 : decode cX5_lose 15 = .ok (.iaload, 1) := dk_46 (dk_at dksX5_lose_0 15 rfl rfl)
theorem dX5_lose_16 : decode cX5_lose 16 = .ok (.ifCond .ge 9, 3) := dk_156 0 9 (dk_at dksX5_lose_0 16 rfl rfl)
theorem dX5_lose_19 : decode cX5_lose 19 = .ok (.aload_n 0, 1) := dk_42 (dk_at dksX5_lose_0 19 rfl rfl)
theorem dX5_lose_20 : decode cX5_lose 20 = .ok (.iconst 1, 1) := dk_4 (dk_at dksX5_lose_0 20 rfl rfl)
theorem dX5_lose_21 : decode cX5_lose 21 = .ok (.invokevirtual 265, 3) := dk_182 1 9 (dk_at dksX5_lose_0 21 rfl rfl)
theorem dX5_lose_24 : decode cX5_lose 24 = .ok (.ireturn, 1) := dk_172 (dk_at dksX5_lose_1 0 rfl rfl)
theorem dX5_lose_25 : decode cX5_lose 25 = .ok (.aload_n 0, 1) := dk_42 (dk_at dksX5_lose_1 1 rfl rfl)
theorem dX5_lose_26 : decode cX5_lose 26 = .ok (.getfield 116, 3) := dk_180 0 116 (dk_at dksX5_lose_1 2 rfl rfl)
theorem dX5_lose_29 : decode cX5_lose 29 = .ok (.iload_n 1, 1) := dk_27 (dk_at dksX5_lose_1 5 rfl rfl)
theorem dX5_lose_30 : decode cX5_lose 30 = .ok (.iconst (-1), 1) := dk_2 (dk_at dksX5_lose_1 6 rfl rfl)
theorem dX5_lose_31 : decode cX5_lose 31 = .ok (.iastore, 1) := dk_79 (dk_at dksX5_lose_1 7 rfl rfl)
theorem dX5_lose_32 : decode cX5_lose 32 = .ok (.aload_n 0, 1) := dk_42 (dk_at dksX5_lose_1 8 rfl rfl)
theorem dX5_lose_33 : decode cX5_lose 33 = .ok (.getfield 119, 3) := dk_180 0 119 (dk_at dksX5_lose_1 9 rfl rfl)
theorem dX5_lose_36 : decode cX5_lose 36 = .ok (.iload_n 1, 1) := dk_27 (dk_at dksX5_lose_1 12 rfl rfl)
theorem dX5_lose_37 : decode cX5_lose 37 = .ok (.iaload, 1) := dk_46 (dk_at dksX5_lose_1 13 rfl rfl)
theorem dX5_lose_38 : decode cX5_lose 38 = .ok (.ireturn, 1) := dk_172 (dk_at dksX5_lose_1 14 rfl rfl)
abbrev cX5_put : ByteArray := prog_11_method_51_code
def yX5_put : MethodName := ⟨RX5, "put", "(IIII)I"⟩
def dkwX5_put_3 : List UInt8 := [21, 4, 79, 4, 172]
abbrev dktX5_put_3 : List UInt8 := dkwX5_put_3 ++ []
def dkwX5_put_2 : List UInt8 := [29, 96, 28, 154, 0, 9, 21, 4, 145, 167, 0, 16, 28, 4, 160, 0, 9, 21, 4, 147, 167, 0, 5]
abbrev dktX5_put_2 : List UInt8 := dkwX5_put_2 ++ dktX5_put_3
def dkwX5_put_1 : List UInt8 := [28, 29, 182, 1, 13, 54, 5, 21, 5, 153, 0, 6, 21, 5, 172, 42, 180, 0, 122, 17, 0, 200, 27, 104]
abbrev dktX5_put_1 : List UInt8 := dkwX5_put_1 ++ dktX5_put_2
def dkwX5_put_0 : List UInt8 := [27, 184, 1, 6, 153, 0, 15, 28, 133, 9, 20, 0, 138, 184, 0, 131, 154, 0, 6, 16, 254, 172, 42, 27]
abbrev dktX5_put_0 : List UInt8 := dkwX5_put_0 ++ dktX5_put_1
theorem dksX5_put_0 : cX5_put.data.toList.drop 0 = dktX5_put_0 := by decide +kernel
theorem dksX5_put_1 : cX5_put.data.toList.drop 24 = dktX5_put_1 := dk_seg dksX5_put_0 24 rfl rfl
theorem dksX5_put_2 : cX5_put.data.toList.drop 48 = dktX5_put_2 := dk_seg dksX5_put_1 24 rfl rfl
theorem dksX5_put_3 : cX5_put.data.toList.drop 71 = dktX5_put_3 := dk_seg dksX5_put_2 23 rfl rfl
theorem dX5_put_0 : decode cX5_put 0 = .ok (.iload_n 1, 1) := dk_27 (dk_at dksX5_put_0 0 rfl rfl)
theorem dX5_put_1 : decode cX5_put 1 = .ok (.invokestatic 262, 3) := dk_184 1 6 (dk_at dksX5_put_0 1 rfl rfl)
theorem dX5_put_4 : decode cX5_put 4 = .ok (.ifCond .eq 15, 3) := dk_153 0 15 (dk_at dksX5_put_0 4 rfl rfl)
theorem dX5_put_7 : decode cX5_put 7 = .ok (.iload_n 2, 1) := dk_28 (dk_at dksX5_put_0 7 rfl rfl)
theorem dX5_put_8 : decode cX5_put 8 = .ok (.i2l, 1) := dk_133 (dk_at dksX5_put_0 8 rfl rfl)
theorem dX5_put_9 : decode cX5_put 9 = .ok (.lconst 0, 1) := dk_9 (dk_at dksX5_put_0 9 rfl rfl)
theorem dX5_put_10 : decode cX5_put 10 = .ok (.ldc2_w 138, 3) := dk_20 0 138 (dk_at dksX5_put_0 10 rfl rfl)
theorem dX5_put_13 : decode cX5_put 13 = .ok (.invokestatic 131, 3) := dk_184 0 131 (dk_at dksX5_put_0 13 rfl rfl)
theorem dX5_put_16 : decode cX5_put 16 = .ok (.ifCond .ne 6, 3) := dk_154 0 6 (dk_at dksX5_put_0 16 rfl rfl)
theorem dX5_put_19 : decode cX5_put 19 = .ok (.bipush (-2), 2) := dk_16 254 (dk_at dksX5_put_0 19 rfl rfl)
theorem dX5_put_21 : decode cX5_put 21 = .ok (.ireturn, 1) := dk_172 (dk_at dksX5_put_0 21 rfl rfl)
theorem dX5_put_22 : decode cX5_put 22 = .ok (.aload_n 0, 1) := dk_42 (dk_at dksX5_put_0 22 rfl rfl)
theorem dX5_put_23 : decode cX5_put 23 = .ok (.iload_n 1, 1) := dk_27 (dk_at dksX5_put_0 23 rfl rfl)
theorem dX5_put_24 : decode cX5_put 24 = .ok (.iload_n 2, 1) := dk_28 (dk_at dksX5_put_1 0 rfl rfl)
theorem dX5_put_25 : decode cX5_put 25 = .ok (.iload_n 3, 1) := dk_29 (dk_at dksX5_put_1 1 rfl rfl)
theorem dX5_put_26 : decode cX5_put 26 = .ok (.invokevirtual 269, 3) := dk_182 1 13 (dk_at dksX5_put_1 2 rfl rfl)
theorem dX5_put_29 : decode cX5_put 29 = .ok (.istore 5, 2) := dk_54 5 (dk_at dksX5_put_1 5 rfl rfl)
theorem dX5_put_31 : decode cX5_put 31 = .ok (.iload 5, 2) := dk_21 5 (dk_at dksX5_put_1 7 rfl rfl)
theorem dX5_put_33 : decode cX5_put 33 = .ok (.ifCond .eq 6, 3) := dk_153 0 6 (dk_at dksX5_put_1 9 rfl rfl)
theorem dX5_put_36 : decode cX5_put 36 = .ok (.iload 5, 2) := dk_21 5 (dk_at dksX5_put_1 12 rfl rfl)
theorem dX5_put_38 : decode cX5_put 38 = .ok (.ireturn, 1) := dk_172 (dk_at dksX5_put_1 14 rfl rfl)
theorem dX5_put_39 : decode cX5_put 39 = .ok (.aload_n 0, 1) := dk_42 (dk_at dksX5_put_1 15 rfl rfl)
theorem dX5_put_40 : decode cX5_put 40 = .ok (.getfield 122, 3) := dk_180 0 122 (dk_at dksX5_put_1 16 rfl rfl)
theorem dX5_put_43 : decode cX5_put 43 = .ok (.sipush 200, 3) := dk_17 0 200 (dk_at dksX5_put_1 19 rfl rfl)
theorem dX5_put_46 : decode cX5_put 46 = .ok (.iload_n 1, 1) := dk_27 (dk_at dksX5_put_1 22 rfl rfl)
theorem dX5_put_47 : decode cX5_put 47 = .ok (.imul, 1) := dk_104 (dk_at dksX5_put_1 23 rfl rfl)
theorem dX5_put_48 : decode cX5_put 48 = .ok (.iload_n 3, 1) := dk_29 (dk_at dksX5_put_2 0 rfl rfl)
theorem dX5_put_49 : decode cX5_put 49 = .ok (.iadd, 1) := dk_96 (dk_at dksX5_put_2 1 rfl rfl)
theorem dX5_put_50 : decode cX5_put 50 = .ok (.iload_n 2, 1) := dk_28 (dk_at dksX5_put_2 2 rfl rfl)
theorem dX5_put_51 : decode cX5_put 51 = .ok (.ifCond .ne 9, 3) := dk_154 0 9 (dk_at dksX5_put_2 3 rfl rfl)
theorem dX5_put_54 : decode cX5_put 54 = .ok (.iload 4, 2) := dk_21 4 (dk_at dksX5_put_2 6 rfl rfl)
theorem dX5_put_56 : decode cX5_put 56 = .ok (.i2b, 1) := dk_145 (dk_at dksX5_put_2 8 rfl rfl)
theorem dX5_put_57 : decode cX5_put 57 = .ok (.goto 16, 3) := dk_167 0 16 (dk_at dksX5_put_2 9 rfl rfl)
theorem dX5_put_60 : decode cX5_put 60 = .ok (.iload_n 2, 1) := dk_28 (dk_at dksX5_put_2 12 rfl rfl)
theorem dX5_put_61 : decode cX5_put 61 = .ok (.iconst 1, 1) := dk_4 (dk_at dksX5_put_2 13 rfl rfl)
theorem dX5_put_62 : decode cX5_put 62 = .ok (.if_icmp .ne 9, 3) := dk_160 0 9 (dk_at dksX5_put_2 14 rfl rfl)
theorem dX5_put_65 : decode cX5_put 65 = .ok (.iload 4, 2) := dk_21 4 (dk_at dksX5_put_2 17 rfl rfl)
theorem dX5_put_67 : decode cX5_put 67 = .ok (.i2s, 1) := dk_147 (dk_at dksX5_put_2 19 rfl rfl)
theorem dX5_put_68 : decode cX5_put 68 = .ok (.goto 5, 3) := dk_167 0 5 (dk_at dksX5_put_2 20 rfl rfl)
theorem dX5_put_71 : decode cX5_put 71 = .ok (.iload 4, 2) := dk_21 4 (dk_at dksX5_put_3 0 rfl rfl)
theorem dX5_put_73 : decode cX5_put 73 = .ok (.iastore, 1) := dk_79 (dk_at dksX5_put_3 2 rfl rfl)
theorem dX5_put_74 : decode cX5_put 74 = .ok (.iconst 1, 1) := dk_4 (dk_at dksX5_put_3 3 rfl rfl)
theorem dX5_put_75 : decode cX5_put 75 = .ok (.ireturn, 1) := dk_172 (dk_at dksX5_put_3 4 rfl rfl)
abbrev cX5_lacks : ByteArray := prog_11_method_50_code
def yX5_lacks : MethodName := ⟨RX5, "lacks", "(III)I"⟩
def dkwX5_lacks_2 : List UInt8 := [153, 0, 7, 3, 167, 0, 8, 42, 5, 182, 1, 9, 172]
abbrev dktX5_lacks_2 : List UInt8 := dkwX5_lacks_2 ++ []
def dkwX5_lacks_1 : List UInt8 := [159, 0, 9, 42, 6, 182, 1, 9, 172, 29, 133, 9, 42, 180, 0, 119, 27, 46, 4, 100, 133, 184, 0, 131]
abbrev dktX5_lacks_1 : List UInt8 := dkwX5_lacks_1 ++ dktX5_lacks_2
def dkwX5_lacks_0 : List UInt8 := [42, 180, 0, 116, 27, 46, 156, 0, 9, 42, 4, 182, 1, 9, 172, 42, 180, 0, 116, 27, 46, 28]
abbrev dktX5_lacks_0 : List UInt8 := dkwX5_lacks_0 ++ dktX5_lacks_1
theorem dksX5_lacks_0 : cX5_lacks.data.toList.drop 0 = dktX5_lacks_0 := by decide +kernel
theorem dksX5_lacks_1 : cX5_lacks.data.toList.drop 22 = dktX5_lacks_1 := dk_seg dksX5_lacks_0 22 rfl rfl
theorem dksX5_lacks_2 : cX5_lacks.data.toList.drop 46 = dktX5_lacks_2 := dk_seg dksX5_lacks_1 24 rfl rfl
theorem dX5_lacks_0 : decode cX5_lacks 0 = .ok (.aload_n 0, 1) := dk_42 (dk_at dksX5_lacks_0 0 rfl rfl)
theorem dX5_lacks_1 : decode cX5_lacks 1 = .ok (.getfield 116, 3) := dk_180 0 116 (dk_at dksX5_lacks_0 1 rfl rfl)
theorem dX5_lacks_4 : decode cX5_lacks 4 = .ok (.iload_n 1, 1) := dk_27 (dk_at dksX5_lacks_0 4 rfl rfl)
theorem dX5_lacks_5 : decode cX5_lacks 5 = .ok (.iaload, 1) := dk_46 (dk_at dksX5_lacks_0 5 rfl rfl)
theorem dX5_lacks_6 : decode cX5_lacks 6 = .ok (.ifCond .ge 9, 3) := dk_156 0 9 (dk_at dksX5_lacks_0 6 rfl rfl)
theorem dX5_lacks_9 : decode cX5_lacks 9 = .ok (.aload_n 0, 1) := dk_42 (dk_at dksX5_lacks_0 9 rfl rfl)
theorem dX5_lacks_10 : decode cX5_lacks 10 = .ok (.iconst 1, 1) := dk_4 (dk_at dksX5_lacks_0 10 rfl rfl)
theorem dX5_lacks_11 : decode cX5_lacks 11 = .ok (.invokevirtual 265, 3) := dk_182 1 9 (dk_at dksX5_lacks_0 11 rfl rfl)
theorem dX5_lacks_14 : decode cX5_lacks 14 = .ok (.ireturn, 1) := dk_172 (dk_at dksX5_lacks_0 14 rfl rfl)
theorem dX5_lacks_15 : decode cX5_lacks 15 = .ok (.aload_n 0, 1) := dk_42 (dk_at dksX5_lacks_0 15 rfl rfl)
theorem dX5_lacks_16 : decode cX5_lacks 16 = .ok (.getfield 116, 3) := dk_180 0 116 (dk_at dksX5_lacks_0 16 rfl rfl)
theorem dX5_lacks_19 : decode cX5_lacks 19 = .ok (.iload_n 1, 1) := dk_27 (dk_at dksX5_lacks_0 19 rfl rfl)
theorem dX5_lacks_20 : decode cX5_lacks 20 = .ok (.iaload, 1) := dk_46 (dk_at dksX5_lacks_0 20 rfl rfl)
theorem dX5_lacks_21 : decode cX5_lacks 21 = .ok (.iload_n 2, 1) := dk_28 (dk_at dksX5_lacks_0 21 rfl rfl)
theorem dX5_lacks_22 : decode cX5_lacks 22 = .ok (.if_icmp .eq 9, 3) := dk_159 0 9 (dk_at dksX5_lacks_1 0 rfl rfl)
theorem dX5_lacks_25 : decode cX5_lacks 25 = .ok (.aload_n 0, 1) := dk_42 (dk_at dksX5_lacks_1 3 rfl rfl)
theorem dX5_lacks_26 : decode cX5_lacks 26 = .ok (.iconst 3, 1) := dk_6 (dk_at dksX5_lacks_1 4 rfl rfl)
theorem dX5_lacks_27 : decode cX5_lacks 27 = .ok (.invokevirtual 265, 3) := dk_182 1 9 (dk_at dksX5_lacks_1 5 rfl rfl)
theorem dX5_lacks_30 : decode cX5_lacks 30 = .ok (.ireturn, 1) := dk_172 (dk_at dksX5_lacks_1 8 rfl rfl)
theorem dX5_lacks_31 : decode cX5_lacks 31 = .ok (.iload_n 3, 1) := dk_29 (dk_at dksX5_lacks_1 9 rfl rfl)
theorem dX5_lacks_32 : decode cX5_lacks 32 = .ok (.i2l, 1) := dk_133 (dk_at dksX5_lacks_1 10 rfl rfl)
theorem dX5_lacks_33 : decode cX5_lacks 33 = .ok (.lconst 0, 1) := dk_9 (dk_at dksX5_lacks_1 11 rfl rfl)
theorem dX5_lacks_34 : decode cX5_lacks 34 = .ok (.aload_n 0, 1) := dk_42 (dk_at dksX5_lacks_1 12 rfl rfl)
theorem dX5_lacks_35 : decode cX5_lacks 35 = .ok (.getfield 119, 3) := dk_180 0 119 (dk_at dksX5_lacks_1 13 rfl rfl)
theorem dX5_lacks_38 : decode cX5_lacks 38 = .ok (.iload_n 1, 1) := dk_27 (dk_at dksX5_lacks_1 16 rfl rfl)
theorem dX5_lacks_39 : decode cX5_lacks 39 = .ok (.iaload, 1) := dk_46 (dk_at dksX5_lacks_1 17 rfl rfl)
theorem dX5_lacks_40 : decode cX5_lacks 40 = .ok (.iconst 1, 1) := dk_4 (dk_at dksX5_lacks_1 18 rfl rfl)
theorem dX5_lacks_41 : decode cX5_lacks 41 = .ok (.isub, 1) := dk_100 (dk_at dksX5_lacks_1 19 rfl rfl)
theorem dX5_lacks_42 : decode cX5_lacks 42 = .ok (.i2l, 1) := dk_133 (dk_at dksX5_lacks_1 20 rfl rfl)
theorem dX5_lacks_43 : decode cX5_lacks 43 = .ok (.invokestatic 131, 3) := dk_184 0 131 (dk_at dksX5_lacks_1 21 rfl rfl)
theorem dX5_lacks_46 : decode cX5_lacks 46 = .ok (.ifCond .eq 7, 3) := dk_153 0 7 (dk_at dksX5_lacks_2 0 rfl rfl)
theorem dX5_lacks_49 : decode cX5_lacks 49 = .ok (.iconst 0, 1) := dk_3 (dk_at dksX5_lacks_2 3 rfl rfl)
theorem dX5_lacks_50 : decode cX5_lacks 50 = .ok (.goto 8, 3) := dk_167 0 8 (dk_at dksX5_lacks_2 4 rfl rfl)
theorem dX5_lacks_53 : decode cX5_lacks 53 = .ok (.aload_n 0, 1) := dk_42 (dk_at dksX5_lacks_2 7 rfl rfl)
theorem dX5_lacks_54 : decode cX5_lacks 54 = .ok (.iconst 2, 1) := dk_5 (dk_at dksX5_lacks_2 8 rfl rfl)
theorem dX5_lacks_55 : decode cX5_lacks 55 = .ok (.invokevirtual 265, 3) := dk_182 1 9 (dk_at dksX5_lacks_2 9 rfl rfl)
theorem dX5_lacks_58 : decode cX5_lacks 58 = .ok (.ireturn, 1) := dk_172 (dk_at dksX5_lacks_2 12 rfl rfl)
abbrev cX5_get : ByteArray := prog_11_method_52_code
def yX5_get : MethodName := ⟨RX5, "get", "(III)I"⟩
def dkwX5_get_1 : List UInt8 := [182, 1, 13, 153, 0, 7, 19, 1, 17, 172, 42, 180, 0, 122, 17, 0, 200, 27, 104, 29, 96, 46, 172]
abbrev dktX5_get_1 : List UInt8 := dkwX5_get_1 ++ []
def dkwX5_get_0 : List UInt8 := [27, 184, 1, 6, 153, 0, 25, 28, 133, 9, 20, 0, 138, 184, 0, 131, 153, 0, 13, 42, 27, 28, 29]
abbrev dktX5_get_0 : List UInt8 := dkwX5_get_0 ++ dktX5_get_1
theorem dksX5_get_0 : cX5_get.data.toList.drop 0 = dktX5_get_0 := by decide +kernel
theorem dksX5_get_1 : cX5_get.data.toList.drop 23 = dktX5_get_1 := dk_seg dksX5_get_0 23 rfl rfl
theorem dX5_get_0 : decode cX5_get 0 = .ok (.iload_n 1, 1) := dk_27 (dk_at dksX5_get_0 0 rfl rfl)
theorem dX5_get_1 : decode cX5_get 1 = .ok (.invokestatic 262, 3) := dk_184 1 6 (dk_at dksX5_get_0 1 rfl rfl)
theorem dX5_get_4 : decode cX5_get 4 = .ok (.ifCond .eq 25, 3) := dk_153 0 25 (dk_at dksX5_get_0 4 rfl rfl)
theorem dX5_get_7 : decode cX5_get 7 = .ok (.iload_n 2, 1) := dk_28 (dk_at dksX5_get_0 7 rfl rfl)
theorem dX5_get_8 : decode cX5_get 8 = .ok (.i2l, 1) := dk_133 (dk_at dksX5_get_0 8 rfl rfl)
theorem dX5_get_9 : decode cX5_get 9 = .ok (.lconst 0, 1) := dk_9 (dk_at dksX5_get_0 9 rfl rfl)
theorem dX5_get_10 : decode cX5_get 10 = .ok (.ldc2_w 138, 3) := dk_20 0 138 (dk_at dksX5_get_0 10 rfl rfl)
theorem dX5_get_13 : decode cX5_get 13 = .ok (.invokestatic 131, 3) := dk_184 0 131 (dk_at dksX5_get_0 13 rfl rfl)
theorem dX5_get_16 : decode cX5_get 16 = .ok (.ifCond .eq 13, 3) := dk_153 0 13 (dk_at dksX5_get_0 16 rfl rfl)
theorem dX5_get_19 : decode cX5_get 19 = .ok (.aload_n 0, 1) := dk_42 (dk_at dksX5_get_0 19 rfl rfl)
theorem dX5_get_20 : decode cX5_get 20 = .ok (.iload_n 1, 1) := dk_27 (dk_at dksX5_get_0 20 rfl rfl)
theorem dX5_get_21 : decode cX5_get 21 = .ok (.iload_n 2, 1) := dk_28 (dk_at dksX5_get_0 21 rfl rfl)
theorem dX5_get_22 : decode cX5_get 22 = .ok (.iload_n 3, 1) := dk_29 (dk_at dksX5_get_0 22 rfl rfl)
theorem dX5_get_23 : decode cX5_get 23 = .ok (.invokevirtual 269, 3) := dk_182 1 13 (dk_at dksX5_get_1 0 rfl rfl)
theorem dX5_get_26 : decode cX5_get 26 = .ok (.ifCond .eq 7, 3) := dk_153 0 7 (dk_at dksX5_get_1 3 rfl rfl)
theorem dX5_get_29 : decode cX5_get 29 = .ok (.ldc_w 273, 3) := dk_19 1 17 (dk_at dksX5_get_1 6 rfl rfl)
theorem dX5_get_32 : decode cX5_get 32 = .ok (.ireturn, 1) := dk_172 (dk_at dksX5_get_1 9 rfl rfl)
theorem dX5_get_33 : decode cX5_get 33 = .ok (.aload_n 0, 1) := dk_42 (dk_at dksX5_get_1 10 rfl rfl)
theorem dX5_get_34 : decode cX5_get 34 = .ok (.getfield 122, 3) := dk_180 0 122 (dk_at dksX5_get_1 11 rfl rfl)
theorem dX5_get_37 : decode cX5_get 37 = .ok (.sipush 200, 3) := dk_17 0 200 (dk_at dksX5_get_1 14 rfl rfl)
theorem dX5_get_40 : decode cX5_get 40 = .ok (.iload_n 1, 1) := dk_27 (dk_at dksX5_get_1 17 rfl rfl)
theorem dX5_get_41 : decode cX5_get 41 = .ok (.imul, 1) := dk_104 (dk_at dksX5_get_1 18 rfl rfl)
theorem dX5_get_42 : decode cX5_get 42 = .ok (.iload_n 3, 1) := dk_29 (dk_at dksX5_get_1 19 rfl rfl)
theorem dX5_get_43 : decode cX5_get 43 = .ok (.iadd, 1) := dk_96 (dk_at dksX5_get_1 20 rfl rfl)
theorem dX5_get_44 : decode cX5_get 44 = .ok (.iaload, 1) := dk_46 (dk_at dksX5_get_1 21 rfl rfl)
theorem dX5_get_45 : decode cX5_get 45 = .ok (.ireturn, 1) := dk_172 (dk_at dksX5_get_1 22 rfl rfl)
abbrev cX5_copy : ByteArray := prog_11_method_53_code
def yX5_copy : MethodName := ⟨RX5, "copy", "(IIIII)I"⟩
def dkwX5_copy_8 : List UInt8 := [132, 6, 1, 167, 255, 223, 4, 172]
abbrev dktX5_copy_8 : List UInt8 := dkwX5_copy_8 ++ []
def dkwX5_copy_7 : List UInt8 := [180, 0, 122, 17, 0, 200, 29, 104, 21, 4, 96, 21, 6, 96, 42, 180, 0, 125, 21, 6, 46, 79]
abbrev dktX5_copy_7 : List UInt8 := dkwX5_copy_7 ++ dktX5_copy_8
def dkwX5_copy_6 : List UInt8 := [28, 96, 21, 6, 96, 46, 79, 132, 6, 1, 167, 255, 224, 3, 54, 6, 21, 6, 21, 5, 162, 0, 32, 42]
abbrev dktX5_copy_6 : List UInt8 := dkwX5_copy_6 ++ dktX5_copy_7
def dkwX5_copy_5 : List UInt8 := [54, 6, 21, 6, 21, 5, 162, 0, 31, 42, 180, 0, 125, 21, 6, 42, 180, 0, 122, 17, 0, 200, 27, 104]
abbrev dktX5_copy_5 : List UInt8 := dkwX5_copy_5 ++ dktX5_copy_6
def dkwX5_copy_4 : List UInt8 := [133, 21, 5, 133, 97, 42, 180, 0, 119, 29, 46, 133, 148, 158, 0, 9, 42, 5, 182, 1, 9, 172, 3]
abbrev dktX5_copy_4 : List UInt8 := dkwX5_copy_4 ++ dktX5_copy_5
def dkwX5_copy_3 : List UInt8 := [21, 5, 155, 0, 38, 28, 133, 21, 5, 133, 97, 42, 180, 0, 119, 27, 46, 133, 148, 157, 0, 21, 21, 4]
abbrev dktX5_copy_3 : List UInt8 := dkwX5_copy_3 ++ dktX5_copy_4
def dkwX5_copy_2 : List UInt8 := [42, 180, 0, 116, 29, 46, 159, 0, 9, 42, 7, 182, 1, 9, 172, 28, 155, 0, 48, 21, 4, 155, 0, 43]
abbrev dktX5_copy_2 : List UInt8 := dkwX5_copy_2 ++ dktX5_copy_3
def dkwX5_copy_1 : List UInt8 := [155, 0, 12, 42, 180, 0, 116, 29, 46, 156, 0, 9, 42, 4, 182, 1, 9, 172, 42, 180, 0, 116, 27, 46]
abbrev dktX5_copy_1 : List UInt8 := dkwX5_copy_1 ++ dktX5_copy_2
def dkwX5_copy_0 : List UInt8 := [27, 184, 1, 6, 153, 0, 10, 29, 184, 1, 6, 154, 0, 6, 16, 254, 172, 42, 180, 0, 116, 27, 46]
abbrev dktX5_copy_0 : List UInt8 := dkwX5_copy_0 ++ dktX5_copy_1
theorem dksX5_copy_0 : cX5_copy.data.toList.drop 0 = dktX5_copy_0 := by decide +kernel
theorem dksX5_copy_1 : cX5_copy.data.toList.drop 23 = dktX5_copy_1 := dk_seg dksX5_copy_0 23 rfl rfl
theorem dksX5_copy_2 : cX5_copy.data.toList.drop 47 = dktX5_copy_2 := dk_seg dksX5_copy_1 24 rfl rfl
theorem dksX5_copy_3 : cX5_copy.data.toList.drop 71 = dktX5_copy_3 := dk_seg dksX5_copy_2 24 rfl rfl
theorem dksX5_copy_4 : cX5_copy.data.toList.drop 95 = dktX5_copy_4 := dk_seg dksX5_copy_3 24 rfl rfl
theorem dksX5_copy_5 : cX5_copy.data.toList.drop 118 = dktX5_copy_5 := dk_seg dksX5_copy_4 23 rfl rfl
theorem dksX5_copy_6 : cX5_copy.data.toList.drop 142 = dktX5_copy_6 := dk_seg dksX5_copy_5 24 rfl rfl
theorem dksX5_copy_7 : cX5_copy.data.toList.drop 166 = dktX5_copy_7 := dk_seg dksX5_copy_6 24 rfl rfl
theorem dksX5_copy_8 : cX5_copy.data.toList.drop 188 = dktX5_copy_8 := dk_seg dksX5_copy_7 22 rfl rfl
theorem dX5_copy_0 : decode cX5_copy 0 = .ok (.iload_n 1, 1) := dk_27 (dk_at dksX5_copy_0 0 rfl rfl)
theorem dX5_copy_1 : decode cX5_copy 1 = .ok (.invokestatic 262, 3) := dk_184 1 6 (dk_at dksX5_copy_0 1 rfl rfl)
theorem dX5_copy_4 : decode cX5_copy 4 = .ok (.ifCond .eq 10, 3) := dk_153 0 10 (dk_at dksX5_copy_0 4 rfl rfl)
theorem dX5_copy_7 : decode cX5_copy 7 = .ok (.iload_n 3, 1) := dk_29 (dk_at dksX5_copy_0 7 rfl rfl)
theorem dX5_copy_8 : decode cX5_copy 8 = .ok (.invokestatic 262, 3) := dk_184 1 6 (dk_at dksX5_copy_0 8 rfl rfl)
theorem dX5_copy_11 : decode cX5_copy 11 = .ok (.ifCond .ne 6, 3) := dk_154 0 6 (dk_at dksX5_copy_0 11 rfl rfl)
theorem dX5_copy_14 : decode cX5_copy 14 = .ok (.bipush (-2), 2) := dk_16 254 (dk_at dksX5_copy_0 14 rfl rfl)
theorem dX5_copy_16 : decode cX5_copy 16 = .ok (.ireturn, 1) := dk_172 (dk_at dksX5_copy_0 16 rfl rfl)
theorem dX5_copy_17 : decode cX5_copy 17 = .ok (.aload_n 0, 1) := dk_42 (dk_at dksX5_copy_0 17 rfl rfl)
theorem dX5_copy_18 : decode cX5_copy 18 = .ok (.getfield 116, 3) := dk_180 0 116 (dk_at dksX5_copy_0 18 rfl rfl)
theorem dX5_copy_21 : decode cX5_copy 21 = .ok (.iload_n 1, 1) := dk_27 (dk_at dksX5_copy_0 21 rfl rfl)
theorem dX5_copy_22 : decode cX5_copy 22 = .ok (.iaload, 1) := dk_46 (dk_at dksX5_copy_0 22 rfl rfl)
theorem dX5_copy_23 : decode cX5_copy 23 = .ok (.ifCond .lt 12, 3) := dk_155 0 12 (dk_at dksX5_copy_1 0 rfl rfl)
theorem dX5_copy_26 : decode cX5_copy 26 = .ok (.aload_n 0, 1) := dk_42 (dk_at dksX5_copy_1 3 rfl rfl)
theorem dX5_copy_27 : decode cX5_copy 27 = .ok (.getfield 116, 3) := dk_180 0 116 (dk_at dksX5_copy_1 4 rfl rfl)
theorem dX5_copy_30 : decode cX5_copy 30 = .ok (.iload_n 3, 1) := dk_29 (dk_at dksX5_copy_1 7 rfl rfl)
theorem dX5_copy_31 : decode cX5_copy 31 = .ok (.iaload, 1) := dk_46 (dk_at dksX5_copy_1 8 rfl rfl)
theorem dX5_copy_32 : decode cX5_copy 32 = .ok (.ifCond .ge 9, 3) := dk_156 0 9 (dk_at dksX5_copy_1 9 rfl rfl)
theorem dX5_copy_35 : decode cX5_copy 35 = .ok (.aload_n 0, 1) := dk_42 (dk_at dksX5_copy_1 12 rfl rfl)
theorem dX5_copy_36 : decode cX5_copy 36 = .ok (.iconst 1, 1) := dk_4 (dk_at dksX5_copy_1 13 rfl rfl)
theorem dX5_copy_37 : decode cX5_copy 37 = .ok (.invokevirtual 265, 3) := dk_182 1 9 (dk_at dksX5_copy_1 14 rfl rfl)
theorem dX5_copy_40 : decode cX5_copy 40 = .ok (.ireturn, 1) := dk_172 (dk_at dksX5_copy_1 17 rfl rfl)
theorem dX5_copy_41 : decode cX5_copy 41 = .ok (.aload_n 0, 1) := dk_42 (dk_at dksX5_copy_1 18 rfl rfl)
theorem dX5_copy_42 : decode cX5_copy 42 = .ok (.getfield 116, 3) := dk_180 0 116 (dk_at dksX5_copy_1 19 rfl rfl)
theorem dX5_copy_45 : decode cX5_copy 45 = .ok (.iload_n 1, 1) := dk_27 (dk_at dksX5_copy_1 22 rfl rfl)
theorem dX5_copy_46 : decode cX5_copy 46 = .ok (.iaload, 1) := dk_46 (dk_at dksX5_copy_1 23 rfl rfl)
theorem dX5_copy_47 : decode cX5_copy 47 = .ok (.aload_n 0, 1) := dk_42 (dk_at dksX5_copy_2 0 rfl rfl)
theorem dX5_copy_48 : decode cX5_copy 48 = .ok (.getfield 116, 3) := dk_180 0 116 (dk_at dksX5_copy_2 1 rfl rfl)
theorem dX5_copy_51 : decode cX5_copy 51 = .ok (.iload_n 3, 1) := dk_29 (dk_at dksX5_copy_2 4 rfl rfl)
theorem dX5_copy_52 : decode cX5_copy 52 = .ok (.iaload, 1) := dk_46 (dk_at dksX5_copy_2 5 rfl rfl)
theorem dX5_copy_53 : decode cX5_copy 53 = .ok (.if_icmp .eq 9, 3) := dk_159 0 9 (dk_at dksX5_copy_2 6 rfl rfl)
theorem dX5_copy_56 : decode cX5_copy 56 = .ok (.aload_n 0, 1) := dk_42 (dk_at dksX5_copy_2 9 rfl rfl)
theorem dX5_copy_57 : decode cX5_copy 57 = .ok (.iconst 4, 1) := dk_7 (dk_at dksX5_copy_2 10 rfl rfl)
theorem dX5_copy_58 : decode cX5_copy 58 = .ok (.invokevirtual 265, 3) := dk_182 1 9 (dk_at dksX5_copy_2 11 rfl rfl)
theorem dX5_copy_61 : decode cX5_copy 61 = .ok (.ireturn, 1) := dk_172 (dk_at dksX5_copy_2 14 rfl rfl)
theorem dX5_copy_62 : decode cX5_copy 62 = .ok (.iload_n 2, 1) := dk_28 (dk_at dksX5_copy_2 15 rfl rfl)
theorem dX5_copy_63 : decode cX5_copy 63 = .ok (.ifCond .lt 48, 3) := dk_155 0 48 (dk_at dksX5_copy_2 16 rfl rfl)
theorem dX5_copy_66 : decode cX5_copy 66 = .ok (.iload 4, 2) := dk_21 4 (dk_at dksX5_copy_2 19 rfl rfl)
theorem dX5_copy_68 : decode cX5_copy 68 = .ok (.ifCond .lt 43, 3) := dk_155 0 43 (dk_at dksX5_copy_2 21 rfl rfl)
theorem dX5_copy_71 : decode cX5_copy 71 = .ok (.iload 5, 2) := dk_21 5 (dk_at dksX5_copy_3 0 rfl rfl)
theorem dX5_copy_73 : decode cX5_copy 73 = .ok (.ifCond .lt 38, 3) := dk_155 0 38 (dk_at dksX5_copy_3 2 rfl rfl)
theorem dX5_copy_76 : decode cX5_copy 76 = .ok (.iload_n 2, 1) := dk_28 (dk_at dksX5_copy_3 5 rfl rfl)
theorem dX5_copy_77 : decode cX5_copy 77 = .ok (.i2l, 1) := dk_133 (dk_at dksX5_copy_3 6 rfl rfl)
theorem dX5_copy_78 : decode cX5_copy 78 = .ok (.iload 5, 2) := dk_21 5 (dk_at dksX5_copy_3 7 rfl rfl)
theorem dX5_copy_80 : decode cX5_copy 80 = .ok (.i2l, 1) := dk_133 (dk_at dksX5_copy_3 9 rfl rfl)
theorem dX5_copy_81 : decode cX5_copy 81 = .ok (.ladd, 1) := dk_97 (dk_at dksX5_copy_3 10 rfl rfl)
theorem dX5_copy_82 : decode cX5_copy 82 = .ok (.aload_n 0, 1) := dk_42 (dk_at dksX5_copy_3 11 rfl rfl)
theorem dX5_copy_83 : decode cX5_copy 83 = .ok (.getfield 119, 3) := dk_180 0 119 (dk_at dksX5_copy_3 12 rfl rfl)
theorem dX5_copy_86 : decode cX5_copy 86 = .ok (.iload_n 1, 1) := dk_27 (dk_at dksX5_copy_3 15 rfl rfl)
theorem dX5_copy_87 : decode cX5_copy 87 = .ok (.iaload, 1) := dk_46 (dk_at dksX5_copy_3 16 rfl rfl)
theorem dX5_copy_88 : decode cX5_copy 88 = .ok (.i2l, 1) := dk_133 (dk_at dksX5_copy_3 17 rfl rfl)
theorem dX5_copy_89 : decode cX5_copy 89 = .ok (.lcmp, 1) := dk_148 (dk_at dksX5_copy_3 18 rfl rfl)
theorem dX5_copy_90 : decode cX5_copy 90 = .ok (.ifCond .gt 21, 3) := dk_157 0 21 (dk_at dksX5_copy_3 19 rfl rfl)
theorem dX5_copy_93 : decode cX5_copy 93 = .ok (.iload 4, 2) := dk_21 4 (dk_at dksX5_copy_3 22 rfl rfl)
theorem dX5_copy_95 : decode cX5_copy 95 = .ok (.i2l, 1) := dk_133 (dk_at dksX5_copy_4 0 rfl rfl)
theorem dX5_copy_96 : decode cX5_copy 96 = .ok (.iload 5, 2) := dk_21 5 (dk_at dksX5_copy_4 1 rfl rfl)
theorem dX5_copy_98 : decode cX5_copy 98 = .ok (.i2l, 1) := dk_133 (dk_at dksX5_copy_4 3 rfl rfl)
theorem dX5_copy_99 : decode cX5_copy 99 = .ok (.ladd, 1) := dk_97 (dk_at dksX5_copy_4 4 rfl rfl)
theorem dX5_copy_100 : decode cX5_copy 100 = .ok (.aload_n 0, 1) := dk_42 (dk_at dksX5_copy_4 5 rfl rfl)
theorem dX5_copy_101 : decode cX5_copy 101 = .ok (.getfield 119, 3) := dk_180 0 119 (dk_at dksX5_copy_4 6 rfl rfl)
theorem dX5_copy_104 : decode cX5_copy 104 = .ok (.iload_n 3, 1) := dk_29 (dk_at dksX5_copy_4 9 rfl rfl)
theorem dX5_copy_105 : decode cX5_copy 105 = .ok (.iaload, 1) := dk_46 (dk_at dksX5_copy_4 10 rfl rfl)
theorem dX5_copy_106 : decode cX5_copy 106 = .ok (.i2l, 1) := dk_133 (dk_at dksX5_copy_4 11 rfl rfl)
theorem dX5_copy_107 : decode cX5_copy 107 = .ok (.lcmp, 1) := dk_148 (dk_at dksX5_copy_4 12 rfl rfl)
theorem dX5_copy_108 : decode cX5_copy 108 = .ok (.ifCond .le 9, 3) := dk_158 0 9 (dk_at dksX5_copy_4 13 rfl rfl)
theorem dX5_copy_111 : decode cX5_copy 111 = .ok (.aload_n 0, 1) := dk_42 (dk_at dksX5_copy_4 16 rfl rfl)
theorem dX5_copy_112 : decode cX5_copy 112 = .ok (.iconst 2, 1) := dk_5 (dk_at dksX5_copy_4 17 rfl rfl)
theorem dX5_copy_113 : decode cX5_copy 113 = .ok (.invokevirtual 265, 3) := dk_182 1 9 (dk_at dksX5_copy_4 18 rfl rfl)
theorem dX5_copy_116 : decode cX5_copy 116 = .ok (.ireturn, 1) := dk_172 (dk_at dksX5_copy_4 21 rfl rfl)
theorem dX5_copy_117 : decode cX5_copy 117 = .ok (.iconst 0, 1) := dk_3 (dk_at dksX5_copy_4 22 rfl rfl)
theorem dX5_copy_118 : decode cX5_copy 118 = .ok (.istore 6, 2) := dk_54 6 (dk_at dksX5_copy_5 0 rfl rfl)
theorem dX5_copy_120 : decode cX5_copy 120 = .ok (.iload 6, 2) := dk_21 6 (dk_at dksX5_copy_5 2 rfl rfl)
theorem dX5_copy_122 : decode cX5_copy 122 = .ok (.iload 5, 2) := dk_21 5 (dk_at dksX5_copy_5 4 rfl rfl)
theorem dX5_copy_124 : decode cX5_copy 124 = .ok (.if_icmp .ge 31, 3) := dk_162 0 31 (dk_at dksX5_copy_5 6 rfl rfl)
theorem dX5_copy_127 : decode cX5_copy 127 = .ok (.aload_n 0, 1) := dk_42 (dk_at dksX5_copy_5 9 rfl rfl)
theorem dX5_copy_128 : decode cX5_copy 128 = .ok (.getfield 125, 3) := dk_180 0 125 (dk_at dksX5_copy_5 10 rfl rfl)
theorem dX5_copy_131 : decode cX5_copy 131 = .ok (.iload 6, 2) := dk_21 6 (dk_at dksX5_copy_5 13 rfl rfl)
theorem dX5_copy_133 : decode cX5_copy 133 = .ok (.aload_n 0, 1) := dk_42 (dk_at dksX5_copy_5 15 rfl rfl)
theorem dX5_copy_134 : decode cX5_copy 134 = .ok (.getfield 122, 3) := dk_180 0 122 (dk_at dksX5_copy_5 16 rfl rfl)
theorem dX5_copy_137 : decode cX5_copy 137 = .ok (.sipush 200, 3) := dk_17 0 200 (dk_at dksX5_copy_5 19 rfl rfl)
theorem dX5_copy_140 : decode cX5_copy 140 = .ok (.iload_n 1, 1) := dk_27 (dk_at dksX5_copy_5 22 rfl rfl)
theorem dX5_copy_141 : decode cX5_copy 141 = .ok (.imul, 1) := dk_104 (dk_at dksX5_copy_5 23 rfl rfl)
theorem dX5_copy_142 : decode cX5_copy 142 = .ok (.iload_n 2, 1) := dk_28 (dk_at dksX5_copy_6 0 rfl rfl)
theorem dX5_copy_143 : decode cX5_copy 143 = .ok (.iadd, 1) := dk_96 (dk_at dksX5_copy_6 1 rfl rfl)
theorem dX5_copy_144 : decode cX5_copy 144 = .ok (.iload 6, 2) := dk_21 6 (dk_at dksX5_copy_6 2 rfl rfl)
theorem dX5_copy_146 : decode cX5_copy 146 = .ok (.iadd, 1) := dk_96 (dk_at dksX5_copy_6 4 rfl rfl)
theorem dX5_copy_147 : decode cX5_copy 147 = .ok (.iaload, 1) := dk_46 (dk_at dksX5_copy_6 5 rfl rfl)
theorem dX5_copy_148 : decode cX5_copy 148 = .ok (.iastore, 1) := dk_79 (dk_at dksX5_copy_6 6 rfl rfl)
theorem dX5_copy_149 : decode cX5_copy 149 = .ok (.iinc 6 1, 3) := dk_132 6 1 (dk_at dksX5_copy_6 7 rfl rfl)
theorem dX5_copy_152 : decode cX5_copy 152 = .ok (.goto (-32), 3) := dk_167 255 224 (dk_at dksX5_copy_6 10 rfl rfl)
theorem dX5_copy_155 : decode cX5_copy 155 = .ok (.iconst 0, 1) := dk_3 (dk_at dksX5_copy_6 13 rfl rfl)
theorem dX5_copy_156 : decode cX5_copy 156 = .ok (.istore 6, 2) := dk_54 6 (dk_at dksX5_copy_6 14 rfl rfl)
theorem dX5_copy_158 : decode cX5_copy 158 = .ok (.iload 6, 2) := dk_21 6 (dk_at dksX5_copy_6 16 rfl rfl)
theorem dX5_copy_160 : decode cX5_copy 160 = .ok (.iload 5, 2) := dk_21 5 (dk_at dksX5_copy_6 18 rfl rfl)
theorem dX5_copy_162 : decode cX5_copy 162 = .ok (.if_icmp .ge 32, 3) := dk_162 0 32 (dk_at dksX5_copy_6 20 rfl rfl)
theorem dX5_copy_165 : decode cX5_copy 165 = .ok (.aload_n 0, 1) := dk_42 (dk_at dksX5_copy_6 23 rfl rfl)
theorem dX5_copy_166 : decode cX5_copy 166 = .ok (.getfield 122, 3) := dk_180 0 122 (dk_at dksX5_copy_7 0 rfl rfl)
theorem dX5_copy_169 : decode cX5_copy 169 = .ok (.sipush 200, 3) := dk_17 0 200 (dk_at dksX5_copy_7 3 rfl rfl)
theorem dX5_copy_172 : decode cX5_copy 172 = .ok (.iload_n 3, 1) := dk_29 (dk_at dksX5_copy_7 6 rfl rfl)
theorem dX5_copy_173 : decode cX5_copy 173 = .ok (.imul, 1) := dk_104 (dk_at dksX5_copy_7 7 rfl rfl)
theorem dX5_copy_174 : decode cX5_copy 174 = .ok (.iload 4, 2) := dk_21 4 (dk_at dksX5_copy_7 8 rfl rfl)
theorem dX5_copy_176 : decode cX5_copy 176 = .ok (.iadd, 1) := dk_96 (dk_at dksX5_copy_7 10 rfl rfl)
theorem dX5_copy_177 : decode cX5_copy 177 = .ok (.iload 6, 2) := dk_21 6 (dk_at dksX5_copy_7 11 rfl rfl)
theorem dX5_copy_179 : decode cX5_copy 179 = .ok (.iadd, 1) := dk_96 (dk_at dksX5_copy_7 13 rfl rfl)
theorem dX5_copy_180 : decode cX5_copy 180 = .ok (.aload_n 0, 1) := dk_42 (dk_at dksX5_copy_7 14 rfl rfl)
theorem dX5_copy_181 : decode cX5_copy 181 = .ok (.getfield 125, 3) := dk_180 0 125 (dk_at dksX5_copy_7 15 rfl rfl)
theorem dX5_copy_184 : decode cX5_copy 184 = .ok (.iload 6, 2) := dk_21 6 (dk_at dksX5_copy_7 18 rfl rfl)
theorem dX5_copy_186 : decode cX5_copy 186 = .ok (.iaload, 1) := dk_46 (dk_at dksX5_copy_7 20 rfl rfl)
theorem dX5_copy_187 : decode cX5_copy 187 = .ok (.iastore, 1) := dk_79 (dk_at dksX5_copy_7 21 rfl rfl)
theorem dX5_copy_188 : decode cX5_copy 188 = .ok (.iinc 6 1, 3) := dk_132 6 1 (dk_at dksX5_copy_8 0 rfl rfl)
theorem dX5_copy_191 : decode cX5_copy 191 = .ok (.goto (-33), 3) := dk_167 255 223 (dk_at dksX5_copy_8 3 rfl rfl)
theorem dX5_copy_194 : decode cX5_copy 194 = .ok (.iconst 1, 1) := dk_4 (dk_at dksX5_copy_8 6 rfl rfl)
theorem dX5_copy_195 : decode cX5_copy 195 = .ok (.ireturn, 1) := dk_172 (dk_at dksX5_copy_8 7 rfl rfl)
abbrev cX5_count : ByteArray := prog_11_method_55_code
def yX5_count : MethodName := ⟨RX5, "count", "(I)I"⟩
def dkwX5_count_3 : List UInt8 := [172, 42, 180, 0, 249, 172, 42, 180, 1, 3, 172, 42, 182, 1, 18, 172, 16, 254, 172]
abbrev dktX5_count_3 : List UInt8 := dkwX5_count_3 ++ []
def dkwX5_count_2 : List UInt8 := [42, 180, 0, 128, 172, 42, 180, 0, 135, 172, 42, 180, 0, 159, 172, 42, 180, 0, 206, 172, 42, 180, 0, 227]
abbrev dktX5_count_2 : List UInt8 := dkwX5_count_2 ++ dktX5_count_3
def dkwX5_count_1 : List UInt8 := [170, 0, 0, 0, 0, 0, 87, 0, 0, 0, 0, 0, 0, 0, 7, 0, 0, 0, 47, 0, 0, 0, 52, 0, 0, 0, 57, 0, 0, 0, 62, 0, 0, 0, 67, 0, 0, 0, 72, 0, 0, 0, 77, 0, 0, 0, 82]
abbrev dktX5_count_1 : List UInt8 := dkwX5_count_1 ++ dktX5_count_2
def dkwX5_count_0 : List UInt8 := [27]
abbrev dktX5_count_0 : List UInt8 := dkwX5_count_0 ++ dktX5_count_1
theorem dksX5_count_0 : cX5_count.data.toList.drop 0 = dktX5_count_0 := by decide +kernel
theorem dksX5_count_1 : cX5_count.data.toList.drop 1 = dktX5_count_1 := dk_seg dksX5_count_0 1 rfl rfl
theorem dksX5_count_2 : cX5_count.data.toList.drop 48 = dktX5_count_2 := dk_seg dksX5_count_1 47 rfl rfl
theorem dksX5_count_3 : cX5_count.data.toList.drop 72 = dktX5_count_3 := dk_seg dksX5_count_2 24 rfl rfl
theorem dX5_count_0 : decode cX5_count 0 = .ok (.iload_n 1, 1) := dk_27 (dk_at dksX5_count_0 0 rfl rfl)
theorem dX5_count_1 : decode cX5_count 1 = .ok (.tableswitch 87 0 7 #[47, 52, 57, 62, 67, 72, 77, 82], 47) := by decide +kernel
theorem dX5_count_48 : decode cX5_count 48 = .ok (.aload_n 0, 1) := dk_42 (dk_at dksX5_count_2 0 rfl rfl)
theorem dX5_count_49 : decode cX5_count 49 = .ok (.getfield 128, 3) := dk_180 0 128 (dk_at dksX5_count_2 1 rfl rfl)
theorem dX5_count_52 : decode cX5_count 52 = .ok (.ireturn, 1) := dk_172 (dk_at dksX5_count_2 4 rfl rfl)
theorem dX5_count_53 : decode cX5_count 53 = .ok (.aload_n 0, 1) := dk_42 (dk_at dksX5_count_2 5 rfl rfl)
theorem dX5_count_54 : decode cX5_count 54 = .ok (.getfield 135, 3) := dk_180 0 135 (dk_at dksX5_count_2 6 rfl rfl)
theorem dX5_count_57 : decode cX5_count 57 = .ok (.ireturn, 1) := dk_172 (dk_at dksX5_count_2 9 rfl rfl)
theorem dX5_count_58 : decode cX5_count 58 = .ok (.aload_n 0, 1) := dk_42 (dk_at dksX5_count_2 10 rfl rfl)
theorem dX5_count_59 : decode cX5_count 59 = .ok (.getfield 159, 3) := dk_180 0 159 (dk_at dksX5_count_2 11 rfl rfl)
theorem dX5_count_62 : decode cX5_count 62 = .ok (.ireturn, 1) := dk_172 (dk_at dksX5_count_2 14 rfl rfl)
theorem dX5_count_63 : decode cX5_count 63 = .ok (.aload_n 0, 1) := dk_42 (dk_at dksX5_count_2 15 rfl rfl)
theorem dX5_count_64 : decode cX5_count 64 = .ok (.getfield 206, 3) := dk_180 0 206 (dk_at dksX5_count_2 16 rfl rfl)
theorem dX5_count_67 : decode cX5_count 67 = .ok (.ireturn, 1) := dk_172 (dk_at dksX5_count_2 19 rfl rfl)
theorem dX5_count_68 : decode cX5_count 68 = .ok (.aload_n 0, 1) := dk_42 (dk_at dksX5_count_2 20 rfl rfl)
theorem dX5_count_69 : decode cX5_count 69 = .ok (.getfield 227, 3) := dk_180 0 227 (dk_at dksX5_count_2 21 rfl rfl)
theorem dX5_count_72 : decode cX5_count 72 = .ok (.ireturn, 1) := dk_172 (dk_at dksX5_count_3 0 rfl rfl)
theorem dX5_count_73 : decode cX5_count 73 = .ok (.aload_n 0, 1) := dk_42 (dk_at dksX5_count_3 1 rfl rfl)
theorem dX5_count_74 : decode cX5_count 74 = .ok (.getfield 249, 3) := dk_180 0 249 (dk_at dksX5_count_3 2 rfl rfl)
theorem dX5_count_77 : decode cX5_count 77 = .ok (.ireturn, 1) := dk_172 (dk_at dksX5_count_3 5 rfl rfl)
theorem dX5_count_78 : decode cX5_count 78 = .ok (.aload_n 0, 1) := dk_42 (dk_at dksX5_count_3 6 rfl rfl)
theorem dX5_count_79 : decode cX5_count 79 = .ok (.getfield 259, 3) := dk_180 1 3 (dk_at dksX5_count_3 7 rfl rfl)
theorem dX5_count_82 : decode cX5_count 82 = .ok (.ireturn, 1) := dk_172 (dk_at dksX5_count_3 10 rfl rfl)
theorem dX5_count_83 : decode cX5_count 83 = .ok (.aload_n 0, 1) := dk_42 (dk_at dksX5_count_3 11 rfl rfl)
theorem dX5_count_84 : decode cX5_count 84 = .ok (.invokevirtual 274, 3) := dk_182 1 18 (dk_at dksX5_count_3 12 rfl rfl)
theorem dX5_count_87 : decode cX5_count 87 = .ok (.ireturn, 1) := dk_172 (dk_at dksX5_count_3 15 rfl rfl)
theorem dX5_count_88 : decode cX5_count 88 = .ok (.bipush (-2), 2) := dk_16 254 (dk_at dksX5_count_3 16 rfl rfl)
theorem dX5_count_90 : decode cX5_count 90 = .ok (.ireturn, 1) := dk_172 (dk_at dksX5_count_3 18 rfl rfl)
abbrev cX5_waiting : ByteArray := prog_11_method_54_code
def yX5_waiting : MethodName := ⟨RX5, "waiting", "()I"⟩
def dkwX5_waiting_1 : List UInt8 := [153, 0, 7, 4, 167, 0, 4, 3, 96, 60, 132, 2, 1, 167, 255, 229, 27, 172]
abbrev dktX5_waiting_1 : List UInt8 := dkwX5_waiting_1 ++ []
def dkwX5_waiting_0 : List UInt8 := [42, 182, 0, 243, 3, 60, 3, 61, 28, 42, 180, 0, 206, 162, 0, 25, 27, 42, 28, 182, 0, 240]
abbrev dktX5_waiting_0 : List UInt8 := dkwX5_waiting_0 ++ dktX5_waiting_1
theorem dksX5_waiting_0 : cX5_waiting.data.toList.drop 0 = dktX5_waiting_0 := by decide +kernel
theorem dksX5_waiting_1 : cX5_waiting.data.toList.drop 22 = dktX5_waiting_1 := dk_seg dksX5_waiting_0 22 rfl rfl
theorem dX5_waiting_0 : decode cX5_waiting 0 = .ok (.aload_n 0, 1) := dk_42 (dk_at dksX5_waiting_0 0 rfl rfl)
theorem dX5_waiting_1 : decode cX5_waiting 1 = .ok (.invokevirtual 243, 3) := dk_182 0 243 (dk_at dksX5_waiting_0 1 rfl rfl)
theorem dX5_waiting_4 : decode cX5_waiting 4 = .ok (.iconst 0, 1) := dk_3 (dk_at dksX5_waiting_0 4 rfl rfl)
theorem dX5_waiting_5 : decode cX5_waiting 5 = .ok (.istore_n 1, 1) := dk_60 (dk_at dksX5_waiting_0 5 rfl rfl)
theorem dX5_waiting_6 : decode cX5_waiting 6 = .ok (.iconst 0, 1) := dk_3 (dk_at dksX5_waiting_0 6 rfl rfl)
theorem dX5_waiting_7 : decode cX5_waiting 7 = .ok (.istore_n 2, 1) := dk_61 (dk_at dksX5_waiting_0 7 rfl rfl)
theorem dX5_waiting_8 : decode cX5_waiting 8 = .ok (.iload_n 2, 1) := dk_28 (dk_at dksX5_waiting_0 8 rfl rfl)
theorem dX5_waiting_9 : decode cX5_waiting 9 = .ok (.aload_n 0, 1) := dk_42 (dk_at dksX5_waiting_0 9 rfl rfl)
theorem dX5_waiting_10 : decode cX5_waiting 10 = .ok (.getfield 206, 3) := dk_180 0 206 (dk_at dksX5_waiting_0 10 rfl rfl)
theorem dX5_waiting_13 : decode cX5_waiting 13 = .ok (.if_icmp .ge 25, 3) := dk_162 0 25 (dk_at dksX5_waiting_0 13 rfl rfl)
theorem dX5_waiting_16 : decode cX5_waiting 16 = .ok (.iload_n 1, 1) := dk_27 (dk_at dksX5_waiting_0 16 rfl rfl)
theorem dX5_waiting_17 : decode cX5_waiting 17 = .ok (.aload_n 0, 1) := dk_42 (dk_at dksX5_waiting_0 17 rfl rfl)
theorem dX5_waiting_18 : decode cX5_waiting 18 = .ok (.iload_n 2, 1) := dk_28 (dk_at dksX5_waiting_0 18 rfl rfl)
theorem dX5_waiting_19 : decode cX5_waiting 19 = .ok (.invokevirtual 240, 3) := dk_182 0 240 (dk_at dksX5_waiting_0 19 rfl rfl)
theorem dX5_waiting_22 : decode cX5_waiting 22 = .ok (.ifCond .eq 7, 3) := dk_153 0 7 (dk_at dksX5_waiting_1 0 rfl rfl)
theorem dX5_waiting_25 : decode cX5_waiting 25 = .ok (.iconst 1, 1) := dk_4 (dk_at dksX5_waiting_1 3 rfl rfl)
theorem dX5_waiting_26 : decode cX5_waiting 26 = .ok (.goto 4, 3) := dk_167 0 4 (dk_at dksX5_waiting_1 4 rfl rfl)
theorem dX5_waiting_29 : decode cX5_waiting 29 = .ok (.iconst 0, 1) := dk_3 (dk_at dksX5_waiting_1 7 rfl rfl)
theorem dX5_waiting_30 : decode cX5_waiting 30 = .ok (.iadd, 1) := dk_96 (dk_at dksX5_waiting_1 8 rfl rfl)
theorem dX5_waiting_31 : decode cX5_waiting 31 = .ok (.istore_n 1, 1) := dk_60 (dk_at dksX5_waiting_1 9 rfl rfl)
theorem dX5_waiting_32 : decode cX5_waiting 32 = .ok (.iinc 2 1, 3) := dk_132 2 1 (dk_at dksX5_waiting_1 10 rfl rfl)
theorem dX5_waiting_35 : decode cX5_waiting 35 = .ok (.goto (-27), 3) := dk_167 255 229 (dk_at dksX5_waiting_1 13 rfl rfl)
theorem dX5_waiting_38 : decode cX5_waiting 38 = .ok (.iload_n 1, 1) := dk_27 (dk_at dksX5_waiting_1 16 rfl rfl)
theorem dX5_waiting_39 : decode cX5_waiting 39 = .ok (.ireturn, 1) := dk_172 (dk_at dksX5_waiting_1 17 rfl rfl)
abbrev cX5_digest : ByteArray := prog_11_method_56_code
def yX5_digest : MethodName := ⟨RX5, "digest", "()J"⟩
def dkwX5_digest_9 : List UInt8 := [167, 255, 223, 132, 3, 1, 167, 255, 206, 31, 173]
abbrev dktX5_digest_9 : List UInt8 := dkwX5_digest_9 ++ []
def dkwX5_digest_8 : List UInt8 := [20, 1, 23, 31, 105, 42, 180, 0, 81, 6, 29, 104, 21, 4, 96, 46, 133, 97, 64, 132, 4, 1]
abbrev dktX5_digest_8 : List UInt8 := dkwX5_digest_8 ++ dktX5_digest_9
def dkwX5_digest_7 : List UInt8 := [3, 62, 29, 42, 180, 0, 128, 162, 0, 48, 3, 54, 4, 21, 4, 42, 180, 0, 75, 29, 46, 162, 0, 28]
abbrev dktX5_digest_7 : List UInt8 := dkwX5_digest_7 ++ dktX5_digest_8
def dkwX5_digest_6 : List UInt8 := [16, 7, 162, 0, 22, 20, 1, 23, 31, 105, 42, 29, 182, 1, 34, 133, 97, 64, 132, 3, 1, 167, 255, 234]
abbrev dktX5_digest_6 : List UInt8 := dkwX5_digest_6 ++ dktX5_digest_7
def dkwX5_digest_5 : List UInt8 := [21, 4, 182, 1, 31, 133, 97, 64, 132, 4, 1, 167, 255, 231, 132, 3, 1, 167, 255, 214, 3, 62, 29]
abbrev dktX5_digest_5 : List UInt8 := dkwX5_digest_5 ++ dktX5_digest_6
def dkwX5_digest_4 : List UInt8 := [180, 0, 206, 162, 0, 40, 6, 54, 4, 21, 4, 16, 7, 162, 0, 24, 20, 1, 23, 31, 105, 42, 29]
abbrev dktX5_digest_4 : List UInt8 := dkwX5_digest_4 ++ dktX5_digest_5
def dkwX5_digest_3 : List UInt8 := [182, 1, 28, 133, 97, 64, 132, 4, 1, 167, 255, 232, 132, 3, 1, 167, 255, 215, 3, 62, 29, 42]
abbrev dktX5_digest_3 : List UInt8 := dkwX5_digest_3 ++ dktX5_digest_4
def dkwX5_digest_2 : List UInt8 := [180, 0, 135, 162, 0, 39, 5, 54, 4, 21, 4, 8, 162, 0, 24, 20, 1, 23, 31, 105, 42, 29, 21, 4]
abbrev dktX5_digest_2 : List UInt8 := dkwX5_digest_2 ++ dktX5_digest_3
def dkwX5_digest_1 : List UInt8 := [20, 1, 23, 31, 105, 42, 29, 182, 1, 25, 133, 97, 64, 132, 3, 1, 167, 255, 224, 3, 62, 29, 42]
abbrev dktX5_digest_1 : List UInt8 := dkwX5_digest_1 ++ dktX5_digest_2
def dkwX5_digest_0 : List UInt8 := [20, 1, 21, 64, 3, 62, 29, 16, 8, 162, 0, 32, 29, 16, 6, 160, 0, 7, 31, 167, 0, 15]
abbrev dktX5_digest_0 : List UInt8 := dkwX5_digest_0 ++ dktX5_digest_1
theorem dksX5_digest_0 : cX5_digest.data.toList.drop 0 = dktX5_digest_0 := by decide +kernel
theorem dksX5_digest_1 : cX5_digest.data.toList.drop 22 = dktX5_digest_1 := dk_seg dksX5_digest_0 22 rfl rfl
theorem dksX5_digest_2 : cX5_digest.data.toList.drop 45 = dktX5_digest_2 := dk_seg dksX5_digest_1 23 rfl rfl
theorem dksX5_digest_3 : cX5_digest.data.toList.drop 69 = dktX5_digest_3 := dk_seg dksX5_digest_2 24 rfl rfl
theorem dksX5_digest_4 : cX5_digest.data.toList.drop 91 = dktX5_digest_4 := dk_seg dksX5_digest_3 22 rfl rfl
theorem dksX5_digest_5 : cX5_digest.data.toList.drop 114 = dktX5_digest_5 := dk_seg dksX5_digest_4 23 rfl rfl
theorem dksX5_digest_6 : cX5_digest.data.toList.drop 137 = dktX5_digest_6 := dk_seg dksX5_digest_5 23 rfl rfl
theorem dksX5_digest_7 : cX5_digest.data.toList.drop 161 = dktX5_digest_7 := dk_seg dksX5_digest_6 24 rfl rfl
theorem dksX5_digest_8 : cX5_digest.data.toList.drop 185 = dktX5_digest_8 := dk_seg dksX5_digest_7 24 rfl rfl
theorem dksX5_digest_9 : cX5_digest.data.toList.drop 207 = dktX5_digest_9 := dk_seg dksX5_digest_8 22 rfl rfl
theorem dX5_digest_0 : decode cX5_digest 0 = .ok (.ldc2_w 277, 3) := dk_20 1 21 (dk_at dksX5_digest_0 0 rfl rfl)
theorem dX5_digest_3 : decode cX5_digest 3 = .ok (.lstore_n 1, 1) := dk_64 (dk_at dksX5_digest_0 3 rfl rfl)
theorem dX5_digest_4 : decode cX5_digest 4 = .ok (.iconst 0, 1) := dk_3 (dk_at dksX5_digest_0 4 rfl rfl)
theorem dX5_digest_5 : decode cX5_digest 5 = .ok (.istore_n 3, 1) := dk_62 (dk_at dksX5_digest_0 5 rfl rfl)
theorem dX5_digest_6 : decode cX5_digest 6 = .ok (.iload_n 3, 1) := dk_29 (dk_at dksX5_digest_0 6 rfl rfl)
theorem dX5_digest_7 : decode cX5_digest 7 = .ok (.bipush 8, 2) := dk_16 8 (dk_at dksX5_digest_0 7 rfl rfl)
theorem dX5_digest_9 : decode cX5_digest 9 = .ok (.if_icmp .ge 32, 3) := dk_162 0 32 (dk_at dksX5_digest_0 9 rfl rfl)
theorem dX5_digest_12 : decode cX5_digest 12 = .ok (.iload_n 3, 1) := dk_29 (dk_at dksX5_digest_0 12 rfl rfl)
theorem dX5_digest_13 : decode cX5_digest 13 = .ok (.bipush 6, 2) := dk_16 6 (dk_at dksX5_digest_0 13 rfl rfl)
theorem dX5_digest_15 : decode cX5_digest 15 = .ok (.if_icmp .ne 7, 3) := dk_160 0 7 (dk_at dksX5_digest_0 15 rfl rfl)
theorem dX5_digest_18 : decode cX5_digest 18 = .ok (.lload_n 1, 1) := dk_31 (dk_at dksX5_digest_0 18 rfl rfl)
theorem dX5_digest_19 : decode cX5_digest 19 = .ok (.goto 15, 3) := dk_167 0 15 (dk_at dksX5_digest_0 19 rfl rfl)
theorem dX5_digest_22 : decode cX5_digest 22 = .ok (.ldc2_w 279, 3) := dk_20 1 23 (dk_at dksX5_digest_1 0 rfl rfl)
theorem dX5_digest_25 : decode cX5_digest 25 = .ok (.lload_n 1, 1) := dk_31 (dk_at dksX5_digest_1 3 rfl rfl)
theorem dX5_digest_26 : decode cX5_digest 26 = .ok (.lmul, 1) := dk_105 (dk_at dksX5_digest_1 4 rfl rfl)
theorem dX5_digest_27 : decode cX5_digest 27 = .ok (.aload_n 0, 1) := dk_42 (dk_at dksX5_digest_1 5 rfl rfl)
theorem dX5_digest_28 : decode cX5_digest 28 = .ok (.iload_n 3, 1) := dk_29 (dk_at dksX5_digest_1 6 rfl rfl)
theorem dX5_digest_29 : decode cX5_digest 29 = .ok (.invokevirtual 281, 3) := dk_182 1 25 (dk_at dksX5_digest_1 7 rfl rfl)
theorem dX5_digest_32 : decode cX5_digest 32 = .ok (.i2l, 1) := dk_133 (dk_at dksX5_digest_1 10 rfl rfl)
theorem dX5_digest_33 : decode cX5_digest 33 = .ok (.ladd, 1) := dk_97 (dk_at dksX5_digest_1 11 rfl rfl)
theorem dX5_digest_34 : decode cX5_digest 34 = .ok (.lstore_n 1, 1) := dk_64 (dk_at dksX5_digest_1 12 rfl rfl)
theorem dX5_digest_35 : decode cX5_digest 35 = .ok (.iinc 3 1, 3) := dk_132 3 1 (dk_at dksX5_digest_1 13 rfl rfl)
theorem dX5_digest_38 : decode cX5_digest 38 = .ok (.goto (-32), 3) := dk_167 255 224 (dk_at dksX5_digest_1 16 rfl rfl)
theorem dX5_digest_41 : decode cX5_digest 41 = .ok (.iconst 0, 1) := dk_3 (dk_at dksX5_digest_1 19 rfl rfl)
theorem dX5_digest_42 : decode cX5_digest 42 = .ok (.istore_n 3, 1) := dk_62 (dk_at dksX5_digest_1 20 rfl rfl)
theorem dX5_digest_43 : decode cX5_digest 43 = .ok (.iload_n 3, 1) := dk_29 (dk_at dksX5_digest_1 21 rfl rfl)
theorem dX5_digest_44 : decode cX5_digest 44 = .ok (.aload_n 0, 1) := dk_42 (dk_at dksX5_digest_1 22 rfl rfl)
theorem dX5_digest_45 : decode cX5_digest 45 = .ok (.getfield 135, 3) := dk_180 0 135 (dk_at dksX5_digest_2 0 rfl rfl)
theorem dX5_digest_48 : decode cX5_digest 48 = .ok (.if_icmp .ge 39, 3) := dk_162 0 39 (dk_at dksX5_digest_2 3 rfl rfl)
theorem dX5_digest_51 : decode cX5_digest 51 = .ok (.iconst 2, 1) := dk_5 (dk_at dksX5_digest_2 6 rfl rfl)
theorem dX5_digest_52 : decode cX5_digest 52 = .ok (.istore 4, 2) := dk_54 4 (dk_at dksX5_digest_2 7 rfl rfl)
theorem dX5_digest_54 : decode cX5_digest 54 = .ok (.iload 4, 2) := dk_21 4 (dk_at dksX5_digest_2 9 rfl rfl)
theorem dX5_digest_56 : decode cX5_digest 56 = .ok (.iconst 5, 1) := dk_8 (dk_at dksX5_digest_2 11 rfl rfl)
theorem dX5_digest_57 : decode cX5_digest 57 = .ok (.if_icmp .ge 24, 3) := dk_162 0 24 (dk_at dksX5_digest_2 12 rfl rfl)
theorem dX5_digest_60 : decode cX5_digest 60 = .ok (.ldc2_w 279, 3) := dk_20 1 23 (dk_at dksX5_digest_2 15 rfl rfl)
theorem dX5_digest_63 : decode cX5_digest 63 = .ok (.lload_n 1, 1) := dk_31 (dk_at dksX5_digest_2 18 rfl rfl)
theorem dX5_digest_64 : decode cX5_digest 64 = .ok (.lmul, 1) := dk_105 (dk_at dksX5_digest_2 19 rfl rfl)
theorem dX5_digest_65 : decode cX5_digest 65 = .ok (.aload_n 0, 1) := dk_42 (dk_at dksX5_digest_2 20 rfl rfl)
theorem dX5_digest_66 : decode cX5_digest 66 = .ok (.iload_n 3, 1) := dk_29 (dk_at dksX5_digest_2 21 rfl rfl)
theorem dX5_digest_67 : decode cX5_digest 67 = .ok (.iload 4, 2) := dk_21 4 (dk_at dksX5_digest_2 22 rfl rfl)
theorem dX5_digest_69 : decode cX5_digest 69 = .ok (.invokevirtual 284, 3) := dk_182 1 28 (dk_at dksX5_digest_3 0 rfl rfl)
theorem dX5_digest_72 : decode cX5_digest 72 = .ok (.i2l, 1) := dk_133 (dk_at dksX5_digest_3 3 rfl rfl)
theorem dX5_digest_73 : decode cX5_digest 73 = .ok (.ladd, 1) := dk_97 (dk_at dksX5_digest_3 4 rfl rfl)
theorem dX5_digest_74 : decode cX5_digest 74 = .ok (.lstore_n 1, 1) := dk_64 (dk_at dksX5_digest_3 5 rfl rfl)
theorem dX5_digest_75 : decode cX5_digest 75 = .ok (.iinc 4 1, 3) := dk_132 4 1 (dk_at dksX5_digest_3 6 rfl rfl)
theorem dX5_digest_78 : decode cX5_digest 78 = .ok (.goto (-24), 3) := dk_167 255 232 (dk_at dksX5_digest_3 9 rfl rfl)
theorem dX5_digest_81 : decode cX5_digest 81 = .ok (.iinc 3 1, 3) := dk_132 3 1 (dk_at dksX5_digest_3 12 rfl rfl)
theorem dX5_digest_84 : decode cX5_digest 84 = .ok (.goto (-41), 3) := dk_167 255 215 (dk_at dksX5_digest_3 15 rfl rfl)
theorem dX5_digest_87 : decode cX5_digest 87 = .ok (.iconst 0, 1) := dk_3 (dk_at dksX5_digest_3 18 rfl rfl)
theorem dX5_digest_88 : decode cX5_digest 88 = .ok (.istore_n 3, 1) := dk_62 (dk_at dksX5_digest_3 19 rfl rfl)
theorem dX5_digest_89 : decode cX5_digest 89 = .ok (.iload_n 3, 1) := dk_29 (dk_at dksX5_digest_3 20 rfl rfl)
theorem dX5_digest_90 : decode cX5_digest 90 = .ok (.aload_n 0, 1) := dk_42 (dk_at dksX5_digest_3 21 rfl rfl)
theorem dX5_digest_91 : decode cX5_digest 91 = .ok (.getfield 206, 3) := dk_180 0 206 (dk_at dksX5_digest_4 0 rfl rfl)
theorem dX5_digest_94 : decode cX5_digest 94 = .ok (.if_icmp .ge 40, 3) := dk_162 0 40 (dk_at dksX5_digest_4 3 rfl rfl)
theorem dX5_digest_97 : decode cX5_digest 97 = .ok (.iconst 3, 1) := dk_6 (dk_at dksX5_digest_4 6 rfl rfl)
theorem dX5_digest_98 : decode cX5_digest 98 = .ok (.istore 4, 2) := dk_54 4 (dk_at dksX5_digest_4 7 rfl rfl)
theorem dX5_digest_100 : decode cX5_digest 100 = .ok (.iload 4, 2) := dk_21 4 (dk_at dksX5_digest_4 9 rfl rfl)
theorem dX5_digest_102 : decode cX5_digest 102 = .ok (.bipush 7, 2) := dk_16 7 (dk_at dksX5_digest_4 11 rfl rfl)
theorem dX5_digest_104 : decode cX5_digest 104 = .ok (.if_icmp .ge 24, 3) := dk_162 0 24 (dk_at dksX5_digest_4 13 rfl rfl)
theorem dX5_digest_107 : decode cX5_digest 107 = .ok (.ldc2_w 279, 3) := dk_20 1 23 (dk_at dksX5_digest_4 16 rfl rfl)
theorem dX5_digest_110 : decode cX5_digest 110 = .ok (.lload_n 1, 1) := dk_31 (dk_at dksX5_digest_4 19 rfl rfl)
theorem dX5_digest_111 : decode cX5_digest 111 = .ok (.lmul, 1) := dk_105 (dk_at dksX5_digest_4 20 rfl rfl)
theorem dX5_digest_112 : decode cX5_digest 112 = .ok (.aload_n 0, 1) := dk_42 (dk_at dksX5_digest_4 21 rfl rfl)
theorem dX5_digest_113 : decode cX5_digest 113 = .ok (.iload_n 3, 1) := dk_29 (dk_at dksX5_digest_4 22 rfl rfl)
theorem dX5_digest_114 : decode cX5_digest 114 = .ok (.iload 4, 2) := dk_21 4 (dk_at dksX5_digest_5 0 rfl rfl)
theorem dX5_digest_116 : decode cX5_digest 116 = .ok (.invokevirtual 287, 3) := dk_182 1 31 (dk_at dksX5_digest_5 2 rfl rfl)
theorem dX5_digest_119 : decode cX5_digest 119 = .ok (.i2l, 1) := dk_133 (dk_at dksX5_digest_5 5 rfl rfl)
theorem dX5_digest_120 : decode cX5_digest 120 = .ok (.ladd, 1) := dk_97 (dk_at dksX5_digest_5 6 rfl rfl)
theorem dX5_digest_121 : decode cX5_digest 121 = .ok (.lstore_n 1, 1) := dk_64 (dk_at dksX5_digest_5 7 rfl rfl)
theorem dX5_digest_122 : decode cX5_digest 122 = .ok (.iinc 4 1, 3) := dk_132 4 1 (dk_at dksX5_digest_5 8 rfl rfl)
theorem dX5_digest_125 : decode cX5_digest 125 = .ok (.goto (-25), 3) := dk_167 255 231 (dk_at dksX5_digest_5 11 rfl rfl)
theorem dX5_digest_128 : decode cX5_digest 128 = .ok (.iinc 3 1, 3) := dk_132 3 1 (dk_at dksX5_digest_5 14 rfl rfl)
theorem dX5_digest_131 : decode cX5_digest 131 = .ok (.goto (-42), 3) := dk_167 255 214 (dk_at dksX5_digest_5 17 rfl rfl)
theorem dX5_digest_134 : decode cX5_digest 134 = .ok (.iconst 0, 1) := dk_3 (dk_at dksX5_digest_5 20 rfl rfl)
theorem dX5_digest_135 : decode cX5_digest 135 = .ok (.istore_n 3, 1) := dk_62 (dk_at dksX5_digest_5 21 rfl rfl)
theorem dX5_digest_136 : decode cX5_digest 136 = .ok (.iload_n 3, 1) := dk_29 (dk_at dksX5_digest_5 22 rfl rfl)
theorem dX5_digest_137 : decode cX5_digest 137 = .ok (.bipush 7, 2) := dk_16 7 (dk_at dksX5_digest_6 0 rfl rfl)
theorem dX5_digest_139 : decode cX5_digest 139 = .ok (.if_icmp .ge 22, 3) := dk_162 0 22 (dk_at dksX5_digest_6 2 rfl rfl)
theorem dX5_digest_142 : decode cX5_digest 142 = .ok (.ldc2_w 279, 3) := dk_20 1 23 (dk_at dksX5_digest_6 5 rfl rfl)
theorem dX5_digest_145 : decode cX5_digest 145 = .ok (.lload_n 1, 1) := dk_31 (dk_at dksX5_digest_6 8 rfl rfl)
theorem dX5_digest_146 : decode cX5_digest 146 = .ok (.lmul, 1) := dk_105 (dk_at dksX5_digest_6 9 rfl rfl)
theorem dX5_digest_147 : decode cX5_digest 147 = .ok (.aload_n 0, 1) := dk_42 (dk_at dksX5_digest_6 10 rfl rfl)
theorem dX5_digest_148 : decode cX5_digest 148 = .ok (.iload_n 3, 1) := dk_29 (dk_at dksX5_digest_6 11 rfl rfl)
theorem dX5_digest_149 : decode cX5_digest 149 = .ok (.invokevirtual 290, 3) := dk_182 1 34 (dk_at dksX5_digest_6 12 rfl rfl)
theorem dX5_digest_152 : decode cX5_digest 152 = .ok (.i2l, 1) := dk_133 (dk_at dksX5_digest_6 15 rfl rfl)
theorem dX5_digest_153 : decode cX5_digest 153 = .ok (.ladd, 1) := dk_97 (dk_at dksX5_digest_6 16 rfl rfl)
theorem dX5_digest_154 : decode cX5_digest 154 = .ok (.lstore_n 1, 1) := dk_64 (dk_at dksX5_digest_6 17 rfl rfl)
theorem dX5_digest_155 : decode cX5_digest 155 = .ok (.iinc 3 1, 3) := dk_132 3 1 (dk_at dksX5_digest_6 18 rfl rfl)
theorem dX5_digest_158 : decode cX5_digest 158 = .ok (.goto (-22), 3) := dk_167 255 234 (dk_at dksX5_digest_6 21 rfl rfl)
theorem dX5_digest_161 : decode cX5_digest 161 = .ok (.iconst 0, 1) := dk_3 (dk_at dksX5_digest_7 0 rfl rfl)
theorem dX5_digest_162 : decode cX5_digest 162 = .ok (.istore_n 3, 1) := dk_62 (dk_at dksX5_digest_7 1 rfl rfl)
theorem dX5_digest_163 : decode cX5_digest 163 = .ok (.iload_n 3, 1) := dk_29 (dk_at dksX5_digest_7 2 rfl rfl)
theorem dX5_digest_164 : decode cX5_digest 164 = .ok (.aload_n 0, 1) := dk_42 (dk_at dksX5_digest_7 3 rfl rfl)
theorem dX5_digest_165 : decode cX5_digest 165 = .ok (.getfield 128, 3) := dk_180 0 128 (dk_at dksX5_digest_7 4 rfl rfl)
theorem dX5_digest_168 : decode cX5_digest 168 = .ok (.if_icmp .ge 48, 3) := dk_162 0 48 (dk_at dksX5_digest_7 7 rfl rfl)
theorem dX5_digest_171 : decode cX5_digest 171 = .ok (.iconst 0, 1) := dk_3 (dk_at dksX5_digest_7 10 rfl rfl)
theorem dX5_digest_172 : decode cX5_digest 172 = .ok (.istore 4, 2) := dk_54 4 (dk_at dksX5_digest_7 11 rfl rfl)
theorem dX5_digest_174 : decode cX5_digest 174 = .ok (.iload 4, 2) := dk_21 4 (dk_at dksX5_digest_7 13 rfl rfl)
theorem dX5_digest_176 : decode cX5_digest 176 = .ok (.aload_n 0, 1) := dk_42 (dk_at dksX5_digest_7 15 rfl rfl)
theorem dX5_digest_177 : decode cX5_digest 177 = .ok (.getfield 75, 3) := dk_180 0 75 (dk_at dksX5_digest_7 16 rfl rfl)
theorem dX5_digest_180 : decode cX5_digest 180 = .ok (.iload_n 3, 1) := dk_29 (dk_at dksX5_digest_7 19 rfl rfl)
theorem dX5_digest_181 : decode cX5_digest 181 = .ok (.iaload, 1) := dk_46 (dk_at dksX5_digest_7 20 rfl rfl)
theorem dX5_digest_182 : decode cX5_digest 182 = .ok (.if_icmp .ge 28, 3) := dk_162 0 28 (dk_at dksX5_digest_7 21 rfl rfl)
theorem dX5_digest_185 : decode cX5_digest 185 = .ok (.ldc2_w 279, 3) := dk_20 1 23 (dk_at dksX5_digest_8 0 rfl rfl)
theorem dX5_digest_188 : decode cX5_digest 188 = .ok (.lload_n 1, 1) := dk_31 (dk_at dksX5_digest_8 3 rfl rfl)
theorem dX5_digest_189 : decode cX5_digest 189 = .ok (.lmul, 1) := dk_105 (dk_at dksX5_digest_8 4 rfl rfl)
theorem dX5_digest_190 : decode cX5_digest 190 = .ok (.aload_n 0, 1) := dk_42 (dk_at dksX5_digest_8 5 rfl rfl)
theorem dX5_digest_191 : decode cX5_digest 191 = .ok (.getfield 81, 3) := dk_180 0 81 (dk_at dksX5_digest_8 6 rfl rfl)
theorem dX5_digest_194 : decode cX5_digest 194 = .ok (.iconst 3, 1) := dk_6 (dk_at dksX5_digest_8 9 rfl rfl)
theorem dX5_digest_195 : decode cX5_digest 195 = .ok (.iload_n 3, 1) := dk_29 (dk_at dksX5_digest_8 10 rfl rfl)
theorem dX5_digest_196 : decode cX5_digest 196 = .ok (.imul, 1) := dk_104 (dk_at dksX5_digest_8 11 rfl rfl)
theorem dX5_digest_197 : decode cX5_digest 197 = .ok (.iload 4, 2) := dk_21 4 (dk_at dksX5_digest_8 12 rfl rfl)
theorem dX5_digest_199 : decode cX5_digest 199 = .ok (.iadd, 1) := dk_96 (dk_at dksX5_digest_8 14 rfl rfl)
theorem dX5_digest_200 : decode cX5_digest 200 = .ok (.iaload, 1) := dk_46 (dk_at dksX5_digest_8 15 rfl rfl)
theorem dX5_digest_201 : decode cX5_digest 201 = .ok (.i2l, 1) := dk_133 (dk_at dksX5_digest_8 16 rfl rfl)
theorem dX5_digest_202 : decode cX5_digest 202 = .ok (.ladd, 1) := dk_97 (dk_at dksX5_digest_8 17 rfl rfl)
theorem dX5_digest_203 : decode cX5_digest 203 = .ok (.lstore_n 1, 1) := dk_64 (dk_at dksX5_digest_8 18 rfl rfl)
theorem dX5_digest_204 : decode cX5_digest 204 = .ok (.iinc 4 1, 3) := dk_132 4 1 (dk_at dksX5_digest_8 19 rfl rfl)
theorem dX5_digest_207 : decode cX5_digest 207 = .ok (.goto (-33), 3) := dk_167 255 223 (dk_at dksX5_digest_9 0 rfl rfl)
theorem dX5_digest_210 : decode cX5_digest 210 = .ok (.iinc 3 1, 3) := dk_132 3 1 (dk_at dksX5_digest_9 3 rfl rfl)
theorem dX5_digest_213 : decode cX5_digest 213 = .ok (.goto (-50), 3) := dk_167 255 206 (dk_at dksX5_digest_9 6 rfl rfl)
theorem dX5_digest_216 : decode cX5_digest 216 = .ok (.lload_n 1, 1) := dk_31 (dk_at dksX5_digest_9 9 rfl rfl)
theorem dX5_digest_217 : decode cX5_digest 217 = .ok (.lreturn, 1) := dk_173 (dk_at dksX5_digest_9 10 rfl rfl)
theorem q44 : (Jvm.Cond.initialized "BilletBarsModel") ∈ lw_all := lw_g (lw_at lw_m1 6 rfl) rfl
theorem q537 : (Jvm.Cond.selects "BilletBarsModel" ({ cls := "java/lang/Object", name := "getClass", desc := "()Ljava/lang/Class;" } : Jvm.MethodName) ({ cls := "java/lang/Object", name := "getClass", desc := "()Ljava/lang/Class;" } : Jvm.MethodName)) ∈ lw_all := lw_g (lw_at lw_m3 19 rfl) rfl
theorem q861 : (Jvm.Cond.instantiable "BilletBarsModel" (52 : Nat)) ∈ lw_all := lw_g (lw_at lw_m4 103 rfl) rfl
theorem q863 : (Jvm.Cond.instanceMethod ({ cls := "BilletBarsModel", name := "<init>", desc := "()V" } : Jvm.MethodName)) ∈ lw_all := lw_g (lw_at lw_m4 105 rfl) rfl
theorem q864 : (Jvm.Cond.code ({ cls := "BilletBarsModel", name := "<init>", desc := "()V" } : Jvm.MethodName) prog_11_method_1_code (2 : Nat) (Option.none : Option Jvm.ClassFile.FieldType)) ∈ lw_all := lw_g (lw_at lw_m4 106 rfl) rfl
theorem q865 : (Jvm.Cond.methodLink "BilletBarsModel" (1 : Nat) ({ cls := "java/lang/Object", name := "<init>", desc := "()V" } : Jvm.MethodName)) ∈ lw_all := lw_g (lw_at lw_m4 107 rfl) rfl
theorem q866 : (Jvm.Cond.constant "BilletBarsModel" (108 : Nat) (100000 : Int32)) ∈ lw_all := lw_g (lw_at lw_m4 108 rfl) rfl
theorem q867 : (Jvm.Cond.fieldLink "BilletBarsModel" (7 : Nat) "BilletBarsModel" "laws" "[I") ∈ lw_all := lw_g (lw_at lw_m4 109 rfl) rfl
theorem q868 : (Jvm.Cond.fieldLink "BilletBarsModel" (128 : Nat) "BilletBarsModel" "profiles" "I") ∈ lw_all := lw_g (lw_at lw_m4 110 rfl) rfl
theorem q869 : (Jvm.Cond.fieldLink "BilletBarsModel" (13 : Nat) "BilletBarsModel" "alloy" "[I") ∈ lw_all := lw_g (lw_at lw_m4 111 rfl) rfl
theorem q870 : (Jvm.Cond.fieldLink "BilletBarsModel" (16 : Nat) "BilletBarsModel" "ratio" "[I") ∈ lw_all := lw_g (lw_at lw_m4 112 rfl) rfl
theorem q871 : (Jvm.Cond.fieldLink "BilletBarsModel" (19 : Nat) "BilletBarsModel" "recipe" "[I") ∈ lw_all := lw_g (lw_at lw_m4 113 rfl) rfl
theorem q872 : (Jvm.Cond.fieldLink "BilletBarsModel" (22 : Nat) "BilletBarsModel" "grams" "[I") ∈ lw_all := lw_g (lw_at lw_m4 114 rfl) rfl
theorem q873 : (Jvm.Cond.fieldLink "BilletBarsModel" (135 : Nat) "BilletBarsModel" "dies" "I") ∈ lw_all := lw_g (lw_at lw_m4 115 rfl) rfl
theorem q874 : (Jvm.Cond.fieldLink "BilletBarsModel" (25 : Nat) "BilletBarsModel" "dieProfile" "[I") ∈ lw_all := lw_g (lw_at lw_m4 116 rfl) rfl
theorem q875 : (Jvm.Cond.fieldLink "BilletBarsModel" (28 : Nat) "BilletBarsModel" "limit" "[I") ∈ lw_all := lw_g (lw_at lw_m4 117 rfl) rfl
theorem q876 : (Jvm.Cond.fieldLink "BilletBarsModel" (31 : Nat) "BilletBarsModel" "shots" "[I") ∈ lw_all := lw_g (lw_at lw_m4 118 rfl) rfl
theorem q877 : (Jvm.Cond.fieldLink "BilletBarsModel" (34 : Nat) "BilletBarsModel" "allShots" "[I") ∈ lw_all := lw_g (lw_at lw_m4 119 rfl) rfl
theorem q878 : (Jvm.Cond.fieldLink "BilletBarsModel" (37 : Nat) "BilletBarsModel" "warmSince" "[I") ∈ lw_all := lw_g (lw_at lw_m4 120 rfl) rfl
theorem q879 : (Jvm.Cond.fieldLink "BilletBarsModel" (159 : Nat) "BilletBarsModel" "tick" "I") ∈ lw_all := lw_g (lw_at lw_m4 121 rfl) rfl
theorem q880 : (Jvm.Cond.fieldLink "BilletBarsModel" (206 : Nat) "BilletBarsModel" "bars" "I") ∈ lw_all := lw_g (lw_at lw_m4 122 rfl) rfl
theorem q881 : (Jvm.Cond.fieldLink "BilletBarsModel" (40 : Nat) "BilletBarsModel" "barDie" "[I") ∈ lw_all := lw_g (lw_at lw_m4 123 rfl) rfl
theorem q882 : (Jvm.Cond.fieldLink "BilletBarsModel" (43 : Nat) "BilletBarsModel" "barBillet" "[I") ∈ lw_all := lw_g (lw_at lw_m4 124 rfl) rfl
theorem q883 : (Jvm.Cond.fieldLink "BilletBarsModel" (46 : Nat) "BilletBarsModel" "barAll" "[I") ∈ lw_all := lw_g (lw_at lw_m4 125 rfl) rfl
theorem q884 : (Jvm.Cond.fieldLink "BilletBarsModel" (49 : Nat) "BilletBarsModel" "barGoods" "[I") ∈ lw_all := lw_g (lw_at lw_m4 126 rfl) rfl
theorem q885 : (Jvm.Cond.fieldLink "BilletBarsModel" (52 : Nat) "BilletBarsModel" "barOff" "[I") ∈ lw_all := lw_g (lw_at lw_m4 127 rfl) rfl
theorem q886 : (Jvm.Cond.fieldLink "BilletBarsModel" (55 : Nat) "BilletBarsModel" "barWeld" "[I") ∈ lw_all := lw_g (lw_at lw_m4 128 rfl) rfl
theorem q887 : (Jvm.Cond.fieldLink "BilletBarsModel" (58 : Nat) "BilletBarsModel" "barBatch" "[I") ∈ lw_all := lw_g (lw_at lw_m4 129 rfl) rfl
theorem q888 : (Jvm.Cond.fieldLink "BilletBarsModel" (61 : Nat) "BilletBarsModel" "looked" "[I") ∈ lw_all := lw_g (lw_at lw_m4 130 rfl) rfl
theorem q889 : (Jvm.Cond.fieldLink "BilletBarsModel" (64 : Nat) "BilletBarsModel" "latestDie" "I") ∈ lw_all := lw_g (lw_at lw_m4 131 rfl) rfl
theorem q890 : (Jvm.Cond.fieldLink "BilletBarsModel" (68 : Nat) "BilletBarsModel" "latestTick" "I") ∈ lw_all := lw_g (lw_at lw_m4 132 rfl) rfl
theorem q891 : (Jvm.Cond.fieldLink "BilletBarsModel" (71 : Nat) "BilletBarsModel" "accounts" "[J") ∈ lw_all := lw_g (lw_at lw_m4 133 rfl) rfl
theorem q892 : (Jvm.Cond.fieldLink "BilletBarsModel" (75 : Nat) "BilletBarsModel" "orders" "[I") ∈ lw_all := lw_g (lw_at lw_m4 134 rfl) rfl
theorem q893 : (Jvm.Cond.fieldLink "BilletBarsModel" (78 : Nat) "BilletBarsModel" "lengths" "[I") ∈ lw_all := lw_g (lw_at lw_m4 135 rfl) rfl
theorem q894 : (Jvm.Cond.fieldLink "BilletBarsModel" (81 : Nat) "BilletBarsModel" "wanted" "[I") ∈ lw_all := lw_g (lw_at lw_m4 136 rfl) rfl
theorem q895 : (Jvm.Cond.fieldLink "BilletBarsModel" (84 : Nat) "BilletBarsModel" "pieces" "[I") ∈ lw_all := lw_g (lw_at lw_m4 137 rfl) rfl
theorem q896 : (Jvm.Cond.fieldLink "BilletBarsModel" (171 : Nat) "BilletBarsModel" "goods" "I") ∈ lw_all := lw_g (lw_at lw_m4 138 rfl) rfl
theorem q897 : (Jvm.Cond.fieldLink "BilletBarsModel" (183 : Nat) "BilletBarsModel" "all" "I") ∈ lw_all := lw_g (lw_at lw_m4 139 rfl) rfl
theorem q898 : (Jvm.Cond.fieldLink "BilletBarsModel" (186 : Nat) "BilletBarsModel" "head" "I") ∈ lw_all := lw_g (lw_at lw_m4 140 rfl) rfl
theorem q899 : (Jvm.Cond.fieldLink "BilletBarsModel" (189 : Nat) "BilletBarsModel" "tail" "I") ∈ lw_all := lw_g (lw_at lw_m4 141 rfl) rfl
theorem q900 : (Jvm.Cond.fieldLink "BilletBarsModel" (192 : Nat) "BilletBarsModel" "weld" "I") ∈ lw_all := lw_g (lw_at lw_m4 142 rfl) rfl
theorem q901 : (Jvm.Cond.fieldLink "BilletBarsModel" (195 : Nat) "BilletBarsModel" "usable" "I") ∈ lw_all := lw_g (lw_at lw_m4 143 rfl) rfl
theorem q902 : (Jvm.Cond.fieldLink "BilletBarsModel" (224 : Nat) "BilletBarsModel" "stocks" "I") ∈ lw_all := lw_g (lw_at lw_m4 144 rfl) rfl
theorem q903 : (Jvm.Cond.fieldLink "BilletBarsModel" (87 : Nat) "BilletBarsModel" "stock" "[I") ∈ lw_all := lw_g (lw_at lw_m4 145 rfl) rfl
theorem q904 : (Jvm.Cond.fieldLink "BilletBarsModel" (227 : Nat) "BilletBarsModel" "jobs" "I") ∈ lw_all := lw_g (lw_at lw_m4 146 rfl) rfl
theorem q905 : (Jvm.Cond.fieldLink "BilletBarsModel" (90 : Nat) "BilletBarsModel" "jobProfile" "[I") ∈ lw_all := lw_g (lw_at lw_m4 147 rfl) rfl
theorem q906 : (Jvm.Cond.fieldLink "BilletBarsModel" (93 : Nat) "BilletBarsModel" "jobTicks" "[I") ∈ lw_all := lw_g (lw_at lw_m4 148 rfl) rfl
theorem q907 : (Jvm.Cond.fieldLink "BilletBarsModel" (96 : Nat) "BilletBarsModel" "jobDue" "[I") ∈ lw_all := lw_g (lw_at lw_m4 149 rfl) rfl
theorem q908 : (Jvm.Cond.fieldLink "BilletBarsModel" (99 : Nat) "BilletBarsModel" "change" "I") ∈ lw_all := lw_g (lw_at lw_m4 150 rfl) rfl
theorem q909 : (Jvm.Cond.fieldLink "BilletBarsModel" (102 : Nat) "BilletBarsModel" "row" "[I") ∈ lw_all := lw_g (lw_at lw_m4 151 rfl) rfl
theorem q910 : (Jvm.Cond.fieldLink "BilletBarsModel" (105 : Nat) "BilletBarsModel" "plan" "[I") ∈ lw_all := lw_g (lw_at lw_m4 152 rfl) rfl
theorem q911 : (Jvm.Cond.fieldLink "BilletBarsModel" (109 : Nat) "BilletBarsModel" "room" "I") ∈ lw_all := lw_g (lw_at lw_m4 153 rfl) rfl
theorem q912 : (Jvm.Cond.fieldLink "BilletBarsModel" (249 : Nat) "BilletBarsModel" "batches" "I") ∈ lw_all := lw_g (lw_at lw_m4 154 rfl) rfl
theorem q913 : (Jvm.Cond.fieldLink "BilletBarsModel" (112 : Nat) "BilletBarsModel" "gone" "[Z") ∈ lw_all := lw_g (lw_at lw_m4 155 rfl) rfl
theorem q914 : (Jvm.Cond.fieldLink "BilletBarsModel" (116 : Nat) "BilletBarsModel" "forms" "[I") ∈ lw_all := lw_g (lw_at lw_m4 156 rfl) rfl
theorem q915 : (Jvm.Cond.fieldLink "BilletBarsModel" (119 : Nat) "BilletBarsModel" "sizes" "[I") ∈ lw_all := lw_g (lw_at lw_m4 157 rfl) rfl
theorem q916 : (Jvm.Cond.fieldLink "BilletBarsModel" (122 : Nat) "BilletBarsModel" "items" "[I") ∈ lw_all := lw_g (lw_at lw_m4 158 rfl) rfl
theorem q917 : (Jvm.Cond.fieldLink "BilletBarsModel" (125 : Nat) "BilletBarsModel" "moved" "[I") ∈ lw_all := lw_g (lw_at lw_m4 159 rfl) rfl
theorem q918 : (Jvm.Cond.fieldLink "BilletBarsModel" (259 : Nat) "BilletBarsModel" "latest" "I") ∈ lw_all := lw_g (lw_at lw_m4 160 rfl) rfl
theorem q919 : (Jvm.Cond.laysFinal "BilletBarsModel" "BilletBarsModel" "laws" "[I") ∈ lw_all := lw_g (lw_at lw_m4 161 rfl) rfl
theorem q920 : (Jvm.Cond.soleField "BilletBarsModel" "laws") ∈ lw_all := lw_g (lw_at lw_m4 162 rfl) rfl
theorem q921 : (Jvm.Cond.lays "BilletBarsModel" "BilletBarsModel" "profiles" "I") ∈ lw_all := lw_g (lw_at lw_m4 163 rfl) rfl
theorem q922 : (Jvm.Cond.soleField "BilletBarsModel" "profiles") ∈ lw_all := lw_g (lw_at lw_m4 164 rfl) rfl
theorem q923 : (Jvm.Cond.laysFinal "BilletBarsModel" "BilletBarsModel" "alloy" "[I") ∈ lw_all := lw_g (lw_at lw_m4 165 rfl) rfl
theorem q924 : (Jvm.Cond.soleField "BilletBarsModel" "alloy") ∈ lw_all := lw_g (lw_at lw_m4 166 rfl) rfl
theorem q925 : (Jvm.Cond.laysFinal "BilletBarsModel" "BilletBarsModel" "ratio" "[I") ∈ lw_all := lw_g (lw_at lw_m4 167 rfl) rfl
theorem q926 : (Jvm.Cond.soleField "BilletBarsModel" "ratio") ∈ lw_all := lw_g (lw_at lw_m4 168 rfl) rfl
theorem q927 : (Jvm.Cond.laysFinal "BilletBarsModel" "BilletBarsModel" "recipe" "[I") ∈ lw_all := lw_g (lw_at lw_m4 169 rfl) rfl
theorem q928 : (Jvm.Cond.soleField "BilletBarsModel" "recipe") ∈ lw_all := lw_g (lw_at lw_m4 170 rfl) rfl
theorem q929 : (Jvm.Cond.laysFinal "BilletBarsModel" "BilletBarsModel" "grams" "[I") ∈ lw_all := lw_g (lw_at lw_m4 171 rfl) rfl
theorem q930 : (Jvm.Cond.soleField "BilletBarsModel" "grams") ∈ lw_all := lw_g (lw_at lw_m4 172 rfl) rfl
theorem q931 : (Jvm.Cond.lays "BilletBarsModel" "BilletBarsModel" "dies" "I") ∈ lw_all := lw_g (lw_at lw_m4 173 rfl) rfl
theorem q932 : (Jvm.Cond.soleField "BilletBarsModel" "dies") ∈ lw_all := lw_g (lw_at lw_m4 174 rfl) rfl
theorem q933 : (Jvm.Cond.laysFinal "BilletBarsModel" "BilletBarsModel" "dieProfile" "[I") ∈ lw_all := lw_g (lw_at lw_m4 175 rfl) rfl
theorem q934 : (Jvm.Cond.soleField "BilletBarsModel" "dieProfile") ∈ lw_all := lw_g (lw_at lw_m4 176 rfl) rfl
theorem q935 : (Jvm.Cond.laysFinal "BilletBarsModel" "BilletBarsModel" "limit" "[I") ∈ lw_all := lw_g (lw_at lw_m4 177 rfl) rfl
theorem q936 : (Jvm.Cond.soleField "BilletBarsModel" "limit") ∈ lw_all := lw_g (lw_at lw_m4 178 rfl) rfl
theorem q937 : (Jvm.Cond.laysFinal "BilletBarsModel" "BilletBarsModel" "shots" "[I") ∈ lw_all := lw_g (lw_at lw_m4 179 rfl) rfl
theorem q938 : (Jvm.Cond.soleField "BilletBarsModel" "shots") ∈ lw_all := lw_g (lw_at lw_m4 180 rfl) rfl
theorem q939 : (Jvm.Cond.laysFinal "BilletBarsModel" "BilletBarsModel" "allShots" "[I") ∈ lw_all := lw_g (lw_at lw_m4 181 rfl) rfl
theorem q940 : (Jvm.Cond.soleField "BilletBarsModel" "allShots") ∈ lw_all := lw_g (lw_at lw_m4 182 rfl) rfl
theorem q941 : (Jvm.Cond.laysFinal "BilletBarsModel" "BilletBarsModel" "warmSince" "[I") ∈ lw_all := lw_g (lw_at lw_m4 183 rfl) rfl
theorem q942 : (Jvm.Cond.soleField "BilletBarsModel" "warmSince") ∈ lw_all := lw_g (lw_at lw_m4 184 rfl) rfl
theorem q943 : (Jvm.Cond.lays "BilletBarsModel" "BilletBarsModel" "tick" "I") ∈ lw_all := lw_g (lw_at lw_m4 185 rfl) rfl
theorem q944 : (Jvm.Cond.soleField "BilletBarsModel" "tick") ∈ lw_all := lw_g (lw_at lw_m4 186 rfl) rfl
theorem q945 : (Jvm.Cond.lays "BilletBarsModel" "BilletBarsModel" "bars" "I") ∈ lw_all := lw_g (lw_at lw_m4 187 rfl) rfl
theorem q946 : (Jvm.Cond.soleField "BilletBarsModel" "bars") ∈ lw_all := lw_g (lw_at lw_m4 188 rfl) rfl
theorem q947 : (Jvm.Cond.laysFinal "BilletBarsModel" "BilletBarsModel" "barDie" "[I") ∈ lw_all := lw_g (lw_at lw_m4 189 rfl) rfl
theorem q948 : (Jvm.Cond.soleField "BilletBarsModel" "barDie") ∈ lw_all := lw_g (lw_at lw_m4 190 rfl) rfl
theorem q949 : (Jvm.Cond.laysFinal "BilletBarsModel" "BilletBarsModel" "barBillet" "[I") ∈ lw_all := lw_g (lw_at lw_m4 191 rfl) rfl
theorem q950 : (Jvm.Cond.soleField "BilletBarsModel" "barBillet") ∈ lw_all := lw_g (lw_at lw_m4 192 rfl) rfl
theorem q951 : (Jvm.Cond.laysFinal "BilletBarsModel" "BilletBarsModel" "barAll" "[I") ∈ lw_all := lw_g (lw_at lw_m4 193 rfl) rfl
theorem q952 : (Jvm.Cond.soleField "BilletBarsModel" "barAll") ∈ lw_all := lw_g (lw_at lw_m4 194 rfl) rfl
theorem q953 : (Jvm.Cond.laysFinal "BilletBarsModel" "BilletBarsModel" "barGoods" "[I") ∈ lw_all := lw_g (lw_at lw_m4 195 rfl) rfl
theorem q954 : (Jvm.Cond.soleField "BilletBarsModel" "barGoods") ∈ lw_all := lw_g (lw_at lw_m4 196 rfl) rfl
theorem q955 : (Jvm.Cond.laysFinal "BilletBarsModel" "BilletBarsModel" "barOff" "[I") ∈ lw_all := lw_g (lw_at lw_m4 197 rfl) rfl
theorem q956 : (Jvm.Cond.soleField "BilletBarsModel" "barOff") ∈ lw_all := lw_g (lw_at lw_m4 198 rfl) rfl
theorem q957 : (Jvm.Cond.laysFinal "BilletBarsModel" "BilletBarsModel" "barWeld" "[I") ∈ lw_all := lw_g (lw_at lw_m4 199 rfl) rfl
theorem q958 : (Jvm.Cond.soleField "BilletBarsModel" "barWeld") ∈ lw_all := lw_g (lw_at lw_m4 200 rfl) rfl
theorem q959 : (Jvm.Cond.laysFinal "BilletBarsModel" "BilletBarsModel" "barBatch" "[I") ∈ lw_all := lw_g (lw_at lw_m4 201 rfl) rfl
theorem q960 : (Jvm.Cond.soleField "BilletBarsModel" "barBatch") ∈ lw_all := lw_g (lw_at lw_m4 202 rfl) rfl
theorem q961 : (Jvm.Cond.laysFinal "BilletBarsModel" "BilletBarsModel" "looked" "[I") ∈ lw_all := lw_g (lw_at lw_m4 203 rfl) rfl
theorem q962 : (Jvm.Cond.soleField "BilletBarsModel" "looked") ∈ lw_all := lw_g (lw_at lw_m4 204 rfl) rfl
theorem q963 : (Jvm.Cond.lays "BilletBarsModel" "BilletBarsModel" "latestDie" "I") ∈ lw_all := lw_g (lw_at lw_m4 205 rfl) rfl
theorem q964 : (Jvm.Cond.soleField "BilletBarsModel" "latestDie") ∈ lw_all := lw_g (lw_at lw_m4 206 rfl) rfl
theorem q965 : (Jvm.Cond.lays "BilletBarsModel" "BilletBarsModel" "latestTick" "I") ∈ lw_all := lw_g (lw_at lw_m4 207 rfl) rfl
theorem q966 : (Jvm.Cond.soleField "BilletBarsModel" "latestTick") ∈ lw_all := lw_g (lw_at lw_m4 208 rfl) rfl
theorem q967 : (Jvm.Cond.laysFinal "BilletBarsModel" "BilletBarsModel" "accounts" "[J") ∈ lw_all := lw_g (lw_at lw_m4 209 rfl) rfl
theorem q968 : (Jvm.Cond.soleField "BilletBarsModel" "accounts") ∈ lw_all := lw_g (lw_at lw_m4 210 rfl) rfl
theorem q969 : (Jvm.Cond.laysFinal "BilletBarsModel" "BilletBarsModel" "orders" "[I") ∈ lw_all := lw_g (lw_at lw_m4 211 rfl) rfl
theorem q970 : (Jvm.Cond.soleField "BilletBarsModel" "orders") ∈ lw_all := lw_g (lw_at lw_m4 212 rfl) rfl
theorem q971 : (Jvm.Cond.laysFinal "BilletBarsModel" "BilletBarsModel" "lengths" "[I") ∈ lw_all := lw_g (lw_at lw_m4 213 rfl) rfl
theorem q972 : (Jvm.Cond.soleField "BilletBarsModel" "lengths") ∈ lw_all := lw_g (lw_at lw_m4 214 rfl) rfl
theorem q973 : (Jvm.Cond.laysFinal "BilletBarsModel" "BilletBarsModel" "wanted" "[I") ∈ lw_all := lw_g (lw_at lw_m4 215 rfl) rfl
theorem q974 : (Jvm.Cond.soleField "BilletBarsModel" "wanted") ∈ lw_all := lw_g (lw_at lw_m4 216 rfl) rfl
theorem q975 : (Jvm.Cond.laysFinal "BilletBarsModel" "BilletBarsModel" "pieces" "[I") ∈ lw_all := lw_g (lw_at lw_m4 217 rfl) rfl
theorem q976 : (Jvm.Cond.soleField "BilletBarsModel" "pieces") ∈ lw_all := lw_g (lw_at lw_m4 218 rfl) rfl
theorem q977 : (Jvm.Cond.lays "BilletBarsModel" "BilletBarsModel" "goods" "I") ∈ lw_all := lw_g (lw_at lw_m4 219 rfl) rfl
theorem q978 : (Jvm.Cond.soleField "BilletBarsModel" "goods") ∈ lw_all := lw_g (lw_at lw_m4 220 rfl) rfl
theorem q979 : (Jvm.Cond.lays "BilletBarsModel" "BilletBarsModel" "all" "I") ∈ lw_all := lw_g (lw_at lw_m4 221 rfl) rfl
theorem q980 : (Jvm.Cond.soleField "BilletBarsModel" "all") ∈ lw_all := lw_g (lw_at lw_m4 222 rfl) rfl
theorem q981 : (Jvm.Cond.lays "BilletBarsModel" "BilletBarsModel" "head" "I") ∈ lw_all := lw_g (lw_at lw_m4 223 rfl) rfl
theorem q982 : (Jvm.Cond.soleField "BilletBarsModel" "head") ∈ lw_all := lw_g (lw_at lw_m4 224 rfl) rfl
theorem q983 : (Jvm.Cond.lays "BilletBarsModel" "BilletBarsModel" "tail" "I") ∈ lw_all := lw_g (lw_at lw_m4 225 rfl) rfl
theorem q984 : (Jvm.Cond.soleField "BilletBarsModel" "tail") ∈ lw_all := lw_g (lw_at lw_m4 226 rfl) rfl
theorem q985 : (Jvm.Cond.lays "BilletBarsModel" "BilletBarsModel" "weld" "I") ∈ lw_all := lw_g (lw_at lw_m4 227 rfl) rfl
theorem q986 : (Jvm.Cond.soleField "BilletBarsModel" "weld") ∈ lw_all := lw_g (lw_at lw_m4 228 rfl) rfl
theorem q987 : (Jvm.Cond.lays "BilletBarsModel" "BilletBarsModel" "usable" "I") ∈ lw_all := lw_g (lw_at lw_m4 229 rfl) rfl
theorem q988 : (Jvm.Cond.soleField "BilletBarsModel" "usable") ∈ lw_all := lw_g (lw_at lw_m4 230 rfl) rfl
theorem q989 : (Jvm.Cond.lays "BilletBarsModel" "BilletBarsModel" "stocks" "I") ∈ lw_all := lw_g (lw_at lw_m4 231 rfl) rfl
theorem q990 : (Jvm.Cond.soleField "BilletBarsModel" "stocks") ∈ lw_all := lw_g (lw_at lw_m4 232 rfl) rfl
theorem q991 : (Jvm.Cond.laysFinal "BilletBarsModel" "BilletBarsModel" "stock" "[I") ∈ lw_all := lw_g (lw_at lw_m4 233 rfl) rfl
theorem q992 : (Jvm.Cond.soleField "BilletBarsModel" "stock") ∈ lw_all := lw_g (lw_at lw_m4 234 rfl) rfl
theorem q993 : (Jvm.Cond.lays "BilletBarsModel" "BilletBarsModel" "jobs" "I") ∈ lw_all := lw_g (lw_at lw_m4 235 rfl) rfl
theorem q994 : (Jvm.Cond.soleField "BilletBarsModel" "jobs") ∈ lw_all := lw_g (lw_at lw_m4 236 rfl) rfl
theorem q995 : (Jvm.Cond.laysFinal "BilletBarsModel" "BilletBarsModel" "jobProfile" "[I") ∈ lw_all := lw_g (lw_at lw_m4 237 rfl) rfl
theorem q996 : (Jvm.Cond.soleField "BilletBarsModel" "jobProfile") ∈ lw_all := lw_g (lw_at lw_m4 238 rfl) rfl
theorem q997 : (Jvm.Cond.laysFinal "BilletBarsModel" "BilletBarsModel" "jobTicks" "[I") ∈ lw_all := lw_g (lw_at lw_m4 239 rfl) rfl
theorem q998 : (Jvm.Cond.soleField "BilletBarsModel" "jobTicks") ∈ lw_all := lw_g (lw_at lw_m5 0 rfl) rfl
theorem q999 : (Jvm.Cond.laysFinal "BilletBarsModel" "BilletBarsModel" "jobDue" "[I") ∈ lw_all := lw_g (lw_at lw_m5 1 rfl) rfl
theorem q1000 : (Jvm.Cond.soleField "BilletBarsModel" "jobDue") ∈ lw_all := lw_g (lw_at lw_m5 2 rfl) rfl
theorem q1001 : (Jvm.Cond.lays "BilletBarsModel" "BilletBarsModel" "change" "I") ∈ lw_all := lw_g (lw_at lw_m5 3 rfl) rfl
theorem q1002 : (Jvm.Cond.soleField "BilletBarsModel" "change") ∈ lw_all := lw_g (lw_at lw_m5 4 rfl) rfl
theorem q1003 : (Jvm.Cond.laysFinal "BilletBarsModel" "BilletBarsModel" "row" "[I") ∈ lw_all := lw_g (lw_at lw_m5 5 rfl) rfl
theorem q1004 : (Jvm.Cond.soleField "BilletBarsModel" "row") ∈ lw_all := lw_g (lw_at lw_m5 6 rfl) rfl
theorem q1005 : (Jvm.Cond.laysFinal "BilletBarsModel" "BilletBarsModel" "plan" "[I") ∈ lw_all := lw_g (lw_at lw_m5 7 rfl) rfl
theorem q1006 : (Jvm.Cond.soleField "BilletBarsModel" "plan") ∈ lw_all := lw_g (lw_at lw_m5 8 rfl) rfl
theorem q1007 : (Jvm.Cond.lays "BilletBarsModel" "BilletBarsModel" "room" "I") ∈ lw_all := lw_g (lw_at lw_m5 9 rfl) rfl
theorem q1008 : (Jvm.Cond.soleField "BilletBarsModel" "room") ∈ lw_all := lw_g (lw_at lw_m5 10 rfl) rfl
theorem q1009 : (Jvm.Cond.lays "BilletBarsModel" "BilletBarsModel" "batches" "I") ∈ lw_all := lw_g (lw_at lw_m5 11 rfl) rfl
theorem q1010 : (Jvm.Cond.soleField "BilletBarsModel" "batches") ∈ lw_all := lw_g (lw_at lw_m5 12 rfl) rfl
theorem q1011 : (Jvm.Cond.laysFinal "BilletBarsModel" "BilletBarsModel" "gone" "[Z") ∈ lw_all := lw_g (lw_at lw_m5 13 rfl) rfl
theorem q1012 : (Jvm.Cond.soleField "BilletBarsModel" "gone") ∈ lw_all := lw_g (lw_at lw_m5 14 rfl) rfl
theorem q1013 : (Jvm.Cond.laysFinal "BilletBarsModel" "BilletBarsModel" "forms" "[I") ∈ lw_all := lw_g (lw_at lw_m5 15 rfl) rfl
theorem q1014 : (Jvm.Cond.soleField "BilletBarsModel" "forms") ∈ lw_all := lw_g (lw_at lw_m5 16 rfl) rfl
theorem q1015 : (Jvm.Cond.laysFinal "BilletBarsModel" "BilletBarsModel" "sizes" "[I") ∈ lw_all := lw_g (lw_at lw_m5 17 rfl) rfl
theorem q1016 : (Jvm.Cond.soleField "BilletBarsModel" "sizes") ∈ lw_all := lw_g (lw_at lw_m5 18 rfl) rfl
theorem q1017 : (Jvm.Cond.laysFinal "BilletBarsModel" "BilletBarsModel" "items" "[I") ∈ lw_all := lw_g (lw_at lw_m5 19 rfl) rfl
theorem q1018 : (Jvm.Cond.soleField "BilletBarsModel" "items") ∈ lw_all := lw_g (lw_at lw_m5 20 rfl) rfl
theorem q1019 : (Jvm.Cond.laysFinal "BilletBarsModel" "BilletBarsModel" "moved" "[I") ∈ lw_all := lw_g (lw_at lw_m5 21 rfl) rfl
theorem q1020 : (Jvm.Cond.soleField "BilletBarsModel" "moved") ∈ lw_all := lw_g (lw_at lw_m5 22 rfl) rfl
theorem q1021 : (Jvm.Cond.lays "BilletBarsModel" "BilletBarsModel" "latest" "I") ∈ lw_all := lw_g (lw_at lw_m5 23 rfl) rfl
theorem q1022 : (Jvm.Cond.soleField "BilletBarsModel" "latest") ∈ lw_all := lw_g (lw_at lw_m5 24 rfl) rfl
theorem q1023 : (Jvm.Cond.superclass "BilletBarsModel" "java/lang/Object") ∈ lw_all := lw_g (lw_at lw_m5 25 rfl) rfl
theorem q1027 : (Jvm.Cond.instanceMethod ({ cls := "BilletBarsModel", name := "profile", desc := "(IIII)I" } : Jvm.MethodName)) ∈ lw_all := lw_g (lw_at lw_m5 29 rfl) rfl
theorem q1028 : (Jvm.Cond.selects "BilletBarsModel" ({ cls := "BilletBarsModel", name := "profile", desc := "(IIII)I" } : Jvm.MethodName) ({ cls := "BilletBarsModel", name := "profile", desc := "(IIII)I" } : Jvm.MethodName)) ∈ lw_all := lw_g (lw_at lw_m5 30 rfl) rfl
theorem q1029 : (Jvm.Cond.code ({ cls := "BilletBarsModel", name := "profile", desc := "(IIII)I" } : Jvm.MethodName) prog_11_method_6_code (5 : Nat) (Option.some Jvm.ClassFile.FieldType.int)) ∈ lw_all := lw_g (lw_at lw_m5 31 rfl) rfl
theorem q1030 : (Jvm.Cond.constantLong "BilletBarsModel" (138 : Nat) (2 : Int64)) ∈ lw_all := lw_g (lw_at lw_m5 32 rfl) rfl
theorem q1031 : (Jvm.Cond.methodLink "BilletBarsModel" (131 : Nat) ({ cls := "BilletBarsModel", name := "in", desc := "(JJJ)Z" } : Jvm.MethodName)) ∈ lw_all := lw_g (lw_at lw_m5 33 rfl) rfl
theorem q1032 : (Jvm.Cond.static ({ cls := "BilletBarsModel", name := "in", desc := "(JJJ)Z" } : Jvm.MethodName)) ∈ lw_all := lw_g (lw_at lw_m5 34 rfl) rfl
theorem q1033 : (Jvm.Cond.code ({ cls := "BilletBarsModel", name := "in", desc := "(JJJ)Z" } : Jvm.MethodName) prog_11_method_3_code (6 : Nat) (Option.some Jvm.ClassFile.FieldType.boolean)) ∈ lw_all := lw_g (lw_at lw_m5 35 rfl) rfl
theorem q1034 : (Jvm.Cond.constantLong "BilletBarsModel" (140 : Nat) (5 : Int64)) ∈ lw_all := lw_g (lw_at lw_m5 36 rfl) rfl
theorem q1035 : (Jvm.Cond.constantLong "BilletBarsModel" (142 : Nat) (80 : Int64)) ∈ lw_all := lw_g (lw_at lw_m5 37 rfl) rfl
theorem q1036 : (Jvm.Cond.constantLong "BilletBarsModel" (144 : Nat) (3 : Int64)) ∈ lw_all := lw_g (lw_at lw_m5 38 rfl) rfl
theorem q1037 : (Jvm.Cond.constantLong "BilletBarsModel" (146 : Nat) (100 : Int64)) ∈ lw_all := lw_g (lw_at lw_m5 39 rfl) rfl
theorem q1038 : (Jvm.Cond.constantLong "BilletBarsModel" (148 : Nat) (9999 : Int64)) ∈ lw_all := lw_g (lw_at lw_m5 40 rfl) rfl
theorem q1040 : (Jvm.Cond.instanceMethod ({ cls := "BilletBarsModel", name := "die", desc := "(II)I" } : Jvm.MethodName)) ∈ lw_all := lw_g (lw_at lw_m5 42 rfl) rfl
theorem q1041 : (Jvm.Cond.selects "BilletBarsModel" ({ cls := "BilletBarsModel", name := "die", desc := "(II)I" } : Jvm.MethodName) ({ cls := "BilletBarsModel", name := "die", desc := "(II)I" } : Jvm.MethodName)) ∈ lw_all := lw_g (lw_at lw_m5 43 rfl) rfl
theorem q1042 : (Jvm.Cond.code ({ cls := "BilletBarsModel", name := "die", desc := "(II)I" } : Jvm.MethodName) prog_11_method_7_code (3 : Nat) (Option.some Jvm.ClassFile.FieldType.int)) ∈ lw_all := lw_g (lw_at lw_m5 44 rfl) rfl
theorem q1043 : (Jvm.Cond.methodLink "BilletBarsModel" (150 : Nat) ({ cls := "BilletBarsModel", name := "isProfile", desc := "(I)Z" } : Jvm.MethodName)) ∈ lw_all := lw_g (lw_at lw_m5 45 rfl) rfl
theorem q1044 : (Jvm.Cond.privateMethod ({ cls := "BilletBarsModel", name := "isProfile", desc := "(I)Z" } : Jvm.MethodName)) ∈ lw_tbl := lw_at lw_m5 46 rfl
theorem q1045 : (Jvm.Cond.instanceMethod ({ cls := "BilletBarsModel", name := "isProfile", desc := "(I)Z" } : Jvm.MethodName)) ∈ lw_all := lw_g (lw_at lw_m5 47 rfl) rfl
theorem q1046 : (Jvm.Cond.code ({ cls := "BilletBarsModel", name := "isProfile", desc := "(I)Z" } : Jvm.MethodName) prog_11_method_4_code (2 : Nat) (Option.some Jvm.ClassFile.FieldType.boolean)) ∈ lw_all := lw_g (lw_at lw_m5 48 rfl) rfl
theorem q1047 : (Jvm.Cond.constantLong "BilletBarsModel" (154 : Nat) (50 : Int64)) ∈ lw_all := lw_g (lw_at lw_m5 49 rfl) rfl
theorem q1049 : (Jvm.Cond.instanceMethod ({ cls := "BilletBarsModel", name := "warm", desc := "(I)I" } : Jvm.MethodName)) ∈ lw_all := lw_g (lw_at lw_m5 51 rfl) rfl
theorem q1050 : (Jvm.Cond.selects "BilletBarsModel" ({ cls := "BilletBarsModel", name := "warm", desc := "(I)I" } : Jvm.MethodName) ({ cls := "BilletBarsModel", name := "warm", desc := "(I)I" } : Jvm.MethodName)) ∈ lw_all := lw_g (lw_at lw_m5 52 rfl) rfl
theorem q1051 : (Jvm.Cond.code ({ cls := "BilletBarsModel", name := "warm", desc := "(I)I" } : Jvm.MethodName) prog_11_method_8_code (2 : Nat) (Option.some Jvm.ClassFile.FieldType.int)) ∈ lw_all := lw_g (lw_at lw_m5 53 rfl) rfl
theorem q1052 : (Jvm.Cond.methodLink "BilletBarsModel" (156 : Nat) ({ cls := "BilletBarsModel", name := "isDie", desc := "(I)Z" } : Jvm.MethodName)) ∈ lw_all := lw_g (lw_at lw_m5 54 rfl) rfl
theorem q1053 : (Jvm.Cond.privateMethod ({ cls := "BilletBarsModel", name := "isDie", desc := "(I)Z" } : Jvm.MethodName)) ∈ lw_tbl := lw_at lw_m5 55 rfl
theorem q1054 : (Jvm.Cond.instanceMethod ({ cls := "BilletBarsModel", name := "isDie", desc := "(I)Z" } : Jvm.MethodName)) ∈ lw_all := lw_g (lw_at lw_m5 56 rfl) rfl
theorem q1055 : (Jvm.Cond.code ({ cls := "BilletBarsModel", name := "isDie", desc := "(I)Z" } : Jvm.MethodName) prog_11_method_5_code (2 : Nat) (Option.some Jvm.ClassFile.FieldType.boolean)) ∈ lw_all := lw_g (lw_at lw_m5 57 rfl) rfl
theorem q1057 : (Jvm.Cond.instanceMethod ({ cls := "BilletBarsModel", name := "cool", desc := "(I)I" } : Jvm.MethodName)) ∈ lw_all := lw_g (lw_at lw_m5 59 rfl) rfl
theorem q1058 : (Jvm.Cond.selects "BilletBarsModel" ({ cls := "BilletBarsModel", name := "cool", desc := "(I)I" } : Jvm.MethodName) ({ cls := "BilletBarsModel", name := "cool", desc := "(I)I" } : Jvm.MethodName)) ∈ lw_all := lw_g (lw_at lw_m5 60 rfl) rfl
theorem q1059 : (Jvm.Cond.code ({ cls := "BilletBarsModel", name := "cool", desc := "(I)I" } : Jvm.MethodName) prog_11_method_9_code (3 : Nat) (Option.some Jvm.ClassFile.FieldType.int)) ∈ lw_all := lw_g (lw_at lw_m5 61 rfl) rfl
theorem q1061 : (Jvm.Cond.instanceMethod ({ cls := "BilletBarsModel", name := "nitride", desc := "(I)I" } : Jvm.MethodName)) ∈ lw_all := lw_g (lw_at lw_m5 63 rfl) rfl
theorem q1062 : (Jvm.Cond.selects "BilletBarsModel" ({ cls := "BilletBarsModel", name := "nitride", desc := "(I)I" } : Jvm.MethodName) ({ cls := "BilletBarsModel", name := "nitride", desc := "(I)I" } : Jvm.MethodName)) ∈ lw_all := lw_g (lw_at lw_m5 64 rfl) rfl
theorem q1063 : (Jvm.Cond.code ({ cls := "BilletBarsModel", name := "nitride", desc := "(I)I" } : Jvm.MethodName) prog_11_method_10_code (3 : Nat) (Option.some Jvm.ClassFile.FieldType.int)) ∈ lw_all := lw_g (lw_at lw_m5 65 rfl) rfl
theorem q1065 : (Jvm.Cond.instanceMethod ({ cls := "BilletBarsModel", name := "about", desc := "(II)I" } : Jvm.MethodName)) ∈ lw_all := lw_g (lw_at lw_m5 67 rfl) rfl
theorem q1066 : (Jvm.Cond.selects "BilletBarsModel" ({ cls := "BilletBarsModel", name := "about", desc := "(II)I" } : Jvm.MethodName) ({ cls := "BilletBarsModel", name := "about", desc := "(II)I" } : Jvm.MethodName)) ∈ lw_all := lw_g (lw_at lw_m5 68 rfl) rfl
theorem q1067 : (Jvm.Cond.code ({ cls := "BilletBarsModel", name := "about", desc := "(II)I" } : Jvm.MethodName) prog_11_method_12_code (3 : Nat) (Option.some Jvm.ClassFile.FieldType.int)) ∈ lw_all := lw_g (lw_at lw_m5 69 rfl) rfl
theorem q1068 : (Jvm.Cond.methodLink "BilletBarsModel" (164 : Nat) ({ cls := "BilletBarsModel", name := "mayPress", desc := "(I)Z" } : Jvm.MethodName)) ∈ lw_all := lw_g (lw_at lw_m5 70 rfl) rfl
theorem q1069 : (Jvm.Cond.privateMethod ({ cls := "BilletBarsModel", name := "mayPress", desc := "(I)Z" } : Jvm.MethodName)) ∈ lw_tbl := lw_at lw_m5 71 rfl
theorem q1070 : (Jvm.Cond.instanceMethod ({ cls := "BilletBarsModel", name := "mayPress", desc := "(I)Z" } : Jvm.MethodName)) ∈ lw_all := lw_g (lw_at lw_m5 72 rfl) rfl
theorem q1071 : (Jvm.Cond.code ({ cls := "BilletBarsModel", name := "mayPress", desc := "(I)Z" } : Jvm.MethodName) prog_11_method_11_code (2 : Nat) (Option.some Jvm.ClassFile.FieldType.boolean)) ∈ lw_all := lw_g (lw_at lw_m5 73 rfl) rfl
theorem q1072 : (Jvm.Cond.constantLong "BilletBarsModel" (162 : Nat) (12 : Int64)) ∈ lw_all := lw_g (lw_at lw_m5 74 rfl) rfl
theorem q1074 : (Jvm.Cond.instanceMethod ({ cls := "BilletBarsModel", name := "ready", desc := "(I)I" } : Jvm.MethodName)) ∈ lw_all := lw_g (lw_at lw_m5 76 rfl) rfl
theorem q1075 : (Jvm.Cond.selects "BilletBarsModel" ({ cls := "BilletBarsModel", name := "ready", desc := "(I)I" } : Jvm.MethodName) ({ cls := "BilletBarsModel", name := "ready", desc := "(I)I" } : Jvm.MethodName)) ∈ lw_all := lw_g (lw_at lw_m5 77 rfl) rfl
theorem q1076 : (Jvm.Cond.code ({ cls := "BilletBarsModel", name := "ready", desc := "(I)I" } : Jvm.MethodName) prog_11_method_13_code (4 : Nat) (Option.some Jvm.ClassFile.FieldType.int)) ∈ lw_all := lw_g (lw_at lw_m5 78 rfl) rfl
theorem q1078 : (Jvm.Cond.instanceMethod ({ cls := "BilletBarsModel", name := "pass", desc := "(I)I" } : Jvm.MethodName)) ∈ lw_all := lw_g (lw_at lw_m5 80 rfl) rfl
theorem q1079 : (Jvm.Cond.selects "BilletBarsModel" ({ cls := "BilletBarsModel", name := "pass", desc := "(I)I" } : Jvm.MethodName) ({ cls := "BilletBarsModel", name := "pass", desc := "(I)I" } : Jvm.MethodName)) ∈ lw_all := lw_g (lw_at lw_m5 81 rfl) rfl
theorem q1080 : (Jvm.Cond.code ({ cls := "BilletBarsModel", name := "pass", desc := "(I)I" } : Jvm.MethodName) prog_11_method_14_code (2 : Nat) (Option.some Jvm.ClassFile.FieldType.int)) ∈ lw_all := lw_g (lw_at lw_m5 82 rfl) rfl
theorem q1082 : (Jvm.Cond.instanceMethod ({ cls := "BilletBarsModel", name := "law", desc := "(II)I" } : Jvm.MethodName)) ∈ lw_all := lw_g (lw_at lw_m5 84 rfl) rfl
theorem q1083 : (Jvm.Cond.selects "BilletBarsModel" ({ cls := "BilletBarsModel", name := "law", desc := "(II)I" } : Jvm.MethodName) ({ cls := "BilletBarsModel", name := "law", desc := "(II)I" } : Jvm.MethodName)) ∈ lw_all := lw_g (lw_at lw_m5 85 rfl) rfl
theorem q1084 : (Jvm.Cond.code ({ cls := "BilletBarsModel", name := "law", desc := "(II)I" } : Jvm.MethodName) prog_11_method_15_code (4 : Nat) (Option.some Jvm.ClassFile.FieldType.int)) ∈ lw_all := lw_g (lw_at lw_m5 86 rfl) rfl
theorem q1085 : (Jvm.Cond.constantLong "BilletBarsModel" (167 : Nat) (5000 : Int64)) ∈ lw_all := lw_g (lw_at lw_m5 87 rfl) rfl
theorem q1086 : (Jvm.Cond.constantLong "BilletBarsModel" (169 : Nat) (20 : Int64)) ∈ lw_all := lw_g (lw_at lw_m5 88 rfl) rfl
theorem q1088 : (Jvm.Cond.instanceMethod ({ cls := "BilletBarsModel", name := "press", desc := "(II)I" } : Jvm.MethodName)) ∈ lw_all := lw_g (lw_at lw_m5 90 rfl) rfl
theorem q1089 : (Jvm.Cond.selects "BilletBarsModel" ({ cls := "BilletBarsModel", name := "press", desc := "(II)I" } : Jvm.MethodName) ({ cls := "BilletBarsModel", name := "press", desc := "(II)I" } : Jvm.MethodName)) ∈ lw_all := lw_g (lw_at lw_m5 91 rfl) rfl
theorem q1090 : (Jvm.Cond.code ({ cls := "BilletBarsModel", name := "press", desc := "(II)I" } : Jvm.MethodName) prog_11_method_20_code (5 : Nat) (Option.some Jvm.ClassFile.FieldType.int)) ∈ lw_all := lw_g (lw_at lw_m5 92 rfl) rfl
theorem q1091 : (Jvm.Cond.constantLong "BilletBarsModel" (202 : Nat) (200 : Int64)) ∈ lw_all := lw_g (lw_at lw_m5 93 rfl) rfl
theorem q1092 : (Jvm.Cond.constantLong "BilletBarsModel" (204 : Nat) (1200 : Int64)) ∈ lw_all := lw_g (lw_at lw_m5 94 rfl) rfl
theorem q1093 : (Jvm.Cond.methodLink "BilletBarsModel" (209 : Nat) ({ cls := "BilletBarsModel", name := "findBar", desc := "(IIZ)V" } : Jvm.MethodName)) ∈ lw_all := lw_g (lw_at lw_m5 95 rfl) rfl
theorem q1094 : (Jvm.Cond.privateMethod ({ cls := "BilletBarsModel", name := "findBar", desc := "(IIZ)V" } : Jvm.MethodName)) ∈ lw_tbl := lw_at lw_m5 96 rfl
theorem q1095 : (Jvm.Cond.instanceMethod ({ cls := "BilletBarsModel", name := "findBar", desc := "(IIZ)V" } : Jvm.MethodName)) ∈ lw_all := lw_g (lw_at lw_m5 97 rfl) rfl
theorem q1096 : (Jvm.Cond.code ({ cls := "BilletBarsModel", name := "findBar", desc := "(IIZ)V" } : Jvm.MethodName) prog_11_method_19_code (6 : Nat) (Option.none : Option Jvm.ClassFile.FieldType)) ∈ lw_all := lw_g (lw_at lw_m5 98 rfl) rfl
theorem q1097 : (Jvm.Cond.constantLong "BilletBarsModel" (181 : Nat) (1000 : Int64)) ∈ lw_all := lw_g (lw_at lw_m5 99 rfl) rfl
theorem q1098 : (Jvm.Cond.methodLink "BilletBarsModel" (198 : Nat) ({ cls := "BilletBarsModel", name := "findPattern", desc := "(II)V" } : Jvm.MethodName)) ∈ lw_all := lw_g (lw_at lw_m5 100 rfl) rfl
theorem q1099 : (Jvm.Cond.privateMethod ({ cls := "BilletBarsModel", name := "findPattern", desc := "(II)V" } : Jvm.MethodName)) ∈ lw_tbl := lw_at lw_m5 101 rfl
theorem q1100 : (Jvm.Cond.instanceMethod ({ cls := "BilletBarsModel", name := "findPattern", desc := "(II)V" } : Jvm.MethodName)) ∈ lw_all := lw_g (lw_at lw_m5 102 rfl) rfl
theorem q1101 : (Jvm.Cond.code ({ cls := "BilletBarsModel", name := "findPattern", desc := "(II)V" } : Jvm.MethodName) prog_11_method_17_code (10 : Nat) (Option.none : Option Jvm.ClassFile.FieldType)) ∈ lw_all := lw_g (lw_at lw_m5 103 rfl) rfl
theorem q1102 : (Jvm.Cond.methodLink "BilletBarsModel" (174 : Nat) ({ cls := "BilletBarsModel", name := "most", desc := "(II)I" } : Jvm.MethodName)) ∈ lw_all := lw_g (lw_at lw_m5 104 rfl) rfl
theorem q1103 : (Jvm.Cond.privateMethod ({ cls := "BilletBarsModel", name := "most", desc := "(II)I" } : Jvm.MethodName)) ∈ lw_tbl := lw_at lw_m5 105 rfl
theorem q1104 : (Jvm.Cond.instanceMethod ({ cls := "BilletBarsModel", name := "most", desc := "(II)I" } : Jvm.MethodName)) ∈ lw_all := lw_g (lw_at lw_m5 106 rfl) rfl
theorem q1105 : (Jvm.Cond.code ({ cls := "BilletBarsModel", name := "most", desc := "(II)I" } : Jvm.MethodName) prog_11_method_16_code (3 : Nat) (Option.some Jvm.ClassFile.FieldType.int)) ∈ lw_all := lw_g (lw_at lw_m5 107 rfl) rfl
theorem q1106 : (Jvm.Cond.methodLink "BilletBarsModel" (178 : Nat) ({ cls := "BilletBarsModel", name := "lengthOf", desc := "(II)I" } : Jvm.MethodName)) ∈ lw_all := lw_g (lw_at lw_m5 108 rfl) rfl
theorem q1107 : (Jvm.Cond.privateMethod ({ cls := "BilletBarsModel", name := "lengthOf", desc := "(II)I" } : Jvm.MethodName)) ∈ lw_tbl := lw_at lw_m5 109 rfl
theorem q1108 : (Jvm.Cond.instanceMethod ({ cls := "BilletBarsModel", name := "lengthOf", desc := "(II)I" } : Jvm.MethodName)) ∈ lw_all := lw_g (lw_at lw_m5 110 rfl) rfl
theorem q1109 : (Jvm.Cond.code ({ cls := "BilletBarsModel", name := "lengthOf", desc := "(II)I" } : Jvm.MethodName) prog_11_method_18_code (3 : Nat) (Option.some Jvm.ClassFile.FieldType.int)) ∈ lw_all := lw_g (lw_at lw_m5 111 rfl) rfl
theorem q1111 : (Jvm.Cond.instanceMethod ({ cls := "BilletBarsModel", name := "bar", desc := "(II)I" } : Jvm.MethodName)) ∈ lw_all := lw_g (lw_at lw_m5 113 rfl) rfl
theorem q1112 : (Jvm.Cond.selects "BilletBarsModel" ({ cls := "BilletBarsModel", name := "bar", desc := "(II)I" } : Jvm.MethodName) ({ cls := "BilletBarsModel", name := "bar", desc := "(II)I" } : Jvm.MethodName)) ∈ lw_all := lw_g (lw_at lw_m5 114 rfl) rfl
theorem q1113 : (Jvm.Cond.code ({ cls := "BilletBarsModel", name := "bar", desc := "(II)I" } : Jvm.MethodName) prog_11_method_22_code (3 : Nat) (Option.some Jvm.ClassFile.FieldType.int)) ∈ lw_all := lw_g (lw_at lw_m5 115 rfl) rfl
theorem q1114 : (Jvm.Cond.methodLink "BilletBarsModel" (213 : Nat) ({ cls := "BilletBarsModel", name := "isBar", desc := "(I)Z" } : Jvm.MethodName)) ∈ lw_all := lw_g (lw_at lw_m5 116 rfl) rfl
theorem q1115 : (Jvm.Cond.privateMethod ({ cls := "BilletBarsModel", name := "isBar", desc := "(I)Z" } : Jvm.MethodName)) ∈ lw_tbl := lw_at lw_m5 117 rfl
theorem q1116 : (Jvm.Cond.instanceMethod ({ cls := "BilletBarsModel", name := "isBar", desc := "(I)Z" } : Jvm.MethodName)) ∈ lw_all := lw_g (lw_at lw_m5 118 rfl) rfl
theorem q1117 : (Jvm.Cond.code ({ cls := "BilletBarsModel", name := "isBar", desc := "(I)Z" } : Jvm.MethodName) prog_11_method_21_code (2 : Nat) (Option.some Jvm.ClassFile.FieldType.boolean)) ∈ lw_all := lw_g (lw_at lw_m5 119 rfl) rfl
theorem q1119 : (Jvm.Cond.instanceMethod ({ cls := "BilletBarsModel", name := "order", desc := "(III)I" } : Jvm.MethodName)) ∈ lw_all := lw_g (lw_at lw_m5 121 rfl) rfl
theorem q1120 : (Jvm.Cond.selects "BilletBarsModel" ({ cls := "BilletBarsModel", name := "order", desc := "(III)I" } : Jvm.MethodName) ({ cls := "BilletBarsModel", name := "order", desc := "(III)I" } : Jvm.MethodName)) ∈ lw_all := lw_g (lw_at lw_m5 122 rfl) rfl
theorem q1121 : (Jvm.Cond.code ({ cls := "BilletBarsModel", name := "order", desc := "(III)I" } : Jvm.MethodName) prog_11_method_23_code (4 : Nat) (Option.some Jvm.ClassFile.FieldType.int)) ∈ lw_all := lw_g (lw_at lw_m5 123 rfl) rfl
theorem q1122 : (Jvm.Cond.constantLong "BilletBarsModel" (216 : Nat) (9000 : Int64)) ∈ lw_all := lw_g (lw_at lw_m5 124 rfl) rfl
theorem q1123 : (Jvm.Cond.constantLong "BilletBarsModel" (218 : Nat) (500 : Int64)) ∈ lw_all := lw_g (lw_at lw_m5 125 rfl) rfl
theorem q1125 : (Jvm.Cond.instanceMethod ({ cls := "BilletBarsModel", name := "wanted", desc := "(II)I" } : Jvm.MethodName)) ∈ lw_all := lw_g (lw_at lw_m5 127 rfl) rfl
theorem q1126 : (Jvm.Cond.selects "BilletBarsModel" ({ cls := "BilletBarsModel", name := "wanted", desc := "(II)I" } : Jvm.MethodName) ({ cls := "BilletBarsModel", name := "wanted", desc := "(II)I" } : Jvm.MethodName)) ∈ lw_all := lw_g (lw_at lw_m5 128 rfl) rfl
theorem q1127 : (Jvm.Cond.code ({ cls := "BilletBarsModel", name := "wanted", desc := "(II)I" } : Jvm.MethodName) prog_11_method_24_code (3 : Nat) (Option.some Jvm.ClassFile.FieldType.int)) ∈ lw_all := lw_g (lw_at lw_m5 129 rfl) rfl
theorem q1129 : (Jvm.Cond.instanceMethod ({ cls := "BilletBarsModel", name := "pattern", desc := "(III)I" } : Jvm.MethodName)) ∈ lw_all := lw_g (lw_at lw_m5 131 rfl) rfl
theorem q1130 : (Jvm.Cond.selects "BilletBarsModel" ({ cls := "BilletBarsModel", name := "pattern", desc := "(III)I" } : Jvm.MethodName) ({ cls := "BilletBarsModel", name := "pattern", desc := "(III)I" } : Jvm.MethodName)) ∈ lw_all := lw_g (lw_at lw_m5 132 rfl) rfl
theorem q1131 : (Jvm.Cond.code ({ cls := "BilletBarsModel", name := "pattern", desc := "(III)I" } : Jvm.MethodName) prog_11_method_25_code (4 : Nat) (Option.some Jvm.ClassFile.FieldType.int)) ∈ lw_all := lw_g (lw_at lw_m5 133 rfl) rfl
theorem q1132 : (Jvm.Cond.constantLong "BilletBarsModel" (220 : Nat) (200000 : Int64)) ∈ lw_all := lw_g (lw_at lw_m5 134 rfl) rfl
theorem q1134 : (Jvm.Cond.instanceMethod ({ cls := "BilletBarsModel", name := "account", desc := "(I)I" } : Jvm.MethodName)) ∈ lw_all := lw_g (lw_at lw_m5 136 rfl) rfl
theorem q1135 : (Jvm.Cond.selects "BilletBarsModel" ({ cls := "BilletBarsModel", name := "account", desc := "(I)I" } : Jvm.MethodName) ({ cls := "BilletBarsModel", name := "account", desc := "(I)I" } : Jvm.MethodName)) ∈ lw_all := lw_g (lw_at lw_m5 137 rfl) rfl
theorem q1136 : (Jvm.Cond.code ({ cls := "BilletBarsModel", name := "account", desc := "(I)I" } : Jvm.MethodName) prog_11_method_26_code (2 : Nat) (Option.some Jvm.ClassFile.FieldType.int)) ∈ lw_all := lw_g (lw_at lw_m5 138 rfl) rfl
theorem q1137 : (Jvm.Cond.constantLong "BilletBarsModel" (222 : Nat) (6 : Int64)) ∈ lw_all := lw_g (lw_at lw_m5 139 rfl) rfl
theorem q1139 : (Jvm.Cond.instanceMethod ({ cls := "BilletBarsModel", name := "stock", desc := "(I)I" } : Jvm.MethodName)) ∈ lw_all := lw_g (lw_at lw_m5 141 rfl) rfl
theorem q1140 : (Jvm.Cond.selects "BilletBarsModel" ({ cls := "BilletBarsModel", name := "stock", desc := "(I)I" } : Jvm.MethodName) ({ cls := "BilletBarsModel", name := "stock", desc := "(I)I" } : Jvm.MethodName)) ∈ lw_all := lw_g (lw_at lw_m5 142 rfl) rfl
theorem q1141 : (Jvm.Cond.code ({ cls := "BilletBarsModel", name := "stock", desc := "(I)I" } : Jvm.MethodName) prog_11_method_27_code (2 : Nat) (Option.some Jvm.ClassFile.FieldType.int)) ∈ lw_all := lw_g (lw_at lw_m5 143 rfl) rfl
theorem q1143 : (Jvm.Cond.instanceMethod ({ cls := "BilletBarsModel", name := "best", desc := "(IZ)I" } : Jvm.MethodName)) ∈ lw_all := lw_g (lw_at lw_m5 145 rfl) rfl
theorem q1144 : (Jvm.Cond.selects "BilletBarsModel" ({ cls := "BilletBarsModel", name := "best", desc := "(IZ)I" } : Jvm.MethodName) ({ cls := "BilletBarsModel", name := "best", desc := "(IZ)I" } : Jvm.MethodName)) ∈ lw_all := lw_g (lw_at lw_m5 146 rfl) rfl
theorem q1145 : (Jvm.Cond.code ({ cls := "BilletBarsModel", name := "best", desc := "(IZ)I" } : Jvm.MethodName) prog_11_method_28_code (10 : Nat) (Option.some Jvm.ClassFile.FieldType.int)) ∈ lw_all := lw_g (lw_at lw_m5 147 rfl) rfl
theorem q1147 : (Jvm.Cond.instanceMethod ({ cls := "BilletBarsModel", name := "job", desc := "(III)I" } : Jvm.MethodName)) ∈ lw_all := lw_g (lw_at lw_m5 149 rfl) rfl
theorem q1148 : (Jvm.Cond.selects "BilletBarsModel" ({ cls := "BilletBarsModel", name := "job", desc := "(III)I" } : Jvm.MethodName) ({ cls := "BilletBarsModel", name := "job", desc := "(III)I" } : Jvm.MethodName)) ∈ lw_all := lw_g (lw_at lw_m5 150 rfl) rfl
theorem q1149 : (Jvm.Cond.code ({ cls := "BilletBarsModel", name := "job", desc := "(III)I" } : Jvm.MethodName) prog_11_method_29_code (4 : Nat) (Option.some Jvm.ClassFile.FieldType.int)) ∈ lw_all := lw_g (lw_at lw_m5 151 rfl) rfl
theorem q1151 : (Jvm.Cond.instanceMethod ({ cls := "BilletBarsModel", name := "change", desc := "(I)I" } : Jvm.MethodName)) ∈ lw_all := lw_g (lw_at lw_m5 153 rfl) rfl
theorem q1152 : (Jvm.Cond.selects "BilletBarsModel" ({ cls := "BilletBarsModel", name := "change", desc := "(I)I" } : Jvm.MethodName) ({ cls := "BilletBarsModel", name := "change", desc := "(I)I" } : Jvm.MethodName)) ∈ lw_all := lw_g (lw_at lw_m5 154 rfl) rfl
theorem q1153 : (Jvm.Cond.code ({ cls := "BilletBarsModel", name := "change", desc := "(I)I" } : Jvm.MethodName) prog_11_method_30_code (3 : Nat) (Option.some Jvm.ClassFile.FieldType.int)) ∈ lw_all := lw_g (lw_at lw_m5 155 rfl) rfl
theorem q1155 : (Jvm.Cond.instanceMethod ({ cls := "BilletBarsModel", name := "late", desc := "()I" } : Jvm.MethodName)) ∈ lw_all := lw_g (lw_at lw_m5 157 rfl) rfl
theorem q1156 : (Jvm.Cond.selects "BilletBarsModel" ({ cls := "BilletBarsModel", name := "late", desc := "()I" } : Jvm.MethodName) ({ cls := "BilletBarsModel", name := "late", desc := "()I" } : Jvm.MethodName)) ∈ lw_all := lw_g (lw_at lw_m5 158 rfl) rfl
theorem q1157 : (Jvm.Cond.code ({ cls := "BilletBarsModel", name := "late", desc := "()I" } : Jvm.MethodName) prog_11_method_33_code (1 : Nat) (Option.some Jvm.ClassFile.FieldType.int)) ∈ lw_all := lw_g (lw_at lw_m5 159 rfl) rfl
theorem q1158 : (Jvm.Cond.methodLink "BilletBarsModel" (234 : Nat) ({ cls := "BilletBarsModel", name := "findOrder", desc := "()I" } : Jvm.MethodName)) ∈ lw_all := lw_g (lw_at lw_m5 160 rfl) rfl
theorem q1159 : (Jvm.Cond.privateMethod ({ cls := "BilletBarsModel", name := "findOrder", desc := "()I" } : Jvm.MethodName)) ∈ lw_tbl := lw_at lw_m5 161 rfl
theorem q1160 : (Jvm.Cond.instanceMethod ({ cls := "BilletBarsModel", name := "findOrder", desc := "()I" } : Jvm.MethodName)) ∈ lw_all := lw_g (lw_at lw_m5 162 rfl) rfl
theorem q1161 : (Jvm.Cond.code ({ cls := "BilletBarsModel", name := "findOrder", desc := "()I" } : Jvm.MethodName) prog_11_method_32_code (8 : Nat) (Option.some Jvm.ClassFile.FieldType.int)) ∈ lw_all := lw_g (lw_at lw_m5 163 rfl) rfl
theorem q1162 : (Jvm.Cond.methodLink "BilletBarsModel" (230 : Nat) ({ cls := "BilletBarsModel", name := "nextRow", desc := "()Z" } : Jvm.MethodName)) ∈ lw_all := lw_g (lw_at lw_m5 164 rfl) rfl
theorem q1163 : (Jvm.Cond.privateMethod ({ cls := "BilletBarsModel", name := "nextRow", desc := "()Z" } : Jvm.MethodName)) ∈ lw_tbl := lw_at lw_m5 165 rfl
theorem q1164 : (Jvm.Cond.instanceMethod ({ cls := "BilletBarsModel", name := "nextRow", desc := "()Z" } : Jvm.MethodName)) ∈ lw_all := lw_g (lw_at lw_m5 166 rfl) rfl
theorem q1165 : (Jvm.Cond.code ({ cls := "BilletBarsModel", name := "nextRow", desc := "()Z" } : Jvm.MethodName) prog_11_method_31_code (6 : Nat) (Option.some Jvm.ClassFile.FieldType.boolean)) ∈ lw_all := lw_g (lw_at lw_m5 167 rfl) rfl
theorem q1167 : (Jvm.Cond.instanceMethod ({ cls := "BilletBarsModel", name := "planned", desc := "(I)I" } : Jvm.MethodName)) ∈ lw_all := lw_g (lw_at lw_m5 169 rfl) rfl
theorem q1168 : (Jvm.Cond.selects "BilletBarsModel" ({ cls := "BilletBarsModel", name := "planned", desc := "(I)I" } : Jvm.MethodName) ({ cls := "BilletBarsModel", name := "planned", desc := "(I)I" } : Jvm.MethodName)) ∈ lw_all := lw_g (lw_at lw_m5 170 rfl) rfl
theorem q1169 : (Jvm.Cond.code ({ cls := "BilletBarsModel", name := "planned", desc := "(I)I" } : Jvm.MethodName) prog_11_method_34_code (3 : Nat) (Option.some Jvm.ClassFile.FieldType.int)) ∈ lw_all := lw_g (lw_at lw_m5 171 rfl) rfl
theorem q1171 : (Jvm.Cond.instanceMethod ({ cls := "BilletBarsModel", name := "room", desc := "(I)I" } : Jvm.MethodName)) ∈ lw_all := lw_g (lw_at lw_m5 173 rfl) rfl
theorem q1172 : (Jvm.Cond.selects "BilletBarsModel" ({ cls := "BilletBarsModel", name := "room", desc := "(I)I" } : Jvm.MethodName) ({ cls := "BilletBarsModel", name := "room", desc := "(I)I" } : Jvm.MethodName)) ∈ lw_all := lw_g (lw_at lw_m5 174 rfl) rfl
theorem q1173 : (Jvm.Cond.code ({ cls := "BilletBarsModel", name := "room", desc := "(I)I" } : Jvm.MethodName) prog_11_method_35_code (3 : Nat) (Option.some Jvm.ClassFile.FieldType.int)) ∈ lw_all := lw_g (lw_at lw_m5 175 rfl) rfl
theorem q1174 : (Jvm.Cond.constantLong "BilletBarsModel" (238 : Nat) (1000000 : Int64)) ∈ lw_all := lw_g (lw_at lw_m5 176 rfl) rfl
theorem q1176 : (Jvm.Cond.instanceMethod ({ cls := "BilletBarsModel", name := "age", desc := "()I" } : Jvm.MethodName)) ∈ lw_all := lw_g (lw_at lw_m5 178 rfl) rfl
theorem q1177 : (Jvm.Cond.selects "BilletBarsModel" ({ cls := "BilletBarsModel", name := "age", desc := "()I" } : Jvm.MethodName) ({ cls := "BilletBarsModel", name := "age", desc := "()I" } : Jvm.MethodName)) ∈ lw_all := lw_g (lw_at lw_m5 179 rfl) rfl
theorem q1178 : (Jvm.Cond.code ({ cls := "BilletBarsModel", name := "age", desc := "()I" } : Jvm.MethodName) prog_11_method_39_code (3 : Nat) (Option.some Jvm.ClassFile.FieldType.int)) ∈ lw_all := lw_g (lw_at lw_m5 180 rfl) rfl
theorem q1179 : (Jvm.Cond.methodLink "BilletBarsModel" (243 : Nat) ({ cls := "BilletBarsModel", name := "noneGone", desc := "()V" } : Jvm.MethodName)) ∈ lw_all := lw_g (lw_at lw_m5 181 rfl) rfl
theorem q1180 : (Jvm.Cond.privateMethod ({ cls := "BilletBarsModel", name := "noneGone", desc := "()V" } : Jvm.MethodName)) ∈ lw_tbl := lw_at lw_m5 182 rfl
theorem q1181 : (Jvm.Cond.instanceMethod ({ cls := "BilletBarsModel", name := "noneGone", desc := "()V" } : Jvm.MethodName)) ∈ lw_all := lw_g (lw_at lw_m5 183 rfl) rfl
theorem q1182 : (Jvm.Cond.code ({ cls := "BilletBarsModel", name := "noneGone", desc := "()V" } : Jvm.MethodName) prog_11_method_37_code (2 : Nat) (Option.none : Option Jvm.ClassFile.FieldType)) ∈ lw_all := lw_g (lw_at lw_m5 184 rfl) rfl
theorem q1183 : (Jvm.Cond.methodLink "BilletBarsModel" (246 : Nat) ({ cls := "BilletBarsModel", name := "takes", desc := "()I" } : Jvm.MethodName)) ∈ lw_all := lw_g (lw_at lw_m5 185 rfl) rfl
theorem q1184 : (Jvm.Cond.privateMethod ({ cls := "BilletBarsModel", name := "takes", desc := "()I" } : Jvm.MethodName)) ∈ lw_tbl := lw_at lw_m5 186 rfl
theorem q1185 : (Jvm.Cond.instanceMethod ({ cls := "BilletBarsModel", name := "takes", desc := "()I" } : Jvm.MethodName)) ∈ lw_all := lw_g (lw_at lw_m5 187 rfl) rfl
theorem q1186 : (Jvm.Cond.code ({ cls := "BilletBarsModel", name := "takes", desc := "()I" } : Jvm.MethodName) prog_11_method_38_code (6 : Nat) (Option.some Jvm.ClassFile.FieldType.int)) ∈ lw_all := lw_g (lw_at lw_m5 188 rfl) rfl
theorem q1187 : (Jvm.Cond.methodLink "BilletBarsModel" (240 : Nat) ({ cls := "BilletBarsModel", name := "waits", desc := "(I)Z" } : Jvm.MethodName)) ∈ lw_all := lw_g (lw_at lw_m5 189 rfl) rfl
theorem q1188 : (Jvm.Cond.privateMethod ({ cls := "BilletBarsModel", name := "waits", desc := "(I)Z" } : Jvm.MethodName)) ∈ lw_tbl := lw_at lw_m5 190 rfl
theorem q1189 : (Jvm.Cond.instanceMethod ({ cls := "BilletBarsModel", name := "waits", desc := "(I)Z" } : Jvm.MethodName)) ∈ lw_all := lw_g (lw_at lw_m5 191 rfl) rfl
theorem q1190 : (Jvm.Cond.code ({ cls := "BilletBarsModel", name := "waits", desc := "(I)Z" } : Jvm.MethodName) prog_11_method_36_code (2 : Nat) (Option.some Jvm.ClassFile.FieldType.boolean)) ∈ lw_all := lw_g (lw_at lw_m5 192 rfl) rfl
theorem q1192 : (Jvm.Cond.instanceMethod ({ cls := "BilletBarsModel", name := "batches", desc := "()I" } : Jvm.MethodName)) ∈ lw_all := lw_g (lw_at lw_m5 194 rfl) rfl
theorem q1193 : (Jvm.Cond.selects "BilletBarsModel" ({ cls := "BilletBarsModel", name := "batches", desc := "()I" } : Jvm.MethodName) ({ cls := "BilletBarsModel", name := "batches", desc := "()I" } : Jvm.MethodName)) ∈ lw_all := lw_g (lw_at lw_m5 195 rfl) rfl
theorem q1194 : (Jvm.Cond.code ({ cls := "BilletBarsModel", name := "batches", desc := "()I" } : Jvm.MethodName) prog_11_method_40_code (2 : Nat) (Option.some Jvm.ClassFile.FieldType.int)) ∈ lw_all := lw_g (lw_at lw_m5 196 rfl) rfl
theorem q1196 : (Jvm.Cond.instanceMethod ({ cls := "BilletBarsModel", name := "sample", desc := "(IZ)I" } : Jvm.MethodName)) ∈ lw_all := lw_g (lw_at lw_m5 198 rfl) rfl
theorem q1197 : (Jvm.Cond.selects "BilletBarsModel" ({ cls := "BilletBarsModel", name := "sample", desc := "(IZ)I" } : Jvm.MethodName) ({ cls := "BilletBarsModel", name := "sample", desc := "(IZ)I" } : Jvm.MethodName)) ∈ lw_all := lw_g (lw_at lw_m5 199 rfl) rfl
theorem q1198 : (Jvm.Cond.code ({ cls := "BilletBarsModel", name := "sample", desc := "(IZ)I" } : Jvm.MethodName) prog_11_method_41_code (3 : Nat) (Option.some Jvm.ClassFile.FieldType.int)) ∈ lw_all := lw_g (lw_at lw_m5 200 rfl) rfl
theorem q1200 : (Jvm.Cond.instanceMethod ({ cls := "BilletBarsModel", name := "suspect", desc := "(I)I" } : Jvm.MethodName)) ∈ lw_all := lw_g (lw_at lw_m5 202 rfl) rfl
theorem q1201 : (Jvm.Cond.selects "BilletBarsModel" ({ cls := "BilletBarsModel", name := "suspect", desc := "(I)I" } : Jvm.MethodName) ({ cls := "BilletBarsModel", name := "suspect", desc := "(I)I" } : Jvm.MethodName)) ∈ lw_all := lw_g (lw_at lw_m5 203 rfl) rfl
theorem q1202 : (Jvm.Cond.code ({ cls := "BilletBarsModel", name := "suspect", desc := "(I)I" } : Jvm.MethodName) prog_11_method_43_code (2 : Nat) (Option.some Jvm.ClassFile.FieldType.int)) ∈ lw_all := lw_g (lw_at lw_m5 204 rfl) rfl
theorem q1203 : (Jvm.Cond.methodLink "BilletBarsModel" (252 : Nat) ({ cls := "BilletBarsModel", name := "isSuspect", desc := "(I)Z" } : Jvm.MethodName)) ∈ lw_all := lw_g (lw_at lw_m5 205 rfl) rfl
theorem q1204 : (Jvm.Cond.privateMethod ({ cls := "BilletBarsModel", name := "isSuspect", desc := "(I)Z" } : Jvm.MethodName)) ∈ lw_tbl := lw_at lw_m5 206 rfl
theorem q1205 : (Jvm.Cond.instanceMethod ({ cls := "BilletBarsModel", name := "isSuspect", desc := "(I)Z" } : Jvm.MethodName)) ∈ lw_all := lw_g (lw_at lw_m5 207 rfl) rfl
theorem q1206 : (Jvm.Cond.code ({ cls := "BilletBarsModel", name := "isSuspect", desc := "(I)Z" } : Jvm.MethodName) prog_11_method_42_code (6 : Nat) (Option.some Jvm.ClassFile.FieldType.boolean)) ∈ lw_all := lw_g (lw_at lw_m5 208 rfl) rfl
theorem q1208 : (Jvm.Cond.instanceMethod ({ cls := "BilletBarsModel", name := "held", desc := "()I" } : Jvm.MethodName)) ∈ lw_all := lw_g (lw_at lw_m5 210 rfl) rfl
theorem q1209 : (Jvm.Cond.selects "BilletBarsModel" ({ cls := "BilletBarsModel", name := "held", desc := "()I" } : Jvm.MethodName) ({ cls := "BilletBarsModel", name := "held", desc := "()I" } : Jvm.MethodName)) ∈ lw_all := lw_g (lw_at lw_m5 211 rfl) rfl
theorem q1210 : (Jvm.Cond.code ({ cls := "BilletBarsModel", name := "held", desc := "()I" } : Jvm.MethodName) prog_11_method_44_code (3 : Nat) (Option.some Jvm.ClassFile.FieldType.int)) ∈ lw_all := lw_g (lw_at lw_m5 212 rfl) rfl
theorem q1212 : (Jvm.Cond.instanceMethod ({ cls := "BilletBarsModel", name := "drift", desc := "(II)I" } : Jvm.MethodName)) ∈ lw_all := lw_g (lw_at lw_m5 214 rfl) rfl
theorem q1213 : (Jvm.Cond.selects "BilletBarsModel" ({ cls := "BilletBarsModel", name := "drift", desc := "(II)I" } : Jvm.MethodName) ({ cls := "BilletBarsModel", name := "drift", desc := "(II)I" } : Jvm.MethodName)) ∈ lw_all := lw_g (lw_at lw_m5 215 rfl) rfl
theorem q1214 : (Jvm.Cond.code ({ cls := "BilletBarsModel", name := "drift", desc := "(II)I" } : Jvm.MethodName) prog_11_method_45_code (7 : Nat) (Option.some Jvm.ClassFile.FieldType.int)) ∈ lw_all := lw_g (lw_at lw_m5 216 rfl) rfl
theorem q1215 : (Jvm.Cond.constant "BilletBarsModel" (255 : Nat) (-100000 : Int32)) ∈ lw_all := lw_g (lw_at lw_m5 217 rfl) rfl
theorem q1216 : (Jvm.Cond.constantLong "BilletBarsModel" (256 : Nat) (20000 : Int64)) ∈ lw_all := lw_g (lw_at lw_m5 218 rfl) rfl
theorem q1217 : (Jvm.Cond.constant "BilletBarsModel" (258 : Nat) (-100001 : Int32)) ∈ lw_all := lw_g (lw_at lw_m5 219 rfl) rfl
theorem q1219 : (Jvm.Cond.instanceMethod ({ cls := "BilletBarsModel", name := "sheet", desc := "(III)I" } : Jvm.MethodName)) ∈ lw_all := lw_g (lw_at lw_m5 221 rfl) rfl
theorem q1220 : (Jvm.Cond.selects "BilletBarsModel" ({ cls := "BilletBarsModel", name := "sheet", desc := "(III)I" } : Jvm.MethodName) ({ cls := "BilletBarsModel", name := "sheet", desc := "(III)I" } : Jvm.MethodName)) ∈ lw_all := lw_g (lw_at lw_m5 222 rfl) rfl
theorem q1221 : (Jvm.Cond.code ({ cls := "BilletBarsModel", name := "sheet", desc := "(III)I" } : Jvm.MethodName) prog_11_method_48_code (5 : Nat) (Option.some Jvm.ClassFile.FieldType.int)) ∈ lw_all := lw_g (lw_at lw_m5 223 rfl) rfl
theorem q1222 : (Jvm.Cond.methodLink "BilletBarsModel" (262 : Nat) ({ cls := "BilletBarsModel", name := "isSheet", desc := "(I)Z" } : Jvm.MethodName)) ∈ lw_all := lw_g (lw_at lw_m5 224 rfl) rfl
theorem q1223 : (Jvm.Cond.static ({ cls := "BilletBarsModel", name := "isSheet", desc := "(I)Z" } : Jvm.MethodName)) ∈ lw_all := lw_g (lw_at lw_m5 225 rfl) rfl
theorem q1224 : (Jvm.Cond.code ({ cls := "BilletBarsModel", name := "isSheet", desc := "(I)Z" } : Jvm.MethodName) prog_11_method_47_code (1 : Nat) (Option.some Jvm.ClassFile.FieldType.boolean)) ∈ lw_all := lw_g (lw_at lw_m5 226 rfl) rfl
theorem q1225 : (Jvm.Cond.methodLink "BilletBarsModel" (265 : Nat) ({ cls := "BilletBarsModel", name := "met", desc := "(I)I" } : Jvm.MethodName)) ∈ lw_all := lw_g (lw_at lw_m5 227 rfl) rfl
theorem q1226 : (Jvm.Cond.privateMethod ({ cls := "BilletBarsModel", name := "met", desc := "(I)I" } : Jvm.MethodName)) ∈ lw_tbl := lw_at lw_m5 228 rfl
theorem q1227 : (Jvm.Cond.instanceMethod ({ cls := "BilletBarsModel", name := "met", desc := "(I)I" } : Jvm.MethodName)) ∈ lw_all := lw_g (lw_at lw_m5 229 rfl) rfl
theorem q1228 : (Jvm.Cond.code ({ cls := "BilletBarsModel", name := "met", desc := "(I)I" } : Jvm.MethodName) prog_11_method_46_code (2 : Nat) (Option.some Jvm.ClassFile.FieldType.int)) ∈ lw_all := lw_g (lw_at lw_m5 230 rfl) rfl
theorem q1230 : (Jvm.Cond.instanceMethod ({ cls := "BilletBarsModel", name := "lose", desc := "(I)I" } : Jvm.MethodName)) ∈ lw_all := lw_g (lw_at lw_m5 232 rfl) rfl
theorem q1231 : (Jvm.Cond.selects "BilletBarsModel" ({ cls := "BilletBarsModel", name := "lose", desc := "(I)I" } : Jvm.MethodName) ({ cls := "BilletBarsModel", name := "lose", desc := "(I)I" } : Jvm.MethodName)) ∈ lw_all := lw_g (lw_at lw_m5 233 rfl) rfl
theorem q1232 : (Jvm.Cond.code ({ cls := "BilletBarsModel", name := "lose", desc := "(I)I" } : Jvm.MethodName) prog_11_method_49_code (2 : Nat) (Option.some Jvm.ClassFile.FieldType.int)) ∈ lw_all := lw_g (lw_at lw_m5 234 rfl) rfl
theorem q1234 : (Jvm.Cond.instanceMethod ({ cls := "BilletBarsModel", name := "put", desc := "(IIII)I" } : Jvm.MethodName)) ∈ lw_all := lw_g (lw_at lw_m5 236 rfl) rfl
theorem q1235 : (Jvm.Cond.selects "BilletBarsModel" ({ cls := "BilletBarsModel", name := "put", desc := "(IIII)I" } : Jvm.MethodName) ({ cls := "BilletBarsModel", name := "put", desc := "(IIII)I" } : Jvm.MethodName)) ∈ lw_all := lw_g (lw_at lw_m5 237 rfl) rfl
theorem q1236 : (Jvm.Cond.code ({ cls := "BilletBarsModel", name := "put", desc := "(IIII)I" } : Jvm.MethodName) prog_11_method_51_code (6 : Nat) (Option.some Jvm.ClassFile.FieldType.int)) ∈ lw_all := lw_g (lw_at lw_m5 238 rfl) rfl
theorem q1237 : (Jvm.Cond.methodLink "BilletBarsModel" (269 : Nat) ({ cls := "BilletBarsModel", name := "lacks", desc := "(III)I" } : Jvm.MethodName)) ∈ lw_all := lw_g (lw_at lw_m5 239 rfl) rfl
theorem q1238 : (Jvm.Cond.privateMethod ({ cls := "BilletBarsModel", name := "lacks", desc := "(III)I" } : Jvm.MethodName)) ∈ lw_tbl := lw_at lw_m6 0 rfl
theorem q1239 : (Jvm.Cond.instanceMethod ({ cls := "BilletBarsModel", name := "lacks", desc := "(III)I" } : Jvm.MethodName)) ∈ lw_all := lw_g (lw_at lw_m6 1 rfl) rfl
theorem q1240 : (Jvm.Cond.code ({ cls := "BilletBarsModel", name := "lacks", desc := "(III)I" } : Jvm.MethodName) prog_11_method_50_code (4 : Nat) (Option.some Jvm.ClassFile.FieldType.int)) ∈ lw_all := lw_g (lw_at lw_m6 2 rfl) rfl
theorem q1242 : (Jvm.Cond.instanceMethod ({ cls := "BilletBarsModel", name := "get", desc := "(III)I" } : Jvm.MethodName)) ∈ lw_all := lw_g (lw_at lw_m6 4 rfl) rfl
theorem q1243 : (Jvm.Cond.selects "BilletBarsModel" ({ cls := "BilletBarsModel", name := "get", desc := "(III)I" } : Jvm.MethodName) ({ cls := "BilletBarsModel", name := "get", desc := "(III)I" } : Jvm.MethodName)) ∈ lw_all := lw_g (lw_at lw_m6 5 rfl) rfl
theorem q1244 : (Jvm.Cond.code ({ cls := "BilletBarsModel", name := "get", desc := "(III)I" } : Jvm.MethodName) prog_11_method_52_code (4 : Nat) (Option.some Jvm.ClassFile.FieldType.int)) ∈ lw_all := lw_g (lw_at lw_m6 6 rfl) rfl
theorem q1245 : (Jvm.Cond.constant "BilletBarsModel" (273 : Nat) (-2147483648 : Int32)) ∈ lw_all := lw_g (lw_at lw_m6 7 rfl) rfl
theorem q1247 : (Jvm.Cond.instanceMethod ({ cls := "BilletBarsModel", name := "copy", desc := "(IIIII)I" } : Jvm.MethodName)) ∈ lw_all := lw_g (lw_at lw_m6 9 rfl) rfl
theorem q1248 : (Jvm.Cond.selects "BilletBarsModel" ({ cls := "BilletBarsModel", name := "copy", desc := "(IIIII)I" } : Jvm.MethodName) ({ cls := "BilletBarsModel", name := "copy", desc := "(IIIII)I" } : Jvm.MethodName)) ∈ lw_all := lw_g (lw_at lw_m6 10 rfl) rfl
theorem q1249 : (Jvm.Cond.code ({ cls := "BilletBarsModel", name := "copy", desc := "(IIIII)I" } : Jvm.MethodName) prog_11_method_53_code (7 : Nat) (Option.some Jvm.ClassFile.FieldType.int)) ∈ lw_all := lw_g (lw_at lw_m6 11 rfl) rfl
theorem q1251 : (Jvm.Cond.instanceMethod ({ cls := "BilletBarsModel", name := "count", desc := "(I)I" } : Jvm.MethodName)) ∈ lw_all := lw_g (lw_at lw_m6 13 rfl) rfl
theorem q1252 : (Jvm.Cond.selects "BilletBarsModel" ({ cls := "BilletBarsModel", name := "count", desc := "(I)I" } : Jvm.MethodName) ({ cls := "BilletBarsModel", name := "count", desc := "(I)I" } : Jvm.MethodName)) ∈ lw_all := lw_g (lw_at lw_m6 14 rfl) rfl
theorem q1253 : (Jvm.Cond.code ({ cls := "BilletBarsModel", name := "count", desc := "(I)I" } : Jvm.MethodName) prog_11_method_55_code (2 : Nat) (Option.some Jvm.ClassFile.FieldType.int)) ∈ lw_all := lw_g (lw_at lw_m6 15 rfl) rfl
theorem q1254 : (Jvm.Cond.methodLink "BilletBarsModel" (274 : Nat) ({ cls := "BilletBarsModel", name := "waiting", desc := "()I" } : Jvm.MethodName)) ∈ lw_all := lw_g (lw_at lw_m6 16 rfl) rfl
theorem q1255 : (Jvm.Cond.privateMethod ({ cls := "BilletBarsModel", name := "waiting", desc := "()I" } : Jvm.MethodName)) ∈ lw_tbl := lw_at lw_m6 17 rfl
theorem q1256 : (Jvm.Cond.instanceMethod ({ cls := "BilletBarsModel", name := "waiting", desc := "()I" } : Jvm.MethodName)) ∈ lw_all := lw_g (lw_at lw_m6 18 rfl) rfl
theorem q1257 : (Jvm.Cond.code ({ cls := "BilletBarsModel", name := "waiting", desc := "()I" } : Jvm.MethodName) prog_11_method_54_code (3 : Nat) (Option.some Jvm.ClassFile.FieldType.int)) ∈ lw_all := lw_g (lw_at lw_m6 19 rfl) rfl
theorem q1259 : (Jvm.Cond.instanceMethod ({ cls := "BilletBarsModel", name := "digest", desc := "()J" } : Jvm.MethodName)) ∈ lw_all := lw_g (lw_at lw_m6 21 rfl) rfl
theorem q1260 : (Jvm.Cond.selects "BilletBarsModel" ({ cls := "BilletBarsModel", name := "digest", desc := "()J" } : Jvm.MethodName) ({ cls := "BilletBarsModel", name := "digest", desc := "()J" } : Jvm.MethodName)) ∈ lw_all := lw_g (lw_at lw_m6 22 rfl) rfl
theorem q1261 : (Jvm.Cond.code ({ cls := "BilletBarsModel", name := "digest", desc := "()J" } : Jvm.MethodName) prog_11_method_56_code (5 : Nat) (Option.some Jvm.ClassFile.FieldType.long)) ∈ lw_all := lw_g (lw_at lw_m6 23 rfl) rfl
theorem q1262 : (Jvm.Cond.constantLong "BilletBarsModel" (277 : Nat) (17 : Int64)) ∈ lw_all := lw_g (lw_at lw_m6 24 rfl) rfl
theorem q1263 : (Jvm.Cond.constantLong "BilletBarsModel" (279 : Nat) (31 : Int64)) ∈ lw_all := lw_g (lw_at lw_m6 25 rfl) rfl
theorem q1264 : (Jvm.Cond.methodLink "BilletBarsModel" (281 : Nat) ({ cls := "BilletBarsModel", name := "count", desc := "(I)I" } : Jvm.MethodName)) ∈ lw_all := lw_g (lw_at lw_m6 26 rfl) rfl
theorem q1265 : (Jvm.Cond.methodLink "BilletBarsModel" (284 : Nat) ({ cls := "BilletBarsModel", name := "about", desc := "(II)I" } : Jvm.MethodName)) ∈ lw_all := lw_g (lw_at lw_m6 27 rfl) rfl
theorem q1266 : (Jvm.Cond.methodLink "BilletBarsModel" (287 : Nat) ({ cls := "BilletBarsModel", name := "bar", desc := "(II)I" } : Jvm.MethodName)) ∈ lw_all := lw_g (lw_at lw_m6 28 rfl) rfl
theorem q1267 : (Jvm.Cond.methodLink "BilletBarsModel" (290 : Nat) ({ cls := "BilletBarsModel", name := "account", desc := "(I)I" } : Jvm.MethodName)) ∈ lw_all := lw_g (lw_at lw_m6 29 rfl) rfl
theorem q1277 : (Jvm.Cond.castable "BilletBarsModel" "java/lang/Object") ∈ lw_tbl := lw_at lw_m6 39 rfl
theorem in_X5 : ∀ w ∈ wsX50, w ∈ lw_all := lw_in wsX50 [919, 921, 923, 925, 927, 929, 931, 933, 935, 937, 939, 941, 943, 945, 947, 949, 951, 953, 955, 957, 959, 961, 963, 965, 967, 969, 971, 973, 975, 977, 979, 981, 983, 985, 987, 989, 991, 993, 995, 997, 999, 1001, 1003, 1005, 1007, 1009, 1011, 1013, 1015, 1017, 1019, 1021] (by decide +kernel) (by decide +kernel)
