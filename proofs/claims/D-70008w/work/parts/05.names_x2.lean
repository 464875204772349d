/-! LentYouthsModel -/
set_option maxRecDepth 100000
def RX2 : String := "LentYouthsModel"
def TX2 : u_T := fun k => match k with
  | 0 => ("LentYouthsModel", "fault", "I", false)
  | 1 => ("LentYouthsModel", "people", "I", false)
  | 2 => ("LentYouthsModel", "kindOf", "[I", true)
  | 3 => ("LentYouthsModel", "scenesOf", "[I", true)
  | 4 => ("LentYouthsModel", "wantsOf", "[I", true)
  | 5 => ("LentYouthsModel", "wearOf", "[I", true)
  | 6 => ("LentYouthsModel", "readAt", "I", false)
  | 7 => ("LentYouthsModel", "readPeople", "I", false)
  | 8 => ("LentYouthsModel", "readKind", "[I", true)
  | 9 => ("LentYouthsModel", "readScenes", "[I", true)
  | 10 => ("LentYouthsModel", "readWants", "[I", true)
  | 11 => ("LentYouthsModel", "readWear", "[I", true)
  | 12 => ("LentYouthsModel", "hasNow", "[I", true)
  | 13 => ("LentYouthsModel", "leftIn", "[I", true)
  | 14 => ("LentYouthsModel", "lentOf", "[I", true)
  | 15 => ("LentYouthsModel", "knowsNow", "[I", true)
  | 16 => ("LentYouthsModel", "cameBy", "[I", true)
  | 17 => ("LentYouthsModel", "firstWrong", "I", false)
  | 18 => ("LentYouthsModel", "firstAll", "I", false)
  | 19 => ("LentYouthsModel", "triedOf", "[I", true)
  | 20 => ("LentYouthsModel", "getsOf", "[I", true)
  | 21 => ("LentYouthsModel", "readings", "I", false)
  | 22 => ("LentYouthsModel", "readingOf", "[I", true)
  | 23 => ("LentYouthsModel", "readingScene", "[I", true)
  | 24 => ("LentYouthsModel", "readingKnew", "[Z", true)
  | 25 => ("LentYouthsModel", "sheetSize", "[I", true)
  | 26 => ("LentYouthsModel", "sheetLane", "[I", true)
  | 27 => ("LentYouthsModel", "sheet", "[I", true)
  | 28 => ("LentYouthsModel", "hands", "[I", true)
  | _ => ("LentYouthsModel", "traceNow", "I", false)
def tyX2 : Nat → FieldType := fun k => match k with
  | 0 => .int
  | 1 => .int
  | 2 => .array .int
  | 3 => .array .int
  | 4 => .array .int
  | 5 => .array .int
  | 6 => .int
  | 7 => .int
  | 8 => .array .int
  | 9 => .array .int
  | 10 => .array .int
  | 11 => .array .int
  | 12 => .array .int
  | 13 => .array .int
  | 14 => .array .int
  | 15 => .array .int
  | 16 => .array .int
  | 17 => .int
  | 18 => .int
  | 19 => .array .int
  | 20 => .array .int
  | 21 => .int
  | 22 => .array .int
  | 23 => .array .int
  | 24 => .array .boolean
  | 25 => .array .int
  | 26 => .array .int
  | 27 => .array .int
  | 28 => .array .int
  | _ => .int
abbrev wsX20 : List Cond := u_ws RX2 TX2 30
set_option maxRecDepth 100000 in
theorem nmX2 : ∀ a, a < 30 → ∀ b, b < 30 → a ≠ b → (TX2 a).2.1 ≠ (TX2 b).2.1 := by decide +kernel
set_option maxRecDepth 100000 in
theorem tyX2_ok : ∀ k, k < 30 → parseFieldDescriptor (TX2 k).2.2.1 = some (tyX2 k) := by decide +kernel
abbrev cX2_init : ByteArray := prog_8_method_1_code
def yX2_init : MethodName := ⟨RX2, "<init>", "()V"⟩
def dkwX2_init_8 : List UInt8 := [27, 2, 79, 132, 1, 1, 167, 255, 241, 177]
abbrev dktX2_init_8 : List UInt8 := dkwX2_init_8 ++ []
def dkwX2_init_7 : List UInt8 := [188, 10, 181, 0, 71, 42, 16, 60, 188, 10, 181, 0, 74, 3, 60, 27, 7, 162, 0, 16, 42, 180, 0, 65]
abbrev dktX2_init_7 : List UInt8 := dkwX2_init_7 ++ dktX2_init_8
def dkwX2_init_6 : List UInt8 := [188, 4, 181, 0, 61, 42, 7, 188, 10, 181, 0, 65, 42, 7, 188, 10, 181, 0, 68, 42, 17, 0, 240]
abbrev dktX2_init_6 : List UInt8 := dkwX2_init_6 ++ dktX2_init_7
def dkwX2_init_5 : List UInt8 := [188, 10, 181, 0, 52, 42, 16, 8, 188, 10, 181, 0, 55, 42, 16, 8, 188, 10, 181, 0, 58, 42, 16, 8]
abbrev dktX2_init_5 : List UInt8 := dkwX2_init_5 ++ dktX2_init_6
def dkwX2_init_4 : List UInt8 := [188, 10, 181, 0, 43, 42, 16, 6, 188, 10, 181, 0, 46, 42, 6, 188, 10, 181, 0, 49, 42, 16, 6]
abbrev dktX2_init_4 : List UInt8 := dkwX2_init_4 ++ dktX2_init_5
def dkwX2_init_3 : List UInt8 := [188, 10, 181, 0, 34, 42, 16, 6, 188, 10, 181, 0, 37, 42, 16, 6, 188, 10, 181, 0, 40, 42, 16, 6]
abbrev dktX2_init_3 : List UInt8 := dkwX2_init_3 ++ dktX2_init_4
def dkwX2_init_2 : List UInt8 := [188, 10, 181, 0, 25, 42, 16, 6, 188, 10, 181, 0, 28, 42, 16, 6, 188, 10, 181, 0, 31, 42, 16, 6]
abbrev dktX2_init_2 : List UInt8 := dkwX2_init_2 ++ dktX2_init_3
def dkwX2_init_1 : List UInt8 := [188, 10, 181, 0, 16, 42, 16, 6, 188, 10, 181, 0, 19, 42, 16, 6, 188, 10, 181, 0, 22, 42, 16, 6]
abbrev dktX2_init_1 : List UInt8 := dkwX2_init_1 ++ dktX2_init_2
def dkwX2_init_0 : List UInt8 := [42, 183, 0, 1, 42, 16, 6, 188, 10, 181, 0, 7, 42, 16, 6, 188, 10, 181, 0, 13, 42, 16, 6]
abbrev dktX2_init_0 : List UInt8 := dkwX2_init_0 ++ dktX2_init_1
theorem dksX2_init_0 : cX2_init.data.toList.drop 0 = dktX2_init_0 := by decide +kernel
theorem dksX2_init_1 : cX2_init.data.toList.drop 23 = dktX2_init_1 := dk_seg dksX2_init_0 23 rfl rfl
theorem dksX2_init_2 : cX2_init.data.toList.drop 47 = dktX2_init_2 := dk_seg dksX2_init_1 24 rfl rfl
theorem dksX2_init_3 : cX2_init.data.toList.drop 71 = dktX2_init_3 := dk_seg dksX2_init_2 24 rfl rfl
theorem dksX2_init_4 : cX2_init.data.toList.drop 95 = dktX2_init_4 := dk_seg dksX2_init_3 24 rfl rfl
theorem dksX2_init_5 : cX2_init.data.toList.drop 118 = dktX2_init_5 := dk_seg dksX2_init_4 23 rfl rfl
theorem dksX2_init_6 : cX2_init.data.toList.drop 142 = dktX2_init_6 := dk_seg dksX2_init_5 24 rfl rfl
theorem dksX2_init_7 : cX2_init.data.toList.drop 165 = dktX2_init_7 := dk_seg dksX2_init_6 23 rfl rfl
theorem dksX2_init_8 : cX2_init.data.toList.drop 189 = dktX2_init_8 := dk_seg dksX2_init_7 24 rfl rfl
theorem dX2_init_0 : decode cX2_init 0 = .ok (.aload_n 0, 1) := dk_42 (dk_at dksX2_init_0 0 rfl rfl)
theorem dX2_init_1 : decode cX2_init 1 = .ok (.invokespecial 1, 3) := dk_183 0 1 (dk_at dksX2_init_0 1 rfl rfl)
theorem dX2_init_4 : decode cX2_init 4 = .ok (.aload_n 0, 1) := dk_42 (dk_at dksX2_init_0 4 rfl rfl)
theorem dX2_init_5 : decode cX2_init 5 = .ok (.bipush 6, 2) := dk_16 6 (dk_at dksX2_init_0 5 rfl rfl)
theorem dX2_init_7 : decode cX2_init 7 = .ok (.newarray .int, 2) := dk_188_10 (dk_at dksX2_init_0 7 rfl rfl)
theorem dX2_init_9 : decode cX2_init 9 = .ok (.putfield 7, 3) := dk_181 0 7 (dk_at dksX2_init_0 9 rfl rfl)
theorem dX2_init_12 : decode cX2_init 12 = .ok (.aload_n 0, 1) := dk_42 (dk_at dksX2_init_0 12 rfl rfl)
theorem dX2_init_13 : decode cX2_init 13 = .ok (.bipush 6, 2) := dk_16 6 (dk_at dksX2_init_0 13 rfl rfl)
theorem dX2_init_15 : decode cX2_init 15 = .ok (.newarray .int, 2) := dk_188_10 (dk_at dksX2_init_0 15 rfl rfl)
theorem dX2_init_17 : decode cX2_init 17 = .ok (.putfield 13, 3) := dk_181 0 13 (dk_at dksX2_init_0 17 rfl rfl)
theorem dX2_init_20 : decode cX2_init 20 = .ok (.aload_n 0, 1) := dk_42 (dk_at dksX2_init_0 20 rfl rfl)
theorem dX2_init_21 : decode cX2_init 21 = .ok (.bipush 6, 2) := dk_16 6 (dk_at dksX2_init_0 21 rfl rfl)
theorem dX2_init_23 : decode cX2_init 23 = .ok (.newarray .int, 2) := dk_188_10 (dk_at dksX2_init_1 0 rfl rfl)
theorem dX2_init_25 : decode cX2_init 25 = .ok (.putfield 16, 3) := dk_181 0 16 (dk_at dksX2_init_1 2 rfl rfl)
theorem dX2_init_28 : decode cX2_init 28 = .ok (.aload_n 0, 1) := dk_42 (dk_at dksX2_init_1 5 rfl rfl)
theorem dX2_init_29 : decode cX2_init 29 = .ok (.bipush 6, 2) := dk_16 6 (dk_at dksX2_init_1 6 rfl rfl)
theorem dX2_init_31 : decode cX2_init 31 = .ok (.newarray .int, 2) := dk_188_10 (dk_at dksX2_init_1 8 rfl rfl)
theorem dX2_init_33 : decode cX2_init 33 = .ok (.putfield 19, 3) := dk_181 0 19 (dk_at dksX2_init_1 10 rfl rfl)
theorem dX2_init_36 : decode cX2_init 36 = .ok (.aload_n 0, 1) := dk_42 (dk_at dksX2_init_1 13 rfl rfl)
theorem dX2_init_37 : decode cX2_init 37 = .ok (.bipush 6, 2) := dk_16 6 (dk_at dksX2_init_1 14 rfl rfl)
theorem dX2_init_39 : decode cX2_init 39 = .ok (.newarray .int, 2) := dk_188_10 (dk_at dksX2_init_1 16 rfl rfl)
theorem dX2_init_41 : decode cX2_init 41 = .ok (.putfield 22, 3) := dk_181 0 22 (dk_at dksX2_init_1 18 rfl rfl)
theorem dX2_init_44 : decode cX2_init 44 = .ok (.aload_n 0, 1) := dk_42 (dk_at dksX2_init_1 21 rfl rfl)
theorem dX2_init_45 : decode cX2_init 45 = .ok (.bipush 6, 2) := dk_16 6 (dk_at dksX2_init_1 22 rfl rfl)
theorem dX2_init_47 : decode cX2_init 47 = .ok (.newarray .int, 2) := dk_188_10 (dk_at dksX2_init_2 0 rfl rfl)
theorem dX2_init_49 : decode cX2_init 49 = .ok (.putfield 25, 3) := dk_181 0 25 (dk_at dksX2_init_2 2 rfl rfl)
theorem dX2_init_52 : decode cX2_init 52 = .ok (.aload_n 0, 1) := dk_42 (dk_at dksX2_init_2 5 rfl rfl)
theorem dX2_init_53 : decode cX2_init 53 = .ok (.bipush 6, 2) := dk_16 6 (dk_at dksX2_init_2 6 rfl rfl)
theorem dX2_init_55 : decode cX2_init 55 = .ok (.newarray .int, 2) := dk_188_10 (dk_at dksX2_init_2 8 rfl rfl)
theorem dX2_init_57 : decode cX2_init 57 = .ok (.putfield 28, 3) := dk_181 0 28 (dk_at dksX2_init_2 10 rfl rfl)
theorem dX2_init_60 : decode cX2_init 60 = .ok (.aload_n 0, 1) := dk_42 (dk_at dksX2_init_2 13 rfl rfl)
theorem dX2_init_61 : decode cX2_init 61 = .ok (.bipush 6, 2) := dk_16 6 (dk_at dksX2_init_2 14 rfl rfl)
theorem dX2_init_63 : decode cX2_init 63 = .ok (.newarray .int, 2) := dk_188_10 (dk_at dksX2_init_2 16 rfl rfl)
theorem dX2_init_65 : decode cX2_init 65 = .ok (.putfield 31, 3) := dk_181 0 31 (dk_at dksX2_init_2 18 rfl rfl)
theorem dX2_init_68 : decode cX2_init 68 = .ok (.aload_n 0, 1) := dk_42 (dk_at dksX2_init_2 21 rfl rfl)
theorem dX2_init_69 : decode cX2_init 69 = .ok (.bipush 6, 2) := dk_16 6 (dk_at dksX2_init_2 22 rfl rfl)
theorem dX2_init_71 : decode cX2_init 71 = .ok (.newarray .int, 2) := dk_188_10 (dk_at dksX2_init_3 0 rfl rfl)
theorem dX2_init_73 : decode cX2_init 73 = .ok (.putfield 34, 3) := dk_181 0 34 (dk_at dksX2_init_3 2 rfl rfl)
theorem dX2_init_76 : decode cX2_init 76 = .ok (.aload_n 0, 1) := dk_42 (dk_at dksX2_init_3 5 rfl rfl)
theorem dX2_init_77 : decode cX2_init 77 = .ok (.bipush 6, 2) := dk_16 6 (dk_at dksX2_init_3 6 rfl rfl)
theorem dX2_init_79 : decode cX2_init 79 = .ok (.newarray .int, 2) := dk_188_10 (dk_at dksX2_init_3 8 rfl rfl)
theorem dX2_init_81 : decode cX2_init 81 = .ok (.putfield 37, 3) := dk_181 0 37 (dk_at dksX2_init_3 10 rfl rfl)
theorem dX2_init_84 : decode cX2_init 84 = .ok (.aload_n 0, 1) := dk_42 (dk_at dksX2_init_3 13 rfl rfl)
theorem dX2_init_85 : decode cX2_init 85 = .ok (.bipush 6, 2) := dk_16 6 (dk_at dksX2_init_3 14 rfl rfl)
theorem dX2_init_87 : decode cX2_init 87 = .ok (.newarray .int, 2) := dk_188_10 (dk_at dksX2_init_3 16 rfl rfl)
theorem dX2_init_89 : decode cX2_init 89 = .ok (.putfield 40, 3) := dk_181 0 40 (dk_at dksX2_init_3 18 rfl rfl)
theorem dX2_init_92 : decode cX2_init 92 = .ok (.aload_n 0, 1) := dk_42 (dk_at dksX2_init_3 21 rfl rfl)
theorem dX2_init_93 : decode cX2_init 93 = .ok (.bipush 6, 2) := dk_16 6 (dk_at dksX2_init_3 22 rfl rfl)
theorem dX2_init_95 : decode cX2_init 95 = .ok (.newarray .int, 2) := dk_188_10 (dk_at dksX2_init_4 0 rfl rfl)
theorem dX2_init_97 : decode cX2_init 97 = .ok (.putfield 43, 3) := dk_181 0 43 (dk_at dksX2_init_4 2 rfl rfl)
theorem dX2_init_100 : decode cX2_init 100 = .ok (.aload_n 0, 1) := dk_42 (dk_at dksX2_init_4 5 rfl rfl)
theorem dX2_init_101 : decode cX2_init 101 = .ok (.bipush 6, 2) := dk_16 6 (dk_at dksX2_init_4 6 rfl rfl)
theorem dX2_init_103 : decode cX2_init 103 = .ok (.newarray .int, 2) := dk_188_10 (dk_at dksX2_init_4 8 rfl rfl)
theorem dX2_init_105 : decode cX2_init 105 = .ok (.putfield 46, 3) := dk_181 0 46 (dk_at dksX2_init_4 10 rfl rfl)
theorem dX2_init_108 : decode cX2_init 108 = .ok (.aload_n 0, 1) := dk_42 (dk_at dksX2_init_4 13 rfl rfl)
theorem dX2_init_109 : decode cX2_init 109 = .ok (.iconst 3, 1) := dk_6 (dk_at dksX2_init_4 14 rfl rfl)
theorem dX2_init_110 : decode cX2_init 110 = .ok (.newarray .int, 2) := dk_188_10 (dk_at dksX2_init_4 15 rfl rfl)
theorem dX2_init_112 : decode cX2_init 112 = .ok (.putfield 49, 3) := dk_181 0 49 (dk_at dksX2_init_4 17 rfl rfl)
theorem dX2_init_115 : decode cX2_init 115 = .ok (.aload_n 0, 1) := dk_42 (dk_at dksX2_init_4 20 rfl rfl)
theorem dX2_init_116 : decode cX2_init 116 = .ok (.bipush 6, 2) := dk_16 6 (dk_at dksX2_init_4 21 rfl rfl)
theorem dX2_init_118 : decode cX2_init 118 = .ok (.newarray .int, 2) := dk_188_10 (dk_at dksX2_init_5 0 rfl rfl)
theorem dX2_init_120 : decode cX2_init 120 = .ok (.putfield 52, 3) := dk_181 0 52 (dk_at dksX2_init_5 2 rfl rfl)
theorem dX2_init_123 : decode cX2_init 123 = .ok (.aload_n 0, 1) := dk_42 (dk_at dksX2_init_5 5 rfl rfl)
theorem dX2_init_124 : decode cX2_init 124 = .ok (.bipush 8, 2) := dk_16 8 (dk_at dksX2_init_5 6 rfl rfl)
theorem dX2_init_126 : decode cX2_init 126 = .ok (.newarray .int, 2) := dk_188_10 (dk_at dksX2_init_5 8 rfl rfl)
theorem dX2_init_128 : decode cX2_init 128 = .ok (.putfield 55, 3) := dk_181 0 55 (dk_at dksX2_init_5 10 rfl rfl)
theorem dX2_init_131 : decode cX2_init 131 = .ok (.aload_n 0, 1) := dk_42 (dk_at dksX2_init_5 13 rfl rfl)
theorem dX2_init_132 : decode cX2_init 132 = .ok (.bipush 8, 2) := dk_16 8 (dk_at dksX2_init_5 14 rfl rfl)
theorem dX2_init_134 : decode cX2_init 134 = .ok (.newarray .int, 2) := dk_188_10 (dk_at dksX2_init_5 16 rfl rfl)
theorem dX2_init_136 : decode cX2_init 136 = .ok (.putfield 58, 3) := dk_181 0 58 (dk_at dksX2_init_5 18 rfl rfl)
theorem dX2_init_139 : decode cX2_init 139 = .ok (.aload_n 0, 1) := dk_42 (dk_at dksX2_init_5 21 rfl rfl)
theorem dX2_init_140 : decode cX2_init 140 = .ok (.bipush 8, 2) := dk_16 8 (dk_at dksX2_init_5 22 rfl rfl)
theorem dX2_init_142 : decode cX2_init 142 = .ok (.newarray .boolean, 2) := dk_188_4 (dk_at dksX2_init_6 0 rfl rfl)
theorem dX2_init_144 : decode cX2_init 144 = .ok (.putfield 61, 3) := dk_181 0 61 (dk_at dksX2_init_6 2 rfl rfl)
theorem dX2_init_147 : decode cX2_init 147 = .ok (.aload_n 0, 1) := dk_42 (dk_at dksX2_init_6 5 rfl rfl)
theorem dX2_init_148 : decode cX2_init 148 = .ok (.iconst 4, 1) := dk_7 (dk_at dksX2_init_6 6 rfl rfl)
theorem dX2_init_149 : decode cX2_init 149 = .ok (.newarray .int, 2) := dk_188_10 (dk_at dksX2_init_6 7 rfl rfl)
theorem dX2_init_151 : decode cX2_init 151 = .ok (.putfield 65, 3) := dk_181 0 65 (dk_at dksX2_init_6 9 rfl rfl)
theorem dX2_init_154 : decode cX2_init 154 = .ok (.aload_n 0, 1) := dk_42 (dk_at dksX2_init_6 12 rfl rfl)
theorem dX2_init_155 : decode cX2_init 155 = .ok (.iconst 4, 1) := dk_7 (dk_at dksX2_init_6 13 rfl rfl)
theorem dX2_init_156 : decode cX2_init 156 = .ok (.newarray .int, 2) := dk_188_10 (dk_at dksX2_init_6 14 rfl rfl)
theorem dX2_init_158 : decode cX2_init 158 = .ok (.putfield 68, 3) := dk_181 0 68 (dk_at dksX2_init_6 16 rfl rfl)
theorem dX2_init_161 : decode cX2_init 161 = .ok (.aload_n 0, 1) := dk_42 (dk_at dksX2_init_6 19 rfl rfl)
theorem dX2_init_162 : decode cX2_init 162 = .ok (.sipush 240, 3) := dk_17 0 240 (dk_at dksX2_init_6 20 rfl rfl)
theorem dX2_init_165 : decode cX2_init 165 = .ok (.newarray .int, 2) := dk_188_10 (dk_at dksX2_init_7 0 rfl rfl)
theorem dX2_init_167 : decode cX2_init 167 = .ok (.putfield 71, 3) := dk_181 0 71 (dk_at dksX2_init_7 2 rfl rfl)
theorem dX2_init_170 : decode cX2_init 170 = .ok (.aload_n 0, 1) := dk_42 (dk_at dksX2_init_7 5 rfl rfl)
theorem dX2_init_171 : decode cX2_init 171 = .ok (.bipush 60, 2) := dk_16 60 (dk_at dksX2_init_7 6 rfl rfl)
theorem dX2_init_173 : decode cX2_init 173 = .ok (.newarray .int, 2) := dk_188_10 (dk_at dksX2_init_7 8 rfl rfl)
theorem dX2_init_175 : decode cX2_init 175 = .ok (.putfield 74, 3) := dk_181 0 74 (dk_at dksX2_init_7 10 rfl rfl)
theorem dX2_init_178 : decode cX2_init 178 = .ok (.iconst 0, 1) := dk_3 (dk_at dksX2_init_7 13 rfl rfl)
theorem dX2_init_179 : decode cX2_init 179 = .ok (.istore_n 1, 1) := dk_60 (dk_at dksX2_init_7 14 rfl rfl)
theorem dX2_init_180 : decode cX2_init 180 = .ok (.iload_n 1, 1) := dk_27 (dk_at dksX2_init_7 15 rfl rfl)
theorem dX2_init_181 : decode cX2_init 181 = .ok (.iconst 4, 1) := dk_7 (dk_at dksX2_init_7 16 rfl rfl)
theorem dX2_init_182 : decode cX2_init 182 = .ok (.if_icmp .ge 16, 3) := dk_162 0 16 (dk_at dksX2_init_7 17 rfl rfl)
theorem dX2_init_185 : decode cX2_init 185 = .ok (.aload_n 0, 1) := dk_42 (dk_at dksX2_init_7 20 rfl rfl)
theorem dX2_init_186 : decode cX2_init 186 = .ok (.getfield 65, 3) := dk_180 0 65 (dk_at dksX2_init_7 21 rfl rfl)
theorem dX2_init_189 : decode cX2_init 189 = .ok (.iload_n 1, 1) := dk_27 (dk_at dksX2_init_8 0 rfl rfl)
theorem dX2_init_190 : decode cX2_init 190 = .ok (.iconst (-1), 1) := dk_2 (dk_at dksX2_init_8 1 rfl rfl)
theorem dX2_init_191 : decode cX2_init 191 = .ok (.iastore, 1) := dk_79 (dk_at dksX2_init_8 2 rfl rfl)
theorem dX2_init_192 : decode cX2_init 192 = .ok (.iinc 1 1, 3) := dk_132 1 1 (dk_at dksX2_init_8 3 rfl rfl)
theorem dX2_init_195 : decode cX2_init 195 = .ok (.goto (-15), 3) := dk_167 255 241 (dk_at dksX2_init_8 6 rfl rfl)
theorem dX2_init_198 : decode cX2_init 198 = .ok (.return_, 1) := dk_177 (dk_at dksX2_init_8 9 rfl rfl)
abbrev cX2_counter : ByteArray := prog_8_method_14_code
def yX2_counter : MethodName := ⟨RX2, "counter", "(IIII)I"⟩
def dkwX2_counter_7 : List UInt8 := [181, 0, 136, 42, 42, 180, 0, 87, 182, 0, 124, 172]
abbrev dktX2_counter_7 : List UInt8 := dkwX2_counter_7 ++ []
def dkwX2_counter_6 : List UInt8 := [42, 180, 0, 19, 21, 6, 42, 180, 0, 31, 21, 6, 46, 79, 132, 6, 1, 167, 255, 188, 42, 3]
abbrev dktX2_counter_6 : List UInt8 := dkwX2_counter_6 ++ dktX2_counter_7
def dkwX2_counter_5 : List UInt8 := [21, 6, 42, 180, 0, 25, 21, 6, 46, 79, 42, 180, 0, 16, 21, 6, 42, 180, 0, 28, 21, 6, 46, 79]
abbrev dktX2_counter_5 : List UInt8 := dkwX2_counter_5 ++ dktX2_counter_6
def dkwX2_counter_4 : List UInt8 := [180, 0, 87, 162, 0, 65, 42, 180, 0, 7, 21, 6, 42, 180, 0, 22, 21, 6, 46, 79, 42, 180, 0, 13]
abbrev dktX2_counter_4 : List UInt8 := dkwX2_counter_4 ++ dktX2_counter_5
def dkwX2_counter_3 : List UInt8 := [42, 180, 0, 94, 100, 182, 0, 124, 172, 42, 42, 180, 0, 101, 181, 0, 87, 3, 54, 6, 21, 6, 42]
abbrev dktX2_counter_3 : List UInt8 := dkwX2_counter_3 ++ dktX2_counter_4
def dkwX2_counter_2 : List UInt8 := [156, 0, 6, 21, 5, 172, 42, 16, 60, 27, 104, 29, 96, 21, 4, 182, 0, 133, 154, 0, 15, 42, 16, 156]
abbrev dktX2_counter_2 : List UInt8 := dkwX2_counter_2 ++ dktX2_counter_3
def dkwX2_counter_1 : List UInt8 := [154, 0, 10, 42, 16, 254, 182, 0, 124, 172, 42, 27, 28, 29, 21, 4, 133, 182, 0, 129, 54, 5, 21, 5]
abbrev dktX2_counter_1 : List UInt8 := dkwX2_counter_1 ++ dktX2_counter_2
def dkwX2_counter_0 : List UInt8 := [27, 184, 0, 120, 153, 0, 9, 42, 2, 182, 0, 124, 172, 28, 133, 9, 20, 0, 127, 184, 0, 90]
abbrev dktX2_counter_0 : List UInt8 := dkwX2_counter_0 ++ dktX2_counter_1
theorem dksX2_counter_0 : cX2_counter.data.toList.drop 0 = dktX2_counter_0 := by decide +kernel
theorem dksX2_counter_1 : cX2_counter.data.toList.drop 22 = dktX2_counter_1 := dk_seg dksX2_counter_0 22 rfl rfl
theorem dksX2_counter_2 : cX2_counter.data.toList.drop 46 = dktX2_counter_2 := dk_seg dksX2_counter_1 24 rfl rfl
theorem dksX2_counter_3 : cX2_counter.data.toList.drop 70 = dktX2_counter_3 := dk_seg dksX2_counter_2 24 rfl rfl
theorem dksX2_counter_4 : cX2_counter.data.toList.drop 93 = dktX2_counter_4 := dk_seg dksX2_counter_3 23 rfl rfl
theorem dksX2_counter_5 : cX2_counter.data.toList.drop 117 = dktX2_counter_5 := dk_seg dksX2_counter_4 24 rfl rfl
theorem dksX2_counter_6 : cX2_counter.data.toList.drop 141 = dktX2_counter_6 := dk_seg dksX2_counter_5 24 rfl rfl
theorem dksX2_counter_7 : cX2_counter.data.toList.drop 163 = dktX2_counter_7 := dk_seg dksX2_counter_6 22 rfl rfl
theorem dX2_counter_0 : decode cX2_counter 0 = .ok (.iload_n 1, 1) := dk_27 (dk_at dksX2_counter_0 0 rfl rfl)
theorem dX2_counter_1 : decode cX2_counter 1 = .ok (.invokestatic 120, 3) := dk_184 0 120 (dk_at dksX2_counter_0 1 rfl rfl)
theorem dX2_counter_4 : decode cX2_counter 4 = .ok (.ifCond .eq 9, 3) := dk_153 0 9 (dk_at dksX2_counter_0 4 rfl rfl)
theorem dX2_counter_7 : decode cX2_counter 7 = .ok (.aload_n 0, 1) := dk_42 (dk_at dksX2_counter_0 7 rfl rfl)
theorem dX2_counter_8 : decode cX2_counter 8 = .ok (.iconst (-1), 1) := dk_2 (dk_at dksX2_counter_0 8 rfl rfl)
theorem dX2_counter_9 : decode cX2_counter 9 = .ok (.invokevirtual 124, 3) := dk_182 0 124 (dk_at dksX2_counter_0 9 rfl rfl)
theorem dX2_counter_12 : decode cX2_counter 12 = .ok (.ireturn, 1) := dk_172 (dk_at dksX2_counter_0 12 rfl rfl)
theorem dX2_counter_13 : decode cX2_counter 13 = .ok (.iload_n 2, 1) := dk_28 (dk_at dksX2_counter_0 13 rfl rfl)
theorem dX2_counter_14 : decode cX2_counter 14 = .ok (.i2l, 1) := dk_133 (dk_at dksX2_counter_0 14 rfl rfl)
theorem dX2_counter_15 : decode cX2_counter 15 = .ok (.lconst 0, 1) := dk_9 (dk_at dksX2_counter_0 15 rfl rfl)
theorem dX2_counter_16 : decode cX2_counter 16 = .ok (.ldc2_w 127, 3) := dk_20 0 127 (dk_at dksX2_counter_0 16 rfl rfl)
theorem dX2_counter_19 : decode cX2_counter 19 = .ok (.invokestatic 90, 3) := dk_184 0 90 (dk_at dksX2_counter_0 19 rfl rfl)
theorem dX2_counter_22 : decode cX2_counter 22 = .ok (.ifCond .ne 10, 3) := dk_154 0 10 (dk_at dksX2_counter_1 0 rfl rfl)
theorem dX2_counter_25 : decode cX2_counter 25 = .ok (.aload_n 0, 1) := dk_42 (dk_at dksX2_counter_1 3 rfl rfl)
theorem dX2_counter_26 : decode cX2_counter 26 = .ok (.bipush (-2), 2) := dk_16 254 (dk_at dksX2_counter_1 4 rfl rfl)
theorem dX2_counter_28 : decode cX2_counter 28 = .ok (.invokevirtual 124, 3) := dk_182 0 124 (dk_at dksX2_counter_1 6 rfl rfl)
theorem dX2_counter_31 : decode cX2_counter 31 = .ok (.ireturn, 1) := dk_172 (dk_at dksX2_counter_1 9 rfl rfl)
theorem dX2_counter_32 : decode cX2_counter 32 = .ok (.aload_n 0, 1) := dk_42 (dk_at dksX2_counter_1 10 rfl rfl)
theorem dX2_counter_33 : decode cX2_counter 33 = .ok (.iload_n 1, 1) := dk_27 (dk_at dksX2_counter_1 11 rfl rfl)
theorem dX2_counter_34 : decode cX2_counter 34 = .ok (.iload_n 2, 1) := dk_28 (dk_at dksX2_counter_1 12 rfl rfl)
theorem dX2_counter_35 : decode cX2_counter 35 = .ok (.iload_n 3, 1) := dk_29 (dk_at dksX2_counter_1 13 rfl rfl)
theorem dX2_counter_36 : decode cX2_counter 36 = .ok (.iload 4, 2) := dk_21 4 (dk_at dksX2_counter_1 14 rfl rfl)
theorem dX2_counter_38 : decode cX2_counter 38 = .ok (.i2l, 1) := dk_133 (dk_at dksX2_counter_1 16 rfl rfl)
theorem dX2_counter_39 : decode cX2_counter 39 = .ok (.invokevirtual 129, 3) := dk_182 0 129 (dk_at dksX2_counter_1 17 rfl rfl)
theorem dX2_counter_42 : decode cX2_counter 42 = .ok (.istore 5, 2) := dk_54 5 (dk_at dksX2_counter_1 20 rfl rfl)
theorem dX2_counter_44 : decode cX2_counter 44 = .ok (.iload 5, 2) := dk_21 5 (dk_at dksX2_counter_1 22 rfl rfl)
theorem dX2_counter_46 : decode cX2_counter 46 = .ok (.ifCond .ge 6, 3) := dk_156 0 6 (dk_at dksX2_counter_2 0 rfl rfl)
theorem dX2_counter_49 : decode cX2_counter 49 = .ok (.iload 5, 2) := dk_21 5 (dk_at dksX2_counter_2 3 rfl rfl)
theorem dX2_counter_51 : decode cX2_counter 51 = .ok (.ireturn, 1) := dk_172 (dk_at dksX2_counter_2 5 rfl rfl)
theorem dX2_counter_52 : decode cX2_counter 52 = .ok (.aload_n 0, 1) := dk_42 (dk_at dksX2_counter_2 6 rfl rfl)
theorem dX2_counter_53 : decode cX2_counter 53 = .ok (.bipush 60, 2) := dk_16 60 (dk_at dksX2_counter_2 7 rfl rfl)
theorem dX2_counter_55 : decode cX2_counter 55 = .ok (.iload_n 1, 1) := dk_27 (dk_at dksX2_counter_2 9 rfl rfl)
theorem dX2_counter_56 : decode cX2_counter 56 = .ok (.imul, 1) := dk_104 (dk_at dksX2_counter_2 10 rfl rfl)
theorem dX2_counter_57 : decode cX2_counter 57 = .ok (.iload_n 3, 1) := dk_29 (dk_at dksX2_counter_2 11 rfl rfl)
theorem dX2_counter_58 : decode cX2_counter 58 = .ok (.iadd, 1) := dk_96 (dk_at dksX2_counter_2 12 rfl rfl)
theorem dX2_counter_59 : decode cX2_counter 59 = .ok (.iload 4, 2) := dk_21 4 (dk_at dksX2_counter_2 13 rfl rfl)
theorem dX2_counter_61 : decode cX2_counter 61 = .ok (.invokevirtual 133, 3) := dk_182 0 133 (dk_at dksX2_counter_2 15 rfl rfl)
theorem dX2_counter_64 : decode cX2_counter 64 = .ok (.ifCond .ne 15, 3) := dk_154 0 15 (dk_at dksX2_counter_2 18 rfl rfl)
theorem dX2_counter_67 : decode cX2_counter 67 = .ok (.aload_n 0, 1) := dk_42 (dk_at dksX2_counter_2 21 rfl rfl)
theorem dX2_counter_68 : decode cX2_counter 68 = .ok (.bipush (-100), 2) := dk_16 156 (dk_at dksX2_counter_2 22 rfl rfl)
theorem dX2_counter_70 : decode cX2_counter 70 = .ok (.aload_n 0, 1) := dk_42 (dk_at dksX2_counter_3 0 rfl rfl)
theorem dX2_counter_71 : decode cX2_counter 71 = .ok (.getfield 94, 3) := dk_180 0 94 (dk_at dksX2_counter_3 1 rfl rfl)
theorem dX2_counter_74 : decode cX2_counter 74 = .ok (.isub, 1) := dk_100 (dk_at dksX2_counter_3 4 rfl rfl)
theorem dX2_counter_75 : decode cX2_counter 75 = .ok (.invokevirtual 124, 3) := dk_182 0 124 (dk_at dksX2_counter_3 5 rfl rfl)
theorem dX2_counter_78 : decode cX2_counter 78 = .ok (.ireturn, 1) := dk_172 (dk_at dksX2_counter_3 8 rfl rfl)
theorem dX2_counter_79 : decode cX2_counter 79 = .ok (.aload_n 0, 1) := dk_42 (dk_at dksX2_counter_3 9 rfl rfl)
theorem dX2_counter_80 : decode cX2_counter 80 = .ok (.aload_n 0, 1) := dk_42 (dk_at dksX2_counter_3 10 rfl rfl)
theorem dX2_counter_81 : decode cX2_counter 81 = .ok (.getfield 101, 3) := dk_180 0 101 (dk_at dksX2_counter_3 11 rfl rfl)
theorem dX2_counter_84 : decode cX2_counter 84 = .ok (.putfield 87, 3) := dk_181 0 87 (dk_at dksX2_counter_3 14 rfl rfl)
theorem dX2_counter_87 : decode cX2_counter 87 = .ok (.iconst 0, 1) := dk_3 (dk_at dksX2_counter_3 17 rfl rfl)
theorem dX2_counter_88 : decode cX2_counter 88 = .ok (.istore 6, 2) := dk_54 6 (dk_at dksX2_counter_3 18 rfl rfl)
theorem dX2_counter_90 : decode cX2_counter 90 = .ok (.iload 6, 2) := dk_21 6 (dk_at dksX2_counter_3 20 rfl rfl)
theorem dX2_counter_92 : decode cX2_counter 92 = .ok (.aload_n 0, 1) := dk_42 (dk_at dksX2_counter_3 22 rfl rfl)
theorem dX2_counter_93 : decode cX2_counter 93 = .ok (.getfield 87, 3) := dk_180 0 87 (dk_at dksX2_counter_4 0 rfl rfl)
theorem dX2_counter_96 : decode cX2_counter 96 = .ok (.if_icmp .ge 65, 3) := dk_162 0 65 (dk_at dksX2_counter_4 3 rfl rfl)
theorem dX2_counter_99 : decode cX2_counter 99 = .ok (.aload_n 0, 1) := dk_42 (dk_at dksX2_counter_4 6 rfl rfl)
theorem dX2_counter_100 : decode cX2_counter 100 = .ok (.getfield 7, 3) := dk_180 0 7 (dk_at dksX2_counter_4 7 rfl rfl)
theorem dX2_counter_103 : decode cX2_counter 103 = .ok (.iload 6, 2) := dk_21 6 (dk_at dksX2_counter_4 10 rfl rfl)
theorem dX2_counter_105 : decode cX2_counter 105 = .ok (.aload_n 0, 1) := dk_42 (dk_at dksX2_counter_4 12 rfl rfl)
theorem dX2_counter_106 : decode cX2_counter 106 = .ok (.getfield 22, 3) := dk_180 0 22 (dk_at dksX2_counter_4 13 rfl rfl)
theorem dX2_counter_109 : decode cX2_counter 109 = .ok (.iload 6, 2) := dk_21 6 (dk_at dksX2_counter_4 16 rfl rfl)
theorem dX2_counter_111 : decode cX2_counter 111 = .ok (.iaload, 1) := dk_46 (dk_at dksX2_counter_4 18 rfl rfl)
theorem dX2_counter_112 : decode cX2_counter 112 = .ok (.iastore, 1) := dk_79 (dk_at dksX2_counter_4 19 rfl rfl)
theorem dX2_counter_113 : decode cX2_counter 113 = .ok (.aload_n 0, 1) := dk_42 (dk_at dksX2_counter_4 20 rfl rfl)
theorem dX2_counter_114 : decode cX2_counter 114 = .ok (.getfield 13, 3) := dk_180 0 13 (dk_at dksX2_counter_4 21 rfl rfl)
theorem dX2_counter_117 : decode cX2_counter 117 = .ok (.iload 6, 2) := dk_21 6 (dk_at dksX2_counter_5 0 rfl rfl)
theorem dX2_counter_119 : decode cX2_counter 119 = .ok (.aload_n 0, 1) := dk_42 (dk_at dksX2_counter_5 2 rfl rfl)
theorem dX2_counter_120 : decode cX2_counter 120 = .ok (.getfield 25, 3) := dk_180 0 25 (dk_at dksX2_counter_5 3 rfl rfl)
theorem dX2_counter_123 : decode cX2_counter 123 = .ok (.iload 6, 2) := dk_21 6 (dk_at dksX2_counter_5 6 rfl rfl)
theorem dX2_counter_125 : decode cX2_counter 125 = .ok (.iaload, 1) := dk_46 (dk_at dksX2_counter_5 8 rfl rfl)
theorem dX2_counter_126 : decode cX2_counter 126 = .ok (.iastore, 1) := dk_79 (dk_at dksX2_counter_5 9 rfl rfl)
theorem dX2_counter_127 : decode cX2_counter 127 = .ok (.aload_n 0, 1) := dk_42 (dk_at dksX2_counter_5 10 rfl rfl)
theorem dX2_counter_128 : decode cX2_counter 128 = .ok (.getfield 16, 3) := dk_180 0 16 (dk_at dksX2_counter_5 11 rfl rfl)
theorem dX2_counter_131 : decode cX2_counter 131 = .ok (.iload 6, 2) := dk_21 6 (dk_at dksX2_counter_5 14 rfl rfl)
theorem dX2_counter_133 : decode cX2_counter 133 = .ok (.aload_n 0, 1) := dk_42 (dk_at dksX2_counter_5 16 rfl rfl)
theorem dX2_counter_134 : decode cX2_counter 134 = .ok (.getfield 28, 3) := dk_180 0 28 (dk_at dksX2_counter_5 17 rfl rfl)
theorem dX2_counter_137 : decode cX2_counter 137 = .ok (.iload 6, 2) := dk_21 6 (dk_at dksX2_counter_5 20 rfl rfl)
theorem dX2_counter_139 : decode cX2_counter 139 = .ok (.iaload, 1) := dk_46 (dk_at dksX2_counter_5 22 rfl rfl)
theorem dX2_counter_140 : decode cX2_counter 140 = .ok (.iastore, 1) := dk_79 (dk_at dksX2_counter_5 23 rfl rfl)
theorem dX2_counter_141 : decode cX2_counter 141 = .ok (.aload_n 0, 1) := dk_42 (dk_at dksX2_counter_6 0 rfl rfl)
theorem dX2_counter_142 : decode cX2_counter 142 = .ok (.getfield 19, 3) := dk_180 0 19 (dk_at dksX2_counter_6 1 rfl rfl)
theorem dX2_counter_145 : decode cX2_counter 145 = .ok (.iload 6, 2) := dk_21 6 (dk_at dksX2_counter_6 4 rfl rfl)
theorem dX2_counter_147 : decode cX2_counter 147 = .ok (.aload_n 0, 1) := dk_42 (dk_at dksX2_counter_6 6 rfl rfl)
theorem dX2_counter_148 : decode cX2_counter 148 = .ok (.getfield 31, 3) := dk_180 0 31 (dk_at dksX2_counter_6 7 rfl rfl)
theorem dX2_counter_151 : decode cX2_counter 151 = .ok (.iload 6, 2) := dk_21 6 (dk_at dksX2_counter_6 10 rfl rfl)
theorem dX2_counter_153 : decode cX2_counter 153 = .ok (.iaload, 1) := dk_46 (dk_at dksX2_counter_6 12 rfl rfl)
theorem dX2_counter_154 : decode cX2_counter 154 = .ok (.iastore, 1) := dk_79 (dk_at dksX2_counter_6 13 rfl rfl)
theorem dX2_counter_155 : decode cX2_counter 155 = .ok (.iinc 6 1, 3) := dk_132 6 1 (dk_at dksX2_counter_6 14 rfl rfl)
theorem dX2_counter_158 : decode cX2_counter 158 = .ok (.goto (-68), 3) := dk_167 255 188 (dk_at dksX2_counter_6 17 rfl rfl)
theorem dX2_counter_161 : decode cX2_counter 161 = .ok (.aload_n 0, 1) := dk_42 (dk_at dksX2_counter_6 20 rfl rfl)
theorem dX2_counter_162 : decode cX2_counter 162 = .ok (.iconst 0, 1) := dk_3 (dk_at dksX2_counter_6 21 rfl rfl)
theorem dX2_counter_163 : decode cX2_counter 163 = .ok (.putfield 136, 3) := dk_181 0 136 (dk_at dksX2_counter_7 0 rfl rfl)
theorem dX2_counter_166 : decode cX2_counter 166 = .ok (.aload_n 0, 1) := dk_42 (dk_at dksX2_counter_7 3 rfl rfl)
theorem dX2_counter_167 : decode cX2_counter 167 = .ok (.aload_n 0, 1) := dk_42 (dk_at dksX2_counter_7 4 rfl rfl)
theorem dX2_counter_168 : decode cX2_counter 168 = .ok (.getfield 87, 3) := dk_180 0 87 (dk_at dksX2_counter_7 5 rfl rfl)
theorem dX2_counter_171 : decode cX2_counter 171 = .ok (.invokevirtual 124, 3) := dk_182 0 124 (dk_at dksX2_counter_7 8 rfl rfl)
theorem dX2_counter_174 : decode cX2_counter 174 = .ok (.ireturn, 1) := dk_172 (dk_at dksX2_counter_7 11 rfl rfl)
abbrev cX2_noSheet : ByteArray := prog_8_method_44_code
def yX2_noSheet : MethodName := ⟨RX2, "noSheet", "(I)Z"⟩
def dkwX2_noSheet_0 : List UInt8 := [26, 133, 9, 20, 0, 185, 184, 0, 90, 154, 0, 7, 4, 167, 0, 4, 3, 172]
abbrev dktX2_noSheet_0 : List UInt8 := dkwX2_noSheet_0 ++ []
theorem dksX2_noSheet_0 : cX2_noSheet.data.toList.drop 0 = dktX2_noSheet_0 := by decide +kernel
theorem dX2_noSheet_0 : decode cX2_noSheet 0 = .ok (.iload_n 0, 1) := dk_26 (dk_at dksX2_noSheet_0 0 rfl rfl)
theorem dX2_noSheet_1 : decode cX2_noSheet 1 = .ok (.i2l, 1) := dk_133 (dk_at dksX2_noSheet_0 1 rfl rfl)
theorem dX2_noSheet_2 : decode cX2_noSheet 2 = .ok (.lconst 0, 1) := dk_9 (dk_at dksX2_noSheet_0 2 rfl rfl)
theorem dX2_noSheet_3 : decode cX2_noSheet 3 = .ok (.ldc2_w 185, 3) := dk_20 0 185 (dk_at dksX2_noSheet_0 3 rfl rfl)
theorem dX2_noSheet_6 : decode cX2_noSheet 6 = .ok (.invokestatic 90, 3) := dk_184 0 90 (dk_at dksX2_noSheet_0 6 rfl rfl)
theorem dX2_noSheet_9 : decode cX2_noSheet 9 = .ok (.ifCond .ne 7, 3) := dk_154 0 7 (dk_at dksX2_noSheet_0 9 rfl rfl)
theorem dX2_noSheet_12 : decode cX2_noSheet 12 = .ok (.iconst 1, 1) := dk_4 (dk_at dksX2_noSheet_0 12 rfl rfl)
theorem dX2_noSheet_13 : decode cX2_noSheet 13 = .ok (.goto 4, 3) := dk_167 0 4 (dk_at dksX2_noSheet_0 13 rfl rfl)
theorem dX2_noSheet_16 : decode cX2_noSheet 16 = .ok (.iconst 0, 1) := dk_3 (dk_at dksX2_noSheet_0 16 rfl rfl)
theorem dX2_noSheet_17 : decode cX2_noSheet 17 = .ok (.ireturn, 1) := dk_172 (dk_at dksX2_noSheet_0 17 rfl rfl)
abbrev cX2_in : ByteArray := prog_8_method_2_code
def yX2_in : MethodName := ⟨RX2, "in", "(JJJ)Z"⟩
def dkwX2_in_0 : List UInt8 := [30, 32, 148, 155, 0, 14, 30, 22, 4, 148, 157, 0, 7, 4, 167, 0, 4, 3, 172]
abbrev dktX2_in_0 : List UInt8 := dkwX2_in_0 ++ []
theorem dksX2_in_0 : cX2_in.data.toList.drop 0 = dktX2_in_0 := by decide +kernel
theorem dX2_in_0 : decode cX2_in 0 = .ok (.lload_n 0, 1) := dk_30 (dk_at dksX2_in_0 0 rfl rfl)
theorem dX2_in_1 : decode cX2_in 1 = .ok (.lload_n 2, 1) := dk_32 (dk_at dksX2_in_0 1 rfl rfl)
theorem dX2_in_2 : decode cX2_in 2 = .ok (.lcmp, 1) := dk_148 (dk_at dksX2_in_0 2 rfl rfl)
theorem dX2_in_3 : decode cX2_in 3 = .ok (.ifCond .lt 14, 3) := dk_155 0 14 (dk_at dksX2_in_0 3 rfl rfl)
theorem dX2_in_6 : decode cX2_in 6 = .ok (.lload_n 0, 1) := dk_30 (dk_at dksX2_in_0 6 rfl rfl)
theorem dX2_in_7 : decode cX2_in 7 = .ok (.lload 4, 2) := dk_22 4 (dk_at dksX2_in_0 7 rfl rfl)
theorem dX2_in_9 : decode cX2_in 9 = .ok (.lcmp, 1) := dk_148 (dk_at dksX2_in_0 9 rfl rfl)
theorem dX2_in_10 : decode cX2_in 10 = .ok (.ifCond .gt 7, 3) := dk_157 0 7 (dk_at dksX2_in_0 10 rfl rfl)
theorem dX2_in_13 : decode cX2_in 13 = .ok (.iconst 1, 1) := dk_4 (dk_at dksX2_in_0 13 rfl rfl)
theorem dX2_in_14 : decode cX2_in 14 = .ok (.goto 4, 3) := dk_167 0 4 (dk_at dksX2_in_0 14 rfl rfl)
theorem dX2_in_17 : decode cX2_in 17 = .ok (.iconst 0, 1) := dk_3 (dk_at dksX2_in_0 17 rfl rfl)
theorem dX2_in_18 : decode cX2_in 18 = .ok (.ireturn, 1) := dk_172 (dk_at dksX2_in_0 18 rfl rfl)
abbrev cX2_refused : ByteArray := prog_8_method_5_code
def yX2_refused : MethodName := ⟨RX2, "refused", "(I)I"⟩
def dkwX2_refused_0 : List UInt8 := [42, 3, 181, 0, 79, 27, 172]
abbrev dktX2_refused_0 : List UInt8 := dkwX2_refused_0 ++ []
theorem dksX2_refused_0 : cX2_refused.data.toList.drop 0 = dktX2_refused_0 := by decide +kernel
theorem dX2_refused_0 : decode cX2_refused 0 = .ok (.aload_n 0, 1) := dk_42 (dk_at dksX2_refused_0 0 rfl rfl)
theorem dX2_refused_1 : decode cX2_refused 1 = .ok (.iconst 0, 1) := dk_3 (dk_at dksX2_refused_0 1 rfl rfl)
theorem dX2_refused_2 : decode cX2_refused 2 = .ok (.putfield 79, 3) := dk_181 0 79 (dk_at dksX2_refused_0 2 rfl rfl)
theorem dX2_refused_5 : decode cX2_refused 5 = .ok (.iload_n 1, 1) := dk_27 (dk_at dksX2_refused_0 5 rfl rfl)
theorem dX2_refused_6 : decode cX2_refused 6 = .ok (.ireturn, 1) := dk_172 (dk_at dksX2_refused_0 6 rfl rfl)
abbrev cX2_cellsBarred : ByteArray := prog_8_method_13_code
def yX2_cellsBarred : MethodName := ⟨RX2, "cellsBarred", "(IIIJ)I"⟩
def dkwX2_cellsBarred_3 : List UInt8 := [182, 0, 112, 167, 0, 4, 3, 172]
abbrev dktX2_cellsBarred_3 : List UInt8 := dkwX2_cellsBarred_3 ++ []
def dkwX2_cellsBarred_2 : List UInt8 := [7, 182, 0, 112, 172, 29, 22, 4, 42, 180, 0, 65, 27, 46, 184, 0, 116, 153, 0, 11, 42, 6]
abbrev dktX2_cellsBarred_2 : List UInt8 := dkwX2_cellsBarred_2 ++ dktX2_cellsBarred_3
def dkwX2_cellsBarred_1 : List UInt8 := [172, 42, 180, 0, 65, 27, 46, 156, 0, 9, 42, 4, 182, 0, 112, 172, 22, 4, 9, 148, 156, 0, 9, 42]
abbrev dktX2_cellsBarred_1 : List UInt8 := dkwX2_cellsBarred_1 ++ dktX2_cellsBarred_2
def dkwX2_cellsBarred_0 : List UInt8 := [42, 180, 0, 65, 27, 46, 155, 0, 19, 42, 180, 0, 68, 27, 46, 28, 159, 0, 9, 42, 5, 182, 0, 112]
abbrev dktX2_cellsBarred_0 : List UInt8 := dkwX2_cellsBarred_0 ++ dktX2_cellsBarred_1
theorem dksX2_cellsBarred_0 : cX2_cellsBarred.data.toList.drop 0 = dktX2_cellsBarred_0 := by decide +kernel
theorem dksX2_cellsBarred_1 : cX2_cellsBarred.data.toList.drop 24 = dktX2_cellsBarred_1 := dk_seg dksX2_cellsBarred_0 24 rfl rfl
theorem dksX2_cellsBarred_2 : cX2_cellsBarred.data.toList.drop 48 = dktX2_cellsBarred_2 := dk_seg dksX2_cellsBarred_1 24 rfl rfl
theorem dksX2_cellsBarred_3 : cX2_cellsBarred.data.toList.drop 70 = dktX2_cellsBarred_3 := dk_seg dksX2_cellsBarred_2 22 rfl rfl
theorem dX2_cellsBarred_0 : decode cX2_cellsBarred 0 = .ok (.aload_n 0, 1) := dk_42 (dk_at dksX2_cellsBarred_0 0 rfl rfl)
theorem dX2_cellsBarred_1 : decode cX2_cellsBarred 1 = .ok (.getfield 65, 3) := dk_180 0 65 (dk_at dksX2_cellsBarred_0 1 rfl rfl)
theorem dX2_cellsBarred_4 : decode cX2_cellsBarred 4 = .ok (.iload_n 1, 1) := dk_27 (dk_at dksX2_cellsBarred_0 4 rfl rfl)
theorem dX2_cellsBarred_5 : decode cX2_cellsBarred 5 = .ok (.iaload, 1) := dk_46 (dk_at dksX2_cellsBarred_0 5 rfl rfl)
theorem dX2_cellsBarred_6 : decode cX2_cellsBarred 6 = .ok (.ifCond .lt 19, 3) := dk_155 0 19 (dk_at dksX2_cellsBarred_0 6 rfl rfl)
theorem dX2_cellsBarred_9 : decode cX2_cellsBarred 9 = .ok (.aload_n 0, 1) := dk_42 (dk_at dksX2_cellsBarred_0 9 rfl rfl)
theorem dX2_cellsBarred_10 : decode cX2_cellsBarred 10 = .ok (.getfield 68, 3) := dk_180 0 68 (dk_at dksX2_cellsBarred_0 10 rfl rfl)
theorem dX2_cellsBarred_13 : decode cX2_cellsBarred 13 = .ok (.iload_n 1, 1) := dk_27 (dk_at dksX2_cellsBarred_0 13 rfl rfl)
theorem dX2_cellsBarred_14 : decode cX2_cellsBarred 14 = .ok (.iaload, 1) := dk_46 (dk_at dksX2_cellsBarred_0 14 rfl rfl)
theorem dX2_cellsBarred_15 : decode cX2_cellsBarred 15 = .ok (.iload_n 2, 1) := dk_28 (dk_at dksX2_cellsBarred_0 15 rfl rfl)
theorem dX2_cellsBarred_16 : decode cX2_cellsBarred 16 = .ok (.if_icmp .eq 9, 3) := dk_159 0 9 (dk_at dksX2_cellsBarred_0 16 rfl rfl)
theorem dX2_cellsBarred_19 : decode cX2_cellsBarred 19 = .ok (.aload_n 0, 1) := dk_42 (dk_at dksX2_cellsBarred_0 19 rfl rfl)
theorem dX2_cellsBarred_20 : decode cX2_cellsBarred 20 = .ok (.iconst 2, 1) := dk_5 (dk_at dksX2_cellsBarred_0 20 rfl rfl)
theorem dX2_cellsBarred_21 : decode cX2_cellsBarred 21 = .ok (.invokevirtual 112, 3) := dk_182 0 112 (dk_at dksX2_cellsBarred_0 21 rfl rfl)
theorem dX2_cellsBarred_24 : decode cX2_cellsBarred 24 = .ok (.ireturn, 1) := dk_172 (dk_at dksX2_cellsBarred_1 0 rfl rfl)
theorem dX2_cellsBarred_25 : decode cX2_cellsBarred 25 = .ok (.aload_n 0, 1) := dk_42 (dk_at dksX2_cellsBarred_1 1 rfl rfl)
theorem dX2_cellsBarred_26 : decode cX2_cellsBarred 26 = .ok (.getfield 65, 3) := dk_180 0 65 (dk_at dksX2_cellsBarred_1 2 rfl rfl)
theorem dX2_cellsBarred_29 : decode cX2_cellsBarred 29 = .ok (.iload_n 1, 1) := dk_27 (dk_at dksX2_cellsBarred_1 5 rfl rfl)
theorem dX2_cellsBarred_30 : decode cX2_cellsBarred 30 = .ok (.iaload, 1) := dk_46 (dk_at dksX2_cellsBarred_1 6 rfl rfl)
theorem dX2_cellsBarred_31 : decode cX2_cellsBarred 31 = .ok (.ifCond .ge 9, 3) := dk_156 0 9 (dk_at dksX2_cellsBarred_1 7 rfl rfl)
theorem dX2_cellsBarred_34 : decode cX2_cellsBarred 34 = .ok (.aload_n 0, 1) := dk_42 (dk_at dksX2_cellsBarred_1 10 rfl rfl)
theorem dX2_cellsBarred_35 : decode cX2_cellsBarred 35 = .ok (.iconst 1, 1) := dk_4 (dk_at dksX2_cellsBarred_1 11 rfl rfl)
theorem dX2_cellsBarred_36 : decode cX2_cellsBarred 36 = .ok (.invokevirtual 112, 3) := dk_182 0 112 (dk_at dksX2_cellsBarred_1 12 rfl rfl)
theorem dX2_cellsBarred_39 : decode cX2_cellsBarred 39 = .ok (.ireturn, 1) := dk_172 (dk_at dksX2_cellsBarred_1 15 rfl rfl)
theorem dX2_cellsBarred_40 : decode cX2_cellsBarred 40 = .ok (.lload 4, 2) := dk_22 4 (dk_at dksX2_cellsBarred_1 16 rfl rfl)
theorem dX2_cellsBarred_42 : decode cX2_cellsBarred 42 = .ok (.lconst 0, 1) := dk_9 (dk_at dksX2_cellsBarred_1 18 rfl rfl)
theorem dX2_cellsBarred_43 : decode cX2_cellsBarred 43 = .ok (.lcmp, 1) := dk_148 (dk_at dksX2_cellsBarred_1 19 rfl rfl)
theorem dX2_cellsBarred_44 : decode cX2_cellsBarred 44 = .ok (.ifCond .ge 9, 3) := dk_156 0 9 (dk_at dksX2_cellsBarred_1 20 rfl rfl)
theorem dX2_cellsBarred_47 : decode cX2_cellsBarred 47 = .ok (.aload_n 0, 1) := dk_42 (dk_at dksX2_cellsBarred_1 23 rfl rfl)
theorem dX2_cellsBarred_48 : decode cX2_cellsBarred 48 = .ok (.iconst 4, 1) := dk_7 (dk_at dksX2_cellsBarred_2 0 rfl rfl)
theorem dX2_cellsBarred_49 : decode cX2_cellsBarred 49 = .ok (.invokevirtual 112, 3) := dk_182 0 112 (dk_at dksX2_cellsBarred_2 1 rfl rfl)
theorem dX2_cellsBarred_52 : decode cX2_cellsBarred 52 = .ok (.ireturn, 1) := dk_172 (dk_at dksX2_cellsBarred_2 4 rfl rfl)
theorem dX2_cellsBarred_53 : decode cX2_cellsBarred 53 = .ok (.iload_n 3, 1) := dk_29 (dk_at dksX2_cellsBarred_2 5 rfl rfl)
theorem dX2_cellsBarred_54 : decode cX2_cellsBarred 54 = .ok (.lload 4, 2) := dk_22 4 (dk_at dksX2_cellsBarred_2 6 rfl rfl)
theorem dX2_cellsBarred_56 : decode cX2_cellsBarred 56 = .ok (.aload_n 0, 1) := dk_42 (dk_at dksX2_cellsBarred_2 8 rfl rfl)
theorem dX2_cellsBarred_57 : decode cX2_cellsBarred 57 = .ok (.getfield 65, 3) := dk_180 0 65 (dk_at dksX2_cellsBarred_2 9 rfl rfl)
theorem dX2_cellsBarred_60 : decode cX2_cellsBarred 60 = .ok (.iload_n 1, 1) := dk_27 (dk_at dksX2_cellsBarred_2 12 rfl rfl)
theorem dX2_cellsBarred_61 : decode cX2_cellsBarred 61 = .ok (.iaload, 1) := dk_46 (dk_at dksX2_cellsBarred_2 13 rfl rfl)
theorem dX2_cellsBarred_62 : decode cX2_cellsBarred 62 = .ok (.invokestatic 116, 3) := dk_184 0 116 (dk_at dksX2_cellsBarred_2 14 rfl rfl)
theorem dX2_cellsBarred_65 : decode cX2_cellsBarred 65 = .ok (.ifCond .eq 11, 3) := dk_153 0 11 (dk_at dksX2_cellsBarred_2 17 rfl rfl)
theorem dX2_cellsBarred_68 : decode cX2_cellsBarred 68 = .ok (.aload_n 0, 1) := dk_42 (dk_at dksX2_cellsBarred_2 20 rfl rfl)
theorem dX2_cellsBarred_69 : decode cX2_cellsBarred 69 = .ok (.iconst 3, 1) := dk_6 (dk_at dksX2_cellsBarred_2 21 rfl rfl)
theorem dX2_cellsBarred_70 : decode cX2_cellsBarred 70 = .ok (.invokevirtual 112, 3) := dk_182 0 112 (dk_at dksX2_cellsBarred_3 0 rfl rfl)
theorem dX2_cellsBarred_73 : decode cX2_cellsBarred 73 = .ok (.goto 4, 3) := dk_167 0 4 (dk_at dksX2_cellsBarred_3 3 rfl rfl)
theorem dX2_cellsBarred_76 : decode cX2_cellsBarred 76 = .ok (.iconst 0, 1) := dk_3 (dk_at dksX2_cellsBarred_3 6 rfl rfl)
theorem dX2_cellsBarred_77 : decode cX2_cellsBarred 77 = .ok (.ireturn, 1) := dk_172 (dk_at dksX2_cellsBarred_3 7 rfl rfl)
abbrev cX2_failed : ByteArray := prog_8_method_6_code
def yX2_failed : MethodName := ⟨RX2, "failed", "(I)I"⟩
def dkwX2_failed_0 : List UInt8 := [42, 27, 181, 0, 79, 16, 246, 27, 100, 172]
abbrev dktX2_failed_0 : List UInt8 := dkwX2_failed_0 ++ []
theorem dksX2_failed_0 : cX2_failed.data.toList.drop 0 = dktX2_failed_0 := by decide +kernel
theorem dX2_failed_0 : decode cX2_failed 0 = .ok (.aload_n 0, 1) := dk_42 (dk_at dksX2_failed_0 0 rfl rfl)
theorem dX2_failed_1 : decode cX2_failed 1 = .ok (.iload_n 1, 1) := dk_27 (dk_at dksX2_failed_0 1 rfl rfl)
theorem dX2_failed_2 : decode cX2_failed 2 = .ok (.putfield 79, 3) := dk_181 0 79 (dk_at dksX2_failed_0 2 rfl rfl)
theorem dX2_failed_5 : decode cX2_failed 5 = .ok (.bipush (-10), 2) := dk_16 246 (dk_at dksX2_failed_0 5 rfl rfl)
theorem dX2_failed_7 : decode cX2_failed 7 = .ok (.iload_n 1, 1) := dk_27 (dk_at dksX2_failed_0 7 rfl rfl)
theorem dX2_failed_8 : decode cX2_failed 8 = .ok (.isub, 1) := dk_100 (dk_at dksX2_failed_0 8 rfl rfl)
theorem dX2_failed_9 : decode cX2_failed 9 = .ok (.ireturn, 1) := dk_172 (dk_at dksX2_failed_0 9 rfl rfl)
abbrev cX2_isBeyond : ByteArray := prog_8_method_50_code
def yX2_isBeyond : MethodName := ⟨RX2, "isBeyond", "(IJI)Z"⟩
def dkwX2_isBeyond_1 : List UInt8 := [3, 172]
abbrev dktX2_isBeyond_1 : List UInt8 := dkwX2_isBeyond_1 ++ []
def dkwX2_isBeyond_0 : List UInt8 := [26, 155, 0, 19, 31, 9, 148, 155, 0, 13, 26, 133, 31, 97, 29, 133, 148, 158, 0, 7, 4, 167, 0, 4]
abbrev dktX2_isBeyond_0 : List UInt8 := dkwX2_isBeyond_0 ++ dktX2_isBeyond_1
theorem dksX2_isBeyond_0 : cX2_isBeyond.data.toList.drop 0 = dktX2_isBeyond_0 := by decide +kernel
theorem dksX2_isBeyond_1 : cX2_isBeyond.data.toList.drop 24 = dktX2_isBeyond_1 := dk_seg dksX2_isBeyond_0 24 rfl rfl
theorem dX2_isBeyond_0 : decode cX2_isBeyond 0 = .ok (.iload_n 0, 1) := dk_26 (dk_at dksX2_isBeyond_0 0 rfl rfl)
theorem dX2_isBeyond_1 : decode cX2_isBeyond 1 = .ok (.ifCond .lt 19, 3) := dk_155 0 19 (dk_at dksX2_isBeyond_0 1 rfl rfl)
theorem dX2_isBeyond_4 : decode cX2_isBeyond 4 = .ok (.lload_n 1, 1) := dk_31 (dk_at dksX2_isBeyond_0 4 rfl rfl)
theorem dX2_isBeyond_5 : decode cX2_isBeyond 5 = .ok (.lconst 0, 1) := dk_9 (dk_at dksX2_isBeyond_0 5 rfl rfl)
theorem dX2_isBeyond_6 : decode cX2_isBeyond 6 = .ok (.lcmp, 1) := dk_148 (dk_at dksX2_isBeyond_0 6 rfl rfl)
theorem dX2_isBeyond_7 : decode cX2_isBeyond 7 = .ok (.ifCond .lt 13, 3) := dk_155 0 13 (dk_at dksX2_isBeyond_0 7 rfl rfl)
theorem dX2_isBeyond_10 : decode cX2_isBeyond 10 = .ok (.iload_n 0, 1) := dk_26 (dk_at dksX2_isBeyond_0 10 rfl rfl)
theorem dX2_isBeyond_11 : decode cX2_isBeyond 11 = .ok (.i2l, 1) := dk_133 (dk_at dksX2_isBeyond_0 11 rfl rfl)
theorem dX2_isBeyond_12 : decode cX2_isBeyond 12 = .ok (.lload_n 1, 1) := dk_31 (dk_at dksX2_isBeyond_0 12 rfl rfl)
theorem dX2_isBeyond_13 : decode cX2_isBeyond 13 = .ok (.ladd, 1) := dk_97 (dk_at dksX2_isBeyond_0 13 rfl rfl)
theorem dX2_isBeyond_14 : decode cX2_isBeyond 14 = .ok (.iload_n 3, 1) := dk_29 (dk_at dksX2_isBeyond_0 14 rfl rfl)
theorem dX2_isBeyond_15 : decode cX2_isBeyond 15 = .ok (.i2l, 1) := dk_133 (dk_at dksX2_isBeyond_0 15 rfl rfl)
theorem dX2_isBeyond_16 : decode cX2_isBeyond 16 = .ok (.lcmp, 1) := dk_148 (dk_at dksX2_isBeyond_0 16 rfl rfl)
theorem dX2_isBeyond_17 : decode cX2_isBeyond 17 = .ok (.ifCond .le 7, 3) := dk_158 0 7 (dk_at dksX2_isBeyond_0 17 rfl rfl)
theorem dX2_isBeyond_20 : decode cX2_isBeyond 20 = .ok (.iconst 1, 1) := dk_4 (dk_at dksX2_isBeyond_0 20 rfl rfl)
theorem dX2_isBeyond_21 : decode cX2_isBeyond 21 = .ok (.goto 4, 3) := dk_167 0 4 (dk_at dksX2_isBeyond_0 21 rfl rfl)
theorem dX2_isBeyond_24 : decode cX2_isBeyond 24 = .ok (.iconst 0, 1) := dk_3 (dk_at dksX2_isBeyond_1 0 rfl rfl)
theorem dX2_isBeyond_25 : decode cX2_isBeyond 25 = .ok (.ireturn, 1) := dk_172 (dk_at dksX2_isBeyond_1 1 rfl rfl)
abbrev cX2_readsCounter : ByteArray := prog_8_method_12_code
def yX2_readsCounter : MethodName := ⟨RX2, "readsCounter", "(II)Z"⟩
def dkwX2_readsCounter_3 : List UInt8 := [182, 0, 108, 62, 167, 255, 229, 29, 172]
abbrev dktX2_readsCounter_3 : List UInt8 := dkwX2_readsCounter_3 ++ []
def dkwX2_readsCounter_2 : List UInt8 := [153, 0, 29, 42, 180, 0, 101, 5, 161, 0, 11, 42, 180, 0, 94, 28, 162, 0, 13, 42, 27, 28]
abbrev dktX2_readsCounter_2 : List UInt8 := dkwX2_readsCounter_2 ++ dktX2_readsCounter_3
def dkwX2_readsCounter_1 : List UInt8 := [167, 0, 4, 3, 62, 42, 89, 180, 0, 94, 29, 153, 0, 7, 4, 167, 0, 4, 3, 96, 181, 0, 94, 29]
abbrev dktX2_readsCounter_1 : List UInt8 := dkwX2_readsCounter_1 ++ dktX2_readsCounter_2
def dkwX2_readsCounter_0 : List UInt8 := [42, 3, 181, 0, 94, 42, 3, 181, 0, 101, 42, 27, 28, 182, 0, 97, 16, 107, 160, 0, 7, 4]
abbrev dktX2_readsCounter_0 : List UInt8 := dkwX2_readsCounter_0 ++ dktX2_readsCounter_1
theorem dksX2_readsCounter_0 : cX2_readsCounter.data.toList.drop 0 = dktX2_readsCounter_0 := by decide +kernel
theorem dksX2_readsCounter_1 : cX2_readsCounter.data.toList.drop 22 = dktX2_readsCounter_1 := dk_seg dksX2_readsCounter_0 22 rfl rfl
theorem dksX2_readsCounter_2 : cX2_readsCounter.data.toList.drop 46 = dktX2_readsCounter_2 := dk_seg dksX2_readsCounter_1 24 rfl rfl
theorem dksX2_readsCounter_3 : cX2_readsCounter.data.toList.drop 68 = dktX2_readsCounter_3 := dk_seg dksX2_readsCounter_2 22 rfl rfl
theorem dX2_readsCounter_0 : decode cX2_readsCounter 0 = .ok (.aload_n 0, 1) := dk_42 (dk_at dksX2_readsCounter_0 0 rfl rfl)
theorem dX2_readsCounter_1 : decode cX2_readsCounter 1 = .ok (.iconst 0, 1) := dk_3 (dk_at dksX2_readsCounter_0 1 rfl rfl)
theorem dX2_readsCounter_2 : decode cX2_readsCounter 2 = .ok (.putfield 94, 3) := dk_181 0 94 (dk_at dksX2_readsCounter_0 2 rfl rfl)
theorem dX2_readsCounter_5 : decode cX2_readsCounter 5 = .ok (.aload_n 0, 1) := dk_42 (dk_at dksX2_readsCounter_0 5 rfl rfl)
theorem dX2_readsCounter_6 : decode cX2_readsCounter 6 = .ok (.iconst 0, 1) := dk_3 (dk_at dksX2_readsCounter_0 6 rfl rfl)
theorem dX2_readsCounter_7 : decode cX2_readsCounter 7 = .ok (.putfield 101, 3) := dk_181 0 101 (dk_at dksX2_readsCounter_0 7 rfl rfl)
theorem dX2_readsCounter_10 : decode cX2_readsCounter 10 = .ok (.aload_n 0, 1) := dk_42 (dk_at dksX2_readsCounter_0 10 rfl rfl)
theorem dX2_readsCounter_11 : decode cX2_readsCounter 11 = .ok (.iload_n 1, 1) := dk_27 (dk_at dksX2_readsCounter_0 11 rfl rfl)
theorem dX2_readsCounter_12 : decode cX2_readsCounter 12 = .ok (.iload_n 2, 1) := dk_28 (dk_at dksX2_readsCounter_0 12 rfl rfl)
theorem dX2_readsCounter_13 : decode cX2_readsCounter 13 = .ok (.invokevirtual 97, 3) := dk_182 0 97 (dk_at dksX2_readsCounter_0 13 rfl rfl)
theorem dX2_readsCounter_16 : decode cX2_readsCounter 16 = .ok (.bipush 107, 2) := dk_16 107 (dk_at dksX2_readsCounter_0 16 rfl rfl)
theorem dX2_readsCounter_18 : decode cX2_readsCounter 18 = .ok (.if_icmp .ne 7, 3) := dk_160 0 7 (dk_at dksX2_readsCounter_0 18 rfl rfl)
theorem dX2_readsCounter_21 : decode cX2_readsCounter 21 = .ok (.iconst 1, 1) := dk_4 (dk_at dksX2_readsCounter_0 21 rfl rfl)
theorem dX2_readsCounter_22 : decode cX2_readsCounter 22 = .ok (.goto 4, 3) := dk_167 0 4 (dk_at dksX2_readsCounter_1 0 rfl rfl)
theorem dX2_readsCounter_25 : decode cX2_readsCounter 25 = .ok (.iconst 0, 1) := dk_3 (dk_at dksX2_readsCounter_1 3 rfl rfl)
theorem dX2_readsCounter_26 : decode cX2_readsCounter 26 = .ok (.istore_n 3, 1) := dk_62 (dk_at dksX2_readsCounter_1 4 rfl rfl)
theorem dX2_readsCounter_27 : decode cX2_readsCounter 27 = .ok (.aload_n 0, 1) := dk_42 (dk_at dksX2_readsCounter_1 5 rfl rfl)
theorem dX2_readsCounter_28 : decode cX2_readsCounter 28 = .ok (.dup, 1) := dk_89 (dk_at dksX2_readsCounter_1 6 rfl rfl)
theorem dX2_readsCounter_29 : decode cX2_readsCounter 29 = .ok (.getfield 94, 3) := dk_180 0 94 (dk_at dksX2_readsCounter_1 7 rfl rfl)
theorem dX2_readsCounter_32 : decode cX2_readsCounter 32 = .ok (.iload_n 3, 1) := dk_29 (dk_at dksX2_readsCounter_1 10 rfl rfl)
theorem dX2_readsCounter_33 : decode cX2_readsCounter 33 = .ok (.ifCond .eq 7, 3) := dk_153 0 7 (dk_at dksX2_readsCounter_1 11 rfl rfl)
theorem dX2_readsCounter_36 : decode cX2_readsCounter 36 = .ok (.iconst 1, 1) := dk_4 (dk_at dksX2_readsCounter_1 14 rfl rfl)
theorem dX2_readsCounter_37 : decode cX2_readsCounter 37 = .ok (.goto 4, 3) := dk_167 0 4 (dk_at dksX2_readsCounter_1 15 rfl rfl)
theorem dX2_readsCounter_40 : decode cX2_readsCounter 40 = .ok (.iconst 0, 1) := dk_3 (dk_at dksX2_readsCounter_1 18 rfl rfl)
theorem dX2_readsCounter_41 : decode cX2_readsCounter 41 = .ok (.iadd, 1) := dk_96 (dk_at dksX2_readsCounter_1 19 rfl rfl)
theorem dX2_readsCounter_42 : decode cX2_readsCounter 42 = .ok (.putfield 94, 3) := dk_181 0 94 (dk_at dksX2_readsCounter_1 20 rfl rfl)
theorem dX2_readsCounter_45 : decode cX2_readsCounter 45 = .ok (.iload_n 3, 1) := dk_29 (dk_at dksX2_readsCounter_1 23 rfl rfl)
theorem dX2_readsCounter_46 : decode cX2_readsCounter 46 = .ok (.ifCond .eq 29, 3) := dk_153 0 29 (dk_at dksX2_readsCounter_2 0 rfl rfl)
theorem dX2_readsCounter_49 : decode cX2_readsCounter 49 = .ok (.aload_n 0, 1) := dk_42 (dk_at dksX2_readsCounter_2 3 rfl rfl)
theorem dX2_readsCounter_50 : decode cX2_readsCounter 50 = .ok (.getfield 101, 3) := dk_180 0 101 (dk_at dksX2_readsCounter_2 4 rfl rfl)
theorem dX2_readsCounter_53 : decode cX2_readsCounter 53 = .ok (.iconst 2, 1) := dk_5 (dk_at dksX2_readsCounter_2 7 rfl rfl)
theorem dX2_readsCounter_54 : decode cX2_readsCounter 54 = .ok (.if_icmp .lt 11, 3) := dk_161 0 11 (dk_at dksX2_readsCounter_2 8 rfl rfl)
theorem dX2_readsCounter_57 : decode cX2_readsCounter 57 = .ok (.aload_n 0, 1) := dk_42 (dk_at dksX2_readsCounter_2 11 rfl rfl)
theorem dX2_readsCounter_58 : decode cX2_readsCounter 58 = .ok (.getfield 94, 3) := dk_180 0 94 (dk_at dksX2_readsCounter_2 12 rfl rfl)
theorem dX2_readsCounter_61 : decode cX2_readsCounter 61 = .ok (.iload_n 2, 1) := dk_28 (dk_at dksX2_readsCounter_2 15 rfl rfl)
theorem dX2_readsCounter_62 : decode cX2_readsCounter 62 = .ok (.if_icmp .ge 13, 3) := dk_162 0 13 (dk_at dksX2_readsCounter_2 16 rfl rfl)
theorem dX2_readsCounter_65 : decode cX2_readsCounter 65 = .ok (.aload_n 0, 1) := dk_42 (dk_at dksX2_readsCounter_2 19 rfl rfl)
theorem dX2_readsCounter_66 : decode cX2_readsCounter 66 = .ok (.iload_n 1, 1) := dk_27 (dk_at dksX2_readsCounter_2 20 rfl rfl)
theorem dX2_readsCounter_67 : decode cX2_readsCounter 67 = .ok (.iload_n 2, 1) := dk_28 (dk_at dksX2_readsCounter_2 21 rfl rfl)
theorem dX2_readsCounter_68 : decode cX2_readsCounter 68 = .ok (.invokevirtual 108, 3) := dk_182 0 108 (dk_at dksX2_readsCounter_3 0 rfl rfl)
theorem dX2_readsCounter_71 : decode cX2_readsCounter 71 = .ok (.istore_n 3, 1) := dk_62 (dk_at dksX2_readsCounter_3 3 rfl rfl)
theorem dX2_readsCounter_72 : decode cX2_readsCounter 72 = .ok (.goto (-27), 3) := dk_167 255 229 (dk_at dksX2_readsCounter_3 4 rfl rfl)
theorem dX2_readsCounter_75 : decode cX2_readsCounter 75 = .ok (.iload_n 3, 1) := dk_29 (dk_at dksX2_readsCounter_3 7 rfl rfl)
theorem dX2_readsCounter_76 : decode cX2_readsCounter 76 = .ok (.ireturn, 1) := dk_172 (dk_at dksX2_readsCounter_3 8 rfl rfl)
abbrev cX2_codeAt : ByteArray := prog_8_method_9_code
def yX2_codeAt : MethodName := ⟨RX2, "codeAt", "(II)I"⟩
def dkwX2_codeAt_1 : List UInt8 := [172]
abbrev dktX2_codeAt_1 : List UInt8 := dkwX2_codeAt_1 ++ []
def dkwX2_codeAt_0 : List UInt8 := [42, 180, 0, 94, 28, 162, 0, 17, 42, 180, 0, 71, 27, 42, 180, 0, 94, 96, 46, 167, 0, 5, 16, 247]
abbrev dktX2_codeAt_0 : List UInt8 := dkwX2_codeAt_0 ++ dktX2_codeAt_1
theorem dksX2_codeAt_0 : cX2_codeAt.data.toList.drop 0 = dktX2_codeAt_0 := by decide +kernel
theorem dksX2_codeAt_1 : cX2_codeAt.data.toList.drop 24 = dktX2_codeAt_1 := dk_seg dksX2_codeAt_0 24 rfl rfl
theorem dX2_codeAt_0 : decode cX2_codeAt 0 = .ok (.aload_n 0, 1) := dk_42 (dk_at dksX2_codeAt_0 0 rfl rfl)
theorem dX2_codeAt_1 : decode cX2_codeAt 1 = .ok (.getfield 94, 3) := dk_180 0 94 (dk_at dksX2_codeAt_0 1 rfl rfl)
theorem dX2_codeAt_4 : decode cX2_codeAt 4 = .ok (.iload_n 2, 1) := dk_28 (dk_at dksX2_codeAt_0 4 rfl rfl)
theorem dX2_codeAt_5 : decode cX2_codeAt 5 = .ok (.if_icmp .ge 17, 3) := dk_162 0 17 (dk_at dksX2_codeAt_0 5 rfl rfl)
theorem dX2_codeAt_8 : decode cX2_codeAt 8 = .ok (.aload_n 0, 1) := dk_42 (dk_at dksX2_codeAt_0 8 rfl rfl)
theorem dX2_codeAt_9 : decode cX2_codeAt 9 = .ok (.getfield 71, 3) := dk_180 0 71 (dk_at dksX2_codeAt_0 9 rfl rfl)
theorem dX2_codeAt_12 : decode cX2_codeAt 12 = .ok (.iload_n 1, 1) := dk_27 (dk_at dksX2_codeAt_0 12 rfl rfl)
theorem dX2_codeAt_13 : decode cX2_codeAt 13 = .ok (.aload_n 0, 1) := dk_42 (dk_at dksX2_codeAt_0 13 rfl rfl)
theorem dX2_codeAt_14 : decode cX2_codeAt 14 = .ok (.getfield 94, 3) := dk_180 0 94 (dk_at dksX2_codeAt_0 14 rfl rfl)
theorem dX2_codeAt_17 : decode cX2_codeAt 17 = .ok (.iadd, 1) := dk_96 (dk_at dksX2_codeAt_0 17 rfl rfl)
theorem dX2_codeAt_18 : decode cX2_codeAt 18 = .ok (.iaload, 1) := dk_46 (dk_at dksX2_codeAt_0 18 rfl rfl)
theorem dX2_codeAt_19 : decode cX2_codeAt 19 = .ok (.goto 5, 3) := dk_167 0 5 (dk_at dksX2_codeAt_0 19 rfl rfl)
theorem dX2_codeAt_22 : decode cX2_codeAt 22 = .ok (.bipush (-9), 2) := dk_16 247 (dk_at dksX2_codeAt_0 22 rfl rfl)
theorem dX2_codeAt_24 : decode cX2_codeAt 24 = .ok (.ireturn, 1) := dk_172 (dk_at dksX2_codeAt_1 0 rfl rfl)
abbrev cX2_readsPerson : ByteArray := prog_8_method_11_code
def yX2_readsPerson : MethodName := ⟨RX2, "readsPerson", "(II)Z"⟩
def dkwX2_readsPerson_10 : List UInt8 := [181, 0, 101, 4, 172]
abbrev dktX2_readsPerson_10 : List UInt8 := dkwX2_readsPerson_10 ++ []
def dkwX2_readsPerson_9 : List UInt8 := [180, 0, 101, 21, 6, 79, 42, 180, 0, 31, 42, 180, 0, 101, 21, 7, 79, 42, 89, 180, 0, 101, 4, 96]
abbrev dktX2_readsPerson_9 : List UInt8 := dkwX2_readsPerson_9 ++ dktX2_readsPerson_10
def dkwX2_readsPerson_8 : List UInt8 := [79, 42, 180, 0, 25, 42, 180, 0, 101, 16, 10, 21, 4, 104, 21, 5, 96, 79, 42, 180, 0, 28, 42]
abbrev dktX2_readsPerson_8 : List UInt8 := dkwX2_readsPerson_8 ++ dktX2_readsPerson_9
def dkwX2_readsPerson_7 : List UInt8 := [180, 0, 101, 29, 16, 99, 160, 0, 7, 3, 167, 0, 14, 29, 16, 115, 160, 0, 7, 4, 167, 0, 4, 5]
abbrev dktX2_readsPerson_7 : List UInt8 := dkwX2_readsPerson_7 ++ dktX2_readsPerson_8
def dkwX2_readsPerson_6 : List UInt8 := [42, 27, 28, 4, 16, 9, 182, 0, 104, 54, 7, 21, 7, 156, 0, 5, 3, 172, 42, 180, 0, 22, 42]
abbrev dktX2_readsPerson_6 : List UInt8 := dkwX2_readsPerson_6 ++ dktX2_readsPerson_7
def dkwX2_readsPerson_5 : List UInt8 := [167, 0, 12, 42, 27, 28, 3, 16, 6, 182, 0, 104, 54, 6, 21, 6, 156, 0, 8, 16, 247, 167, 0, 12]
abbrev dktX2_readsPerson_5 : List UInt8 := dkwX2_readsPerson_5 ++ dktX2_readsPerson_6
def dkwX2_readsPerson_4 : List UInt8 := [16, 6, 160, 0, 7, 6, 167, 0, 5, 16, 9, 182, 0, 104, 54, 5, 21, 5, 156, 0, 8, 16, 247]
abbrev dktX2_readsPerson_4 : List UInt8 := dkwX2_readsPerson_4 ++ dktX2_readsPerson_5
def dkwX2_readsPerson_3 : List UInt8 := [3, 16, 6, 182, 0, 104, 54, 4, 21, 4, 156, 0, 8, 16, 247, 167, 0, 23, 42, 27, 28, 3, 21, 4]
abbrev dktX2_readsPerson_3 : List UInt8 := dkwX2_readsPerson_3 ++ dktX2_readsPerson_4
def dkwX2_readsPerson_2 : List UInt8 := [159, 0, 11, 29, 16, 116, 159, 0, 5, 3, 172, 42, 89, 180, 0, 94, 4, 96, 181, 0, 94, 42, 27, 28]
abbrev dktX2_readsPerson_2 : List UInt8 := dkwX2_readsPerson_2 ++ dktX2_readsPerson_3
def dkwX2_readsPerson_1 : List UInt8 := [180, 0, 94, 4, 96, 181, 0, 94, 42, 27, 28, 182, 0, 97, 62, 29, 16, 99, 159, 0, 17, 29, 16, 115]
abbrev dktX2_readsPerson_1 : List UInt8 := dkwX2_readsPerson_1 ++ dktX2_readsPerson_2
def dkwX2_readsPerson_0 : List UInt8 := [42, 180, 0, 101, 16, 6, 159, 0, 14, 42, 27, 28, 182, 0, 97, 16, 59, 159, 0, 5, 3, 172, 42, 89]
abbrev dktX2_readsPerson_0 : List UInt8 := dkwX2_readsPerson_0 ++ dktX2_readsPerson_1
theorem dksX2_readsPerson_0 : cX2_readsPerson.data.toList.drop 0 = dktX2_readsPerson_0 := by decide +kernel
theorem dksX2_readsPerson_1 : cX2_readsPerson.data.toList.drop 24 = dktX2_readsPerson_1 := dk_seg dksX2_readsPerson_0 24 rfl rfl
theorem dksX2_readsPerson_2 : cX2_readsPerson.data.toList.drop 48 = dktX2_readsPerson_2 := dk_seg dksX2_readsPerson_1 24 rfl rfl
theorem dksX2_readsPerson_3 : cX2_readsPerson.data.toList.drop 72 = dktX2_readsPerson_3 := dk_seg dksX2_readsPerson_2 24 rfl rfl
theorem dksX2_readsPerson_4 : cX2_readsPerson.data.toList.drop 96 = dktX2_readsPerson_4 := dk_seg dksX2_readsPerson_3 24 rfl rfl
theorem dksX2_readsPerson_5 : cX2_readsPerson.data.toList.drop 119 = dktX2_readsPerson_5 := dk_seg dksX2_readsPerson_4 23 rfl rfl
theorem dksX2_readsPerson_6 : cX2_readsPerson.data.toList.drop 143 = dktX2_readsPerson_6 := dk_seg dksX2_readsPerson_5 24 rfl rfl
theorem dksX2_readsPerson_7 : cX2_readsPerson.data.toList.drop 166 = dktX2_readsPerson_7 := dk_seg dksX2_readsPerson_6 23 rfl rfl
theorem dksX2_readsPerson_8 : cX2_readsPerson.data.toList.drop 190 = dktX2_readsPerson_8 := dk_seg dksX2_readsPerson_7 24 rfl rfl
theorem dksX2_readsPerson_9 : cX2_readsPerson.data.toList.drop 213 = dktX2_readsPerson_9 := dk_seg dksX2_readsPerson_8 23 rfl rfl
theorem dksX2_readsPerson_10 : cX2_readsPerson.data.toList.drop 237 = dktX2_readsPerson_10 := dk_seg dksX2_readsPerson_9 24 rfl rfl
theorem dX2_readsPerson_0 : decode cX2_readsPerson 0 = .ok (.aload_n 0, 1) := dk_42 (dk_at dksX2_readsPerson_0 0 rfl rfl)
theorem dX2_readsPerson_1 : decode cX2_readsPerson 1 = .ok (.getfield 101, 3) := dk_180 0 101 (dk_at dksX2_readsPerson_0 1 rfl rfl)
theorem dX2_readsPerson_4 : decode cX2_readsPerson 4 = .ok (.bipush 6, 2) := dk_16 6 (dk_at dksX2_readsPerson_0 4 rfl rfl)
theorem dX2_readsPerson_6 : decode cX2_readsPerson 6 = .ok (.if_icmp .eq 14, 3) := dk_159 0 14 (dk_at dksX2_readsPerson_0 6 rfl rfl)
theorem dX2_readsPerson_9 : decode cX2_readsPerson 9 = .ok (.aload_n 0, 1) := dk_42 (dk_at dksX2_readsPerson_0 9 rfl rfl)
theorem dX2_readsPerson_10 : decode cX2_readsPerson 10 = .ok (.iload_n 1, 1) := dk_27 (dk_at dksX2_readsPerson_0 10 rfl rfl)
theorem dX2_readsPerson_11 : decode cX2_readsPerson 11 = .ok (.iload_n 2, 1) := dk_28 (dk_at dksX2_readsPerson_0 11 rfl rfl)
theorem dX2_readsPerson_12 : decode cX2_readsPerson 12 = .ok (.invokevirtual 97, 3) := dk_182 0 97 (dk_at dksX2_readsPerson_0 12 rfl rfl)
theorem dX2_readsPerson_15 : decode cX2_readsPerson 15 = .ok (.bipush 59, 2) := dk_16 59 (dk_at dksX2_readsPerson_0 15 rfl rfl)
theorem dX2_readsPerson_17 : decode cX2_readsPerson 17 = .ok (.if_icmp .eq 5, 3) := dk_159 0 5 (dk_at dksX2_readsPerson_0 17 rfl rfl)
theorem dX2_readsPerson_20 : decode cX2_readsPerson 20 = .ok (.iconst 0, 1) := dk_3 (dk_at dksX2_readsPerson_0 20 rfl rfl)
theorem dX2_readsPerson_21 : decode cX2_readsPerson 21 = .ok (.ireturn, 1) := dk_172 (dk_at dksX2_readsPerson_0 21 rfl rfl)
theorem dX2_readsPerson_22 : decode cX2_readsPerson 22 = .ok (.aload_n 0, 1) := dk_42 (dk_at dksX2_readsPerson_0 22 rfl rfl)
theorem dX2_readsPerson_23 : decode cX2_readsPerson 23 = .ok (.dup, 1) := dk_89 (dk_at dksX2_readsPerson_0 23 rfl rfl)
theorem dX2_readsPerson_24 : decode cX2_readsPerson 24 = .ok (.getfield 94, 3) := dk_180 0 94 (dk_at dksX2_readsPerson_1 0 rfl rfl)
theorem dX2_readsPerson_27 : decode cX2_readsPerson 27 = .ok (.iconst 1, 1) := dk_4 (dk_at dksX2_readsPerson_1 3 rfl rfl)
theorem dX2_readsPerson_28 : decode cX2_readsPerson 28 = .ok (.iadd, 1) := dk_96 (dk_at dksX2_readsPerson_1 4 rfl rfl)
theorem dX2_readsPerson_29 : decode cX2_readsPerson 29 = .ok (.putfield 94, 3) := dk_181 0 94 (dk_at dksX2_readsPerson_1 5 rfl rfl)
theorem dX2_readsPerson_32 : decode cX2_readsPerson 32 = .ok (.aload_n 0, 1) := dk_42 (dk_at dksX2_readsPerson_1 8 rfl rfl)
theorem dX2_readsPerson_33 : decode cX2_readsPerson 33 = .ok (.iload_n 1, 1) := dk_27 (dk_at dksX2_readsPerson_1 9 rfl rfl)
theorem dX2_readsPerson_34 : decode cX2_readsPerson 34 = .ok (.iload_n 2, 1) := dk_28 (dk_at dksX2_readsPerson_1 10 rfl rfl)
theorem dX2_readsPerson_35 : decode cX2_readsPerson 35 = .ok (.invokevirtual 97, 3) := dk_182 0 97 (dk_at dksX2_readsPerson_1 11 rfl rfl)
theorem dX2_readsPerson_38 : decode cX2_readsPerson 38 = .ok (.istore_n 3, 1) := dk_62 (dk_at dksX2_readsPerson_1 14 rfl rfl)
theorem dX2_readsPerson_39 : decode cX2_readsPerson 39 = .ok (.iload_n 3, 1) := dk_29 (dk_at dksX2_readsPerson_1 15 rfl rfl)
theorem dX2_readsPerson_40 : decode cX2_readsPerson 40 = .ok (.bipush 99, 2) := dk_16 99 (dk_at dksX2_readsPerson_1 16 rfl rfl)
theorem dX2_readsPerson_42 : decode cX2_readsPerson 42 = .ok (.if_icmp .eq 17, 3) := dk_159 0 17 (dk_at dksX2_readsPerson_1 18 rfl rfl)
theorem dX2_readsPerson_45 : decode cX2_readsPerson 45 = .ok (.iload_n 3, 1) := dk_29 (dk_at dksX2_readsPerson_1 21 rfl rfl)
theorem dX2_readsPerson_46 : decode cX2_readsPerson 46 = .ok (.bipush 115, 2) := dk_16 115 (dk_at dksX2_readsPerson_1 22 rfl rfl)
theorem dX2_readsPerson_48 : decode cX2_readsPerson 48 = .ok (.if_icmp .eq 11, 3) := dk_159 0 11 (dk_at dksX2_readsPerson_2 0 rfl rfl)
theorem dX2_readsPerson_51 : decode cX2_readsPerson 51 = .ok (.iload_n 3, 1) := dk_29 (dk_at dksX2_readsPerson_2 3 rfl rfl)
theorem dX2_readsPerson_52 : decode cX2_readsPerson 52 = .ok (.bipush 116, 2) := dk_16 116 (dk_at dksX2_readsPerson_2 4 rfl rfl)
theorem dX2_readsPerson_54 : decode cX2_readsPerson 54 = .ok (.if_icmp .eq 5, 3) := dk_159 0 5 (dk_at dksX2_readsPerson_2 6 rfl rfl)
theorem dX2_readsPerson_57 : decode cX2_readsPerson 57 = .ok (.iconst 0, 1) := dk_3 (dk_at dksX2_readsPerson_2 9 rfl rfl)
theorem dX2_readsPerson_58 : decode cX2_readsPerson 58 = .ok (.ireturn, 1) := dk_172 (dk_at dksX2_readsPerson_2 10 rfl rfl)
theorem dX2_readsPerson_59 : decode cX2_readsPerson 59 = .ok (.aload_n 0, 1) := dk_42 (dk_at dksX2_readsPerson_2 11 rfl rfl)
theorem dX2_readsPerson_60 : decode cX2_readsPerson 60 = .ok (.dup, 1) := dk_89 (dk_at dksX2_readsPerson_2 12 rfl rfl)
theorem dX2_readsPerson_61 : decode cX2_readsPerson 61 = .ok (.getfield 94, 3) := dk_180 0 94 (dk_at dksX2_readsPerson_2 13 rfl rfl)
theorem dX2_readsPerson_64 : decode cX2_readsPerson 64 = .ok (.iconst 1, 1) := dk_4 (dk_at dksX2_readsPerson_2 16 rfl rfl)
theorem dX2_readsPerson_65 : decode cX2_readsPerson 65 = .ok (.iadd, 1) := dk_96 (dk_at dksX2_readsPerson_2 17 rfl rfl)
theorem dX2_readsPerson_66 : decode cX2_readsPerson 66 = .ok (.putfield 94, 3) := dk_181 0 94 (dk_at dksX2_readsPerson_2 18 rfl rfl)
theorem dX2_readsPerson_69 : decode cX2_readsPerson 69 = .ok (.aload_n 0, 1) := dk_42 (dk_at dksX2_readsPerson_2 21 rfl rfl)
theorem dX2_readsPerson_70 : decode cX2_readsPerson 70 = .ok (.iload_n 1, 1) := dk_27 (dk_at dksX2_readsPerson_2 22 rfl rfl)
theorem dX2_readsPerson_71 : decode cX2_readsPerson 71 = .ok (.iload_n 2, 1) := dk_28 (dk_at dksX2_readsPerson_2 23 rfl rfl)
theorem dX2_readsPerson_72 : decode cX2_readsPerson 72 = .ok (.iconst 0, 1) := dk_3 (dk_at dksX2_readsPerson_3 0 rfl rfl)
theorem dX2_readsPerson_73 : decode cX2_readsPerson 73 = .ok (.bipush 6, 2) := dk_16 6 (dk_at dksX2_readsPerson_3 1 rfl rfl)
theorem dX2_readsPerson_75 : decode cX2_readsPerson 75 = .ok (.invokevirtual 104, 3) := dk_182 0 104 (dk_at dksX2_readsPerson_3 3 rfl rfl)
theorem dX2_readsPerson_78 : decode cX2_readsPerson 78 = .ok (.istore 4, 2) := dk_54 4 (dk_at dksX2_readsPerson_3 6 rfl rfl)
theorem dX2_readsPerson_80 : decode cX2_readsPerson 80 = .ok (.iload 4, 2) := dk_21 4 (dk_at dksX2_readsPerson_3 8 rfl rfl)
theorem dX2_readsPerson_82 : decode cX2_readsPerson 82 = .ok (.ifCond .ge 8, 3) := dk_156 0 8 (dk_at dksX2_readsPerson_3 10 rfl rfl)
theorem dX2_readsPerson_85 : decode cX2_readsPerson 85 = .ok (.bipush (-9), 2) := dk_16 247 (dk_at dksX2_readsPerson_3 13 rfl rfl)
theorem dX2_readsPerson_87 : decode cX2_readsPerson 87 = .ok (.goto 23, 3) := dk_167 0 23 (dk_at dksX2_readsPerson_3 15 rfl rfl)
theorem dX2_readsPerson_90 : decode cX2_readsPerson 90 = .ok (.aload_n 0, 1) := dk_42 (dk_at dksX2_readsPerson_3 18 rfl rfl)
theorem dX2_readsPerson_91 : decode cX2_readsPerson 91 = .ok (.iload_n 1, 1) := dk_27 (dk_at dksX2_readsPerson_3 19 rfl rfl)
theorem dX2_readsPerson_92 : decode cX2_readsPerson 92 = .ok (.iload_n 2, 1) := dk_28 (dk_at dksX2_readsPerson_3 20 rfl rfl)
theorem dX2_readsPerson_93 : decode cX2_readsPerson 93 = .ok (.iconst 0, 1) := dk_3 (dk_at dksX2_readsPerson_3 21 rfl rfl)
theorem dX2_readsPerson_94 : decode cX2_readsPerson 94 = .ok (.iload 4, 2) := dk_21 4 (dk_at dksX2_readsPerson_3 22 rfl rfl)
theorem dX2_readsPerson_96 : decode cX2_readsPerson 96 = .ok (.bipush 6, 2) := dk_16 6 (dk_at dksX2_readsPerson_4 0 rfl rfl)
theorem dX2_readsPerson_98 : decode cX2_readsPerson 98 = .ok (.if_icmp .ne 7, 3) := dk_160 0 7 (dk_at dksX2_readsPerson_4 2 rfl rfl)
theorem dX2_readsPerson_101 : decode cX2_readsPerson 101 = .ok (.iconst 3, 1) := dk_6 (dk_at dksX2_readsPerson_4 5 rfl rfl)
theorem dX2_readsPerson_102 : decode cX2_readsPerson 102 = .ok (.goto 5, 3) := dk_167 0 5 (dk_at dksX2_readsPerson_4 6 rfl rfl)
theorem dX2_readsPerson_105 : decode cX2_readsPerson 105 = .ok (.bipush 9, 2) := dk_16 9 (dk_at dksX2_readsPerson_4 9 rfl rfl)
theorem dX2_readsPerson_107 : decode cX2_readsPerson 107 = .ok (.invokevirtual 104, 3) := dk_182 0 104 (dk_at dksX2_readsPerson_4 11 rfl rfl)
theorem dX2_readsPerson_110 : decode cX2_readsPerson 110 = .ok (.istore 5, 2) := dk_54 5 (dk_at dksX2_readsPerson_4 14 rfl rfl)
theorem dX2_readsPerson_112 : decode cX2_readsPerson 112 = .ok (.iload 5, 2) := dk_21 5 (dk_at dksX2_readsPerson_4 16 rfl rfl)
theorem dX2_readsPerson_114 : decode cX2_readsPerson 114 = .ok (.ifCond .ge 8, 3) := dk_156 0 8 (dk_at dksX2_readsPerson_4 18 rfl rfl)
theorem dX2_readsPerson_117 : decode cX2_readsPerson 117 = .ok (.bipush (-9), 2) := dk_16 247 (dk_at dksX2_readsPerson_4 21 rfl rfl)
theorem dX2_readsPerson_119 : decode cX2_readsPerson 119 = .ok (.goto 12, 3) := dk_167 0 12 (dk_at dksX2_readsPerson_5 0 rfl rfl)
theorem dX2_readsPerson_122 : decode cX2_readsPerson 122 = .ok (.aload_n 0, 1) := dk_42 (dk_at dksX2_readsPerson_5 3 rfl rfl)
theorem dX2_readsPerson_123 : decode cX2_readsPerson 123 = .ok (.iload_n 1, 1) := dk_27 (dk_at dksX2_readsPerson_5 4 rfl rfl)
theorem dX2_readsPerson_124 : decode cX2_readsPerson 124 = .ok (.iload_n 2, 1) := dk_28 (dk_at dksX2_readsPerson_5 5 rfl rfl)
theorem dX2_readsPerson_125 : decode cX2_readsPerson 125 = .ok (.iconst 0, 1) := dk_3 (dk_at dksX2_readsPerson_5 6 rfl rfl)
theorem dX2_readsPerson_126 : decode cX2_readsPerson 126 = .ok (.bipush 6, 2) := dk_16 6 (dk_at dksX2_readsPerson_5 7 rfl rfl)
theorem dX2_readsPerson_128 : decode cX2_readsPerson 128 = .ok (.invokevirtual 104, 3) := dk_182 0 104 (dk_at dksX2_readsPerson_5 9 rfl rfl)
theorem dX2_readsPerson_131 : decode cX2_readsPerson 131 = .ok (.istore 6, 2) := dk_54 6 (dk_at dksX2_readsPerson_5 12 rfl rfl)
theorem dX2_readsPerson_133 : decode cX2_readsPerson 133 = .ok (.iload 6, 2) := dk_21 6 (dk_at dksX2_readsPerson_5 14 rfl rfl)
theorem dX2_readsPerson_135 : decode cX2_readsPerson 135 = .ok (.ifCond .ge 8, 3) := dk_156 0 8 (dk_at dksX2_readsPerson_5 16 rfl rfl)
theorem dX2_readsPerson_138 : decode cX2_readsPerson 138 = .ok (.bipush (-9), 2) := dk_16 247 (dk_at dksX2_readsPerson_5 19 rfl rfl)
theorem dX2_readsPerson_140 : decode cX2_readsPerson 140 = .ok (.goto 12, 3) := dk_167 0 12 (dk_at dksX2_readsPerson_5 21 rfl rfl)
theorem dX2_readsPerson_143 : decode cX2_readsPerson 143 = .ok (.aload_n 0, 1) := dk_42 (dk_at dksX2_readsPerson_6 0 rfl rfl)
theorem dX2_readsPerson_144 : decode cX2_readsPerson 144 = .ok (.iload_n 1, 1) := dk_27 (dk_at dksX2_readsPerson_6 1 rfl rfl)
theorem dX2_readsPerson_145 : decode cX2_readsPerson 145 = .ok (.iload_n 2, 1) := dk_28 (dk_at dksX2_readsPerson_6 2 rfl rfl)
theorem dX2_readsPerson_146 : decode cX2_readsPerson 146 = .ok (.iconst 1, 1) := dk_4 (dk_at dksX2_readsPerson_6 3 rfl rfl)
theorem dX2_readsPerson_147 : decode cX2_readsPerson 147 = .ok (.bipush 9, 2) := dk_16 9 (dk_at dksX2_readsPerson_6 4 rfl rfl)
theorem dX2_readsPerson_149 : decode cX2_readsPerson 149 = .ok (.invokevirtual 104, 3) := dk_182 0 104 (dk_at dksX2_readsPerson_6 6 rfl rfl)
theorem dX2_readsPerson_152 : decode cX2_readsPerson 152 = .ok (.istore 7, 2) := dk_54 7 (dk_at dksX2_readsPerson_6 9 rfl rfl)
theorem dX2_readsPerson_154 : decode cX2_readsPerson 154 = .ok (.iload 7, 2) := dk_21 7 (dk_at dksX2_readsPerson_6 11 rfl rfl)
theorem dX2_readsPerson_156 : decode cX2_readsPerson 156 = .ok (.ifCond .ge 5, 3) := dk_156 0 5 (dk_at dksX2_readsPerson_6 13 rfl rfl)
theorem dX2_readsPerson_159 : decode cX2_readsPerson 159 = .ok (.iconst 0, 1) := dk_3 (dk_at dksX2_readsPerson_6 16 rfl rfl)
theorem dX2_readsPerson_160 : decode cX2_readsPerson 160 = .ok (.ireturn, 1) := dk_172 (dk_at dksX2_readsPerson_6 17 rfl rfl)
theorem dX2_readsPerson_161 : decode cX2_readsPerson 161 = .ok (.aload_n 0, 1) := dk_42 (dk_at dksX2_readsPerson_6 18 rfl rfl)
theorem dX2_readsPerson_162 : decode cX2_readsPerson 162 = .ok (.getfield 22, 3) := dk_180 0 22 (dk_at dksX2_readsPerson_6 19 rfl rfl)
theorem dX2_readsPerson_165 : decode cX2_readsPerson 165 = .ok (.aload_n 0, 1) := dk_42 (dk_at dksX2_readsPerson_6 22 rfl rfl)
theorem dX2_readsPerson_166 : decode cX2_readsPerson 166 = .ok (.getfield 101, 3) := dk_180 0 101 (dk_at dksX2_readsPerson_7 0 rfl rfl)
theorem dX2_readsPerson_169 : decode cX2_readsPerson 169 = .ok (.iload_n 3, 1) := dk_29 (dk_at dksX2_readsPerson_7 3 rfl rfl)
theorem dX2_readsPerson_170 : decode cX2_readsPerson 170 = .ok (.bipush 99, 2) := dk_16 99 (dk_at dksX2_readsPerson_7 4 rfl rfl)
theorem dX2_readsPerson_172 : decode cX2_readsPerson 172 = .ok (.if_icmp .ne 7, 3) := dk_160 0 7 (dk_at dksX2_readsPerson_7 6 rfl rfl)
theorem dX2_readsPerson_175 : decode cX2_readsPerson 175 = .ok (.iconst 0, 1) := dk_3 (dk_at dksX2_readsPerson_7 9 rfl rfl)
theorem dX2_readsPerson_176 : decode cX2_readsPerson 176 = .ok (.goto 14, 3) := dk_167 0 14 (dk_at dksX2_readsPerson_7 10 rfl rfl)
theorem dX2_readsPerson_179 : decode cX2_readsPerson 179 = .ok (.iload_n 3, 1) := dk_29 (dk_at dksX2_readsPerson_7 13 rfl rfl)
theorem dX2_readsPerson_180 : decode cX2_readsPerson 180 = .ok (.bipush 115, 2) := dk_16 115 (dk_at dksX2_readsPerson_7 14 rfl rfl)
theorem dX2_readsPerson_182 : decode cX2_readsPerson 182 = .ok (.if_icmp .ne 7, 3) := dk_160 0 7 (dk_at dksX2_readsPerson_7 16 rfl rfl)
theorem dX2_readsPerson_185 : decode cX2_readsPerson 185 = .ok (.iconst 1, 1) := dk_4 (dk_at dksX2_readsPerson_7 19 rfl rfl)
theorem dX2_readsPerson_186 : decode cX2_readsPerson 186 = .ok (.goto 4, 3) := dk_167 0 4 (dk_at dksX2_readsPerson_7 20 rfl rfl)
theorem dX2_readsPerson_189 : decode cX2_readsPerson 189 = .ok (.iconst 2, 1) := dk_5 (dk_at dksX2_readsPerson_7 23 rfl rfl)
theorem dX2_readsPerson_190 : decode cX2_readsPerson 190 = .ok (.iastore, 1) := dk_79 (dk_at dksX2_readsPerson_8 0 rfl rfl)
theorem dX2_readsPerson_191 : decode cX2_readsPerson 191 = .ok (.aload_n 0, 1) := dk_42 (dk_at dksX2_readsPerson_8 1 rfl rfl)
theorem dX2_readsPerson_192 : decode cX2_readsPerson 192 = .ok (.getfield 25, 3) := dk_180 0 25 (dk_at dksX2_readsPerson_8 2 rfl rfl)
theorem dX2_readsPerson_195 : decode cX2_readsPerson 195 = .ok (.aload_n 0, 1) := dk_42 (dk_at dksX2_readsPerson_8 5 rfl rfl)
theorem dX2_readsPerson_196 : decode cX2_readsPerson 196 = .ok (.getfield 101, 3) := dk_180 0 101 (dk_at dksX2_readsPerson_8 6 rfl rfl)
theorem dX2_readsPerson_199 : decode cX2_readsPerson 199 = .ok (.bipush 10, 2) := dk_16 10 (dk_at dksX2_readsPerson_8 9 rfl rfl)
theorem dX2_readsPerson_201 : decode cX2_readsPerson 201 = .ok (.iload 4, 2) := dk_21 4 (dk_at dksX2_readsPerson_8 11 rfl rfl)
theorem dX2_readsPerson_203 : decode cX2_readsPerson 203 = .ok (.imul, 1) := dk_104 (dk_at dksX2_readsPerson_8 13 rfl rfl)
theorem dX2_readsPerson_204 : decode cX2_readsPerson 204 = .ok (.iload 5, 2) := dk_21 5 (dk_at dksX2_readsPerson_8 14 rfl rfl)
theorem dX2_readsPerson_206 : decode cX2_readsPerson 206 = .ok (.iadd, 1) := dk_96 (dk_at dksX2_readsPerson_8 16 rfl rfl)
theorem dX2_readsPerson_207 : decode cX2_readsPerson 207 = .ok (.iastore, 1) := dk_79 (dk_at dksX2_readsPerson_8 17 rfl rfl)
theorem dX2_readsPerson_208 : decode cX2_readsPerson 208 = .ok (.aload_n 0, 1) := dk_42 (dk_at dksX2_readsPerson_8 18 rfl rfl)
theorem dX2_readsPerson_209 : decode cX2_readsPerson 209 = .ok (.getfield 28, 3) := dk_180 0 28 (dk_at dksX2_readsPerson_8 19 rfl rfl)
theorem dX2_readsPerson_212 : decode cX2_readsPerson 212 = .ok (.aload_n 0, 1) := dk_42 (dk_at dksX2_readsPerson_8 22 rfl rfl)
theorem dX2_readsPerson_213 : decode cX2_readsPerson 213 = .ok (.getfield 101, 3) := dk_180 0 101 (dk_at dksX2_readsPerson_9 0 rfl rfl)
theorem dX2_readsPerson_216 : decode cX2_readsPerson 216 = .ok (.iload 6, 2) := dk_21 6 (dk_at dksX2_readsPerson_9 3 rfl rfl)
theorem dX2_readsPerson_218 : decode cX2_readsPerson 218 = .ok (.iastore, 1) := dk_79 (dk_at dksX2_readsPerson_9 5 rfl rfl)
theorem dX2_readsPerson_219 : decode cX2_readsPerson 219 = .ok (.aload_n 0, 1) := dk_42 (dk_at dksX2_readsPerson_9 6 rfl rfl)
theorem dX2_readsPerson_220 : decode cX2_readsPerson 220 = .ok (.getfield 31, 3) := dk_180 0 31 (dk_at dksX2_readsPerson_9 7 rfl rfl)
theorem dX2_readsPerson_223 : decode cX2_readsPerson 223 = .ok (.aload_n 0, 1) := dk_42 (dk_at dksX2_readsPerson_9 10 rfl rfl)
theorem dX2_readsPerson_224 : decode cX2_readsPerson 224 = .ok (.getfield 101, 3) := dk_180 0 101 (dk_at dksX2_readsPerson_9 11 rfl rfl)
theorem dX2_readsPerson_227 : decode cX2_readsPerson 227 = .ok (.iload 7, 2) := dk_21 7 (dk_at dksX2_readsPerson_9 14 rfl rfl)
theorem dX2_readsPerson_229 : decode cX2_readsPerson 229 = .ok (.iastore, 1) := dk_79 (dk_at dksX2_readsPerson_9 16 rfl rfl)
theorem dX2_readsPerson_230 : decode cX2_readsPerson 230 = .ok (.aload_n 0, 1) := dk_42 (dk_at dksX2_readsPerson_9 17 rfl rfl)
theorem dX2_readsPerson_231 : decode cX2_readsPerson 231 = .ok (.dup, 1) := dk_89 (dk_at dksX2_readsPerson_9 18 rfl rfl)
theorem dX2_readsPerson_232 : decode cX2_readsPerson 232 = .ok (.getfield 101, 3) := dk_180 0 101 (dk_at dksX2_readsPerson_9 19 rfl rfl)
theorem dX2_readsPerson_235 : decode cX2_readsPerson 235 = .ok (.iconst 1, 1) := dk_4 (dk_at dksX2_readsPerson_9 22 rfl rfl)
theorem dX2_readsPerson_236 : decode cX2_readsPerson 236 = .ok (.iadd, 1) := dk_96 (dk_at dksX2_readsPerson_9 23 rfl rfl)
theorem dX2_readsPerson_237 : decode cX2_readsPerson 237 = .ok (.putfield 101, 3) := dk_181 0 101 (dk_at dksX2_readsPerson_10 0 rfl rfl)
theorem dX2_readsPerson_240 : decode cX2_readsPerson 240 = .ok (.iconst 1, 1) := dk_4 (dk_at dksX2_readsPerson_10 3 rfl rfl)
theorem dX2_readsPerson_241 : decode cX2_readsPerson 241 = .ok (.ireturn, 1) := dk_172 (dk_at dksX2_readsPerson_10 4 rfl rfl)
abbrev cX2_figure : ByteArray := prog_8_method_10_code
def yX2_figure : MethodName := ⟨RX2, "figure", "(IIII)I"⟩
def dkwX2_figure_2 : List UInt8 := [21, 5, 167, 0, 5, 16, 247, 172]
abbrev dktX2_figure_2 : List UInt8 := dkwX2_figure_2 ++ []
def dkwX2_figure_1 : List UInt8 := [42, 89, 180, 0, 94, 21, 6, 153, 0, 7, 4, 167, 0, 4, 3, 96, 181, 0, 94, 21, 6, 153, 0, 8]
abbrev dktX2_figure_1 : List UInt8 := dkwX2_figure_1 ++ dktX2_figure_2
def dkwX2_figure_0 : List UInt8 := [42, 27, 28, 182, 0, 97, 16, 48, 100, 54, 5, 21, 5, 133, 29, 133, 21, 4, 133, 184, 0, 90, 54, 6]
abbrev dktX2_figure_0 : List UInt8 := dkwX2_figure_0 ++ dktX2_figure_1
theorem dksX2_figure_0 : cX2_figure.data.toList.drop 0 = dktX2_figure_0 := by decide +kernel
theorem dksX2_figure_1 : cX2_figure.data.toList.drop 24 = dktX2_figure_1 := dk_seg dksX2_figure_0 24 rfl rfl
theorem dksX2_figure_2 : cX2_figure.data.toList.drop 48 = dktX2_figure_2 := dk_seg dksX2_figure_1 24 rfl rfl
theorem dX2_figure_0 : decode cX2_figure 0 = .ok (.aload_n 0, 1) := dk_42 (dk_at dksX2_figure_0 0 rfl rfl)
theorem dX2_figure_1 : decode cX2_figure 1 = .ok (.iload_n 1, 1) := dk_27 (dk_at dksX2_figure_0 1 rfl rfl)
theorem dX2_figure_2 : decode cX2_figure 2 = .ok (.iload_n 2, 1) := dk_28 (dk_at dksX2_figure_0 2 rfl rfl)
theorem dX2_figure_3 : decode cX2_figure 3 = .ok (.invokevirtual 97, 3) := dk_182 0 97 (dk_at dksX2_figure_0 3 rfl rfl)
theorem dX2_figure_6 : decode cX2_figure 6 = .ok (.bipush 48, 2) := dk_16 48 (dk_at dksX2_figure_0 6 rfl rfl)
theorem dX2_figure_8 : decode cX2_figure 8 = .ok (.isub, 1) := dk_100 (dk_at dksX2_figure_0 8 rfl rfl)
theorem dX2_figure_9 : decode cX2_figure 9 = .ok (.istore 5, 2) := dk_54 5 (dk_at dksX2_figure_0 9 rfl rfl)
theorem dX2_figure_11 : decode cX2_figure 11 = .ok (.iload 5, 2) := dk_21 5 (dk_at dksX2_figure_0 11 rfl rfl)
theorem dX2_figure_13 : decode cX2_figure 13 = .ok (.i2l, 1) := dk_133 (dk_at dksX2_figure_0 13 rfl rfl)
theorem dX2_figure_14 : decode cX2_figure 14 = .ok (.iload_n 3, 1) := dk_29 (dk_at dksX2_figure_0 14 rfl rfl)
theorem dX2_figure_15 : decode cX2_figure 15 = .ok (.i2l, 1) := dk_133 (dk_at dksX2_figure_0 15 rfl rfl)
theorem dX2_figure_16 : decode cX2_figure 16 = .ok (.iload 4, 2) := dk_21 4 (dk_at dksX2_figure_0 16 rfl rfl)
theorem dX2_figure_18 : decode cX2_figure 18 = .ok (.i2l, 1) := dk_133 (dk_at dksX2_figure_0 18 rfl rfl)
theorem dX2_figure_19 : decode cX2_figure 19 = .ok (.invokestatic 90, 3) := dk_184 0 90 (dk_at dksX2_figure_0 19 rfl rfl)
theorem dX2_figure_22 : decode cX2_figure 22 = .ok (.istore 6, 2) := dk_54 6 (dk_at dksX2_figure_0 22 rfl rfl)
theorem dX2_figure_24 : decode cX2_figure 24 = .ok (.aload_n 0, 1) := dk_42 (dk_at dksX2_figure_1 0 rfl rfl)
theorem dX2_figure_25 : decode cX2_figure 25 = .ok (.dup, 1) := dk_89 (dk_at dksX2_figure_1 1 rfl rfl)
theorem dX2_figure_26 : decode cX2_figure 26 = .ok (.getfield 94, 3) := dk_180 0 94 (dk_at dksX2_figure_1 2 rfl rfl)
theorem dX2_figure_29 : decode cX2_figure 29 = .ok (.iload 6, 2) := dk_21 6 (dk_at dksX2_figure_1 5 rfl rfl)
theorem dX2_figure_31 : decode cX2_figure 31 = .ok (.ifCond .eq 7, 3) := dk_153 0 7 (dk_at dksX2_figure_1 7 rfl rfl)
theorem dX2_figure_34 : decode cX2_figure 34 = .ok (.iconst 1, 1) := dk_4 (dk_at dksX2_figure_1 10 rfl rfl)
theorem dX2_figure_35 : decode cX2_figure 35 = .ok (.goto 4, 3) := dk_167 0 4 (dk_at dksX2_figure_1 11 rfl rfl)
theorem dX2_figure_38 : decode cX2_figure 38 = .ok (.iconst 0, 1) := dk_3 (dk_at dksX2_figure_1 14 rfl rfl)
theorem dX2_figure_39 : decode cX2_figure 39 = .ok (.iadd, 1) := dk_96 (dk_at dksX2_figure_1 15 rfl rfl)
theorem dX2_figure_40 : decode cX2_figure 40 = .ok (.putfield 94, 3) := dk_181 0 94 (dk_at dksX2_figure_1 16 rfl rfl)
theorem dX2_figure_43 : decode cX2_figure 43 = .ok (.iload 6, 2) := dk_21 6 (dk_at dksX2_figure_1 19 rfl rfl)
theorem dX2_figure_45 : decode cX2_figure 45 = .ok (.ifCond .eq 8, 3) := dk_153 0 8 (dk_at dksX2_figure_1 21 rfl rfl)
theorem dX2_figure_48 : decode cX2_figure 48 = .ok (.iload 5, 2) := dk_21 5 (dk_at dksX2_figure_2 0 rfl rfl)
theorem dX2_figure_50 : decode cX2_figure 50 = .ok (.goto 5, 3) := dk_167 0 5 (dk_at dksX2_figure_2 2 rfl rfl)
theorem dX2_figure_53 : decode cX2_figure 53 = .ok (.bipush (-9), 2) := dk_16 247 (dk_at dksX2_figure_2 5 rfl rfl)
theorem dX2_figure_55 : decode cX2_figure 55 = .ok (.ireturn, 1) := dk_172 (dk_at dksX2_figure_2 7 rfl rfl)
abbrev cX2_ofPerson : ByteArray := prog_8_method_16_code
def yX2_ofPerson : MethodName := ⟨RX2, "ofPerson", "(II)I"⟩
def dkwX2_ofPerson_3 : List UInt8 := [180, 0, 19, 27, 46, 172, 42, 27, 182, 0, 142, 172, 16, 254, 172]
abbrev dktX2_ofPerson_3 : List UInt8 := dkwX2_ofPerson_3 ++ []
def dkwX2_ofPerson_2 : List UInt8 := [42, 180, 0, 7, 27, 46, 172, 42, 180, 0, 13, 27, 46, 172, 42, 180, 0, 16, 27, 46, 172, 42]
abbrev dktX2_ofPerson_2 : List UInt8 := dkwX2_ofPerson_2 ++ dktX2_ofPerson_3
def dkwX2_ofPerson_1 : List UInt8 := [170, 0, 0, 0, 67, 0, 0, 0, 0, 0, 0, 0, 4, 0, 0, 0, 33, 0, 0, 0, 40, 0, 0, 0, 47, 0, 0, 0, 54, 0, 0, 0, 61]
abbrev dktX2_ofPerson_1 : List UInt8 := dkwX2_ofPerson_1 ++ dktX2_ofPerson_2
def dkwX2_ofPerson_0 : List UInt8 := [42, 27, 182, 0, 139, 153, 0, 5, 2, 172, 28]
abbrev dktX2_ofPerson_0 : List UInt8 := dkwX2_ofPerson_0 ++ dktX2_ofPerson_1
theorem dksX2_ofPerson_0 : cX2_ofPerson.data.toList.drop 0 = dktX2_ofPerson_0 := by decide +kernel
theorem dksX2_ofPerson_1 : cX2_ofPerson.data.toList.drop 11 = dktX2_ofPerson_1 := dk_seg dksX2_ofPerson_0 11 rfl rfl
theorem dksX2_ofPerson_2 : cX2_ofPerson.data.toList.drop 44 = dktX2_ofPerson_2 := dk_seg dksX2_ofPerson_1 33 rfl rfl
theorem dksX2_ofPerson_3 : cX2_ofPerson.data.toList.drop 66 = dktX2_ofPerson_3 := dk_seg dksX2_ofPerson_2 22 rfl rfl
theorem dX2_ofPerson_0 : decode cX2_ofPerson 0 = .ok (.aload_n 0, 1) := dk_42 (dk_at dksX2_ofPerson_0 0 rfl rfl)
theorem dX2_ofPerson_1 : decode cX2_ofPerson 1 = .ok (.iload_n 1, 1) := dk_27 (dk_at dksX2_ofPerson_0 1 rfl rfl)
theorem dX2_ofPerson_2 : decode cX2_ofPerson 2 = .ok (.invokevirtual 139, 3) := dk_182 0 139 (dk_at dksX2_ofPerson_0 2 rfl rfl)
theorem dX2_ofPerson_5 : decode cX2_ofPerson 5 = .ok (.ifCond .eq 5, 3) := dk_153 0 5 (dk_at dksX2_ofPerson_0 5 rfl rfl)
theorem dX2_ofPerson_8 : decode cX2_ofPerson 8 = .ok (.iconst (-1), 1) := dk_2 (dk_at dksX2_ofPerson_0 8 rfl rfl)
theorem dX2_ofPerson_9 : decode cX2_ofPerson 9 = .ok (.ireturn, 1) := dk_172 (dk_at dksX2_ofPerson_0 9 rfl rfl)
theorem dX2_ofPerson_10 : decode cX2_ofPerson 10 = .ok (.iload_n 2, 1) := dk_28 (dk_at dksX2_ofPerson_0 10 rfl rfl)
theorem dX2_ofPerson_11 : decode cX2_ofPerson 11 = .ok (.tableswitch 67 0 4 #[33, 40, 47, 54, 61], 33) := by decide +kernel
theorem dX2_ofPerson_44 : decode cX2_ofPerson 44 = .ok (.aload_n 0, 1) := dk_42 (dk_at dksX2_ofPerson_2 0 rfl rfl)
theorem dX2_ofPerson_45 : decode cX2_ofPerson 45 = .ok (.getfield 7, 3) := dk_180 0 7 (dk_at dksX2_ofPerson_2 1 rfl rfl)
theorem dX2_ofPerson_48 : decode cX2_ofPerson 48 = .ok (.iload_n 1, 1) := dk_27 (dk_at dksX2_ofPerson_2 4 rfl rfl)
theorem dX2_ofPerson_49 : decode cX2_ofPerson 49 = .ok (.iaload, 1) := dk_46 (dk_at dksX2_ofPerson_2 5 rfl rfl)
theorem dX2_ofPerson_50 : decode cX2_ofPerson 50 = .ok (.ireturn, 1) := dk_172 (dk_at dksX2_ofPerson_2 6 rfl rfl)
theorem dX2_ofPerson_51 : decode cX2_ofPerson 51 = .ok (.aload_n 0, 1) := dk_42 (dk_at dksX2_ofPerson_2 7 rfl rfl)
theorem dX2_ofPerson_52 : decode cX2_ofPerson 52 = .ok (.getfield 13, 3) := dk_180 0 13 (dk_at dksX2_ofPerson_2 8 rfl rfl)
theorem dX2_ofPerson_55 : decode cX2_ofPerson 55 = .ok (.iload_n 1, 1) := dk_27 (dk_at dksX2_ofPerson_2 11 rfl rfl)
theorem dX2_ofPerson_56 : decode cX2_ofPerson 56 = .ok (.iaload, 1) := dk_46 (dk_at dksX2_ofPerson_2 12 rfl rfl)
theorem dX2_ofPerson_57 : decode cX2_ofPerson 57 = .ok (.ireturn, 1) := dk_172 (dk_at dksX2_ofPerson_2 13 rfl rfl)
theorem dX2_ofPerson_58 : decode cX2_ofPerson 58 = .ok (.aload_n 0, 1) := dk_42 (dk_at dksX2_ofPerson_2 14 rfl rfl)
theorem dX2_ofPerson_59 : decode cX2_ofPerson 59 = .ok (.getfield 16, 3) := dk_180 0 16 (dk_at dksX2_ofPerson_2 15 rfl rfl)
theorem dX2_ofPerson_62 : decode cX2_ofPerson 62 = .ok (.iload_n 1, 1) := dk_27 (dk_at dksX2_ofPerson_2 18 rfl rfl)
theorem dX2_ofPerson_63 : decode cX2_ofPerson 63 = .ok (.iaload, 1) := dk_46 (dk_at dksX2_ofPerson_2 19 rfl rfl)
theorem dX2_ofPerson_64 : decode cX2_ofPerson 64 = .ok (.ireturn, 1) := dk_172 (dk_at dksX2_ofPerson_2 20 rfl rfl)
theorem dX2_ofPerson_65 : decode cX2_ofPerson 65 = .ok (.aload_n 0, 1) := dk_42 (dk_at dksX2_ofPerson_2 21 rfl rfl)
theorem dX2_ofPerson_66 : decode cX2_ofPerson 66 = .ok (.getfield 19, 3) := dk_180 0 19 (dk_at dksX2_ofPerson_3 0 rfl rfl)
theorem dX2_ofPerson_69 : decode cX2_ofPerson 69 = .ok (.iload_n 1, 1) := dk_27 (dk_at dksX2_ofPerson_3 3 rfl rfl)
theorem dX2_ofPerson_70 : decode cX2_ofPerson 70 = .ok (.iaload, 1) := dk_46 (dk_at dksX2_ofPerson_3 4 rfl rfl)
theorem dX2_ofPerson_71 : decode cX2_ofPerson 71 = .ok (.ireturn, 1) := dk_172 (dk_at dksX2_ofPerson_3 5 rfl rfl)
theorem dX2_ofPerson_72 : decode cX2_ofPerson 72 = .ok (.aload_n 0, 1) := dk_42 (dk_at dksX2_ofPerson_3 6 rfl rfl)
theorem dX2_ofPerson_73 : decode cX2_ofPerson 73 = .ok (.iload_n 1, 1) := dk_27 (dk_at dksX2_ofPerson_3 7 rfl rfl)
theorem dX2_ofPerson_74 : decode cX2_ofPerson 74 = .ok (.invokevirtual 142, 3) := dk_182 0 142 (dk_at dksX2_ofPerson_3 8 rfl rfl)
theorem dX2_ofPerson_77 : decode cX2_ofPerson 77 = .ok (.ireturn, 1) := dk_172 (dk_at dksX2_ofPerson_3 11 rfl rfl)
theorem dX2_ofPerson_78 : decode cX2_ofPerson 78 = .ok (.bipush (-2), 2) := dk_16 254 (dk_at dksX2_ofPerson_3 12 rfl rfl)
theorem dX2_ofPerson_80 : decode cX2_ofPerson 80 = .ok (.ireturn, 1) := dk_172 (dk_at dksX2_ofPerson_3 14 rfl rfl)
abbrev cX2_noPerson : ByteArray := prog_8_method_8_code
def yX2_noPerson : MethodName := ⟨RX2, "noPerson", "(I)Z"⟩
def dkwX2_noPerson_0 : List UInt8 := [27, 133, 9, 42, 180, 0, 87, 133, 10, 101, 184, 0, 90, 154, 0, 7, 4, 167, 0, 4, 3, 172]
abbrev dktX2_noPerson_0 : List UInt8 := dkwX2_noPerson_0 ++ []
theorem dksX2_noPerson_0 : cX2_noPerson.data.toList.drop 0 = dktX2_noPerson_0 := by decide +kernel
theorem dX2_noPerson_0 : decode cX2_noPerson 0 = .ok (.iload_n 1, 1) := dk_27 (dk_at dksX2_noPerson_0 0 rfl rfl)
theorem dX2_noPerson_1 : decode cX2_noPerson 1 = .ok (.i2l, 1) := dk_133 (dk_at dksX2_noPerson_0 1 rfl rfl)
theorem dX2_noPerson_2 : decode cX2_noPerson 2 = .ok (.lconst 0, 1) := dk_9 (dk_at dksX2_noPerson_0 2 rfl rfl)
theorem dX2_noPerson_3 : decode cX2_noPerson 3 = .ok (.aload_n 0, 1) := dk_42 (dk_at dksX2_noPerson_0 3 rfl rfl)
theorem dX2_noPerson_4 : decode cX2_noPerson 4 = .ok (.getfield 87, 3) := dk_180 0 87 (dk_at dksX2_noPerson_0 4 rfl rfl)
theorem dX2_noPerson_7 : decode cX2_noPerson 7 = .ok (.i2l, 1) := dk_133 (dk_at dksX2_noPerson_0 7 rfl rfl)
theorem dX2_noPerson_8 : decode cX2_noPerson 8 = .ok (.lconst 1, 1) := dk_10 (dk_at dksX2_noPerson_0 8 rfl rfl)
theorem dX2_noPerson_9 : decode cX2_noPerson 9 = .ok (.lsub, 1) := dk_101 (dk_at dksX2_noPerson_0 9 rfl rfl)
theorem dX2_noPerson_10 : decode cX2_noPerson 10 = .ok (.invokestatic 90, 3) := dk_184 0 90 (dk_at dksX2_noPerson_0 10 rfl rfl)
theorem dX2_noPerson_13 : decode cX2_noPerson 13 = .ok (.ifCond .ne 7, 3) := dk_154 0 7 (dk_at dksX2_noPerson_0 13 rfl rfl)
theorem dX2_noPerson_16 : decode cX2_noPerson 16 = .ok (.iconst 1, 1) := dk_4 (dk_at dksX2_noPerson_0 16 rfl rfl)
theorem dX2_noPerson_17 : decode cX2_noPerson 17 = .ok (.goto 4, 3) := dk_167 0 4 (dk_at dksX2_noPerson_0 17 rfl rfl)
theorem dX2_noPerson_20 : decode cX2_noPerson 20 = .ok (.iconst 0, 1) := dk_3 (dk_at dksX2_noPerson_0 20 rfl rfl)
theorem dX2_noPerson_21 : decode cX2_noPerson 21 = .ok (.ireturn, 1) := dk_172 (dk_at dksX2_noPerson_0 21 rfl rfl)
abbrev cX2_lastsOf : ByteArray := prog_8_method_15_code
def yX2_lastsOf : MethodName := ⟨RX2, "lastsOf", "(I)I"⟩
def dkwX2_lastsOf_1 : List UInt8 := [27, 46, 4, 160, 0, 9, 28, 4, 96, 167, 0, 8, 5, 28, 4, 96, 104, 172]
abbrev dktX2_lastsOf_1 : List UInt8 := dkwX2_lastsOf_1 ++ []
def dkwX2_lastsOf_0 : List UInt8 := [42, 180, 0, 19, 27, 46, 61, 42, 180, 0, 7, 27, 46, 154, 0, 7, 28, 167, 0, 24, 42, 180, 0, 7]
abbrev dktX2_lastsOf_0 : List UInt8 := dkwX2_lastsOf_0 ++ dktX2_lastsOf_1
theorem dksX2_lastsOf_0 : cX2_lastsOf.data.toList.drop 0 = dktX2_lastsOf_0 := by decide +kernel
theorem dksX2_lastsOf_1 : cX2_lastsOf.data.toList.drop 24 = dktX2_lastsOf_1 := dk_seg dksX2_lastsOf_0 24 rfl rfl
theorem dX2_lastsOf_0 : decode cX2_lastsOf 0 = .ok (.aload_n 0, 1) := dk_42 (dk_at dksX2_lastsOf_0 0 rfl rfl)
theorem dX2_lastsOf_1 : decode cX2_lastsOf 1 = .ok (.getfield 19, 3) := dk_180 0 19 (dk_at dksX2_lastsOf_0 1 rfl rfl)
theorem dX2_lastsOf_4 : decode cX2_lastsOf 4 = .ok (.iload_n 1, 1) := dk_27 (dk_at dksX2_lastsOf_0 4 rfl rfl)
theorem dX2_lastsOf_5 : decode cX2_lastsOf 5 = .ok (.iaload, 1) := dk_46 (dk_at dksX2_lastsOf_0 5 rfl rfl)
theorem dX2_lastsOf_6 : decode cX2_lastsOf 6 = .ok (.istore_n 2, 1) := dk_61 (dk_at dksX2_lastsOf_0 6 rfl rfl)
theorem dX2_lastsOf_7 : decode cX2_lastsOf 7 = .ok (.aload_n 0, 1) := dk_42 (dk_at dksX2_lastsOf_0 7 rfl rfl)
theorem dX2_lastsOf_8 : decode cX2_lastsOf 8 = .ok (.getfield 7, 3) := dk_180 0 7 (dk_at dksX2_lastsOf_0 8 rfl rfl)
theorem dX2_lastsOf_11 : decode cX2_lastsOf 11 = .ok (.iload_n 1, 1) := dk_27 (dk_at dksX2_lastsOf_0 11 rfl rfl)
theorem dX2_lastsOf_12 : decode cX2_lastsOf 12 = .ok (.iaload, 1) := dk_46 (dk_at dksX2_lastsOf_0 12 rfl rfl)
theorem dX2_lastsOf_13 : decode cX2_lastsOf 13 = .ok (.ifCond .ne 7, 3) := dk_154 0 7 (dk_at dksX2_lastsOf_0 13 rfl rfl)
theorem dX2_lastsOf_16 : decode cX2_lastsOf 16 = .ok (.iload_n 2, 1) := dk_28 (dk_at dksX2_lastsOf_0 16 rfl rfl)
theorem dX2_lastsOf_17 : decode cX2_lastsOf 17 = .ok (.goto 24, 3) := dk_167 0 24 (dk_at dksX2_lastsOf_0 17 rfl rfl)
theorem dX2_lastsOf_20 : decode cX2_lastsOf 20 = .ok (.aload_n 0, 1) := dk_42 (dk_at dksX2_lastsOf_0 20 rfl rfl)
theorem dX2_lastsOf_21 : decode cX2_lastsOf 21 = .ok (.getfield 7, 3) := dk_180 0 7 (dk_at dksX2_lastsOf_0 21 rfl rfl)
theorem dX2_lastsOf_24 : decode cX2_lastsOf 24 = .ok (.iload_n 1, 1) := dk_27 (dk_at dksX2_lastsOf_1 0 rfl rfl)
theorem dX2_lastsOf_25 : decode cX2_lastsOf 25 = .ok (.iaload, 1) := dk_46 (dk_at dksX2_lastsOf_1 1 rfl rfl)
theorem dX2_lastsOf_26 : decode cX2_lastsOf 26 = .ok (.iconst 1, 1) := dk_4 (dk_at dksX2_lastsOf_1 2 rfl rfl)
theorem dX2_lastsOf_27 : decode cX2_lastsOf 27 = .ok (.if_icmp .ne 9, 3) := dk_160 0 9 (dk_at dksX2_lastsOf_1 3 rfl rfl)
theorem dX2_lastsOf_30 : decode cX2_lastsOf 30 = .ok (.iload_n 2, 1) := dk_28 (dk_at dksX2_lastsOf_1 6 rfl rfl)
theorem dX2_lastsOf_31 : decode cX2_lastsOf 31 = .ok (.iconst 1, 1) := dk_4 (dk_at dksX2_lastsOf_1 7 rfl rfl)
theorem dX2_lastsOf_32 : decode cX2_lastsOf 32 = .ok (.iadd, 1) := dk_96 (dk_at dksX2_lastsOf_1 8 rfl rfl)
theorem dX2_lastsOf_33 : decode cX2_lastsOf 33 = .ok (.goto 8, 3) := dk_167 0 8 (dk_at dksX2_lastsOf_1 9 rfl rfl)
theorem dX2_lastsOf_36 : decode cX2_lastsOf 36 = .ok (.iconst 2, 1) := dk_5 (dk_at dksX2_lastsOf_1 12 rfl rfl)
theorem dX2_lastsOf_37 : decode cX2_lastsOf 37 = .ok (.iload_n 2, 1) := dk_28 (dk_at dksX2_lastsOf_1 13 rfl rfl)
theorem dX2_lastsOf_38 : decode cX2_lastsOf 38 = .ok (.iconst 1, 1) := dk_4 (dk_at dksX2_lastsOf_1 14 rfl rfl)
theorem dX2_lastsOf_39 : decode cX2_lastsOf 39 = .ok (.iadd, 1) := dk_96 (dk_at dksX2_lastsOf_1 15 rfl rfl)
theorem dX2_lastsOf_40 : decode cX2_lastsOf 40 = .ok (.imul, 1) := dk_104 (dk_at dksX2_lastsOf_1 16 rfl rfl)
theorem dX2_lastsOf_41 : decode cX2_lastsOf 41 = .ok (.ireturn, 1) := dk_172 (dk_at dksX2_lastsOf_1 17 rfl rfl)
abbrev cX2_live : ByteArray := prog_8_method_17_code
def yX2_live : MethodName := ⟨RX2, "live", "(II)I"⟩
def dkwX2_live_1 : List UInt8 := [172, 42, 180, 0, 13, 27, 46, 62, 42, 180, 0, 13, 27, 28, 79, 29, 172]
abbrev dktX2_live_1 : List UInt8 := dkwX2_live_1 ++ []
def dkwX2_live_0 : List UInt8 := [42, 27, 182, 0, 139, 153, 0, 5, 2, 172, 28, 133, 9, 20, 0, 145, 184, 0, 90, 154, 0, 6, 16, 254]
abbrev dktX2_live_0 : List UInt8 := dkwX2_live_0 ++ dktX2_live_1
theorem dksX2_live_0 : cX2_live.data.toList.drop 0 = dktX2_live_0 := by decide +kernel
theorem dksX2_live_1 : cX2_live.data.toList.drop 24 = dktX2_live_1 := dk_seg dksX2_live_0 24 rfl rfl
theorem dX2_live_0 : decode cX2_live 0 = .ok (.aload_n 0, 1) := dk_42 (dk_at dksX2_live_0 0 rfl rfl)
theorem dX2_live_1 : decode cX2_live 1 = .ok (.iload_n 1, 1) := dk_27 (dk_at dksX2_live_0 1 rfl rfl)
theorem dX2_live_2 : decode cX2_live 2 = .ok (.invokevirtual 139, 3) := dk_182 0 139 (dk_at dksX2_live_0 2 rfl rfl)
theorem dX2_live_5 : decode cX2_live 5 = .ok (.ifCond .eq 5, 3) := dk_153 0 5 (dk_at dksX2_live_0 5 rfl rfl)
theorem dX2_live_8 : decode cX2_live 8 = .ok (.iconst (-1), 1) := dk_2 (dk_at dksX2_live_0 8 rfl rfl)
theorem dX2_live_9 : decode cX2_live 9 = .ok (.ireturn, 1) := dk_172 (dk_at dksX2_live_0 9 rfl rfl)
theorem dX2_live_10 : decode cX2_live 10 = .ok (.iload_n 2, 1) := dk_28 (dk_at dksX2_live_0 10 rfl rfl)
theorem dX2_live_11 : decode cX2_live 11 = .ok (.i2l, 1) := dk_133 (dk_at dksX2_live_0 11 rfl rfl)
theorem dX2_live_12 : decode cX2_live 12 = .ok (.lconst 0, 1) := dk_9 (dk_at dksX2_live_0 12 rfl rfl)
theorem dX2_live_13 : decode cX2_live 13 = .ok (.ldc2_w 145, 3) := dk_20 0 145 (dk_at dksX2_live_0 13 rfl rfl)
theorem dX2_live_16 : decode cX2_live 16 = .ok (.invokestatic 90, 3) := dk_184 0 90 (dk_at dksX2_live_0 16 rfl rfl)
theorem dX2_live_19 : decode cX2_live 19 = .ok (.ifCond .ne 6, 3) := dk_154 0 6 (dk_at dksX2_live_0 19 rfl rfl)
theorem dX2_live_22 : decode cX2_live 22 = .ok (.bipush (-2), 2) := dk_16 254 (dk_at dksX2_live_0 22 rfl rfl)
theorem dX2_live_24 : decode cX2_live 24 = .ok (.ireturn, 1) := dk_172 (dk_at dksX2_live_1 0 rfl rfl)
theorem dX2_live_25 : decode cX2_live 25 = .ok (.aload_n 0, 1) := dk_42 (dk_at dksX2_live_1 1 rfl rfl)
theorem dX2_live_26 : decode cX2_live 26 = .ok (.getfield 13, 3) := dk_180 0 13 (dk_at dksX2_live_1 2 rfl rfl)
theorem dX2_live_29 : decode cX2_live 29 = .ok (.iload_n 1, 1) := dk_27 (dk_at dksX2_live_1 5 rfl rfl)
theorem dX2_live_30 : decode cX2_live 30 = .ok (.iaload, 1) := dk_46 (dk_at dksX2_live_1 6 rfl rfl)
theorem dX2_live_31 : decode cX2_live 31 = .ok (.istore_n 3, 1) := dk_62 (dk_at dksX2_live_1 7 rfl rfl)
theorem dX2_live_32 : decode cX2_live 32 = .ok (.aload_n 0, 1) := dk_42 (dk_at dksX2_live_1 8 rfl rfl)
theorem dX2_live_33 : decode cX2_live 33 = .ok (.getfield 13, 3) := dk_180 0 13 (dk_at dksX2_live_1 9 rfl rfl)
theorem dX2_live_36 : decode cX2_live 36 = .ok (.iload_n 1, 1) := dk_27 (dk_at dksX2_live_1 12 rfl rfl)
theorem dX2_live_37 : decode cX2_live 37 = .ok (.iload_n 2, 1) := dk_28 (dk_at dksX2_live_1 13 rfl rfl)
theorem dX2_live_38 : decode cX2_live 38 = .ok (.iastore, 1) := dk_79 (dk_at dksX2_live_1 14 rfl rfl)
theorem dX2_live_39 : decode cX2_live 39 = .ok (.iload_n 3, 1) := dk_29 (dk_at dksX2_live_1 15 rfl rfl)
theorem dX2_live_40 : decode cX2_live 40 = .ok (.ireturn, 1) := dk_172 (dk_at dksX2_live_1 16 rfl rfl)
abbrev cX2_want : ByteArray := prog_8_method_18_code
def yX2_want : MethodName := ⟨RX2, "want", "(II)I"⟩
def dkwX2_want_1 : List UInt8 := [172, 42, 180, 0, 16, 27, 46, 62, 42, 180, 0, 16, 27, 28, 79, 29, 172]
abbrev dktX2_want_1 : List UInt8 := dkwX2_want_1 ++ []
def dkwX2_want_0 : List UInt8 := [42, 27, 182, 0, 139, 153, 0, 5, 2, 172, 28, 133, 9, 20, 0, 147, 184, 0, 90, 154, 0, 6, 16, 254]
abbrev dktX2_want_0 : List UInt8 := dkwX2_want_0 ++ dktX2_want_1
theorem dksX2_want_0 : cX2_want.data.toList.drop 0 = dktX2_want_0 := by decide +kernel
theorem dksX2_want_1 : cX2_want.data.toList.drop 24 = dktX2_want_1 := dk_seg dksX2_want_0 24 rfl rfl
theorem dX2_want_0 : decode cX2_want 0 = .ok (.aload_n 0, 1) := dk_42 (dk_at dksX2_want_0 0 rfl rfl)
theorem dX2_want_1 : decode cX2_want 1 = .ok (.iload_n 1, 1) := dk_27 (dk_at dksX2_want_0 1 rfl rfl)
theorem dX2_want_2 : decode cX2_want 2 = .ok (.invokevirtual 139, 3) := dk_182 0 139 (dk_at dksX2_want_0 2 rfl rfl)
theorem dX2_want_5 : decode cX2_want 5 = .ok (.ifCond .eq 5, 3) := dk_153 0 5 (dk_at dksX2_want_0 5 rfl rfl)
theorem dX2_want_8 : decode cX2_want 8 = .ok (.iconst (-1), 1) := dk_2 (dk_at dksX2_want_0 8 rfl rfl)
theorem dX2_want_9 : decode cX2_want 9 = .ok (.ireturn, 1) := dk_172 (dk_at dksX2_want_0 9 rfl rfl)
theorem dX2_want_10 : decode cX2_want 10 = .ok (.iload_n 2, 1) := dk_28 (dk_at dksX2_want_0 10 rfl rfl)
theorem dX2_want_11 : decode cX2_want 11 = .ok (.i2l, 1) := dk_133 (dk_at dksX2_want_0 11 rfl rfl)
theorem dX2_want_12 : decode cX2_want 12 = .ok (.lconst 0, 1) := dk_9 (dk_at dksX2_want_0 12 rfl rfl)
theorem dX2_want_13 : decode cX2_want 13 = .ok (.ldc2_w 147, 3) := dk_20 0 147 (dk_at dksX2_want_0 13 rfl rfl)
theorem dX2_want_16 : decode cX2_want 16 = .ok (.invokestatic 90, 3) := dk_184 0 90 (dk_at dksX2_want_0 16 rfl rfl)
theorem dX2_want_19 : decode cX2_want 19 = .ok (.ifCond .ne 6, 3) := dk_154 0 6 (dk_at dksX2_want_0 19 rfl rfl)
theorem dX2_want_22 : decode cX2_want 22 = .ok (.bipush (-2), 2) := dk_16 254 (dk_at dksX2_want_0 22 rfl rfl)
theorem dX2_want_24 : decode cX2_want 24 = .ok (.ireturn, 1) := dk_172 (dk_at dksX2_want_1 0 rfl rfl)
theorem dX2_want_25 : decode cX2_want 25 = .ok (.aload_n 0, 1) := dk_42 (dk_at dksX2_want_1 1 rfl rfl)
theorem dX2_want_26 : decode cX2_want 26 = .ok (.getfield 16, 3) := dk_180 0 16 (dk_at dksX2_want_1 2 rfl rfl)
theorem dX2_want_29 : decode cX2_want 29 = .ok (.iload_n 1, 1) := dk_27 (dk_at dksX2_want_1 5 rfl rfl)
theorem dX2_want_30 : decode cX2_want 30 = .ok (.iaload, 1) := dk_46 (dk_at dksX2_want_1 6 rfl rfl)
theorem dX2_want_31 : decode cX2_want 31 = .ok (.istore_n 3, 1) := dk_62 (dk_at dksX2_want_1 7 rfl rfl)
theorem dX2_want_32 : decode cX2_want 32 = .ok (.aload_n 0, 1) := dk_42 (dk_at dksX2_want_1 8 rfl rfl)
theorem dX2_want_33 : decode cX2_want 33 = .ok (.getfield 16, 3) := dk_180 0 16 (dk_at dksX2_want_1 9 rfl rfl)
theorem dX2_want_36 : decode cX2_want 36 = .ok (.iload_n 1, 1) := dk_27 (dk_at dksX2_want_1 12 rfl rfl)
theorem dX2_want_37 : decode cX2_want 37 = .ok (.iload_n 2, 1) := dk_28 (dk_at dksX2_want_1 13 rfl rfl)
theorem dX2_want_38 : decode cX2_want 38 = .ok (.iastore, 1) := dk_79 (dk_at dksX2_want_1 14 rfl rfl)
theorem dX2_want_39 : decode cX2_want 39 = .ok (.iload_n 3, 1) := dk_29 (dk_at dksX2_want_1 15 rfl rfl)
theorem dX2_want_40 : decode cX2_want 40 = .ok (.ireturn, 1) := dk_172 (dk_at dksX2_want_1 16 rfl rfl)
abbrev cX2_loans : ByteArray := prog_8_method_30_code
def yX2_loans : MethodName := ⟨RX2, "loans", "(IIIII)I"⟩
def dkwX2_loans_12 : List UInt8 := [167, 0, 7, 42, 182, 0, 205, 172]
abbrev dktX2_loans_12 : List UInt8 := dkwX2_loans_12 ++ []
def dkwX2_loans_11 : List UInt8 := [21, 5, 154, 0, 10, 42, 182, 0, 171, 167, 0, 20, 21, 5, 5, 160, 0, 10, 42, 180, 0, 162]
abbrev dktX2_loans_11 : List UInt8 := dkwX2_loans_11 ++ dktX2_loans_12
def dkwX2_loans_10 : List UInt8 := [16, 30, 162, 0, 13, 42, 180, 0, 43, 21, 8, 46, 167, 0, 10, 42, 180, 0, 37, 21, 8, 46, 172]
abbrev dktX2_loans_10 : List UInt8 := dkwX2_loans_10 ++ dktX2_loans_11
def dkwX2_loans_9 : List UInt8 := [16, 247, 167, 0, 44, 21, 5, 16, 20, 162, 0, 13, 42, 180, 0, 34, 21, 8, 46, 167, 0, 27, 21, 5]
abbrev dktX2_loans_9 : List UInt8 := dkwX2_loans_9 ++ dktX2_loans_10
def dkwX2_loans_8 : List UInt8 := [21, 5, 16, 9, 164, 0, 66, 21, 5, 16, 10, 112, 54, 8, 42, 21, 8, 182, 0, 139, 153, 0, 8]
abbrev dktX2_loans_8 : List UInt8 := dkwX2_loans_8 ++ dktX2_loans_9
def dkwX2_loans_7 : List UInt8 := [160, 0, 8, 42, 180, 0, 159, 172, 42, 180, 0, 159, 155, 0, 11, 16, 156, 42, 180, 0, 159, 100, 172]
abbrev dktX2_loans_7 : List UInt8 := dkwX2_loans_7 ++ dktX2_loans_8
def dkwX2_loans_6 : List UInt8 := [21, 7, 156, 0, 6, 21, 7, 172, 42, 16, 60, 27, 104, 29, 96, 21, 4, 182, 0, 202, 21, 5, 4]
abbrev dktX2_loans_6 : List UInt8 := dkwX2_loans_6 ++ dktX2_loans_7
def dkwX2_loans_5 : List UInt8 := [180, 0, 87, 154, 0, 10, 42, 16, 253, 182, 0, 124, 172, 42, 27, 28, 29, 21, 4, 182, 0, 199, 54, 7]
abbrev dktX2_loans_5 : List UInt8 := dkwX2_loans_5 ++ dktX2_loans_6
def dkwX2_loans_4 : List UInt8 := [20, 0, 191, 184, 0, 90, 153, 0, 8, 21, 6, 154, 0, 10, 42, 16, 254, 182, 0, 124, 172, 42]
abbrev dktX2_loans_4 : List UInt8 := dkwX2_loans_4 ++ dktX2_loans_5
def dkwX2_loans_3 : List UInt8 := [4, 167, 0, 4, 3, 54, 6, 28, 133, 9, 20, 0, 127, 184, 0, 90, 153, 0, 21, 21, 4, 133, 9]
abbrev dktX2_loans_3 : List UInt8 := dkwX2_loans_3 ++ dktX2_loans_4
def dkwX2_loans_2 : List UInt8 := [20, 0, 193, 184, 0, 90, 154, 0, 18, 21, 5, 133, 20, 0, 195, 20, 0, 197, 184, 0, 90, 153, 0, 7]
abbrev dktX2_loans_2 : List UInt8 := dkwX2_loans_2 ++ dktX2_loans_3
def dkwX2_loans_1 : List UInt8 := [154, 0, 48, 21, 5, 133, 20, 0, 187, 20, 0, 189, 184, 0, 90, 154, 0, 33, 21, 5, 133, 20, 0, 191]
abbrev dktX2_loans_1 : List UInt8 := dkwX2_loans_1 ++ dktX2_loans_2
def dkwX2_loans_0 : List UInt8 := [27, 184, 0, 120, 153, 0, 9, 42, 2, 182, 0, 124, 172, 21, 5, 133, 9, 20, 0, 185, 184, 0, 90]
abbrev dktX2_loans_0 : List UInt8 := dkwX2_loans_0 ++ dktX2_loans_1
theorem dksX2_loans_0 : cX2_loans.data.toList.drop 0 = dktX2_loans_0 := by decide +kernel
theorem dksX2_loans_1 : cX2_loans.data.toList.drop 23 = dktX2_loans_1 := dk_seg dksX2_loans_0 23 rfl rfl
theorem dksX2_loans_2 : cX2_loans.data.toList.drop 47 = dktX2_loans_2 := dk_seg dksX2_loans_1 24 rfl rfl
theorem dksX2_loans_3 : cX2_loans.data.toList.drop 71 = dktX2_loans_3 := dk_seg dksX2_loans_2 24 rfl rfl
theorem dksX2_loans_4 : cX2_loans.data.toList.drop 94 = dktX2_loans_4 := dk_seg dksX2_loans_3 23 rfl rfl
theorem dksX2_loans_5 : cX2_loans.data.toList.drop 116 = dktX2_loans_5 := dk_seg dksX2_loans_4 22 rfl rfl
theorem dksX2_loans_6 : cX2_loans.data.toList.drop 140 = dktX2_loans_6 := dk_seg dksX2_loans_5 24 rfl rfl
theorem dksX2_loans_7 : cX2_loans.data.toList.drop 163 = dktX2_loans_7 := dk_seg dksX2_loans_6 23 rfl rfl
theorem dksX2_loans_8 : cX2_loans.data.toList.drop 186 = dktX2_loans_8 := dk_seg dksX2_loans_7 23 rfl rfl
theorem dksX2_loans_9 : cX2_loans.data.toList.drop 209 = dktX2_loans_9 := dk_seg dksX2_loans_8 23 rfl rfl
theorem dksX2_loans_10 : cX2_loans.data.toList.drop 233 = dktX2_loans_10 := dk_seg dksX2_loans_9 24 rfl rfl
theorem dksX2_loans_11 : cX2_loans.data.toList.drop 256 = dktX2_loans_11 := dk_seg dksX2_loans_10 23 rfl rfl
theorem dksX2_loans_12 : cX2_loans.data.toList.drop 278 = dktX2_loans_12 := dk_seg dksX2_loans_11 22 rfl rfl
theorem dX2_loans_0 : decode cX2_loans 0 = .ok (.iload_n 1, 1) := dk_27 (dk_at dksX2_loans_0 0 rfl rfl)
theorem dX2_loans_1 : decode cX2_loans 1 = .ok (.invokestatic 120, 3) := dk_184 0 120 (dk_at dksX2_loans_0 1 rfl rfl)
theorem dX2_loans_4 : decode cX2_loans 4 = .ok (.ifCond .eq 9, 3) := dk_153 0 9 (dk_at dksX2_loans_0 4 rfl rfl)
theorem dX2_loans_7 : decode cX2_loans 7 = .ok (.aload_n 0, 1) := dk_42 (dk_at dksX2_loans_0 7 rfl rfl)
theorem dX2_loans_8 : decode cX2_loans 8 = .ok (.iconst (-1), 1) := dk_2 (dk_at dksX2_loans_0 8 rfl rfl)
theorem dX2_loans_9 : decode cX2_loans 9 = .ok (.invokevirtual 124, 3) := dk_182 0 124 (dk_at dksX2_loans_0 9 rfl rfl)
theorem dX2_loans_12 : decode cX2_loans 12 = .ok (.ireturn, 1) := dk_172 (dk_at dksX2_loans_0 12 rfl rfl)
theorem dX2_loans_13 : decode cX2_loans 13 = .ok (.iload 5, 2) := dk_21 5 (dk_at dksX2_loans_0 13 rfl rfl)
theorem dX2_loans_15 : decode cX2_loans 15 = .ok (.i2l, 1) := dk_133 (dk_at dksX2_loans_0 15 rfl rfl)
theorem dX2_loans_16 : decode cX2_loans 16 = .ok (.lconst 0, 1) := dk_9 (dk_at dksX2_loans_0 16 rfl rfl)
theorem dX2_loans_17 : decode cX2_loans 17 = .ok (.ldc2_w 185, 3) := dk_20 0 185 (dk_at dksX2_loans_0 17 rfl rfl)
theorem dX2_loans_20 : decode cX2_loans 20 = .ok (.invokestatic 90, 3) := dk_184 0 90 (dk_at dksX2_loans_0 20 rfl rfl)
theorem dX2_loans_23 : decode cX2_loans 23 = .ok (.ifCond .ne 48, 3) := dk_154 0 48 (dk_at dksX2_loans_1 0 rfl rfl)
theorem dX2_loans_26 : decode cX2_loans 26 = .ok (.iload 5, 2) := dk_21 5 (dk_at dksX2_loans_1 3 rfl rfl)
theorem dX2_loans_28 : decode cX2_loans 28 = .ok (.i2l, 1) := dk_133 (dk_at dksX2_loans_1 5 rfl rfl)
theorem dX2_loans_29 : decode cX2_loans 29 = .ok (.ldc2_w 187, 3) := dk_20 0 187 (dk_at dksX2_loans_1 6 rfl rfl)
theorem dX2_loans_32 : decode cX2_loans 32 = .ok (.ldc2_w 189, 3) := dk_20 0 189 (dk_at dksX2_loans_1 9 rfl rfl)
theorem dX2_loans_35 : decode cX2_loans 35 = .ok (.invokestatic 90, 3) := dk_184 0 90 (dk_at dksX2_loans_1 12 rfl rfl)
theorem dX2_loans_38 : decode cX2_loans 38 = .ok (.ifCond .ne 33, 3) := dk_154 0 33 (dk_at dksX2_loans_1 15 rfl rfl)
theorem dX2_loans_41 : decode cX2_loans 41 = .ok (.iload 5, 2) := dk_21 5 (dk_at dksX2_loans_1 18 rfl rfl)
theorem dX2_loans_43 : decode cX2_loans 43 = .ok (.i2l, 1) := dk_133 (dk_at dksX2_loans_1 20 rfl rfl)
theorem dX2_loans_44 : decode cX2_loans 44 = .ok (.ldc2_w 191, 3) := dk_20 0 191 (dk_at dksX2_loans_1 21 rfl rfl)
theorem dX2_loans_47 : decode cX2_loans 47 = .ok (.ldc2_w 193, 3) := dk_20 0 193 (dk_at dksX2_loans_2 0 rfl rfl)
theorem dX2_loans_50 : decode cX2_loans 50 = .ok (.invokestatic 90, 3) := dk_184 0 90 (dk_at dksX2_loans_2 3 rfl rfl)
theorem dX2_loans_53 : decode cX2_loans 53 = .ok (.ifCond .ne 18, 3) := dk_154 0 18 (dk_at dksX2_loans_2 6 rfl rfl)
theorem dX2_loans_56 : decode cX2_loans 56 = .ok (.iload 5, 2) := dk_21 5 (dk_at dksX2_loans_2 9 rfl rfl)
theorem dX2_loans_58 : decode cX2_loans 58 = .ok (.i2l, 1) := dk_133 (dk_at dksX2_loans_2 11 rfl rfl)
theorem dX2_loans_59 : decode cX2_loans 59 = .ok (.ldc2_w 195, 3) := dk_20 0 195 (dk_at dksX2_loans_2 12 rfl rfl)
theorem dX2_loans_62 : decode cX2_loans 62 = .ok (.ldc2_w 197, 3) := dk_20 0 197 (dk_at dksX2_loans_2 15 rfl rfl)
theorem dX2_loans_65 : decode cX2_loans 65 = .ok (.invokestatic 90, 3) := dk_184 0 90 (dk_at dksX2_loans_2 18 rfl rfl)
theorem dX2_loans_68 : decode cX2_loans 68 = .ok (.ifCond .eq 7, 3) := dk_153 0 7 (dk_at dksX2_loans_2 21 rfl rfl)
theorem dX2_loans_71 : decode cX2_loans 71 = .ok (.iconst 1, 1) := dk_4 (dk_at dksX2_loans_3 0 rfl rfl)
theorem dX2_loans_72 : decode cX2_loans 72 = .ok (.goto 4, 3) := dk_167 0 4 (dk_at dksX2_loans_3 1 rfl rfl)
theorem dX2_loans_75 : decode cX2_loans 75 = .ok (.iconst 0, 1) := dk_3 (dk_at dksX2_loans_3 4 rfl rfl)
theorem dX2_loans_76 : decode cX2_loans 76 = .ok (.istore 6, 2) := dk_54 6 (dk_at dksX2_loans_3 5 rfl rfl)
theorem dX2_loans_78 : decode cX2_loans 78 = .ok (.iload_n 2, 1) := dk_28 (dk_at dksX2_loans_3 7 rfl rfl)
theorem dX2_loans_79 : decode cX2_loans 79 = .ok (.i2l, 1) := dk_133 (dk_at dksX2_loans_3 8 rfl rfl)
theorem dX2_loans_80 : decode cX2_loans 80 = .ok (.lconst 0, 1) := dk_9 (dk_at dksX2_loans_3 9 rfl rfl)
theorem dX2_loans_81 : decode cX2_loans 81 = .ok (.ldc2_w 127, 3) := dk_20 0 127 (dk_at dksX2_loans_3 10 rfl rfl)
theorem dX2_loans_84 : decode cX2_loans 84 = .ok (.invokestatic 90, 3) := dk_184 0 90 (dk_at dksX2_loans_3 13 rfl rfl)
theorem dX2_loans_87 : decode cX2_loans 87 = .ok (.ifCond .eq 21, 3) := dk_153 0 21 (dk_at dksX2_loans_3 16 rfl rfl)
theorem dX2_loans_90 : decode cX2_loans 90 = .ok (.iload 4, 2) := dk_21 4 (dk_at dksX2_loans_3 19 rfl rfl)
theorem dX2_loans_92 : decode cX2_loans 92 = .ok (.i2l, 1) := dk_133 (dk_at dksX2_loans_3 21 rfl rfl)
theorem dX2_loans_93 : decode cX2_loans 93 = .ok (.lconst 0, 1) := dk_9 (dk_at dksX2_loans_3 22 rfl rfl)
theorem dX2_loans_94 : decode cX2_loans 94 = .ok (.ldc2_w 191, 3) := dk_20 0 191 (dk_at dksX2_loans_4 0 rfl rfl)
theorem dX2_loans_97 : decode cX2_loans 97 = .ok (.invokestatic 90, 3) := dk_184 0 90 (dk_at dksX2_loans_4 3 rfl rfl)
theorem dX2_loans_100 : decode cX2_loans 100 = .ok (.ifCond .eq 8, 3) := dk_153 0 8 (dk_at dksX2_loans_4 6 rfl rfl)
theorem dX2_loans_103 : decode cX2_loans 103 = .ok (.iload 6, 2) := dk_21 6 (dk_at dksX2_loans_4 9 rfl rfl)
theorem dX2_loans_105 : decode cX2_loans 105 = .ok (.ifCond .ne 10, 3) := dk_154 0 10 (dk_at dksX2_loans_4 11 rfl rfl)
theorem dX2_loans_108 : decode cX2_loans 108 = .ok (.aload_n 0, 1) := dk_42 (dk_at dksX2_loans_4 14 rfl rfl)
theorem dX2_loans_109 : decode cX2_loans 109 = .ok (.bipush (-2), 2) := dk_16 254 (dk_at dksX2_loans_4 15 rfl rfl)
theorem dX2_loans_111 : decode cX2_loans 111 = .ok (.invokevirtual 124, 3) := dk_182 0 124 (dk_at dksX2_loans_4 17 rfl rfl)
theorem dX2_loans_114 : decode cX2_loans 114 = .ok (.ireturn, 1) := dk_172 (dk_at dksX2_loans_4 20 rfl rfl)
theorem dX2_loans_115 : decode cX2_loans 115 = .ok (.aload_n 0, 1) := dk_42 (dk_at dksX2_loans_4 21 rfl rfl)
theorem dX2_loans_116 : decode cX2_loans 116 = .ok (.getfield 87, 3) := dk_180 0 87 (dk_at dksX2_loans_5 0 rfl rfl)
theorem dX2_loans_119 : decode cX2_loans 119 = .ok (.ifCond .ne 10, 3) := dk_154 0 10 (dk_at dksX2_loans_5 3 rfl rfl)
theorem dX2_loans_122 : decode cX2_loans 122 = .ok (.aload_n 0, 1) := dk_42 (dk_at dksX2_loans_5 6 rfl rfl)
theorem dX2_loans_123 : decode cX2_loans 123 = .ok (.bipush (-3), 2) := dk_16 253 (dk_at dksX2_loans_5 7 rfl rfl)
theorem dX2_loans_125 : decode cX2_loans 125 = .ok (.invokevirtual 124, 3) := dk_182 0 124 (dk_at dksX2_loans_5 9 rfl rfl)
theorem dX2_loans_128 : decode cX2_loans 128 = .ok (.ireturn, 1) := dk_172 (dk_at dksX2_loans_5 12 rfl rfl)
theorem dX2_loans_129 : decode cX2_loans 129 = .ok (.aload_n 0, 1) := dk_42 (dk_at dksX2_loans_5 13 rfl rfl)
theorem dX2_loans_130 : decode cX2_loans 130 = .ok (.iload_n 1, 1) := dk_27 (dk_at dksX2_loans_5 14 rfl rfl)
theorem dX2_loans_131 : decode cX2_loans 131 = .ok (.iload_n 2, 1) := dk_28 (dk_at dksX2_loans_5 15 rfl rfl)
theorem dX2_loans_132 : decode cX2_loans 132 = .ok (.iload_n 3, 1) := dk_29 (dk_at dksX2_loans_5 16 rfl rfl)
theorem dX2_loans_133 : decode cX2_loans 133 = .ok (.iload 4, 2) := dk_21 4 (dk_at dksX2_loans_5 17 rfl rfl)
theorem dX2_loans_135 : decode cX2_loans 135 = .ok (.invokevirtual 199, 3) := dk_182 0 199 (dk_at dksX2_loans_5 19 rfl rfl)
theorem dX2_loans_138 : decode cX2_loans 138 = .ok (.istore 7, 2) := dk_54 7 (dk_at dksX2_loans_5 22 rfl rfl)
theorem dX2_loans_140 : decode cX2_loans 140 = .ok (.iload 7, 2) := dk_21 7 (dk_at dksX2_loans_6 0 rfl rfl)
theorem dX2_loans_142 : decode cX2_loans 142 = .ok (.ifCond .ge 6, 3) := dk_156 0 6 (dk_at dksX2_loans_6 2 rfl rfl)
theorem dX2_loans_145 : decode cX2_loans 145 = .ok (.iload 7, 2) := dk_21 7 (dk_at dksX2_loans_6 5 rfl rfl)
theorem dX2_loans_147 : decode cX2_loans 147 = .ok (.ireturn, 1) := dk_172 (dk_at dksX2_loans_6 7 rfl rfl)
theorem dX2_loans_148 : decode cX2_loans 148 = .ok (.aload_n 0, 1) := dk_42 (dk_at dksX2_loans_6 8 rfl rfl)
theorem dX2_loans_149 : decode cX2_loans 149 = .ok (.bipush 60, 2) := dk_16 60 (dk_at dksX2_loans_6 9 rfl rfl)
theorem dX2_loans_151 : decode cX2_loans 151 = .ok (.iload_n 1, 1) := dk_27 (dk_at dksX2_loans_6 11 rfl rfl)
theorem dX2_loans_152 : decode cX2_loans 152 = .ok (.imul, 1) := dk_104 (dk_at dksX2_loans_6 12 rfl rfl)
theorem dX2_loans_153 : decode cX2_loans 153 = .ok (.iload_n 3, 1) := dk_29 (dk_at dksX2_loans_6 13 rfl rfl)
theorem dX2_loans_154 : decode cX2_loans 154 = .ok (.iadd, 1) := dk_96 (dk_at dksX2_loans_6 14 rfl rfl)
theorem dX2_loans_155 : decode cX2_loans 155 = .ok (.iload 4, 2) := dk_21 4 (dk_at dksX2_loans_6 15 rfl rfl)
theorem dX2_loans_157 : decode cX2_loans 157 = .ok (.invokevirtual 202, 3) := dk_182 0 202 (dk_at dksX2_loans_6 17 rfl rfl)
theorem dX2_loans_160 : decode cX2_loans 160 = .ok (.iload 5, 2) := dk_21 5 (dk_at dksX2_loans_6 20 rfl rfl)
theorem dX2_loans_162 : decode cX2_loans 162 = .ok (.iconst 1, 1) := dk_4 (dk_at dksX2_loans_6 22 rfl rfl)
theorem dX2_loans_163 : decode cX2_loans 163 = .ok (.if_icmp .ne 8, 3) := dk_160 0 8 (dk_at dksX2_loans_7 0 rfl rfl)
theorem dX2_loans_166 : decode cX2_loans 166 = .ok (.aload_n 0, 1) := dk_42 (dk_at dksX2_loans_7 3 rfl rfl)
theorem dX2_loans_167 : decode cX2_loans 167 = .ok (.getfield 159, 3) := dk_180 0 159 (dk_at dksX2_loans_7 4 rfl rfl)
theorem dX2_loans_170 : decode cX2_loans 170 = .ok (.ireturn, 1) := dk_172 (dk_at dksX2_loans_7 7 rfl rfl)
theorem dX2_loans_171 : decode cX2_loans 171 = .ok (.aload_n 0, 1) := dk_42 (dk_at dksX2_loans_7 8 rfl rfl)
theorem dX2_loans_172 : decode cX2_loans 172 = .ok (.getfield 159, 3) := dk_180 0 159 (dk_at dksX2_loans_7 9 rfl rfl)
theorem dX2_loans_175 : decode cX2_loans 175 = .ok (.ifCond .lt 11, 3) := dk_155 0 11 (dk_at dksX2_loans_7 12 rfl rfl)
theorem dX2_loans_178 : decode cX2_loans 178 = .ok (.bipush (-100), 2) := dk_16 156 (dk_at dksX2_loans_7 15 rfl rfl)
theorem dX2_loans_180 : decode cX2_loans 180 = .ok (.aload_n 0, 1) := dk_42 (dk_at dksX2_loans_7 17 rfl rfl)
theorem dX2_loans_181 : decode cX2_loans 181 = .ok (.getfield 159, 3) := dk_180 0 159 (dk_at dksX2_loans_7 18 rfl rfl)
theorem dX2_loans_184 : decode cX2_loans 184 = .ok (.isub, 1) := dk_100 (dk_at dksX2_loans_7 21 rfl rfl)
theorem dX2_loans_185 : decode cX2_loans 185 = .ok (.ireturn, 1) := dk_172 (dk_at dksX2_loans_7 22 rfl rfl)
theorem dX2_loans_186 : decode cX2_loans 186 = .ok (.iload 5, 2) := dk_21 5 (dk_at dksX2_loans_8 0 rfl rfl)
theorem dX2_loans_188 : decode cX2_loans 188 = .ok (.bipush 9, 2) := dk_16 9 (dk_at dksX2_loans_8 2 rfl rfl)
theorem dX2_loans_190 : decode cX2_loans 190 = .ok (.if_icmp .le 66, 3) := dk_164 0 66 (dk_at dksX2_loans_8 4 rfl rfl)
theorem dX2_loans_193 : decode cX2_loans 193 = .ok (.iload 5, 2) := dk_21 5 (dk_at dksX2_loans_8 7 rfl rfl)
theorem dX2_loans_195 : decode cX2_loans 195 = .ok (.bipush 10, 2) := dk_16 10 (dk_at dksX2_loans_8 9 rfl rfl)
theorem dX2_loans_197 : decode cX2_loans 197 = .ok (.irem, 1) := dk_112 (dk_at dksX2_loans_8 11 rfl rfl)
theorem dX2_loans_198 : decode cX2_loans 198 = .ok (.istore 8, 2) := dk_54 8 (dk_at dksX2_loans_8 12 rfl rfl)
theorem dX2_loans_200 : decode cX2_loans 200 = .ok (.aload_n 0, 1) := dk_42 (dk_at dksX2_loans_8 14 rfl rfl)
theorem dX2_loans_201 : decode cX2_loans 201 = .ok (.iload 8, 2) := dk_21 8 (dk_at dksX2_loans_8 15 rfl rfl)
theorem dX2_loans_203 : decode cX2_loans 203 = .ok (.invokevirtual 139, 3) := dk_182 0 139 (dk_at dksX2_loans_8 17 rfl rfl)
theorem dX2_loans_206 : decode cX2_loans 206 = .ok (.ifCond .eq 8, 3) := dk_153 0 8 (dk_at dksX2_loans_8 20 rfl rfl)
theorem dX2_loans_209 : decode cX2_loans 209 = .ok (.bipush (-9), 2) := dk_16 247 (dk_at dksX2_loans_9 0 rfl rfl)
theorem dX2_loans_211 : decode cX2_loans 211 = .ok (.goto 44, 3) := dk_167 0 44 (dk_at dksX2_loans_9 2 rfl rfl)
theorem dX2_loans_214 : decode cX2_loans 214 = .ok (.iload 5, 2) := dk_21 5 (dk_at dksX2_loans_9 5 rfl rfl)
theorem dX2_loans_216 : decode cX2_loans 216 = .ok (.bipush 20, 2) := dk_16 20 (dk_at dksX2_loans_9 7 rfl rfl)
theorem dX2_loans_218 : decode cX2_loans 218 = .ok (.if_icmp .ge 13, 3) := dk_162 0 13 (dk_at dksX2_loans_9 9 rfl rfl)
theorem dX2_loans_221 : decode cX2_loans 221 = .ok (.aload_n 0, 1) := dk_42 (dk_at dksX2_loans_9 12 rfl rfl)
theorem dX2_loans_222 : decode cX2_loans 222 = .ok (.getfield 34, 3) := dk_180 0 34 (dk_at dksX2_loans_9 13 rfl rfl)
theorem dX2_loans_225 : decode cX2_loans 225 = .ok (.iload 8, 2) := dk_21 8 (dk_at dksX2_loans_9 16 rfl rfl)
theorem dX2_loans_227 : decode cX2_loans 227 = .ok (.iaload, 1) := dk_46 (dk_at dksX2_loans_9 18 rfl rfl)
theorem dX2_loans_228 : decode cX2_loans 228 = .ok (.goto 27, 3) := dk_167 0 27 (dk_at dksX2_loans_9 19 rfl rfl)
theorem dX2_loans_231 : decode cX2_loans 231 = .ok (.iload 5, 2) := dk_21 5 (dk_at dksX2_loans_9 22 rfl rfl)
theorem dX2_loans_233 : decode cX2_loans 233 = .ok (.bipush 30, 2) := dk_16 30 (dk_at dksX2_loans_10 0 rfl rfl)
theorem dX2_loans_235 : decode cX2_loans 235 = .ok (.if_icmp .ge 13, 3) := dk_162 0 13 (dk_at dksX2_loans_10 2 rfl rfl)
theorem dX2_loans_238 : decode cX2_loans 238 = .ok (.aload_n 0, 1) := dk_42 (dk_at dksX2_loans_10 5 rfl rfl)
theorem dX2_loans_239 : decode cX2_loans 239 = .ok (.getfield 43, 3) := dk_180 0 43 (dk_at dksX2_loans_10 6 rfl rfl)
theorem dX2_loans_242 : decode cX2_loans 242 = .ok (.iload 8, 2) := dk_21 8 (dk_at dksX2_loans_10 9 rfl rfl)
theorem dX2_loans_244 : decode cX2_loans 244 = .ok (.iaload, 1) := dk_46 (dk_at dksX2_loans_10 11 rfl rfl)
theorem dX2_loans_245 : decode cX2_loans 245 = .ok (.goto 10, 3) := dk_167 0 10 (dk_at dksX2_loans_10 12 rfl rfl)
theorem dX2_loans_248 : decode cX2_loans 248 = .ok (.aload_n 0, 1) := dk_42 (dk_at dksX2_loans_10 15 rfl rfl)
theorem dX2_loans_249 : decode cX2_loans 249 = .ok (.getfield 37, 3) := dk_180 0 37 (dk_at dksX2_loans_10 16 rfl rfl)
theorem dX2_loans_252 : decode cX2_loans 252 = .ok (.iload 8, 2) := dk_21 8 (dk_at dksX2_loans_10 19 rfl rfl)
theorem dX2_loans_254 : decode cX2_loans 254 = .ok (.iaload, 1) := dk_46 (dk_at dksX2_loans_10 21 rfl rfl)
theorem dX2_loans_255 : decode cX2_loans 255 = .ok (.ireturn, 1) := dk_172 (dk_at dksX2_loans_10 22 rfl rfl)
theorem dX2_loans_256 : decode cX2_loans 256 = .ok (.iload 5, 2) := dk_21 5 (dk_at dksX2_loans_11 0 rfl rfl)
theorem dX2_loans_258 : decode cX2_loans 258 = .ok (.ifCond .ne 10, 3) := dk_154 0 10 (dk_at dksX2_loans_11 2 rfl rfl)
theorem dX2_loans_261 : decode cX2_loans 261 = .ok (.aload_n 0, 1) := dk_42 (dk_at dksX2_loans_11 5 rfl rfl)
theorem dX2_loans_262 : decode cX2_loans 262 = .ok (.invokevirtual 171, 3) := dk_182 0 171 (dk_at dksX2_loans_11 6 rfl rfl)
theorem dX2_loans_265 : decode cX2_loans 265 = .ok (.goto 20, 3) := dk_167 0 20 (dk_at dksX2_loans_11 9 rfl rfl)
theorem dX2_loans_268 : decode cX2_loans 268 = .ok (.iload 5, 2) := dk_21 5 (dk_at dksX2_loans_11 12 rfl rfl)
theorem dX2_loans_270 : decode cX2_loans 270 = .ok (.iconst 2, 1) := dk_5 (dk_at dksX2_loans_11 14 rfl rfl)
theorem dX2_loans_271 : decode cX2_loans 271 = .ok (.if_icmp .ne 10, 3) := dk_160 0 10 (dk_at dksX2_loans_11 15 rfl rfl)
theorem dX2_loans_274 : decode cX2_loans 274 = .ok (.aload_n 0, 1) := dk_42 (dk_at dksX2_loans_11 18 rfl rfl)
theorem dX2_loans_275 : decode cX2_loans 275 = .ok (.getfield 162, 3) := dk_180 0 162 (dk_at dksX2_loans_11 19 rfl rfl)
theorem dX2_loans_278 : decode cX2_loans 278 = .ok (.goto 7, 3) := dk_167 0 7 (dk_at dksX2_loans_12 0 rfl rfl)
theorem dX2_loans_281 : decode cX2_loans 281 = .ok (.aload_n 0, 1) := dk_42 (dk_at dksX2_loans_12 3 rfl rfl)
theorem dX2_loans_282 : decode cX2_loans 282 = .ok (.invokevirtual 205, 3) := dk_182 0 205 (dk_at dksX2_loans_12 4 rfl rfl)
theorem dX2_loans_285 : decode cX2_loans 285 = .ok (.ireturn, 1) := dk_172 (dk_at dksX2_loans_12 7 rfl rfl)
abbrev cX2_pairsBarred : ByteArray := prog_8_method_29_code
def yX2_pairsBarred : MethodName := ⟨RX2, "pairsBarred", "(IIII)I"⟩
def dkwX2_pairsBarred_3 : List UInt8 := [182, 0, 124, 172]
abbrev dktX2_pairsBarred_3 : List UInt8 := dkwX2_pairsBarred_3 ++ []
def dkwX2_pairsBarred_2 : List UInt8 := [21, 6, 96, 46, 182, 0, 139, 153, 0, 9, 42, 2, 182, 0, 124, 172, 132, 6, 1, 167, 255, 217, 42, 3]
abbrev dktX2_pairsBarred_2 : List UInt8 := dkwX2_pairsBarred_2 ++ dktX2_pairsBarred_3
def dkwX2_pairsBarred_1 : List UInt8 := [3, 54, 6, 21, 6, 5, 21, 4, 104, 162, 0, 36, 42, 42, 180, 0, 71, 16, 60, 27, 104, 29, 96]
abbrev dktX2_pairsBarred_1 : List UInt8 := dkwX2_pairsBarred_1 ++ dktX2_pairsBarred_2
def dkwX2_pairsBarred_0 : List UInt8 := [42, 27, 28, 29, 20, 0, 127, 21, 4, 133, 105, 182, 0, 129, 54, 5, 21, 5, 156, 0, 6, 21, 5, 172]
abbrev dktX2_pairsBarred_0 : List UInt8 := dkwX2_pairsBarred_0 ++ dktX2_pairsBarred_1
theorem dksX2_pairsBarred_0 : cX2_pairsBarred.data.toList.drop 0 = dktX2_pairsBarred_0 := by decide +kernel
theorem dksX2_pairsBarred_1 : cX2_pairsBarred.data.toList.drop 24 = dktX2_pairsBarred_1 := dk_seg dksX2_pairsBarred_0 24 rfl rfl
theorem dksX2_pairsBarred_2 : cX2_pairsBarred.data.toList.drop 47 = dktX2_pairsBarred_2 := dk_seg dksX2_pairsBarred_1 23 rfl rfl
theorem dksX2_pairsBarred_3 : cX2_pairsBarred.data.toList.drop 71 = dktX2_pairsBarred_3 := dk_seg dksX2_pairsBarred_2 24 rfl rfl
theorem dX2_pairsBarred_0 : decode cX2_pairsBarred 0 = .ok (.aload_n 0, 1) := dk_42 (dk_at dksX2_pairsBarred_0 0 rfl rfl)
theorem dX2_pairsBarred_1 : decode cX2_pairsBarred 1 = .ok (.iload_n 1, 1) := dk_27 (dk_at dksX2_pairsBarred_0 1 rfl rfl)
theorem dX2_pairsBarred_2 : decode cX2_pairsBarred 2 = .ok (.iload_n 2, 1) := dk_28 (dk_at dksX2_pairsBarred_0 2 rfl rfl)
theorem dX2_pairsBarred_3 : decode cX2_pairsBarred 3 = .ok (.iload_n 3, 1) := dk_29 (dk_at dksX2_pairsBarred_0 3 rfl rfl)
theorem dX2_pairsBarred_4 : decode cX2_pairsBarred 4 = .ok (.ldc2_w 127, 3) := dk_20 0 127 (dk_at dksX2_pairsBarred_0 4 rfl rfl)
theorem dX2_pairsBarred_7 : decode cX2_pairsBarred 7 = .ok (.iload 4, 2) := dk_21 4 (dk_at dksX2_pairsBarred_0 7 rfl rfl)
theorem dX2_pairsBarred_9 : decode cX2_pairsBarred 9 = .ok (.i2l, 1) := dk_133 (dk_at dksX2_pairsBarred_0 9 rfl rfl)
theorem dX2_pairsBarred_10 : decode cX2_pairsBarred 10 = .ok (.lmul, 1) := dk_105 (dk_at dksX2_pairsBarred_0 10 rfl rfl)
theorem dX2_pairsBarred_11 : decode cX2_pairsBarred 11 = .ok (.invokevirtual 129, 3) := dk_182 0 129 (dk_at dksX2_pairsBarred_0 11 rfl rfl)
theorem dX2_pairsBarred_14 : decode cX2_pairsBarred 14 = .ok (.istore 5, 2) := dk_54 5 (dk_at dksX2_pairsBarred_0 14 rfl rfl)
theorem dX2_pairsBarred_16 : decode cX2_pairsBarred 16 = .ok (.iload 5, 2) := dk_21 5 (dk_at dksX2_pairsBarred_0 16 rfl rfl)
theorem dX2_pairsBarred_18 : decode cX2_pairsBarred 18 = .ok (.ifCond .ge 6, 3) := dk_156 0 6 (dk_at dksX2_pairsBarred_0 18 rfl rfl)
theorem dX2_pairsBarred_21 : decode cX2_pairsBarred 21 = .ok (.iload 5, 2) := dk_21 5 (dk_at dksX2_pairsBarred_0 21 rfl rfl)
theorem dX2_pairsBarred_23 : decode cX2_pairsBarred 23 = .ok (.ireturn, 1) := dk_172 (dk_at dksX2_pairsBarred_0 23 rfl rfl)
theorem dX2_pairsBarred_24 : decode cX2_pairsBarred 24 = .ok (.iconst 0, 1) := dk_3 (dk_at dksX2_pairsBarred_1 0 rfl rfl)
theorem dX2_pairsBarred_25 : decode cX2_pairsBarred 25 = .ok (.istore 6, 2) := dk_54 6 (dk_at dksX2_pairsBarred_1 1 rfl rfl)
theorem dX2_pairsBarred_27 : decode cX2_pairsBarred 27 = .ok (.iload 6, 2) := dk_21 6 (dk_at dksX2_pairsBarred_1 3 rfl rfl)
theorem dX2_pairsBarred_29 : decode cX2_pairsBarred 29 = .ok (.iconst 2, 1) := dk_5 (dk_at dksX2_pairsBarred_1 5 rfl rfl)
theorem dX2_pairsBarred_30 : decode cX2_pairsBarred 30 = .ok (.iload 4, 2) := dk_21 4 (dk_at dksX2_pairsBarred_1 6 rfl rfl)
theorem dX2_pairsBarred_32 : decode cX2_pairsBarred 32 = .ok (.imul, 1) := dk_104 (dk_at dksX2_pairsBarred_1 8 rfl rfl)
theorem dX2_pairsBarred_33 : decode cX2_pairsBarred 33 = .ok (.if_icmp .ge 36, 3) := dk_162 0 36 (dk_at dksX2_pairsBarred_1 9 rfl rfl)
theorem dX2_pairsBarred_36 : decode cX2_pairsBarred 36 = .ok (.aload_n 0, 1) := dk_42 (dk_at dksX2_pairsBarred_1 12 rfl rfl)
theorem dX2_pairsBarred_37 : decode cX2_pairsBarred 37 = .ok (.aload_n 0, 1) := dk_42 (dk_at dksX2_pairsBarred_1 13 rfl rfl)
theorem dX2_pairsBarred_38 : decode cX2_pairsBarred 38 = .ok (.getfield 71, 3) := dk_180 0 71 (dk_at dksX2_pairsBarred_1 14 rfl rfl)
theorem dX2_pairsBarred_41 : decode cX2_pairsBarred 41 = .ok (.bipush 60, 2) := dk_16 60 (dk_at dksX2_pairsBarred_1 17 rfl rfl)
theorem dX2_pairsBarred_43 : decode cX2_pairsBarred 43 = .ok (.iload_n 1, 1) := dk_27 (dk_at dksX2_pairsBarred_1 19 rfl rfl)
theorem dX2_pairsBarred_44 : decode cX2_pairsBarred 44 = .ok (.imul, 1) := dk_104 (dk_at dksX2_pairsBarred_1 20 rfl rfl)
theorem dX2_pairsBarred_45 : decode cX2_pairsBarred 45 = .ok (.iload_n 3, 1) := dk_29 (dk_at dksX2_pairsBarred_1 21 rfl rfl)
theorem dX2_pairsBarred_46 : decode cX2_pairsBarred 46 = .ok (.iadd, 1) := dk_96 (dk_at dksX2_pairsBarred_1 22 rfl rfl)
theorem dX2_pairsBarred_47 : decode cX2_pairsBarred 47 = .ok (.iload 6, 2) := dk_21 6 (dk_at dksX2_pairsBarred_2 0 rfl rfl)
theorem dX2_pairsBarred_49 : decode cX2_pairsBarred 49 = .ok (.iadd, 1) := dk_96 (dk_at dksX2_pairsBarred_2 2 rfl rfl)
theorem dX2_pairsBarred_50 : decode cX2_pairsBarred 50 = .ok (.iaload, 1) := dk_46 (dk_at dksX2_pairsBarred_2 3 rfl rfl)
theorem dX2_pairsBarred_51 : decode cX2_pairsBarred 51 = .ok (.invokevirtual 139, 3) := dk_182 0 139 (dk_at dksX2_pairsBarred_2 4 rfl rfl)
theorem dX2_pairsBarred_54 : decode cX2_pairsBarred 54 = .ok (.ifCond .eq 9, 3) := dk_153 0 9 (dk_at dksX2_pairsBarred_2 7 rfl rfl)
theorem dX2_pairsBarred_57 : decode cX2_pairsBarred 57 = .ok (.aload_n 0, 1) := dk_42 (dk_at dksX2_pairsBarred_2 10 rfl rfl)
theorem dX2_pairsBarred_58 : decode cX2_pairsBarred 58 = .ok (.iconst (-1), 1) := dk_2 (dk_at dksX2_pairsBarred_2 11 rfl rfl)
theorem dX2_pairsBarred_59 : decode cX2_pairsBarred 59 = .ok (.invokevirtual 124, 3) := dk_182 0 124 (dk_at dksX2_pairsBarred_2 12 rfl rfl)
theorem dX2_pairsBarred_62 : decode cX2_pairsBarred 62 = .ok (.ireturn, 1) := dk_172 (dk_at dksX2_pairsBarred_2 15 rfl rfl)
theorem dX2_pairsBarred_63 : decode cX2_pairsBarred 63 = .ok (.iinc 6 1, 3) := dk_132 6 1 (dk_at dksX2_pairsBarred_2 16 rfl rfl)
theorem dX2_pairsBarred_66 : decode cX2_pairsBarred 66 = .ok (.goto (-39), 3) := dk_167 255 217 (dk_at dksX2_pairsBarred_2 19 rfl rfl)
theorem dX2_pairsBarred_69 : decode cX2_pairsBarred 69 = .ok (.aload_n 0, 1) := dk_42 (dk_at dksX2_pairsBarred_2 22 rfl rfl)
theorem dX2_pairsBarred_70 : decode cX2_pairsBarred 70 = .ok (.iconst 0, 1) := dk_3 (dk_at dksX2_pairsBarred_2 23 rfl rfl)
theorem dX2_pairsBarred_71 : decode cX2_pairsBarred 71 = .ok (.invokevirtual 124, 3) := dk_182 0 124 (dk_at dksX2_pairsBarred_3 0 rfl rfl)
theorem dX2_pairsBarred_74 : decode cX2_pairsBarred 74 = .ok (.ireturn, 1) := dk_172 (dk_at dksX2_pairsBarred_3 3 rfl rfl)
abbrev cX2_goLoans : ByteArray := prog_8_method_27_code
def yX2_goLoans : MethodName := ⟨RX2, "goLoans", "(II)V"⟩
def dkwX2_goLoans_5 : List UInt8 := [181, 0, 162, 167, 0, 9, 42, 21, 4, 181, 0, 159, 132, 4, 1, 167, 255, 149, 177]
abbrev dktX2_goLoans_5 : List UInt8 := dkwX2_goLoans_5 ++ []
def dkwX2_goLoans_4 : List UInt8 := [156, 0, 19, 42, 182, 0, 171, 42, 182, 0, 175, 160, 0, 8, 21, 4, 167, 0, 7, 42, 180, 0, 162]
abbrev dktX2_goLoans_4 : List UInt8 := dkwX2_goLoans_4 ++ dktX2_goLoans_5
def dkwX2_goLoans_3 : List UInt8 := [182, 0, 178, 153, 0, 49, 42, 21, 5, 21, 6, 182, 0, 181, 42, 29, 154, 0, 26, 42, 180, 0, 162]
abbrev dktX2_goLoans_3 : List UInt8 := dkwX2_goLoans_3 ++ dktX2_goLoans_4
def dkwX2_goLoans_2 : List UInt8 := [54, 5, 42, 180, 0, 71, 27, 5, 21, 4, 104, 96, 4, 96, 46, 54, 6, 42, 21, 5, 21, 6]
abbrev dktX2_goLoans_2 : List UInt8 := dkwX2_goLoans_2 ++ dktX2_goLoans_3
def dkwX2_goLoans_1 : List UInt8 := [21, 4, 28, 162, 0, 107, 42, 180, 0, 159, 156, 0, 100, 42, 180, 0, 71, 27, 5, 21, 4, 104, 96, 46]
abbrev dktX2_goLoans_1 : List UInt8 := dkwX2_goLoans_1 ++ dktX2_goLoans_2
def dkwX2_goLoans_0 : List UInt8 := [42, 182, 0, 168, 42, 182, 0, 171, 42, 182, 0, 175, 160, 0, 7, 4, 167, 0, 4, 3, 62, 3, 54, 4]
abbrev dktX2_goLoans_0 : List UInt8 := dkwX2_goLoans_0 ++ dktX2_goLoans_1
theorem dksX2_goLoans_0 : cX2_goLoans.data.toList.drop 0 = dktX2_goLoans_0 := by decide +kernel
theorem dksX2_goLoans_1 : cX2_goLoans.data.toList.drop 24 = dktX2_goLoans_1 := dk_seg dksX2_goLoans_0 24 rfl rfl
theorem dksX2_goLoans_2 : cX2_goLoans.data.toList.drop 48 = dktX2_goLoans_2 := dk_seg dksX2_goLoans_1 24 rfl rfl
theorem dksX2_goLoans_3 : cX2_goLoans.data.toList.drop 70 = dktX2_goLoans_3 := dk_seg dksX2_goLoans_2 22 rfl rfl
theorem dksX2_goLoans_4 : cX2_goLoans.data.toList.drop 93 = dktX2_goLoans_4 := dk_seg dksX2_goLoans_3 23 rfl rfl
theorem dksX2_goLoans_5 : cX2_goLoans.data.toList.drop 116 = dktX2_goLoans_5 := dk_seg dksX2_goLoans_4 23 rfl rfl
theorem dX2_goLoans_0 : decode cX2_goLoans 0 = .ok (.aload_n 0, 1) := dk_42 (dk_at dksX2_goLoans_0 0 rfl rfl)
theorem dX2_goLoans_1 : decode cX2_goLoans 1 = .ok (.invokevirtual 168, 3) := dk_182 0 168 (dk_at dksX2_goLoans_0 1 rfl rfl)
theorem dX2_goLoans_4 : decode cX2_goLoans 4 = .ok (.aload_n 0, 1) := dk_42 (dk_at dksX2_goLoans_0 4 rfl rfl)
theorem dX2_goLoans_5 : decode cX2_goLoans 5 = .ok (.invokevirtual 171, 3) := dk_182 0 171 (dk_at dksX2_goLoans_0 5 rfl rfl)
theorem dX2_goLoans_8 : decode cX2_goLoans 8 = .ok (.aload_n 0, 1) := dk_42 (dk_at dksX2_goLoans_0 8 rfl rfl)
theorem dX2_goLoans_9 : decode cX2_goLoans 9 = .ok (.invokevirtual 175, 3) := dk_182 0 175 (dk_at dksX2_goLoans_0 9 rfl rfl)
theorem dX2_goLoans_12 : decode cX2_goLoans 12 = .ok (.if_icmp .ne 7, 3) := dk_160 0 7 (dk_at dksX2_goLoans_0 12 rfl rfl)
theorem dX2_goLoans_15 : decode cX2_goLoans 15 = .ok (.iconst 1, 1) := dk_4 (dk_at dksX2_goLoans_0 15 rfl rfl)
theorem dX2_goLoans_16 : decode cX2_goLoans 16 = .ok (.goto 4, 3) := dk_167 0 4 (dk_at dksX2_goLoans_0 16 rfl rfl)
theorem dX2_goLoans_19 : decode cX2_goLoans 19 = .ok (.iconst 0, 1) := dk_3 (dk_at dksX2_goLoans_0 19 rfl rfl)
theorem dX2_goLoans_20 : decode cX2_goLoans 20 = .ok (.istore_n 3, 1) := dk_62 (dk_at dksX2_goLoans_0 20 rfl rfl)
theorem dX2_goLoans_21 : decode cX2_goLoans 21 = .ok (.iconst 0, 1) := dk_3 (dk_at dksX2_goLoans_0 21 rfl rfl)
theorem dX2_goLoans_22 : decode cX2_goLoans 22 = .ok (.istore 4, 2) := dk_54 4 (dk_at dksX2_goLoans_0 22 rfl rfl)
theorem dX2_goLoans_24 : decode cX2_goLoans 24 = .ok (.iload 4, 2) := dk_21 4 (dk_at dksX2_goLoans_1 0 rfl rfl)
theorem dX2_goLoans_26 : decode cX2_goLoans 26 = .ok (.iload_n 2, 1) := dk_28 (dk_at dksX2_goLoans_1 2 rfl rfl)
theorem dX2_goLoans_27 : decode cX2_goLoans 27 = .ok (.if_icmp .ge 107, 3) := dk_162 0 107 (dk_at dksX2_goLoans_1 3 rfl rfl)
theorem dX2_goLoans_30 : decode cX2_goLoans 30 = .ok (.aload_n 0, 1) := dk_42 (dk_at dksX2_goLoans_1 6 rfl rfl)
theorem dX2_goLoans_31 : decode cX2_goLoans 31 = .ok (.getfield 159, 3) := dk_180 0 159 (dk_at dksX2_goLoans_1 7 rfl rfl)
theorem dX2_goLoans_34 : decode cX2_goLoans 34 = .ok (.ifCond .ge 100, 3) := dk_156 0 100 (dk_at dksX2_goLoans_1 10 rfl rfl)
theorem dX2_goLoans_37 : decode cX2_goLoans 37 = .ok (.aload_n 0, 1) := dk_42 (dk_at dksX2_goLoans_1 13 rfl rfl)
theorem dX2_goLoans_38 : decode cX2_goLoans 38 = .ok (.getfield 71, 3) := dk_180 0 71 (dk_at dksX2_goLoans_1 14 rfl rfl)
theorem dX2_goLoans_41 : decode cX2_goLoans 41 = .ok (.iload_n 1, 1) := dk_27 (dk_at dksX2_goLoans_1 17 rfl rfl)
theorem dX2_goLoans_42 : decode cX2_goLoans 42 = .ok (.iconst 2, 1) := dk_5 (dk_at dksX2_goLoans_1 18 rfl rfl)
theorem dX2_goLoans_43 : decode cX2_goLoans 43 = .ok (.iload 4, 2) := dk_21 4 (dk_at dksX2_goLoans_1 19 rfl rfl)
theorem dX2_goLoans_45 : decode cX2_goLoans 45 = .ok (.imul, 1) := dk_104 (dk_at dksX2_goLoans_1 21 rfl rfl)
theorem dX2_goLoans_46 : decode cX2_goLoans 46 = .ok (.iadd, 1) := dk_96 (dk_at dksX2_goLoans_1 22 rfl rfl)
theorem dX2_goLoans_47 : decode cX2_goLoans 47 = .ok (.iaload, 1) := dk_46 (dk_at dksX2_goLoans_1 23 rfl rfl)
theorem dX2_goLoans_48 : decode cX2_goLoans 48 = .ok (.istore 5, 2) := dk_54 5 (dk_at dksX2_goLoans_2 0 rfl rfl)
theorem dX2_goLoans_50 : decode cX2_goLoans 50 = .ok (.aload_n 0, 1) := dk_42 (dk_at dksX2_goLoans_2 2 rfl rfl)
theorem dX2_goLoans_51 : decode cX2_goLoans 51 = .ok (.getfield 71, 3) := dk_180 0 71 (dk_at dksX2_goLoans_2 3 rfl rfl)
theorem dX2_goLoans_54 : decode cX2_goLoans 54 = .ok (.iload_n 1, 1) := dk_27 (dk_at dksX2_goLoans_2 6 rfl rfl)
theorem dX2_goLoans_55 : decode cX2_goLoans 55 = .ok (.iconst 2, 1) := dk_5 (dk_at dksX2_goLoans_2 7 rfl rfl)
theorem dX2_goLoans_56 : decode cX2_goLoans 56 = .ok (.iload 4, 2) := dk_21 4 (dk_at dksX2_goLoans_2 8 rfl rfl)
theorem dX2_goLoans_58 : decode cX2_goLoans 58 = .ok (.imul, 1) := dk_104 (dk_at dksX2_goLoans_2 10 rfl rfl)
theorem dX2_goLoans_59 : decode cX2_goLoans 59 = .ok (.iadd, 1) := dk_96 (dk_at dksX2_goLoans_2 11 rfl rfl)
theorem dX2_goLoans_60 : decode cX2_goLoans 60 = .ok (.iconst 1, 1) := dk_4 (dk_at dksX2_goLoans_2 12 rfl rfl)
theorem dX2_goLoans_61 : decode cX2_goLoans 61 = .ok (.iadd, 1) := dk_96 (dk_at dksX2_goLoans_2 13 rfl rfl)
theorem dX2_goLoans_62 : decode cX2_goLoans 62 = .ok (.iaload, 1) := dk_46 (dk_at dksX2_goLoans_2 14 rfl rfl)
theorem dX2_goLoans_63 : decode cX2_goLoans 63 = .ok (.istore 6, 2) := dk_54 6 (dk_at dksX2_goLoans_2 15 rfl rfl)
theorem dX2_goLoans_65 : decode cX2_goLoans 65 = .ok (.aload_n 0, 1) := dk_42 (dk_at dksX2_goLoans_2 17 rfl rfl)
theorem dX2_goLoans_66 : decode cX2_goLoans 66 = .ok (.iload 5, 2) := dk_21 5 (dk_at dksX2_goLoans_2 18 rfl rfl)
theorem dX2_goLoans_68 : decode cX2_goLoans 68 = .ok (.iload 6, 2) := dk_21 6 (dk_at dksX2_goLoans_2 20 rfl rfl)
theorem dX2_goLoans_70 : decode cX2_goLoans 70 = .ok (.invokevirtual 178, 3) := dk_182 0 178 (dk_at dksX2_goLoans_3 0 rfl rfl)
theorem dX2_goLoans_73 : decode cX2_goLoans 73 = .ok (.ifCond .eq 49, 3) := dk_153 0 49 (dk_at dksX2_goLoans_3 3 rfl rfl)
theorem dX2_goLoans_76 : decode cX2_goLoans 76 = .ok (.aload_n 0, 1) := dk_42 (dk_at dksX2_goLoans_3 6 rfl rfl)
theorem dX2_goLoans_77 : decode cX2_goLoans 77 = .ok (.iload 5, 2) := dk_21 5 (dk_at dksX2_goLoans_3 7 rfl rfl)
theorem dX2_goLoans_79 : decode cX2_goLoans 79 = .ok (.iload 6, 2) := dk_21 6 (dk_at dksX2_goLoans_3 9 rfl rfl)
theorem dX2_goLoans_81 : decode cX2_goLoans 81 = .ok (.invokevirtual 181, 3) := dk_182 0 181 (dk_at dksX2_goLoans_3 11 rfl rfl)
theorem dX2_goLoans_84 : decode cX2_goLoans 84 = .ok (.aload_n 0, 1) := dk_42 (dk_at dksX2_goLoans_3 14 rfl rfl)
theorem dX2_goLoans_85 : decode cX2_goLoans 85 = .ok (.iload_n 3, 1) := dk_29 (dk_at dksX2_goLoans_3 15 rfl rfl)
theorem dX2_goLoans_86 : decode cX2_goLoans 86 = .ok (.ifCond .ne 26, 3) := dk_154 0 26 (dk_at dksX2_goLoans_3 16 rfl rfl)
theorem dX2_goLoans_89 : decode cX2_goLoans 89 = .ok (.aload_n 0, 1) := dk_42 (dk_at dksX2_goLoans_3 19 rfl rfl)
theorem dX2_goLoans_90 : decode cX2_goLoans 90 = .ok (.getfield 162, 3) := dk_180 0 162 (dk_at dksX2_goLoans_3 20 rfl rfl)
theorem dX2_goLoans_93 : decode cX2_goLoans 93 = .ok (.ifCond .ge 19, 3) := dk_156 0 19 (dk_at dksX2_goLoans_4 0 rfl rfl)
theorem dX2_goLoans_96 : decode cX2_goLoans 96 = .ok (.aload_n 0, 1) := dk_42 (dk_at dksX2_goLoans_4 3 rfl rfl)
theorem dX2_goLoans_97 : decode cX2_goLoans 97 = .ok (.invokevirtual 171, 3) := dk_182 0 171 (dk_at dksX2_goLoans_4 4 rfl rfl)
theorem dX2_goLoans_100 : decode cX2_goLoans 100 = .ok (.aload_n 0, 1) := dk_42 (dk_at dksX2_goLoans_4 7 rfl rfl)
theorem dX2_goLoans_101 : decode cX2_goLoans 101 = .ok (.invokevirtual 175, 3) := dk_182 0 175 (dk_at dksX2_goLoans_4 8 rfl rfl)
theorem dX2_goLoans_104 : decode cX2_goLoans 104 = .ok (.if_icmp .ne 8, 3) := dk_160 0 8 (dk_at dksX2_goLoans_4 11 rfl rfl)
theorem dX2_goLoans_107 : decode cX2_goLoans 107 = .ok (.iload 4, 2) := dk_21 4 (dk_at dksX2_goLoans_4 14 rfl rfl)
theorem dX2_goLoans_109 : decode cX2_goLoans 109 = .ok (.goto 7, 3) := dk_167 0 7 (dk_at dksX2_goLoans_4 16 rfl rfl)
theorem dX2_goLoans_112 : decode cX2_goLoans 112 = .ok (.aload_n 0, 1) := dk_42 (dk_at dksX2_goLoans_4 19 rfl rfl)
theorem dX2_goLoans_113 : decode cX2_goLoans 113 = .ok (.getfield 162, 3) := dk_180 0 162 (dk_at dksX2_goLoans_4 20 rfl rfl)
theorem dX2_goLoans_116 : decode cX2_goLoans 116 = .ok (.putfield 162, 3) := dk_181 0 162 (dk_at dksX2_goLoans_5 0 rfl rfl)
theorem dX2_goLoans_119 : decode cX2_goLoans 119 = .ok (.goto 9, 3) := dk_167 0 9 (dk_at dksX2_goLoans_5 3 rfl rfl)
theorem dX2_goLoans_122 : decode cX2_goLoans 122 = .ok (.aload_n 0, 1) := dk_42 (dk_at dksX2_goLoans_5 6 rfl rfl)
theorem dX2_goLoans_123 : decode cX2_goLoans 123 = .ok (.iload 4, 2) := dk_21 4 (dk_at dksX2_goLoans_5 7 rfl rfl)
theorem dX2_goLoans_125 : decode cX2_goLoans 125 = .ok (.putfield 159, 3) := dk_181 0 159 (dk_at dksX2_goLoans_5 9 rfl rfl)
theorem dX2_goLoans_128 : decode cX2_goLoans 128 = .ok (.iinc 4 1, 3) := dk_132 4 1 (dk_at dksX2_goLoans_5 12 rfl rfl)
theorem dX2_goLoans_131 : decode cX2_goLoans 131 = .ok (.goto (-107), 3) := dk_167 255 149 (dk_at dksX2_goLoans_5 15 rfl rfl)
theorem dX2_goLoans_134 : decode cX2_goLoans 134 = .ok (.return_, 1) := dk_177 (dk_at dksX2_goLoans_5 18 rfl rfl)
abbrev cX2_begin : ByteArray := prog_8_method_23_code
def yX2_begin : MethodName := ⟨RX2, "begin", "()V"⟩
def dkwX2_begin_3 : List UInt8 := [132, 1, 1, 167, 255, 240, 42, 16, 247, 181, 0, 159, 42, 16, 247, 181, 0, 162, 177]
abbrev dktX2_begin_3 : List UInt8 := dkwX2_begin_3 ++ []
def dkwX2_begin_2 : List UInt8 := [27, 3, 79, 132, 1, 1, 167, 255, 205, 3, 60, 27, 42, 180, 0, 87, 162, 0, 14, 42, 27, 182, 0, 155]
abbrev dktX2_begin_2 : List UInt8 := dkwX2_begin_2 ++ dktX2_begin_3
def dkwX2_begin_1 : List UInt8 := [180, 0, 13, 27, 46, 79, 42, 180, 0, 40, 27, 3, 79, 42, 180, 0, 43, 27, 3, 79, 42, 180, 0, 46]
abbrev dktX2_begin_1 : List UInt8 := dkwX2_begin_1 ++ dktX2_begin_2
def dkwX2_begin_0 : List UInt8 := [3, 60, 27, 42, 180, 0, 87, 162, 0, 49, 42, 180, 0, 34, 27, 27, 79, 42, 180, 0, 37, 27, 42]
abbrev dktX2_begin_0 : List UInt8 := dkwX2_begin_0 ++ dktX2_begin_1
theorem dksX2_begin_0 : cX2_begin.data.toList.drop 0 = dktX2_begin_0 := by decide +kernel
theorem dksX2_begin_1 : cX2_begin.data.toList.drop 23 = dktX2_begin_1 := dk_seg dksX2_begin_0 23 rfl rfl
theorem dksX2_begin_2 : cX2_begin.data.toList.drop 47 = dktX2_begin_2 := dk_seg dksX2_begin_1 24 rfl rfl
theorem dksX2_begin_3 : cX2_begin.data.toList.drop 71 = dktX2_begin_3 := dk_seg dksX2_begin_2 24 rfl rfl
theorem dX2_begin_0 : decode cX2_begin 0 = .ok (.iconst 0, 1) := dk_3 (dk_at dksX2_begin_0 0 rfl rfl)
theorem dX2_begin_1 : decode cX2_begin 1 = .ok (.istore_n 1, 1) := dk_60 (dk_at dksX2_begin_0 1 rfl rfl)
theorem dX2_begin_2 : decode cX2_begin 2 = .ok (.iload_n 1, 1) := dk_27 (dk_at dksX2_begin_0 2 rfl rfl)
theorem dX2_begin_3 : decode cX2_begin 3 = .ok (.aload_n 0, 1) := dk_42 (dk_at dksX2_begin_0 3 rfl rfl)
theorem dX2_begin_4 : decode cX2_begin 4 = .ok (.getfield 87, 3) := dk_180 0 87 (dk_at dksX2_begin_0 4 rfl rfl)
theorem dX2_begin_7 : decode cX2_begin 7 = .ok (.if_icmp .ge 49, 3) := dk_162 0 49 (dk_at dksX2_begin_0 7 rfl rfl)
theorem dX2_begin_10 : decode cX2_begin 10 = .ok (.aload_n 0, 1) := dk_42 (dk_at dksX2_begin_0 10 rfl rfl)
theorem dX2_begin_11 : decode cX2_begin 11 = .ok (.getfield 34, 3) := dk_180 0 34 (dk_at dksX2_begin_0 11 rfl rfl)
theorem dX2_begin_14 : decode cX2_begin 14 = .ok (.iload_n 1, 1) := dk_27 (dk_at dksX2_begin_0 14 rfl rfl)
theorem dX2_begin_15 : decode cX2_begin 15 = .ok (.iload_n 1, 1) := dk_27 (dk_at dksX2_begin_0 15 rfl rfl)
theorem dX2_begin_16 : decode cX2_begin 16 = .ok (.iastore, 1) := dk_79 (dk_at dksX2_begin_0 16 rfl rfl)
theorem dX2_begin_17 : decode cX2_begin 17 = .ok (.aload_n 0, 1) := dk_42 (dk_at dksX2_begin_0 17 rfl rfl)
theorem dX2_begin_18 : decode cX2_begin 18 = .ok (.getfield 37, 3) := dk_180 0 37 (dk_at dksX2_begin_0 18 rfl rfl)
theorem dX2_begin_21 : decode cX2_begin 21 = .ok (.iload_n 1, 1) := dk_27 (dk_at dksX2_begin_0 21 rfl rfl)
theorem dX2_begin_22 : decode cX2_begin 22 = .ok (.aload_n 0, 1) := dk_42 (dk_at dksX2_begin_0 22 rfl rfl)
theorem dX2_begin_23 : decode cX2_begin 23 = .ok (.getfield 13, 3) := dk_180 0 13 (dk_at dksX2_begin_1 0 rfl rfl)
theorem dX2_begin_26 : decode cX2_begin 26 = .ok (.iload_n 1, 1) := dk_27 (dk_at dksX2_begin_1 3 rfl rfl)
theorem dX2_begin_27 : decode cX2_begin 27 = .ok (.iaload, 1) := dk_46 (dk_at dksX2_begin_1 4 rfl rfl)
theorem dX2_begin_28 : decode cX2_begin 28 = .ok (.iastore, 1) := dk_79 (dk_at dksX2_begin_1 5 rfl rfl)
theorem dX2_begin_29 : decode cX2_begin 29 = .ok (.aload_n 0, 1) := dk_42 (dk_at dksX2_begin_1 6 rfl rfl)
theorem dX2_begin_30 : decode cX2_begin 30 = .ok (.getfield 40, 3) := dk_180 0 40 (dk_at dksX2_begin_1 7 rfl rfl)
theorem dX2_begin_33 : decode cX2_begin 33 = .ok (.iload_n 1, 1) := dk_27 (dk_at dksX2_begin_1 10 rfl rfl)
theorem dX2_begin_34 : decode cX2_begin 34 = .ok (.iconst 0, 1) := dk_3 (dk_at dksX2_begin_1 11 rfl rfl)
theorem dX2_begin_35 : decode cX2_begin 35 = .ok (.iastore, 1) := dk_79 (dk_at dksX2_begin_1 12 rfl rfl)
theorem dX2_begin_36 : decode cX2_begin 36 = .ok (.aload_n 0, 1) := dk_42 (dk_at dksX2_begin_1 13 rfl rfl)
theorem dX2_begin_37 : decode cX2_begin 37 = .ok (.getfield 43, 3) := dk_180 0 43 (dk_at dksX2_begin_1 14 rfl rfl)
theorem dX2_begin_40 : decode cX2_begin 40 = .ok (.iload_n 1, 1) := dk_27 (dk_at dksX2_begin_1 17 rfl rfl)
theorem dX2_begin_41 : decode cX2_begin 41 = .ok (.iconst 0, 1) := dk_3 (dk_at dksX2_begin_1 18 rfl rfl)
theorem dX2_begin_42 : decode cX2_begin 42 = .ok (.iastore, 1) := dk_79 (dk_at dksX2_begin_1 19 rfl rfl)
theorem dX2_begin_43 : decode cX2_begin 43 = .ok (.aload_n 0, 1) := dk_42 (dk_at dksX2_begin_1 20 rfl rfl)
theorem dX2_begin_44 : decode cX2_begin 44 = .ok (.getfield 46, 3) := dk_180 0 46 (dk_at dksX2_begin_1 21 rfl rfl)
theorem dX2_begin_47 : decode cX2_begin 47 = .ok (.iload_n 1, 1) := dk_27 (dk_at dksX2_begin_2 0 rfl rfl)
theorem dX2_begin_48 : decode cX2_begin 48 = .ok (.iconst 0, 1) := dk_3 (dk_at dksX2_begin_2 1 rfl rfl)
theorem dX2_begin_49 : decode cX2_begin 49 = .ok (.iastore, 1) := dk_79 (dk_at dksX2_begin_2 2 rfl rfl)
theorem dX2_begin_50 : decode cX2_begin 50 = .ok (.iinc 1 1, 3) := dk_132 1 1 (dk_at dksX2_begin_2 3 rfl rfl)
theorem dX2_begin_53 : decode cX2_begin 53 = .ok (.goto (-51), 3) := dk_167 255 205 (dk_at dksX2_begin_2 6 rfl rfl)
theorem dX2_begin_56 : decode cX2_begin 56 = .ok (.iconst 0, 1) := dk_3 (dk_at dksX2_begin_2 9 rfl rfl)
theorem dX2_begin_57 : decode cX2_begin 57 = .ok (.istore_n 1, 1) := dk_60 (dk_at dksX2_begin_2 10 rfl rfl)
theorem dX2_begin_58 : decode cX2_begin 58 = .ok (.iload_n 1, 1) := dk_27 (dk_at dksX2_begin_2 11 rfl rfl)
theorem dX2_begin_59 : decode cX2_begin 59 = .ok (.aload_n 0, 1) := dk_42 (dk_at dksX2_begin_2 12 rfl rfl)
theorem dX2_begin_60 : decode cX2_begin 60 = .ok (.getfield 87, 3) := dk_180 0 87 (dk_at dksX2_begin_2 13 rfl rfl)
theorem dX2_begin_63 : decode cX2_begin 63 = .ok (.if_icmp .ge 14, 3) := dk_162 0 14 (dk_at dksX2_begin_2 16 rfl rfl)
theorem dX2_begin_66 : decode cX2_begin 66 = .ok (.aload_n 0, 1) := dk_42 (dk_at dksX2_begin_2 19 rfl rfl)
theorem dX2_begin_67 : decode cX2_begin 67 = .ok (.iload_n 1, 1) := dk_27 (dk_at dksX2_begin_2 20 rfl rfl)
theorem dX2_begin_68 : decode cX2_begin 68 = .ok (.invokevirtual 155, 3) := dk_182 0 155 (dk_at dksX2_begin_2 21 rfl rfl)
theorem dX2_begin_71 : decode cX2_begin 71 = .ok (.iinc 1 1, 3) := dk_132 1 1 (dk_at dksX2_begin_3 0 rfl rfl)
theorem dX2_begin_74 : decode cX2_begin 74 = .ok (.goto (-16), 3) := dk_167 255 240 (dk_at dksX2_begin_3 3 rfl rfl)
theorem dX2_begin_77 : decode cX2_begin 77 = .ok (.aload_n 0, 1) := dk_42 (dk_at dksX2_begin_3 6 rfl rfl)
theorem dX2_begin_78 : decode cX2_begin 78 = .ok (.bipush (-9), 2) := dk_16 247 (dk_at dksX2_begin_3 7 rfl rfl)
theorem dX2_begin_80 : decode cX2_begin 80 = .ok (.putfield 159, 3) := dk_181 0 159 (dk_at dksX2_begin_3 9 rfl rfl)
theorem dX2_begin_83 : decode cX2_begin 83 = .ok (.aload_n 0, 1) := dk_42 (dk_at dksX2_begin_3 12 rfl rfl)
theorem dX2_begin_84 : decode cX2_begin 84 = .ok (.bipush (-9), 2) := dk_16 247 (dk_at dksX2_begin_3 13 rfl rfl)
theorem dX2_begin_86 : decode cX2_begin 86 = .ok (.putfield 162, 3) := dk_181 0 162 (dk_at dksX2_begin_3 15 rfl rfl)
theorem dX2_begin_89 : decode cX2_begin 89 = .ok (.return_, 1) := dk_177 (dk_at dksX2_begin_3 18 rfl rfl)
abbrev cX2_sees : ByteArray := prog_8_method_22_code
def yX2_sees : MethodName := ⟨RX2, "sees", "(I)V"⟩
def dkwX2_sees_2 : List UInt8 := [4, 28, 120, 167, 0, 4, 3, 128, 79, 177]
abbrev dktX2_sees_2 : List UInt8 := dkwX2_sees_2 ++ []
def dkwX2_sees_1 : List UInt8 := [180, 0, 46, 27, 92, 46, 42, 180, 0, 37, 28, 46, 42, 180, 0, 16, 27, 46, 184, 0, 149, 153, 0, 9]
abbrev dktX2_sees_1 : List UInt8 := dkwX2_sees_1 ++ dktX2_sees_2
def dkwX2_sees_0 : List UInt8 := [42, 180, 0, 34, 27, 46, 61, 42, 180, 0, 43, 27, 92, 46, 42, 180, 0, 37, 28, 46, 128, 79, 42]
abbrev dktX2_sees_0 : List UInt8 := dkwX2_sees_0 ++ dktX2_sees_1
theorem dksX2_sees_0 : cX2_sees.data.toList.drop 0 = dktX2_sees_0 := by decide +kernel
theorem dksX2_sees_1 : cX2_sees.data.toList.drop 23 = dktX2_sees_1 := dk_seg dksX2_sees_0 23 rfl rfl
theorem dksX2_sees_2 : cX2_sees.data.toList.drop 47 = dktX2_sees_2 := dk_seg dksX2_sees_1 24 rfl rfl
theorem dX2_sees_0 : decode cX2_sees 0 = .ok (.aload_n 0, 1) := dk_42 (dk_at dksX2_sees_0 0 rfl rfl)
theorem dX2_sees_1 : decode cX2_sees 1 = .ok (.getfield 34, 3) := dk_180 0 34 (dk_at dksX2_sees_0 1 rfl rfl)
theorem dX2_sees_4 : decode cX2_sees 4 = .ok (.iload_n 1, 1) := dk_27 (dk_at dksX2_sees_0 4 rfl rfl)
theorem dX2_sees_5 : decode cX2_sees 5 = .ok (.iaload, 1) := dk_46 (dk_at dksX2_sees_0 5 rfl rfl)
theorem dX2_sees_6 : decode cX2_sees 6 = .ok (.istore_n 2, 1) := dk_61 (dk_at dksX2_sees_0 6 rfl rfl)
theorem dX2_sees_7 : decode cX2_sees 7 = .ok (.aload_n 0, 1) := dk_42 (dk_at dksX2_sees_0 7 rfl rfl)
theorem dX2_sees_8 : decode cX2_sees 8 = .ok (.getfield 43, 3) := dk_180 0 43 (dk_at dksX2_sees_0 8 rfl rfl)
theorem dX2_sees_11 : decode cX2_sees 11 = .ok (.iload_n 1, 1) := dk_27 (dk_at dksX2_sees_0 11 rfl rfl)
theorem dX2_sees_12 : decode cX2_sees 12 = .ok (.dup2, 1) := dk_92 (dk_at dksX2_sees_0 12 rfl rfl)
theorem dX2_sees_13 : decode cX2_sees 13 = .ok (.iaload, 1) := dk_46 (dk_at dksX2_sees_0 13 rfl rfl)
theorem dX2_sees_14 : decode cX2_sees 14 = .ok (.aload_n 0, 1) := dk_42 (dk_at dksX2_sees_0 14 rfl rfl)
theorem dX2_sees_15 : decode cX2_sees 15 = .ok (.getfield 37, 3) := dk_180 0 37 (dk_at dksX2_sees_0 15 rfl rfl)
theorem dX2_sees_18 : decode cX2_sees 18 = .ok (.iload_n 2, 1) := dk_28 (dk_at dksX2_sees_0 18 rfl rfl)
theorem dX2_sees_19 : decode cX2_sees 19 = .ok (.iaload, 1) := dk_46 (dk_at dksX2_sees_0 19 rfl rfl)
theorem dX2_sees_20 : decode cX2_sees 20 = .ok (.ior, 1) := dk_128 (dk_at dksX2_sees_0 20 rfl rfl)
theorem dX2_sees_21 : decode cX2_sees 21 = .ok (.iastore, 1) := dk_79 (dk_at dksX2_sees_0 21 rfl rfl)
theorem dX2_sees_22 : decode cX2_sees 22 = .ok (.aload_n 0, 1) := dk_42 (dk_at dksX2_sees_0 22 rfl rfl)
theorem dX2_sees_23 : decode cX2_sees 23 = .ok (.getfield 46, 3) := dk_180 0 46 (dk_at dksX2_sees_1 0 rfl rfl)
theorem dX2_sees_26 : decode cX2_sees 26 = .ok (.iload_n 1, 1) := dk_27 (dk_at dksX2_sees_1 3 rfl rfl)
theorem dX2_sees_27 : decode cX2_sees 27 = .ok (.dup2, 1) := dk_92 (dk_at dksX2_sees_1 4 rfl rfl)
theorem dX2_sees_28 : decode cX2_sees 28 = .ok (.iaload, 1) := dk_46 (dk_at dksX2_sees_1 5 rfl rfl)
theorem dX2_sees_29 : decode cX2_sees 29 = .ok (.aload_n 0, 1) := dk_42 (dk_at dksX2_sees_1 6 rfl rfl)
theorem dX2_sees_30 : decode cX2_sees 30 = .ok (.getfield 37, 3) := dk_180 0 37 (dk_at dksX2_sees_1 7 rfl rfl)
theorem dX2_sees_33 : decode cX2_sees 33 = .ok (.iload_n 2, 1) := dk_28 (dk_at dksX2_sees_1 10 rfl rfl)
theorem dX2_sees_34 : decode cX2_sees 34 = .ok (.iaload, 1) := dk_46 (dk_at dksX2_sees_1 11 rfl rfl)
theorem dX2_sees_35 : decode cX2_sees 35 = .ok (.aload_n 0, 1) := dk_42 (dk_at dksX2_sees_1 12 rfl rfl)
theorem dX2_sees_36 : decode cX2_sees 36 = .ok (.getfield 16, 3) := dk_180 0 16 (dk_at dksX2_sees_1 13 rfl rfl)
theorem dX2_sees_39 : decode cX2_sees 39 = .ok (.iload_n 1, 1) := dk_27 (dk_at dksX2_sees_1 16 rfl rfl)
theorem dX2_sees_40 : decode cX2_sees 40 = .ok (.iaload, 1) := dk_46 (dk_at dksX2_sees_1 17 rfl rfl)
theorem dX2_sees_41 : decode cX2_sees 41 = .ok (.invokestatic 149, 3) := dk_184 0 149 (dk_at dksX2_sees_1 18 rfl rfl)
theorem dX2_sees_44 : decode cX2_sees 44 = .ok (.ifCond .eq 9, 3) := dk_153 0 9 (dk_at dksX2_sees_1 21 rfl rfl)
theorem dX2_sees_47 : decode cX2_sees 47 = .ok (.iconst 1, 1) := dk_4 (dk_at dksX2_sees_2 0 rfl rfl)
theorem dX2_sees_48 : decode cX2_sees 48 = .ok (.iload_n 2, 1) := dk_28 (dk_at dksX2_sees_2 1 rfl rfl)
theorem dX2_sees_49 : decode cX2_sees 49 = .ok (.ishl, 1) := dk_120 (dk_at dksX2_sees_2 2 rfl rfl)
theorem dX2_sees_50 : decode cX2_sees 50 = .ok (.goto 4, 3) := dk_167 0 4 (dk_at dksX2_sees_2 3 rfl rfl)
theorem dX2_sees_53 : decode cX2_sees 53 = .ok (.iconst 0, 1) := dk_3 (dk_at dksX2_sees_2 6 rfl rfl)
theorem dX2_sees_54 : decode cX2_sees 54 = .ok (.ior, 1) := dk_128 (dk_at dksX2_sees_2 7 rfl rfl)
theorem dX2_sees_55 : decode cX2_sees 55 = .ok (.iastore, 1) := dk_79 (dk_at dksX2_sees_2 8 rfl rfl)
theorem dX2_sees_56 : decode cX2_sees 56 = .ok (.return_, 1) := dk_177 (dk_at dksX2_sees_2 9 rfl rfl)
abbrev cX2_isIn : ByteArray := prog_8_method_4_code
def yX2_isIn : MethodName := ⟨RX2, "isIn", "(II)Z"⟩
def dkwX2_isIn_0 : List UInt8 := [26, 27, 122, 4, 126, 4, 160, 0, 7, 4, 167, 0, 4, 3, 172]
abbrev dktX2_isIn_0 : List UInt8 := dkwX2_isIn_0 ++ []
theorem dksX2_isIn_0 : cX2_isIn.data.toList.drop 0 = dktX2_isIn_0 := by decide +kernel
theorem dX2_isIn_0 : decode cX2_isIn 0 = .ok (.iload_n 0, 1) := dk_26 (dk_at dksX2_isIn_0 0 rfl rfl)
theorem dX2_isIn_1 : decode cX2_isIn 1 = .ok (.iload_n 1, 1) := dk_27 (dk_at dksX2_isIn_0 1 rfl rfl)
theorem dX2_isIn_2 : decode cX2_isIn 2 = .ok (.ishr, 1) := dk_122 (dk_at dksX2_isIn_0 2 rfl rfl)
theorem dX2_isIn_3 : decode cX2_isIn 3 = .ok (.iconst 1, 1) := dk_4 (dk_at dksX2_isIn_0 3 rfl rfl)
theorem dX2_isIn_4 : decode cX2_isIn 4 = .ok (.iand, 1) := dk_126 (dk_at dksX2_isIn_0 4 rfl rfl)
theorem dX2_isIn_5 : decode cX2_isIn 5 = .ok (.iconst 1, 1) := dk_4 (dk_at dksX2_isIn_0 5 rfl rfl)
theorem dX2_isIn_6 : decode cX2_isIn 6 = .ok (.if_icmp .ne 7, 3) := dk_160 0 7 (dk_at dksX2_isIn_0 6 rfl rfl)
theorem dX2_isIn_9 : decode cX2_isIn 9 = .ok (.iconst 1, 1) := dk_4 (dk_at dksX2_isIn_0 9 rfl rfl)
theorem dX2_isIn_10 : decode cX2_isIn 10 = .ok (.goto 4, 3) := dk_167 0 4 (dk_at dksX2_isIn_0 10 rfl rfl)
theorem dX2_isIn_13 : decode cX2_isIn 13 = .ok (.iconst 0, 1) := dk_3 (dk_at dksX2_isIn_0 13 rfl rfl)
theorem dX2_isIn_14 : decode cX2_isIn 14 = .ok (.ireturn, 1) := dk_172 (dk_at dksX2_isIn_0 14 rfl rfl)
abbrev cX2_mendedNow : ByteArray := prog_8_method_20_code
def yX2_mendedNow : MethodName := ⟨RX2, "mendedNow", "()I"⟩
def dkwX2_mendedNow_1 : List UInt8 := [167, 0, 4, 3, 128, 60, 132, 2, 1, 167, 255, 227, 27, 172]
abbrev dktX2_mendedNow_1 : List UInt8 := dkwX2_mendedNow_1 ++ []
def dkwX2_mendedNow_0 : List UInt8 := [3, 60, 3, 61, 28, 42, 180, 0, 87, 162, 0, 27, 27, 42, 28, 182, 0, 152, 153, 0, 9, 4, 28, 120]
abbrev dktX2_mendedNow_0 : List UInt8 := dkwX2_mendedNow_0 ++ dktX2_mendedNow_1
theorem dksX2_mendedNow_0 : cX2_mendedNow.data.toList.drop 0 = dktX2_mendedNow_0 := by decide +kernel
theorem dksX2_mendedNow_1 : cX2_mendedNow.data.toList.drop 24 = dktX2_mendedNow_1 := dk_seg dksX2_mendedNow_0 24 rfl rfl
theorem dX2_mendedNow_0 : decode cX2_mendedNow 0 = .ok (.iconst 0, 1) := dk_3 (dk_at dksX2_mendedNow_0 0 rfl rfl)
theorem dX2_mendedNow_1 : decode cX2_mendedNow 1 = .ok (.istore_n 1, 1) := dk_60 (dk_at dksX2_mendedNow_0 1 rfl rfl)
theorem dX2_mendedNow_2 : decode cX2_mendedNow 2 = .ok (.iconst 0, 1) := dk_3 (dk_at dksX2_mendedNow_0 2 rfl rfl)
theorem dX2_mendedNow_3 : decode cX2_mendedNow 3 = .ok (.istore_n 2, 1) := dk_61 (dk_at dksX2_mendedNow_0 3 rfl rfl)
theorem dX2_mendedNow_4 : decode cX2_mendedNow 4 = .ok (.iload_n 2, 1) := dk_28 (dk_at dksX2_mendedNow_0 4 rfl rfl)
theorem dX2_mendedNow_5 : decode cX2_mendedNow 5 = .ok (.aload_n 0, 1) := dk_42 (dk_at dksX2_mendedNow_0 5 rfl rfl)
theorem dX2_mendedNow_6 : decode cX2_mendedNow 6 = .ok (.getfield 87, 3) := dk_180 0 87 (dk_at dksX2_mendedNow_0 6 rfl rfl)
theorem dX2_mendedNow_9 : decode cX2_mendedNow 9 = .ok (.if_icmp .ge 27, 3) := dk_162 0 27 (dk_at dksX2_mendedNow_0 9 rfl rfl)
theorem dX2_mendedNow_12 : decode cX2_mendedNow 12 = .ok (.iload_n 1, 1) := dk_27 (dk_at dksX2_mendedNow_0 12 rfl rfl)
theorem dX2_mendedNow_13 : decode cX2_mendedNow 13 = .ok (.aload_n 0, 1) := dk_42 (dk_at dksX2_mendedNow_0 13 rfl rfl)
theorem dX2_mendedNow_14 : decode cX2_mendedNow 14 = .ok (.iload_n 2, 1) := dk_28 (dk_at dksX2_mendedNow_0 14 rfl rfl)
theorem dX2_mendedNow_15 : decode cX2_mendedNow 15 = .ok (.invokevirtual 152, 3) := dk_182 0 152 (dk_at dksX2_mendedNow_0 15 rfl rfl)
theorem dX2_mendedNow_18 : decode cX2_mendedNow 18 = .ok (.ifCond .eq 9, 3) := dk_153 0 9 (dk_at dksX2_mendedNow_0 18 rfl rfl)
theorem dX2_mendedNow_21 : decode cX2_mendedNow 21 = .ok (.iconst 1, 1) := dk_4 (dk_at dksX2_mendedNow_0 21 rfl rfl)
theorem dX2_mendedNow_22 : decode cX2_mendedNow 22 = .ok (.iload_n 2, 1) := dk_28 (dk_at dksX2_mendedNow_0 22 rfl rfl)
theorem dX2_mendedNow_23 : decode cX2_mendedNow 23 = .ok (.ishl, 1) := dk_120 (dk_at dksX2_mendedNow_0 23 rfl rfl)
theorem dX2_mendedNow_24 : decode cX2_mendedNow 24 = .ok (.goto 4, 3) := dk_167 0 4 (dk_at dksX2_mendedNow_1 0 rfl rfl)
theorem dX2_mendedNow_27 : decode cX2_mendedNow 27 = .ok (.iconst 0, 1) := dk_3 (dk_at dksX2_mendedNow_1 3 rfl rfl)
theorem dX2_mendedNow_28 : decode cX2_mendedNow 28 = .ok (.ior, 1) := dk_128 (dk_at dksX2_mendedNow_1 4 rfl rfl)
theorem dX2_mendedNow_29 : decode cX2_mendedNow 29 = .ok (.istore_n 1, 1) := dk_60 (dk_at dksX2_mendedNow_1 5 rfl rfl)
theorem dX2_mendedNow_30 : decode cX2_mendedNow 30 = .ok (.iinc 2 1, 3) := dk_132 2 1 (dk_at dksX2_mendedNow_1 6 rfl rfl)
theorem dX2_mendedNow_33 : decode cX2_mendedNow 33 = .ok (.goto (-29), 3) := dk_167 255 227 (dk_at dksX2_mendedNow_1 9 rfl rfl)
theorem dX2_mendedNow_36 : decode cX2_mendedNow 36 = .ok (.iload_n 1, 1) := dk_27 (dk_at dksX2_mendedNow_1 12 rfl rfl)
theorem dX2_mendedNow_37 : decode cX2_mendedNow 37 = .ok (.ireturn, 1) := dk_172 (dk_at dksX2_mendedNow_1 13 rfl rfl)
abbrev cX2_isMended : ByteArray := prog_8_method_19_code
def yX2_isMended : MethodName := ⟨RX2, "isMended", "(I)Z"⟩
def dkwX2_isMended_1 : List UInt8 := [184, 0, 149, 153, 0, 7, 4, 167, 0, 4, 3, 172]
abbrev dktX2_isMended_1 : List UInt8 := dkwX2_isMended_1 ++ []
def dkwX2_isMended_0 : List UInt8 := [42, 180, 0, 16, 27, 46, 16, 6, 159, 0, 21, 42, 180, 0, 43, 27, 46, 42, 180, 0, 16, 27, 46]
abbrev dktX2_isMended_0 : List UInt8 := dkwX2_isMended_0 ++ dktX2_isMended_1
theorem dksX2_isMended_0 : cX2_isMended.data.toList.drop 0 = dktX2_isMended_0 := by decide +kernel
theorem dksX2_isMended_1 : cX2_isMended.data.toList.drop 23 = dktX2_isMended_1 := dk_seg dksX2_isMended_0 23 rfl rfl
theorem dX2_isMended_0 : decode cX2_isMended 0 = .ok (.aload_n 0, 1) := dk_42 (dk_at dksX2_isMended_0 0 rfl rfl)
theorem dX2_isMended_1 : decode cX2_isMended 1 = .ok (.getfield 16, 3) := dk_180 0 16 (dk_at dksX2_isMended_0 1 rfl rfl)
theorem dX2_isMended_4 : decode cX2_isMended 4 = .ok (.iload_n 1, 1) := dk_27 (dk_at dksX2_isMended_0 4 rfl rfl)
theorem dX2_isMended_5 : decode cX2_isMended 5 = .ok (.iaload, 1) := dk_46 (dk_at dksX2_isMended_0 5 rfl rfl)
theorem dX2_isMended_6 : decode cX2_isMended 6 = .ok (.bipush 6, 2) := dk_16 6 (dk_at dksX2_isMended_0 6 rfl rfl)
theorem dX2_isMended_8 : decode cX2_isMended 8 = .ok (.if_icmp .eq 21, 3) := dk_159 0 21 (dk_at dksX2_isMended_0 8 rfl rfl)
theorem dX2_isMended_11 : decode cX2_isMended 11 = .ok (.aload_n 0, 1) := dk_42 (dk_at dksX2_isMended_0 11 rfl rfl)
theorem dX2_isMended_12 : decode cX2_isMended 12 = .ok (.getfield 43, 3) := dk_180 0 43 (dk_at dksX2_isMended_0 12 rfl rfl)
theorem dX2_isMended_15 : decode cX2_isMended 15 = .ok (.iload_n 1, 1) := dk_27 (dk_at dksX2_isMended_0 15 rfl rfl)
theorem dX2_isMended_16 : decode cX2_isMended 16 = .ok (.iaload, 1) := dk_46 (dk_at dksX2_isMended_0 16 rfl rfl)
theorem dX2_isMended_17 : decode cX2_isMended 17 = .ok (.aload_n 0, 1) := dk_42 (dk_at dksX2_isMended_0 17 rfl rfl)
theorem dX2_isMended_18 : decode cX2_isMended 18 = .ok (.getfield 16, 3) := dk_180 0 16 (dk_at dksX2_isMended_0 18 rfl rfl)
theorem dX2_isMended_21 : decode cX2_isMended 21 = .ok (.iload_n 1, 1) := dk_27 (dk_at dksX2_isMended_0 21 rfl rfl)
theorem dX2_isMended_22 : decode cX2_isMended 22 = .ok (.iaload, 1) := dk_46 (dk_at dksX2_isMended_0 22 rfl rfl)
theorem dX2_isMended_23 : decode cX2_isMended 23 = .ok (.invokestatic 149, 3) := dk_184 0 149 (dk_at dksX2_isMended_1 0 rfl rfl)
theorem dX2_isMended_26 : decode cX2_isMended 26 = .ok (.ifCond .eq 7, 3) := dk_153 0 7 (dk_at dksX2_isMended_1 3 rfl rfl)
theorem dX2_isMended_29 : decode cX2_isMended 29 = .ok (.iconst 1, 1) := dk_4 (dk_at dksX2_isMended_1 6 rfl rfl)
theorem dX2_isMended_30 : decode cX2_isMended 30 = .ok (.goto 4, 3) := dk_167 0 4 (dk_at dksX2_isMended_1 7 rfl rfl)
theorem dX2_isMended_33 : decode cX2_isMended 33 = .ok (.iconst 0, 1) := dk_3 (dk_at dksX2_isMended_1 10 rfl rfl)
theorem dX2_isMended_34 : decode cX2_isMended 34 = .ok (.ireturn, 1) := dk_172 (dk_at dksX2_isMended_1 11 rfl rfl)
abbrev cX2_everybody : ByteArray := prog_8_method_21_code
def yX2_everybody : MethodName := ⟨RX2, "everybody", "()I"⟩
def dkwX2_everybody_0 : List UInt8 := [4, 42, 180, 0, 87, 120, 4, 100, 172]
abbrev dktX2_everybody_0 : List UInt8 := dkwX2_everybody_0 ++ []
theorem dksX2_everybody_0 : cX2_everybody.data.toList.drop 0 = dktX2_everybody_0 := by decide +kernel
theorem dX2_everybody_0 : decode cX2_everybody 0 = .ok (.iconst 1, 1) := dk_4 (dk_at dksX2_everybody_0 0 rfl rfl)
theorem dX2_everybody_1 : decode cX2_everybody 1 = .ok (.aload_n 0, 1) := dk_42 (dk_at dksX2_everybody_0 1 rfl rfl)
theorem dX2_everybody_2 : decode cX2_everybody 2 = .ok (.getfield 87, 3) := dk_180 0 87 (dk_at dksX2_everybody_0 2 rfl rfl)
theorem dX2_everybody_5 : decode cX2_everybody 5 = .ok (.ishl, 1) := dk_120 (dk_at dksX2_everybody_0 5 rfl rfl)
theorem dX2_everybody_6 : decode cX2_everybody 6 = .ok (.iconst 1, 1) := dk_4 (dk_at dksX2_everybody_0 6 rfl rfl)
theorem dX2_everybody_7 : decode cX2_everybody 7 = .ok (.isub, 1) := dk_100 (dk_at dksX2_everybody_0 7 rfl rfl)
theorem dX2_everybody_8 : decode cX2_everybody 8 = .ok (.ireturn, 1) := dk_172 (dk_at dksX2_everybody_0 8 rfl rfl)
abbrev cX2_canLend : ByteArray := prog_8_method_24_code
def yX2_canLend : MethodName := ⟨RX2, "canLend", "(II)Z"⟩
def dkwX2_canLend_1 : List UInt8 := [180, 0, 34, 28, 46, 46, 153, 0, 7, 4, 167, 0, 4, 3, 172]
abbrev dktX2_canLend_1 : List UInt8 := dkwX2_canLend_1 ++ []
def dkwX2_canLend_0 : List UInt8 := [27, 28, 159, 0, 35, 42, 180, 0, 37, 42, 180, 0, 34, 27, 46, 46, 153, 0, 21, 42, 180, 0, 37, 42]
abbrev dktX2_canLend_0 : List UInt8 := dkwX2_canLend_0 ++ dktX2_canLend_1
theorem dksX2_canLend_0 : cX2_canLend.data.toList.drop 0 = dktX2_canLend_0 := by decide +kernel
theorem dksX2_canLend_1 : cX2_canLend.data.toList.drop 24 = dktX2_canLend_1 := dk_seg dksX2_canLend_0 24 rfl rfl
theorem dX2_canLend_0 : decode cX2_canLend 0 = .ok (.iload_n 1, 1) := dk_27 (dk_at dksX2_canLend_0 0 rfl rfl)
theorem dX2_canLend_1 : decode cX2_canLend 1 = .ok (.iload_n 2, 1) := dk_28 (dk_at dksX2_canLend_0 1 rfl rfl)
theorem dX2_canLend_2 : decode cX2_canLend 2 = .ok (.if_icmp .eq 35, 3) := dk_159 0 35 (dk_at dksX2_canLend_0 2 rfl rfl)
theorem dX2_canLend_5 : decode cX2_canLend 5 = .ok (.aload_n 0, 1) := dk_42 (dk_at dksX2_canLend_0 5 rfl rfl)
theorem dX2_canLend_6 : decode cX2_canLend 6 = .ok (.getfield 37, 3) := dk_180 0 37 (dk_at dksX2_canLend_0 6 rfl rfl)
theorem dX2_canLend_9 : decode cX2_canLend 9 = .ok (.aload_n 0, 1) := dk_42 (dk_at dksX2_canLend_0 9 rfl rfl)
theorem dX2_canLend_10 : decode cX2_canLend 10 = .ok (.getfield 34, 3) := dk_180 0 34 (dk_at dksX2_canLend_0 10 rfl rfl)
theorem dX2_canLend_13 : decode cX2_canLend 13 = .ok (.iload_n 1, 1) := dk_27 (dk_at dksX2_canLend_0 13 rfl rfl)
theorem dX2_canLend_14 : decode cX2_canLend 14 = .ok (.iaload, 1) := dk_46 (dk_at dksX2_canLend_0 14 rfl rfl)
theorem dX2_canLend_15 : decode cX2_canLend 15 = .ok (.iaload, 1) := dk_46 (dk_at dksX2_canLend_0 15 rfl rfl)
theorem dX2_canLend_16 : decode cX2_canLend 16 = .ok (.ifCond .eq 21, 3) := dk_153 0 21 (dk_at dksX2_canLend_0 16 rfl rfl)
theorem dX2_canLend_19 : decode cX2_canLend 19 = .ok (.aload_n 0, 1) := dk_42 (dk_at dksX2_canLend_0 19 rfl rfl)
theorem dX2_canLend_20 : decode cX2_canLend 20 = .ok (.getfield 37, 3) := dk_180 0 37 (dk_at dksX2_canLend_0 20 rfl rfl)
theorem dX2_canLend_23 : decode cX2_canLend 23 = .ok (.aload_n 0, 1) := dk_42 (dk_at dksX2_canLend_0 23 rfl rfl)
theorem dX2_canLend_24 : decode cX2_canLend 24 = .ok (.getfield 34, 3) := dk_180 0 34 (dk_at dksX2_canLend_1 0 rfl rfl)
theorem dX2_canLend_27 : decode cX2_canLend 27 = .ok (.iload_n 2, 1) := dk_28 (dk_at dksX2_canLend_1 3 rfl rfl)
theorem dX2_canLend_28 : decode cX2_canLend 28 = .ok (.iaload, 1) := dk_46 (dk_at dksX2_canLend_1 4 rfl rfl)
theorem dX2_canLend_29 : decode cX2_canLend 29 = .ok (.iaload, 1) := dk_46 (dk_at dksX2_canLend_1 5 rfl rfl)
theorem dX2_canLend_30 : decode cX2_canLend 30 = .ok (.ifCond .eq 7, 3) := dk_153 0 7 (dk_at dksX2_canLend_1 6 rfl rfl)
theorem dX2_canLend_33 : decode cX2_canLend 33 = .ok (.iconst 1, 1) := dk_4 (dk_at dksX2_canLend_1 9 rfl rfl)
theorem dX2_canLend_34 : decode cX2_canLend 34 = .ok (.goto 4, 3) := dk_167 0 4 (dk_at dksX2_canLend_1 10 rfl rfl)
theorem dX2_canLend_37 : decode cX2_canLend 37 = .ok (.iconst 0, 1) := dk_3 (dk_at dksX2_canLend_1 13 rfl rfl)
theorem dX2_canLend_38 : decode cX2_canLend 38 = .ok (.ireturn, 1) := dk_172 (dk_at dksX2_canLend_1 14 rfl rfl)
abbrev cX2_lend : ByteArray := prog_8_method_26_code
def yX2_lend : MethodName := ⟨RX2, "lend", "(II)V"⟩
def dkwX2_lend_2 : List UInt8 := [182, 0, 155, 42, 28, 182, 0, 155, 177]
abbrev dktX2_lend_2 : List UInt8 := dkwX2_lend_2 ++ []
def dkwX2_lend_1 : List UInt8 := [29, 79, 42, 42, 180, 0, 34, 27, 46, 182, 0, 165, 42, 42, 180, 0, 34, 28, 46, 182, 0, 165, 42, 27]
abbrev dktX2_lend_1 : List UInt8 := dkwX2_lend_1 ++ dktX2_lend_2
def dkwX2_lend_0 : List UInt8 := [42, 180, 0, 34, 27, 46, 62, 42, 180, 0, 34, 27, 42, 180, 0, 34, 28, 46, 79, 42, 180, 0, 34, 28]
abbrev dktX2_lend_0 : List UInt8 := dkwX2_lend_0 ++ dktX2_lend_1
theorem dksX2_lend_0 : cX2_lend.data.toList.drop 0 = dktX2_lend_0 := by decide +kernel
theorem dksX2_lend_1 : cX2_lend.data.toList.drop 24 = dktX2_lend_1 := dk_seg dksX2_lend_0 24 rfl rfl
theorem dksX2_lend_2 : cX2_lend.data.toList.drop 48 = dktX2_lend_2 := dk_seg dksX2_lend_1 24 rfl rfl
theorem dX2_lend_0 : decode cX2_lend 0 = .ok (.aload_n 0, 1) := dk_42 (dk_at dksX2_lend_0 0 rfl rfl)
theorem dX2_lend_1 : decode cX2_lend 1 = .ok (.getfield 34, 3) := dk_180 0 34 (dk_at dksX2_lend_0 1 rfl rfl)
theorem dX2_lend_4 : decode cX2_lend 4 = .ok (.iload_n 1, 1) := dk_27 (dk_at dksX2_lend_0 4 rfl rfl)
theorem dX2_lend_5 : decode cX2_lend 5 = .ok (.iaload, 1) := dk_46 (dk_at dksX2_lend_0 5 rfl rfl)
theorem dX2_lend_6 : decode cX2_lend 6 = .ok (.istore_n 3, 1) := dk_62 (dk_at dksX2_lend_0 6 rfl rfl)
theorem dX2_lend_7 : decode cX2_lend 7 = .ok (.aload_n 0, 1) := dk_42 (dk_at dksX2_lend_0 7 rfl rfl)
theorem dX2_lend_8 : decode cX2_lend 8 = .ok (.getfield 34, 3) := dk_180 0 34 (dk_at dksX2_lend_0 8 rfl rfl)
theorem dX2_lend_11 : decode cX2_lend 11 = .ok (.iload_n 1, 1) := dk_27 (dk_at dksX2_lend_0 11 rfl rfl)
theorem dX2_lend_12 : decode cX2_lend 12 = .ok (.aload_n 0, 1) := dk_42 (dk_at dksX2_lend_0 12 rfl rfl)
theorem dX2_lend_13 : decode cX2_lend 13 = .ok (.getfield 34, 3) := dk_180 0 34 (dk_at dksX2_lend_0 13 rfl rfl)
theorem dX2_lend_16 : decode cX2_lend 16 = .ok (.iload_n 2, 1) := dk_28 (dk_at dksX2_lend_0 16 rfl rfl)
theorem dX2_lend_17 : decode cX2_lend 17 = .ok (.iaload, 1) := dk_46 (dk_at dksX2_lend_0 17 rfl rfl)
theorem dX2_lend_18 : decode cX2_lend 18 = .ok (.iastore, 1) := dk_79 (dk_at dksX2_lend_0 18 rfl rfl)
theorem dX2_lend_19 : decode cX2_lend 19 = .ok (.aload_n 0, 1) := dk_42 (dk_at dksX2_lend_0 19 rfl rfl)
theorem dX2_lend_20 : decode cX2_lend 20 = .ok (.getfield 34, 3) := dk_180 0 34 (dk_at dksX2_lend_0 20 rfl rfl)
theorem dX2_lend_23 : decode cX2_lend 23 = .ok (.iload_n 2, 1) := dk_28 (dk_at dksX2_lend_0 23 rfl rfl)
theorem dX2_lend_24 : decode cX2_lend 24 = .ok (.iload_n 3, 1) := dk_29 (dk_at dksX2_lend_1 0 rfl rfl)
theorem dX2_lend_25 : decode cX2_lend 25 = .ok (.iastore, 1) := dk_79 (dk_at dksX2_lend_1 1 rfl rfl)
theorem dX2_lend_26 : decode cX2_lend 26 = .ok (.aload_n 0, 1) := dk_42 (dk_at dksX2_lend_1 2 rfl rfl)
theorem dX2_lend_27 : decode cX2_lend 27 = .ok (.aload_n 0, 1) := dk_42 (dk_at dksX2_lend_1 3 rfl rfl)
theorem dX2_lend_28 : decode cX2_lend 28 = .ok (.getfield 34, 3) := dk_180 0 34 (dk_at dksX2_lend_1 4 rfl rfl)
theorem dX2_lend_31 : decode cX2_lend 31 = .ok (.iload_n 1, 1) := dk_27 (dk_at dksX2_lend_1 7 rfl rfl)
theorem dX2_lend_32 : decode cX2_lend 32 = .ok (.iaload, 1) := dk_46 (dk_at dksX2_lend_1 8 rfl rfl)
theorem dX2_lend_33 : decode cX2_lend 33 = .ok (.invokevirtual 165, 3) := dk_182 0 165 (dk_at dksX2_lend_1 9 rfl rfl)
theorem dX2_lend_36 : decode cX2_lend 36 = .ok (.aload_n 0, 1) := dk_42 (dk_at dksX2_lend_1 12 rfl rfl)
theorem dX2_lend_37 : decode cX2_lend 37 = .ok (.aload_n 0, 1) := dk_42 (dk_at dksX2_lend_1 13 rfl rfl)
theorem dX2_lend_38 : decode cX2_lend 38 = .ok (.getfield 34, 3) := dk_180 0 34 (dk_at dksX2_lend_1 14 rfl rfl)
theorem dX2_lend_41 : decode cX2_lend 41 = .ok (.iload_n 2, 1) := dk_28 (dk_at dksX2_lend_1 17 rfl rfl)
theorem dX2_lend_42 : decode cX2_lend 42 = .ok (.iaload, 1) := dk_46 (dk_at dksX2_lend_1 18 rfl rfl)
theorem dX2_lend_43 : decode cX2_lend 43 = .ok (.invokevirtual 165, 3) := dk_182 0 165 (dk_at dksX2_lend_1 19 rfl rfl)
theorem dX2_lend_46 : decode cX2_lend 46 = .ok (.aload_n 0, 1) := dk_42 (dk_at dksX2_lend_1 22 rfl rfl)
theorem dX2_lend_47 : decode cX2_lend 47 = .ok (.iload_n 1, 1) := dk_27 (dk_at dksX2_lend_1 23 rfl rfl)
theorem dX2_lend_48 : decode cX2_lend 48 = .ok (.invokevirtual 155, 3) := dk_182 0 155 (dk_at dksX2_lend_2 0 rfl rfl)
theorem dX2_lend_51 : decode cX2_lend 51 = .ok (.aload_n 0, 1) := dk_42 (dk_at dksX2_lend_2 3 rfl rfl)
theorem dX2_lend_52 : decode cX2_lend 52 = .ok (.iload_n 2, 1) := dk_28 (dk_at dksX2_lend_2 4 rfl rfl)
theorem dX2_lend_53 : decode cX2_lend 53 = .ok (.invokevirtual 155, 3) := dk_182 0 155 (dk_at dksX2_lend_2 5 rfl rfl)
theorem dX2_lend_56 : decode cX2_lend 56 = .ok (.return_, 1) := dk_177 (dk_at dksX2_lend_2 8 rfl rfl)
abbrev cX2_wearsOff : ByteArray := prog_8_method_25_code
def yX2_wearsOff : MethodName := ⟨RX2, "wearsOff", "(I)V"⟩
def dkwX2_wearsOff_1 : List UInt8 := [42, 180, 0, 37, 27, 92, 46, 42, 180, 0, 37, 27, 46, 4, 100, 126, 79, 177]
abbrev dktX2_wearsOff_1 : List UInt8 := dkwX2_wearsOff_1 ++ []
def dkwX2_wearsOff_0 : List UInt8 := [42, 180, 0, 40, 27, 92, 46, 4, 96, 79, 42, 180, 0, 40, 27, 46, 42, 27, 182, 0, 142, 164, 0, 20]
abbrev dktX2_wearsOff_0 : List UInt8 := dkwX2_wearsOff_0 ++ dktX2_wearsOff_1
theorem dksX2_wearsOff_0 : cX2_wearsOff.data.toList.drop 0 = dktX2_wearsOff_0 := by decide +kernel
theorem dksX2_wearsOff_1 : cX2_wearsOff.data.toList.drop 24 = dktX2_wearsOff_1 := dk_seg dksX2_wearsOff_0 24 rfl rfl
theorem dX2_wearsOff_0 : decode cX2_wearsOff 0 = .ok (.aload_n 0, 1) := dk_42 (dk_at dksX2_wearsOff_0 0 rfl rfl)
theorem dX2_wearsOff_1 : decode cX2_wearsOff 1 = .ok (.getfield 40, 3) := dk_180 0 40 (dk_at dksX2_wearsOff_0 1 rfl rfl)
theorem dX2_wearsOff_4 : decode cX2_wearsOff 4 = .ok (.iload_n 1, 1) := dk_27 (dk_at dksX2_wearsOff_0 4 rfl rfl)
theorem dX2_wearsOff_5 : decode cX2_wearsOff 5 = .ok (.dup2, 1) := dk_92 (dk_at dksX2_wearsOff_0 5 rfl rfl)
theorem dX2_wearsOff_6 : decode cX2_wearsOff 6 = .ok (.iaload, 1) := dk_46 (dk_at dksX2_wearsOff_0 6 rfl rfl)
theorem dX2_wearsOff_7 : decode cX2_wearsOff 7 = .ok (.iconst 1, 1) := dk_4 (dk_at dksX2_wearsOff_0 7 rfl rfl)
theorem dX2_wearsOff_8 : decode cX2_wearsOff 8 = .ok (.iadd, 1) := dk_96 (dk_at dksX2_wearsOff_0 8 rfl rfl)
theorem dX2_wearsOff_9 : decode cX2_wearsOff 9 = .ok (.iastore, 1) := dk_79 (dk_at dksX2_wearsOff_0 9 rfl rfl)
theorem dX2_wearsOff_10 : decode cX2_wearsOff 10 = .ok (.aload_n 0, 1) := dk_42 (dk_at dksX2_wearsOff_0 10 rfl rfl)
theorem dX2_wearsOff_11 : decode cX2_wearsOff 11 = .ok (.getfield 40, 3) := dk_180 0 40 (dk_at dksX2_wearsOff_0 11 rfl rfl)
theorem dX2_wearsOff_14 : decode cX2_wearsOff 14 = .ok (.iload_n 1, 1) := dk_27 (dk_at dksX2_wearsOff_0 14 rfl rfl)
theorem dX2_wearsOff_15 : decode cX2_wearsOff 15 = .ok (.iaload, 1) := dk_46 (dk_at dksX2_wearsOff_0 15 rfl rfl)
theorem dX2_wearsOff_16 : decode cX2_wearsOff 16 = .ok (.aload_n 0, 1) := dk_42 (dk_at dksX2_wearsOff_0 16 rfl rfl)
theorem dX2_wearsOff_17 : decode cX2_wearsOff 17 = .ok (.iload_n 1, 1) := dk_27 (dk_at dksX2_wearsOff_0 17 rfl rfl)
theorem dX2_wearsOff_18 : decode cX2_wearsOff 18 = .ok (.invokevirtual 142, 3) := dk_182 0 142 (dk_at dksX2_wearsOff_0 18 rfl rfl)
theorem dX2_wearsOff_21 : decode cX2_wearsOff 21 = .ok (.if_icmp .le 20, 3) := dk_164 0 20 (dk_at dksX2_wearsOff_0 21 rfl rfl)
theorem dX2_wearsOff_24 : decode cX2_wearsOff 24 = .ok (.aload_n 0, 1) := dk_42 (dk_at dksX2_wearsOff_1 0 rfl rfl)
theorem dX2_wearsOff_25 : decode cX2_wearsOff 25 = .ok (.getfield 37, 3) := dk_180 0 37 (dk_at dksX2_wearsOff_1 1 rfl rfl)
theorem dX2_wearsOff_28 : decode cX2_wearsOff 28 = .ok (.iload_n 1, 1) := dk_27 (dk_at dksX2_wearsOff_1 4 rfl rfl)
theorem dX2_wearsOff_29 : decode cX2_wearsOff 29 = .ok (.dup2, 1) := dk_92 (dk_at dksX2_wearsOff_1 5 rfl rfl)
theorem dX2_wearsOff_30 : decode cX2_wearsOff 30 = .ok (.iaload, 1) := dk_46 (dk_at dksX2_wearsOff_1 6 rfl rfl)
theorem dX2_wearsOff_31 : decode cX2_wearsOff 31 = .ok (.aload_n 0, 1) := dk_42 (dk_at dksX2_wearsOff_1 7 rfl rfl)
theorem dX2_wearsOff_32 : decode cX2_wearsOff 32 = .ok (.getfield 37, 3) := dk_180 0 37 (dk_at dksX2_wearsOff_1 8 rfl rfl)
theorem dX2_wearsOff_35 : decode cX2_wearsOff 35 = .ok (.iload_n 1, 1) := dk_27 (dk_at dksX2_wearsOff_1 11 rfl rfl)
theorem dX2_wearsOff_36 : decode cX2_wearsOff 36 = .ok (.iaload, 1) := dk_46 (dk_at dksX2_wearsOff_1 12 rfl rfl)
theorem dX2_wearsOff_37 : decode cX2_wearsOff 37 = .ok (.iconst 1, 1) := dk_4 (dk_at dksX2_wearsOff_1 13 rfl rfl)
theorem dX2_wearsOff_38 : decode cX2_wearsOff 38 = .ok (.isub, 1) := dk_100 (dk_at dksX2_wearsOff_1 14 rfl rfl)
theorem dX2_wearsOff_39 : decode cX2_wearsOff 39 = .ok (.iand, 1) := dk_126 (dk_at dksX2_wearsOff_1 15 rfl rfl)
theorem dX2_wearsOff_40 : decode cX2_wearsOff 40 = .ok (.iastore, 1) := dk_79 (dk_at dksX2_wearsOff_1 16 rfl rfl)
theorem dX2_wearsOff_41 : decode cX2_wearsOff 41 = .ok (.return_, 1) := dk_177 (dk_at dksX2_wearsOff_1 17 rfl rfl)
abbrev cX2_homeBy : ByteArray := prog_8_method_28_code
def yX2_homeBy : MethodName := ⟨RX2, "homeBy", "()I"⟩
def dkwX2_homeBy_3 : List UInt8 := [100, 172]
abbrev dktX2_homeBy_3 : List UInt8 := dkwX2_homeBy_3 ++ []
def dkwX2_homeBy_2 : List UInt8 := [60, 42, 180, 0, 34, 21, 4, 46, 54, 4, 167, 255, 231, 132, 3, 1, 167, 255, 198, 42, 180, 0, 87, 28]
abbrev dktX2_homeBy_2 : List UInt8 := dkwX2_homeBy_2 ++ dktX2_homeBy_3
def dkwX2_homeBy_1 : List UInt8 := [167, 0, 4, 4, 96, 61, 29, 54, 4, 27, 21, 4, 184, 0, 149, 154, 0, 22, 27, 4, 21, 4, 120, 128]
abbrev dktX2_homeBy_1 : List UInt8 := dkwX2_homeBy_1 ++ dktX2_homeBy_2
def dkwX2_homeBy_0 : List UInt8 := [3, 60, 3, 61, 3, 62, 29, 42, 180, 0, 87, 162, 0, 56, 28, 27, 29, 184, 0, 149, 153, 0, 7, 3]
abbrev dktX2_homeBy_0 : List UInt8 := dkwX2_homeBy_0 ++ dktX2_homeBy_1
theorem dksX2_homeBy_0 : cX2_homeBy.data.toList.drop 0 = dktX2_homeBy_0 := by decide +kernel
theorem dksX2_homeBy_1 : cX2_homeBy.data.toList.drop 24 = dktX2_homeBy_1 := dk_seg dksX2_homeBy_0 24 rfl rfl
theorem dksX2_homeBy_2 : cX2_homeBy.data.toList.drop 48 = dktX2_homeBy_2 := dk_seg dksX2_homeBy_1 24 rfl rfl
theorem dksX2_homeBy_3 : cX2_homeBy.data.toList.drop 72 = dktX2_homeBy_3 := dk_seg dksX2_homeBy_2 24 rfl rfl
theorem dX2_homeBy_0 : decode cX2_homeBy 0 = .ok (.iconst 0, 1) := dk_3 (dk_at dksX2_homeBy_0 0 rfl rfl)
theorem dX2_homeBy_1 : decode cX2_homeBy 1 = .ok (.istore_n 1, 1) := dk_60 (dk_at dksX2_homeBy_0 1 rfl rfl)
theorem dX2_homeBy_2 : decode cX2_homeBy 2 = .ok (.iconst 0, 1) := dk_3 (dk_at dksX2_homeBy_0 2 rfl rfl)
theorem dX2_homeBy_3 : decode cX2_homeBy 3 = .ok (.istore_n 2, 1) := dk_61 (dk_at dksX2_homeBy_0 3 rfl rfl)
theorem dX2_homeBy_4 : decode cX2_homeBy 4 = .ok (.iconst 0, 1) := dk_3 (dk_at dksX2_homeBy_0 4 rfl rfl)
theorem dX2_homeBy_5 : decode cX2_homeBy 5 = .ok (.istore_n 3, 1) := dk_62 (dk_at dksX2_homeBy_0 5 rfl rfl)
theorem dX2_homeBy_6 : decode cX2_homeBy 6 = .ok (.iload_n 3, 1) := dk_29 (dk_at dksX2_homeBy_0 6 rfl rfl)
theorem dX2_homeBy_7 : decode cX2_homeBy 7 = .ok (.aload_n 0, 1) := dk_42 (dk_at dksX2_homeBy_0 7 rfl rfl)
theorem dX2_homeBy_8 : decode cX2_homeBy 8 = .ok (.getfield 87, 3) := dk_180 0 87 (dk_at dksX2_homeBy_0 8 rfl rfl)
theorem dX2_homeBy_11 : decode cX2_homeBy 11 = .ok (.if_icmp .ge 56, 3) := dk_162 0 56 (dk_at dksX2_homeBy_0 11 rfl rfl)
theorem dX2_homeBy_14 : decode cX2_homeBy 14 = .ok (.iload_n 2, 1) := dk_28 (dk_at dksX2_homeBy_0 14 rfl rfl)
theorem dX2_homeBy_15 : decode cX2_homeBy 15 = .ok (.iload_n 1, 1) := dk_27 (dk_at dksX2_homeBy_0 15 rfl rfl)
theorem dX2_homeBy_16 : decode cX2_homeBy 16 = .ok (.iload_n 3, 1) := dk_29 (dk_at dksX2_homeBy_0 16 rfl rfl)
theorem dX2_homeBy_17 : decode cX2_homeBy 17 = .ok (.invokestatic 149, 3) := dk_184 0 149 (dk_at dksX2_homeBy_0 17 rfl rfl)
theorem dX2_homeBy_20 : decode cX2_homeBy 20 = .ok (.ifCond .eq 7, 3) := dk_153 0 7 (dk_at dksX2_homeBy_0 20 rfl rfl)
theorem dX2_homeBy_23 : decode cX2_homeBy 23 = .ok (.iconst 0, 1) := dk_3 (dk_at dksX2_homeBy_0 23 rfl rfl)
theorem dX2_homeBy_24 : decode cX2_homeBy 24 = .ok (.goto 4, 3) := dk_167 0 4 (dk_at dksX2_homeBy_1 0 rfl rfl)
theorem dX2_homeBy_27 : decode cX2_homeBy 27 = .ok (.iconst 1, 1) := dk_4 (dk_at dksX2_homeBy_1 3 rfl rfl)
theorem dX2_homeBy_28 : decode cX2_homeBy 28 = .ok (.iadd, 1) := dk_96 (dk_at dksX2_homeBy_1 4 rfl rfl)
theorem dX2_homeBy_29 : decode cX2_homeBy 29 = .ok (.istore_n 2, 1) := dk_61 (dk_at dksX2_homeBy_1 5 rfl rfl)
theorem dX2_homeBy_30 : decode cX2_homeBy 30 = .ok (.iload_n 3, 1) := dk_29 (dk_at dksX2_homeBy_1 6 rfl rfl)
theorem dX2_homeBy_31 : decode cX2_homeBy 31 = .ok (.istore 4, 2) := dk_54 4 (dk_at dksX2_homeBy_1 7 rfl rfl)
theorem dX2_homeBy_33 : decode cX2_homeBy 33 = .ok (.iload_n 1, 1) := dk_27 (dk_at dksX2_homeBy_1 9 rfl rfl)
theorem dX2_homeBy_34 : decode cX2_homeBy 34 = .ok (.iload 4, 2) := dk_21 4 (dk_at dksX2_homeBy_1 10 rfl rfl)
theorem dX2_homeBy_36 : decode cX2_homeBy 36 = .ok (.invokestatic 149, 3) := dk_184 0 149 (dk_at dksX2_homeBy_1 12 rfl rfl)
theorem dX2_homeBy_39 : decode cX2_homeBy 39 = .ok (.ifCond .ne 22, 3) := dk_154 0 22 (dk_at dksX2_homeBy_1 15 rfl rfl)
theorem dX2_homeBy_42 : decode cX2_homeBy 42 = .ok (.iload_n 1, 1) := dk_27 (dk_at dksX2_homeBy_1 18 rfl rfl)
theorem dX2_homeBy_43 : decode cX2_homeBy 43 = .ok (.iconst 1, 1) := dk_4 (dk_at dksX2_homeBy_1 19 rfl rfl)
theorem dX2_homeBy_44 : decode cX2_homeBy 44 = .ok (.iload 4, 2) := dk_21 4 (dk_at dksX2_homeBy_1 20 rfl rfl)
theorem dX2_homeBy_46 : decode cX2_homeBy 46 = .ok (.ishl, 1) := dk_120 (dk_at dksX2_homeBy_1 22 rfl rfl)
theorem dX2_homeBy_47 : decode cX2_homeBy 47 = .ok (.ior, 1) := dk_128 (dk_at dksX2_homeBy_1 23 rfl rfl)
theorem dX2_homeBy_48 : decode cX2_homeBy 48 = .ok (.istore_n 1, 1) := dk_60 (dk_at dksX2_homeBy_2 0 rfl rfl)
theorem dX2_homeBy_49 : decode cX2_homeBy 49 = .ok (.aload_n 0, 1) := dk_42 (dk_at dksX2_homeBy_2 1 rfl rfl)
theorem dX2_homeBy_50 : decode cX2_homeBy 50 = .ok (.getfield 34, 3) := dk_180 0 34 (dk_at dksX2_homeBy_2 2 rfl rfl)
theorem dX2_homeBy_53 : decode cX2_homeBy 53 = .ok (.iload 4, 2) := dk_21 4 (dk_at dksX2_homeBy_2 5 rfl rfl)
theorem dX2_homeBy_55 : decode cX2_homeBy 55 = .ok (.iaload, 1) := dk_46 (dk_at dksX2_homeBy_2 7 rfl rfl)
theorem dX2_homeBy_56 : decode cX2_homeBy 56 = .ok (.istore 4, 2) := dk_54 4 (dk_at dksX2_homeBy_2 8 rfl rfl)
theorem dX2_homeBy_58 : decode cX2_homeBy 58 = .ok (.goto (-25), 3) := dk_167 255 231 (dk_at dksX2_homeBy_2 10 rfl rfl)
theorem dX2_homeBy_61 : decode cX2_homeBy 61 = .ok (.iinc 3 1, 3) := dk_132 3 1 (dk_at dksX2_homeBy_2 13 rfl rfl)
theorem dX2_homeBy_64 : decode cX2_homeBy 64 = .ok (.goto (-58), 3) := dk_167 255 198 (dk_at dksX2_homeBy_2 16 rfl rfl)
theorem dX2_homeBy_67 : decode cX2_homeBy 67 = .ok (.aload_n 0, 1) := dk_42 (dk_at dksX2_homeBy_2 19 rfl rfl)
theorem dX2_homeBy_68 : decode cX2_homeBy 68 = .ok (.getfield 87, 3) := dk_180 0 87 (dk_at dksX2_homeBy_2 20 rfl rfl)
theorem dX2_homeBy_71 : decode cX2_homeBy 71 = .ok (.iload_n 2, 1) := dk_28 (dk_at dksX2_homeBy_2 23 rfl rfl)
theorem dX2_homeBy_72 : decode cX2_homeBy 72 = .ok (.isub, 1) := dk_100 (dk_at dksX2_homeBy_3 0 rfl rfl)
theorem dX2_homeBy_73 : decode cX2_homeBy 73 = .ok (.ireturn, 1) := dk_172 (dk_at dksX2_homeBy_3 1 rfl rfl)
abbrev cX2_fewest : ByteArray := prog_8_method_32_code
def yX2_fewest : MethodName := ⟨RX2, "fewest", "(II)I"⟩
def dkwX2_fewest_5 : List UInt8 := [132, 5, 1, 167, 255, 192, 29, 16, 36, 104, 62, 132, 4, 1, 167, 255, 172, 16, 247, 172]
abbrev dktX2_fewest_5 : List UInt8 := dkwX2_fewest_5 ++ []
def dkwX2_fewest_4 : List UInt8 := [28, 46, 16, 6, 108, 104, 42, 180, 0, 49, 28, 46, 16, 6, 112, 96, 167, 0, 5, 16, 247, 172]
abbrev dktX2_fewest_4 : List UInt8 := dkwX2_fewest_4 ++ dktX2_fewest_5
def dkwX2_fewest_3 : List UInt8 := [153, 0, 46, 28, 156, 0, 8, 21, 4, 167, 0, 36, 28, 21, 4, 162, 0, 28, 16, 10, 42, 180, 0, 49]
abbrev dktX2_fewest_3 : List UInt8 := dkwX2_fewest_3 ++ dktX2_fewest_4
def dkwX2_fewest_2 : List UInt8 := [7, 162, 0, 84, 3, 54, 5, 21, 5, 29, 162, 0, 64, 42, 21, 5, 21, 4, 27, 182, 0, 210]
abbrev dktX2_fewest_2 : List UInt8 := dkwX2_fewest_2 ++ dktX2_fewest_3
def dkwX2_fewest_1 : List UInt8 := [28, 133, 20, 0, 208, 20, 0, 127, 184, 0, 90, 154, 0, 6, 16, 254, 172, 4, 62, 3, 54, 4, 21, 4]
abbrev dktX2_fewest_1 : List UInt8 := dkwX2_fewest_1 ++ dktX2_fewest_2
def dkwX2_fewest_0 : List UInt8 := [42, 180, 0, 87, 154, 0, 6, 16, 253, 172, 27, 133, 9, 42, 182, 0, 175, 133, 184, 0, 90, 153, 0, 17]
abbrev dktX2_fewest_0 : List UInt8 := dkwX2_fewest_0 ++ dktX2_fewest_1
theorem dksX2_fewest_0 : cX2_fewest.data.toList.drop 0 = dktX2_fewest_0 := by decide +kernel
theorem dksX2_fewest_1 : cX2_fewest.data.toList.drop 24 = dktX2_fewest_1 := dk_seg dksX2_fewest_0 24 rfl rfl
theorem dksX2_fewest_2 : cX2_fewest.data.toList.drop 48 = dktX2_fewest_2 := dk_seg dksX2_fewest_1 24 rfl rfl
theorem dksX2_fewest_3 : cX2_fewest.data.toList.drop 70 = dktX2_fewest_3 := dk_seg dksX2_fewest_2 22 rfl rfl
theorem dksX2_fewest_4 : cX2_fewest.data.toList.drop 94 = dktX2_fewest_4 := dk_seg dksX2_fewest_3 24 rfl rfl
theorem dksX2_fewest_5 : cX2_fewest.data.toList.drop 116 = dktX2_fewest_5 := dk_seg dksX2_fewest_4 22 rfl rfl
theorem dX2_fewest_0 : decode cX2_fewest 0 = .ok (.aload_n 0, 1) := dk_42 (dk_at dksX2_fewest_0 0 rfl rfl)
theorem dX2_fewest_1 : decode cX2_fewest 1 = .ok (.getfield 87, 3) := dk_180 0 87 (dk_at dksX2_fewest_0 1 rfl rfl)
theorem dX2_fewest_4 : decode cX2_fewest 4 = .ok (.ifCond .ne 6, 3) := dk_154 0 6 (dk_at dksX2_fewest_0 4 rfl rfl)
theorem dX2_fewest_7 : decode cX2_fewest 7 = .ok (.bipush (-3), 2) := dk_16 253 (dk_at dksX2_fewest_0 7 rfl rfl)
theorem dX2_fewest_9 : decode cX2_fewest 9 = .ok (.ireturn, 1) := dk_172 (dk_at dksX2_fewest_0 9 rfl rfl)
theorem dX2_fewest_10 : decode cX2_fewest 10 = .ok (.iload_n 1, 1) := dk_27 (dk_at dksX2_fewest_0 10 rfl rfl)
theorem dX2_fewest_11 : decode cX2_fewest 11 = .ok (.i2l, 1) := dk_133 (dk_at dksX2_fewest_0 11 rfl rfl)
theorem dX2_fewest_12 : decode cX2_fewest 12 = .ok (.lconst 0, 1) := dk_9 (dk_at dksX2_fewest_0 12 rfl rfl)
theorem dX2_fewest_13 : decode cX2_fewest 13 = .ok (.aload_n 0, 1) := dk_42 (dk_at dksX2_fewest_0 13 rfl rfl)
theorem dX2_fewest_14 : decode cX2_fewest 14 = .ok (.invokevirtual 175, 3) := dk_182 0 175 (dk_at dksX2_fewest_0 14 rfl rfl)
theorem dX2_fewest_17 : decode cX2_fewest 17 = .ok (.i2l, 1) := dk_133 (dk_at dksX2_fewest_0 17 rfl rfl)
theorem dX2_fewest_18 : decode cX2_fewest 18 = .ok (.invokestatic 90, 3) := dk_184 0 90 (dk_at dksX2_fewest_0 18 rfl rfl)
theorem dX2_fewest_21 : decode cX2_fewest 21 = .ok (.ifCond .eq 17, 3) := dk_153 0 17 (dk_at dksX2_fewest_0 21 rfl rfl)
theorem dX2_fewest_24 : decode cX2_fewest 24 = .ok (.iload_n 2, 1) := dk_28 (dk_at dksX2_fewest_1 0 rfl rfl)
theorem dX2_fewest_25 : decode cX2_fewest 25 = .ok (.i2l, 1) := dk_133 (dk_at dksX2_fewest_1 1 rfl rfl)
theorem dX2_fewest_26 : decode cX2_fewest 26 = .ok (.ldc2_w 208, 3) := dk_20 0 208 (dk_at dksX2_fewest_1 2 rfl rfl)
theorem dX2_fewest_29 : decode cX2_fewest 29 = .ok (.ldc2_w 127, 3) := dk_20 0 127 (dk_at dksX2_fewest_1 5 rfl rfl)
theorem dX2_fewest_32 : decode cX2_fewest 32 = .ok (.invokestatic 90, 3) := dk_184 0 90 (dk_at dksX2_fewest_1 8 rfl rfl)
theorem dX2_fewest_35 : decode cX2_fewest 35 = .ok (.ifCond .ne 6, 3) := dk_154 0 6 (dk_at dksX2_fewest_1 11 rfl rfl)
theorem dX2_fewest_38 : decode cX2_fewest 38 = .ok (.bipush (-2), 2) := dk_16 254 (dk_at dksX2_fewest_1 14 rfl rfl)
theorem dX2_fewest_40 : decode cX2_fewest 40 = .ok (.ireturn, 1) := dk_172 (dk_at dksX2_fewest_1 16 rfl rfl)
theorem dX2_fewest_41 : decode cX2_fewest 41 = .ok (.iconst 1, 1) := dk_4 (dk_at dksX2_fewest_1 17 rfl rfl)
theorem dX2_fewest_42 : decode cX2_fewest 42 = .ok (.istore_n 3, 1) := dk_62 (dk_at dksX2_fewest_1 18 rfl rfl)
theorem dX2_fewest_43 : decode cX2_fewest 43 = .ok (.iconst 0, 1) := dk_3 (dk_at dksX2_fewest_1 19 rfl rfl)
theorem dX2_fewest_44 : decode cX2_fewest 44 = .ok (.istore 4, 2) := dk_54 4 (dk_at dksX2_fewest_1 20 rfl rfl)
theorem dX2_fewest_46 : decode cX2_fewest 46 = .ok (.iload 4, 2) := dk_21 4 (dk_at dksX2_fewest_1 22 rfl rfl)
theorem dX2_fewest_48 : decode cX2_fewest 48 = .ok (.iconst 4, 1) := dk_7 (dk_at dksX2_fewest_2 0 rfl rfl)
theorem dX2_fewest_49 : decode cX2_fewest 49 = .ok (.if_icmp .ge 84, 3) := dk_162 0 84 (dk_at dksX2_fewest_2 1 rfl rfl)
theorem dX2_fewest_52 : decode cX2_fewest 52 = .ok (.iconst 0, 1) := dk_3 (dk_at dksX2_fewest_2 4 rfl rfl)
theorem dX2_fewest_53 : decode cX2_fewest 53 = .ok (.istore 5, 2) := dk_54 5 (dk_at dksX2_fewest_2 5 rfl rfl)
theorem dX2_fewest_55 : decode cX2_fewest 55 = .ok (.iload 5, 2) := dk_21 5 (dk_at dksX2_fewest_2 7 rfl rfl)
theorem dX2_fewest_57 : decode cX2_fewest 57 = .ok (.iload_n 3, 1) := dk_29 (dk_at dksX2_fewest_2 9 rfl rfl)
theorem dX2_fewest_58 : decode cX2_fewest 58 = .ok (.if_icmp .ge 64, 3) := dk_162 0 64 (dk_at dksX2_fewest_2 10 rfl rfl)
theorem dX2_fewest_61 : decode cX2_fewest 61 = .ok (.aload_n 0, 1) := dk_42 (dk_at dksX2_fewest_2 13 rfl rfl)
theorem dX2_fewest_62 : decode cX2_fewest 62 = .ok (.iload 5, 2) := dk_21 5 (dk_at dksX2_fewest_2 14 rfl rfl)
theorem dX2_fewest_64 : decode cX2_fewest 64 = .ok (.iload 4, 2) := dk_21 4 (dk_at dksX2_fewest_2 16 rfl rfl)
theorem dX2_fewest_66 : decode cX2_fewest 66 = .ok (.iload_n 1, 1) := dk_27 (dk_at dksX2_fewest_2 18 rfl rfl)
theorem dX2_fewest_67 : decode cX2_fewest 67 = .ok (.invokevirtual 210, 3) := dk_182 0 210 (dk_at dksX2_fewest_2 19 rfl rfl)
theorem dX2_fewest_70 : decode cX2_fewest 70 = .ok (.ifCond .eq 46, 3) := dk_153 0 46 (dk_at dksX2_fewest_3 0 rfl rfl)
theorem dX2_fewest_73 : decode cX2_fewest 73 = .ok (.iload_n 2, 1) := dk_28 (dk_at dksX2_fewest_3 3 rfl rfl)
theorem dX2_fewest_74 : decode cX2_fewest 74 = .ok (.ifCond .ge 8, 3) := dk_156 0 8 (dk_at dksX2_fewest_3 4 rfl rfl)
theorem dX2_fewest_77 : decode cX2_fewest 77 = .ok (.iload 4, 2) := dk_21 4 (dk_at dksX2_fewest_3 7 rfl rfl)
theorem dX2_fewest_79 : decode cX2_fewest 79 = .ok (.goto 36, 3) := dk_167 0 36 (dk_at dksX2_fewest_3 9 rfl rfl)
theorem dX2_fewest_82 : decode cX2_fewest 82 = .ok (.iload_n 2, 1) := dk_28 (dk_at dksX2_fewest_3 12 rfl rfl)
theorem dX2_fewest_83 : decode cX2_fewest 83 = .ok (.iload 4, 2) := dk_21 4 (dk_at dksX2_fewest_3 13 rfl rfl)
theorem dX2_fewest_85 : decode cX2_fewest 85 = .ok (.if_icmp .ge 28, 3) := dk_162 0 28 (dk_at dksX2_fewest_3 15 rfl rfl)
theorem dX2_fewest_88 : decode cX2_fewest 88 = .ok (.bipush 10, 2) := dk_16 10 (dk_at dksX2_fewest_3 18 rfl rfl)
theorem dX2_fewest_90 : decode cX2_fewest 90 = .ok (.aload_n 0, 1) := dk_42 (dk_at dksX2_fewest_3 20 rfl rfl)
theorem dX2_fewest_91 : decode cX2_fewest 91 = .ok (.getfield 49, 3) := dk_180 0 49 (dk_at dksX2_fewest_3 21 rfl rfl)
theorem dX2_fewest_94 : decode cX2_fewest 94 = .ok (.iload_n 2, 1) := dk_28 (dk_at dksX2_fewest_4 0 rfl rfl)
theorem dX2_fewest_95 : decode cX2_fewest 95 = .ok (.iaload, 1) := dk_46 (dk_at dksX2_fewest_4 1 rfl rfl)
theorem dX2_fewest_96 : decode cX2_fewest 96 = .ok (.bipush 6, 2) := dk_16 6 (dk_at dksX2_fewest_4 2 rfl rfl)
theorem dX2_fewest_98 : decode cX2_fewest 98 = .ok (.idiv, 1) := dk_108 (dk_at dksX2_fewest_4 4 rfl rfl)
theorem dX2_fewest_99 : decode cX2_fewest 99 = .ok (.imul, 1) := dk_104 (dk_at dksX2_fewest_4 5 rfl rfl)
theorem dX2_fewest_100 : decode cX2_fewest 100 = .ok (.aload_n 0, 1) := dk_42 (dk_at dksX2_fewest_4 6 rfl rfl)
theorem dX2_fewest_101 : decode cX2_fewest 101 = .ok (.getfield 49, 3) := dk_180 0 49 (dk_at dksX2_fewest_4 7 rfl rfl)
theorem dX2_fewest_104 : decode cX2_fewest 104 = .ok (.iload_n 2, 1) := dk_28 (dk_at dksX2_fewest_4 10 rfl rfl)
theorem dX2_fewest_105 : decode cX2_fewest 105 = .ok (.iaload, 1) := dk_46 (dk_at dksX2_fewest_4 11 rfl rfl)
theorem dX2_fewest_106 : decode cX2_fewest 106 = .ok (.bipush 6, 2) := dk_16 6 (dk_at dksX2_fewest_4 12 rfl rfl)
theorem dX2_fewest_108 : decode cX2_fewest 108 = .ok (.irem, 1) := dk_112 (dk_at dksX2_fewest_4 14 rfl rfl)
theorem dX2_fewest_109 : decode cX2_fewest 109 = .ok (.iadd, 1) := dk_96 (dk_at dksX2_fewest_4 15 rfl rfl)
theorem dX2_fewest_110 : decode cX2_fewest 110 = .ok (.goto 5, 3) := dk_167 0 5 (dk_at dksX2_fewest_4 16 rfl rfl)
theorem dX2_fewest_113 : decode cX2_fewest 113 = .ok (.bipush (-9), 2) := dk_16 247 (dk_at dksX2_fewest_4 19 rfl rfl)
theorem dX2_fewest_115 : decode cX2_fewest 115 = .ok (.ireturn, 1) := dk_172 (dk_at dksX2_fewest_4 21 rfl rfl)
theorem dX2_fewest_116 : decode cX2_fewest 116 = .ok (.iinc 5 1, 3) := dk_132 5 1 (dk_at dksX2_fewest_5 0 rfl rfl)
theorem dX2_fewest_119 : decode cX2_fewest 119 = .ok (.goto (-64), 3) := dk_167 255 192 (dk_at dksX2_fewest_5 3 rfl rfl)
theorem dX2_fewest_122 : decode cX2_fewest 122 = .ok (.iload_n 3, 1) := dk_29 (dk_at dksX2_fewest_5 6 rfl rfl)
theorem dX2_fewest_123 : decode cX2_fewest 123 = .ok (.bipush 36, 2) := dk_16 36 (dk_at dksX2_fewest_5 7 rfl rfl)
theorem dX2_fewest_125 : decode cX2_fewest 125 = .ok (.imul, 1) := dk_104 (dk_at dksX2_fewest_5 9 rfl rfl)
theorem dX2_fewest_126 : decode cX2_fewest 126 = .ok (.istore_n 3, 1) := dk_62 (dk_at dksX2_fewest_5 10 rfl rfl)
theorem dX2_fewest_127 : decode cX2_fewest 127 = .ok (.iinc 4 1, 3) := dk_132 4 1 (dk_at dksX2_fewest_5 11 rfl rfl)
theorem dX2_fewest_130 : decode cX2_fewest 130 = .ok (.goto (-84), 3) := dk_167 255 172 (dk_at dksX2_fewest_5 14 rfl rfl)
theorem dX2_fewest_133 : decode cX2_fewest 133 = .ok (.bipush (-9), 2) := dk_16 247 (dk_at dksX2_fewest_5 17 rfl rfl)
theorem dX2_fewest_135 : decode cX2_fewest 135 = .ok (.ireturn, 1) := dk_172 (dk_at dksX2_fewest_5 19 rfl rfl)
abbrev cX2_isRow : ByteArray := prog_8_method_31_code
def yX2_isRow : MethodName := ⟨RX2, "isRow", "(III)Z"⟩
def dkwX2_isRow_6 : List UInt8 := [182, 0, 171, 2, 130, 126, 154, 0, 7, 4, 167, 0, 4, 3, 172]
abbrev dktX2_isRow_6 : List UInt8 := dkwX2_isRow_6 ++ []
def dkwX2_isRow_5 : List UInt8 := [153, 0, 11, 42, 21, 7, 21, 8, 182, 0, 181, 132, 6, 1, 167, 255, 171, 21, 5, 153, 0, 18, 29, 42]
abbrev dktX2_isRow_5 : List UInt8 := dkwX2_isRow_5 ++ dktX2_isRow_6
def dkwX2_isRow_4 : List UInt8 := [162, 0, 18, 42, 21, 7, 21, 8, 182, 0, 178, 153, 0, 7, 4, 167, 0, 4, 3, 54, 5, 21, 5]
abbrev dktX2_isRow_4 : List UInt8 := dkwX2_isRow_4 ++ dktX2_isRow_5
def dkwX2_isRow_3 : List UInt8 := [180, 0, 49, 21, 6, 46, 16, 6, 112, 54, 8, 21, 7, 21, 8, 162, 0, 27, 21, 8, 42, 180, 0, 87]
abbrev dktX2_isRow_3 : List UInt8 := dkwX2_isRow_3 ++ dktX2_isRow_4
def dkwX2_isRow_2 : List UInt8 := [21, 6, 28, 162, 0, 85, 21, 5, 153, 0, 80, 42, 180, 0, 49, 21, 6, 46, 16, 6, 108, 54, 7, 42]
abbrev dktX2_isRow_2 : List UInt8 := dkwX2_isRow_2 ++ dktX2_isRow_3
def dkwX2_isRow_1 : List UInt8 := [21, 6, 21, 4, 16, 36, 112, 79, 21, 4, 16, 36, 108, 54, 4, 132, 6, 255, 167, 255, 229, 3, 54, 6]
abbrev dktX2_isRow_1 : List UInt8 := dkwX2_isRow_1 ++ dktX2_isRow_2
def dkwX2_isRow_0 : List UInt8 := [42, 182, 0, 168, 27, 54, 4, 4, 54, 5, 28, 4, 100, 54, 6, 21, 6, 155, 0, 28, 42, 180, 0, 49]
abbrev dktX2_isRow_0 : List UInt8 := dkwX2_isRow_0 ++ dktX2_isRow_1
theorem dksX2_isRow_0 : cX2_isRow.data.toList.drop 0 = dktX2_isRow_0 := by decide +kernel
theorem dksX2_isRow_1 : cX2_isRow.data.toList.drop 24 = dktX2_isRow_1 := dk_seg dksX2_isRow_0 24 rfl rfl
theorem dksX2_isRow_2 : cX2_isRow.data.toList.drop 48 = dktX2_isRow_2 := dk_seg dksX2_isRow_1 24 rfl rfl
theorem dksX2_isRow_3 : cX2_isRow.data.toList.drop 72 = dktX2_isRow_3 := dk_seg dksX2_isRow_2 24 rfl rfl
theorem dksX2_isRow_4 : cX2_isRow.data.toList.drop 96 = dktX2_isRow_4 := dk_seg dksX2_isRow_3 24 rfl rfl
theorem dksX2_isRow_5 : cX2_isRow.data.toList.drop 119 = dktX2_isRow_5 := dk_seg dksX2_isRow_4 23 rfl rfl
theorem dksX2_isRow_6 : cX2_isRow.data.toList.drop 143 = dktX2_isRow_6 := dk_seg dksX2_isRow_5 24 rfl rfl
theorem dX2_isRow_0 : decode cX2_isRow 0 = .ok (.aload_n 0, 1) := dk_42 (dk_at dksX2_isRow_0 0 rfl rfl)
theorem dX2_isRow_1 : decode cX2_isRow 1 = .ok (.invokevirtual 168, 3) := dk_182 0 168 (dk_at dksX2_isRow_0 1 rfl rfl)
theorem dX2_isRow_4 : decode cX2_isRow 4 = .ok (.iload_n 1, 1) := dk_27 (dk_at dksX2_isRow_0 4 rfl rfl)
theorem dX2_isRow_5 : decode cX2_isRow 5 = .ok (.istore 4, 2) := dk_54 4 (dk_at dksX2_isRow_0 5 rfl rfl)
theorem dX2_isRow_7 : decode cX2_isRow 7 = .ok (.iconst 1, 1) := dk_4 (dk_at dksX2_isRow_0 7 rfl rfl)
theorem dX2_isRow_8 : decode cX2_isRow 8 = .ok (.istore 5, 2) := dk_54 5 (dk_at dksX2_isRow_0 8 rfl rfl)
theorem dX2_isRow_10 : decode cX2_isRow 10 = .ok (.iload_n 2, 1) := dk_28 (dk_at dksX2_isRow_0 10 rfl rfl)
theorem dX2_isRow_11 : decode cX2_isRow 11 = .ok (.iconst 1, 1) := dk_4 (dk_at dksX2_isRow_0 11 rfl rfl)
theorem dX2_isRow_12 : decode cX2_isRow 12 = .ok (.isub, 1) := dk_100 (dk_at dksX2_isRow_0 12 rfl rfl)
theorem dX2_isRow_13 : decode cX2_isRow 13 = .ok (.istore 6, 2) := dk_54 6 (dk_at dksX2_isRow_0 13 rfl rfl)
theorem dX2_isRow_15 : decode cX2_isRow 15 = .ok (.iload 6, 2) := dk_21 6 (dk_at dksX2_isRow_0 15 rfl rfl)
theorem dX2_isRow_17 : decode cX2_isRow 17 = .ok (.ifCond .lt 28, 3) := dk_155 0 28 (dk_at dksX2_isRow_0 17 rfl rfl)
theorem dX2_isRow_20 : decode cX2_isRow 20 = .ok (.aload_n 0, 1) := dk_42 (dk_at dksX2_isRow_0 20 rfl rfl)
theorem dX2_isRow_21 : decode cX2_isRow 21 = .ok (.getfield 49, 3) := dk_180 0 49 (dk_at dksX2_isRow_0 21 rfl rfl)
theorem dX2_isRow_24 : decode cX2_isRow 24 = .ok (.iload 6, 2) := dk_21 6 (dk_at dksX2_isRow_1 0 rfl rfl)
theorem dX2_isRow_26 : decode cX2_isRow 26 = .ok (.iload 4, 2) := dk_21 4 (dk_at dksX2_isRow_1 2 rfl rfl)
theorem dX2_isRow_28 : decode cX2_isRow 28 = .ok (.bipush 36, 2) := dk_16 36 (dk_at dksX2_isRow_1 4 rfl rfl)
theorem dX2_isRow_30 : decode cX2_isRow 30 = .ok (.irem, 1) := dk_112 (dk_at dksX2_isRow_1 6 rfl rfl)
theorem dX2_isRow_31 : decode cX2_isRow 31 = .ok (.iastore, 1) := dk_79 (dk_at dksX2_isRow_1 7 rfl rfl)
theorem dX2_isRow_32 : decode cX2_isRow 32 = .ok (.iload 4, 2) := dk_21 4 (dk_at dksX2_isRow_1 8 rfl rfl)
theorem dX2_isRow_34 : decode cX2_isRow 34 = .ok (.bipush 36, 2) := dk_16 36 (dk_at dksX2_isRow_1 10 rfl rfl)
theorem dX2_isRow_36 : decode cX2_isRow 36 = .ok (.idiv, 1) := dk_108 (dk_at dksX2_isRow_1 12 rfl rfl)
theorem dX2_isRow_37 : decode cX2_isRow 37 = .ok (.istore 4, 2) := dk_54 4 (dk_at dksX2_isRow_1 13 rfl rfl)
theorem dX2_isRow_39 : decode cX2_isRow 39 = .ok (.iinc 6 (-1), 3) := dk_132 6 255 (dk_at dksX2_isRow_1 15 rfl rfl)
theorem dX2_isRow_42 : decode cX2_isRow 42 = .ok (.goto (-27), 3) := dk_167 255 229 (dk_at dksX2_isRow_1 18 rfl rfl)
theorem dX2_isRow_45 : decode cX2_isRow 45 = .ok (.iconst 0, 1) := dk_3 (dk_at dksX2_isRow_1 21 rfl rfl)
theorem dX2_isRow_46 : decode cX2_isRow 46 = .ok (.istore 6, 2) := dk_54 6 (dk_at dksX2_isRow_1 22 rfl rfl)
theorem dX2_isRow_48 : decode cX2_isRow 48 = .ok (.iload 6, 2) := dk_21 6 (dk_at dksX2_isRow_2 0 rfl rfl)
theorem dX2_isRow_50 : decode cX2_isRow 50 = .ok (.iload_n 2, 1) := dk_28 (dk_at dksX2_isRow_2 2 rfl rfl)
theorem dX2_isRow_51 : decode cX2_isRow 51 = .ok (.if_icmp .ge 85, 3) := dk_162 0 85 (dk_at dksX2_isRow_2 3 rfl rfl)
theorem dX2_isRow_54 : decode cX2_isRow 54 = .ok (.iload 5, 2) := dk_21 5 (dk_at dksX2_isRow_2 6 rfl rfl)
theorem dX2_isRow_56 : decode cX2_isRow 56 = .ok (.ifCond .eq 80, 3) := dk_153 0 80 (dk_at dksX2_isRow_2 8 rfl rfl)
theorem dX2_isRow_59 : decode cX2_isRow 59 = .ok (.aload_n 0, 1) := dk_42 (dk_at dksX2_isRow_2 11 rfl rfl)
theorem dX2_isRow_60 : decode cX2_isRow 60 = .ok (.getfield 49, 3) := dk_180 0 49 (dk_at dksX2_isRow_2 12 rfl rfl)
theorem dX2_isRow_63 : decode cX2_isRow 63 = .ok (.iload 6, 2) := dk_21 6 (dk_at dksX2_isRow_2 15 rfl rfl)
theorem dX2_isRow_65 : decode cX2_isRow 65 = .ok (.iaload, 1) := dk_46 (dk_at dksX2_isRow_2 17 rfl rfl)
theorem dX2_isRow_66 : decode cX2_isRow 66 = .ok (.bipush 6, 2) := dk_16 6 (dk_at dksX2_isRow_2 18 rfl rfl)
theorem dX2_isRow_68 : decode cX2_isRow 68 = .ok (.idiv, 1) := dk_108 (dk_at dksX2_isRow_2 20 rfl rfl)
theorem dX2_isRow_69 : decode cX2_isRow 69 = .ok (.istore 7, 2) := dk_54 7 (dk_at dksX2_isRow_2 21 rfl rfl)
theorem dX2_isRow_71 : decode cX2_isRow 71 = .ok (.aload_n 0, 1) := dk_42 (dk_at dksX2_isRow_2 23 rfl rfl)
theorem dX2_isRow_72 : decode cX2_isRow 72 = .ok (.getfield 49, 3) := dk_180 0 49 (dk_at dksX2_isRow_3 0 rfl rfl)
theorem dX2_isRow_75 : decode cX2_isRow 75 = .ok (.iload 6, 2) := dk_21 6 (dk_at dksX2_isRow_3 3 rfl rfl)
theorem dX2_isRow_77 : decode cX2_isRow 77 = .ok (.iaload, 1) := dk_46 (dk_at dksX2_isRow_3 5 rfl rfl)
theorem dX2_isRow_78 : decode cX2_isRow 78 = .ok (.bipush 6, 2) := dk_16 6 (dk_at dksX2_isRow_3 6 rfl rfl)
theorem dX2_isRow_80 : decode cX2_isRow 80 = .ok (.irem, 1) := dk_112 (dk_at dksX2_isRow_3 8 rfl rfl)
theorem dX2_isRow_81 : decode cX2_isRow 81 = .ok (.istore 8, 2) := dk_54 8 (dk_at dksX2_isRow_3 9 rfl rfl)
theorem dX2_isRow_83 : decode cX2_isRow 83 = .ok (.iload 7, 2) := dk_21 7 (dk_at dksX2_isRow_3 11 rfl rfl)
theorem dX2_isRow_85 : decode cX2_isRow 85 = .ok (.iload 8, 2) := dk_21 8 (dk_at dksX2_isRow_3 13 rfl rfl)
theorem dX2_isRow_87 : decode cX2_isRow 87 = .ok (.if_icmp .ge 27, 3) := dk_162 0 27 (dk_at dksX2_isRow_3 15 rfl rfl)
theorem dX2_isRow_90 : decode cX2_isRow 90 = .ok (.iload 8, 2) := dk_21 8 (dk_at dksX2_isRow_3 18 rfl rfl)
theorem dX2_isRow_92 : decode cX2_isRow 92 = .ok (.aload_n 0, 1) := dk_42 (dk_at dksX2_isRow_3 20 rfl rfl)
theorem dX2_isRow_93 : decode cX2_isRow 93 = .ok (.getfield 87, 3) := dk_180 0 87 (dk_at dksX2_isRow_3 21 rfl rfl)
theorem dX2_isRow_96 : decode cX2_isRow 96 = .ok (.if_icmp .ge 18, 3) := dk_162 0 18 (dk_at dksX2_isRow_4 0 rfl rfl)
theorem dX2_isRow_99 : decode cX2_isRow 99 = .ok (.aload_n 0, 1) := dk_42 (dk_at dksX2_isRow_4 3 rfl rfl)
theorem dX2_isRow_100 : decode cX2_isRow 100 = .ok (.iload 7, 2) := dk_21 7 (dk_at dksX2_isRow_4 4 rfl rfl)
theorem dX2_isRow_102 : decode cX2_isRow 102 = .ok (.iload 8, 2) := dk_21 8 (dk_at dksX2_isRow_4 6 rfl rfl)
theorem dX2_isRow_104 : decode cX2_isRow 104 = .ok (.invokevirtual 178, 3) := dk_182 0 178 (dk_at dksX2_isRow_4 8 rfl rfl)
theorem dX2_isRow_107 : decode cX2_isRow 107 = .ok (.ifCond .eq 7, 3) := dk_153 0 7 (dk_at dksX2_isRow_4 11 rfl rfl)
theorem dX2_isRow_110 : decode cX2_isRow 110 = .ok (.iconst 1, 1) := dk_4 (dk_at dksX2_isRow_4 14 rfl rfl)
theorem dX2_isRow_111 : decode cX2_isRow 111 = .ok (.goto 4, 3) := dk_167 0 4 (dk_at dksX2_isRow_4 15 rfl rfl)
theorem dX2_isRow_114 : decode cX2_isRow 114 = .ok (.iconst 0, 1) := dk_3 (dk_at dksX2_isRow_4 18 rfl rfl)
theorem dX2_isRow_115 : decode cX2_isRow 115 = .ok (.istore 5, 2) := dk_54 5 (dk_at dksX2_isRow_4 19 rfl rfl)
theorem dX2_isRow_117 : decode cX2_isRow 117 = .ok (.iload 5, 2) := dk_21 5 (dk_at dksX2_isRow_4 21 rfl rfl)
theorem dX2_isRow_119 : decode cX2_isRow 119 = .ok (.ifCond .eq 11, 3) := dk_153 0 11 (dk_at dksX2_isRow_5 0 rfl rfl)
theorem dX2_isRow_122 : decode cX2_isRow 122 = .ok (.aload_n 0, 1) := dk_42 (dk_at dksX2_isRow_5 3 rfl rfl)
theorem dX2_isRow_123 : decode cX2_isRow 123 = .ok (.iload 7, 2) := dk_21 7 (dk_at dksX2_isRow_5 4 rfl rfl)
theorem dX2_isRow_125 : decode cX2_isRow 125 = .ok (.iload 8, 2) := dk_21 8 (dk_at dksX2_isRow_5 6 rfl rfl)
theorem dX2_isRow_127 : decode cX2_isRow 127 = .ok (.invokevirtual 181, 3) := dk_182 0 181 (dk_at dksX2_isRow_5 8 rfl rfl)
theorem dX2_isRow_130 : decode cX2_isRow 130 = .ok (.iinc 6 1, 3) := dk_132 6 1 (dk_at dksX2_isRow_5 11 rfl rfl)
theorem dX2_isRow_133 : decode cX2_isRow 133 = .ok (.goto (-85), 3) := dk_167 255 171 (dk_at dksX2_isRow_5 14 rfl rfl)
theorem dX2_isRow_136 : decode cX2_isRow 136 = .ok (.iload 5, 2) := dk_21 5 (dk_at dksX2_isRow_5 17 rfl rfl)
theorem dX2_isRow_138 : decode cX2_isRow 138 = .ok (.ifCond .eq 18, 3) := dk_153 0 18 (dk_at dksX2_isRow_5 19 rfl rfl)
theorem dX2_isRow_141 : decode cX2_isRow 141 = .ok (.iload_n 3, 1) := dk_29 (dk_at dksX2_isRow_5 22 rfl rfl)
theorem dX2_isRow_142 : decode cX2_isRow 142 = .ok (.aload_n 0, 1) := dk_42 (dk_at dksX2_isRow_5 23 rfl rfl)
theorem dX2_isRow_143 : decode cX2_isRow 143 = .ok (.invokevirtual 171, 3) := dk_182 0 171 (dk_at dksX2_isRow_6 0 rfl rfl)
theorem dX2_isRow_146 : decode cX2_isRow 146 = .ok (.iconst (-1), 1) := dk_2 (dk_at dksX2_isRow_6 3 rfl rfl)
theorem dX2_isRow_147 : decode cX2_isRow 147 = .ok (.ixor, 1) := dk_130 (dk_at dksX2_isRow_6 4 rfl rfl)
theorem dX2_isRow_148 : decode cX2_isRow 148 = .ok (.iand, 1) := dk_126 (dk_at dksX2_isRow_6 5 rfl rfl)
theorem dX2_isRow_149 : decode cX2_isRow 149 = .ok (.ifCond .ne 7, 3) := dk_154 0 7 (dk_at dksX2_isRow_6 6 rfl rfl)
theorem dX2_isRow_152 : decode cX2_isRow 152 = .ok (.iconst 1, 1) := dk_4 (dk_at dksX2_isRow_6 9 rfl rfl)
theorem dX2_isRow_153 : decode cX2_isRow 153 = .ok (.goto 4, 3) := dk_167 0 4 (dk_at dksX2_isRow_6 10 rfl rfl)
theorem dX2_isRow_156 : decode cX2_isRow 156 = .ok (.iconst 0, 1) := dk_3 (dk_at dksX2_isRow_6 13 rfl rfl)
theorem dX2_isRow_157 : decode cX2_isRow 157 = .ok (.ireturn, 1) := dk_172 (dk_at dksX2_isRow_6 14 rfl rfl)
abbrev cX2_match : ByteArray := prog_8_method_34_code
def yX2_match : MethodName := ⟨RX2, "match", "(I)I"⟩
def dkwX2_match_5 : List UInt8 := [182, 0, 139, 153, 0, 8, 16, 247, 167, 0, 9, 42, 180, 0, 52, 27, 46, 172]
abbrev dktX2_match_5 : List UInt8 := dkwX2_match_5 ++ []
def dkwX2_match_4 : List UInt8 := [132, 5, 1, 167, 255, 209, 42, 29, 182, 0, 214, 87, 27, 156, 0, 8, 21, 4, 167, 0, 22, 42, 27]
abbrev dktX2_match_4 : List UInt8 := dkwX2_match_4 ++ dktX2_match_5
def dkwX2_match_3 : List UInt8 := [21, 5, 167, 0, 4, 29, 62, 21, 6, 21, 4, 164, 0, 8, 21, 6, 167, 0, 5, 21, 4, 54, 4]
abbrev dktX2_match_3 : List UInt8 := dkwX2_match_3 ++ dktX2_match_4
def dkwX2_match_2 : List UInt8 := [3, 54, 5, 21, 5, 28, 162, 0, 47, 42, 21, 5, 182, 0, 214, 54, 6, 21, 6, 21, 4, 164, 0, 8]
abbrev dktX2_match_2 : List UInt8 := dkwX2_match_2 ++ dktX2_match_3
def dkwX2_match_1 : List UInt8 := [180, 0, 87, 162, 0, 16, 28, 42, 180, 0, 87, 104, 61, 132, 3, 1, 167, 255, 238, 3, 62, 2, 54, 4]
abbrev dktX2_match_1 : List UInt8 := dkwX2_match_1 ++ dktX2_match_2
def dkwX2_match_0 : List UInt8 := [27, 2, 162, 0, 5, 2, 172, 42, 180, 0, 87, 154, 0, 6, 16, 253, 172, 4, 61, 3, 62, 29, 42]
abbrev dktX2_match_0 : List UInt8 := dkwX2_match_0 ++ dktX2_match_1
theorem dksX2_match_0 : cX2_match.data.toList.drop 0 = dktX2_match_0 := by decide +kernel
theorem dksX2_match_1 : cX2_match.data.toList.drop 23 = dktX2_match_1 := dk_seg dksX2_match_0 23 rfl rfl
theorem dksX2_match_2 : cX2_match.data.toList.drop 47 = dktX2_match_2 := dk_seg dksX2_match_1 24 rfl rfl
theorem dksX2_match_3 : cX2_match.data.toList.drop 71 = dktX2_match_3 := dk_seg dksX2_match_2 24 rfl rfl
theorem dksX2_match_4 : cX2_match.data.toList.drop 94 = dktX2_match_4 := dk_seg dksX2_match_3 23 rfl rfl
theorem dksX2_match_5 : cX2_match.data.toList.drop 117 = dktX2_match_5 := dk_seg dksX2_match_4 23 rfl rfl
theorem dX2_match_0 : decode cX2_match 0 = .ok (.iload_n 1, 1) := dk_27 (dk_at dksX2_match_0 0 rfl rfl)
theorem dX2_match_1 : decode cX2_match 1 = .ok (.iconst (-1), 1) := dk_2 (dk_at dksX2_match_0 1 rfl rfl)
theorem dX2_match_2 : decode cX2_match 2 = .ok (.if_icmp .ge 5, 3) := dk_162 0 5 (dk_at dksX2_match_0 2 rfl rfl)
theorem dX2_match_5 : decode cX2_match 5 = .ok (.iconst (-1), 1) := dk_2 (dk_at dksX2_match_0 5 rfl rfl)
theorem dX2_match_6 : decode cX2_match 6 = .ok (.ireturn, 1) := dk_172 (dk_at dksX2_match_0 6 rfl rfl)
theorem dX2_match_7 : decode cX2_match 7 = .ok (.aload_n 0, 1) := dk_42 (dk_at dksX2_match_0 7 rfl rfl)
theorem dX2_match_8 : decode cX2_match 8 = .ok (.getfield 87, 3) := dk_180 0 87 (dk_at dksX2_match_0 8 rfl rfl)
theorem dX2_match_11 : decode cX2_match 11 = .ok (.ifCond .ne 6, 3) := dk_154 0 6 (dk_at dksX2_match_0 11 rfl rfl)
theorem dX2_match_14 : decode cX2_match 14 = .ok (.bipush (-3), 2) := dk_16 253 (dk_at dksX2_match_0 14 rfl rfl)
theorem dX2_match_16 : decode cX2_match 16 = .ok (.ireturn, 1) := dk_172 (dk_at dksX2_match_0 16 rfl rfl)
theorem dX2_match_17 : decode cX2_match 17 = .ok (.iconst 1, 1) := dk_4 (dk_at dksX2_match_0 17 rfl rfl)
theorem dX2_match_18 : decode cX2_match 18 = .ok (.istore_n 2, 1) := dk_61 (dk_at dksX2_match_0 18 rfl rfl)
theorem dX2_match_19 : decode cX2_match 19 = .ok (.iconst 0, 1) := dk_3 (dk_at dksX2_match_0 19 rfl rfl)
theorem dX2_match_20 : decode cX2_match 20 = .ok (.istore_n 3, 1) := dk_62 (dk_at dksX2_match_0 20 rfl rfl)
theorem dX2_match_21 : decode cX2_match 21 = .ok (.iload_n 3, 1) := dk_29 (dk_at dksX2_match_0 21 rfl rfl)
theorem dX2_match_22 : decode cX2_match 22 = .ok (.aload_n 0, 1) := dk_42 (dk_at dksX2_match_0 22 rfl rfl)
theorem dX2_match_23 : decode cX2_match 23 = .ok (.getfield 87, 3) := dk_180 0 87 (dk_at dksX2_match_1 0 rfl rfl)
theorem dX2_match_26 : decode cX2_match 26 = .ok (.if_icmp .ge 16, 3) := dk_162 0 16 (dk_at dksX2_match_1 3 rfl rfl)
theorem dX2_match_29 : decode cX2_match 29 = .ok (.iload_n 2, 1) := dk_28 (dk_at dksX2_match_1 6 rfl rfl)
theorem dX2_match_30 : decode cX2_match 30 = .ok (.aload_n 0, 1) := dk_42 (dk_at dksX2_match_1 7 rfl rfl)
theorem dX2_match_31 : decode cX2_match 31 = .ok (.getfield 87, 3) := dk_180 0 87 (dk_at dksX2_match_1 8 rfl rfl)
theorem dX2_match_34 : decode cX2_match 34 = .ok (.imul, 1) := dk_104 (dk_at dksX2_match_1 11 rfl rfl)
theorem dX2_match_35 : decode cX2_match 35 = .ok (.istore_n 2, 1) := dk_61 (dk_at dksX2_match_1 12 rfl rfl)
theorem dX2_match_36 : decode cX2_match 36 = .ok (.iinc 3 1, 3) := dk_132 3 1 (dk_at dksX2_match_1 13 rfl rfl)
theorem dX2_match_39 : decode cX2_match 39 = .ok (.goto (-18), 3) := dk_167 255 238 (dk_at dksX2_match_1 16 rfl rfl)
theorem dX2_match_42 : decode cX2_match 42 = .ok (.iconst 0, 1) := dk_3 (dk_at dksX2_match_1 19 rfl rfl)
theorem dX2_match_43 : decode cX2_match 43 = .ok (.istore_n 3, 1) := dk_62 (dk_at dksX2_match_1 20 rfl rfl)
theorem dX2_match_44 : decode cX2_match 44 = .ok (.iconst (-1), 1) := dk_2 (dk_at dksX2_match_1 21 rfl rfl)
theorem dX2_match_45 : decode cX2_match 45 = .ok (.istore 4, 2) := dk_54 4 (dk_at dksX2_match_1 22 rfl rfl)
theorem dX2_match_47 : decode cX2_match 47 = .ok (.iconst 0, 1) := dk_3 (dk_at dksX2_match_2 0 rfl rfl)
theorem dX2_match_48 : decode cX2_match 48 = .ok (.istore 5, 2) := dk_54 5 (dk_at dksX2_match_2 1 rfl rfl)
theorem dX2_match_50 : decode cX2_match 50 = .ok (.iload 5, 2) := dk_21 5 (dk_at dksX2_match_2 3 rfl rfl)
theorem dX2_match_52 : decode cX2_match 52 = .ok (.iload_n 2, 1) := dk_28 (dk_at dksX2_match_2 5 rfl rfl)
theorem dX2_match_53 : decode cX2_match 53 = .ok (.if_icmp .ge 47, 3) := dk_162 0 47 (dk_at dksX2_match_2 6 rfl rfl)
theorem dX2_match_56 : decode cX2_match 56 = .ok (.aload_n 0, 1) := dk_42 (dk_at dksX2_match_2 9 rfl rfl)
theorem dX2_match_57 : decode cX2_match 57 = .ok (.iload 5, 2) := dk_21 5 (dk_at dksX2_match_2 10 rfl rfl)
theorem dX2_match_59 : decode cX2_match 59 = .ok (.invokevirtual 214, 3) := dk_182 0 214 (dk_at dksX2_match_2 12 rfl rfl)
theorem dX2_match_62 : decode cX2_match 62 = .ok (.istore 6, 2) := dk_54 6 (dk_at dksX2_match_2 15 rfl rfl)
theorem dX2_match_64 : decode cX2_match 64 = .ok (.iload 6, 2) := dk_21 6 (dk_at dksX2_match_2 17 rfl rfl)
theorem dX2_match_66 : decode cX2_match 66 = .ok (.iload 4, 2) := dk_21 4 (dk_at dksX2_match_2 19 rfl rfl)
theorem dX2_match_68 : decode cX2_match 68 = .ok (.if_icmp .le 8, 3) := dk_164 0 8 (dk_at dksX2_match_2 21 rfl rfl)
theorem dX2_match_71 : decode cX2_match 71 = .ok (.iload 5, 2) := dk_21 5 (dk_at dksX2_match_3 0 rfl rfl)
theorem dX2_match_73 : decode cX2_match 73 = .ok (.goto 4, 3) := dk_167 0 4 (dk_at dksX2_match_3 2 rfl rfl)
theorem dX2_match_76 : decode cX2_match 76 = .ok (.iload_n 3, 1) := dk_29 (dk_at dksX2_match_3 5 rfl rfl)
theorem dX2_match_77 : decode cX2_match 77 = .ok (.istore_n 3, 1) := dk_62 (dk_at dksX2_match_3 6 rfl rfl)
theorem dX2_match_78 : decode cX2_match 78 = .ok (.iload 6, 2) := dk_21 6 (dk_at dksX2_match_3 7 rfl rfl)
theorem dX2_match_80 : decode cX2_match 80 = .ok (.iload 4, 2) := dk_21 4 (dk_at dksX2_match_3 9 rfl rfl)
theorem dX2_match_82 : decode cX2_match 82 = .ok (.if_icmp .le 8, 3) := dk_164 0 8 (dk_at dksX2_match_3 11 rfl rfl)
theorem dX2_match_85 : decode cX2_match 85 = .ok (.iload 6, 2) := dk_21 6 (dk_at dksX2_match_3 14 rfl rfl)
theorem dX2_match_87 : decode cX2_match 87 = .ok (.goto 5, 3) := dk_167 0 5 (dk_at dksX2_match_3 16 rfl rfl)
theorem dX2_match_90 : decode cX2_match 90 = .ok (.iload 4, 2) := dk_21 4 (dk_at dksX2_match_3 19 rfl rfl)
theorem dX2_match_92 : decode cX2_match 92 = .ok (.istore 4, 2) := dk_54 4 (dk_at dksX2_match_3 21 rfl rfl)
theorem dX2_match_94 : decode cX2_match 94 = .ok (.iinc 5 1, 3) := dk_132 5 1 (dk_at dksX2_match_4 0 rfl rfl)
theorem dX2_match_97 : decode cX2_match 97 = .ok (.goto (-47), 3) := dk_167 255 209 (dk_at dksX2_match_4 3 rfl rfl)
theorem dX2_match_100 : decode cX2_match 100 = .ok (.aload_n 0, 1) := dk_42 (dk_at dksX2_match_4 6 rfl rfl)
theorem dX2_match_101 : decode cX2_match 101 = .ok (.iload_n 3, 1) := dk_29 (dk_at dksX2_match_4 7 rfl rfl)
theorem dX2_match_102 : decode cX2_match 102 = .ok (.invokevirtual 214, 3) := dk_182 0 214 (dk_at dksX2_match_4 8 rfl rfl)
theorem dX2_match_105 : decode cX2_match 105 = .ok (.pop, 1) := dk_87 (dk_at dksX2_match_4 11 rfl rfl)
theorem dX2_match_106 : decode cX2_match 106 = .ok (.iload_n 1, 1) := dk_27 (dk_at dksX2_match_4 12 rfl rfl)
theorem dX2_match_107 : decode cX2_match 107 = .ok (.ifCond .ge 8, 3) := dk_156 0 8 (dk_at dksX2_match_4 13 rfl rfl)
theorem dX2_match_110 : decode cX2_match 110 = .ok (.iload 4, 2) := dk_21 4 (dk_at dksX2_match_4 16 rfl rfl)
theorem dX2_match_112 : decode cX2_match 112 = .ok (.goto 22, 3) := dk_167 0 22 (dk_at dksX2_match_4 18 rfl rfl)
theorem dX2_match_115 : decode cX2_match 115 = .ok (.aload_n 0, 1) := dk_42 (dk_at dksX2_match_4 21 rfl rfl)
theorem dX2_match_116 : decode cX2_match 116 = .ok (.iload_n 1, 1) := dk_27 (dk_at dksX2_match_4 22 rfl rfl)
theorem dX2_match_117 : decode cX2_match 117 = .ok (.invokevirtual 139, 3) := dk_182 0 139 (dk_at dksX2_match_5 0 rfl rfl)
theorem dX2_match_120 : decode cX2_match 120 = .ok (.ifCond .eq 8, 3) := dk_153 0 8 (dk_at dksX2_match_5 3 rfl rfl)
theorem dX2_match_123 : decode cX2_match 123 = .ok (.bipush (-9), 2) := dk_16 247 (dk_at dksX2_match_5 6 rfl rfl)
theorem dX2_match_125 : decode cX2_match 125 = .ok (.goto 9, 3) := dk_167 0 9 (dk_at dksX2_match_5 8 rfl rfl)
theorem dX2_match_128 : decode cX2_match 128 = .ok (.aload_n 0, 1) := dk_42 (dk_at dksX2_match_5 11 rfl rfl)
theorem dX2_match_129 : decode cX2_match 129 = .ok (.getfield 52, 3) := dk_180 0 52 (dk_at dksX2_match_5 12 rfl rfl)
theorem dX2_match_132 : decode cX2_match 132 = .ok (.iload_n 1, 1) := dk_27 (dk_at dksX2_match_5 15 rfl rfl)
theorem dX2_match_133 : decode cX2_match 133 = .ok (.iaload, 1) := dk_46 (dk_at dksX2_match_5 16 rfl rfl)
theorem dX2_match_134 : decode cX2_match 134 = .ok (.ireturn, 1) := dk_172 (dk_at dksX2_match_5 17 rfl rfl)
abbrev cX2_matchBy : ByteArray := prog_8_method_33_code
def yX2_matchBy : MethodName := ⟨RX2, "matchBy", "(I)I"⟩
def dkwX2_matchBy_5 : List UInt8 := [132, 5, 255, 167, 255, 155, 29, 42, 182, 0, 175, 160, 0, 8, 21, 4, 167, 0, 5, 16, 247, 172]
abbrev dktX2_matchBy_5 : List UInt8 := dkwX2_matchBy_5 ++ []
def dkwX2_matchBy_4 : List UInt8 := [167, 0, 4, 3, 96, 54, 4, 29, 4, 21, 6, 120, 128, 62, 42, 180, 0, 52, 21, 5, 21, 6, 79]
abbrev dktX2_matchBy_4 : List UInt8 := dkwX2_matchBy_4 ++ dktX2_matchBy_5
def dkwX2_matchBy_3 : List UInt8 := [46, 184, 0, 149, 153, 0, 7, 4, 167, 0, 4, 3, 54, 7, 21, 4, 21, 7, 153, 0, 7, 4]
abbrev dktX2_matchBy_3 : List UInt8 := dkwX2_matchBy_3 ++ dktX2_matchBy_4
def dkwX2_matchBy_2 : List UInt8 := [159, 0, 31, 42, 180, 0, 13, 21, 5, 46, 42, 180, 0, 13, 21, 6, 46, 128, 42, 180, 0, 16, 21, 5]
abbrev dktX2_matchBy_2 : List UInt8 := dkwX2_matchBy_2 ++ dktX2_matchBy_3
def dkwX2_matchBy_1 : List UInt8 := [180, 0, 87, 112, 54, 6, 28, 42, 180, 0, 87, 108, 61, 42, 180, 0, 16, 21, 5, 46, 16, 6]
abbrev dktX2_matchBy_1 : List UInt8 := dkwX2_matchBy_1 ++ dktX2_matchBy_2
def dkwX2_matchBy_0 : List UInt8 := [27, 61, 3, 62, 3, 54, 4, 42, 180, 0, 87, 4, 100, 54, 5, 21, 5, 155, 0, 102, 28, 42]
abbrev dktX2_matchBy_0 : List UInt8 := dkwX2_matchBy_0 ++ dktX2_matchBy_1
theorem dksX2_matchBy_0 : cX2_matchBy.data.toList.drop 0 = dktX2_matchBy_0 := by decide +kernel
theorem dksX2_matchBy_1 : cX2_matchBy.data.toList.drop 22 = dktX2_matchBy_1 := dk_seg dksX2_matchBy_0 22 rfl rfl
theorem dksX2_matchBy_2 : cX2_matchBy.data.toList.drop 44 = dktX2_matchBy_2 := dk_seg dksX2_matchBy_1 22 rfl rfl
theorem dksX2_matchBy_3 : cX2_matchBy.data.toList.drop 68 = dktX2_matchBy_3 := dk_seg dksX2_matchBy_2 24 rfl rfl
theorem dksX2_matchBy_4 : cX2_matchBy.data.toList.drop 90 = dktX2_matchBy_4 := dk_seg dksX2_matchBy_3 22 rfl rfl
theorem dksX2_matchBy_5 : cX2_matchBy.data.toList.drop 113 = dktX2_matchBy_5 := dk_seg dksX2_matchBy_4 23 rfl rfl
theorem dX2_matchBy_0 : decode cX2_matchBy 0 = .ok (.iload_n 1, 1) := dk_27 (dk_at dksX2_matchBy_0 0 rfl rfl)
theorem dX2_matchBy_1 : decode cX2_matchBy 1 = .ok (.istore_n 2, 1) := dk_61 (dk_at dksX2_matchBy_0 1 rfl rfl)
theorem dX2_matchBy_2 : decode cX2_matchBy 2 = .ok (.iconst 0, 1) := dk_3 (dk_at dksX2_matchBy_0 2 rfl rfl)
theorem dX2_matchBy_3 : decode cX2_matchBy 3 = .ok (.istore_n 3, 1) := dk_62 (dk_at dksX2_matchBy_0 3 rfl rfl)
theorem dX2_matchBy_4 : decode cX2_matchBy 4 = .ok (.iconst 0, 1) := dk_3 (dk_at dksX2_matchBy_0 4 rfl rfl)
theorem dX2_matchBy_5 : decode cX2_matchBy 5 = .ok (.istore 4, 2) := dk_54 4 (dk_at dksX2_matchBy_0 5 rfl rfl)
theorem dX2_matchBy_7 : decode cX2_matchBy 7 = .ok (.aload_n 0, 1) := dk_42 (dk_at dksX2_matchBy_0 7 rfl rfl)
theorem dX2_matchBy_8 : decode cX2_matchBy 8 = .ok (.getfield 87, 3) := dk_180 0 87 (dk_at dksX2_matchBy_0 8 rfl rfl)
theorem dX2_matchBy_11 : decode cX2_matchBy 11 = .ok (.iconst 1, 1) := dk_4 (dk_at dksX2_matchBy_0 11 rfl rfl)
theorem dX2_matchBy_12 : decode cX2_matchBy 12 = .ok (.isub, 1) := dk_100 (dk_at dksX2_matchBy_0 12 rfl rfl)
theorem dX2_matchBy_13 : decode cX2_matchBy 13 = .ok (.istore 5, 2) := dk_54 5 (dk_at dksX2_matchBy_0 13 rfl rfl)
theorem dX2_matchBy_15 : decode cX2_matchBy 15 = .ok (.iload 5, 2) := dk_21 5 (dk_at dksX2_matchBy_0 15 rfl rfl)
theorem dX2_matchBy_17 : decode cX2_matchBy 17 = .ok (.ifCond .lt 102, 3) := dk_155 0 102 (dk_at dksX2_matchBy_0 17 rfl rfl)
theorem dX2_matchBy_20 : decode cX2_matchBy 20 = .ok (.iload_n 2, 1) := dk_28 (dk_at dksX2_matchBy_0 20 rfl rfl)
theorem dX2_matchBy_21 : decode cX2_matchBy 21 = .ok (.aload_n 0, 1) := dk_42 (dk_at dksX2_matchBy_0 21 rfl rfl)
theorem dX2_matchBy_22 : decode cX2_matchBy 22 = .ok (.getfield 87, 3) := dk_180 0 87 (dk_at dksX2_matchBy_1 0 rfl rfl)
theorem dX2_matchBy_25 : decode cX2_matchBy 25 = .ok (.irem, 1) := dk_112 (dk_at dksX2_matchBy_1 3 rfl rfl)
theorem dX2_matchBy_26 : decode cX2_matchBy 26 = .ok (.istore 6, 2) := dk_54 6 (dk_at dksX2_matchBy_1 4 rfl rfl)
theorem dX2_matchBy_28 : decode cX2_matchBy 28 = .ok (.iload_n 2, 1) := dk_28 (dk_at dksX2_matchBy_1 6 rfl rfl)
theorem dX2_matchBy_29 : decode cX2_matchBy 29 = .ok (.aload_n 0, 1) := dk_42 (dk_at dksX2_matchBy_1 7 rfl rfl)
theorem dX2_matchBy_30 : decode cX2_matchBy 30 = .ok (.getfield 87, 3) := dk_180 0 87 (dk_at dksX2_matchBy_1 8 rfl rfl)
theorem dX2_matchBy_33 : decode cX2_matchBy 33 = .ok (.idiv, 1) := dk_108 (dk_at dksX2_matchBy_1 11 rfl rfl)
theorem dX2_matchBy_34 : decode cX2_matchBy 34 = .ok (.istore_n 2, 1) := dk_61 (dk_at dksX2_matchBy_1 12 rfl rfl)
theorem dX2_matchBy_35 : decode cX2_matchBy 35 = .ok (.aload_n 0, 1) := dk_42 (dk_at dksX2_matchBy_1 13 rfl rfl)
theorem dX2_matchBy_36 : decode cX2_matchBy 36 = .ok (.getfield 16, 3) := dk_180 0 16 (dk_at dksX2_matchBy_1 14 rfl rfl)
theorem dX2_matchBy_39 : decode cX2_matchBy 39 = .ok (.iload 5, 2) := dk_21 5 (dk_at dksX2_matchBy_1 17 rfl rfl)
theorem dX2_matchBy_41 : decode cX2_matchBy 41 = .ok (.iaload, 1) := dk_46 (dk_at dksX2_matchBy_1 19 rfl rfl)
theorem dX2_matchBy_42 : decode cX2_matchBy 42 = .ok (.bipush 6, 2) := dk_16 6 (dk_at dksX2_matchBy_1 20 rfl rfl)
theorem dX2_matchBy_44 : decode cX2_matchBy 44 = .ok (.if_icmp .eq 31, 3) := dk_159 0 31 (dk_at dksX2_matchBy_2 0 rfl rfl)
theorem dX2_matchBy_47 : decode cX2_matchBy 47 = .ok (.aload_n 0, 1) := dk_42 (dk_at dksX2_matchBy_2 3 rfl rfl)
theorem dX2_matchBy_48 : decode cX2_matchBy 48 = .ok (.getfield 13, 3) := dk_180 0 13 (dk_at dksX2_matchBy_2 4 rfl rfl)
theorem dX2_matchBy_51 : decode cX2_matchBy 51 = .ok (.iload 5, 2) := dk_21 5 (dk_at dksX2_matchBy_2 7 rfl rfl)
theorem dX2_matchBy_53 : decode cX2_matchBy 53 = .ok (.iaload, 1) := dk_46 (dk_at dksX2_matchBy_2 9 rfl rfl)
theorem dX2_matchBy_54 : decode cX2_matchBy 54 = .ok (.aload_n 0, 1) := dk_42 (dk_at dksX2_matchBy_2 10 rfl rfl)
theorem dX2_matchBy_55 : decode cX2_matchBy 55 = .ok (.getfield 13, 3) := dk_180 0 13 (dk_at dksX2_matchBy_2 11 rfl rfl)
theorem dX2_matchBy_58 : decode cX2_matchBy 58 = .ok (.iload 6, 2) := dk_21 6 (dk_at dksX2_matchBy_2 14 rfl rfl)
theorem dX2_matchBy_60 : decode cX2_matchBy 60 = .ok (.iaload, 1) := dk_46 (dk_at dksX2_matchBy_2 16 rfl rfl)
theorem dX2_matchBy_61 : decode cX2_matchBy 61 = .ok (.ior, 1) := dk_128 (dk_at dksX2_matchBy_2 17 rfl rfl)
theorem dX2_matchBy_62 : decode cX2_matchBy 62 = .ok (.aload_n 0, 1) := dk_42 (dk_at dksX2_matchBy_2 18 rfl rfl)
theorem dX2_matchBy_63 : decode cX2_matchBy 63 = .ok (.getfield 16, 3) := dk_180 0 16 (dk_at dksX2_matchBy_2 19 rfl rfl)
theorem dX2_matchBy_66 : decode cX2_matchBy 66 = .ok (.iload 5, 2) := dk_21 5 (dk_at dksX2_matchBy_2 22 rfl rfl)
theorem dX2_matchBy_68 : decode cX2_matchBy 68 = .ok (.iaload, 1) := dk_46 (dk_at dksX2_matchBy_3 0 rfl rfl)
theorem dX2_matchBy_69 : decode cX2_matchBy 69 = .ok (.invokestatic 149, 3) := dk_184 0 149 (dk_at dksX2_matchBy_3 1 rfl rfl)
theorem dX2_matchBy_72 : decode cX2_matchBy 72 = .ok (.ifCond .eq 7, 3) := dk_153 0 7 (dk_at dksX2_matchBy_3 4 rfl rfl)
theorem dX2_matchBy_75 : decode cX2_matchBy 75 = .ok (.iconst 1, 1) := dk_4 (dk_at dksX2_matchBy_3 7 rfl rfl)
theorem dX2_matchBy_76 : decode cX2_matchBy 76 = .ok (.goto 4, 3) := dk_167 0 4 (dk_at dksX2_matchBy_3 8 rfl rfl)
theorem dX2_matchBy_79 : decode cX2_matchBy 79 = .ok (.iconst 0, 1) := dk_3 (dk_at dksX2_matchBy_3 11 rfl rfl)
theorem dX2_matchBy_80 : decode cX2_matchBy 80 = .ok (.istore 7, 2) := dk_54 7 (dk_at dksX2_matchBy_3 12 rfl rfl)
theorem dX2_matchBy_82 : decode cX2_matchBy 82 = .ok (.iload 4, 2) := dk_21 4 (dk_at dksX2_matchBy_3 14 rfl rfl)
theorem dX2_matchBy_84 : decode cX2_matchBy 84 = .ok (.iload 7, 2) := dk_21 7 (dk_at dksX2_matchBy_3 16 rfl rfl)
theorem dX2_matchBy_86 : decode cX2_matchBy 86 = .ok (.ifCond .eq 7, 3) := dk_153 0 7 (dk_at dksX2_matchBy_3 18 rfl rfl)
theorem dX2_matchBy_89 : decode cX2_matchBy 89 = .ok (.iconst 1, 1) := dk_4 (dk_at dksX2_matchBy_3 21 rfl rfl)
theorem dX2_matchBy_90 : decode cX2_matchBy 90 = .ok (.goto 4, 3) := dk_167 0 4 (dk_at dksX2_matchBy_4 0 rfl rfl)
theorem dX2_matchBy_93 : decode cX2_matchBy 93 = .ok (.iconst 0, 1) := dk_3 (dk_at dksX2_matchBy_4 3 rfl rfl)
theorem dX2_matchBy_94 : decode cX2_matchBy 94 = .ok (.iadd, 1) := dk_96 (dk_at dksX2_matchBy_4 4 rfl rfl)
theorem dX2_matchBy_95 : decode cX2_matchBy 95 = .ok (.istore 4, 2) := dk_54 4 (dk_at dksX2_matchBy_4 5 rfl rfl)
theorem dX2_matchBy_97 : decode cX2_matchBy 97 = .ok (.iload_n 3, 1) := dk_29 (dk_at dksX2_matchBy_4 7 rfl rfl)
theorem dX2_matchBy_98 : decode cX2_matchBy 98 = .ok (.iconst 1, 1) := dk_4 (dk_at dksX2_matchBy_4 8 rfl rfl)
theorem dX2_matchBy_99 : decode cX2_matchBy 99 = .ok (.iload 6, 2) := dk_21 6 (dk_at dksX2_matchBy_4 9 rfl rfl)
theorem dX2_matchBy_101 : decode cX2_matchBy 101 = .ok (.ishl, 1) := dk_120 (dk_at dksX2_matchBy_4 11 rfl rfl)
theorem dX2_matchBy_102 : decode cX2_matchBy 102 = .ok (.ior, 1) := dk_128 (dk_at dksX2_matchBy_4 12 rfl rfl)
theorem dX2_matchBy_103 : decode cX2_matchBy 103 = .ok (.istore_n 3, 1) := dk_62 (dk_at dksX2_matchBy_4 13 rfl rfl)
theorem dX2_matchBy_104 : decode cX2_matchBy 104 = .ok (.aload_n 0, 1) := dk_42 (dk_at dksX2_matchBy_4 14 rfl rfl)
theorem dX2_matchBy_105 : decode cX2_matchBy 105 = .ok (.getfield 52, 3) := dk_180 0 52 (dk_at dksX2_matchBy_4 15 rfl rfl)
theorem dX2_matchBy_108 : decode cX2_matchBy 108 = .ok (.iload 5, 2) := dk_21 5 (dk_at dksX2_matchBy_4 18 rfl rfl)
theorem dX2_matchBy_110 : decode cX2_matchBy 110 = .ok (.iload 6, 2) := dk_21 6 (dk_at dksX2_matchBy_4 20 rfl rfl)
theorem dX2_matchBy_112 : decode cX2_matchBy 112 = .ok (.iastore, 1) := dk_79 (dk_at dksX2_matchBy_4 22 rfl rfl)
theorem dX2_matchBy_113 : decode cX2_matchBy 113 = .ok (.iinc 5 (-1), 3) := dk_132 5 255 (dk_at dksX2_matchBy_5 0 rfl rfl)
theorem dX2_matchBy_116 : decode cX2_matchBy 116 = .ok (.goto (-101), 3) := dk_167 255 155 (dk_at dksX2_matchBy_5 3 rfl rfl)
theorem dX2_matchBy_119 : decode cX2_matchBy 119 = .ok (.iload_n 3, 1) := dk_29 (dk_at dksX2_matchBy_5 6 rfl rfl)
theorem dX2_matchBy_120 : decode cX2_matchBy 120 = .ok (.aload_n 0, 1) := dk_42 (dk_at dksX2_matchBy_5 7 rfl rfl)
theorem dX2_matchBy_121 : decode cX2_matchBy 121 = .ok (.invokevirtual 175, 3) := dk_182 0 175 (dk_at dksX2_matchBy_5 8 rfl rfl)
theorem dX2_matchBy_124 : decode cX2_matchBy 124 = .ok (.if_icmp .ne 8, 3) := dk_160 0 8 (dk_at dksX2_matchBy_5 11 rfl rfl)
theorem dX2_matchBy_127 : decode cX2_matchBy 127 = .ok (.iload 4, 2) := dk_21 4 (dk_at dksX2_matchBy_5 14 rfl rfl)
theorem dX2_matchBy_129 : decode cX2_matchBy 129 = .ok (.goto 5, 3) := dk_167 0 5 (dk_at dksX2_matchBy_5 16 rfl rfl)
theorem dX2_matchBy_132 : decode cX2_matchBy 132 = .ok (.bipush (-9), 2) := dk_16 247 (dk_at dksX2_matchBy_5 19 rfl rfl)
theorem dX2_matchBy_134 : decode cX2_matchBy 134 = .ok (.ireturn, 1) := dk_172 (dk_at dksX2_matchBy_5 21 rfl rfl)
abbrev cX2_help : ByteArray := prog_8_method_35_code
def yX2_help : MethodName := ⟨RX2, "help", "(I)I"⟩
def dkwX2_help_3 : List UInt8 := [3, 96, 61, 132, 3, 1, 167, 255, 194, 28, 172]
abbrev dktX2_help_3 : List UInt8 := dkwX2_help_3 ++ []
def dkwX2_help_2 : List UInt8 := [184, 0, 149, 153, 0, 21, 42, 180, 0, 13, 29, 46, 21, 4, 184, 0, 149, 154, 0, 7, 4, 167, 0, 4]
abbrev dktX2_help_2 : List UInt8 := dkwX2_help_2 ++ dktX2_help_3
def dkwX2_help_1 : List UInt8 := [180, 0, 16, 29, 46, 54, 4, 28, 21, 4, 16, 6, 162, 0, 35, 42, 180, 0, 13, 27, 46, 21, 4]
abbrev dktX2_help_1 : List UInt8 := dkwX2_help_1 ++ dktX2_help_2
def dkwX2_help_0 : List UInt8 := [42, 27, 182, 0, 139, 153, 0, 5, 2, 172, 3, 61, 3, 62, 29, 42, 180, 0, 87, 162, 0, 60, 42]
abbrev dktX2_help_0 : List UInt8 := dkwX2_help_0 ++ dktX2_help_1
theorem dksX2_help_0 : cX2_help.data.toList.drop 0 = dktX2_help_0 := by decide +kernel
theorem dksX2_help_1 : cX2_help.data.toList.drop 23 = dktX2_help_1 := dk_seg dksX2_help_0 23 rfl rfl
theorem dksX2_help_2 : cX2_help.data.toList.drop 46 = dktX2_help_2 := dk_seg dksX2_help_1 23 rfl rfl
theorem dksX2_help_3 : cX2_help.data.toList.drop 70 = dktX2_help_3 := dk_seg dksX2_help_2 24 rfl rfl
theorem dX2_help_0 : decode cX2_help 0 = .ok (.aload_n 0, 1) := dk_42 (dk_at dksX2_help_0 0 rfl rfl)
theorem dX2_help_1 : decode cX2_help 1 = .ok (.iload_n 1, 1) := dk_27 (dk_at dksX2_help_0 1 rfl rfl)
theorem dX2_help_2 : decode cX2_help 2 = .ok (.invokevirtual 139, 3) := dk_182 0 139 (dk_at dksX2_help_0 2 rfl rfl)
theorem dX2_help_5 : decode cX2_help 5 = .ok (.ifCond .eq 5, 3) := dk_153 0 5 (dk_at dksX2_help_0 5 rfl rfl)
theorem dX2_help_8 : decode cX2_help 8 = .ok (.iconst (-1), 1) := dk_2 (dk_at dksX2_help_0 8 rfl rfl)
theorem dX2_help_9 : decode cX2_help 9 = .ok (.ireturn, 1) := dk_172 (dk_at dksX2_help_0 9 rfl rfl)
theorem dX2_help_10 : decode cX2_help 10 = .ok (.iconst 0, 1) := dk_3 (dk_at dksX2_help_0 10 rfl rfl)
theorem dX2_help_11 : decode cX2_help 11 = .ok (.istore_n 2, 1) := dk_61 (dk_at dksX2_help_0 11 rfl rfl)
theorem dX2_help_12 : decode cX2_help 12 = .ok (.iconst 0, 1) := dk_3 (dk_at dksX2_help_0 12 rfl rfl)
theorem dX2_help_13 : decode cX2_help 13 = .ok (.istore_n 3, 1) := dk_62 (dk_at dksX2_help_0 13 rfl rfl)
theorem dX2_help_14 : decode cX2_help 14 = .ok (.iload_n 3, 1) := dk_29 (dk_at dksX2_help_0 14 rfl rfl)
theorem dX2_help_15 : decode cX2_help 15 = .ok (.aload_n 0, 1) := dk_42 (dk_at dksX2_help_0 15 rfl rfl)
theorem dX2_help_16 : decode cX2_help 16 = .ok (.getfield 87, 3) := dk_180 0 87 (dk_at dksX2_help_0 16 rfl rfl)
theorem dX2_help_19 : decode cX2_help 19 = .ok (.if_icmp .ge 60, 3) := dk_162 0 60 (dk_at dksX2_help_0 19 rfl rfl)
theorem dX2_help_22 : decode cX2_help 22 = .ok (.aload_n 0, 1) := dk_42 (dk_at dksX2_help_0 22 rfl rfl)
theorem dX2_help_23 : decode cX2_help 23 = .ok (.getfield 16, 3) := dk_180 0 16 (dk_at dksX2_help_1 0 rfl rfl)
theorem dX2_help_26 : decode cX2_help 26 = .ok (.iload_n 3, 1) := dk_29 (dk_at dksX2_help_1 3 rfl rfl)
theorem dX2_help_27 : decode cX2_help 27 = .ok (.iaload, 1) := dk_46 (dk_at dksX2_help_1 4 rfl rfl)
theorem dX2_help_28 : decode cX2_help 28 = .ok (.istore 4, 2) := dk_54 4 (dk_at dksX2_help_1 5 rfl rfl)
theorem dX2_help_30 : decode cX2_help 30 = .ok (.iload_n 2, 1) := dk_28 (dk_at dksX2_help_1 7 rfl rfl)
theorem dX2_help_31 : decode cX2_help 31 = .ok (.iload 4, 2) := dk_21 4 (dk_at dksX2_help_1 8 rfl rfl)
theorem dX2_help_33 : decode cX2_help 33 = .ok (.bipush 6, 2) := dk_16 6 (dk_at dksX2_help_1 10 rfl rfl)
theorem dX2_help_35 : decode cX2_help 35 = .ok (.if_icmp .ge 35, 3) := dk_162 0 35 (dk_at dksX2_help_1 12 rfl rfl)
theorem dX2_help_38 : decode cX2_help 38 = .ok (.aload_n 0, 1) := dk_42 (dk_at dksX2_help_1 15 rfl rfl)
theorem dX2_help_39 : decode cX2_help 39 = .ok (.getfield 13, 3) := dk_180 0 13 (dk_at dksX2_help_1 16 rfl rfl)
theorem dX2_help_42 : decode cX2_help 42 = .ok (.iload_n 1, 1) := dk_27 (dk_at dksX2_help_1 19 rfl rfl)
theorem dX2_help_43 : decode cX2_help 43 = .ok (.iaload, 1) := dk_46 (dk_at dksX2_help_1 20 rfl rfl)
theorem dX2_help_44 : decode cX2_help 44 = .ok (.iload 4, 2) := dk_21 4 (dk_at dksX2_help_1 21 rfl rfl)
theorem dX2_help_46 : decode cX2_help 46 = .ok (.invokestatic 149, 3) := dk_184 0 149 (dk_at dksX2_help_2 0 rfl rfl)
theorem dX2_help_49 : decode cX2_help 49 = .ok (.ifCond .eq 21, 3) := dk_153 0 21 (dk_at dksX2_help_2 3 rfl rfl)
theorem dX2_help_52 : decode cX2_help 52 = .ok (.aload_n 0, 1) := dk_42 (dk_at dksX2_help_2 6 rfl rfl)
theorem dX2_help_53 : decode cX2_help 53 = .ok (.getfield 13, 3) := dk_180 0 13 (dk_at dksX2_help_2 7 rfl rfl)
theorem dX2_help_56 : decode cX2_help 56 = .ok (.iload_n 3, 1) := dk_29 (dk_at dksX2_help_2 10 rfl rfl)
theorem dX2_help_57 : decode cX2_help 57 = .ok (.iaload, 1) := dk_46 (dk_at dksX2_help_2 11 rfl rfl)
theorem dX2_help_58 : decode cX2_help 58 = .ok (.iload 4, 2) := dk_21 4 (dk_at dksX2_help_2 12 rfl rfl)
theorem dX2_help_60 : decode cX2_help 60 = .ok (.invokestatic 149, 3) := dk_184 0 149 (dk_at dksX2_help_2 14 rfl rfl)
theorem dX2_help_63 : decode cX2_help 63 = .ok (.ifCond .ne 7, 3) := dk_154 0 7 (dk_at dksX2_help_2 17 rfl rfl)
theorem dX2_help_66 : decode cX2_help 66 = .ok (.iconst 1, 1) := dk_4 (dk_at dksX2_help_2 20 rfl rfl)
theorem dX2_help_67 : decode cX2_help 67 = .ok (.goto 4, 3) := dk_167 0 4 (dk_at dksX2_help_2 21 rfl rfl)
theorem dX2_help_70 : decode cX2_help 70 = .ok (.iconst 0, 1) := dk_3 (dk_at dksX2_help_3 0 rfl rfl)
theorem dX2_help_71 : decode cX2_help 71 = .ok (.iadd, 1) := dk_96 (dk_at dksX2_help_3 1 rfl rfl)
theorem dX2_help_72 : decode cX2_help 72 = .ok (.istore_n 2, 1) := dk_61 (dk_at dksX2_help_3 2 rfl rfl)
theorem dX2_help_73 : decode cX2_help 73 = .ok (.iinc 3 1, 3) := dk_132 3 1 (dk_at dksX2_help_3 3 rfl rfl)
theorem dX2_help_76 : decode cX2_help 76 = .ok (.goto (-62), 3) := dk_167 255 194 (dk_at dksX2_help_3 6 rfl rfl)
theorem dX2_help_79 : decode cX2_help 79 = .ok (.iload_n 2, 1) := dk_28 (dk_at dksX2_help_3 9 rfl rfl)
theorem dX2_help_80 : decode cX2_help 80 = .ok (.ireturn, 1) := dk_172 (dk_at dksX2_help_3 10 rfl rfl)
abbrev cX2_reading : ByteArray := prog_8_method_36_code
def yX2_reading : MethodName := ⟨RX2, "reading", "(IIZ)I"⟩
def dkwX2_reading_3 : List UInt8 := [4, 96, 181, 0, 136, 42, 180, 0, 136, 4, 100, 172]
abbrev dktX2_reading_3 : List UInt8 := dkwX2_reading_3 ++ []
def dkwX2_reading_2 : List UInt8 := [180, 0, 58, 42, 180, 0, 136, 28, 79, 42, 180, 0, 61, 42, 180, 0, 136, 29, 84, 42, 89, 180, 0, 136]
abbrev dktX2_reading_2 : List UInt8 := dkwX2_reading_2 ++ dktX2_reading_3
def dkwX2_reading_1 : List UInt8 := [180, 0, 136, 16, 8, 160, 0, 6, 16, 252, 172, 42, 180, 0, 55, 42, 180, 0, 136, 27, 79, 42]
abbrev dktX2_reading_1 : List UInt8 := dkwX2_reading_1 ++ dktX2_reading_2
def dkwX2_reading_0 : List UInt8 := [42, 27, 182, 0, 139, 154, 0, 15, 28, 133, 9, 20, 0, 217, 184, 0, 90, 154, 0, 5, 2, 172, 42]
abbrev dktX2_reading_0 : List UInt8 := dkwX2_reading_0 ++ dktX2_reading_1
theorem dksX2_reading_0 : cX2_reading.data.toList.drop 0 = dktX2_reading_0 := by decide +kernel
theorem dksX2_reading_1 : cX2_reading.data.toList.drop 23 = dktX2_reading_1 := dk_seg dksX2_reading_0 23 rfl rfl
theorem dksX2_reading_2 : cX2_reading.data.toList.drop 45 = dktX2_reading_2 := dk_seg dksX2_reading_1 22 rfl rfl
theorem dksX2_reading_3 : cX2_reading.data.toList.drop 69 = dktX2_reading_3 := dk_seg dksX2_reading_2 24 rfl rfl
theorem dX2_reading_0 : decode cX2_reading 0 = .ok (.aload_n 0, 1) := dk_42 (dk_at dksX2_reading_0 0 rfl rfl)
theorem dX2_reading_1 : decode cX2_reading 1 = .ok (.iload_n 1, 1) := dk_27 (dk_at dksX2_reading_0 1 rfl rfl)
theorem dX2_reading_2 : decode cX2_reading 2 = .ok (.invokevirtual 139, 3) := dk_182 0 139 (dk_at dksX2_reading_0 2 rfl rfl)
theorem dX2_reading_5 : decode cX2_reading 5 = .ok (.ifCond .ne 15, 3) := dk_154 0 15 (dk_at dksX2_reading_0 5 rfl rfl)
theorem dX2_reading_8 : decode cX2_reading 8 = .ok (.iload_n 2, 1) := dk_28 (dk_at dksX2_reading_0 8 rfl rfl)
theorem dX2_reading_9 : decode cX2_reading 9 = .ok (.i2l, 1) := dk_133 (dk_at dksX2_reading_0 9 rfl rfl)
theorem dX2_reading_10 : decode cX2_reading 10 = .ok (.lconst 0, 1) := dk_9 (dk_at dksX2_reading_0 10 rfl rfl)
theorem dX2_reading_11 : decode cX2_reading 11 = .ok (.ldc2_w 217, 3) := dk_20 0 217 (dk_at dksX2_reading_0 11 rfl rfl)
theorem dX2_reading_14 : decode cX2_reading 14 = .ok (.invokestatic 90, 3) := dk_184 0 90 (dk_at dksX2_reading_0 14 rfl rfl)
theorem dX2_reading_17 : decode cX2_reading 17 = .ok (.ifCond .ne 5, 3) := dk_154 0 5 (dk_at dksX2_reading_0 17 rfl rfl)
theorem dX2_reading_20 : decode cX2_reading 20 = .ok (.iconst (-1), 1) := dk_2 (dk_at dksX2_reading_0 20 rfl rfl)
theorem dX2_reading_21 : decode cX2_reading 21 = .ok (.ireturn, 1) := dk_172 (dk_at dksX2_reading_0 21 rfl rfl)
theorem dX2_reading_22 : decode cX2_reading 22 = .ok (.aload_n 0, 1) := dk_42 (dk_at dksX2_reading_0 22 rfl rfl)
theorem dX2_reading_23 : decode cX2_reading 23 = .ok (.getfield 136, 3) := dk_180 0 136 (dk_at dksX2_reading_1 0 rfl rfl)
theorem dX2_reading_26 : decode cX2_reading 26 = .ok (.bipush 8, 2) := dk_16 8 (dk_at dksX2_reading_1 3 rfl rfl)
theorem dX2_reading_28 : decode cX2_reading 28 = .ok (.if_icmp .ne 6, 3) := dk_160 0 6 (dk_at dksX2_reading_1 5 rfl rfl)
theorem dX2_reading_31 : decode cX2_reading 31 = .ok (.bipush (-4), 2) := dk_16 252 (dk_at dksX2_reading_1 8 rfl rfl)
theorem dX2_reading_33 : decode cX2_reading 33 = .ok (.ireturn, 1) := dk_172 (dk_at dksX2_reading_1 10 rfl rfl)
theorem dX2_reading_34 : decode cX2_reading 34 = .ok (.aload_n 0, 1) := dk_42 (dk_at dksX2_reading_1 11 rfl rfl)
theorem dX2_reading_35 : decode cX2_reading 35 = .ok (.getfield 55, 3) := dk_180 0 55 (dk_at dksX2_reading_1 12 rfl rfl)
theorem dX2_reading_38 : decode cX2_reading 38 = .ok (.aload_n 0, 1) := dk_42 (dk_at dksX2_reading_1 15 rfl rfl)
theorem dX2_reading_39 : decode cX2_reading 39 = .ok (.getfield 136, 3) := dk_180 0 136 (dk_at dksX2_reading_1 16 rfl rfl)
theorem dX2_reading_42 : decode cX2_reading 42 = .ok (.iload_n 1, 1) := dk_27 (dk_at dksX2_reading_1 19 rfl rfl)
theorem dX2_reading_43 : decode cX2_reading 43 = .ok (.iastore, 1) := dk_79 (dk_at dksX2_reading_1 20 rfl rfl)
theorem dX2_reading_44 : decode cX2_reading 44 = .ok (.aload_n 0, 1) := dk_42 (dk_at dksX2_reading_1 21 rfl rfl)
theorem dX2_reading_45 : decode cX2_reading 45 = .ok (.getfield 58, 3) := dk_180 0 58 (dk_at dksX2_reading_2 0 rfl rfl)
theorem dX2_reading_48 : decode cX2_reading 48 = .ok (.aload_n 0, 1) := dk_42 (dk_at dksX2_reading_2 3 rfl rfl)
theorem dX2_reading_49 : decode cX2_reading 49 = .ok (.getfield 136, 3) := dk_180 0 136 (dk_at dksX2_reading_2 4 rfl rfl)
theorem dX2_reading_52 : decode cX2_reading 52 = .ok (.iload_n 2, 1) := dk_28 (dk_at dksX2_reading_2 7 rfl rfl)
theorem dX2_reading_53 : decode cX2_reading 53 = .ok (.iastore, 1) := dk_79 (dk_at dksX2_reading_2 8 rfl rfl)
theorem dX2_reading_54 : decode cX2_reading 54 = .ok (.aload_n 0, 1) := dk_42 (dk_at dksX2_reading_2 9 rfl rfl)
theorem dX2_reading_55 : decode cX2_reading 55 = .ok (.getfield 61, 3) := dk_180 0 61 (dk_at dksX2_reading_2 10 rfl rfl)
theorem dX2_reading_58 : decode cX2_reading 58 = .ok (.aload_n 0, 1) := dk_42 (dk_at dksX2_reading_2 13 rfl rfl)
theorem dX2_reading_59 : decode cX2_reading 59 = .ok (.getfield 136, 3) := dk_180 0 136 (dk_at dksX2_reading_2 14 rfl rfl)
theorem dX2_reading_62 : decode cX2_reading 62 = .ok (.iload_n 3, 1) := dk_29 (dk_at dksX2_reading_2 17 rfl rfl)
theorem dX2_reading_63 : decode cX2_reading 63 = .ok (.bastore, 1) := dk_84 (dk_at dksX2_reading_2 18 rfl rfl)
theorem dX2_reading_64 : decode cX2_reading 64 = .ok (.aload_n 0, 1) := dk_42 (dk_at dksX2_reading_2 19 rfl rfl)
theorem dX2_reading_65 : decode cX2_reading 65 = .ok (.dup, 1) := dk_89 (dk_at dksX2_reading_2 20 rfl rfl)
theorem dX2_reading_66 : decode cX2_reading 66 = .ok (.getfield 136, 3) := dk_180 0 136 (dk_at dksX2_reading_2 21 rfl rfl)
theorem dX2_reading_69 : decode cX2_reading 69 = .ok (.iconst 1, 1) := dk_4 (dk_at dksX2_reading_3 0 rfl rfl)
theorem dX2_reading_70 : decode cX2_reading 70 = .ok (.iadd, 1) := dk_96 (dk_at dksX2_reading_3 1 rfl rfl)
theorem dX2_reading_71 : decode cX2_reading 71 = .ok (.putfield 136, 3) := dk_181 0 136 (dk_at dksX2_reading_3 2 rfl rfl)
theorem dX2_reading_74 : decode cX2_reading 74 = .ok (.aload_n 0, 1) := dk_42 (dk_at dksX2_reading_3 5 rfl rfl)
theorem dX2_reading_75 : decode cX2_reading 75 = .ok (.getfield 136, 3) := dk_180 0 136 (dk_at dksX2_reading_3 6 rfl rfl)
theorem dX2_reading_78 : decode cX2_reading 78 = .ok (.iconst 1, 1) := dk_4 (dk_at dksX2_reading_3 9 rfl rfl)
theorem dX2_reading_79 : decode cX2_reading 79 = .ok (.isub, 1) := dk_100 (dk_at dksX2_reading_3 10 rfl rfl)
theorem dX2_reading_80 : decode cX2_reading 80 = .ok (.ireturn, 1) := dk_172 (dk_at dksX2_reading_3 11 rfl rfl)
abbrev cX2_back : ByteArray := prog_8_method_37_code
def yX2_back : MethodName := ⟨RX2, "back", "(I)I"⟩
def dkwX2_back_1 : List UInt8 := [181, 0, 136, 42, 180, 0, 136, 172]
abbrev dktX2_back_1 : List UInt8 := dkwX2_back_1 ++ []
def dkwX2_back_0 : List UInt8 := [27, 133, 9, 42, 180, 0, 136, 133, 184, 0, 90, 154, 0, 6, 16, 254, 172, 42, 89, 180, 0, 136, 27, 100]
abbrev dktX2_back_0 : List UInt8 := dkwX2_back_0 ++ dktX2_back_1
theorem dksX2_back_0 : cX2_back.data.toList.drop 0 = dktX2_back_0 := by decide +kernel
theorem dksX2_back_1 : cX2_back.data.toList.drop 24 = dktX2_back_1 := dk_seg dksX2_back_0 24 rfl rfl
theorem dX2_back_0 : decode cX2_back 0 = .ok (.iload_n 1, 1) := dk_27 (dk_at dksX2_back_0 0 rfl rfl)
theorem dX2_back_1 : decode cX2_back 1 = .ok (.i2l, 1) := dk_133 (dk_at dksX2_back_0 1 rfl rfl)
theorem dX2_back_2 : decode cX2_back 2 = .ok (.lconst 0, 1) := dk_9 (dk_at dksX2_back_0 2 rfl rfl)
theorem dX2_back_3 : decode cX2_back 3 = .ok (.aload_n 0, 1) := dk_42 (dk_at dksX2_back_0 3 rfl rfl)
theorem dX2_back_4 : decode cX2_back 4 = .ok (.getfield 136, 3) := dk_180 0 136 (dk_at dksX2_back_0 4 rfl rfl)
theorem dX2_back_7 : decode cX2_back 7 = .ok (.i2l, 1) := dk_133 (dk_at dksX2_back_0 7 rfl rfl)
theorem dX2_back_8 : decode cX2_back 8 = .ok (.invokestatic 90, 3) := dk_184 0 90 (dk_at dksX2_back_0 8 rfl rfl)
theorem dX2_back_11 : decode cX2_back 11 = .ok (.ifCond .ne 6, 3) := dk_154 0 6 (dk_at dksX2_back_0 11 rfl rfl)
theorem dX2_back_14 : decode cX2_back 14 = .ok (.bipush (-2), 2) := dk_16 254 (dk_at dksX2_back_0 14 rfl rfl)
theorem dX2_back_16 : decode cX2_back 16 = .ok (.ireturn, 1) := dk_172 (dk_at dksX2_back_0 16 rfl rfl)
theorem dX2_back_17 : decode cX2_back 17 = .ok (.aload_n 0, 1) := dk_42 (dk_at dksX2_back_0 17 rfl rfl)
theorem dX2_back_18 : decode cX2_back 18 = .ok (.dup, 1) := dk_89 (dk_at dksX2_back_0 18 rfl rfl)
theorem dX2_back_19 : decode cX2_back 19 = .ok (.getfield 136, 3) := dk_180 0 136 (dk_at dksX2_back_0 19 rfl rfl)
theorem dX2_back_22 : decode cX2_back 22 = .ok (.iload_n 1, 1) := dk_27 (dk_at dksX2_back_0 22 rfl rfl)
theorem dX2_back_23 : decode cX2_back 23 = .ok (.isub, 1) := dk_100 (dk_at dksX2_back_0 23 rfl rfl)
theorem dX2_back_24 : decode cX2_back 24 = .ok (.putfield 136, 3) := dk_181 0 136 (dk_at dksX2_back_1 0 rfl rfl)
theorem dX2_back_27 : decode cX2_back 27 = .ok (.aload_n 0, 1) := dk_42 (dk_at dksX2_back_1 3 rfl rfl)
theorem dX2_back_28 : decode cX2_back 28 = .ok (.getfield 136, 3) := dk_180 0 136 (dk_at dksX2_back_1 4 rfl rfl)
theorem dX2_back_31 : decode cX2_back 31 = .ok (.ireturn, 1) := dk_172 (dk_at dksX2_back_1 7 rfl rfl)
abbrev cX2_told : ByteArray := prog_8_method_40_code
def yX2_told : MethodName := ⟨RX2, "told", "(IIIIII)I"⟩
def dkwX2_told_5 : List UInt8 := [167, 0, 5, 21, 10, 172]
abbrev dktX2_told_5 : List UInt8 := dkwX2_told_5 ++ []
def dkwX2_told_4 : List UInt8 := [54, 10, 132, 11, 1, 167, 255, 205, 42, 180, 0, 13, 27, 21, 8, 79, 21, 6, 154, 0, 8, 21, 9]
abbrev dktX2_told_4 : List UInt8 := dkwX2_told_4 ++ dktX2_told_5
def dkwX2_told_3 : List UInt8 := [21, 5, 182, 0, 223, 153, 0, 20, 132, 9, 1, 21, 10, 156, 0, 8, 21, 11, 167, 0, 5, 21, 10]
abbrev dktX2_told_3 : List UInt8 := dkwX2_told_3 ++ dktX2_told_4
def dkwX2_told_2 : List UInt8 := [21, 11, 16, 64, 162, 0, 50, 42, 180, 0, 13, 27, 21, 11, 79, 42, 16, 60, 28, 104, 21, 4, 96]
abbrev dktX2_told_2 : List UInt8 := dkwX2_told_2 ++ dktX2_told_3
def dkwX2_told_1 : List UInt8 := [156, 0, 6, 21, 7, 172, 42, 180, 0, 13, 27, 46, 54, 8, 3, 54, 9, 16, 247, 54, 10, 3, 54, 11]
abbrev dktX2_told_1 : List UInt8 := dkwX2_told_1 ++ dktX2_told_2
def dkwX2_told_0 : List UInt8 := [42, 27, 28, 29, 21, 4, 21, 5, 21, 6, 133, 9, 10, 184, 0, 90, 182, 0, 219, 54, 7, 21, 7]
abbrev dktX2_told_0 : List UInt8 := dkwX2_told_0 ++ dktX2_told_1
theorem dksX2_told_0 : cX2_told.data.toList.drop 0 = dktX2_told_0 := by decide +kernel
theorem dksX2_told_1 : cX2_told.data.toList.drop 23 = dktX2_told_1 := dk_seg dksX2_told_0 23 rfl rfl
theorem dksX2_told_2 : cX2_told.data.toList.drop 47 = dktX2_told_2 := dk_seg dksX2_told_1 24 rfl rfl
theorem dksX2_told_3 : cX2_told.data.toList.drop 70 = dktX2_told_3 := dk_seg dksX2_told_2 23 rfl rfl
theorem dksX2_told_4 : cX2_told.data.toList.drop 93 = dktX2_told_4 := dk_seg dksX2_told_3 23 rfl rfl
theorem dksX2_told_5 : cX2_told.data.toList.drop 116 = dktX2_told_5 := dk_seg dksX2_told_4 23 rfl rfl
theorem dX2_told_0 : decode cX2_told 0 = .ok (.aload_n 0, 1) := dk_42 (dk_at dksX2_told_0 0 rfl rfl)
theorem dX2_told_1 : decode cX2_told 1 = .ok (.iload_n 1, 1) := dk_27 (dk_at dksX2_told_0 1 rfl rfl)
theorem dX2_told_2 : decode cX2_told 2 = .ok (.iload_n 2, 1) := dk_28 (dk_at dksX2_told_0 2 rfl rfl)
theorem dX2_told_3 : decode cX2_told 3 = .ok (.iload_n 3, 1) := dk_29 (dk_at dksX2_told_0 3 rfl rfl)
theorem dX2_told_4 : decode cX2_told 4 = .ok (.iload 4, 2) := dk_21 4 (dk_at dksX2_told_0 4 rfl rfl)
theorem dX2_told_6 : decode cX2_told 6 = .ok (.iload 5, 2) := dk_21 5 (dk_at dksX2_told_0 6 rfl rfl)
theorem dX2_told_8 : decode cX2_told 8 = .ok (.iload 6, 2) := dk_21 6 (dk_at dksX2_told_0 8 rfl rfl)
theorem dX2_told_10 : decode cX2_told 10 = .ok (.i2l, 1) := dk_133 (dk_at dksX2_told_0 10 rfl rfl)
theorem dX2_told_11 : decode cX2_told 11 = .ok (.lconst 0, 1) := dk_9 (dk_at dksX2_told_0 11 rfl rfl)
theorem dX2_told_12 : decode cX2_told 12 = .ok (.lconst 1, 1) := dk_10 (dk_at dksX2_told_0 12 rfl rfl)
theorem dX2_told_13 : decode cX2_told 13 = .ok (.invokestatic 90, 3) := dk_184 0 90 (dk_at dksX2_told_0 13 rfl rfl)
theorem dX2_told_16 : decode cX2_told 16 = .ok (.invokevirtual 219, 3) := dk_182 0 219 (dk_at dksX2_told_0 16 rfl rfl)
theorem dX2_told_19 : decode cX2_told 19 = .ok (.istore 7, 2) := dk_54 7 (dk_at dksX2_told_0 19 rfl rfl)
theorem dX2_told_21 : decode cX2_told 21 = .ok (.iload 7, 2) := dk_21 7 (dk_at dksX2_told_0 21 rfl rfl)
theorem dX2_told_23 : decode cX2_told 23 = .ok (.ifCond .ge 6, 3) := dk_156 0 6 (dk_at dksX2_told_1 0 rfl rfl)
theorem dX2_told_26 : decode cX2_told 26 = .ok (.iload 7, 2) := dk_21 7 (dk_at dksX2_told_1 3 rfl rfl)
theorem dX2_told_28 : decode cX2_told 28 = .ok (.ireturn, 1) := dk_172 (dk_at dksX2_told_1 5 rfl rfl)
theorem dX2_told_29 : decode cX2_told 29 = .ok (.aload_n 0, 1) := dk_42 (dk_at dksX2_told_1 6 rfl rfl)
theorem dX2_told_30 : decode cX2_told 30 = .ok (.getfield 13, 3) := dk_180 0 13 (dk_at dksX2_told_1 7 rfl rfl)
theorem dX2_told_33 : decode cX2_told 33 = .ok (.iload_n 1, 1) := dk_27 (dk_at dksX2_told_1 10 rfl rfl)
theorem dX2_told_34 : decode cX2_told 34 = .ok (.iaload, 1) := dk_46 (dk_at dksX2_told_1 11 rfl rfl)
theorem dX2_told_35 : decode cX2_told 35 = .ok (.istore 8, 2) := dk_54 8 (dk_at dksX2_told_1 12 rfl rfl)
theorem dX2_told_37 : decode cX2_told 37 = .ok (.iconst 0, 1) := dk_3 (dk_at dksX2_told_1 14 rfl rfl)
theorem dX2_told_38 : decode cX2_told 38 = .ok (.istore 9, 2) := dk_54 9 (dk_at dksX2_told_1 15 rfl rfl)
theorem dX2_told_40 : decode cX2_told 40 = .ok (.bipush (-9), 2) := dk_16 247 (dk_at dksX2_told_1 17 rfl rfl)
theorem dX2_told_42 : decode cX2_told 42 = .ok (.istore 10, 2) := dk_54 10 (dk_at dksX2_told_1 19 rfl rfl)
theorem dX2_told_44 : decode cX2_told 44 = .ok (.iconst 0, 1) := dk_3 (dk_at dksX2_told_1 21 rfl rfl)
theorem dX2_told_45 : decode cX2_told 45 = .ok (.istore 11, 2) := dk_54 11 (dk_at dksX2_told_1 22 rfl rfl)
theorem dX2_told_47 : decode cX2_told 47 = .ok (.iload 11, 2) := dk_21 11 (dk_at dksX2_told_2 0 rfl rfl)
theorem dX2_told_49 : decode cX2_told 49 = .ok (.bipush 64, 2) := dk_16 64 (dk_at dksX2_told_2 2 rfl rfl)
theorem dX2_told_51 : decode cX2_told 51 = .ok (.if_icmp .ge 50, 3) := dk_162 0 50 (dk_at dksX2_told_2 4 rfl rfl)
theorem dX2_told_54 : decode cX2_told 54 = .ok (.aload_n 0, 1) := dk_42 (dk_at dksX2_told_2 7 rfl rfl)
theorem dX2_told_55 : decode cX2_told 55 = .ok (.getfield 13, 3) := dk_180 0 13 (dk_at dksX2_told_2 8 rfl rfl)
theorem dX2_told_58 : decode cX2_told 58 = .ok (.iload_n 1, 1) := dk_27 (dk_at dksX2_told_2 11 rfl rfl)
theorem dX2_told_59 : decode cX2_told 59 = .ok (.iload 11, 2) := dk_21 11 (dk_at dksX2_told_2 12 rfl rfl)
theorem dX2_told_61 : decode cX2_told 61 = .ok (.iastore, 1) := dk_79 (dk_at dksX2_told_2 14 rfl rfl)
theorem dX2_told_62 : decode cX2_told 62 = .ok (.aload_n 0, 1) := dk_42 (dk_at dksX2_told_2 15 rfl rfl)
theorem dX2_told_63 : decode cX2_told 63 = .ok (.bipush 60, 2) := dk_16 60 (dk_at dksX2_told_2 16 rfl rfl)
theorem dX2_told_65 : decode cX2_told 65 = .ok (.iload_n 2, 1) := dk_28 (dk_at dksX2_told_2 18 rfl rfl)
theorem dX2_told_66 : decode cX2_told 66 = .ok (.imul, 1) := dk_104 (dk_at dksX2_told_2 19 rfl rfl)
theorem dX2_told_67 : decode cX2_told 67 = .ok (.iload 4, 2) := dk_21 4 (dk_at dksX2_told_2 20 rfl rfl)
theorem dX2_told_69 : decode cX2_told 69 = .ok (.iadd, 1) := dk_96 (dk_at dksX2_told_2 22 rfl rfl)
theorem dX2_told_70 : decode cX2_told 70 = .ok (.iload 5, 2) := dk_21 5 (dk_at dksX2_told_3 0 rfl rfl)
theorem dX2_told_72 : decode cX2_told 72 = .ok (.invokevirtual 223, 3) := dk_182 0 223 (dk_at dksX2_told_3 2 rfl rfl)
theorem dX2_told_75 : decode cX2_told 75 = .ok (.ifCond .eq 20, 3) := dk_153 0 20 (dk_at dksX2_told_3 5 rfl rfl)
theorem dX2_told_78 : decode cX2_told 78 = .ok (.iinc 9 1, 3) := dk_132 9 1 (dk_at dksX2_told_3 8 rfl rfl)
theorem dX2_told_81 : decode cX2_told 81 = .ok (.iload 10, 2) := dk_21 10 (dk_at dksX2_told_3 11 rfl rfl)
theorem dX2_told_83 : decode cX2_told 83 = .ok (.ifCond .ge 8, 3) := dk_156 0 8 (dk_at dksX2_told_3 13 rfl rfl)
theorem dX2_told_86 : decode cX2_told 86 = .ok (.iload 11, 2) := dk_21 11 (dk_at dksX2_told_3 16 rfl rfl)
theorem dX2_told_88 : decode cX2_told 88 = .ok (.goto 5, 3) := dk_167 0 5 (dk_at dksX2_told_3 18 rfl rfl)
theorem dX2_told_91 : decode cX2_told 91 = .ok (.iload 10, 2) := dk_21 10 (dk_at dksX2_told_3 21 rfl rfl)
theorem dX2_told_93 : decode cX2_told 93 = .ok (.istore 10, 2) := dk_54 10 (dk_at dksX2_told_4 0 rfl rfl)
theorem dX2_told_95 : decode cX2_told 95 = .ok (.iinc 11 1, 3) := dk_132 11 1 (dk_at dksX2_told_4 2 rfl rfl)
theorem dX2_told_98 : decode cX2_told 98 = .ok (.goto (-51), 3) := dk_167 255 205 (dk_at dksX2_told_4 5 rfl rfl)
theorem dX2_told_101 : decode cX2_told 101 = .ok (.aload_n 0, 1) := dk_42 (dk_at dksX2_told_4 8 rfl rfl)
theorem dX2_told_102 : decode cX2_told 102 = .ok (.getfield 13, 3) := dk_180 0 13 (dk_at dksX2_told_4 9 rfl rfl)
theorem dX2_told_105 : decode cX2_told 105 = .ok (.iload_n 1, 1) := dk_27 (dk_at dksX2_told_4 12 rfl rfl)
theorem dX2_told_106 : decode cX2_told 106 = .ok (.iload 8, 2) := dk_21 8 (dk_at dksX2_told_4 13 rfl rfl)
theorem dX2_told_108 : decode cX2_told 108 = .ok (.iastore, 1) := dk_79 (dk_at dksX2_told_4 15 rfl rfl)
theorem dX2_told_109 : decode cX2_told 109 = .ok (.iload 6, 2) := dk_21 6 (dk_at dksX2_told_4 16 rfl rfl)
theorem dX2_told_111 : decode cX2_told 111 = .ok (.ifCond .ne 8, 3) := dk_154 0 8 (dk_at dksX2_told_4 18 rfl rfl)
theorem dX2_told_114 : decode cX2_told 114 = .ok (.iload 9, 2) := dk_21 9 (dk_at dksX2_told_4 21 rfl rfl)
theorem dX2_told_116 : decode cX2_told 116 = .ok (.goto 5, 3) := dk_167 0 5 (dk_at dksX2_told_5 0 rfl rfl)
theorem dX2_told_119 : decode cX2_told 119 = .ok (.iload 10, 2) := dk_21 10 (dk_at dksX2_told_5 3 rfl rfl)
theorem dX2_told_121 : decode cX2_told 121 = .ok (.ireturn, 1) := dk_172 (dk_at dksX2_told_5 5 rfl rfl)
abbrev cX2_seenBarred : ByteArray := prog_8_method_39_code
def yX2_seenBarred : MethodName := ⟨RX2, "seenBarred", "(IIIIIZ)I"⟩
def dkwX2_seenBarred_2 : List UInt8 := [154, 0, 10, 42, 16, 254, 182, 0, 124, 172, 42, 28, 29, 21, 4, 21, 5, 182, 0, 199, 172]
abbrev dktX2_seenBarred_2 : List UInt8 := dkwX2_seenBarred_2 ++ []
def dkwX2_seenBarred_1 : List UInt8 := [20, 0, 127, 184, 0, 90, 153, 0, 21, 21, 5, 133, 9, 20, 0, 191, 184, 0, 90, 153, 0, 8, 21, 6]
abbrev dktX2_seenBarred_1 : List UInt8 := dkwX2_seenBarred_1 ++ dktX2_seenBarred_2
def dkwX2_seenBarred_0 : List UInt8 := [42, 27, 182, 0, 139, 154, 0, 10, 28, 184, 0, 120, 153, 0, 9, 42, 2, 182, 0, 124, 172, 29, 133, 9]
abbrev dktX2_seenBarred_0 : List UInt8 := dkwX2_seenBarred_0 ++ dktX2_seenBarred_1
theorem dksX2_seenBarred_0 : cX2_seenBarred.data.toList.drop 0 = dktX2_seenBarred_0 := by decide +kernel
theorem dksX2_seenBarred_1 : cX2_seenBarred.data.toList.drop 24 = dktX2_seenBarred_1 := dk_seg dksX2_seenBarred_0 24 rfl rfl
theorem dksX2_seenBarred_2 : cX2_seenBarred.data.toList.drop 48 = dktX2_seenBarred_2 := dk_seg dksX2_seenBarred_1 24 rfl rfl
theorem dX2_seenBarred_0 : decode cX2_seenBarred 0 = .ok (.aload_n 0, 1) := dk_42 (dk_at dksX2_seenBarred_0 0 rfl rfl)
theorem dX2_seenBarred_1 : decode cX2_seenBarred 1 = .ok (.iload_n 1, 1) := dk_27 (dk_at dksX2_seenBarred_0 1 rfl rfl)
theorem dX2_seenBarred_2 : decode cX2_seenBarred 2 = .ok (.invokevirtual 139, 3) := dk_182 0 139 (dk_at dksX2_seenBarred_0 2 rfl rfl)
theorem dX2_seenBarred_5 : decode cX2_seenBarred 5 = .ok (.ifCond .ne 10, 3) := dk_154 0 10 (dk_at dksX2_seenBarred_0 5 rfl rfl)
theorem dX2_seenBarred_8 : decode cX2_seenBarred 8 = .ok (.iload_n 2, 1) := dk_28 (dk_at dksX2_seenBarred_0 8 rfl rfl)
theorem dX2_seenBarred_9 : decode cX2_seenBarred 9 = .ok (.invokestatic 120, 3) := dk_184 0 120 (dk_at dksX2_seenBarred_0 9 rfl rfl)
theorem dX2_seenBarred_12 : decode cX2_seenBarred 12 = .ok (.ifCond .eq 9, 3) := dk_153 0 9 (dk_at dksX2_seenBarred_0 12 rfl rfl)
theorem dX2_seenBarred_15 : decode cX2_seenBarred 15 = .ok (.aload_n 0, 1) := dk_42 (dk_at dksX2_seenBarred_0 15 rfl rfl)
theorem dX2_seenBarred_16 : decode cX2_seenBarred 16 = .ok (.iconst (-1), 1) := dk_2 (dk_at dksX2_seenBarred_0 16 rfl rfl)
theorem dX2_seenBarred_17 : decode cX2_seenBarred 17 = .ok (.invokevirtual 124, 3) := dk_182 0 124 (dk_at dksX2_seenBarred_0 17 rfl rfl)
theorem dX2_seenBarred_20 : decode cX2_seenBarred 20 = .ok (.ireturn, 1) := dk_172 (dk_at dksX2_seenBarred_0 20 rfl rfl)
theorem dX2_seenBarred_21 : decode cX2_seenBarred 21 = .ok (.iload_n 3, 1) := dk_29 (dk_at dksX2_seenBarred_0 21 rfl rfl)
theorem dX2_seenBarred_22 : decode cX2_seenBarred 22 = .ok (.i2l, 1) := dk_133 (dk_at dksX2_seenBarred_0 22 rfl rfl)
theorem dX2_seenBarred_23 : decode cX2_seenBarred 23 = .ok (.lconst 0, 1) := dk_9 (dk_at dksX2_seenBarred_0 23 rfl rfl)
theorem dX2_seenBarred_24 : decode cX2_seenBarred 24 = .ok (.ldc2_w 127, 3) := dk_20 0 127 (dk_at dksX2_seenBarred_1 0 rfl rfl)
theorem dX2_seenBarred_27 : decode cX2_seenBarred 27 = .ok (.invokestatic 90, 3) := dk_184 0 90 (dk_at dksX2_seenBarred_1 3 rfl rfl)
theorem dX2_seenBarred_30 : decode cX2_seenBarred 30 = .ok (.ifCond .eq 21, 3) := dk_153 0 21 (dk_at dksX2_seenBarred_1 6 rfl rfl)
theorem dX2_seenBarred_33 : decode cX2_seenBarred 33 = .ok (.iload 5, 2) := dk_21 5 (dk_at dksX2_seenBarred_1 9 rfl rfl)
theorem dX2_seenBarred_35 : decode cX2_seenBarred 35 = .ok (.i2l, 1) := dk_133 (dk_at dksX2_seenBarred_1 11 rfl rfl)
theorem dX2_seenBarred_36 : decode cX2_seenBarred 36 = .ok (.lconst 0, 1) := dk_9 (dk_at dksX2_seenBarred_1 12 rfl rfl)
theorem dX2_seenBarred_37 : decode cX2_seenBarred 37 = .ok (.ldc2_w 191, 3) := dk_20 0 191 (dk_at dksX2_seenBarred_1 13 rfl rfl)
theorem dX2_seenBarred_40 : decode cX2_seenBarred 40 = .ok (.invokestatic 90, 3) := dk_184 0 90 (dk_at dksX2_seenBarred_1 16 rfl rfl)
theorem dX2_seenBarred_43 : decode cX2_seenBarred 43 = .ok (.ifCond .eq 8, 3) := dk_153 0 8 (dk_at dksX2_seenBarred_1 19 rfl rfl)
theorem dX2_seenBarred_46 : decode cX2_seenBarred 46 = .ok (.iload 6, 2) := dk_21 6 (dk_at dksX2_seenBarred_1 22 rfl rfl)
theorem dX2_seenBarred_48 : decode cX2_seenBarred 48 = .ok (.ifCond .ne 10, 3) := dk_154 0 10 (dk_at dksX2_seenBarred_2 0 rfl rfl)
theorem dX2_seenBarred_51 : decode cX2_seenBarred 51 = .ok (.aload_n 0, 1) := dk_42 (dk_at dksX2_seenBarred_2 3 rfl rfl)
theorem dX2_seenBarred_52 : decode cX2_seenBarred 52 = .ok (.bipush (-2), 2) := dk_16 254 (dk_at dksX2_seenBarred_2 4 rfl rfl)
theorem dX2_seenBarred_54 : decode cX2_seenBarred 54 = .ok (.invokevirtual 124, 3) := dk_182 0 124 (dk_at dksX2_seenBarred_2 6 rfl rfl)
theorem dX2_seenBarred_57 : decode cX2_seenBarred 57 = .ok (.ireturn, 1) := dk_172 (dk_at dksX2_seenBarred_2 9 rfl rfl)
theorem dX2_seenBarred_58 : decode cX2_seenBarred 58 = .ok (.aload_n 0, 1) := dk_42 (dk_at dksX2_seenBarred_2 10 rfl rfl)
theorem dX2_seenBarred_59 : decode cX2_seenBarred 59 = .ok (.iload_n 2, 1) := dk_28 (dk_at dksX2_seenBarred_2 11 rfl rfl)
theorem dX2_seenBarred_60 : decode cX2_seenBarred 60 = .ok (.iload_n 3, 1) := dk_29 (dk_at dksX2_seenBarred_2 12 rfl rfl)
theorem dX2_seenBarred_61 : decode cX2_seenBarred 61 = .ok (.iload 4, 2) := dk_21 4 (dk_at dksX2_seenBarred_2 13 rfl rfl)
theorem dX2_seenBarred_63 : decode cX2_seenBarred 63 = .ok (.iload 5, 2) := dk_21 5 (dk_at dksX2_seenBarred_2 15 rfl rfl)
theorem dX2_seenBarred_65 : decode cX2_seenBarred 65 = .ok (.invokevirtual 199, 3) := dk_182 0 199 (dk_at dksX2_seenBarred_2 17 rfl rfl)
theorem dX2_seenBarred_68 : decode cX2_seenBarred 68 = .ok (.ireturn, 1) := dk_172 (dk_at dksX2_seenBarred_2 20 rfl rfl)
abbrev cX2_areSo : ByteArray := prog_8_method_38_code
def yX2_areSo : MethodName := ⟨RX2, "areSo", "(II)Z"⟩
def dkwX2_areSo_3 : List UInt8 := [62, 132, 4, 1, 167, 255, 202, 29, 172]
abbrev dktX2_areSo_3 : List UInt8 := dkwX2_areSo_3 ++ []
def dkwX2_areSo_2 : List UInt8 := [180, 0, 58, 21, 4, 46, 184, 0, 149, 42, 180, 0, 61, 21, 4, 51, 160, 0, 7, 4, 167, 0, 4, 3]
abbrev dktX2_areSo_2 : List UInt8 := dkwX2_areSo_2 ++ dktX2_areSo_3
def dkwX2_areSo_1 : List UInt8 := [42, 180, 0, 136, 162, 0, 51, 29, 153, 0, 39, 42, 180, 0, 43, 42, 180, 0, 55, 21, 4, 46, 46, 42]
abbrev dktX2_areSo_1 : List UInt8 := dkwX2_areSo_1 ++ dktX2_areSo_2
def dkwX2_areSo_0 : List UInt8 := [42, 27, 28, 182, 0, 202, 42, 180, 0, 159, 156, 0, 7, 4, 167, 0, 4, 3, 62, 3, 54, 4, 21, 4]
abbrev dktX2_areSo_0 : List UInt8 := dkwX2_areSo_0 ++ dktX2_areSo_1
theorem dksX2_areSo_0 : cX2_areSo.data.toList.drop 0 = dktX2_areSo_0 := by decide +kernel
theorem dksX2_areSo_1 : cX2_areSo.data.toList.drop 24 = dktX2_areSo_1 := dk_seg dksX2_areSo_0 24 rfl rfl
theorem dksX2_areSo_2 : cX2_areSo.data.toList.drop 48 = dktX2_areSo_2 := dk_seg dksX2_areSo_1 24 rfl rfl
theorem dksX2_areSo_3 : cX2_areSo.data.toList.drop 72 = dktX2_areSo_3 := dk_seg dksX2_areSo_2 24 rfl rfl
theorem dX2_areSo_0 : decode cX2_areSo 0 = .ok (.aload_n 0, 1) := dk_42 (dk_at dksX2_areSo_0 0 rfl rfl)
theorem dX2_areSo_1 : decode cX2_areSo 1 = .ok (.iload_n 1, 1) := dk_27 (dk_at dksX2_areSo_0 1 rfl rfl)
theorem dX2_areSo_2 : decode cX2_areSo 2 = .ok (.iload_n 2, 1) := dk_28 (dk_at dksX2_areSo_0 2 rfl rfl)
theorem dX2_areSo_3 : decode cX2_areSo 3 = .ok (.invokevirtual 202, 3) := dk_182 0 202 (dk_at dksX2_areSo_0 3 rfl rfl)
theorem dX2_areSo_6 : decode cX2_areSo 6 = .ok (.aload_n 0, 1) := dk_42 (dk_at dksX2_areSo_0 6 rfl rfl)
theorem dX2_areSo_7 : decode cX2_areSo 7 = .ok (.getfield 159, 3) := dk_180 0 159 (dk_at dksX2_areSo_0 7 rfl rfl)
theorem dX2_areSo_10 : decode cX2_areSo 10 = .ok (.ifCond .ge 7, 3) := dk_156 0 7 (dk_at dksX2_areSo_0 10 rfl rfl)
theorem dX2_areSo_13 : decode cX2_areSo 13 = .ok (.iconst 1, 1) := dk_4 (dk_at dksX2_areSo_0 13 rfl rfl)
theorem dX2_areSo_14 : decode cX2_areSo 14 = .ok (.goto 4, 3) := dk_167 0 4 (dk_at dksX2_areSo_0 14 rfl rfl)
theorem dX2_areSo_17 : decode cX2_areSo 17 = .ok (.iconst 0, 1) := dk_3 (dk_at dksX2_areSo_0 17 rfl rfl)
theorem dX2_areSo_18 : decode cX2_areSo 18 = .ok (.istore_n 3, 1) := dk_62 (dk_at dksX2_areSo_0 18 rfl rfl)
theorem dX2_areSo_19 : decode cX2_areSo 19 = .ok (.iconst 0, 1) := dk_3 (dk_at dksX2_areSo_0 19 rfl rfl)
theorem dX2_areSo_20 : decode cX2_areSo 20 = .ok (.istore 4, 2) := dk_54 4 (dk_at dksX2_areSo_0 20 rfl rfl)
theorem dX2_areSo_22 : decode cX2_areSo 22 = .ok (.iload 4, 2) := dk_21 4 (dk_at dksX2_areSo_0 22 rfl rfl)
theorem dX2_areSo_24 : decode cX2_areSo 24 = .ok (.aload_n 0, 1) := dk_42 (dk_at dksX2_areSo_1 0 rfl rfl)
theorem dX2_areSo_25 : decode cX2_areSo 25 = .ok (.getfield 136, 3) := dk_180 0 136 (dk_at dksX2_areSo_1 1 rfl rfl)
theorem dX2_areSo_28 : decode cX2_areSo 28 = .ok (.if_icmp .ge 51, 3) := dk_162 0 51 (dk_at dksX2_areSo_1 4 rfl rfl)
theorem dX2_areSo_31 : decode cX2_areSo 31 = .ok (.iload_n 3, 1) := dk_29 (dk_at dksX2_areSo_1 7 rfl rfl)
theorem dX2_areSo_32 : decode cX2_areSo 32 = .ok (.ifCond .eq 39, 3) := dk_153 0 39 (dk_at dksX2_areSo_1 8 rfl rfl)
theorem dX2_areSo_35 : decode cX2_areSo 35 = .ok (.aload_n 0, 1) := dk_42 (dk_at dksX2_areSo_1 11 rfl rfl)
theorem dX2_areSo_36 : decode cX2_areSo 36 = .ok (.getfield 43, 3) := dk_180 0 43 (dk_at dksX2_areSo_1 12 rfl rfl)
theorem dX2_areSo_39 : decode cX2_areSo 39 = .ok (.aload_n 0, 1) := dk_42 (dk_at dksX2_areSo_1 15 rfl rfl)
theorem dX2_areSo_40 : decode cX2_areSo 40 = .ok (.getfield 55, 3) := dk_180 0 55 (dk_at dksX2_areSo_1 16 rfl rfl)
theorem dX2_areSo_43 : decode cX2_areSo 43 = .ok (.iload 4, 2) := dk_21 4 (dk_at dksX2_areSo_1 19 rfl rfl)
theorem dX2_areSo_45 : decode cX2_areSo 45 = .ok (.iaload, 1) := dk_46 (dk_at dksX2_areSo_1 21 rfl rfl)
theorem dX2_areSo_46 : decode cX2_areSo 46 = .ok (.iaload, 1) := dk_46 (dk_at dksX2_areSo_1 22 rfl rfl)
theorem dX2_areSo_47 : decode cX2_areSo 47 = .ok (.aload_n 0, 1) := dk_42 (dk_at dksX2_areSo_1 23 rfl rfl)
theorem dX2_areSo_48 : decode cX2_areSo 48 = .ok (.getfield 58, 3) := dk_180 0 58 (dk_at dksX2_areSo_2 0 rfl rfl)
theorem dX2_areSo_51 : decode cX2_areSo 51 = .ok (.iload 4, 2) := dk_21 4 (dk_at dksX2_areSo_2 3 rfl rfl)
theorem dX2_areSo_53 : decode cX2_areSo 53 = .ok (.iaload, 1) := dk_46 (dk_at dksX2_areSo_2 5 rfl rfl)
theorem dX2_areSo_54 : decode cX2_areSo 54 = .ok (.invokestatic 149, 3) := dk_184 0 149 (dk_at dksX2_areSo_2 6 rfl rfl)
theorem dX2_areSo_57 : decode cX2_areSo 57 = .ok (.aload_n 0, 1) := dk_42 (dk_at dksX2_areSo_2 9 rfl rfl)
theorem dX2_areSo_58 : decode cX2_areSo 58 = .ok (.getfield 61, 3) := dk_180 0 61 (dk_at dksX2_areSo_2 10 rfl rfl)
theorem dX2_areSo_61 : decode cX2_areSo 61 = .ok (.iload 4, 2) := dk_21 4 (dk_at dksX2_areSo_2 13 rfl rfl)
theorem dX2_areSo_63 : decode cX2_areSo 63 = .ok (.baload, 1) := dk_51 (dk_at dksX2_areSo_2 15 rfl rfl)
theorem dX2_areSo_64 : decode cX2_areSo 64 = .ok (.if_icmp .ne 7, 3) := dk_160 0 7 (dk_at dksX2_areSo_2 16 rfl rfl)
theorem dX2_areSo_67 : decode cX2_areSo 67 = .ok (.iconst 1, 1) := dk_4 (dk_at dksX2_areSo_2 19 rfl rfl)
theorem dX2_areSo_68 : decode cX2_areSo 68 = .ok (.goto 4, 3) := dk_167 0 4 (dk_at dksX2_areSo_2 20 rfl rfl)
theorem dX2_areSo_71 : decode cX2_areSo 71 = .ok (.iconst 0, 1) := dk_3 (dk_at dksX2_areSo_2 23 rfl rfl)
theorem dX2_areSo_72 : decode cX2_areSo 72 = .ok (.istore_n 3, 1) := dk_62 (dk_at dksX2_areSo_3 0 rfl rfl)
theorem dX2_areSo_73 : decode cX2_areSo 73 = .ok (.iinc 4 1, 3) := dk_132 4 1 (dk_at dksX2_areSo_3 1 rfl rfl)
theorem dX2_areSo_76 : decode cX2_areSo 76 = .ok (.goto (-54), 3) := dk_167 255 202 (dk_at dksX2_areSo_3 4 rfl rfl)
theorem dX2_areSo_79 : decode cX2_areSo 79 = .ok (.iload_n 3, 1) := dk_29 (dk_at dksX2_areSo_3 7 rfl rfl)
theorem dX2_areSo_80 : decode cX2_areSo 80 = .ok (.ireturn, 1) := dk_172 (dk_at dksX2_areSo_3 8 rfl rfl)
abbrev cX2_kinds : ByteArray := prog_8_method_41_code
def yX2_kinds : MethodName := ⟨RX2, "kinds", "(IIIII)I"⟩
def dkwX2_kinds_4 : List UInt8 := [172]
abbrev dktX2_kinds_4 : List UInt8 := dkwX2_kinds_4 ++ []
def dkwX2_kinds_3 : List UInt8 := [120, 167, 0, 4, 3, 128, 54, 8, 132, 9, 1, 167, 255, 210, 42, 180, 0, 7, 27, 21, 7, 79, 21, 8]
abbrev dktX2_kinds_3 : List UInt8 := dkwX2_kinds_3 ++ dktX2_kinds_4
def dkwX2_kinds_2 : List UInt8 := [21, 9, 79, 21, 8, 42, 16, 60, 28, 104, 21, 4, 96, 21, 5, 182, 0, 223, 153, 0, 10, 4, 21, 9]
abbrev dktX2_kinds_2 : List UInt8 := dkwX2_kinds_2 ++ dktX2_kinds_3
def dkwX2_kinds_1 : List UInt8 := [180, 0, 7, 27, 46, 54, 7, 3, 54, 8, 3, 54, 9, 21, 9, 6, 162, 0, 46, 42, 180, 0, 7, 27]
abbrev dktX2_kinds_1 : List UInt8 := dkwX2_kinds_1 ++ dktX2_kinds_2
def dkwX2_kinds_0 : List UInt8 := [42, 27, 28, 29, 21, 4, 21, 5, 4, 182, 0, 219, 54, 6, 21, 6, 156, 0, 6, 21, 6, 172, 42]
abbrev dktX2_kinds_0 : List UInt8 := dkwX2_kinds_0 ++ dktX2_kinds_1
theorem dksX2_kinds_0 : cX2_kinds.data.toList.drop 0 = dktX2_kinds_0 := by decide +kernel
theorem dksX2_kinds_1 : cX2_kinds.data.toList.drop 23 = dktX2_kinds_1 := dk_seg dksX2_kinds_0 23 rfl rfl
theorem dksX2_kinds_2 : cX2_kinds.data.toList.drop 47 = dktX2_kinds_2 := dk_seg dksX2_kinds_1 24 rfl rfl
theorem dksX2_kinds_3 : cX2_kinds.data.toList.drop 71 = dktX2_kinds_3 := dk_seg dksX2_kinds_2 24 rfl rfl
theorem dksX2_kinds_4 : cX2_kinds.data.toList.drop 95 = dktX2_kinds_4 := dk_seg dksX2_kinds_3 24 rfl rfl
theorem dX2_kinds_0 : decode cX2_kinds 0 = .ok (.aload_n 0, 1) := dk_42 (dk_at dksX2_kinds_0 0 rfl rfl)
theorem dX2_kinds_1 : decode cX2_kinds 1 = .ok (.iload_n 1, 1) := dk_27 (dk_at dksX2_kinds_0 1 rfl rfl)
theorem dX2_kinds_2 : decode cX2_kinds 2 = .ok (.iload_n 2, 1) := dk_28 (dk_at dksX2_kinds_0 2 rfl rfl)
theorem dX2_kinds_3 : decode cX2_kinds 3 = .ok (.iload_n 3, 1) := dk_29 (dk_at dksX2_kinds_0 3 rfl rfl)
theorem dX2_kinds_4 : decode cX2_kinds 4 = .ok (.iload 4, 2) := dk_21 4 (dk_at dksX2_kinds_0 4 rfl rfl)
theorem dX2_kinds_6 : decode cX2_kinds 6 = .ok (.iload 5, 2) := dk_21 5 (dk_at dksX2_kinds_0 6 rfl rfl)
theorem dX2_kinds_8 : decode cX2_kinds 8 = .ok (.iconst 1, 1) := dk_4 (dk_at dksX2_kinds_0 8 rfl rfl)
theorem dX2_kinds_9 : decode cX2_kinds 9 = .ok (.invokevirtual 219, 3) := dk_182 0 219 (dk_at dksX2_kinds_0 9 rfl rfl)
theorem dX2_kinds_12 : decode cX2_kinds 12 = .ok (.istore 6, 2) := dk_54 6 (dk_at dksX2_kinds_0 12 rfl rfl)
theorem dX2_kinds_14 : decode cX2_kinds 14 = .ok (.iload 6, 2) := dk_21 6 (dk_at dksX2_kinds_0 14 rfl rfl)
theorem dX2_kinds_16 : decode cX2_kinds 16 = .ok (.ifCond .ge 6, 3) := dk_156 0 6 (dk_at dksX2_kinds_0 16 rfl rfl)
theorem dX2_kinds_19 : decode cX2_kinds 19 = .ok (.iload 6, 2) := dk_21 6 (dk_at dksX2_kinds_0 19 rfl rfl)
theorem dX2_kinds_21 : decode cX2_kinds 21 = .ok (.ireturn, 1) := dk_172 (dk_at dksX2_kinds_0 21 rfl rfl)
theorem dX2_kinds_22 : decode cX2_kinds 22 = .ok (.aload_n 0, 1) := dk_42 (dk_at dksX2_kinds_0 22 rfl rfl)
theorem dX2_kinds_23 : decode cX2_kinds 23 = .ok (.getfield 7, 3) := dk_180 0 7 (dk_at dksX2_kinds_1 0 rfl rfl)
theorem dX2_kinds_26 : decode cX2_kinds 26 = .ok (.iload_n 1, 1) := dk_27 (dk_at dksX2_kinds_1 3 rfl rfl)
theorem dX2_kinds_27 : decode cX2_kinds 27 = .ok (.iaload, 1) := dk_46 (dk_at dksX2_kinds_1 4 rfl rfl)
theorem dX2_kinds_28 : decode cX2_kinds 28 = .ok (.istore 7, 2) := dk_54 7 (dk_at dksX2_kinds_1 5 rfl rfl)
theorem dX2_kinds_30 : decode cX2_kinds 30 = .ok (.iconst 0, 1) := dk_3 (dk_at dksX2_kinds_1 7 rfl rfl)
theorem dX2_kinds_31 : decode cX2_kinds 31 = .ok (.istore 8, 2) := dk_54 8 (dk_at dksX2_kinds_1 8 rfl rfl)
theorem dX2_kinds_33 : decode cX2_kinds 33 = .ok (.iconst 0, 1) := dk_3 (dk_at dksX2_kinds_1 10 rfl rfl)
theorem dX2_kinds_34 : decode cX2_kinds 34 = .ok (.istore 9, 2) := dk_54 9 (dk_at dksX2_kinds_1 11 rfl rfl)
theorem dX2_kinds_36 : decode cX2_kinds 36 = .ok (.iload 9, 2) := dk_21 9 (dk_at dksX2_kinds_1 13 rfl rfl)
theorem dX2_kinds_38 : decode cX2_kinds 38 = .ok (.iconst 3, 1) := dk_6 (dk_at dksX2_kinds_1 15 rfl rfl)
theorem dX2_kinds_39 : decode cX2_kinds 39 = .ok (.if_icmp .ge 46, 3) := dk_162 0 46 (dk_at dksX2_kinds_1 16 rfl rfl)
theorem dX2_kinds_42 : decode cX2_kinds 42 = .ok (.aload_n 0, 1) := dk_42 (dk_at dksX2_kinds_1 19 rfl rfl)
theorem dX2_kinds_43 : decode cX2_kinds 43 = .ok (.getfield 7, 3) := dk_180 0 7 (dk_at dksX2_kinds_1 20 rfl rfl)
theorem dX2_kinds_46 : decode cX2_kinds 46 = .ok (.iload_n 1, 1) := dk_27 (dk_at dksX2_kinds_1 23 rfl rfl)
theorem dX2_kinds_47 : decode cX2_kinds 47 = .ok (.iload 9, 2) := dk_21 9 (dk_at dksX2_kinds_2 0 rfl rfl)
theorem dX2_kinds_49 : decode cX2_kinds 49 = .ok (.iastore, 1) := dk_79 (dk_at dksX2_kinds_2 2 rfl rfl)
theorem dX2_kinds_50 : decode cX2_kinds 50 = .ok (.iload 8, 2) := dk_21 8 (dk_at dksX2_kinds_2 3 rfl rfl)
theorem dX2_kinds_52 : decode cX2_kinds 52 = .ok (.aload_n 0, 1) := dk_42 (dk_at dksX2_kinds_2 5 rfl rfl)
theorem dX2_kinds_53 : decode cX2_kinds 53 = .ok (.bipush 60, 2) := dk_16 60 (dk_at dksX2_kinds_2 6 rfl rfl)
theorem dX2_kinds_55 : decode cX2_kinds 55 = .ok (.iload_n 2, 1) := dk_28 (dk_at dksX2_kinds_2 8 rfl rfl)
theorem dX2_kinds_56 : decode cX2_kinds 56 = .ok (.imul, 1) := dk_104 (dk_at dksX2_kinds_2 9 rfl rfl)
theorem dX2_kinds_57 : decode cX2_kinds 57 = .ok (.iload 4, 2) := dk_21 4 (dk_at dksX2_kinds_2 10 rfl rfl)
theorem dX2_kinds_59 : decode cX2_kinds 59 = .ok (.iadd, 1) := dk_96 (dk_at dksX2_kinds_2 12 rfl rfl)
theorem dX2_kinds_60 : decode cX2_kinds 60 = .ok (.iload 5, 2) := dk_21 5 (dk_at dksX2_kinds_2 13 rfl rfl)
theorem dX2_kinds_62 : decode cX2_kinds 62 = .ok (.invokevirtual 223, 3) := dk_182 0 223 (dk_at dksX2_kinds_2 15 rfl rfl)
theorem dX2_kinds_65 : decode cX2_kinds 65 = .ok (.ifCond .eq 10, 3) := dk_153 0 10 (dk_at dksX2_kinds_2 18 rfl rfl)
theorem dX2_kinds_68 : decode cX2_kinds 68 = .ok (.iconst 1, 1) := dk_4 (dk_at dksX2_kinds_2 21 rfl rfl)
theorem dX2_kinds_69 : decode cX2_kinds 69 = .ok (.iload 9, 2) := dk_21 9 (dk_at dksX2_kinds_2 22 rfl rfl)
theorem dX2_kinds_71 : decode cX2_kinds 71 = .ok (.ishl, 1) := dk_120 (dk_at dksX2_kinds_3 0 rfl rfl)
theorem dX2_kinds_72 : decode cX2_kinds 72 = .ok (.goto 4, 3) := dk_167 0 4 (dk_at dksX2_kinds_3 1 rfl rfl)
theorem dX2_kinds_75 : decode cX2_kinds 75 = .ok (.iconst 0, 1) := dk_3 (dk_at dksX2_kinds_3 4 rfl rfl)
theorem dX2_kinds_76 : decode cX2_kinds 76 = .ok (.ior, 1) := dk_128 (dk_at dksX2_kinds_3 5 rfl rfl)
theorem dX2_kinds_77 : decode cX2_kinds 77 = .ok (.istore 8, 2) := dk_54 8 (dk_at dksX2_kinds_3 6 rfl rfl)
theorem dX2_kinds_79 : decode cX2_kinds 79 = .ok (.iinc 9 1, 3) := dk_132 9 1 (dk_at dksX2_kinds_3 8 rfl rfl)
theorem dX2_kinds_82 : decode cX2_kinds 82 = .ok (.goto (-46), 3) := dk_167 255 210 (dk_at dksX2_kinds_3 11 rfl rfl)
theorem dX2_kinds_85 : decode cX2_kinds 85 = .ok (.aload_n 0, 1) := dk_42 (dk_at dksX2_kinds_3 14 rfl rfl)
theorem dX2_kinds_86 : decode cX2_kinds 86 = .ok (.getfield 7, 3) := dk_180 0 7 (dk_at dksX2_kinds_3 15 rfl rfl)
theorem dX2_kinds_89 : decode cX2_kinds 89 = .ok (.iload_n 1, 1) := dk_27 (dk_at dksX2_kinds_3 18 rfl rfl)
theorem dX2_kinds_90 : decode cX2_kinds 90 = .ok (.iload 7, 2) := dk_21 7 (dk_at dksX2_kinds_3 19 rfl rfl)
theorem dX2_kinds_92 : decode cX2_kinds 92 = .ok (.iastore, 1) := dk_79 (dk_at dksX2_kinds_3 21 rfl rfl)
theorem dX2_kinds_93 : decode cX2_kinds 93 = .ok (.iload 8, 2) := dk_21 8 (dk_at dksX2_kinds_3 22 rfl rfl)
theorem dX2_kinds_95 : decode cX2_kinds 95 = .ok (.ireturn, 1) := dk_172 (dk_at dksX2_kinds_4 0 rfl rfl)
abbrev cX2_wears : ByteArray := prog_8_method_42_code
def yX2_wears : MethodName := ⟨RX2, "wears", "(IIIII)I"⟩
def dkwX2_wears_4 : List UInt8 := [21, 8, 172]
abbrev dktX2_wears_4 : List UInt8 := dkwX2_wears_4 ++ []
def dkwX2_wears_3 : List UInt8 := [21, 9, 120, 167, 0, 4, 3, 128, 54, 8, 132, 9, 1, 167, 255, 209, 42, 180, 0, 19, 27, 21, 7, 79]
abbrev dktX2_wears_3 : List UInt8 := dkwX2_wears_3 ++ dktX2_wears_4
def dkwX2_wears_2 : List UInt8 := [27, 21, 9, 79, 21, 8, 42, 16, 60, 28, 104, 21, 4, 96, 21, 5, 182, 0, 223, 153, 0, 10, 4]
abbrev dktX2_wears_2 : List UInt8 := dkwX2_wears_2 ++ dktX2_wears_3
def dkwX2_wears_1 : List UInt8 := [180, 0, 19, 27, 46, 54, 7, 3, 54, 8, 4, 54, 9, 21, 9, 16, 10, 162, 0, 46, 42, 180, 0, 19]
abbrev dktX2_wears_1 : List UInt8 := dkwX2_wears_1 ++ dktX2_wears_2
def dkwX2_wears_0 : List UInt8 := [42, 27, 28, 29, 21, 4, 21, 5, 4, 182, 0, 219, 54, 6, 21, 6, 156, 0, 6, 21, 6, 172, 42]
abbrev dktX2_wears_0 : List UInt8 := dkwX2_wears_0 ++ dktX2_wears_1
theorem dksX2_wears_0 : cX2_wears.data.toList.drop 0 = dktX2_wears_0 := by decide +kernel
theorem dksX2_wears_1 : cX2_wears.data.toList.drop 23 = dktX2_wears_1 := dk_seg dksX2_wears_0 23 rfl rfl
theorem dksX2_wears_2 : cX2_wears.data.toList.drop 47 = dktX2_wears_2 := dk_seg dksX2_wears_1 24 rfl rfl
theorem dksX2_wears_3 : cX2_wears.data.toList.drop 70 = dktX2_wears_3 := dk_seg dksX2_wears_2 23 rfl rfl
theorem dksX2_wears_4 : cX2_wears.data.toList.drop 94 = dktX2_wears_4 := dk_seg dksX2_wears_3 24 rfl rfl
theorem dX2_wears_0 : decode cX2_wears 0 = .ok (.aload_n 0, 1) := dk_42 (dk_at dksX2_wears_0 0 rfl rfl)
theorem dX2_wears_1 : decode cX2_wears 1 = .ok (.iload_n 1, 1) := dk_27 (dk_at dksX2_wears_0 1 rfl rfl)
theorem dX2_wears_2 : decode cX2_wears 2 = .ok (.iload_n 2, 1) := dk_28 (dk_at dksX2_wears_0 2 rfl rfl)
theorem dX2_wears_3 : decode cX2_wears 3 = .ok (.iload_n 3, 1) := dk_29 (dk_at dksX2_wears_0 3 rfl rfl)
theorem dX2_wears_4 : decode cX2_wears 4 = .ok (.iload 4, 2) := dk_21 4 (dk_at dksX2_wears_0 4 rfl rfl)
theorem dX2_wears_6 : decode cX2_wears 6 = .ok (.iload 5, 2) := dk_21 5 (dk_at dksX2_wears_0 6 rfl rfl)
theorem dX2_wears_8 : decode cX2_wears 8 = .ok (.iconst 1, 1) := dk_4 (dk_at dksX2_wears_0 8 rfl rfl)
theorem dX2_wears_9 : decode cX2_wears 9 = .ok (.invokevirtual 219, 3) := dk_182 0 219 (dk_at dksX2_wears_0 9 rfl rfl)
theorem dX2_wears_12 : decode cX2_wears 12 = .ok (.istore 6, 2) := dk_54 6 (dk_at dksX2_wears_0 12 rfl rfl)
theorem dX2_wears_14 : decode cX2_wears 14 = .ok (.iload 6, 2) := dk_21 6 (dk_at dksX2_wears_0 14 rfl rfl)
theorem dX2_wears_16 : decode cX2_wears 16 = .ok (.ifCond .ge 6, 3) := dk_156 0 6 (dk_at dksX2_wears_0 16 rfl rfl)
theorem dX2_wears_19 : decode cX2_wears 19 = .ok (.iload 6, 2) := dk_21 6 (dk_at dksX2_wears_0 19 rfl rfl)
theorem dX2_wears_21 : decode cX2_wears 21 = .ok (.ireturn, 1) := dk_172 (dk_at dksX2_wears_0 21 rfl rfl)
theorem dX2_wears_22 : decode cX2_wears 22 = .ok (.aload_n 0, 1) := dk_42 (dk_at dksX2_wears_0 22 rfl rfl)
theorem dX2_wears_23 : decode cX2_wears 23 = .ok (.getfield 19, 3) := dk_180 0 19 (dk_at dksX2_wears_1 0 rfl rfl)
theorem dX2_wears_26 : decode cX2_wears 26 = .ok (.iload_n 1, 1) := dk_27 (dk_at dksX2_wears_1 3 rfl rfl)
theorem dX2_wears_27 : decode cX2_wears 27 = .ok (.iaload, 1) := dk_46 (dk_at dksX2_wears_1 4 rfl rfl)
theorem dX2_wears_28 : decode cX2_wears 28 = .ok (.istore 7, 2) := dk_54 7 (dk_at dksX2_wears_1 5 rfl rfl)
theorem dX2_wears_30 : decode cX2_wears 30 = .ok (.iconst 0, 1) := dk_3 (dk_at dksX2_wears_1 7 rfl rfl)
theorem dX2_wears_31 : decode cX2_wears 31 = .ok (.istore 8, 2) := dk_54 8 (dk_at dksX2_wears_1 8 rfl rfl)
theorem dX2_wears_33 : decode cX2_wears 33 = .ok (.iconst 1, 1) := dk_4 (dk_at dksX2_wears_1 10 rfl rfl)
theorem dX2_wears_34 : decode cX2_wears 34 = .ok (.istore 9, 2) := dk_54 9 (dk_at dksX2_wears_1 11 rfl rfl)
theorem dX2_wears_36 : decode cX2_wears 36 = .ok (.iload 9, 2) := dk_21 9 (dk_at dksX2_wears_1 13 rfl rfl)
theorem dX2_wears_38 : decode cX2_wears 38 = .ok (.bipush 10, 2) := dk_16 10 (dk_at dksX2_wears_1 15 rfl rfl)
theorem dX2_wears_40 : decode cX2_wears 40 = .ok (.if_icmp .ge 46, 3) := dk_162 0 46 (dk_at dksX2_wears_1 17 rfl rfl)
theorem dX2_wears_43 : decode cX2_wears 43 = .ok (.aload_n 0, 1) := dk_42 (dk_at dksX2_wears_1 20 rfl rfl)
theorem dX2_wears_44 : decode cX2_wears 44 = .ok (.getfield 19, 3) := dk_180 0 19 (dk_at dksX2_wears_1 21 rfl rfl)
theorem dX2_wears_47 : decode cX2_wears 47 = .ok (.iload_n 1, 1) := dk_27 (dk_at dksX2_wears_2 0 rfl rfl)
theorem dX2_wears_48 : decode cX2_wears 48 = .ok (.iload 9, 2) := dk_21 9 (dk_at dksX2_wears_2 1 rfl rfl)
theorem dX2_wears_50 : decode cX2_wears 50 = .ok (.iastore, 1) := dk_79 (dk_at dksX2_wears_2 3 rfl rfl)
theorem dX2_wears_51 : decode cX2_wears 51 = .ok (.iload 8, 2) := dk_21 8 (dk_at dksX2_wears_2 4 rfl rfl)
theorem dX2_wears_53 : decode cX2_wears 53 = .ok (.aload_n 0, 1) := dk_42 (dk_at dksX2_wears_2 6 rfl rfl)
theorem dX2_wears_54 : decode cX2_wears 54 = .ok (.bipush 60, 2) := dk_16 60 (dk_at dksX2_wears_2 7 rfl rfl)
theorem dX2_wears_56 : decode cX2_wears 56 = .ok (.iload_n 2, 1) := dk_28 (dk_at dksX2_wears_2 9 rfl rfl)
theorem dX2_wears_57 : decode cX2_wears 57 = .ok (.imul, 1) := dk_104 (dk_at dksX2_wears_2 10 rfl rfl)
theorem dX2_wears_58 : decode cX2_wears 58 = .ok (.iload 4, 2) := dk_21 4 (dk_at dksX2_wears_2 11 rfl rfl)
theorem dX2_wears_60 : decode cX2_wears 60 = .ok (.iadd, 1) := dk_96 (dk_at dksX2_wears_2 13 rfl rfl)
theorem dX2_wears_61 : decode cX2_wears 61 = .ok (.iload 5, 2) := dk_21 5 (dk_at dksX2_wears_2 14 rfl rfl)
theorem dX2_wears_63 : decode cX2_wears 63 = .ok (.invokevirtual 223, 3) := dk_182 0 223 (dk_at dksX2_wears_2 16 rfl rfl)
theorem dX2_wears_66 : decode cX2_wears 66 = .ok (.ifCond .eq 10, 3) := dk_153 0 10 (dk_at dksX2_wears_2 19 rfl rfl)
theorem dX2_wears_69 : decode cX2_wears 69 = .ok (.iconst 1, 1) := dk_4 (dk_at dksX2_wears_2 22 rfl rfl)
theorem dX2_wears_70 : decode cX2_wears 70 = .ok (.iload 9, 2) := dk_21 9 (dk_at dksX2_wears_3 0 rfl rfl)
theorem dX2_wears_72 : decode cX2_wears 72 = .ok (.ishl, 1) := dk_120 (dk_at dksX2_wears_3 2 rfl rfl)
theorem dX2_wears_73 : decode cX2_wears 73 = .ok (.goto 4, 3) := dk_167 0 4 (dk_at dksX2_wears_3 3 rfl rfl)
theorem dX2_wears_76 : decode cX2_wears 76 = .ok (.iconst 0, 1) := dk_3 (dk_at dksX2_wears_3 6 rfl rfl)
theorem dX2_wears_77 : decode cX2_wears 77 = .ok (.ior, 1) := dk_128 (dk_at dksX2_wears_3 7 rfl rfl)
theorem dX2_wears_78 : decode cX2_wears 78 = .ok (.istore 8, 2) := dk_54 8 (dk_at dksX2_wears_3 8 rfl rfl)
theorem dX2_wears_80 : decode cX2_wears 80 = .ok (.iinc 9 1, 3) := dk_132 9 1 (dk_at dksX2_wears_3 10 rfl rfl)
theorem dX2_wears_83 : decode cX2_wears 83 = .ok (.goto (-47), 3) := dk_167 255 209 (dk_at dksX2_wears_3 13 rfl rfl)
theorem dX2_wears_86 : decode cX2_wears 86 = .ok (.aload_n 0, 1) := dk_42 (dk_at dksX2_wears_3 16 rfl rfl)
theorem dX2_wears_87 : decode cX2_wears 87 = .ok (.getfield 19, 3) := dk_180 0 19 (dk_at dksX2_wears_3 17 rfl rfl)
theorem dX2_wears_90 : decode cX2_wears 90 = .ok (.iload_n 1, 1) := dk_27 (dk_at dksX2_wears_3 20 rfl rfl)
theorem dX2_wears_91 : decode cX2_wears 91 = .ok (.iload 7, 2) := dk_21 7 (dk_at dksX2_wears_3 21 rfl rfl)
theorem dX2_wears_93 : decode cX2_wears 93 = .ok (.iastore, 1) := dk_79 (dk_at dksX2_wears_3 23 rfl rfl)
theorem dX2_wears_94 : decode cX2_wears 94 = .ok (.iload 8, 2) := dk_21 8 (dk_at dksX2_wears_4 0 rfl rfl)
theorem dX2_wears_96 : decode cX2_wears 96 = .ok (.ireturn, 1) := dk_172 (dk_at dksX2_wears_4 2 rfl rfl)
abbrev cX2_odds : ByteArray := prog_8_method_43_code
def yX2_odds : MethodName := ⟨RX2, "odds", "(IIIIII)J"⟩
def dkwX2_odds_5 : List UInt8 := [21, 7, 121, 10, 101, 167, 0, 7, 10, 21, 7, 121, 173]
abbrev dktX2_odds_5 : List UInt8 := dkwX2_odds_5 ++ []
def dkwX2_odds_4 : List UInt8 := [153, 0, 7, 4, 167, 0, 4, 3, 96, 54, 7, 132, 8, 1, 167, 255, 220, 21, 6, 154, 0, 12, 10]
abbrev dktX2_odds_4 : List UInt8 := dkwX2_odds_4 ++ dktX2_odds_5
def dkwX2_odds_3 : List UInt8 := [21, 8, 42, 180, 0, 87, 162, 0, 33, 21, 7, 42, 180, 0, 46, 27, 46, 21, 8, 184, 0, 149]
abbrev dktX2_odds_3 : List UInt8 := dkwX2_odds_3 ++ dktX2_odds_4
def dkwX2_odds_2 : List UInt8 := [184, 0, 83, 173, 42, 180, 0, 16, 27, 46, 16, 6, 160, 0, 5, 10, 173, 3, 54, 7, 3, 54, 8]
abbrev dktX2_odds_2 : List UInt8 := dkwX2_odds_2 ++ dktX2_odds_3
def dkwX2_odds_1 : List UInt8 := [184, 0, 83, 173, 42, 16, 60, 28, 104, 21, 4, 96, 21, 5, 182, 0, 202, 42, 180, 0, 159, 155, 0, 7]
abbrev dktX2_odds_1 : List UInt8 := dkwX2_odds_1 ++ dktX2_odds_2
def dkwX2_odds_0 : List UInt8 := [42, 27, 28, 29, 21, 4, 21, 5, 21, 6, 133, 9, 10, 184, 0, 90, 182, 0, 219, 156, 0, 7]
abbrev dktX2_odds_0 : List UInt8 := dkwX2_odds_0 ++ dktX2_odds_1
theorem dksX2_odds_0 : cX2_odds.data.toList.drop 0 = dktX2_odds_0 := by decide +kernel
theorem dksX2_odds_1 : cX2_odds.data.toList.drop 22 = dktX2_odds_1 := dk_seg dksX2_odds_0 22 rfl rfl
theorem dksX2_odds_2 : cX2_odds.data.toList.drop 46 = dktX2_odds_2 := dk_seg dksX2_odds_1 24 rfl rfl
theorem dksX2_odds_3 : cX2_odds.data.toList.drop 69 = dktX2_odds_3 := dk_seg dksX2_odds_2 23 rfl rfl
theorem dksX2_odds_4 : cX2_odds.data.toList.drop 91 = dktX2_odds_4 := dk_seg dksX2_odds_3 22 rfl rfl
theorem dksX2_odds_5 : cX2_odds.data.toList.drop 114 = dktX2_odds_5 := dk_seg dksX2_odds_4 23 rfl rfl
theorem dX2_odds_0 : decode cX2_odds 0 = .ok (.aload_n 0, 1) := dk_42 (dk_at dksX2_odds_0 0 rfl rfl)
theorem dX2_odds_1 : decode cX2_odds 1 = .ok (.iload_n 1, 1) := dk_27 (dk_at dksX2_odds_0 1 rfl rfl)
theorem dX2_odds_2 : decode cX2_odds 2 = .ok (.iload_n 2, 1) := dk_28 (dk_at dksX2_odds_0 2 rfl rfl)
theorem dX2_odds_3 : decode cX2_odds 3 = .ok (.iload_n 3, 1) := dk_29 (dk_at dksX2_odds_0 3 rfl rfl)
theorem dX2_odds_4 : decode cX2_odds 4 = .ok (.iload 4, 2) := dk_21 4 (dk_at dksX2_odds_0 4 rfl rfl)
theorem dX2_odds_6 : decode cX2_odds 6 = .ok (.iload 5, 2) := dk_21 5 (dk_at dksX2_odds_0 6 rfl rfl)
theorem dX2_odds_8 : decode cX2_odds 8 = .ok (.iload 6, 2) := dk_21 6 (dk_at dksX2_odds_0 8 rfl rfl)
theorem dX2_odds_10 : decode cX2_odds 10 = .ok (.i2l, 1) := dk_133 (dk_at dksX2_odds_0 10 rfl rfl)
theorem dX2_odds_11 : decode cX2_odds 11 = .ok (.lconst 0, 1) := dk_9 (dk_at dksX2_odds_0 11 rfl rfl)
theorem dX2_odds_12 : decode cX2_odds 12 = .ok (.lconst 1, 1) := dk_10 (dk_at dksX2_odds_0 12 rfl rfl)
theorem dX2_odds_13 : decode cX2_odds 13 = .ok (.invokestatic 90, 3) := dk_184 0 90 (dk_at dksX2_odds_0 13 rfl rfl)
theorem dX2_odds_16 : decode cX2_odds 16 = .ok (.invokevirtual 219, 3) := dk_182 0 219 (dk_at dksX2_odds_0 16 rfl rfl)
theorem dX2_odds_19 : decode cX2_odds 19 = .ok (.ifCond .ge 7, 3) := dk_156 0 7 (dk_at dksX2_odds_0 19 rfl rfl)
theorem dX2_odds_22 : decode cX2_odds 22 = .ok (.invokestatic 83, 3) := dk_184 0 83 (dk_at dksX2_odds_1 0 rfl rfl)
theorem dX2_odds_25 : decode cX2_odds 25 = .ok (.lreturn, 1) := dk_173 (dk_at dksX2_odds_1 3 rfl rfl)
theorem dX2_odds_26 : decode cX2_odds 26 = .ok (.aload_n 0, 1) := dk_42 (dk_at dksX2_odds_1 4 rfl rfl)
theorem dX2_odds_27 : decode cX2_odds 27 = .ok (.bipush 60, 2) := dk_16 60 (dk_at dksX2_odds_1 5 rfl rfl)
theorem dX2_odds_29 : decode cX2_odds 29 = .ok (.iload_n 2, 1) := dk_28 (dk_at dksX2_odds_1 7 rfl rfl)
theorem dX2_odds_30 : decode cX2_odds 30 = .ok (.imul, 1) := dk_104 (dk_at dksX2_odds_1 8 rfl rfl)
theorem dX2_odds_31 : decode cX2_odds 31 = .ok (.iload 4, 2) := dk_21 4 (dk_at dksX2_odds_1 9 rfl rfl)
theorem dX2_odds_33 : decode cX2_odds 33 = .ok (.iadd, 1) := dk_96 (dk_at dksX2_odds_1 11 rfl rfl)
theorem dX2_odds_34 : decode cX2_odds 34 = .ok (.iload 5, 2) := dk_21 5 (dk_at dksX2_odds_1 12 rfl rfl)
theorem dX2_odds_36 : decode cX2_odds 36 = .ok (.invokevirtual 202, 3) := dk_182 0 202 (dk_at dksX2_odds_1 14 rfl rfl)
theorem dX2_odds_39 : decode cX2_odds 39 = .ok (.aload_n 0, 1) := dk_42 (dk_at dksX2_odds_1 17 rfl rfl)
theorem dX2_odds_40 : decode cX2_odds 40 = .ok (.getfield 159, 3) := dk_180 0 159 (dk_at dksX2_odds_1 18 rfl rfl)
theorem dX2_odds_43 : decode cX2_odds 43 = .ok (.ifCond .lt 7, 3) := dk_155 0 7 (dk_at dksX2_odds_1 21 rfl rfl)
theorem dX2_odds_46 : decode cX2_odds 46 = .ok (.invokestatic 83, 3) := dk_184 0 83 (dk_at dksX2_odds_2 0 rfl rfl)
theorem dX2_odds_49 : decode cX2_odds 49 = .ok (.lreturn, 1) := dk_173 (dk_at dksX2_odds_2 3 rfl rfl)
theorem dX2_odds_50 : decode cX2_odds 50 = .ok (.aload_n 0, 1) := dk_42 (dk_at dksX2_odds_2 4 rfl rfl)
theorem dX2_odds_51 : decode cX2_odds 51 = .ok (.getfield 16, 3) := dk_180 0 16 (dk_at dksX2_odds_2 5 rfl rfl)
theorem dX2_odds_54 : decode cX2_odds 54 = .ok (.iload_n 1, 1) := dk_27 (dk_at dksX2_odds_2 8 rfl rfl)
theorem dX2_odds_55 : decode cX2_odds 55 = .ok (.iaload, 1) := dk_46 (dk_at dksX2_odds_2 9 rfl rfl)
theorem dX2_odds_56 : decode cX2_odds 56 = .ok (.bipush 6, 2) := dk_16 6 (dk_at dksX2_odds_2 10 rfl rfl)
theorem dX2_odds_58 : decode cX2_odds 58 = .ok (.if_icmp .ne 5, 3) := dk_160 0 5 (dk_at dksX2_odds_2 12 rfl rfl)
theorem dX2_odds_61 : decode cX2_odds 61 = .ok (.lconst 1, 1) := dk_10 (dk_at dksX2_odds_2 15 rfl rfl)
theorem dX2_odds_62 : decode cX2_odds 62 = .ok (.lreturn, 1) := dk_173 (dk_at dksX2_odds_2 16 rfl rfl)
theorem dX2_odds_63 : decode cX2_odds 63 = .ok (.iconst 0, 1) := dk_3 (dk_at dksX2_odds_2 17 rfl rfl)
theorem dX2_odds_64 : decode cX2_odds 64 = .ok (.istore 7, 2) := dk_54 7 (dk_at dksX2_odds_2 18 rfl rfl)
theorem dX2_odds_66 : decode cX2_odds 66 = .ok (.iconst 0, 1) := dk_3 (dk_at dksX2_odds_2 20 rfl rfl)
theorem dX2_odds_67 : decode cX2_odds 67 = .ok (.istore 8, 2) := dk_54 8 (dk_at dksX2_odds_2 21 rfl rfl)
theorem dX2_odds_69 : decode cX2_odds 69 = .ok (.iload 8, 2) := dk_21 8 (dk_at dksX2_odds_3 0 rfl rfl)
theorem dX2_odds_71 : decode cX2_odds 71 = .ok (.aload_n 0, 1) := dk_42 (dk_at dksX2_odds_3 2 rfl rfl)
theorem dX2_odds_72 : decode cX2_odds 72 = .ok (.getfield 87, 3) := dk_180 0 87 (dk_at dksX2_odds_3 3 rfl rfl)
theorem dX2_odds_75 : decode cX2_odds 75 = .ok (.if_icmp .ge 33, 3) := dk_162 0 33 (dk_at dksX2_odds_3 6 rfl rfl)
theorem dX2_odds_78 : decode cX2_odds 78 = .ok (.iload 7, 2) := dk_21 7 (dk_at dksX2_odds_3 9 rfl rfl)
theorem dX2_odds_80 : decode cX2_odds 80 = .ok (.aload_n 0, 1) := dk_42 (dk_at dksX2_odds_3 11 rfl rfl)
theorem dX2_odds_81 : decode cX2_odds 81 = .ok (.getfield 46, 3) := dk_180 0 46 (dk_at dksX2_odds_3 12 rfl rfl)
theorem dX2_odds_84 : decode cX2_odds 84 = .ok (.iload_n 1, 1) := dk_27 (dk_at dksX2_odds_3 15 rfl rfl)
theorem dX2_odds_85 : decode cX2_odds 85 = .ok (.iaload, 1) := dk_46 (dk_at dksX2_odds_3 16 rfl rfl)
theorem dX2_odds_86 : decode cX2_odds 86 = .ok (.iload 8, 2) := dk_21 8 (dk_at dksX2_odds_3 17 rfl rfl)
theorem dX2_odds_88 : decode cX2_odds 88 = .ok (.invokestatic 149, 3) := dk_184 0 149 (dk_at dksX2_odds_3 19 rfl rfl)
theorem dX2_odds_91 : decode cX2_odds 91 = .ok (.ifCond .eq 7, 3) := dk_153 0 7 (dk_at dksX2_odds_4 0 rfl rfl)
theorem dX2_odds_94 : decode cX2_odds 94 = .ok (.iconst 1, 1) := dk_4 (dk_at dksX2_odds_4 3 rfl rfl)
theorem dX2_odds_95 : decode cX2_odds 95 = .ok (.goto 4, 3) := dk_167 0 4 (dk_at dksX2_odds_4 4 rfl rfl)
theorem dX2_odds_98 : decode cX2_odds 98 = .ok (.iconst 0, 1) := dk_3 (dk_at dksX2_odds_4 7 rfl rfl)
theorem dX2_odds_99 : decode cX2_odds 99 = .ok (.iadd, 1) := dk_96 (dk_at dksX2_odds_4 8 rfl rfl)
theorem dX2_odds_100 : decode cX2_odds 100 = .ok (.istore 7, 2) := dk_54 7 (dk_at dksX2_odds_4 9 rfl rfl)
theorem dX2_odds_102 : decode cX2_odds 102 = .ok (.iinc 8 1, 3) := dk_132 8 1 (dk_at dksX2_odds_4 11 rfl rfl)
theorem dX2_odds_105 : decode cX2_odds 105 = .ok (.goto (-36), 3) := dk_167 255 220 (dk_at dksX2_odds_4 14 rfl rfl)
theorem dX2_odds_108 : decode cX2_odds 108 = .ok (.iload 6, 2) := dk_21 6 (dk_at dksX2_odds_4 17 rfl rfl)
theorem dX2_odds_110 : decode cX2_odds 110 = .ok (.ifCond .ne 12, 3) := dk_154 0 12 (dk_at dksX2_odds_4 19 rfl rfl)
theorem dX2_odds_113 : decode cX2_odds 113 = .ok (.lconst 1, 1) := dk_10 (dk_at dksX2_odds_4 22 rfl rfl)
theorem dX2_odds_114 : decode cX2_odds 114 = .ok (.iload 7, 2) := dk_21 7 (dk_at dksX2_odds_5 0 rfl rfl)
theorem dX2_odds_116 : decode cX2_odds 116 = .ok (.lshl, 1) := dk_121 (dk_at dksX2_odds_5 2 rfl rfl)
theorem dX2_odds_117 : decode cX2_odds 117 = .ok (.lconst 1, 1) := dk_10 (dk_at dksX2_odds_5 3 rfl rfl)
theorem dX2_odds_118 : decode cX2_odds 118 = .ok (.lsub, 1) := dk_101 (dk_at dksX2_odds_5 4 rfl rfl)
theorem dX2_odds_119 : decode cX2_odds 119 = .ok (.goto 7, 3) := dk_167 0 7 (dk_at dksX2_odds_5 5 rfl rfl)
theorem dX2_odds_122 : decode cX2_odds 122 = .ok (.lconst 1, 1) := dk_10 (dk_at dksX2_odds_5 8 rfl rfl)
theorem dX2_odds_123 : decode cX2_odds 123 = .ok (.iload 7, 2) := dk_21 7 (dk_at dksX2_odds_5 9 rfl rfl)
theorem dX2_odds_125 : decode cX2_odds 125 = .ok (.lshl, 1) := dk_121 (dk_at dksX2_odds_5 11 rfl rfl)
theorem dX2_odds_126 : decode cX2_odds 126 = .ok (.lreturn, 1) := dk_173 (dk_at dksX2_odds_5 12 rfl rfl)
abbrev cX2_lost : ByteArray := prog_8_method_3_code
def yX2_lost : MethodName := ⟨RX2, "lost", "()J"⟩
theorem dX2_lost_0 : decode cX2_lost 0 = .ok (.ldc2_w 77, 3) := by decide +kernel
theorem dX2_lost_3 : decode cX2_lost 3 = .ok (.lreturn, 1) := by decide +kernel
abbrev cX2_sheet : ByteArray := prog_8_method_45_code
def yX2_sheet : MethodName := ⟨RX2, "sheet", "(III)I"⟩
def dkwX2_sheet_4 : List UInt8 := [182, 0, 124, 172]
abbrev dktX2_sheet_4 : List UInt8 := dkwX2_sheet_4 ++ []
def dkwX2_sheet_3 : List UInt8 := [162, 0, 22, 42, 180, 0, 71, 16, 60, 27, 104, 21, 4, 96, 3, 79, 132, 4, 1, 167, 255, 234, 42, 4]
abbrev dktX2_sheet_3 : List UInt8 := dkwX2_sheet_3 ++ dktX2_sheet_4
def dkwX2_sheet_2 : List UInt8 := [182, 0, 112, 172, 42, 180, 0, 65, 27, 29, 79, 42, 180, 0, 68, 27, 28, 79, 3, 54, 4, 21, 4, 29]
abbrev dktX2_sheet_2 : List UInt8 := dkwX2_sheet_2 ++ dktX2_sheet_3
def dkwX2_sheet_1 : List UInt8 := [153, 0, 9, 29, 16, 60, 164, 0, 10, 42, 16, 254, 182, 0, 124, 172, 29, 156, 0, 9, 42, 7]
abbrev dktX2_sheet_1 : List UInt8 := dkwX2_sheet_1 ++ dktX2_sheet_2
def dkwX2_sheet_0 : List UInt8 := [27, 184, 0, 120, 153, 0, 9, 42, 2, 182, 0, 124, 172, 28, 133, 9, 20, 0, 127, 184, 0, 90]
abbrev dktX2_sheet_0 : List UInt8 := dkwX2_sheet_0 ++ dktX2_sheet_1
theorem dksX2_sheet_0 : cX2_sheet.data.toList.drop 0 = dktX2_sheet_0 := by decide +kernel
theorem dksX2_sheet_1 : cX2_sheet.data.toList.drop 22 = dktX2_sheet_1 := dk_seg dksX2_sheet_0 22 rfl rfl
theorem dksX2_sheet_2 : cX2_sheet.data.toList.drop 44 = dktX2_sheet_2 := dk_seg dksX2_sheet_1 22 rfl rfl
theorem dksX2_sheet_3 : cX2_sheet.data.toList.drop 68 = dktX2_sheet_3 := dk_seg dksX2_sheet_2 24 rfl rfl
theorem dksX2_sheet_4 : cX2_sheet.data.toList.drop 92 = dktX2_sheet_4 := dk_seg dksX2_sheet_3 24 rfl rfl
theorem dX2_sheet_0 : decode cX2_sheet 0 = .ok (.iload_n 1, 1) := dk_27 (dk_at dksX2_sheet_0 0 rfl rfl)
theorem dX2_sheet_1 : decode cX2_sheet 1 = .ok (.invokestatic 120, 3) := dk_184 0 120 (dk_at dksX2_sheet_0 1 rfl rfl)
theorem dX2_sheet_4 : decode cX2_sheet 4 = .ok (.ifCond .eq 9, 3) := dk_153 0 9 (dk_at dksX2_sheet_0 4 rfl rfl)
theorem dX2_sheet_7 : decode cX2_sheet 7 = .ok (.aload_n 0, 1) := dk_42 (dk_at dksX2_sheet_0 7 rfl rfl)
theorem dX2_sheet_8 : decode cX2_sheet 8 = .ok (.iconst (-1), 1) := dk_2 (dk_at dksX2_sheet_0 8 rfl rfl)
theorem dX2_sheet_9 : decode cX2_sheet 9 = .ok (.invokevirtual 124, 3) := dk_182 0 124 (dk_at dksX2_sheet_0 9 rfl rfl)
theorem dX2_sheet_12 : decode cX2_sheet 12 = .ok (.ireturn, 1) := dk_172 (dk_at dksX2_sheet_0 12 rfl rfl)
theorem dX2_sheet_13 : decode cX2_sheet 13 = .ok (.iload_n 2, 1) := dk_28 (dk_at dksX2_sheet_0 13 rfl rfl)
theorem dX2_sheet_14 : decode cX2_sheet 14 = .ok (.i2l, 1) := dk_133 (dk_at dksX2_sheet_0 14 rfl rfl)
theorem dX2_sheet_15 : decode cX2_sheet 15 = .ok (.lconst 0, 1) := dk_9 (dk_at dksX2_sheet_0 15 rfl rfl)
theorem dX2_sheet_16 : decode cX2_sheet 16 = .ok (.ldc2_w 127, 3) := dk_20 0 127 (dk_at dksX2_sheet_0 16 rfl rfl)
theorem dX2_sheet_19 : decode cX2_sheet 19 = .ok (.invokestatic 90, 3) := dk_184 0 90 (dk_at dksX2_sheet_0 19 rfl rfl)
theorem dX2_sheet_22 : decode cX2_sheet 22 = .ok (.ifCond .eq 9, 3) := dk_153 0 9 (dk_at dksX2_sheet_1 0 rfl rfl)
theorem dX2_sheet_25 : decode cX2_sheet 25 = .ok (.iload_n 3, 1) := dk_29 (dk_at dksX2_sheet_1 3 rfl rfl)
theorem dX2_sheet_26 : decode cX2_sheet 26 = .ok (.bipush 60, 2) := dk_16 60 (dk_at dksX2_sheet_1 4 rfl rfl)
theorem dX2_sheet_28 : decode cX2_sheet 28 = .ok (.if_icmp .le 10, 3) := dk_164 0 10 (dk_at dksX2_sheet_1 6 rfl rfl)
theorem dX2_sheet_31 : decode cX2_sheet 31 = .ok (.aload_n 0, 1) := dk_42 (dk_at dksX2_sheet_1 9 rfl rfl)
theorem dX2_sheet_32 : decode cX2_sheet 32 = .ok (.bipush (-2), 2) := dk_16 254 (dk_at dksX2_sheet_1 10 rfl rfl)
theorem dX2_sheet_34 : decode cX2_sheet 34 = .ok (.invokevirtual 124, 3) := dk_182 0 124 (dk_at dksX2_sheet_1 12 rfl rfl)
theorem dX2_sheet_37 : decode cX2_sheet 37 = .ok (.ireturn, 1) := dk_172 (dk_at dksX2_sheet_1 15 rfl rfl)
theorem dX2_sheet_38 : decode cX2_sheet 38 = .ok (.iload_n 3, 1) := dk_29 (dk_at dksX2_sheet_1 16 rfl rfl)
theorem dX2_sheet_39 : decode cX2_sheet 39 = .ok (.ifCond .ge 9, 3) := dk_156 0 9 (dk_at dksX2_sheet_1 17 rfl rfl)
theorem dX2_sheet_42 : decode cX2_sheet 42 = .ok (.aload_n 0, 1) := dk_42 (dk_at dksX2_sheet_1 20 rfl rfl)
theorem dX2_sheet_43 : decode cX2_sheet 43 = .ok (.iconst 4, 1) := dk_7 (dk_at dksX2_sheet_1 21 rfl rfl)
theorem dX2_sheet_44 : decode cX2_sheet 44 = .ok (.invokevirtual 112, 3) := dk_182 0 112 (dk_at dksX2_sheet_2 0 rfl rfl)
theorem dX2_sheet_47 : decode cX2_sheet 47 = .ok (.ireturn, 1) := dk_172 (dk_at dksX2_sheet_2 3 rfl rfl)
theorem dX2_sheet_48 : decode cX2_sheet 48 = .ok (.aload_n 0, 1) := dk_42 (dk_at dksX2_sheet_2 4 rfl rfl)
theorem dX2_sheet_49 : decode cX2_sheet 49 = .ok (.getfield 65, 3) := dk_180 0 65 (dk_at dksX2_sheet_2 5 rfl rfl)
theorem dX2_sheet_52 : decode cX2_sheet 52 = .ok (.iload_n 1, 1) := dk_27 (dk_at dksX2_sheet_2 8 rfl rfl)
theorem dX2_sheet_53 : decode cX2_sheet 53 = .ok (.iload_n 3, 1) := dk_29 (dk_at dksX2_sheet_2 9 rfl rfl)
theorem dX2_sheet_54 : decode cX2_sheet 54 = .ok (.iastore, 1) := dk_79 (dk_at dksX2_sheet_2 10 rfl rfl)
theorem dX2_sheet_55 : decode cX2_sheet 55 = .ok (.aload_n 0, 1) := dk_42 (dk_at dksX2_sheet_2 11 rfl rfl)
theorem dX2_sheet_56 : decode cX2_sheet 56 = .ok (.getfield 68, 3) := dk_180 0 68 (dk_at dksX2_sheet_2 12 rfl rfl)
theorem dX2_sheet_59 : decode cX2_sheet 59 = .ok (.iload_n 1, 1) := dk_27 (dk_at dksX2_sheet_2 15 rfl rfl)
theorem dX2_sheet_60 : decode cX2_sheet 60 = .ok (.iload_n 2, 1) := dk_28 (dk_at dksX2_sheet_2 16 rfl rfl)
theorem dX2_sheet_61 : decode cX2_sheet 61 = .ok (.iastore, 1) := dk_79 (dk_at dksX2_sheet_2 17 rfl rfl)
theorem dX2_sheet_62 : decode cX2_sheet 62 = .ok (.iconst 0, 1) := dk_3 (dk_at dksX2_sheet_2 18 rfl rfl)
theorem dX2_sheet_63 : decode cX2_sheet 63 = .ok (.istore 4, 2) := dk_54 4 (dk_at dksX2_sheet_2 19 rfl rfl)
theorem dX2_sheet_65 : decode cX2_sheet 65 = .ok (.iload 4, 2) := dk_21 4 (dk_at dksX2_sheet_2 21 rfl rfl)
theorem dX2_sheet_67 : decode cX2_sheet 67 = .ok (.iload_n 3, 1) := dk_29 (dk_at dksX2_sheet_2 23 rfl rfl)
theorem dX2_sheet_68 : decode cX2_sheet 68 = .ok (.if_icmp .ge 22, 3) := dk_162 0 22 (dk_at dksX2_sheet_3 0 rfl rfl)
theorem dX2_sheet_71 : decode cX2_sheet 71 = .ok (.aload_n 0, 1) := dk_42 (dk_at dksX2_sheet_3 3 rfl rfl)
theorem dX2_sheet_72 : decode cX2_sheet 72 = .ok (.getfield 71, 3) := dk_180 0 71 (dk_at dksX2_sheet_3 4 rfl rfl)
theorem dX2_sheet_75 : decode cX2_sheet 75 = .ok (.bipush 60, 2) := dk_16 60 (dk_at dksX2_sheet_3 7 rfl rfl)
theorem dX2_sheet_77 : decode cX2_sheet 77 = .ok (.iload_n 1, 1) := dk_27 (dk_at dksX2_sheet_3 9 rfl rfl)
theorem dX2_sheet_78 : decode cX2_sheet 78 = .ok (.imul, 1) := dk_104 (dk_at dksX2_sheet_3 10 rfl rfl)
theorem dX2_sheet_79 : decode cX2_sheet 79 = .ok (.iload 4, 2) := dk_21 4 (dk_at dksX2_sheet_3 11 rfl rfl)
theorem dX2_sheet_81 : decode cX2_sheet 81 = .ok (.iadd, 1) := dk_96 (dk_at dksX2_sheet_3 13 rfl rfl)
theorem dX2_sheet_82 : decode cX2_sheet 82 = .ok (.iconst 0, 1) := dk_3 (dk_at dksX2_sheet_3 14 rfl rfl)
theorem dX2_sheet_83 : decode cX2_sheet 83 = .ok (.iastore, 1) := dk_79 (dk_at dksX2_sheet_3 15 rfl rfl)
theorem dX2_sheet_84 : decode cX2_sheet 84 = .ok (.iinc 4 1, 3) := dk_132 4 1 (dk_at dksX2_sheet_3 16 rfl rfl)
theorem dX2_sheet_87 : decode cX2_sheet 87 = .ok (.goto (-22), 3) := dk_167 255 234 (dk_at dksX2_sheet_3 19 rfl rfl)
theorem dX2_sheet_90 : decode cX2_sheet 90 = .ok (.aload_n 0, 1) := dk_42 (dk_at dksX2_sheet_3 22 rfl rfl)
theorem dX2_sheet_91 : decode cX2_sheet 91 = .ok (.iconst 1, 1) := dk_4 (dk_at dksX2_sheet_3 23 rfl rfl)
theorem dX2_sheet_92 : decode cX2_sheet 92 = .ok (.invokevirtual 124, 3) := dk_182 0 124 (dk_at dksX2_sheet_4 0 rfl rfl)
theorem dX2_sheet_95 : decode cX2_sheet 95 = .ok (.ireturn, 1) := dk_172 (dk_at dksX2_sheet_4 3 rfl rfl)
abbrev cX2_lose : ByteArray := prog_8_method_46_code
def yX2_lose : MethodName := ⟨RX2, "lose", "(I)I"⟩
def dkwX2_lose_1 : List UInt8 := [42, 180, 0, 65, 27, 2, 79, 28, 172]
abbrev dktX2_lose_1 : List UInt8 := dkwX2_lose_1 ++ []
def dkwX2_lose_0 : List UInt8 := [27, 184, 0, 120, 153, 0, 5, 2, 172, 42, 180, 0, 65, 27, 46, 156, 0, 7, 3, 167, 0, 4, 4, 61]
abbrev dktX2_lose_0 : List UInt8 := dkwX2_lose_0 ++ dktX2_lose_1
theorem dksX2_lose_0 : cX2_lose.data.toList.drop 0 = dktX2_lose_0 := by decide +kernel
theorem dksX2_lose_1 : cX2_lose.data.toList.drop 24 = dktX2_lose_1 := dk_seg dksX2_lose_0 24 rfl rfl
theorem dX2_lose_0 : decode cX2_lose 0 = .ok (.iload_n 1, 1) := dk_27 (dk_at dksX2_lose_0 0 rfl rfl)
theorem dX2_lose_1 : decode cX2_lose 1 = .ok (.invokestatic 120, 3) := dk_184 0 120 (dk_at dksX2_lose_0 1 rfl rfl)
theorem dX2_lose_4 : decode cX2_lose 4 = .ok (.ifCond .eq 5, 3) := dk_153 0 5 (dk_at dksX2_lose_0 4 rfl rfl)
theorem dX2_lose_7 : decode cX2_lose 7 = .ok (.iconst (-1), 1) := dk_2 (dk_at dksX2_lose_0 7 rfl rfl)
theorem dX2_lose_8 : decode cX2_lose 8 = .ok (.ireturn, 1) := dk_172 (dk_at dksX2_lose_0 8 rfl rfl)
theorem dX2_lose_9 : decode cX2_lose 9 = .ok (.aload_n 0, 1) := dk_42 (dk_at dksX2_lose_0 9 rfl rfl)
theorem dX2_lose_10 : decode cX2_lose 10 = .ok (.getfield 65, 3) := dk_180 0 65 (dk_at dksX2_lose_0 10 rfl rfl)
theorem dX2_lose_13 : decode cX2_lose 13 = .ok (.iload_n 1, 1) := dk_27 (dk_at dksX2_lose_0 13 rfl rfl)
theorem dX2_lose_14 : decode cX2_lose 14 = .ok (.iaload, 1) := dk_46 (dk_at dksX2_lose_0 14 rfl rfl)
theorem dX2_lose_15 : decode cX2_lose 15 = .ok (.ifCond .ge 7, 3) := dk_156 0 7 (dk_at dksX2_lose_0 15 rfl rfl)
theorem dX2_lose_18 : decode cX2_lose 18 = .ok (.iconst 0, 1) := dk_3 (dk_at dksX2_lose_0 18 rfl rfl)
theorem dX2_lose_19 : decode cX2_lose 19 = .ok (.goto 4, 3) := dk_167 0 4 (dk_at dksX2_lose_0 19 rfl rfl)
theorem dX2_lose_22 : decode cX2_lose 22 = .ok (.iconst 1, 1) := dk_4 (dk_at dksX2_lose_0 22 rfl rfl)
theorem dX2_lose_23 : decode cX2_lose 23 = .ok (.istore_n 2, 1) := dk_61 (dk_at dksX2_lose_0 23 rfl rfl)
theorem dX2_lose_24 : decode cX2_lose 24 = .ok (.aload_n 0, 1) := dk_42 (dk_at dksX2_lose_1 0 rfl rfl)
theorem dX2_lose_25 : decode cX2_lose 25 = .ok (.getfield 65, 3) := dk_180 0 65 (dk_at dksX2_lose_1 1 rfl rfl)
theorem dX2_lose_28 : decode cX2_lose 28 = .ok (.iload_n 1, 1) := dk_27 (dk_at dksX2_lose_1 4 rfl rfl)
theorem dX2_lose_29 : decode cX2_lose 29 = .ok (.iconst (-1), 1) := dk_2 (dk_at dksX2_lose_1 5 rfl rfl)
theorem dX2_lose_30 : decode cX2_lose 30 = .ok (.iastore, 1) := dk_79 (dk_at dksX2_lose_1 6 rfl rfl)
theorem dX2_lose_31 : decode cX2_lose 31 = .ok (.iload_n 2, 1) := dk_28 (dk_at dksX2_lose_1 7 rfl rfl)
theorem dX2_lose_32 : decode cX2_lose 32 = .ok (.ireturn, 1) := dk_172 (dk_at dksX2_lose_1 8 rfl rfl)
abbrev cX2_put : ByteArray := prog_8_method_48_code
def yX2_put : MethodName := ⟨RX2, "put", "(III)I"⟩
def dkwX2_put_3 : List UInt8 := [29, 79, 42, 4, 182, 0, 124, 172]
abbrev dktX2_put_3 : List UInt8 := dkwX2_put_3 ++ []
def dkwX2_put_2 : List UInt8 := [46, 154, 0, 8, 29, 145, 167, 0, 19, 42, 180, 0, 68, 27, 46, 4, 160, 0, 8, 29, 147, 167, 0, 4]
abbrev dktX2_put_2 : List UInt8 := dkwX2_put_2 ++ dktX2_put_3
def dkwX2_put_1 : List UInt8 := [27, 28, 182, 0, 226, 182, 0, 112, 172, 42, 180, 0, 71, 16, 60, 27, 104, 28, 96, 42, 180, 0, 68, 27]
abbrev dktX2_put_1 : List UInt8 := dkwX2_put_1 ++ dktX2_put_2
def dkwX2_put_0 : List UInt8 := [27, 184, 0, 120, 153, 0, 9, 42, 2, 182, 0, 124, 172, 42, 27, 28, 182, 0, 226, 158, 0, 14, 42, 42]
abbrev dktX2_put_0 : List UInt8 := dkwX2_put_0 ++ dktX2_put_1
theorem dksX2_put_0 : cX2_put.data.toList.drop 0 = dktX2_put_0 := by decide +kernel
theorem dksX2_put_1 : cX2_put.data.toList.drop 24 = dktX2_put_1 := dk_seg dksX2_put_0 24 rfl rfl
theorem dksX2_put_2 : cX2_put.data.toList.drop 48 = dktX2_put_2 := dk_seg dksX2_put_1 24 rfl rfl
theorem dksX2_put_3 : cX2_put.data.toList.drop 72 = dktX2_put_3 := dk_seg dksX2_put_2 24 rfl rfl
theorem dX2_put_0 : decode cX2_put 0 = .ok (.iload_n 1, 1) := dk_27 (dk_at dksX2_put_0 0 rfl rfl)
theorem dX2_put_1 : decode cX2_put 1 = .ok (.invokestatic 120, 3) := dk_184 0 120 (dk_at dksX2_put_0 1 rfl rfl)
theorem dX2_put_4 : decode cX2_put 4 = .ok (.ifCond .eq 9, 3) := dk_153 0 9 (dk_at dksX2_put_0 4 rfl rfl)
theorem dX2_put_7 : decode cX2_put 7 = .ok (.aload_n 0, 1) := dk_42 (dk_at dksX2_put_0 7 rfl rfl)
theorem dX2_put_8 : decode cX2_put 8 = .ok (.iconst (-1), 1) := dk_2 (dk_at dksX2_put_0 8 rfl rfl)
theorem dX2_put_9 : decode cX2_put 9 = .ok (.invokevirtual 124, 3) := dk_182 0 124 (dk_at dksX2_put_0 9 rfl rfl)
theorem dX2_put_12 : decode cX2_put 12 = .ok (.ireturn, 1) := dk_172 (dk_at dksX2_put_0 12 rfl rfl)
theorem dX2_put_13 : decode cX2_put 13 = .ok (.aload_n 0, 1) := dk_42 (dk_at dksX2_put_0 13 rfl rfl)
theorem dX2_put_14 : decode cX2_put 14 = .ok (.iload_n 1, 1) := dk_27 (dk_at dksX2_put_0 14 rfl rfl)
theorem dX2_put_15 : decode cX2_put 15 = .ok (.iload_n 2, 1) := dk_28 (dk_at dksX2_put_0 15 rfl rfl)
theorem dX2_put_16 : decode cX2_put 16 = .ok (.invokevirtual 226, 3) := dk_182 0 226 (dk_at dksX2_put_0 16 rfl rfl)
theorem dX2_put_19 : decode cX2_put 19 = .ok (.ifCond .le 14, 3) := dk_158 0 14 (dk_at dksX2_put_0 19 rfl rfl)
theorem dX2_put_22 : decode cX2_put 22 = .ok (.aload_n 0, 1) := dk_42 (dk_at dksX2_put_0 22 rfl rfl)
theorem dX2_put_23 : decode cX2_put 23 = .ok (.aload_n 0, 1) := dk_42 (dk_at dksX2_put_0 23 rfl rfl)
theorem dX2_put_24 : decode cX2_put 24 = .ok (.iload_n 1, 1) := dk_27 (dk_at dksX2_put_1 0 rfl rfl)
theorem dX2_put_25 : decode cX2_put 25 = .ok (.iload_n 2, 1) := dk_28 (dk_at dksX2_put_1 1 rfl rfl)
theorem dX2_put_26 : decode cX2_put 26 = .ok (.invokevirtual 226, 3) := dk_182 0 226 (dk_at dksX2_put_1 2 rfl rfl)
theorem dX2_put_29 : decode cX2_put 29 = .ok (.invokevirtual 112, 3) := dk_182 0 112 (dk_at dksX2_put_1 5 rfl rfl)
theorem dX2_put_32 : decode cX2_put 32 = .ok (.ireturn, 1) := dk_172 (dk_at dksX2_put_1 8 rfl rfl)
theorem dX2_put_33 : decode cX2_put 33 = .ok (.aload_n 0, 1) := dk_42 (dk_at dksX2_put_1 9 rfl rfl)
theorem dX2_put_34 : decode cX2_put 34 = .ok (.getfield 71, 3) := dk_180 0 71 (dk_at dksX2_put_1 10 rfl rfl)
theorem dX2_put_37 : decode cX2_put 37 = .ok (.bipush 60, 2) := dk_16 60 (dk_at dksX2_put_1 13 rfl rfl)
theorem dX2_put_39 : decode cX2_put 39 = .ok (.iload_n 1, 1) := dk_27 (dk_at dksX2_put_1 15 rfl rfl)
theorem dX2_put_40 : decode cX2_put 40 = .ok (.imul, 1) := dk_104 (dk_at dksX2_put_1 16 rfl rfl)
theorem dX2_put_41 : decode cX2_put 41 = .ok (.iload_n 2, 1) := dk_28 (dk_at dksX2_put_1 17 rfl rfl)
theorem dX2_put_42 : decode cX2_put 42 = .ok (.iadd, 1) := dk_96 (dk_at dksX2_put_1 18 rfl rfl)
theorem dX2_put_43 : decode cX2_put 43 = .ok (.aload_n 0, 1) := dk_42 (dk_at dksX2_put_1 19 rfl rfl)
theorem dX2_put_44 : decode cX2_put 44 = .ok (.getfield 68, 3) := dk_180 0 68 (dk_at dksX2_put_1 20 rfl rfl)
theorem dX2_put_47 : decode cX2_put 47 = .ok (.iload_n 1, 1) := dk_27 (dk_at dksX2_put_1 23 rfl rfl)
theorem dX2_put_48 : decode cX2_put 48 = .ok (.iaload, 1) := dk_46 (dk_at dksX2_put_2 0 rfl rfl)
theorem dX2_put_49 : decode cX2_put 49 = .ok (.ifCond .ne 8, 3) := dk_154 0 8 (dk_at dksX2_put_2 1 rfl rfl)
theorem dX2_put_52 : decode cX2_put 52 = .ok (.iload_n 3, 1) := dk_29 (dk_at dksX2_put_2 4 rfl rfl)
theorem dX2_put_53 : decode cX2_put 53 = .ok (.i2b, 1) := dk_145 (dk_at dksX2_put_2 5 rfl rfl)
theorem dX2_put_54 : decode cX2_put 54 = .ok (.goto 19, 3) := dk_167 0 19 (dk_at dksX2_put_2 6 rfl rfl)
theorem dX2_put_57 : decode cX2_put 57 = .ok (.aload_n 0, 1) := dk_42 (dk_at dksX2_put_2 9 rfl rfl)
theorem dX2_put_58 : decode cX2_put 58 = .ok (.getfield 68, 3) := dk_180 0 68 (dk_at dksX2_put_2 10 rfl rfl)
theorem dX2_put_61 : decode cX2_put 61 = .ok (.iload_n 1, 1) := dk_27 (dk_at dksX2_put_2 13 rfl rfl)
theorem dX2_put_62 : decode cX2_put 62 = .ok (.iaload, 1) := dk_46 (dk_at dksX2_put_2 14 rfl rfl)
theorem dX2_put_63 : decode cX2_put 63 = .ok (.iconst 1, 1) := dk_4 (dk_at dksX2_put_2 15 rfl rfl)
theorem dX2_put_64 : decode cX2_put 64 = .ok (.if_icmp .ne 8, 3) := dk_160 0 8 (dk_at dksX2_put_2 16 rfl rfl)
theorem dX2_put_67 : decode cX2_put 67 = .ok (.iload_n 3, 1) := dk_29 (dk_at dksX2_put_2 19 rfl rfl)
theorem dX2_put_68 : decode cX2_put 68 = .ok (.i2s, 1) := dk_147 (dk_at dksX2_put_2 20 rfl rfl)
theorem dX2_put_69 : decode cX2_put 69 = .ok (.goto 4, 3) := dk_167 0 4 (dk_at dksX2_put_2 21 rfl rfl)
theorem dX2_put_72 : decode cX2_put 72 = .ok (.iload_n 3, 1) := dk_29 (dk_at dksX2_put_3 0 rfl rfl)
theorem dX2_put_73 : decode cX2_put 73 = .ok (.iastore, 1) := dk_79 (dk_at dksX2_put_3 1 rfl rfl)
theorem dX2_put_74 : decode cX2_put 74 = .ok (.aload_n 0, 1) := dk_42 (dk_at dksX2_put_3 2 rfl rfl)
theorem dX2_put_75 : decode cX2_put 75 = .ok (.iconst 1, 1) := dk_4 (dk_at dksX2_put_3 3 rfl rfl)
theorem dX2_put_76 : decode cX2_put 76 = .ok (.invokevirtual 124, 3) := dk_182 0 124 (dk_at dksX2_put_3 4 rfl rfl)
theorem dX2_put_79 : decode cX2_put 79 = .ok (.ireturn, 1) := dk_172 (dk_at dksX2_put_3 7 rfl rfl)
abbrev cX2_noCell : ByteArray := prog_8_method_47_code
def yX2_noCell : MethodName := ⟨RX2, "noCell", "(II)I"⟩
def dkwX2_noCell_1 : List UInt8 := [101, 184, 0, 90, 153, 0, 7, 3, 167, 0, 4, 6, 172]
abbrev dktX2_noCell_1 : List UInt8 := dkwX2_noCell_1 ++ []
def dkwX2_noCell_0 : List UInt8 := [42, 180, 0, 65, 27, 46, 156, 0, 7, 4, 167, 0, 26, 28, 133, 9, 42, 180, 0, 65, 27, 46, 133, 10]
abbrev dktX2_noCell_0 : List UInt8 := dkwX2_noCell_0 ++ dktX2_noCell_1
theorem dksX2_noCell_0 : cX2_noCell.data.toList.drop 0 = dktX2_noCell_0 := by decide +kernel
theorem dksX2_noCell_1 : cX2_noCell.data.toList.drop 24 = dktX2_noCell_1 := dk_seg dksX2_noCell_0 24 rfl rfl
theorem dX2_noCell_0 : decode cX2_noCell 0 = .ok (.aload_n 0, 1) := dk_42 (dk_at dksX2_noCell_0 0 rfl rfl)
theorem dX2_noCell_1 : decode cX2_noCell 1 = .ok (.getfield 65, 3) := dk_180 0 65 (dk_at dksX2_noCell_0 1 rfl rfl)
theorem dX2_noCell_4 : decode cX2_noCell 4 = .ok (.iload_n 1, 1) := dk_27 (dk_at dksX2_noCell_0 4 rfl rfl)
theorem dX2_noCell_5 : decode cX2_noCell 5 = .ok (.iaload, 1) := dk_46 (dk_at dksX2_noCell_0 5 rfl rfl)
theorem dX2_noCell_6 : decode cX2_noCell 6 = .ok (.ifCond .ge 7, 3) := dk_156 0 7 (dk_at dksX2_noCell_0 6 rfl rfl)
theorem dX2_noCell_9 : decode cX2_noCell 9 = .ok (.iconst 1, 1) := dk_4 (dk_at dksX2_noCell_0 9 rfl rfl)
theorem dX2_noCell_10 : decode cX2_noCell 10 = .ok (.goto 26, 3) := dk_167 0 26 (dk_at dksX2_noCell_0 10 rfl rfl)
theorem dX2_noCell_13 : decode cX2_noCell 13 = .ok (.iload_n 2, 1) := dk_28 (dk_at dksX2_noCell_0 13 rfl rfl)
theorem dX2_noCell_14 : decode cX2_noCell 14 = .ok (.i2l, 1) := dk_133 (dk_at dksX2_noCell_0 14 rfl rfl)
theorem dX2_noCell_15 : decode cX2_noCell 15 = .ok (.lconst 0, 1) := dk_9 (dk_at dksX2_noCell_0 15 rfl rfl)
theorem dX2_noCell_16 : decode cX2_noCell 16 = .ok (.aload_n 0, 1) := dk_42 (dk_at dksX2_noCell_0 16 rfl rfl)
theorem dX2_noCell_17 : decode cX2_noCell 17 = .ok (.getfield 65, 3) := dk_180 0 65 (dk_at dksX2_noCell_0 17 rfl rfl)
theorem dX2_noCell_20 : decode cX2_noCell 20 = .ok (.iload_n 1, 1) := dk_27 (dk_at dksX2_noCell_0 20 rfl rfl)
theorem dX2_noCell_21 : decode cX2_noCell 21 = .ok (.iaload, 1) := dk_46 (dk_at dksX2_noCell_0 21 rfl rfl)
theorem dX2_noCell_22 : decode cX2_noCell 22 = .ok (.i2l, 1) := dk_133 (dk_at dksX2_noCell_0 22 rfl rfl)
theorem dX2_noCell_23 : decode cX2_noCell 23 = .ok (.lconst 1, 1) := dk_10 (dk_at dksX2_noCell_0 23 rfl rfl)
theorem dX2_noCell_24 : decode cX2_noCell 24 = .ok (.lsub, 1) := dk_101 (dk_at dksX2_noCell_1 0 rfl rfl)
theorem dX2_noCell_25 : decode cX2_noCell 25 = .ok (.invokestatic 90, 3) := dk_184 0 90 (dk_at dksX2_noCell_1 1 rfl rfl)
theorem dX2_noCell_28 : decode cX2_noCell 28 = .ok (.ifCond .eq 7, 3) := dk_153 0 7 (dk_at dksX2_noCell_1 4 rfl rfl)
theorem dX2_noCell_31 : decode cX2_noCell 31 = .ok (.iconst 0, 1) := dk_3 (dk_at dksX2_noCell_1 7 rfl rfl)
theorem dX2_noCell_32 : decode cX2_noCell 32 = .ok (.goto 4, 3) := dk_167 0 4 (dk_at dksX2_noCell_1 8 rfl rfl)
theorem dX2_noCell_35 : decode cX2_noCell 35 = .ok (.iconst 3, 1) := dk_6 (dk_at dksX2_noCell_1 11 rfl rfl)
theorem dX2_noCell_36 : decode cX2_noCell 36 = .ok (.ireturn, 1) := dk_172 (dk_at dksX2_noCell_1 12 rfl rfl)
abbrev cX2_cell : ByteArray := prog_8_method_49_code
def yX2_cell : MethodName := ⟨RX2, "cell", "(III)J"⟩
def dkwX2_cell_3 : List UInt8 := [167, 0, 15, 42, 180, 0, 71, 16, 60, 27, 104, 28, 96, 46, 133, 173]
abbrev dktX2_cell_3 : List UInt8 := dkwX2_cell_3 ++ []
def dkwX2_cell_2 : List UInt8 := [5, 182, 0, 229, 173, 42, 27, 28, 182, 0, 226, 158, 0, 16, 42, 42, 27, 28, 182, 0, 226, 182, 0, 229]
abbrev dktX2_cell_2 : List UInt8 := dkwX2_cell_2 ++ dktX2_cell_3
def dkwX2_cell_1 : List UInt8 := [184, 0, 83, 173, 42, 180, 0, 65, 27, 46, 155, 0, 19, 42, 180, 0, 68, 27, 46, 29, 159, 0, 9, 42]
abbrev dktX2_cell_1 : List UInt8 := dkwX2_cell_1 ++ dktX2_cell_2
def dkwX2_cell_0 : List UInt8 := [42, 3, 181, 0, 79, 27, 184, 0, 120, 154, 0, 15, 29, 133, 9, 20, 0, 127, 184, 0, 90, 154, 0, 7]
abbrev dktX2_cell_0 : List UInt8 := dkwX2_cell_0 ++ dktX2_cell_1
theorem dksX2_cell_0 : cX2_cell.data.toList.drop 0 = dktX2_cell_0 := by decide +kernel
theorem dksX2_cell_1 : cX2_cell.data.toList.drop 24 = dktX2_cell_1 := dk_seg dksX2_cell_0 24 rfl rfl
theorem dksX2_cell_2 : cX2_cell.data.toList.drop 48 = dktX2_cell_2 := dk_seg dksX2_cell_1 24 rfl rfl
theorem dksX2_cell_3 : cX2_cell.data.toList.drop 72 = dktX2_cell_3 := dk_seg dksX2_cell_2 24 rfl rfl
theorem dX2_cell_0 : decode cX2_cell 0 = .ok (.aload_n 0, 1) := dk_42 (dk_at dksX2_cell_0 0 rfl rfl)
theorem dX2_cell_1 : decode cX2_cell 1 = .ok (.iconst 0, 1) := dk_3 (dk_at dksX2_cell_0 1 rfl rfl)
theorem dX2_cell_2 : decode cX2_cell 2 = .ok (.putfield 79, 3) := dk_181 0 79 (dk_at dksX2_cell_0 2 rfl rfl)
theorem dX2_cell_5 : decode cX2_cell 5 = .ok (.iload_n 1, 1) := dk_27 (dk_at dksX2_cell_0 5 rfl rfl)
theorem dX2_cell_6 : decode cX2_cell 6 = .ok (.invokestatic 120, 3) := dk_184 0 120 (dk_at dksX2_cell_0 6 rfl rfl)
theorem dX2_cell_9 : decode cX2_cell 9 = .ok (.ifCond .ne 15, 3) := dk_154 0 15 (dk_at dksX2_cell_0 9 rfl rfl)
theorem dX2_cell_12 : decode cX2_cell 12 = .ok (.iload_n 3, 1) := dk_29 (dk_at dksX2_cell_0 12 rfl rfl)
theorem dX2_cell_13 : decode cX2_cell 13 = .ok (.i2l, 1) := dk_133 (dk_at dksX2_cell_0 13 rfl rfl)
theorem dX2_cell_14 : decode cX2_cell 14 = .ok (.lconst 0, 1) := dk_9 (dk_at dksX2_cell_0 14 rfl rfl)
theorem dX2_cell_15 : decode cX2_cell 15 = .ok (.ldc2_w 127, 3) := dk_20 0 127 (dk_at dksX2_cell_0 15 rfl rfl)
theorem dX2_cell_18 : decode cX2_cell 18 = .ok (.invokestatic 90, 3) := dk_184 0 90 (dk_at dksX2_cell_0 18 rfl rfl)
theorem dX2_cell_21 : decode cX2_cell 21 = .ok (.ifCond .ne 7, 3) := dk_154 0 7 (dk_at dksX2_cell_0 21 rfl rfl)
theorem dX2_cell_24 : decode cX2_cell 24 = .ok (.invokestatic 83, 3) := dk_184 0 83 (dk_at dksX2_cell_1 0 rfl rfl)
theorem dX2_cell_27 : decode cX2_cell 27 = .ok (.lreturn, 1) := dk_173 (dk_at dksX2_cell_1 3 rfl rfl)
theorem dX2_cell_28 : decode cX2_cell 28 = .ok (.aload_n 0, 1) := dk_42 (dk_at dksX2_cell_1 4 rfl rfl)
theorem dX2_cell_29 : decode cX2_cell 29 = .ok (.getfield 65, 3) := dk_180 0 65 (dk_at dksX2_cell_1 5 rfl rfl)
theorem dX2_cell_32 : decode cX2_cell 32 = .ok (.iload_n 1, 1) := dk_27 (dk_at dksX2_cell_1 8 rfl rfl)
theorem dX2_cell_33 : decode cX2_cell 33 = .ok (.iaload, 1) := dk_46 (dk_at dksX2_cell_1 9 rfl rfl)
theorem dX2_cell_34 : decode cX2_cell 34 = .ok (.ifCond .lt 19, 3) := dk_155 0 19 (dk_at dksX2_cell_1 10 rfl rfl)
theorem dX2_cell_37 : decode cX2_cell 37 = .ok (.aload_n 0, 1) := dk_42 (dk_at dksX2_cell_1 13 rfl rfl)
theorem dX2_cell_38 : decode cX2_cell 38 = .ok (.getfield 68, 3) := dk_180 0 68 (dk_at dksX2_cell_1 14 rfl rfl)
theorem dX2_cell_41 : decode cX2_cell 41 = .ok (.iload_n 1, 1) := dk_27 (dk_at dksX2_cell_1 17 rfl rfl)
theorem dX2_cell_42 : decode cX2_cell 42 = .ok (.iaload, 1) := dk_46 (dk_at dksX2_cell_1 18 rfl rfl)
theorem dX2_cell_43 : decode cX2_cell 43 = .ok (.iload_n 3, 1) := dk_29 (dk_at dksX2_cell_1 19 rfl rfl)
theorem dX2_cell_44 : decode cX2_cell 44 = .ok (.if_icmp .eq 9, 3) := dk_159 0 9 (dk_at dksX2_cell_1 20 rfl rfl)
theorem dX2_cell_47 : decode cX2_cell 47 = .ok (.aload_n 0, 1) := dk_42 (dk_at dksX2_cell_1 23 rfl rfl)
theorem dX2_cell_48 : decode cX2_cell 48 = .ok (.iconst 2, 1) := dk_5 (dk_at dksX2_cell_2 0 rfl rfl)
theorem dX2_cell_49 : decode cX2_cell 49 = .ok (.invokevirtual 229, 3) := dk_182 0 229 (dk_at dksX2_cell_2 1 rfl rfl)
theorem dX2_cell_52 : decode cX2_cell 52 = .ok (.lreturn, 1) := dk_173 (dk_at dksX2_cell_2 4 rfl rfl)
theorem dX2_cell_53 : decode cX2_cell 53 = .ok (.aload_n 0, 1) := dk_42 (dk_at dksX2_cell_2 5 rfl rfl)
theorem dX2_cell_54 : decode cX2_cell 54 = .ok (.iload_n 1, 1) := dk_27 (dk_at dksX2_cell_2 6 rfl rfl)
theorem dX2_cell_55 : decode cX2_cell 55 = .ok (.iload_n 2, 1) := dk_28 (dk_at dksX2_cell_2 7 rfl rfl)
theorem dX2_cell_56 : decode cX2_cell 56 = .ok (.invokevirtual 226, 3) := dk_182 0 226 (dk_at dksX2_cell_2 8 rfl rfl)
theorem dX2_cell_59 : decode cX2_cell 59 = .ok (.ifCond .le 16, 3) := dk_158 0 16 (dk_at dksX2_cell_2 11 rfl rfl)
theorem dX2_cell_62 : decode cX2_cell 62 = .ok (.aload_n 0, 1) := dk_42 (dk_at dksX2_cell_2 14 rfl rfl)
theorem dX2_cell_63 : decode cX2_cell 63 = .ok (.aload_n 0, 1) := dk_42 (dk_at dksX2_cell_2 15 rfl rfl)
theorem dX2_cell_64 : decode cX2_cell 64 = .ok (.iload_n 1, 1) := dk_27 (dk_at dksX2_cell_2 16 rfl rfl)
theorem dX2_cell_65 : decode cX2_cell 65 = .ok (.iload_n 2, 1) := dk_28 (dk_at dksX2_cell_2 17 rfl rfl)
theorem dX2_cell_66 : decode cX2_cell 66 = .ok (.invokevirtual 226, 3) := dk_182 0 226 (dk_at dksX2_cell_2 18 rfl rfl)
theorem dX2_cell_69 : decode cX2_cell 69 = .ok (.invokevirtual 229, 3) := dk_182 0 229 (dk_at dksX2_cell_2 21 rfl rfl)
theorem dX2_cell_72 : decode cX2_cell 72 = .ok (.goto 15, 3) := dk_167 0 15 (dk_at dksX2_cell_3 0 rfl rfl)
theorem dX2_cell_75 : decode cX2_cell 75 = .ok (.aload_n 0, 1) := dk_42 (dk_at dksX2_cell_3 3 rfl rfl)
theorem dX2_cell_76 : decode cX2_cell 76 = .ok (.getfield 71, 3) := dk_180 0 71 (dk_at dksX2_cell_3 4 rfl rfl)
theorem dX2_cell_79 : decode cX2_cell 79 = .ok (.bipush 60, 2) := dk_16 60 (dk_at dksX2_cell_3 7 rfl rfl)
theorem dX2_cell_81 : decode cX2_cell 81 = .ok (.iload_n 1, 1) := dk_27 (dk_at dksX2_cell_3 9 rfl rfl)
theorem dX2_cell_82 : decode cX2_cell 82 = .ok (.imul, 1) := dk_104 (dk_at dksX2_cell_3 10 rfl rfl)
theorem dX2_cell_83 : decode cX2_cell 83 = .ok (.iload_n 2, 1) := dk_28 (dk_at dksX2_cell_3 11 rfl rfl)
theorem dX2_cell_84 : decode cX2_cell 84 = .ok (.iadd, 1) := dk_96 (dk_at dksX2_cell_3 12 rfl rfl)
theorem dX2_cell_85 : decode cX2_cell 85 = .ok (.iaload, 1) := dk_46 (dk_at dksX2_cell_3 13 rfl rfl)
theorem dX2_cell_86 : decode cX2_cell 86 = .ok (.i2l, 1) := dk_133 (dk_at dksX2_cell_3 14 rfl rfl)
theorem dX2_cell_87 : decode cX2_cell 87 = .ok (.lreturn, 1) := dk_173 (dk_at dksX2_cell_3 15 rfl rfl)
abbrev cX2_failedLong : ByteArray := prog_8_method_7_code
def yX2_failedLong : MethodName := ⟨RX2, "failedLong", "(I)J"⟩
def dkwX2_failedLong_0 : List UInt8 := [42, 27, 181, 0, 79, 184, 0, 83, 173]
abbrev dktX2_failedLong_0 : List UInt8 := dkwX2_failedLong_0 ++ []
theorem dksX2_failedLong_0 : cX2_failedLong.data.toList.drop 0 = dktX2_failedLong_0 := by decide +kernel
theorem dX2_failedLong_0 : decode cX2_failedLong 0 = .ok (.aload_n 0, 1) := dk_42 (dk_at dksX2_failedLong_0 0 rfl rfl)
theorem dX2_failedLong_1 : decode cX2_failedLong 1 = .ok (.iload_n 1, 1) := dk_27 (dk_at dksX2_failedLong_0 1 rfl rfl)
theorem dX2_failedLong_2 : decode cX2_failedLong 2 = .ok (.putfield 79, 3) := dk_181 0 79 (dk_at dksX2_failedLong_0 2 rfl rfl)
theorem dX2_failedLong_5 : decode cX2_failedLong 5 = .ok (.invokestatic 83, 3) := dk_184 0 83 (dk_at dksX2_failedLong_0 5 rfl rfl)
theorem dX2_failedLong_8 : decode cX2_failedLong 8 = .ok (.lreturn, 1) := dk_173 (dk_at dksX2_failedLong_0 8 rfl rfl)
abbrev cX2_copy : ByteArray := prog_8_method_51_code
def yX2_copy : MethodName := ⟨RX2, "copy", "(IIIII)I"⟩
def dkwX2_copy_7 : List UInt8 := [21, 6, 96, 42, 180, 0, 74, 21, 6, 46, 79, 132, 6, 1, 167, 255, 224, 42, 21, 5, 182, 0, 124, 172]
abbrev dktX2_copy_7 : List UInt8 := dkwX2_copy_7 ++ []
def dkwX2_copy_6 : List UInt8 := [167, 255, 225, 3, 54, 6, 21, 6, 21, 5, 162, 0, 31, 42, 180, 0, 71, 16, 60, 29, 104, 21, 4, 96]
abbrev dktX2_copy_6 : List UInt8 := dkwX2_copy_6 ++ dktX2_copy_7
def dkwX2_copy_5 : List UInt8 := [180, 0, 74, 21, 6, 42, 180, 0, 71, 16, 60, 27, 104, 28, 96, 21, 6, 96, 46, 79, 132, 6, 1]
abbrev dktX2_copy_5 : List UInt8 := dkwX2_copy_5 ++ dktX2_copy_6
def dkwX2_copy_4 : List UInt8 := [184, 0, 116, 153, 0, 9, 42, 6, 182, 0, 112, 172, 3, 54, 6, 21, 6, 21, 5, 162, 0, 30, 42]
abbrev dktX2_copy_4 : List UInt8 := dkwX2_copy_4 ++ dktX2_copy_5
def dkwX2_copy_3 : List UInt8 := [180, 0, 65, 27, 46, 184, 0, 116, 154, 0, 20, 21, 4, 21, 5, 133, 42, 180, 0, 65, 29, 46]
abbrev dktX2_copy_3 : List UInt8 := dkwX2_copy_3 ++ dktX2_copy_4
def dkwX2_copy_2 : List UInt8 := [27, 46, 42, 180, 0, 68, 29, 46, 159, 0, 9, 42, 5, 182, 0, 112, 172, 28, 21, 5, 133, 42]
abbrev dktX2_copy_2 : List UInt8 := dkwX2_copy_2 ++ dktX2_copy_3
def dkwX2_copy_1 : List UInt8 := [27, 46, 155, 0, 12, 42, 180, 0, 65, 29, 46, 156, 0, 9, 42, 4, 182, 0, 112, 172, 42, 180, 0, 68]
abbrev dktX2_copy_1 : List UInt8 := dkwX2_copy_1 ++ dktX2_copy_2
def dkwX2_copy_0 : List UInt8 := [27, 184, 0, 120, 154, 0, 10, 29, 184, 0, 120, 153, 0, 9, 42, 2, 182, 0, 124, 172, 42, 180, 0, 65]
abbrev dktX2_copy_0 : List UInt8 := dkwX2_copy_0 ++ dktX2_copy_1
theorem dksX2_copy_0 : cX2_copy.data.toList.drop 0 = dktX2_copy_0 := by decide +kernel
theorem dksX2_copy_1 : cX2_copy.data.toList.drop 24 = dktX2_copy_1 := dk_seg dksX2_copy_0 24 rfl rfl
theorem dksX2_copy_2 : cX2_copy.data.toList.drop 48 = dktX2_copy_2 := dk_seg dksX2_copy_1 24 rfl rfl
theorem dksX2_copy_3 : cX2_copy.data.toList.drop 70 = dktX2_copy_3 := dk_seg dksX2_copy_2 22 rfl rfl
theorem dksX2_copy_4 : cX2_copy.data.toList.drop 92 = dktX2_copy_4 := dk_seg dksX2_copy_3 22 rfl rfl
theorem dksX2_copy_5 : cX2_copy.data.toList.drop 115 = dktX2_copy_5 := dk_seg dksX2_copy_4 23 rfl rfl
theorem dksX2_copy_6 : cX2_copy.data.toList.drop 138 = dktX2_copy_6 := dk_seg dksX2_copy_5 23 rfl rfl
theorem dksX2_copy_7 : cX2_copy.data.toList.drop 162 = dktX2_copy_7 := dk_seg dksX2_copy_6 24 rfl rfl
theorem dX2_copy_0 : decode cX2_copy 0 = .ok (.iload_n 1, 1) := dk_27 (dk_at dksX2_copy_0 0 rfl rfl)
theorem dX2_copy_1 : decode cX2_copy 1 = .ok (.invokestatic 120, 3) := dk_184 0 120 (dk_at dksX2_copy_0 1 rfl rfl)
theorem dX2_copy_4 : decode cX2_copy 4 = .ok (.ifCond .ne 10, 3) := dk_154 0 10 (dk_at dksX2_copy_0 4 rfl rfl)
theorem dX2_copy_7 : decode cX2_copy 7 = .ok (.iload_n 3, 1) := dk_29 (dk_at dksX2_copy_0 7 rfl rfl)
theorem dX2_copy_8 : decode cX2_copy 8 = .ok (.invokestatic 120, 3) := dk_184 0 120 (dk_at dksX2_copy_0 8 rfl rfl)
theorem dX2_copy_11 : decode cX2_copy 11 = .ok (.ifCond .eq 9, 3) := dk_153 0 9 (dk_at dksX2_copy_0 11 rfl rfl)
theorem dX2_copy_14 : decode cX2_copy 14 = .ok (.aload_n 0, 1) := dk_42 (dk_at dksX2_copy_0 14 rfl rfl)
theorem dX2_copy_15 : decode cX2_copy 15 = .ok (.iconst (-1), 1) := dk_2 (dk_at dksX2_copy_0 15 rfl rfl)
theorem dX2_copy_16 : decode cX2_copy 16 = .ok (.invokevirtual 124, 3) := dk_182 0 124 (dk_at dksX2_copy_0 16 rfl rfl)
theorem dX2_copy_19 : decode cX2_copy 19 = .ok (.ireturn, 1) := dk_172 (dk_at dksX2_copy_0 19 rfl rfl)
theorem dX2_copy_20 : decode cX2_copy 20 = .ok (.aload_n 0, 1) := dk_42 (dk_at dksX2_copy_0 20 rfl rfl)
theorem dX2_copy_21 : decode cX2_copy 21 = .ok (.getfield 65, 3) := dk_180 0 65 (dk_at dksX2_copy_0 21 rfl rfl)
theorem dX2_copy_24 : decode cX2_copy 24 = .ok (.iload_n 1, 1) := dk_27 (dk_at dksX2_copy_1 0 rfl rfl)
theorem dX2_copy_25 : decode cX2_copy 25 = .ok (.iaload, 1) := dk_46 (dk_at dksX2_copy_1 1 rfl rfl)
theorem dX2_copy_26 : decode cX2_copy 26 = .ok (.ifCond .lt 12, 3) := dk_155 0 12 (dk_at dksX2_copy_1 2 rfl rfl)
theorem dX2_copy_29 : decode cX2_copy 29 = .ok (.aload_n 0, 1) := dk_42 (dk_at dksX2_copy_1 5 rfl rfl)
theorem dX2_copy_30 : decode cX2_copy 30 = .ok (.getfield 65, 3) := dk_180 0 65 (dk_at dksX2_copy_1 6 rfl rfl)
theorem dX2_copy_33 : decode cX2_copy 33 = .ok (.iload_n 3, 1) := dk_29 (dk_at dksX2_copy_1 9 rfl rfl)
theorem dX2_copy_34 : decode cX2_copy 34 = .ok (.iaload, 1) := dk_46 (dk_at dksX2_copy_1 10 rfl rfl)
theorem dX2_copy_35 : decode cX2_copy 35 = .ok (.ifCond .ge 9, 3) := dk_156 0 9 (dk_at dksX2_copy_1 11 rfl rfl)
theorem dX2_copy_38 : decode cX2_copy 38 = .ok (.aload_n 0, 1) := dk_42 (dk_at dksX2_copy_1 14 rfl rfl)
theorem dX2_copy_39 : decode cX2_copy 39 = .ok (.iconst 1, 1) := dk_4 (dk_at dksX2_copy_1 15 rfl rfl)
theorem dX2_copy_40 : decode cX2_copy 40 = .ok (.invokevirtual 112, 3) := dk_182 0 112 (dk_at dksX2_copy_1 16 rfl rfl)
theorem dX2_copy_43 : decode cX2_copy 43 = .ok (.ireturn, 1) := dk_172 (dk_at dksX2_copy_1 19 rfl rfl)
theorem dX2_copy_44 : decode cX2_copy 44 = .ok (.aload_n 0, 1) := dk_42 (dk_at dksX2_copy_1 20 rfl rfl)
theorem dX2_copy_45 : decode cX2_copy 45 = .ok (.getfield 68, 3) := dk_180 0 68 (dk_at dksX2_copy_1 21 rfl rfl)
theorem dX2_copy_48 : decode cX2_copy 48 = .ok (.iload_n 1, 1) := dk_27 (dk_at dksX2_copy_2 0 rfl rfl)
theorem dX2_copy_49 : decode cX2_copy 49 = .ok (.iaload, 1) := dk_46 (dk_at dksX2_copy_2 1 rfl rfl)
theorem dX2_copy_50 : decode cX2_copy 50 = .ok (.aload_n 0, 1) := dk_42 (dk_at dksX2_copy_2 2 rfl rfl)
theorem dX2_copy_51 : decode cX2_copy 51 = .ok (.getfield 68, 3) := dk_180 0 68 (dk_at dksX2_copy_2 3 rfl rfl)
theorem dX2_copy_54 : decode cX2_copy 54 = .ok (.iload_n 3, 1) := dk_29 (dk_at dksX2_copy_2 6 rfl rfl)
theorem dX2_copy_55 : decode cX2_copy 55 = .ok (.iaload, 1) := dk_46 (dk_at dksX2_copy_2 7 rfl rfl)
theorem dX2_copy_56 : decode cX2_copy 56 = .ok (.if_icmp .eq 9, 3) := dk_159 0 9 (dk_at dksX2_copy_2 8 rfl rfl)
theorem dX2_copy_59 : decode cX2_copy 59 = .ok (.aload_n 0, 1) := dk_42 (dk_at dksX2_copy_2 11 rfl rfl)
theorem dX2_copy_60 : decode cX2_copy 60 = .ok (.iconst 2, 1) := dk_5 (dk_at dksX2_copy_2 12 rfl rfl)
theorem dX2_copy_61 : decode cX2_copy 61 = .ok (.invokevirtual 112, 3) := dk_182 0 112 (dk_at dksX2_copy_2 13 rfl rfl)
theorem dX2_copy_64 : decode cX2_copy 64 = .ok (.ireturn, 1) := dk_172 (dk_at dksX2_copy_2 16 rfl rfl)
theorem dX2_copy_65 : decode cX2_copy 65 = .ok (.iload_n 2, 1) := dk_28 (dk_at dksX2_copy_2 17 rfl rfl)
theorem dX2_copy_66 : decode cX2_copy 66 = .ok (.iload 5, 2) := dk_21 5 (dk_at dksX2_copy_2 18 rfl rfl)
theorem dX2_copy_68 : decode cX2_copy 68 = .ok (.i2l, 1) := dk_133 (dk_at dksX2_copy_2 20 rfl rfl)
theorem dX2_copy_69 : decode cX2_copy 69 = .ok (.aload_n 0, 1) := dk_42 (dk_at dksX2_copy_2 21 rfl rfl)
theorem dX2_copy_70 : decode cX2_copy 70 = .ok (.getfield 65, 3) := dk_180 0 65 (dk_at dksX2_copy_3 0 rfl rfl)
theorem dX2_copy_73 : decode cX2_copy 73 = .ok (.iload_n 1, 1) := dk_27 (dk_at dksX2_copy_3 3 rfl rfl)
theorem dX2_copy_74 : decode cX2_copy 74 = .ok (.iaload, 1) := dk_46 (dk_at dksX2_copy_3 4 rfl rfl)
theorem dX2_copy_75 : decode cX2_copy 75 = .ok (.invokestatic 116, 3) := dk_184 0 116 (dk_at dksX2_copy_3 5 rfl rfl)
theorem dX2_copy_78 : decode cX2_copy 78 = .ok (.ifCond .ne 20, 3) := dk_154 0 20 (dk_at dksX2_copy_3 8 rfl rfl)
theorem dX2_copy_81 : decode cX2_copy 81 = .ok (.iload 4, 2) := dk_21 4 (dk_at dksX2_copy_3 11 rfl rfl)
theorem dX2_copy_83 : decode cX2_copy 83 = .ok (.iload 5, 2) := dk_21 5 (dk_at dksX2_copy_3 13 rfl rfl)
theorem dX2_copy_85 : decode cX2_copy 85 = .ok (.i2l, 1) := dk_133 (dk_at dksX2_copy_3 15 rfl rfl)
theorem dX2_copy_86 : decode cX2_copy 86 = .ok (.aload_n 0, 1) := dk_42 (dk_at dksX2_copy_3 16 rfl rfl)
theorem dX2_copy_87 : decode cX2_copy 87 = .ok (.getfield 65, 3) := dk_180 0 65 (dk_at dksX2_copy_3 17 rfl rfl)
theorem dX2_copy_90 : decode cX2_copy 90 = .ok (.iload_n 3, 1) := dk_29 (dk_at dksX2_copy_3 20 rfl rfl)
theorem dX2_copy_91 : decode cX2_copy 91 = .ok (.iaload, 1) := dk_46 (dk_at dksX2_copy_3 21 rfl rfl)
theorem dX2_copy_92 : decode cX2_copy 92 = .ok (.invokestatic 116, 3) := dk_184 0 116 (dk_at dksX2_copy_4 0 rfl rfl)
theorem dX2_copy_95 : decode cX2_copy 95 = .ok (.ifCond .eq 9, 3) := dk_153 0 9 (dk_at dksX2_copy_4 3 rfl rfl)
theorem dX2_copy_98 : decode cX2_copy 98 = .ok (.aload_n 0, 1) := dk_42 (dk_at dksX2_copy_4 6 rfl rfl)
theorem dX2_copy_99 : decode cX2_copy 99 = .ok (.iconst 3, 1) := dk_6 (dk_at dksX2_copy_4 7 rfl rfl)
theorem dX2_copy_100 : decode cX2_copy 100 = .ok (.invokevirtual 112, 3) := dk_182 0 112 (dk_at dksX2_copy_4 8 rfl rfl)
theorem dX2_copy_103 : decode cX2_copy 103 = .ok (.ireturn, 1) := dk_172 (dk_at dksX2_copy_4 11 rfl rfl)
theorem dX2_copy_104 : decode cX2_copy 104 = .ok (.iconst 0, 1) := dk_3 (dk_at dksX2_copy_4 12 rfl rfl)
theorem dX2_copy_105 : decode cX2_copy 105 = .ok (.istore 6, 2) := dk_54 6 (dk_at dksX2_copy_4 13 rfl rfl)
theorem dX2_copy_107 : decode cX2_copy 107 = .ok (.iload 6, 2) := dk_21 6 (dk_at dksX2_copy_4 15 rfl rfl)
theorem dX2_copy_109 : decode cX2_copy 109 = .ok (.iload 5, 2) := dk_21 5 (dk_at dksX2_copy_4 17 rfl rfl)
theorem dX2_copy_111 : decode cX2_copy 111 = .ok (.if_icmp .ge 30, 3) := dk_162 0 30 (dk_at dksX2_copy_4 19 rfl rfl)
theorem dX2_copy_114 : decode cX2_copy 114 = .ok (.aload_n 0, 1) := dk_42 (dk_at dksX2_copy_4 22 rfl rfl)
theorem dX2_copy_115 : decode cX2_copy 115 = .ok (.getfield 74, 3) := dk_180 0 74 (dk_at dksX2_copy_5 0 rfl rfl)
theorem dX2_copy_118 : decode cX2_copy 118 = .ok (.iload 6, 2) := dk_21 6 (dk_at dksX2_copy_5 3 rfl rfl)
theorem dX2_copy_120 : decode cX2_copy 120 = .ok (.aload_n 0, 1) := dk_42 (dk_at dksX2_copy_5 5 rfl rfl)
theorem dX2_copy_121 : decode cX2_copy 121 = .ok (.getfield 71, 3) := dk_180 0 71 (dk_at dksX2_copy_5 6 rfl rfl)
theorem dX2_copy_124 : decode cX2_copy 124 = .ok (.bipush 60, 2) := dk_16 60 (dk_at dksX2_copy_5 9 rfl rfl)
theorem dX2_copy_126 : decode cX2_copy 126 = .ok (.iload_n 1, 1) := dk_27 (dk_at dksX2_copy_5 11 rfl rfl)
theorem dX2_copy_127 : decode cX2_copy 127 = .ok (.imul, 1) := dk_104 (dk_at dksX2_copy_5 12 rfl rfl)
theorem dX2_copy_128 : decode cX2_copy 128 = .ok (.iload_n 2, 1) := dk_28 (dk_at dksX2_copy_5 13 rfl rfl)
theorem dX2_copy_129 : decode cX2_copy 129 = .ok (.iadd, 1) := dk_96 (dk_at dksX2_copy_5 14 rfl rfl)
theorem dX2_copy_130 : decode cX2_copy 130 = .ok (.iload 6, 2) := dk_21 6 (dk_at dksX2_copy_5 15 rfl rfl)
theorem dX2_copy_132 : decode cX2_copy 132 = .ok (.iadd, 1) := dk_96 (dk_at dksX2_copy_5 17 rfl rfl)
theorem dX2_copy_133 : decode cX2_copy 133 = .ok (.iaload, 1) := dk_46 (dk_at dksX2_copy_5 18 rfl rfl)
theorem dX2_copy_134 : decode cX2_copy 134 = .ok (.iastore, 1) := dk_79 (dk_at dksX2_copy_5 19 rfl rfl)
theorem dX2_copy_135 : decode cX2_copy 135 = .ok (.iinc 6 1, 3) := dk_132 6 1 (dk_at dksX2_copy_5 20 rfl rfl)
theorem dX2_copy_138 : decode cX2_copy 138 = .ok (.goto (-31), 3) := dk_167 255 225 (dk_at dksX2_copy_6 0 rfl rfl)
theorem dX2_copy_141 : decode cX2_copy 141 = .ok (.iconst 0, 1) := dk_3 (dk_at dksX2_copy_6 3 rfl rfl)
theorem dX2_copy_142 : decode cX2_copy 142 = .ok (.istore 6, 2) := dk_54 6 (dk_at dksX2_copy_6 4 rfl rfl)
theorem dX2_copy_144 : decode cX2_copy 144 = .ok (.iload 6, 2) := dk_21 6 (dk_at dksX2_copy_6 6 rfl rfl)
theorem dX2_copy_146 : decode cX2_copy 146 = .ok (.iload 5, 2) := dk_21 5 (dk_at dksX2_copy_6 8 rfl rfl)
theorem dX2_copy_148 : decode cX2_copy 148 = .ok (.if_icmp .ge 31, 3) := dk_162 0 31 (dk_at dksX2_copy_6 10 rfl rfl)
theorem dX2_copy_151 : decode cX2_copy 151 = .ok (.aload_n 0, 1) := dk_42 (dk_at dksX2_copy_6 13 rfl rfl)
theorem dX2_copy_152 : decode cX2_copy 152 = .ok (.getfield 71, 3) := dk_180 0 71 (dk_at dksX2_copy_6 14 rfl rfl)
theorem dX2_copy_155 : decode cX2_copy 155 = .ok (.bipush 60, 2) := dk_16 60 (dk_at dksX2_copy_6 17 rfl rfl)
theorem dX2_copy_157 : decode cX2_copy 157 = .ok (.iload_n 3, 1) := dk_29 (dk_at dksX2_copy_6 19 rfl rfl)
theorem dX2_copy_158 : decode cX2_copy 158 = .ok (.imul, 1) := dk_104 (dk_at dksX2_copy_6 20 rfl rfl)
theorem dX2_copy_159 : decode cX2_copy 159 = .ok (.iload 4, 2) := dk_21 4 (dk_at dksX2_copy_6 21 rfl rfl)
theorem dX2_copy_161 : decode cX2_copy 161 = .ok (.iadd, 1) := dk_96 (dk_at dksX2_copy_6 23 rfl rfl)
theorem dX2_copy_162 : decode cX2_copy 162 = .ok (.iload 6, 2) := dk_21 6 (dk_at dksX2_copy_7 0 rfl rfl)
theorem dX2_copy_164 : decode cX2_copy 164 = .ok (.iadd, 1) := dk_96 (dk_at dksX2_copy_7 2 rfl rfl)
theorem dX2_copy_165 : decode cX2_copy 165 = .ok (.aload_n 0, 1) := dk_42 (dk_at dksX2_copy_7 3 rfl rfl)
theorem dX2_copy_166 : decode cX2_copy 166 = .ok (.getfield 74, 3) := dk_180 0 74 (dk_at dksX2_copy_7 4 rfl rfl)
theorem dX2_copy_169 : decode cX2_copy 169 = .ok (.iload 6, 2) := dk_21 6 (dk_at dksX2_copy_7 7 rfl rfl)
theorem dX2_copy_171 : decode cX2_copy 171 = .ok (.iaload, 1) := dk_46 (dk_at dksX2_copy_7 9 rfl rfl)
theorem dX2_copy_172 : decode cX2_copy 172 = .ok (.iastore, 1) := dk_79 (dk_at dksX2_copy_7 10 rfl rfl)
theorem dX2_copy_173 : decode cX2_copy 173 = .ok (.iinc 6 1, 3) := dk_132 6 1 (dk_at dksX2_copy_7 11 rfl rfl)
theorem dX2_copy_176 : decode cX2_copy 176 = .ok (.goto (-32), 3) := dk_167 255 224 (dk_at dksX2_copy_7 14 rfl rfl)
theorem dX2_copy_179 : decode cX2_copy 179 = .ok (.aload_n 0, 1) := dk_42 (dk_at dksX2_copy_7 17 rfl rfl)
theorem dX2_copy_180 : decode cX2_copy 180 = .ok (.iload 5, 2) := dk_21 5 (dk_at dksX2_copy_7 18 rfl rfl)
theorem dX2_copy_182 : decode cX2_copy 182 = .ok (.invokevirtual 124, 3) := dk_182 0 124 (dk_at dksX2_copy_7 20 rfl rfl)
theorem dX2_copy_185 : decode cX2_copy 185 = .ok (.ireturn, 1) := dk_172 (dk_at dksX2_copy_7 23 rfl rfl)
abbrev cX2_tell : ByteArray := prog_8_method_53_code
def yX2_tell : MethodName := ⟨RX2, "tell", "(I)I"⟩
def dkwX2_tell_3 : List UInt8 := [16, 100, 96, 167, 0, 9, 5, 29, 104, 16, 100, 96, 172]
abbrev dktX2_tell_3 : List UInt8 := dkwX2_tell_3 ++ []
def dkwX2_tell_2 : List UInt8 := [182, 0, 236, 42, 180, 0, 19, 27, 46, 62, 28, 154, 0, 7, 29, 167, 0, 21, 28, 4, 160, 0, 10, 29]
abbrev dktX2_tell_2 : List UInt8 := dkwX2_tell_2 ++ dktX2_tell_3
def dkwX2_tell_1 : List UInt8 := [182, 0, 236, 28, 158, 0, 8, 42, 5, 182, 0, 236, 42, 4, 182, 0, 236, 28, 5, 160, 0, 8, 42, 4]
abbrev dktX2_tell_1 : List UInt8 := dkwX2_tell_1 ++ dktX2_tell_2
def dkwX2_tell_0 : List UInt8 := [42, 27, 182, 0, 139, 153, 0, 5, 2, 172, 42, 180, 0, 7, 27, 46, 61, 28, 5, 160, 0, 8, 42, 6]
abbrev dktX2_tell_0 : List UInt8 := dkwX2_tell_0 ++ dktX2_tell_1
theorem dksX2_tell_0 : cX2_tell.data.toList.drop 0 = dktX2_tell_0 := by decide +kernel
theorem dksX2_tell_1 : cX2_tell.data.toList.drop 24 = dktX2_tell_1 := dk_seg dksX2_tell_0 24 rfl rfl
theorem dksX2_tell_2 : cX2_tell.data.toList.drop 48 = dktX2_tell_2 := dk_seg dksX2_tell_1 24 rfl rfl
theorem dksX2_tell_3 : cX2_tell.data.toList.drop 72 = dktX2_tell_3 := dk_seg dksX2_tell_2 24 rfl rfl
theorem dX2_tell_0 : decode cX2_tell 0 = .ok (.aload_n 0, 1) := dk_42 (dk_at dksX2_tell_0 0 rfl rfl)
theorem dX2_tell_1 : decode cX2_tell 1 = .ok (.iload_n 1, 1) := dk_27 (dk_at dksX2_tell_0 1 rfl rfl)
theorem dX2_tell_2 : decode cX2_tell 2 = .ok (.invokevirtual 139, 3) := dk_182 0 139 (dk_at dksX2_tell_0 2 rfl rfl)
theorem dX2_tell_5 : decode cX2_tell 5 = .ok (.ifCond .eq 5, 3) := dk_153 0 5 (dk_at dksX2_tell_0 5 rfl rfl)
theorem dX2_tell_8 : decode cX2_tell 8 = .ok (.iconst (-1), 1) := dk_2 (dk_at dksX2_tell_0 8 rfl rfl)
theorem dX2_tell_9 : decode cX2_tell 9 = .ok (.ireturn, 1) := dk_172 (dk_at dksX2_tell_0 9 rfl rfl)
theorem dX2_tell_10 : decode cX2_tell 10 = .ok (.aload_n 0, 1) := dk_42 (dk_at dksX2_tell_0 10 rfl rfl)
theorem dX2_tell_11 : decode cX2_tell 11 = .ok (.getfield 7, 3) := dk_180 0 7 (dk_at dksX2_tell_0 11 rfl rfl)
theorem dX2_tell_14 : decode cX2_tell 14 = .ok (.iload_n 1, 1) := dk_27 (dk_at dksX2_tell_0 14 rfl rfl)
theorem dX2_tell_15 : decode cX2_tell 15 = .ok (.iaload, 1) := dk_46 (dk_at dksX2_tell_0 15 rfl rfl)
theorem dX2_tell_16 : decode cX2_tell 16 = .ok (.istore_n 2, 1) := dk_61 (dk_at dksX2_tell_0 16 rfl rfl)
theorem dX2_tell_17 : decode cX2_tell 17 = .ok (.iload_n 2, 1) := dk_28 (dk_at dksX2_tell_0 17 rfl rfl)
theorem dX2_tell_18 : decode cX2_tell 18 = .ok (.iconst 2, 1) := dk_5 (dk_at dksX2_tell_0 18 rfl rfl)
theorem dX2_tell_19 : decode cX2_tell 19 = .ok (.if_icmp .ne 8, 3) := dk_160 0 8 (dk_at dksX2_tell_0 19 rfl rfl)
theorem dX2_tell_22 : decode cX2_tell 22 = .ok (.aload_n 0, 1) := dk_42 (dk_at dksX2_tell_0 22 rfl rfl)
theorem dX2_tell_23 : decode cX2_tell 23 = .ok (.iconst 3, 1) := dk_6 (dk_at dksX2_tell_0 23 rfl rfl)
theorem dX2_tell_24 : decode cX2_tell 24 = .ok (.invokevirtual 236, 3) := dk_182 0 236 (dk_at dksX2_tell_1 0 rfl rfl)
theorem dX2_tell_27 : decode cX2_tell 27 = .ok (.iload_n 2, 1) := dk_28 (dk_at dksX2_tell_1 3 rfl rfl)
theorem dX2_tell_28 : decode cX2_tell 28 = .ok (.ifCond .le 8, 3) := dk_158 0 8 (dk_at dksX2_tell_1 4 rfl rfl)
theorem dX2_tell_31 : decode cX2_tell 31 = .ok (.aload_n 0, 1) := dk_42 (dk_at dksX2_tell_1 7 rfl rfl)
theorem dX2_tell_32 : decode cX2_tell 32 = .ok (.iconst 2, 1) := dk_5 (dk_at dksX2_tell_1 8 rfl rfl)
theorem dX2_tell_33 : decode cX2_tell 33 = .ok (.invokevirtual 236, 3) := dk_182 0 236 (dk_at dksX2_tell_1 9 rfl rfl)
theorem dX2_tell_36 : decode cX2_tell 36 = .ok (.aload_n 0, 1) := dk_42 (dk_at dksX2_tell_1 12 rfl rfl)
theorem dX2_tell_37 : decode cX2_tell 37 = .ok (.iconst 1, 1) := dk_4 (dk_at dksX2_tell_1 13 rfl rfl)
theorem dX2_tell_38 : decode cX2_tell 38 = .ok (.invokevirtual 236, 3) := dk_182 0 236 (dk_at dksX2_tell_1 14 rfl rfl)
theorem dX2_tell_41 : decode cX2_tell 41 = .ok (.iload_n 2, 1) := dk_28 (dk_at dksX2_tell_1 17 rfl rfl)
theorem dX2_tell_42 : decode cX2_tell 42 = .ok (.iconst 2, 1) := dk_5 (dk_at dksX2_tell_1 18 rfl rfl)
theorem dX2_tell_43 : decode cX2_tell 43 = .ok (.if_icmp .ne 8, 3) := dk_160 0 8 (dk_at dksX2_tell_1 19 rfl rfl)
theorem dX2_tell_46 : decode cX2_tell 46 = .ok (.aload_n 0, 1) := dk_42 (dk_at dksX2_tell_1 22 rfl rfl)
theorem dX2_tell_47 : decode cX2_tell 47 = .ok (.iconst 1, 1) := dk_4 (dk_at dksX2_tell_1 23 rfl rfl)
theorem dX2_tell_48 : decode cX2_tell 48 = .ok (.invokevirtual 236, 3) := dk_182 0 236 (dk_at dksX2_tell_2 0 rfl rfl)
theorem dX2_tell_51 : decode cX2_tell 51 = .ok (.aload_n 0, 1) := dk_42 (dk_at dksX2_tell_2 3 rfl rfl)
theorem dX2_tell_52 : decode cX2_tell 52 = .ok (.getfield 19, 3) := dk_180 0 19 (dk_at dksX2_tell_2 4 rfl rfl)
theorem dX2_tell_55 : decode cX2_tell 55 = .ok (.iload_n 1, 1) := dk_27 (dk_at dksX2_tell_2 7 rfl rfl)
theorem dX2_tell_56 : decode cX2_tell 56 = .ok (.iaload, 1) := dk_46 (dk_at dksX2_tell_2 8 rfl rfl)
theorem dX2_tell_57 : decode cX2_tell 57 = .ok (.istore_n 3, 1) := dk_62 (dk_at dksX2_tell_2 9 rfl rfl)
theorem dX2_tell_58 : decode cX2_tell 58 = .ok (.iload_n 2, 1) := dk_28 (dk_at dksX2_tell_2 10 rfl rfl)
theorem dX2_tell_59 : decode cX2_tell 59 = .ok (.ifCond .ne 7, 3) := dk_154 0 7 (dk_at dksX2_tell_2 11 rfl rfl)
theorem dX2_tell_62 : decode cX2_tell 62 = .ok (.iload_n 3, 1) := dk_29 (dk_at dksX2_tell_2 14 rfl rfl)
theorem dX2_tell_63 : decode cX2_tell 63 = .ok (.goto 21, 3) := dk_167 0 21 (dk_at dksX2_tell_2 15 rfl rfl)
theorem dX2_tell_66 : decode cX2_tell 66 = .ok (.iload_n 2, 1) := dk_28 (dk_at dksX2_tell_2 18 rfl rfl)
theorem dX2_tell_67 : decode cX2_tell 67 = .ok (.iconst 1, 1) := dk_4 (dk_at dksX2_tell_2 19 rfl rfl)
theorem dX2_tell_68 : decode cX2_tell 68 = .ok (.if_icmp .ne 10, 3) := dk_160 0 10 (dk_at dksX2_tell_2 20 rfl rfl)
theorem dX2_tell_71 : decode cX2_tell 71 = .ok (.iload_n 3, 1) := dk_29 (dk_at dksX2_tell_2 23 rfl rfl)
theorem dX2_tell_72 : decode cX2_tell 72 = .ok (.bipush 100, 2) := dk_16 100 (dk_at dksX2_tell_3 0 rfl rfl)
theorem dX2_tell_74 : decode cX2_tell 74 = .ok (.iadd, 1) := dk_96 (dk_at dksX2_tell_3 2 rfl rfl)
theorem dX2_tell_75 : decode cX2_tell 75 = .ok (.goto 9, 3) := dk_167 0 9 (dk_at dksX2_tell_3 3 rfl rfl)
theorem dX2_tell_78 : decode cX2_tell 78 = .ok (.iconst 2, 1) := dk_5 (dk_at dksX2_tell_3 6 rfl rfl)
theorem dX2_tell_79 : decode cX2_tell 79 = .ok (.iload_n 3, 1) := dk_29 (dk_at dksX2_tell_3 7 rfl rfl)
theorem dX2_tell_80 : decode cX2_tell 80 = .ok (.imul, 1) := dk_104 (dk_at dksX2_tell_3 8 rfl rfl)
theorem dX2_tell_81 : decode cX2_tell 81 = .ok (.bipush 100, 2) := dk_16 100 (dk_at dksX2_tell_3 9 rfl rfl)
theorem dX2_tell_83 : decode cX2_tell 83 = .ok (.iadd, 1) := dk_96 (dk_at dksX2_tell_3 11 rfl rfl)
theorem dX2_tell_84 : decode cX2_tell 84 = .ok (.ireturn, 1) := dk_172 (dk_at dksX2_tell_3 12 rfl rfl)
abbrev cX2_traced : ByteArray := prog_8_method_52_code
def yX2_traced : MethodName := ⟨RX2, "traced", "(I)V"⟩
def dkwX2_traced_0 : List UInt8 := [42, 16, 31, 42, 180, 0, 233, 104, 27, 96, 181, 0, 233, 177]
abbrev dktX2_traced_0 : List UInt8 := dkwX2_traced_0 ++ []
theorem dksX2_traced_0 : cX2_traced.data.toList.drop 0 = dktX2_traced_0 := by decide +kernel
theorem dX2_traced_0 : decode cX2_traced 0 = .ok (.aload_n 0, 1) := dk_42 (dk_at dksX2_traced_0 0 rfl rfl)
theorem dX2_traced_1 : decode cX2_traced 1 = .ok (.bipush 31, 2) := dk_16 31 (dk_at dksX2_traced_0 1 rfl rfl)
theorem dX2_traced_3 : decode cX2_traced 3 = .ok (.aload_n 0, 1) := dk_42 (dk_at dksX2_traced_0 3 rfl rfl)
theorem dX2_traced_4 : decode cX2_traced 4 = .ok (.getfield 233, 3) := dk_180 0 233 (dk_at dksX2_traced_0 4 rfl rfl)
theorem dX2_traced_7 : decode cX2_traced 7 = .ok (.imul, 1) := dk_104 (dk_at dksX2_traced_0 7 rfl rfl)
theorem dX2_traced_8 : decode cX2_traced 8 = .ok (.iload_n 1, 1) := dk_27 (dk_at dksX2_traced_0 8 rfl rfl)
theorem dX2_traced_9 : decode cX2_traced 9 = .ok (.iadd, 1) := dk_96 (dk_at dksX2_traced_0 9 rfl rfl)
theorem dX2_traced_10 : decode cX2_traced 10 = .ok (.putfield 233, 3) := dk_181 0 233 (dk_at dksX2_traced_0 10 rfl rfl)
theorem dX2_traced_13 : decode cX2_traced 13 = .ok (.return_, 1) := dk_177 (dk_at dksX2_traced_0 13 rfl rfl)
abbrev cX2_hand : ByteArray := prog_8_method_54_code
def yX2_hand : MethodName := ⟨RX2, "hand", "(I)I"⟩
def dkwX2_hand_1 : List UInt8 := [167, 0, 4, 7, 182, 0, 236, 42, 180, 0, 7, 27, 46, 5, 160, 0, 8, 16, 40, 167, 0, 4, 27, 172]
abbrev dktX2_hand_1 : List UInt8 := dkwX2_hand_1 ++ []
def dkwX2_hand_0 : List UInt8 := [42, 27, 182, 0, 139, 153, 0, 5, 2, 172, 42, 42, 180, 0, 7, 27, 46, 5, 160, 0, 7, 8]
abbrev dktX2_hand_0 : List UInt8 := dkwX2_hand_0 ++ dktX2_hand_1
theorem dksX2_hand_0 : cX2_hand.data.toList.drop 0 = dktX2_hand_0 := by decide +kernel
theorem dksX2_hand_1 : cX2_hand.data.toList.drop 22 = dktX2_hand_1 := dk_seg dksX2_hand_0 22 rfl rfl
theorem dX2_hand_0 : decode cX2_hand 0 = .ok (.aload_n 0, 1) := dk_42 (dk_at dksX2_hand_0 0 rfl rfl)
theorem dX2_hand_1 : decode cX2_hand 1 = .ok (.iload_n 1, 1) := dk_27 (dk_at dksX2_hand_0 1 rfl rfl)
theorem dX2_hand_2 : decode cX2_hand 2 = .ok (.invokevirtual 139, 3) := dk_182 0 139 (dk_at dksX2_hand_0 2 rfl rfl)
theorem dX2_hand_5 : decode cX2_hand 5 = .ok (.ifCond .eq 5, 3) := dk_153 0 5 (dk_at dksX2_hand_0 5 rfl rfl)
theorem dX2_hand_8 : decode cX2_hand 8 = .ok (.iconst (-1), 1) := dk_2 (dk_at dksX2_hand_0 8 rfl rfl)
theorem dX2_hand_9 : decode cX2_hand 9 = .ok (.ireturn, 1) := dk_172 (dk_at dksX2_hand_0 9 rfl rfl)
theorem dX2_hand_10 : decode cX2_hand 10 = .ok (.aload_n 0, 1) := dk_42 (dk_at dksX2_hand_0 10 rfl rfl)
theorem dX2_hand_11 : decode cX2_hand 11 = .ok (.aload_n 0, 1) := dk_42 (dk_at dksX2_hand_0 11 rfl rfl)
theorem dX2_hand_12 : decode cX2_hand 12 = .ok (.getfield 7, 3) := dk_180 0 7 (dk_at dksX2_hand_0 12 rfl rfl)
theorem dX2_hand_15 : decode cX2_hand 15 = .ok (.iload_n 1, 1) := dk_27 (dk_at dksX2_hand_0 15 rfl rfl)
theorem dX2_hand_16 : decode cX2_hand 16 = .ok (.iaload, 1) := dk_46 (dk_at dksX2_hand_0 16 rfl rfl)
theorem dX2_hand_17 : decode cX2_hand 17 = .ok (.iconst 2, 1) := dk_5 (dk_at dksX2_hand_0 17 rfl rfl)
theorem dX2_hand_18 : decode cX2_hand 18 = .ok (.if_icmp .ne 7, 3) := dk_160 0 7 (dk_at dksX2_hand_0 18 rfl rfl)
theorem dX2_hand_21 : decode cX2_hand 21 = .ok (.iconst 5, 1) := dk_8 (dk_at dksX2_hand_0 21 rfl rfl)
theorem dX2_hand_22 : decode cX2_hand 22 = .ok (.goto 4, 3) := dk_167 0 4 (dk_at dksX2_hand_1 0 rfl rfl)
theorem dX2_hand_25 : decode cX2_hand 25 = .ok (.iconst 4, 1) := dk_7 (dk_at dksX2_hand_1 3 rfl rfl)
theorem dX2_hand_26 : decode cX2_hand 26 = .ok (.invokevirtual 236, 3) := dk_182 0 236 (dk_at dksX2_hand_1 4 rfl rfl)
theorem dX2_hand_29 : decode cX2_hand 29 = .ok (.aload_n 0, 1) := dk_42 (dk_at dksX2_hand_1 7 rfl rfl)
theorem dX2_hand_30 : decode cX2_hand 30 = .ok (.getfield 7, 3) := dk_180 0 7 (dk_at dksX2_hand_1 8 rfl rfl)
theorem dX2_hand_33 : decode cX2_hand 33 = .ok (.iload_n 1, 1) := dk_27 (dk_at dksX2_hand_1 11 rfl rfl)
theorem dX2_hand_34 : decode cX2_hand 34 = .ok (.iaload, 1) := dk_46 (dk_at dksX2_hand_1 12 rfl rfl)
theorem dX2_hand_35 : decode cX2_hand 35 = .ok (.iconst 2, 1) := dk_5 (dk_at dksX2_hand_1 13 rfl rfl)
theorem dX2_hand_36 : decode cX2_hand 36 = .ok (.if_icmp .ne 8, 3) := dk_160 0 8 (dk_at dksX2_hand_1 14 rfl rfl)
theorem dX2_hand_39 : decode cX2_hand 39 = .ok (.bipush 40, 2) := dk_16 40 (dk_at dksX2_hand_1 17 rfl rfl)
theorem dX2_hand_41 : decode cX2_hand 41 = .ok (.goto 4, 3) := dk_167 0 4 (dk_at dksX2_hand_1 19 rfl rfl)
theorem dX2_hand_44 : decode cX2_hand 44 = .ok (.iload_n 1, 1) := dk_27 (dk_at dksX2_hand_1 22 rfl rfl)
theorem dX2_hand_45 : decode cX2_hand 45 = .ok (.ireturn, 1) := dk_172 (dk_at dksX2_hand_1 23 rfl rfl)
abbrev cX2_as : ByteArray := prog_8_method_55_code
def yX2_as : MethodName := ⟨RX2, "as", "(II)I"⟩
def dkwX2_as_2 : List UInt8 := [182, 0, 124, 167, 0, 8, 42, 5, 182, 0, 112, 172]
abbrev dktX2_as_2 : List UInt8 := dkwX2_as_2 ++ []
def dkwX2_as_1 : List UInt8 := [154, 0, 10, 42, 16, 254, 182, 0, 124, 172, 42, 180, 0, 7, 27, 46, 28, 161, 0, 11, 42, 4]
abbrev dktX2_as_1 : List UInt8 := dkwX2_as_1 ++ dktX2_as_2
def dkwX2_as_0 : List UInt8 := [42, 27, 182, 0, 139, 153, 0, 9, 42, 2, 182, 0, 124, 172, 28, 133, 9, 20, 0, 127, 184, 0, 90]
abbrev dktX2_as_0 : List UInt8 := dkwX2_as_0 ++ dktX2_as_1
theorem dksX2_as_0 : cX2_as.data.toList.drop 0 = dktX2_as_0 := by decide +kernel
theorem dksX2_as_1 : cX2_as.data.toList.drop 23 = dktX2_as_1 := dk_seg dksX2_as_0 23 rfl rfl
theorem dksX2_as_2 : cX2_as.data.toList.drop 45 = dktX2_as_2 := dk_seg dksX2_as_1 22 rfl rfl
theorem dX2_as_0 : decode cX2_as 0 = .ok (.aload_n 0, 1) := dk_42 (dk_at dksX2_as_0 0 rfl rfl)
theorem dX2_as_1 : decode cX2_as 1 = .ok (.iload_n 1, 1) := dk_27 (dk_at dksX2_as_0 1 rfl rfl)
theorem dX2_as_2 : decode cX2_as 2 = .ok (.invokevirtual 139, 3) := dk_182 0 139 (dk_at dksX2_as_0 2 rfl rfl)
theorem dX2_as_5 : decode cX2_as 5 = .ok (.ifCond .eq 9, 3) := dk_153 0 9 (dk_at dksX2_as_0 5 rfl rfl)
theorem dX2_as_8 : decode cX2_as 8 = .ok (.aload_n 0, 1) := dk_42 (dk_at dksX2_as_0 8 rfl rfl)
theorem dX2_as_9 : decode cX2_as 9 = .ok (.iconst (-1), 1) := dk_2 (dk_at dksX2_as_0 9 rfl rfl)
theorem dX2_as_10 : decode cX2_as 10 = .ok (.invokevirtual 124, 3) := dk_182 0 124 (dk_at dksX2_as_0 10 rfl rfl)
theorem dX2_as_13 : decode cX2_as 13 = .ok (.ireturn, 1) := dk_172 (dk_at dksX2_as_0 13 rfl rfl)
theorem dX2_as_14 : decode cX2_as 14 = .ok (.iload_n 2, 1) := dk_28 (dk_at dksX2_as_0 14 rfl rfl)
theorem dX2_as_15 : decode cX2_as 15 = .ok (.i2l, 1) := dk_133 (dk_at dksX2_as_0 15 rfl rfl)
theorem dX2_as_16 : decode cX2_as 16 = .ok (.lconst 0, 1) := dk_9 (dk_at dksX2_as_0 16 rfl rfl)
theorem dX2_as_17 : decode cX2_as 17 = .ok (.ldc2_w 127, 3) := dk_20 0 127 (dk_at dksX2_as_0 17 rfl rfl)
theorem dX2_as_20 : decode cX2_as 20 = .ok (.invokestatic 90, 3) := dk_184 0 90 (dk_at dksX2_as_0 20 rfl rfl)
theorem dX2_as_23 : decode cX2_as 23 = .ok (.ifCond .ne 10, 3) := dk_154 0 10 (dk_at dksX2_as_1 0 rfl rfl)
theorem dX2_as_26 : decode cX2_as 26 = .ok (.aload_n 0, 1) := dk_42 (dk_at dksX2_as_1 3 rfl rfl)
theorem dX2_as_27 : decode cX2_as 27 = .ok (.bipush (-2), 2) := dk_16 254 (dk_at dksX2_as_1 4 rfl rfl)
theorem dX2_as_29 : decode cX2_as 29 = .ok (.invokevirtual 124, 3) := dk_182 0 124 (dk_at dksX2_as_1 6 rfl rfl)
theorem dX2_as_32 : decode cX2_as 32 = .ok (.ireturn, 1) := dk_172 (dk_at dksX2_as_1 9 rfl rfl)
theorem dX2_as_33 : decode cX2_as 33 = .ok (.aload_n 0, 1) := dk_42 (dk_at dksX2_as_1 10 rfl rfl)
theorem dX2_as_34 : decode cX2_as 34 = .ok (.getfield 7, 3) := dk_180 0 7 (dk_at dksX2_as_1 11 rfl rfl)
theorem dX2_as_37 : decode cX2_as 37 = .ok (.iload_n 1, 1) := dk_27 (dk_at dksX2_as_1 14 rfl rfl)
theorem dX2_as_38 : decode cX2_as 38 = .ok (.iaload, 1) := dk_46 (dk_at dksX2_as_1 15 rfl rfl)
theorem dX2_as_39 : decode cX2_as 39 = .ok (.iload_n 2, 1) := dk_28 (dk_at dksX2_as_1 16 rfl rfl)
theorem dX2_as_40 : decode cX2_as 40 = .ok (.if_icmp .lt 11, 3) := dk_161 0 11 (dk_at dksX2_as_1 17 rfl rfl)
theorem dX2_as_43 : decode cX2_as 43 = .ok (.aload_n 0, 1) := dk_42 (dk_at dksX2_as_1 20 rfl rfl)
theorem dX2_as_44 : decode cX2_as 44 = .ok (.iconst 1, 1) := dk_4 (dk_at dksX2_as_1 21 rfl rfl)
theorem dX2_as_45 : decode cX2_as 45 = .ok (.invokevirtual 124, 3) := dk_182 0 124 (dk_at dksX2_as_2 0 rfl rfl)
theorem dX2_as_48 : decode cX2_as 48 = .ok (.goto 8, 3) := dk_167 0 8 (dk_at dksX2_as_2 3 rfl rfl)
theorem dX2_as_51 : decode cX2_as 51 = .ok (.aload_n 0, 1) := dk_42 (dk_at dksX2_as_2 6 rfl rfl)
theorem dX2_as_52 : decode cX2_as 52 = .ok (.iconst 2, 1) := dk_5 (dk_at dksX2_as_2 7 rfl rfl)
theorem dX2_as_53 : decode cX2_as 53 = .ok (.invokevirtual 112, 3) := dk_182 0 112 (dk_at dksX2_as_2 8 rfl rfl)
theorem dX2_as_56 : decode cX2_as 56 = .ok (.ireturn, 1) := dk_172 (dk_at dksX2_as_2 11 rfl rfl)
abbrev cX2_trace : ByteArray := prog_8_method_56_code
def yX2_trace : MethodName := ⟨RX2, "trace", "()I"⟩
theorem dX2_trace_0 : decode cX2_trace 0 = .ok (.aload_n 0, 1) := by decide +kernel
theorem dX2_trace_1 : decode cX2_trace 1 = .ok (.getfield 233, 3) := by decide +kernel
theorem dX2_trace_4 : decode cX2_trace 4 = .ok (.ireturn, 1) := by decide +kernel
abbrev cX2_fault : ByteArray := prog_8_method_57_code
def yX2_fault : MethodName := ⟨RX2, "fault", "()I"⟩
theorem dX2_fault_0 : decode cX2_fault 0 = .ok (.aload_n 0, 1) := by decide +kernel
theorem dX2_fault_1 : decode cX2_fault 1 = .ok (.getfield 79, 3) := by decide +kernel
theorem dX2_fault_4 : decode cX2_fault 4 = .ok (.ireturn, 1) := by decide +kernel
abbrev cX2_many : ByteArray := prog_8_method_58_code
def yX2_many : MethodName := ⟨RX2, "many", "(I)I"⟩
def dkwX2_many_1 : List UInt8 := [16, 254, 172]
abbrev dktX2_many_1 : List UInt8 := dkwX2_many_1 ++ []
def dkwX2_many_0 : List UInt8 := [27, 154, 0, 10, 42, 180, 0, 87, 167, 0, 17, 27, 4, 160, 0, 10, 42, 180, 0, 136, 167, 0, 5]
abbrev dktX2_many_0 : List UInt8 := dkwX2_many_0 ++ dktX2_many_1
theorem dksX2_many_0 : cX2_many.data.toList.drop 0 = dktX2_many_0 := by decide +kernel
theorem dksX2_many_1 : cX2_many.data.toList.drop 23 = dktX2_many_1 := dk_seg dksX2_many_0 23 rfl rfl
theorem dX2_many_0 : decode cX2_many 0 = .ok (.iload_n 1, 1) := dk_27 (dk_at dksX2_many_0 0 rfl rfl)
theorem dX2_many_1 : decode cX2_many 1 = .ok (.ifCond .ne 10, 3) := dk_154 0 10 (dk_at dksX2_many_0 1 rfl rfl)
theorem dX2_many_4 : decode cX2_many 4 = .ok (.aload_n 0, 1) := dk_42 (dk_at dksX2_many_0 4 rfl rfl)
theorem dX2_many_5 : decode cX2_many 5 = .ok (.getfield 87, 3) := dk_180 0 87 (dk_at dksX2_many_0 5 rfl rfl)
theorem dX2_many_8 : decode cX2_many 8 = .ok (.goto 17, 3) := dk_167 0 17 (dk_at dksX2_many_0 8 rfl rfl)
theorem dX2_many_11 : decode cX2_many 11 = .ok (.iload_n 1, 1) := dk_27 (dk_at dksX2_many_0 11 rfl rfl)
theorem dX2_many_12 : decode cX2_many 12 = .ok (.iconst 1, 1) := dk_4 (dk_at dksX2_many_0 12 rfl rfl)
theorem dX2_many_13 : decode cX2_many 13 = .ok (.if_icmp .ne 10, 3) := dk_160 0 10 (dk_at dksX2_many_0 13 rfl rfl)
theorem dX2_many_16 : decode cX2_many 16 = .ok (.aload_n 0, 1) := dk_42 (dk_at dksX2_many_0 16 rfl rfl)
theorem dX2_many_17 : decode cX2_many 17 = .ok (.getfield 136, 3) := dk_180 0 136 (dk_at dksX2_many_0 17 rfl rfl)
theorem dX2_many_20 : decode cX2_many 20 = .ok (.goto 5, 3) := dk_167 0 5 (dk_at dksX2_many_0 20 rfl rfl)
theorem dX2_many_23 : decode cX2_many 23 = .ok (.bipush (-2), 2) := dk_16 254 (dk_at dksX2_many_1 0 rfl rfl)
theorem dX2_many_25 : decode cX2_many 25 = .ok (.ireturn, 1) := dk_172 (dk_at dksX2_many_1 2 rfl rfl)
theorem q74 : (Jvm.Cond.initialized "LentYouthsModel") ∈ lw_all := lw_g (lw_at lw_m1 6 rfl) rfl
theorem q561 : (Jvm.Cond.selects "LentYouthsModel" ({ cls := "java/lang/Object", name := "getClass", desc := "()Ljava/lang/Class;" } : Jvm.MethodName) ({ cls := "java/lang/Object", name := "getClass", desc := "()Ljava/lang/Class;" } : Jvm.MethodName)) ∈ lw_all := lw_g (lw_at lw_m3 13 rfl) rfl
theorem q979 : (Jvm.Cond.instantiable "LentYouthsModel" (30 : Nat)) ∈ lw_all := lw_g (lw_at lw_m4 191 rfl) rfl
theorem q981 : (Jvm.Cond.instanceMethod ({ cls := "LentYouthsModel", name := "<init>", desc := "()V" } : Jvm.MethodName)) ∈ lw_all := lw_g (lw_at lw_m4 193 rfl) rfl
theorem q982 : (Jvm.Cond.code ({ cls := "LentYouthsModel", name := "<init>", desc := "()V" } : Jvm.MethodName) prog_8_method_1_code (2 : Nat) (Option.none : Option Jvm.ClassFile.FieldType)) ∈ lw_all := lw_g (lw_at lw_m4 194 rfl) rfl
theorem q983 : (Jvm.Cond.methodLink "LentYouthsModel" (1 : Nat) ({ cls := "java/lang/Object", name := "<init>", desc := "()V" } : Jvm.MethodName)) ∈ lw_all := lw_g (lw_at lw_m4 195 rfl) rfl
theorem q984 : (Jvm.Cond.fieldLink "LentYouthsModel" (79 : Nat) "LentYouthsModel" "fault" "I") ∈ lw_all := lw_g (lw_at lw_m4 196 rfl) rfl
theorem q985 : (Jvm.Cond.fieldLink "LentYouthsModel" (87 : Nat) "LentYouthsModel" "people" "I") ∈ lw_all := lw_g (lw_at lw_m4 197 rfl) rfl
theorem q986 : (Jvm.Cond.fieldLink "LentYouthsModel" (7 : Nat) "LentYouthsModel" "kindOf" "[I") ∈ lw_all := lw_g (lw_at lw_m4 198 rfl) rfl
theorem q987 : (Jvm.Cond.fieldLink "LentYouthsModel" (13 : Nat) "LentYouthsModel" "scenesOf" "[I") ∈ lw_all := lw_g (lw_at lw_m4 199 rfl) rfl
theorem q988 : (Jvm.Cond.fieldLink "LentYouthsModel" (16 : Nat) "LentYouthsModel" "wantsOf" "[I") ∈ lw_all := lw_g (lw_at lw_m4 200 rfl) rfl
theorem q989 : (Jvm.Cond.fieldLink "LentYouthsModel" (19 : Nat) "LentYouthsModel" "wearOf" "[I") ∈ lw_all := lw_g (lw_at lw_m4 201 rfl) rfl
theorem q990 : (Jvm.Cond.fieldLink "LentYouthsModel" (94 : Nat) "LentYouthsModel" "readAt" "I") ∈ lw_all := lw_g (lw_at lw_m4 202 rfl) rfl
theorem q991 : (Jvm.Cond.fieldLink "LentYouthsModel" (101 : Nat) "LentYouthsModel" "readPeople" "I") ∈ lw_all := lw_g (lw_at lw_m4 203 rfl) rfl
theorem q992 : (Jvm.Cond.fieldLink "LentYouthsModel" (22 : Nat) "LentYouthsModel" "readKind" "[I") ∈ lw_all := lw_g (lw_at lw_m4 204 rfl) rfl
theorem q993 : (Jvm.Cond.fieldLink "LentYouthsModel" (25 : Nat) "LentYouthsModel" "readScenes" "[I") ∈ lw_all := lw_g (lw_at lw_m4 205 rfl) rfl
theorem q994 : (Jvm.Cond.fieldLink "LentYouthsModel" (28 : Nat) "LentYouthsModel" "readWants" "[I") ∈ lw_all := lw_g (lw_at lw_m4 206 rfl) rfl
theorem q995 : (Jvm.Cond.fieldLink "LentYouthsModel" (31 : Nat) "LentYouthsModel" "readWear" "[I") ∈ lw_all := lw_g (lw_at lw_m4 207 rfl) rfl
theorem q996 : (Jvm.Cond.fieldLink "LentYouthsModel" (34 : Nat) "LentYouthsModel" "hasNow" "[I") ∈ lw_all := lw_g (lw_at lw_m4 208 rfl) rfl
theorem q997 : (Jvm.Cond.fieldLink "LentYouthsModel" (37 : Nat) "LentYouthsModel" "leftIn" "[I") ∈ lw_all := lw_g (lw_at lw_m4 209 rfl) rfl
theorem q998 : (Jvm.Cond.fieldLink "LentYouthsModel" (40 : Nat) "LentYouthsModel" "lentOf" "[I") ∈ lw_all := lw_g (lw_at lw_m4 210 rfl) rfl
theorem q999 : (Jvm.Cond.fieldLink "LentYouthsModel" (43 : Nat) "LentYouthsModel" "knowsNow" "[I") ∈ lw_all := lw_g (lw_at lw_m4 211 rfl) rfl
theorem q1000 : (Jvm.Cond.fieldLink "LentYouthsModel" (46 : Nat) "LentYouthsModel" "cameBy" "[I") ∈ lw_all := lw_g (lw_at lw_m4 212 rfl) rfl
theorem q1001 : (Jvm.Cond.fieldLink "LentYouthsModel" (159 : Nat) "LentYouthsModel" "firstWrong" "I") ∈ lw_all := lw_g (lw_at lw_m4 213 rfl) rfl
theorem q1002 : (Jvm.Cond.fieldLink "LentYouthsModel" (162 : Nat) "LentYouthsModel" "firstAll" "I") ∈ lw_all := lw_g (lw_at lw_m4 214 rfl) rfl
theorem q1003 : (Jvm.Cond.fieldLink "LentYouthsModel" (49 : Nat) "LentYouthsModel" "triedOf" "[I") ∈ lw_all := lw_g (lw_at lw_m4 215 rfl) rfl
theorem q1004 : (Jvm.Cond.fieldLink "LentYouthsModel" (52 : Nat) "LentYouthsModel" "getsOf" "[I") ∈ lw_all := lw_g (lw_at lw_m4 216 rfl) rfl
theorem q1005 : (Jvm.Cond.fieldLink "LentYouthsModel" (136 : Nat) "LentYouthsModel" "readings" "I") ∈ lw_all := lw_g (lw_at lw_m4 217 rfl) rfl
theorem q1006 : (Jvm.Cond.fieldLink "LentYouthsModel" (55 : Nat) "LentYouthsModel" "readingOf" "[I") ∈ lw_all := lw_g (lw_at lw_m4 218 rfl) rfl
theorem q1007 : (Jvm.Cond.fieldLink "LentYouthsModel" (58 : Nat) "LentYouthsModel" "readingScene" "[I") ∈ lw_all := lw_g (lw_at lw_m4 219 rfl) rfl
theorem q1008 : (Jvm.Cond.fieldLink "LentYouthsModel" (61 : Nat) "LentYouthsModel" "readingKnew" "[Z") ∈ lw_all := lw_g (lw_at lw_m4 220 rfl) rfl
theorem q1009 : (Jvm.Cond.fieldLink "LentYouthsModel" (65 : Nat) "LentYouthsModel" "sheetSize" "[I") ∈ lw_all := lw_g (lw_at lw_m4 221 rfl) rfl
theorem q1010 : (Jvm.Cond.fieldLink "LentYouthsModel" (68 : Nat) "LentYouthsModel" "sheetLane" "[I") ∈ lw_all := lw_g (lw_at lw_m4 222 rfl) rfl
theorem q1011 : (Jvm.Cond.fieldLink "LentYouthsModel" (71 : Nat) "LentYouthsModel" "sheet" "[I") ∈ lw_all := lw_g (lw_at lw_m4 223 rfl) rfl
theorem q1012 : (Jvm.Cond.fieldLink "LentYouthsModel" (74 : Nat) "LentYouthsModel" "hands" "[I") ∈ lw_all := lw_g (lw_at lw_m4 224 rfl) rfl
theorem q1013 : (Jvm.Cond.fieldLink "LentYouthsModel" (233 : Nat) "LentYouthsModel" "traceNow" "I") ∈ lw_all := lw_g (lw_at lw_m4 225 rfl) rfl
theorem q1014 : (Jvm.Cond.lays "LentYouthsModel" "LentYouthsModel" "fault" "I") ∈ lw_all := lw_g (lw_at lw_m4 226 rfl) rfl
theorem q1015 : (Jvm.Cond.soleField "LentYouthsModel" "fault") ∈ lw_all := lw_g (lw_at lw_m4 227 rfl) rfl
theorem q1016 : (Jvm.Cond.lays "LentYouthsModel" "LentYouthsModel" "people" "I") ∈ lw_all := lw_g (lw_at lw_m4 228 rfl) rfl
theorem q1017 : (Jvm.Cond.soleField "LentYouthsModel" "people") ∈ lw_all := lw_g (lw_at lw_m4 229 rfl) rfl
theorem q1018 : (Jvm.Cond.laysFinal "LentYouthsModel" "LentYouthsModel" "kindOf" "[I") ∈ lw_all := lw_g (lw_at lw_m4 230 rfl) rfl
theorem q1019 : (Jvm.Cond.soleField "LentYouthsModel" "kindOf") ∈ lw_all := lw_g (lw_at lw_m4 231 rfl) rfl
theorem q1020 : (Jvm.Cond.laysFinal "LentYouthsModel" "LentYouthsModel" "scenesOf" "[I") ∈ lw_all := lw_g (lw_at lw_m4 232 rfl) rfl
theorem q1021 : (Jvm.Cond.soleField "LentYouthsModel" "scenesOf") ∈ lw_all := lw_g (lw_at lw_m4 233 rfl) rfl
theorem q1022 : (Jvm.Cond.laysFinal "LentYouthsModel" "LentYouthsModel" "wantsOf" "[I") ∈ lw_all := lw_g (lw_at lw_m4 234 rfl) rfl
theorem q1023 : (Jvm.Cond.soleField "LentYouthsModel" "wantsOf") ∈ lw_all := lw_g (lw_at lw_m4 235 rfl) rfl
theorem q1024 : (Jvm.Cond.laysFinal "LentYouthsModel" "LentYouthsModel" "wearOf" "[I") ∈ lw_all := lw_g (lw_at lw_m4 236 rfl) rfl
theorem q1025 : (Jvm.Cond.soleField "LentYouthsModel" "wearOf") ∈ lw_all := lw_g (lw_at lw_m4 237 rfl) rfl
theorem q1026 : (Jvm.Cond.lays "LentYouthsModel" "LentYouthsModel" "readAt" "I") ∈ lw_all := lw_g (lw_at lw_m4 238 rfl) rfl
theorem q1027 : (Jvm.Cond.soleField "LentYouthsModel" "readAt") ∈ lw_all := lw_g (lw_at lw_m4 239 rfl) rfl
theorem q1028 : (Jvm.Cond.lays "LentYouthsModel" "LentYouthsModel" "readPeople" "I") ∈ lw_all := lw_g (lw_at lw_m5 0 rfl) rfl
theorem q1029 : (Jvm.Cond.soleField "LentYouthsModel" "readPeople") ∈ lw_all := lw_g (lw_at lw_m5 1 rfl) rfl
theorem q1030 : (Jvm.Cond.laysFinal "LentYouthsModel" "LentYouthsModel" "readKind" "[I") ∈ lw_all := lw_g (lw_at lw_m5 2 rfl) rfl
theorem q1031 : (Jvm.Cond.soleField "LentYouthsModel" "readKind") ∈ lw_all := lw_g (lw_at lw_m5 3 rfl) rfl
theorem q1032 : (Jvm.Cond.laysFinal "LentYouthsModel" "LentYouthsModel" "readScenes" "[I") ∈ lw_all := lw_g (lw_at lw_m5 4 rfl) rfl
theorem q1033 : (Jvm.Cond.soleField "LentYouthsModel" "readScenes") ∈ lw_all := lw_g (lw_at lw_m5 5 rfl) rfl
theorem q1034 : (Jvm.Cond.laysFinal "LentYouthsModel" "LentYouthsModel" "readWants" "[I") ∈ lw_all := lw_g (lw_at lw_m5 6 rfl) rfl
theorem q1035 : (Jvm.Cond.soleField "LentYouthsModel" "readWants") ∈ lw_all := lw_g (lw_at lw_m5 7 rfl) rfl
theorem q1036 : (Jvm.Cond.laysFinal "LentYouthsModel" "LentYouthsModel" "readWear" "[I") ∈ lw_all := lw_g (lw_at lw_m5 8 rfl) rfl
theorem q1037 : (Jvm.Cond.soleField "LentYouthsModel" "readWear") ∈ lw_all := lw_g (lw_at lw_m5 9 rfl) rfl
theorem q1038 : (Jvm.Cond.laysFinal "LentYouthsModel" "LentYouthsModel" "hasNow" "[I") ∈ lw_all := lw_g (lw_at lw_m5 10 rfl) rfl
theorem q1039 : (Jvm.Cond.soleField "LentYouthsModel" "hasNow") ∈ lw_all := lw_g (lw_at lw_m5 11 rfl) rfl
theorem q1040 : (Jvm.Cond.laysFinal "LentYouthsModel" "LentYouthsModel" "leftIn" "[I") ∈ lw_all := lw_g (lw_at lw_m5 12 rfl) rfl
theorem q1041 : (Jvm.Cond.soleField "LentYouthsModel" "leftIn") ∈ lw_all := lw_g (lw_at lw_m5 13 rfl) rfl
theorem q1042 : (Jvm.Cond.laysFinal "LentYouthsModel" "LentYouthsModel" "lentOf" "[I") ∈ lw_all := lw_g (lw_at lw_m5 14 rfl) rfl
theorem q1043 : (Jvm.Cond.soleField "LentYouthsModel" "lentOf") ∈ lw_all := lw_g (lw_at lw_m5 15 rfl) rfl
theorem q1044 : (Jvm.Cond.laysFinal "LentYouthsModel" "LentYouthsModel" "knowsNow" "[I") ∈ lw_all := lw_g (lw_at lw_m5 16 rfl) rfl
theorem q1045 : (Jvm.Cond.soleField "LentYouthsModel" "knowsNow") ∈ lw_all := lw_g (lw_at lw_m5 17 rfl) rfl
theorem q1046 : (Jvm.Cond.laysFinal "LentYouthsModel" "LentYouthsModel" "cameBy" "[I") ∈ lw_all := lw_g (lw_at lw_m5 18 rfl) rfl
theorem q1047 : (Jvm.Cond.soleField "LentYouthsModel" "cameBy") ∈ lw_all := lw_g (lw_at lw_m5 19 rfl) rfl
theorem q1048 : (Jvm.Cond.lays "LentYouthsModel" "LentYouthsModel" "firstWrong" "I") ∈ lw_all := lw_g (lw_at lw_m5 20 rfl) rfl
theorem q1049 : (Jvm.Cond.soleField "LentYouthsModel" "firstWrong") ∈ lw_all := lw_g (lw_at lw_m5 21 rfl) rfl
theorem q1050 : (Jvm.Cond.lays "LentYouthsModel" "LentYouthsModel" "firstAll" "I") ∈ lw_all := lw_g (lw_at lw_m5 22 rfl) rfl
theorem q1051 : (Jvm.Cond.soleField "LentYouthsModel" "firstAll") ∈ lw_all := lw_g (lw_at lw_m5 23 rfl) rfl
theorem q1052 : (Jvm.Cond.laysFinal "LentYouthsModel" "LentYouthsModel" "triedOf" "[I") ∈ lw_all := lw_g (lw_at lw_m5 24 rfl) rfl
theorem q1053 : (Jvm.Cond.soleField "LentYouthsModel" "triedOf") ∈ lw_all := lw_g (lw_at lw_m5 25 rfl) rfl
theorem q1054 : (Jvm.Cond.laysFinal "LentYouthsModel" "LentYouthsModel" "getsOf" "[I") ∈ lw_all := lw_g (lw_at lw_m5 26 rfl) rfl
theorem q1055 : (Jvm.Cond.soleField "LentYouthsModel" "getsOf") ∈ lw_all := lw_g (lw_at lw_m5 27 rfl) rfl
theorem q1056 : (Jvm.Cond.lays "LentYouthsModel" "LentYouthsModel" "readings" "I") ∈ lw_all := lw_g (lw_at lw_m5 28 rfl) rfl
theorem q1057 : (Jvm.Cond.soleField "LentYouthsModel" "readings") ∈ lw_all := lw_g (lw_at lw_m5 29 rfl) rfl
theorem q1058 : (Jvm.Cond.laysFinal "LentYouthsModel" "LentYouthsModel" "readingOf" "[I") ∈ lw_all := lw_g (lw_at lw_m5 30 rfl) rfl
theorem q1059 : (Jvm.Cond.soleField "LentYouthsModel" "readingOf") ∈ lw_all := lw_g (lw_at lw_m5 31 rfl) rfl
theorem q1060 : (Jvm.Cond.laysFinal "LentYouthsModel" "LentYouthsModel" "readingScene" "[I") ∈ lw_all := lw_g (lw_at lw_m5 32 rfl) rfl
theorem q1061 : (Jvm.Cond.soleField "LentYouthsModel" "readingScene") ∈ lw_all := lw_g (lw_at lw_m5 33 rfl) rfl
theorem q1062 : (Jvm.Cond.laysFinal "LentYouthsModel" "LentYouthsModel" "readingKnew" "[Z") ∈ lw_all := lw_g (lw_at lw_m5 34 rfl) rfl
theorem q1063 : (Jvm.Cond.soleField "LentYouthsModel" "readingKnew") ∈ lw_all := lw_g (lw_at lw_m5 35 rfl) rfl
theorem q1064 : (Jvm.Cond.laysFinal "LentYouthsModel" "LentYouthsModel" "sheetSize" "[I") ∈ lw_all := lw_g (lw_at lw_m5 36 rfl) rfl
theorem q1065 : (Jvm.Cond.soleField "LentYouthsModel" "sheetSize") ∈ lw_all := lw_g (lw_at lw_m5 37 rfl) rfl
theorem q1066 : (Jvm.Cond.laysFinal "LentYouthsModel" "LentYouthsModel" "sheetLane" "[I") ∈ lw_all := lw_g (lw_at lw_m5 38 rfl) rfl
theorem q1067 : (Jvm.Cond.soleField "LentYouthsModel" "sheetLane") ∈ lw_all := lw_g (lw_at lw_m5 39 rfl) rfl
theorem q1068 : (Jvm.Cond.laysFinal "LentYouthsModel" "LentYouthsModel" "sheet" "[I") ∈ lw_all := lw_g (lw_at lw_m5 40 rfl) rfl
theorem q1069 : (Jvm.Cond.soleField "LentYouthsModel" "sheet") ∈ lw_all := lw_g (lw_at lw_m5 41 rfl) rfl
theorem q1070 : (Jvm.Cond.laysFinal "LentYouthsModel" "LentYouthsModel" "hands" "[I") ∈ lw_all := lw_g (lw_at lw_m5 42 rfl) rfl
theorem q1071 : (Jvm.Cond.soleField "LentYouthsModel" "hands") ∈ lw_all := lw_g (lw_at lw_m5 43 rfl) rfl
theorem q1072 : (Jvm.Cond.lays "LentYouthsModel" "LentYouthsModel" "traceNow" "I") ∈ lw_all := lw_g (lw_at lw_m5 44 rfl) rfl
theorem q1073 : (Jvm.Cond.soleField "LentYouthsModel" "traceNow") ∈ lw_all := lw_g (lw_at lw_m5 45 rfl) rfl
theorem q1074 : (Jvm.Cond.superclass "LentYouthsModel" "java/lang/Object") ∈ lw_all := lw_g (lw_at lw_m5 46 rfl) rfl
theorem q1076 : (Jvm.Cond.instanceMethod ({ cls := "LentYouthsModel", name := "counter", desc := "(IIII)I" } : Jvm.MethodName)) ∈ lw_all := lw_g (lw_at lw_m5 48 rfl) rfl
theorem q1077 : (Jvm.Cond.selects "LentYouthsModel" ({ cls := "LentYouthsModel", name := "counter", desc := "(IIII)I" } : Jvm.MethodName) ({ cls := "LentYouthsModel", name := "counter", desc := "(IIII)I" } : Jvm.MethodName)) ∈ lw_all := lw_g (lw_at lw_m5 49 rfl) rfl
theorem q1078 : (Jvm.Cond.code ({ cls := "LentYouthsModel", name := "counter", desc := "(IIII)I" } : Jvm.MethodName) prog_8_method_14_code (7 : Nat) (Option.some Jvm.ClassFile.FieldType.int)) ∈ lw_all := lw_g (lw_at lw_m5 50 rfl) rfl
theorem q1079 : (Jvm.Cond.methodLink "LentYouthsModel" (120 : Nat) ({ cls := "LentYouthsModel", name := "noSheet", desc := "(I)Z" } : Jvm.MethodName)) ∈ lw_all := lw_g (lw_at lw_m5 51 rfl) rfl
theorem q1080 : (Jvm.Cond.static ({ cls := "LentYouthsModel", name := "noSheet", desc := "(I)Z" } : Jvm.MethodName)) ∈ lw_all := lw_g (lw_at lw_m5 52 rfl) rfl
theorem q1081 : (Jvm.Cond.code ({ cls := "LentYouthsModel", name := "noSheet", desc := "(I)Z" } : Jvm.MethodName) prog_8_method_44_code (1 : Nat) (Option.some Jvm.ClassFile.FieldType.boolean)) ∈ lw_all := lw_g (lw_at lw_m5 53 rfl) rfl
theorem q1082 : (Jvm.Cond.constantLong "LentYouthsModel" (185 : Nat) (3 : Int64)) ∈ lw_all := lw_g (lw_at lw_m5 54 rfl) rfl
theorem q1083 : (Jvm.Cond.methodLink "LentYouthsModel" (90 : Nat) ({ cls := "LentYouthsModel", name := "in", desc := "(JJJ)Z" } : Jvm.MethodName)) ∈ lw_all := lw_g (lw_at lw_m5 55 rfl) rfl
theorem q1084 : (Jvm.Cond.static ({ cls := "LentYouthsModel", name := "in", desc := "(JJJ)Z" } : Jvm.MethodName)) ∈ lw_all := lw_g (lw_at lw_m5 56 rfl) rfl
theorem q1085 : (Jvm.Cond.code ({ cls := "LentYouthsModel", name := "in", desc := "(JJJ)Z" } : Jvm.MethodName) prog_8_method_2_code (6 : Nat) (Option.some Jvm.ClassFile.FieldType.boolean)) ∈ lw_all := lw_g (lw_at lw_m5 57 rfl) rfl
theorem q1086 : (Jvm.Cond.methodLink "LentYouthsModel" (124 : Nat) ({ cls := "LentYouthsModel", name := "refused", desc := "(I)I" } : Jvm.MethodName)) ∈ lw_all := lw_g (lw_at lw_m5 58 rfl) rfl
theorem q1087 : (Jvm.Cond.privateMethod ({ cls := "LentYouthsModel", name := "refused", desc := "(I)I" } : Jvm.MethodName)) ∈ lw_tbl := lw_at lw_m5 59 rfl
theorem q1088 : (Jvm.Cond.instanceMethod ({ cls := "LentYouthsModel", name := "refused", desc := "(I)I" } : Jvm.MethodName)) ∈ lw_all := lw_g (lw_at lw_m5 60 rfl) rfl
theorem q1089 : (Jvm.Cond.code ({ cls := "LentYouthsModel", name := "refused", desc := "(I)I" } : Jvm.MethodName) prog_8_method_5_code (2 : Nat) (Option.some Jvm.ClassFile.FieldType.int)) ∈ lw_all := lw_g (lw_at lw_m5 61 rfl) rfl
theorem q1090 : (Jvm.Cond.constantLong "LentYouthsModel" (127 : Nat) (2 : Int64)) ∈ lw_all := lw_g (lw_at lw_m5 62 rfl) rfl
theorem q1091 : (Jvm.Cond.methodLink "LentYouthsModel" (129 : Nat) ({ cls := "LentYouthsModel", name := "cellsBarred", desc := "(IIIJ)I" } : Jvm.MethodName)) ∈ lw_all := lw_g (lw_at lw_m5 63 rfl) rfl
theorem q1092 : (Jvm.Cond.privateMethod ({ cls := "LentYouthsModel", name := "cellsBarred", desc := "(IIIJ)I" } : Jvm.MethodName)) ∈ lw_tbl := lw_at lw_m5 64 rfl
theorem q1093 : (Jvm.Cond.instanceMethod ({ cls := "LentYouthsModel", name := "cellsBarred", desc := "(IIIJ)I" } : Jvm.MethodName)) ∈ lw_all := lw_g (lw_at lw_m5 65 rfl) rfl
theorem q1094 : (Jvm.Cond.code ({ cls := "LentYouthsModel", name := "cellsBarred", desc := "(IIIJ)I" } : Jvm.MethodName) prog_8_method_13_code (6 : Nat) (Option.some Jvm.ClassFile.FieldType.int)) ∈ lw_all := lw_g (lw_at lw_m5 66 rfl) rfl
theorem q1095 : (Jvm.Cond.methodLink "LentYouthsModel" (112 : Nat) ({ cls := "LentYouthsModel", name := "failed", desc := "(I)I" } : Jvm.MethodName)) ∈ lw_all := lw_g (lw_at lw_m5 67 rfl) rfl
theorem q1096 : (Jvm.Cond.privateMethod ({ cls := "LentYouthsModel", name := "failed", desc := "(I)I" } : Jvm.MethodName)) ∈ lw_tbl := lw_at lw_m5 68 rfl
theorem q1097 : (Jvm.Cond.instanceMethod ({ cls := "LentYouthsModel", name := "failed", desc := "(I)I" } : Jvm.MethodName)) ∈ lw_all := lw_g (lw_at lw_m5 69 rfl) rfl
theorem q1098 : (Jvm.Cond.code ({ cls := "LentYouthsModel", name := "failed", desc := "(I)I" } : Jvm.MethodName) prog_8_method_6_code (2 : Nat) (Option.some Jvm.ClassFile.FieldType.int)) ∈ lw_all := lw_g (lw_at lw_m5 70 rfl) rfl
theorem q1099 : (Jvm.Cond.methodLink "LentYouthsModel" (116 : Nat) ({ cls := "LentYouthsModel", name := "isBeyond", desc := "(IJI)Z" } : Jvm.MethodName)) ∈ lw_all := lw_g (lw_at lw_m5 71 rfl) rfl
theorem q1100 : (Jvm.Cond.static ({ cls := "LentYouthsModel", name := "isBeyond", desc := "(IJI)Z" } : Jvm.MethodName)) ∈ lw_all := lw_g (lw_at lw_m5 72 rfl) rfl
theorem q1101 : (Jvm.Cond.code ({ cls := "LentYouthsModel", name := "isBeyond", desc := "(IJI)Z" } : Jvm.MethodName) prog_8_method_50_code (4 : Nat) (Option.some Jvm.ClassFile.FieldType.boolean)) ∈ lw_all := lw_g (lw_at lw_m5 73 rfl) rfl
theorem q1102 : (Jvm.Cond.methodLink "LentYouthsModel" (133 : Nat) ({ cls := "LentYouthsModel", name := "readsCounter", desc := "(II)Z" } : Jvm.MethodName)) ∈ lw_all := lw_g (lw_at lw_m5 74 rfl) rfl
theorem q1103 : (Jvm.Cond.privateMethod ({ cls := "LentYouthsModel", name := "readsCounter", desc := "(II)Z" } : Jvm.MethodName)) ∈ lw_tbl := lw_at lw_m5 75 rfl
theorem q1104 : (Jvm.Cond.instanceMethod ({ cls := "LentYouthsModel", name := "readsCounter", desc := "(II)Z" } : Jvm.MethodName)) ∈ lw_all := lw_g (lw_at lw_m5 76 rfl) rfl
theorem q1105 : (Jvm.Cond.code ({ cls := "LentYouthsModel", name := "readsCounter", desc := "(II)Z" } : Jvm.MethodName) prog_8_method_12_code (4 : Nat) (Option.some Jvm.ClassFile.FieldType.boolean)) ∈ lw_all := lw_g (lw_at lw_m5 77 rfl) rfl
theorem q1106 : (Jvm.Cond.methodLink "LentYouthsModel" (97 : Nat) ({ cls := "LentYouthsModel", name := "codeAt", desc := "(II)I" } : Jvm.MethodName)) ∈ lw_all := lw_g (lw_at lw_m5 78 rfl) rfl
theorem q1107 : (Jvm.Cond.privateMethod ({ cls := "LentYouthsModel", name := "codeAt", desc := "(II)I" } : Jvm.MethodName)) ∈ lw_tbl := lw_at lw_m5 79 rfl
theorem q1108 : (Jvm.Cond.instanceMethod ({ cls := "LentYouthsModel", name := "codeAt", desc := "(II)I" } : Jvm.MethodName)) ∈ lw_all := lw_g (lw_at lw_m5 80 rfl) rfl
theorem q1109 : (Jvm.Cond.code ({ cls := "LentYouthsModel", name := "codeAt", desc := "(II)I" } : Jvm.MethodName) prog_8_method_9_code (3 : Nat) (Option.some Jvm.ClassFile.FieldType.int)) ∈ lw_all := lw_g (lw_at lw_m5 81 rfl) rfl
theorem q1110 : (Jvm.Cond.methodLink "LentYouthsModel" (108 : Nat) ({ cls := "LentYouthsModel", name := "readsPerson", desc := "(II)Z" } : Jvm.MethodName)) ∈ lw_all := lw_g (lw_at lw_m5 82 rfl) rfl
theorem q1111 : (Jvm.Cond.privateMethod ({ cls := "LentYouthsModel", name := "readsPerson", desc := "(II)Z" } : Jvm.MethodName)) ∈ lw_tbl := lw_at lw_m5 83 rfl
theorem q1112 : (Jvm.Cond.instanceMethod ({ cls := "LentYouthsModel", name := "readsPerson", desc := "(II)Z" } : Jvm.MethodName)) ∈ lw_all := lw_g (lw_at lw_m5 84 rfl) rfl
theorem q1113 : (Jvm.Cond.code ({ cls := "LentYouthsModel", name := "readsPerson", desc := "(II)Z" } : Jvm.MethodName) prog_8_method_11_code (8 : Nat) (Option.some Jvm.ClassFile.FieldType.boolean)) ∈ lw_all := lw_g (lw_at lw_m5 85 rfl) rfl
theorem q1114 : (Jvm.Cond.methodLink "LentYouthsModel" (104 : Nat) ({ cls := "LentYouthsModel", name := "figure", desc := "(IIII)I" } : Jvm.MethodName)) ∈ lw_all := lw_g (lw_at lw_m5 86 rfl) rfl
theorem q1115 : (Jvm.Cond.privateMethod ({ cls := "LentYouthsModel", name := "figure", desc := "(IIII)I" } : Jvm.MethodName)) ∈ lw_tbl := lw_at lw_m5 87 rfl
theorem q1116 : (Jvm.Cond.instanceMethod ({ cls := "LentYouthsModel", name := "figure", desc := "(IIII)I" } : Jvm.MethodName)) ∈ lw_all := lw_g (lw_at lw_m5 88 rfl) rfl
theorem q1117 : (Jvm.Cond.code ({ cls := "LentYouthsModel", name := "figure", desc := "(IIII)I" } : Jvm.MethodName) prog_8_method_10_code (7 : Nat) (Option.some Jvm.ClassFile.FieldType.int)) ∈ lw_all := lw_g (lw_at lw_m5 89 rfl) rfl
theorem q1119 : (Jvm.Cond.instanceMethod ({ cls := "LentYouthsModel", name := "ofPerson", desc := "(II)I" } : Jvm.MethodName)) ∈ lw_all := lw_g (lw_at lw_m5 91 rfl) rfl
theorem q1120 : (Jvm.Cond.selects "LentYouthsModel" ({ cls := "LentYouthsModel", name := "ofPerson", desc := "(II)I" } : Jvm.MethodName) ({ cls := "LentYouthsModel", name := "ofPerson", desc := "(II)I" } : Jvm.MethodName)) ∈ lw_all := lw_g (lw_at lw_m5 92 rfl) rfl
theorem q1121 : (Jvm.Cond.code ({ cls := "LentYouthsModel", name := "ofPerson", desc := "(II)I" } : Jvm.MethodName) prog_8_method_16_code (3 : Nat) (Option.some Jvm.ClassFile.FieldType.int)) ∈ lw_all := lw_g (lw_at lw_m5 93 rfl) rfl
theorem q1122 : (Jvm.Cond.methodLink "LentYouthsModel" (139 : Nat) ({ cls := "LentYouthsModel", name := "noPerson", desc := "(I)Z" } : Jvm.MethodName)) ∈ lw_all := lw_g (lw_at lw_m5 94 rfl) rfl
theorem q1123 : (Jvm.Cond.privateMethod ({ cls := "LentYouthsModel", name := "noPerson", desc := "(I)Z" } : Jvm.MethodName)) ∈ lw_tbl := lw_at lw_m5 95 rfl
theorem q1124 : (Jvm.Cond.instanceMethod ({ cls := "LentYouthsModel", name := "noPerson", desc := "(I)Z" } : Jvm.MethodName)) ∈ lw_all := lw_g (lw_at lw_m5 96 rfl) rfl
theorem q1125 : (Jvm.Cond.code ({ cls := "LentYouthsModel", name := "noPerson", desc := "(I)Z" } : Jvm.MethodName) prog_8_method_8_code (2 : Nat) (Option.some Jvm.ClassFile.FieldType.boolean)) ∈ lw_all := lw_g (lw_at lw_m5 97 rfl) rfl
theorem q1126 : (Jvm.Cond.methodLink "LentYouthsModel" (142 : Nat) ({ cls := "LentYouthsModel", name := "lastsOf", desc := "(I)I" } : Jvm.MethodName)) ∈ lw_all := lw_g (lw_at lw_m5 98 rfl) rfl
theorem q1127 : (Jvm.Cond.privateMethod ({ cls := "LentYouthsModel", name := "lastsOf", desc := "(I)I" } : Jvm.MethodName)) ∈ lw_tbl := lw_at lw_m5 99 rfl
theorem q1128 : (Jvm.Cond.instanceMethod ({ cls := "LentYouthsModel", name := "lastsOf", desc := "(I)I" } : Jvm.MethodName)) ∈ lw_all := lw_g (lw_at lw_m5 100 rfl) rfl
theorem q1129 : (Jvm.Cond.code ({ cls := "LentYouthsModel", name := "lastsOf", desc := "(I)I" } : Jvm.MethodName) prog_8_method_15_code (3 : Nat) (Option.some Jvm.ClassFile.FieldType.int)) ∈ lw_all := lw_g (lw_at lw_m5 101 rfl) rfl
theorem q1131 : (Jvm.Cond.instanceMethod ({ cls := "LentYouthsModel", name := "live", desc := "(II)I" } : Jvm.MethodName)) ∈ lw_all := lw_g (lw_at lw_m5 103 rfl) rfl
theorem q1132 : (Jvm.Cond.selects "LentYouthsModel" ({ cls := "LentYouthsModel", name := "live", desc := "(II)I" } : Jvm.MethodName) ({ cls := "LentYouthsModel", name := "live", desc := "(II)I" } : Jvm.MethodName)) ∈ lw_all := lw_g (lw_at lw_m5 104 rfl) rfl
theorem q1133 : (Jvm.Cond.code ({ cls := "LentYouthsModel", name := "live", desc := "(II)I" } : Jvm.MethodName) prog_8_method_17_code (4 : Nat) (Option.some Jvm.ClassFile.FieldType.int)) ∈ lw_all := lw_g (lw_at lw_m5 105 rfl) rfl
theorem q1134 : (Jvm.Cond.constantLong "LentYouthsModel" (145 : Nat) (63 : Int64)) ∈ lw_all := lw_g (lw_at lw_m5 106 rfl) rfl
theorem q1136 : (Jvm.Cond.instanceMethod ({ cls := "LentYouthsModel", name := "want", desc := "(II)I" } : Jvm.MethodName)) ∈ lw_all := lw_g (lw_at lw_m5 108 rfl) rfl
theorem q1137 : (Jvm.Cond.selects "LentYouthsModel" ({ cls := "LentYouthsModel", name := "want", desc := "(II)I" } : Jvm.MethodName) ({ cls := "LentYouthsModel", name := "want", desc := "(II)I" } : Jvm.MethodName)) ∈ lw_all := lw_g (lw_at lw_m5 109 rfl) rfl
theorem q1138 : (Jvm.Cond.code ({ cls := "LentYouthsModel", name := "want", desc := "(II)I" } : Jvm.MethodName) prog_8_method_18_code (4 : Nat) (Option.some Jvm.ClassFile.FieldType.int)) ∈ lw_all := lw_g (lw_at lw_m5 110 rfl) rfl
theorem q1139 : (Jvm.Cond.constantLong "LentYouthsModel" (147 : Nat) (6 : Int64)) ∈ lw_all := lw_g (lw_at lw_m5 111 rfl) rfl
theorem q1141 : (Jvm.Cond.instanceMethod ({ cls := "LentYouthsModel", name := "loans", desc := "(IIIII)I" } : Jvm.MethodName)) ∈ lw_all := lw_g (lw_at lw_m5 113 rfl) rfl
theorem q1142 : (Jvm.Cond.selects "LentYouthsModel" ({ cls := "LentYouthsModel", name := "loans", desc := "(IIIII)I" } : Jvm.MethodName) ({ cls := "LentYouthsModel", name := "loans", desc := "(IIIII)I" } : Jvm.MethodName)) ∈ lw_all := lw_g (lw_at lw_m5 114 rfl) rfl
theorem q1143 : (Jvm.Cond.code ({ cls := "LentYouthsModel", name := "loans", desc := "(IIIII)I" } : Jvm.MethodName) prog_8_method_30_code (9 : Nat) (Option.some Jvm.ClassFile.FieldType.int)) ∈ lw_all := lw_g (lw_at lw_m5 115 rfl) rfl
theorem q1144 : (Jvm.Cond.constantLong "LentYouthsModel" (187 : Nat) (10 : Int64)) ∈ lw_all := lw_g (lw_at lw_m5 116 rfl) rfl
theorem q1145 : (Jvm.Cond.constantLong "LentYouthsModel" (189 : Nat) (15 : Int64)) ∈ lw_all := lw_g (lw_at lw_m5 117 rfl) rfl
theorem q1146 : (Jvm.Cond.constantLong "LentYouthsModel" (191 : Nat) (20 : Int64)) ∈ lw_all := lw_g (lw_at lw_m5 118 rfl) rfl
theorem q1147 : (Jvm.Cond.constantLong "LentYouthsModel" (193 : Nat) (25 : Int64)) ∈ lw_all := lw_g (lw_at lw_m5 119 rfl) rfl
theorem q1148 : (Jvm.Cond.constantLong "LentYouthsModel" (195 : Nat) (30 : Int64)) ∈ lw_all := lw_g (lw_at lw_m5 120 rfl) rfl
theorem q1149 : (Jvm.Cond.constantLong "LentYouthsModel" (197 : Nat) (35 : Int64)) ∈ lw_all := lw_g (lw_at lw_m5 121 rfl) rfl
theorem q1150 : (Jvm.Cond.methodLink "LentYouthsModel" (199 : Nat) ({ cls := "LentYouthsModel", name := "pairsBarred", desc := "(IIII)I" } : Jvm.MethodName)) ∈ lw_all := lw_g (lw_at lw_m5 122 rfl) rfl
theorem q1151 : (Jvm.Cond.privateMethod ({ cls := "LentYouthsModel", name := "pairsBarred", desc := "(IIII)I" } : Jvm.MethodName)) ∈ lw_tbl := lw_at lw_m5 123 rfl
theorem q1152 : (Jvm.Cond.instanceMethod ({ cls := "LentYouthsModel", name := "pairsBarred", desc := "(IIII)I" } : Jvm.MethodName)) ∈ lw_all := lw_g (lw_at lw_m5 124 rfl) rfl
theorem q1153 : (Jvm.Cond.code ({ cls := "LentYouthsModel", name := "pairsBarred", desc := "(IIII)I" } : Jvm.MethodName) prog_8_method_29_code (7 : Nat) (Option.some Jvm.ClassFile.FieldType.int)) ∈ lw_all := lw_g (lw_at lw_m5 125 rfl) rfl
theorem q1154 : (Jvm.Cond.methodLink "LentYouthsModel" (202 : Nat) ({ cls := "LentYouthsModel", name := "goLoans", desc := "(II)V" } : Jvm.MethodName)) ∈ lw_all := lw_g (lw_at lw_m5 126 rfl) rfl
theorem q1155 : (Jvm.Cond.privateMethod ({ cls := "LentYouthsModel", name := "goLoans", desc := "(II)V" } : Jvm.MethodName)) ∈ lw_tbl := lw_at lw_m5 127 rfl
theorem q1156 : (Jvm.Cond.instanceMethod ({ cls := "LentYouthsModel", name := "goLoans", desc := "(II)V" } : Jvm.MethodName)) ∈ lw_all := lw_g (lw_at lw_m5 128 rfl) rfl
theorem q1157 : (Jvm.Cond.code ({ cls := "LentYouthsModel", name := "goLoans", desc := "(II)V" } : Jvm.MethodName) prog_8_method_27_code (7 : Nat) (Option.none : Option Jvm.ClassFile.FieldType)) ∈ lw_all := lw_g (lw_at lw_m5 129 rfl) rfl
theorem q1158 : (Jvm.Cond.methodLink "LentYouthsModel" (168 : Nat) ({ cls := "LentYouthsModel", name := "begin", desc := "()V" } : Jvm.MethodName)) ∈ lw_all := lw_g (lw_at lw_m5 130 rfl) rfl
theorem q1159 : (Jvm.Cond.privateMethod ({ cls := "LentYouthsModel", name := "begin", desc := "()V" } : Jvm.MethodName)) ∈ lw_tbl := lw_at lw_m5 131 rfl
theorem q1160 : (Jvm.Cond.instanceMethod ({ cls := "LentYouthsModel", name := "begin", desc := "()V" } : Jvm.MethodName)) ∈ lw_all := lw_g (lw_at lw_m5 132 rfl) rfl
theorem q1161 : (Jvm.Cond.code ({ cls := "LentYouthsModel", name := "begin", desc := "()V" } : Jvm.MethodName) prog_8_method_23_code (2 : Nat) (Option.none : Option Jvm.ClassFile.FieldType)) ∈ lw_all := lw_g (lw_at lw_m5 133 rfl) rfl
theorem q1162 : (Jvm.Cond.methodLink "LentYouthsModel" (155 : Nat) ({ cls := "LentYouthsModel", name := "sees", desc := "(I)V" } : Jvm.MethodName)) ∈ lw_all := lw_g (lw_at lw_m5 134 rfl) rfl
theorem q1163 : (Jvm.Cond.privateMethod ({ cls := "LentYouthsModel", name := "sees", desc := "(I)V" } : Jvm.MethodName)) ∈ lw_tbl := lw_at lw_m5 135 rfl
theorem q1164 : (Jvm.Cond.instanceMethod ({ cls := "LentYouthsModel", name := "sees", desc := "(I)V" } : Jvm.MethodName)) ∈ lw_all := lw_g (lw_at lw_m5 136 rfl) rfl
theorem q1165 : (Jvm.Cond.code ({ cls := "LentYouthsModel", name := "sees", desc := "(I)V" } : Jvm.MethodName) prog_8_method_22_code (3 : Nat) (Option.none : Option Jvm.ClassFile.FieldType)) ∈ lw_all := lw_g (lw_at lw_m5 137 rfl) rfl
theorem q1166 : (Jvm.Cond.methodLink "LentYouthsModel" (149 : Nat) ({ cls := "LentYouthsModel", name := "isIn", desc := "(II)Z" } : Jvm.MethodName)) ∈ lw_all := lw_g (lw_at lw_m5 138 rfl) rfl
theorem q1167 : (Jvm.Cond.static ({ cls := "LentYouthsModel", name := "isIn", desc := "(II)Z" } : Jvm.MethodName)) ∈ lw_all := lw_g (lw_at lw_m5 139 rfl) rfl
theorem q1168 : (Jvm.Cond.code ({ cls := "LentYouthsModel", name := "isIn", desc := "(II)Z" } : Jvm.MethodName) prog_8_method_4_code (2 : Nat) (Option.some Jvm.ClassFile.FieldType.boolean)) ∈ lw_all := lw_g (lw_at lw_m5 140 rfl) rfl
theorem q1169 : (Jvm.Cond.methodLink "LentYouthsModel" (171 : Nat) ({ cls := "LentYouthsModel", name := "mendedNow", desc := "()I" } : Jvm.MethodName)) ∈ lw_all := lw_g (lw_at lw_m5 141 rfl) rfl
theorem q1170 : (Jvm.Cond.privateMethod ({ cls := "LentYouthsModel", name := "mendedNow", desc := "()I" } : Jvm.MethodName)) ∈ lw_tbl := lw_at lw_m5 142 rfl
theorem q1171 : (Jvm.Cond.instanceMethod ({ cls := "LentYouthsModel", name := "mendedNow", desc := "()I" } : Jvm.MethodName)) ∈ lw_all := lw_g (lw_at lw_m5 143 rfl) rfl
theorem q1172 : (Jvm.Cond.code ({ cls := "LentYouthsModel", name := "mendedNow", desc := "()I" } : Jvm.MethodName) prog_8_method_20_code (3 : Nat) (Option.some Jvm.ClassFile.FieldType.int)) ∈ lw_all := lw_g (lw_at lw_m5 144 rfl) rfl
theorem q1173 : (Jvm.Cond.methodLink "LentYouthsModel" (152 : Nat) ({ cls := "LentYouthsModel", name := "isMended", desc := "(I)Z" } : Jvm.MethodName)) ∈ lw_all := lw_g (lw_at lw_m5 145 rfl) rfl
theorem q1174 : (Jvm.Cond.privateMethod ({ cls := "LentYouthsModel", name := "isMended", desc := "(I)Z" } : Jvm.MethodName)) ∈ lw_tbl := lw_at lw_m5 146 rfl
theorem q1175 : (Jvm.Cond.instanceMethod ({ cls := "LentYouthsModel", name := "isMended", desc := "(I)Z" } : Jvm.MethodName)) ∈ lw_all := lw_g (lw_at lw_m5 147 rfl) rfl
theorem q1176 : (Jvm.Cond.code ({ cls := "LentYouthsModel", name := "isMended", desc := "(I)Z" } : Jvm.MethodName) prog_8_method_19_code (2 : Nat) (Option.some Jvm.ClassFile.FieldType.boolean)) ∈ lw_all := lw_g (lw_at lw_m5 148 rfl) rfl
theorem q1177 : (Jvm.Cond.methodLink "LentYouthsModel" (175 : Nat) ({ cls := "LentYouthsModel", name := "everybody", desc := "()I" } : Jvm.MethodName)) ∈ lw_all := lw_g (lw_at lw_m5 149 rfl) rfl
theorem q1178 : (Jvm.Cond.privateMethod ({ cls := "LentYouthsModel", name := "everybody", desc := "()I" } : Jvm.MethodName)) ∈ lw_tbl := lw_at lw_m5 150 rfl
theorem q1179 : (Jvm.Cond.instanceMethod ({ cls := "LentYouthsModel", name := "everybody", desc := "()I" } : Jvm.MethodName)) ∈ lw_all := lw_g (lw_at lw_m5 151 rfl) rfl
theorem q1180 : (Jvm.Cond.code ({ cls := "LentYouthsModel", name := "everybody", desc := "()I" } : Jvm.MethodName) prog_8_method_21_code (1 : Nat) (Option.some Jvm.ClassFile.FieldType.int)) ∈ lw_all := lw_g (lw_at lw_m5 152 rfl) rfl
theorem q1181 : (Jvm.Cond.methodLink "LentYouthsModel" (178 : Nat) ({ cls := "LentYouthsModel", name := "canLend", desc := "(II)Z" } : Jvm.MethodName)) ∈ lw_all := lw_g (lw_at lw_m5 153 rfl) rfl
theorem q1182 : (Jvm.Cond.privateMethod ({ cls := "LentYouthsModel", name := "canLend", desc := "(II)Z" } : Jvm.MethodName)) ∈ lw_tbl := lw_at lw_m5 154 rfl
theorem q1183 : (Jvm.Cond.instanceMethod ({ cls := "LentYouthsModel", name := "canLend", desc := "(II)Z" } : Jvm.MethodName)) ∈ lw_all := lw_g (lw_at lw_m5 155 rfl) rfl
theorem q1184 : (Jvm.Cond.code ({ cls := "LentYouthsModel", name := "canLend", desc := "(II)Z" } : Jvm.MethodName) prog_8_method_24_code (3 : Nat) (Option.some Jvm.ClassFile.FieldType.boolean)) ∈ lw_all := lw_g (lw_at lw_m5 156 rfl) rfl
theorem q1185 : (Jvm.Cond.methodLink "LentYouthsModel" (181 : Nat) ({ cls := "LentYouthsModel", name := "lend", desc := "(II)V" } : Jvm.MethodName)) ∈ lw_all := lw_g (lw_at lw_m5 157 rfl) rfl
theorem q1186 : (Jvm.Cond.privateMethod ({ cls := "LentYouthsModel", name := "lend", desc := "(II)V" } : Jvm.MethodName)) ∈ lw_tbl := lw_at lw_m5 158 rfl
theorem q1187 : (Jvm.Cond.instanceMethod ({ cls := "LentYouthsModel", name := "lend", desc := "(II)V" } : Jvm.MethodName)) ∈ lw_all := lw_g (lw_at lw_m5 159 rfl) rfl
theorem q1188 : (Jvm.Cond.code ({ cls := "LentYouthsModel", name := "lend", desc := "(II)V" } : Jvm.MethodName) prog_8_method_26_code (4 : Nat) (Option.none : Option Jvm.ClassFile.FieldType)) ∈ lw_all := lw_g (lw_at lw_m5 160 rfl) rfl
theorem q1189 : (Jvm.Cond.methodLink "LentYouthsModel" (165 : Nat) ({ cls := "LentYouthsModel", name := "wearsOff", desc := "(I)V" } : Jvm.MethodName)) ∈ lw_all := lw_g (lw_at lw_m5 161 rfl) rfl
theorem q1190 : (Jvm.Cond.privateMethod ({ cls := "LentYouthsModel", name := "wearsOff", desc := "(I)V" } : Jvm.MethodName)) ∈ lw_tbl := lw_at lw_m5 162 rfl
theorem q1191 : (Jvm.Cond.instanceMethod ({ cls := "LentYouthsModel", name := "wearsOff", desc := "(I)V" } : Jvm.MethodName)) ∈ lw_all := lw_g (lw_at lw_m5 163 rfl) rfl
theorem q1192 : (Jvm.Cond.code ({ cls := "LentYouthsModel", name := "wearsOff", desc := "(I)V" } : Jvm.MethodName) prog_8_method_25_code (2 : Nat) (Option.none : Option Jvm.ClassFile.FieldType)) ∈ lw_all := lw_g (lw_at lw_m5 164 rfl) rfl
theorem q1193 : (Jvm.Cond.methodLink "LentYouthsModel" (205 : Nat) ({ cls := "LentYouthsModel", name := "homeBy", desc := "()I" } : Jvm.MethodName)) ∈ lw_all := lw_g (lw_at lw_m5 165 rfl) rfl
theorem q1194 : (Jvm.Cond.privateMethod ({ cls := "LentYouthsModel", name := "homeBy", desc := "()I" } : Jvm.MethodName)) ∈ lw_tbl := lw_at lw_m5 166 rfl
theorem q1195 : (Jvm.Cond.instanceMethod ({ cls := "LentYouthsModel", name := "homeBy", desc := "()I" } : Jvm.MethodName)) ∈ lw_all := lw_g (lw_at lw_m5 167 rfl) rfl
theorem q1196 : (Jvm.Cond.code ({ cls := "LentYouthsModel", name := "homeBy", desc := "()I" } : Jvm.MethodName) prog_8_method_28_code (5 : Nat) (Option.some Jvm.ClassFile.FieldType.int)) ∈ lw_all := lw_g (lw_at lw_m5 168 rfl) rfl
theorem q1198 : (Jvm.Cond.instanceMethod ({ cls := "LentYouthsModel", name := "fewest", desc := "(II)I" } : Jvm.MethodName)) ∈ lw_all := lw_g (lw_at lw_m5 170 rfl) rfl
theorem q1199 : (Jvm.Cond.selects "LentYouthsModel" ({ cls := "LentYouthsModel", name := "fewest", desc := "(II)I" } : Jvm.MethodName) ({ cls := "LentYouthsModel", name := "fewest", desc := "(II)I" } : Jvm.MethodName)) ∈ lw_all := lw_g (lw_at lw_m5 171 rfl) rfl
theorem q1200 : (Jvm.Cond.code ({ cls := "LentYouthsModel", name := "fewest", desc := "(II)I" } : Jvm.MethodName) prog_8_method_32_code (6 : Nat) (Option.some Jvm.ClassFile.FieldType.int)) ∈ lw_all := lw_g (lw_at lw_m5 172 rfl) rfl
theorem q1201 : (Jvm.Cond.constantLong "LentYouthsModel" (208 : Nat) (-1 : Int64)) ∈ lw_all := lw_g (lw_at lw_m5 173 rfl) rfl
theorem q1202 : (Jvm.Cond.methodLink "LentYouthsModel" (210 : Nat) ({ cls := "LentYouthsModel", name := "isRow", desc := "(III)Z" } : Jvm.MethodName)) ∈ lw_all := lw_g (lw_at lw_m5 174 rfl) rfl
theorem q1203 : (Jvm.Cond.privateMethod ({ cls := "LentYouthsModel", name := "isRow", desc := "(III)Z" } : Jvm.MethodName)) ∈ lw_tbl := lw_at lw_m5 175 rfl
theorem q1204 : (Jvm.Cond.instanceMethod ({ cls := "LentYouthsModel", name := "isRow", desc := "(III)Z" } : Jvm.MethodName)) ∈ lw_all := lw_g (lw_at lw_m5 176 rfl) rfl
theorem q1205 : (Jvm.Cond.code ({ cls := "LentYouthsModel", name := "isRow", desc := "(III)Z" } : Jvm.MethodName) prog_8_method_31_code (9 : Nat) (Option.some Jvm.ClassFile.FieldType.boolean)) ∈ lw_all := lw_g (lw_at lw_m5 177 rfl) rfl
theorem q1207 : (Jvm.Cond.instanceMethod ({ cls := "LentYouthsModel", name := "match", desc := "(I)I" } : Jvm.MethodName)) ∈ lw_all := lw_g (lw_at lw_m5 179 rfl) rfl
theorem q1208 : (Jvm.Cond.selects "LentYouthsModel" ({ cls := "LentYouthsModel", name := "match", desc := "(I)I" } : Jvm.MethodName) ({ cls := "LentYouthsModel", name := "match", desc := "(I)I" } : Jvm.MethodName)) ∈ lw_all := lw_g (lw_at lw_m5 180 rfl) rfl
theorem q1209 : (Jvm.Cond.code ({ cls := "LentYouthsModel", name := "match", desc := "(I)I" } : Jvm.MethodName) prog_8_method_34_code (7 : Nat) (Option.some Jvm.ClassFile.FieldType.int)) ∈ lw_all := lw_g (lw_at lw_m5 181 rfl) rfl
theorem q1210 : (Jvm.Cond.methodLink "LentYouthsModel" (214 : Nat) ({ cls := "LentYouthsModel", name := "matchBy", desc := "(I)I" } : Jvm.MethodName)) ∈ lw_all := lw_g (lw_at lw_m5 182 rfl) rfl
theorem q1211 : (Jvm.Cond.privateMethod ({ cls := "LentYouthsModel", name := "matchBy", desc := "(I)I" } : Jvm.MethodName)) ∈ lw_tbl := lw_at lw_m5 183 rfl
theorem q1212 : (Jvm.Cond.instanceMethod ({ cls := "LentYouthsModel", name := "matchBy", desc := "(I)I" } : Jvm.MethodName)) ∈ lw_all := lw_g (lw_at lw_m5 184 rfl) rfl
theorem q1213 : (Jvm.Cond.code ({ cls := "LentYouthsModel", name := "matchBy", desc := "(I)I" } : Jvm.MethodName) prog_8_method_33_code (8 : Nat) (Option.some Jvm.ClassFile.FieldType.int)) ∈ lw_all := lw_g (lw_at lw_m5 185 rfl) rfl
theorem q1215 : (Jvm.Cond.instanceMethod ({ cls := "LentYouthsModel", name := "help", desc := "(I)I" } : Jvm.MethodName)) ∈ lw_all := lw_g (lw_at lw_m5 187 rfl) rfl
theorem q1216 : (Jvm.Cond.selects "LentYouthsModel" ({ cls := "LentYouthsModel", name := "help", desc := "(I)I" } : Jvm.MethodName) ({ cls := "LentYouthsModel", name := "help", desc := "(I)I" } : Jvm.MethodName)) ∈ lw_all := lw_g (lw_at lw_m5 188 rfl) rfl
theorem q1217 : (Jvm.Cond.code ({ cls := "LentYouthsModel", name := "help", desc := "(I)I" } : Jvm.MethodName) prog_8_method_35_code (5 : Nat) (Option.some Jvm.ClassFile.FieldType.int)) ∈ lw_all := lw_g (lw_at lw_m5 189 rfl) rfl
theorem q1219 : (Jvm.Cond.instanceMethod ({ cls := "LentYouthsModel", name := "reading", desc := "(IIZ)I" } : Jvm.MethodName)) ∈ lw_all := lw_g (lw_at lw_m5 191 rfl) rfl
theorem q1220 : (Jvm.Cond.selects "LentYouthsModel" ({ cls := "LentYouthsModel", name := "reading", desc := "(IIZ)I" } : Jvm.MethodName) ({ cls := "LentYouthsModel", name := "reading", desc := "(IIZ)I" } : Jvm.MethodName)) ∈ lw_all := lw_g (lw_at lw_m5 192 rfl) rfl
theorem q1221 : (Jvm.Cond.code ({ cls := "LentYouthsModel", name := "reading", desc := "(IIZ)I" } : Jvm.MethodName) prog_8_method_36_code (4 : Nat) (Option.some Jvm.ClassFile.FieldType.int)) ∈ lw_all := lw_g (lw_at lw_m5 193 rfl) rfl
theorem q1222 : (Jvm.Cond.constantLong "LentYouthsModel" (217 : Nat) (5 : Int64)) ∈ lw_all := lw_g (lw_at lw_m5 194 rfl) rfl
theorem q1224 : (Jvm.Cond.instanceMethod ({ cls := "LentYouthsModel", name := "back", desc := "(I)I" } : Jvm.MethodName)) ∈ lw_all := lw_g (lw_at lw_m5 196 rfl) rfl
theorem q1225 : (Jvm.Cond.selects "LentYouthsModel" ({ cls := "LentYouthsModel", name := "back", desc := "(I)I" } : Jvm.MethodName) ({ cls := "LentYouthsModel", name := "back", desc := "(I)I" } : Jvm.MethodName)) ∈ lw_all := lw_g (lw_at lw_m5 197 rfl) rfl
theorem q1226 : (Jvm.Cond.code ({ cls := "LentYouthsModel", name := "back", desc := "(I)I" } : Jvm.MethodName) prog_8_method_37_code (2 : Nat) (Option.some Jvm.ClassFile.FieldType.int)) ∈ lw_all := lw_g (lw_at lw_m5 198 rfl) rfl
theorem q1228 : (Jvm.Cond.instanceMethod ({ cls := "LentYouthsModel", name := "told", desc := "(IIIIII)I" } : Jvm.MethodName)) ∈ lw_all := lw_g (lw_at lw_m5 200 rfl) rfl
theorem q1229 : (Jvm.Cond.selects "LentYouthsModel" ({ cls := "LentYouthsModel", name := "told", desc := "(IIIIII)I" } : Jvm.MethodName) ({ cls := "LentYouthsModel", name := "told", desc := "(IIIIII)I" } : Jvm.MethodName)) ∈ lw_all := lw_g (lw_at lw_m5 201 rfl) rfl
theorem q1230 : (Jvm.Cond.code ({ cls := "LentYouthsModel", name := "told", desc := "(IIIIII)I" } : Jvm.MethodName) prog_8_method_40_code (12 : Nat) (Option.some Jvm.ClassFile.FieldType.int)) ∈ lw_all := lw_g (lw_at lw_m5 202 rfl) rfl
theorem q1231 : (Jvm.Cond.methodLink "LentYouthsModel" (219 : Nat) ({ cls := "LentYouthsModel", name := "seenBarred", desc := "(IIIIIZ)I" } : Jvm.MethodName)) ∈ lw_all := lw_g (lw_at lw_m5 203 rfl) rfl
theorem q1232 : (Jvm.Cond.privateMethod ({ cls := "LentYouthsModel", name := "seenBarred", desc := "(IIIIIZ)I" } : Jvm.MethodName)) ∈ lw_tbl := lw_at lw_m5 204 rfl
theorem q1233 : (Jvm.Cond.instanceMethod ({ cls := "LentYouthsModel", name := "seenBarred", desc := "(IIIIIZ)I" } : Jvm.MethodName)) ∈ lw_all := lw_g (lw_at lw_m5 205 rfl) rfl
theorem q1234 : (Jvm.Cond.code ({ cls := "LentYouthsModel", name := "seenBarred", desc := "(IIIIIZ)I" } : Jvm.MethodName) prog_8_method_39_code (7 : Nat) (Option.some Jvm.ClassFile.FieldType.int)) ∈ lw_all := lw_g (lw_at lw_m5 206 rfl) rfl
theorem q1235 : (Jvm.Cond.methodLink "LentYouthsModel" (223 : Nat) ({ cls := "LentYouthsModel", name := "areSo", desc := "(II)Z" } : Jvm.MethodName)) ∈ lw_all := lw_g (lw_at lw_m5 207 rfl) rfl
theorem q1236 : (Jvm.Cond.privateMethod ({ cls := "LentYouthsModel", name := "areSo", desc := "(II)Z" } : Jvm.MethodName)) ∈ lw_tbl := lw_at lw_m5 208 rfl
theorem q1237 : (Jvm.Cond.instanceMethod ({ cls := "LentYouthsModel", name := "areSo", desc := "(II)Z" } : Jvm.MethodName)) ∈ lw_all := lw_g (lw_at lw_m5 209 rfl) rfl
theorem q1238 : (Jvm.Cond.code ({ cls := "LentYouthsModel", name := "areSo", desc := "(II)Z" } : Jvm.MethodName) prog_8_method_38_code (5 : Nat) (Option.some Jvm.ClassFile.FieldType.boolean)) ∈ lw_all := lw_g (lw_at lw_m5 210 rfl) rfl
theorem q1240 : (Jvm.Cond.instanceMethod ({ cls := "LentYouthsModel", name := "kinds", desc := "(IIIII)I" } : Jvm.MethodName)) ∈ lw_all := lw_g (lw_at lw_m5 212 rfl) rfl
theorem q1241 : (Jvm.Cond.selects "LentYouthsModel" ({ cls := "LentYouthsModel", name := "kinds", desc := "(IIIII)I" } : Jvm.MethodName) ({ cls := "LentYouthsModel", name := "kinds", desc := "(IIIII)I" } : Jvm.MethodName)) ∈ lw_all := lw_g (lw_at lw_m5 213 rfl) rfl
theorem q1242 : (Jvm.Cond.code ({ cls := "LentYouthsModel", name := "kinds", desc := "(IIIII)I" } : Jvm.MethodName) prog_8_method_41_code (10 : Nat) (Option.some Jvm.ClassFile.FieldType.int)) ∈ lw_all := lw_g (lw_at lw_m5 214 rfl) rfl
theorem q1244 : (Jvm.Cond.instanceMethod ({ cls := "LentYouthsModel", name := "wears", desc := "(IIIII)I" } : Jvm.MethodName)) ∈ lw_all := lw_g (lw_at lw_m5 216 rfl) rfl
theorem q1245 : (Jvm.Cond.selects "LentYouthsModel" ({ cls := "LentYouthsModel", name := "wears", desc := "(IIIII)I" } : Jvm.MethodName) ({ cls := "LentYouthsModel", name := "wears", desc := "(IIIII)I" } : Jvm.MethodName)) ∈ lw_all := lw_g (lw_at lw_m5 217 rfl) rfl
theorem q1246 : (Jvm.Cond.code ({ cls := "LentYouthsModel", name := "wears", desc := "(IIIII)I" } : Jvm.MethodName) prog_8_method_42_code (10 : Nat) (Option.some Jvm.ClassFile.FieldType.int)) ∈ lw_all := lw_g (lw_at lw_m5 218 rfl) rfl
theorem q1248 : (Jvm.Cond.instanceMethod ({ cls := "LentYouthsModel", name := "odds", desc := "(IIIIII)J" } : Jvm.MethodName)) ∈ lw_all := lw_g (lw_at lw_m5 220 rfl) rfl
theorem q1249 : (Jvm.Cond.selects "LentYouthsModel" ({ cls := "LentYouthsModel", name := "odds", desc := "(IIIIII)J" } : Jvm.MethodName) ({ cls := "LentYouthsModel", name := "odds", desc := "(IIIIII)J" } : Jvm.MethodName)) ∈ lw_all := lw_g (lw_at lw_m5 221 rfl) rfl
theorem q1250 : (Jvm.Cond.code ({ cls := "LentYouthsModel", name := "odds", desc := "(IIIIII)J" } : Jvm.MethodName) prog_8_method_43_code (9 : Nat) (Option.some Jvm.ClassFile.FieldType.long)) ∈ lw_all := lw_g (lw_at lw_m5 222 rfl) rfl
theorem q1251 : (Jvm.Cond.methodLink "LentYouthsModel" (83 : Nat) ({ cls := "LentYouthsModel", name := "lost", desc := "()J" } : Jvm.MethodName)) ∈ lw_all := lw_g (lw_at lw_m5 223 rfl) rfl
theorem q1252 : (Jvm.Cond.static ({ cls := "LentYouthsModel", name := "lost", desc := "()J" } : Jvm.MethodName)) ∈ lw_all := lw_g (lw_at lw_m5 224 rfl) rfl
theorem q1253 : (Jvm.Cond.code ({ cls := "LentYouthsModel", name := "lost", desc := "()J" } : Jvm.MethodName) prog_8_method_3_code (0 : Nat) (Option.some Jvm.ClassFile.FieldType.long)) ∈ lw_all := lw_g (lw_at lw_m5 225 rfl) rfl
theorem q1254 : (Jvm.Cond.constantLong "LentYouthsModel" (77 : Nat) (-9223372036854775808 : Int64)) ∈ lw_all := lw_g (lw_at lw_m5 226 rfl) rfl
theorem q1256 : (Jvm.Cond.instanceMethod ({ cls := "LentYouthsModel", name := "sheet", desc := "(III)I" } : Jvm.MethodName)) ∈ lw_all := lw_g (lw_at lw_m5 228 rfl) rfl
theorem q1257 : (Jvm.Cond.selects "LentYouthsModel" ({ cls := "LentYouthsModel", name := "sheet", desc := "(III)I" } : Jvm.MethodName) ({ cls := "LentYouthsModel", name := "sheet", desc := "(III)I" } : Jvm.MethodName)) ∈ lw_all := lw_g (lw_at lw_m5 229 rfl) rfl
theorem q1258 : (Jvm.Cond.code ({ cls := "LentYouthsModel", name := "sheet", desc := "(III)I" } : Jvm.MethodName) prog_8_method_45_code (5 : Nat) (Option.some Jvm.ClassFile.FieldType.int)) ∈ lw_all := lw_g (lw_at lw_m5 230 rfl) rfl
theorem q1260 : (Jvm.Cond.instanceMethod ({ cls := "LentYouthsModel", name := "lose", desc := "(I)I" } : Jvm.MethodName)) ∈ lw_all := lw_g (lw_at lw_m5 232 rfl) rfl
theorem q1261 : (Jvm.Cond.selects "LentYouthsModel" ({ cls := "LentYouthsModel", name := "lose", desc := "(I)I" } : Jvm.MethodName) ({ cls := "LentYouthsModel", name := "lose", desc := "(I)I" } : Jvm.MethodName)) ∈ lw_all := lw_g (lw_at lw_m5 233 rfl) rfl
theorem q1262 : (Jvm.Cond.code ({ cls := "LentYouthsModel", name := "lose", desc := "(I)I" } : Jvm.MethodName) prog_8_method_46_code (3 : Nat) (Option.some Jvm.ClassFile.FieldType.int)) ∈ lw_all := lw_g (lw_at lw_m5 234 rfl) rfl
theorem q1264 : (Jvm.Cond.instanceMethod ({ cls := "LentYouthsModel", name := "put", desc := "(III)I" } : Jvm.MethodName)) ∈ lw_all := lw_g (lw_at lw_m5 236 rfl) rfl
theorem q1265 : (Jvm.Cond.selects "LentYouthsModel" ({ cls := "LentYouthsModel", name := "put", desc := "(III)I" } : Jvm.MethodName) ({ cls := "LentYouthsModel", name := "put", desc := "(III)I" } : Jvm.MethodName)) ∈ lw_all := lw_g (lw_at lw_m5 237 rfl) rfl
theorem q1266 : (Jvm.Cond.code ({ cls := "LentYouthsModel", name := "put", desc := "(III)I" } : Jvm.MethodName) prog_8_method_48_code (4 : Nat) (Option.some Jvm.ClassFile.FieldType.int)) ∈ lw_all := lw_g (lw_at lw_m5 238 rfl) rfl
theorem q1267 : (Jvm.Cond.methodLink "LentYouthsModel" (226 : Nat) ({ cls := "LentYouthsModel", name := "noCell", desc := "(II)I" } : Jvm.MethodName)) ∈ lw_all := lw_g (lw_at lw_m5 239 rfl) rfl
theorem q1268 : (Jvm.Cond.privateMethod ({ cls := "LentYouthsModel", name := "noCell", desc := "(II)I" } : Jvm.MethodName)) ∈ lw_tbl := lw_at lw_m6 0 rfl
theorem q1269 : (Jvm.Cond.instanceMethod ({ cls := "LentYouthsModel", name := "noCell", desc := "(II)I" } : Jvm.MethodName)) ∈ lw_all := lw_g (lw_at lw_m6 1 rfl) rfl
theorem q1270 : (Jvm.Cond.code ({ cls := "LentYouthsModel", name := "noCell", desc := "(II)I" } : Jvm.MethodName) prog_8_method_47_code (3 : Nat) (Option.some Jvm.ClassFile.FieldType.int)) ∈ lw_all := lw_g (lw_at lw_m6 2 rfl) rfl
theorem q1272 : (Jvm.Cond.instanceMethod ({ cls := "LentYouthsModel", name := "cell", desc := "(III)J" } : Jvm.MethodName)) ∈ lw_all := lw_g (lw_at lw_m6 4 rfl) rfl
theorem q1273 : (Jvm.Cond.selects "LentYouthsModel" ({ cls := "LentYouthsModel", name := "cell", desc := "(III)J" } : Jvm.MethodName) ({ cls := "LentYouthsModel", name := "cell", desc := "(III)J" } : Jvm.MethodName)) ∈ lw_all := lw_g (lw_at lw_m6 5 rfl) rfl
theorem q1274 : (Jvm.Cond.code ({ cls := "LentYouthsModel", name := "cell", desc := "(III)J" } : Jvm.MethodName) prog_8_method_49_code (4 : Nat) (Option.some Jvm.ClassFile.FieldType.long)) ∈ lw_all := lw_g (lw_at lw_m6 6 rfl) rfl
theorem q1275 : (Jvm.Cond.methodLink "LentYouthsModel" (229 : Nat) ({ cls := "LentYouthsModel", name := "failedLong", desc := "(I)J" } : Jvm.MethodName)) ∈ lw_all := lw_g (lw_at lw_m6 7 rfl) rfl
theorem q1276 : (Jvm.Cond.privateMethod ({ cls := "LentYouthsModel", name := "failedLong", desc := "(I)J" } : Jvm.MethodName)) ∈ lw_tbl := lw_at lw_m6 8 rfl
theorem q1277 : (Jvm.Cond.instanceMethod ({ cls := "LentYouthsModel", name := "failedLong", desc := "(I)J" } : Jvm.MethodName)) ∈ lw_all := lw_g (lw_at lw_m6 9 rfl) rfl
theorem q1278 : (Jvm.Cond.code ({ cls := "LentYouthsModel", name := "failedLong", desc := "(I)J" } : Jvm.MethodName) prog_8_method_7_code (2 : Nat) (Option.some Jvm.ClassFile.FieldType.long)) ∈ lw_all := lw_g (lw_at lw_m6 10 rfl) rfl
theorem q1280 : (Jvm.Cond.instanceMethod ({ cls := "LentYouthsModel", name := "copy", desc := "(IIIII)I" } : Jvm.MethodName)) ∈ lw_all := lw_g (lw_at lw_m6 12 rfl) rfl
theorem q1281 : (Jvm.Cond.selects "LentYouthsModel" ({ cls := "LentYouthsModel", name := "copy", desc := "(IIIII)I" } : Jvm.MethodName) ({ cls := "LentYouthsModel", name := "copy", desc := "(IIIII)I" } : Jvm.MethodName)) ∈ lw_all := lw_g (lw_at lw_m6 13 rfl) rfl
theorem q1282 : (Jvm.Cond.code ({ cls := "LentYouthsModel", name := "copy", desc := "(IIIII)I" } : Jvm.MethodName) prog_8_method_51_code (7 : Nat) (Option.some Jvm.ClassFile.FieldType.int)) ∈ lw_all := lw_g (lw_at lw_m6 14 rfl) rfl
theorem q1284 : (Jvm.Cond.instanceMethod ({ cls := "LentYouthsModel", name := "tell", desc := "(I)I" } : Jvm.MethodName)) ∈ lw_all := lw_g (lw_at lw_m6 16 rfl) rfl
theorem q1285 : (Jvm.Cond.selects "LentYouthsModel" ({ cls := "LentYouthsModel", name := "tell", desc := "(I)I" } : Jvm.MethodName) ({ cls := "LentYouthsModel", name := "tell", desc := "(I)I" } : Jvm.MethodName)) ∈ lw_all := lw_g (lw_at lw_m6 17 rfl) rfl
theorem q1286 : (Jvm.Cond.code ({ cls := "LentYouthsModel", name := "tell", desc := "(I)I" } : Jvm.MethodName) prog_8_method_53_code (4 : Nat) (Option.some Jvm.ClassFile.FieldType.int)) ∈ lw_all := lw_g (lw_at lw_m6 18 rfl) rfl
theorem q1287 : (Jvm.Cond.methodLink "LentYouthsModel" (236 : Nat) ({ cls := "LentYouthsModel", name := "traced", desc := "(I)V" } : Jvm.MethodName)) ∈ lw_all := lw_g (lw_at lw_m6 19 rfl) rfl
theorem q1288 : (Jvm.Cond.privateMethod ({ cls := "LentYouthsModel", name := "traced", desc := "(I)V" } : Jvm.MethodName)) ∈ lw_tbl := lw_at lw_m6 20 rfl
theorem q1289 : (Jvm.Cond.instanceMethod ({ cls := "LentYouthsModel", name := "traced", desc := "(I)V" } : Jvm.MethodName)) ∈ lw_all := lw_g (lw_at lw_m6 21 rfl) rfl
theorem q1290 : (Jvm.Cond.code ({ cls := "LentYouthsModel", name := "traced", desc := "(I)V" } : Jvm.MethodName) prog_8_method_52_code (2 : Nat) (Option.none : Option Jvm.ClassFile.FieldType)) ∈ lw_all := lw_g (lw_at lw_m6 22 rfl) rfl
theorem q1292 : (Jvm.Cond.instanceMethod ({ cls := "LentYouthsModel", name := "hand", desc := "(I)I" } : Jvm.MethodName)) ∈ lw_all := lw_g (lw_at lw_m6 24 rfl) rfl
theorem q1293 : (Jvm.Cond.selects "LentYouthsModel" ({ cls := "LentYouthsModel", name := "hand", desc := "(I)I" } : Jvm.MethodName) ({ cls := "LentYouthsModel", name := "hand", desc := "(I)I" } : Jvm.MethodName)) ∈ lw_all := lw_g (lw_at lw_m6 25 rfl) rfl
theorem q1294 : (Jvm.Cond.code ({ cls := "LentYouthsModel", name := "hand", desc := "(I)I" } : Jvm.MethodName) prog_8_method_54_code (2 : Nat) (Option.some Jvm.ClassFile.FieldType.int)) ∈ lw_all := lw_g (lw_at lw_m6 26 rfl) rfl
theorem q1296 : (Jvm.Cond.instanceMethod ({ cls := "LentYouthsModel", name := "as", desc := "(II)I" } : Jvm.MethodName)) ∈ lw_all := lw_g (lw_at lw_m6 28 rfl) rfl
theorem q1297 : (Jvm.Cond.selects "LentYouthsModel" ({ cls := "LentYouthsModel", name := "as", desc := "(II)I" } : Jvm.MethodName) ({ cls := "LentYouthsModel", name := "as", desc := "(II)I" } : Jvm.MethodName)) ∈ lw_all := lw_g (lw_at lw_m6 29 rfl) rfl
theorem q1298 : (Jvm.Cond.code ({ cls := "LentYouthsModel", name := "as", desc := "(II)I" } : Jvm.MethodName) prog_8_method_55_code (3 : Nat) (Option.some Jvm.ClassFile.FieldType.int)) ∈ lw_all := lw_g (lw_at lw_m6 30 rfl) rfl
theorem q1300 : (Jvm.Cond.instanceMethod ({ cls := "LentYouthsModel", name := "trace", desc := "()I" } : Jvm.MethodName)) ∈ lw_all := lw_g (lw_at lw_m6 32 rfl) rfl
theorem q1301 : (Jvm.Cond.selects "LentYouthsModel" ({ cls := "LentYouthsModel", name := "trace", desc := "()I" } : Jvm.MethodName) ({ cls := "LentYouthsModel", name := "trace", desc := "()I" } : Jvm.MethodName)) ∈ lw_all := lw_g (lw_at lw_m6 33 rfl) rfl
theorem q1302 : (Jvm.Cond.code ({ cls := "LentYouthsModel", name := "trace", desc := "()I" } : Jvm.MethodName) prog_8_method_56_code (1 : Nat) (Option.some Jvm.ClassFile.FieldType.int)) ∈ lw_all := lw_g (lw_at lw_m6 34 rfl) rfl
theorem q1304 : (Jvm.Cond.instanceMethod ({ cls := "LentYouthsModel", name := "fault", desc := "()I" } : Jvm.MethodName)) ∈ lw_all := lw_g (lw_at lw_m6 36 rfl) rfl
theorem q1305 : (Jvm.Cond.selects "LentYouthsModel" ({ cls := "LentYouthsModel", name := "fault", desc := "()I" } : Jvm.MethodName) ({ cls := "LentYouthsModel", name := "fault", desc := "()I" } : Jvm.MethodName)) ∈ lw_all := lw_g (lw_at lw_m6 37 rfl) rfl
theorem q1306 : (Jvm.Cond.code ({ cls := "LentYouthsModel", name := "fault", desc := "()I" } : Jvm.MethodName) prog_8_method_57_code (1 : Nat) (Option.some Jvm.ClassFile.FieldType.int)) ∈ lw_all := lw_g (lw_at lw_m6 38 rfl) rfl
theorem q1308 : (Jvm.Cond.instanceMethod ({ cls := "LentYouthsModel", name := "many", desc := "(I)I" } : Jvm.MethodName)) ∈ lw_all := lw_g (lw_at lw_m6 40 rfl) rfl
theorem q1309 : (Jvm.Cond.selects "LentYouthsModel" ({ cls := "LentYouthsModel", name := "many", desc := "(I)I" } : Jvm.MethodName) ({ cls := "LentYouthsModel", name := "many", desc := "(I)I" } : Jvm.MethodName)) ∈ lw_all := lw_g (lw_at lw_m6 41 rfl) rfl
theorem q1310 : (Jvm.Cond.code ({ cls := "LentYouthsModel", name := "many", desc := "(I)I" } : Jvm.MethodName) prog_8_method_58_code (2 : Nat) (Option.some Jvm.ClassFile.FieldType.int)) ∈ lw_all := lw_g (lw_at lw_m6 42 rfl) rfl
theorem q1325 : (Jvm.Cond.castable "LentYouthsModel" "java/lang/Object") ∈ lw_tbl := lw_at lw_m6 57 rfl
theorem in_X2 : ∀ w ∈ wsX20, w ∈ lw_all := lw_in wsX20 [1014, 1016, 1018, 1020, 1022, 1024, 1026, 1028, 1030, 1032, 1034, 1036, 1038, 1040, 1042, 1044, 1046, 1048, 1050, 1052, 1054, 1056, 1058, 1060, 1062, 1064, 1066, 1068, 1070, 1072] (by decide +kernel) (by decide +kernel)
