/-! LentYouths -/
set_option maxRecDepth 100000
def RX0 : String := "LentYouths"
def TX0 : u_T := fun k => match k with
  | 0 => ("LentYouths", "fault", "I", false)
  | 1 => ("LentYouths", "trace", "I", false)
  | 2 => ("LentYouths", "youths", "Ljava/util/List;", true)
  | 3 => ("LentYouths", "changed", "I", false)
  | 4 => ("LentYouths", "changedKind", "I", false)
  | 5 => ("LentYouths", "at", "I", false)
  | 6 => ("LentYouths", "readMany", "I", false)
  | 7 => ("LentYouths", "readKind", "[I", true)
  | 8 => ("LentYouths", "readScenes", "[I", true)
  | 9 => ("LentYouths", "readWants", "[I", true)
  | 10 => ("LentYouths", "readWear", "[I", true)
  | 11 => ("LentYouths", "has", "[I", true)
  | 12 => ("LentYouths", "knows", "[I", true)
  | 13 => ("LentYouths", "knowsBy", "[I", true)
  | 14 => ("LentYouths", "allMended", "I", false)
  | 15 => ("LentYouths", "row", "[I", true)
  | 16 => ("LentYouths", "wanted", "I", false)
  | 17 => ("LentYouths", "isFound", "Z", false)
  | 18 => ("LentYouths", "gets", "[I", true)
  | 19 => ("LentYouths", "best", "[I", true)
  | 20 => ("LentYouths", "most", "I", false)
  | 21 => ("LentYouths", "readings", "I", false)
  | 22 => ("LentYouths", "readWho", "[I", true)
  | 23 => ("LentYouths", "readScene", "[I", true)
  | 24 => ("LentYouths", "readKnew", "[Z", true)
  | _ => ("LentYouths", "sheets", "[LLentYouths$Place;", true)
def tyX0 : Nat → FieldType := fun k => match k with
  | 0 => .int
  | 1 => .int
  | 2 => .object "java/util/List"
  | 3 => .int
  | 4 => .int
  | 5 => .int
  | 6 => .int
  | 7 => .array .int
  | 8 => .array .int
  | 9 => .array .int
  | 10 => .array .int
  | 11 => .array .int
  | 12 => .array .int
  | 13 => .array .int
  | 14 => .int
  | 15 => .array .int
  | 16 => .int
  | 17 => .boolean
  | 18 => .array .int
  | 19 => .array .int
  | 20 => .int
  | 21 => .int
  | 22 => .array .int
  | 23 => .array .int
  | 24 => .array .boolean
  | _ => .array (.object "LentYouths$Place")
abbrev wsX00 : List Cond := u_ws RX0 TX0 26
set_option maxRecDepth 100000 in
theorem nmX0 : ∀ a, a < 26 → ∀ b, b < 26 → a ≠ b → (TX0 a).2.1 ≠ (TX0 b).2.1 := by decide +kernel
set_option maxRecDepth 100000 in
theorem tyX0_ok : ∀ k, k < 26 → parseFieldDescriptor (TX0 k).2.2.1 = some (tyX0 k) := by decide +kernel
abbrev cX0_init : ByteArray := prog_1_method_1_code
def yX0_init : MethodName := ⟨RX0, "<init>", "()V"⟩
def dkwX0_init_5 : List UInt8 := [188, 4, 181, 0, 59, 42, 7, 184, 0, 63, 181, 0, 67, 177]
abbrev dktX0_init_5 : List UInt8 := dkwX0_init_5 ++ []
def dkwX0_init_4 : List UInt8 := [188, 10, 181, 0, 50, 42, 16, 8, 188, 10, 181, 0, 53, 42, 16, 8, 188, 10, 181, 0, 56, 42, 16, 8]
abbrev dktX0_init_4 : List UInt8 := dkwX0_init_4 ++ dktX0_init_5
def dkwX0_init_3 : List UInt8 := [188, 10, 181, 0, 41, 42, 6, 188, 10, 181, 0, 44, 42, 16, 6, 188, 10, 181, 0, 47, 42, 16, 6]
abbrev dktX0_init_3 : List UInt8 := dkwX0_init_3 ++ dktX0_init_4
def dkwX0_init_2 : List UInt8 := [188, 10, 181, 0, 32, 42, 16, 6, 188, 10, 181, 0, 35, 42, 16, 6, 188, 10, 181, 0, 38, 42, 16, 36]
abbrev dktX0_init_2 : List UInt8 := dkwX0_init_2 ++ dktX0_init_3
def dkwX0_init_1 : List UInt8 := [188, 10, 181, 0, 22, 42, 16, 6, 188, 10, 181, 0, 26, 42, 16, 6, 188, 10, 181, 0, 29, 42, 16, 6]
abbrev dktX0_init_1 : List UInt8 := dkwX0_init_1 ++ dktX0_init_2
def dkwX0_init_0 : List UInt8 := [42, 183, 0, 3, 42, 187, 0, 9, 89, 183, 0, 11, 181, 0, 12, 42, 16, 247, 181, 0, 18, 42, 16, 6]
abbrev dktX0_init_0 : List UInt8 := dkwX0_init_0 ++ dktX0_init_1
theorem dksX0_init_0 : cX0_init.data.toList.drop 0 = dktX0_init_0 := by decide +kernel
theorem dksX0_init_1 : cX0_init.data.toList.drop 24 = dktX0_init_1 := dk_seg dksX0_init_0 24 rfl rfl
theorem dksX0_init_2 : cX0_init.data.toList.drop 48 = dktX0_init_2 := dk_seg dksX0_init_1 24 rfl rfl
theorem dksX0_init_3 : cX0_init.data.toList.drop 72 = dktX0_init_3 := dk_seg dksX0_init_2 24 rfl rfl
theorem dksX0_init_4 : cX0_init.data.toList.drop 95 = dktX0_init_4 := dk_seg dksX0_init_3 23 rfl rfl
theorem dksX0_init_5 : cX0_init.data.toList.drop 119 = dktX0_init_5 := dk_seg dksX0_init_4 24 rfl rfl
theorem dX0_init_0 : decode cX0_init 0 = .ok (.aload_n 0, 1) := dk_42 (dk_at dksX0_init_0 0 rfl rfl)
theorem dX0_init_1 : decode cX0_init 1 = .ok (.invokespecial 3, 3) := dk_183 0 3 (dk_at dksX0_init_0 1 rfl rfl)
theorem dX0_init_4 : decode cX0_init 4 = .ok (.aload_n 0, 1) := dk_42 (dk_at dksX0_init_0 4 rfl rfl)
theorem dX0_init_5 : decode cX0_init 5 = .ok (.new 9, 3) := dk_187 0 9 (dk_at dksX0_init_0 5 rfl rfl)
theorem dX0_init_8 : decode cX0_init 8 = .ok (.dup, 1) := dk_89 (dk_at dksX0_init_0 8 rfl rfl)
theorem dX0_init_9 : decode cX0_init 9 = .ok (.invokespecial 11, 3) := dk_183 0 11 (dk_at dksX0_init_0 9 rfl rfl)
theorem dX0_init_12 : decode cX0_init 12 = .ok (.putfield 12, 3) := dk_181 0 12 (dk_at dksX0_init_0 12 rfl rfl)
theorem dX0_init_15 : decode cX0_init 15 = .ok (.aload_n 0, 1) := dk_42 (dk_at dksX0_init_0 15 rfl rfl)
theorem dX0_init_16 : decode cX0_init 16 = .ok (.bipush (-9), 2) := dk_16 247 (dk_at dksX0_init_0 16 rfl rfl)
theorem dX0_init_18 : decode cX0_init 18 = .ok (.putfield 18, 3) := dk_181 0 18 (dk_at dksX0_init_0 18 rfl rfl)
theorem dX0_init_21 : decode cX0_init 21 = .ok (.aload_n 0, 1) := dk_42 (dk_at dksX0_init_0 21 rfl rfl)
theorem dX0_init_22 : decode cX0_init 22 = .ok (.bipush 6, 2) := dk_16 6 (dk_at dksX0_init_0 22 rfl rfl)
theorem dX0_init_24 : decode cX0_init 24 = .ok (.newarray .int, 2) := dk_188_10 (dk_at dksX0_init_1 0 rfl rfl)
theorem dX0_init_26 : decode cX0_init 26 = .ok (.putfield 22, 3) := dk_181 0 22 (dk_at dksX0_init_1 2 rfl rfl)
theorem dX0_init_29 : decode cX0_init 29 = .ok (.aload_n 0, 1) := dk_42 (dk_at dksX0_init_1 5 rfl rfl)
theorem dX0_init_30 : decode cX0_init 30 = .ok (.bipush 6, 2) := dk_16 6 (dk_at dksX0_init_1 6 rfl rfl)
theorem dX0_init_32 : decode cX0_init 32 = .ok (.newarray .int, 2) := dk_188_10 (dk_at dksX0_init_1 8 rfl rfl)
theorem dX0_init_34 : decode cX0_init 34 = .ok (.putfield 26, 3) := dk_181 0 26 (dk_at dksX0_init_1 10 rfl rfl)
theorem dX0_init_37 : decode cX0_init 37 = .ok (.aload_n 0, 1) := dk_42 (dk_at dksX0_init_1 13 rfl rfl)
theorem dX0_init_38 : decode cX0_init 38 = .ok (.bipush 6, 2) := dk_16 6 (dk_at dksX0_init_1 14 rfl rfl)
theorem dX0_init_40 : decode cX0_init 40 = .ok (.newarray .int, 2) := dk_188_10 (dk_at dksX0_init_1 16 rfl rfl)
theorem dX0_init_42 : decode cX0_init 42 = .ok (.putfield 29, 3) := dk_181 0 29 (dk_at dksX0_init_1 18 rfl rfl)
theorem dX0_init_45 : decode cX0_init 45 = .ok (.aload_n 0, 1) := dk_42 (dk_at dksX0_init_1 21 rfl rfl)
theorem dX0_init_46 : decode cX0_init 46 = .ok (.bipush 6, 2) := dk_16 6 (dk_at dksX0_init_1 22 rfl rfl)
theorem dX0_init_48 : decode cX0_init 48 = .ok (.newarray .int, 2) := dk_188_10 (dk_at dksX0_init_2 0 rfl rfl)
theorem dX0_init_50 : decode cX0_init 50 = .ok (.putfield 32, 3) := dk_181 0 32 (dk_at dksX0_init_2 2 rfl rfl)
theorem dX0_init_53 : decode cX0_init 53 = .ok (.aload_n 0, 1) := dk_42 (dk_at dksX0_init_2 5 rfl rfl)
theorem dX0_init_54 : decode cX0_init 54 = .ok (.bipush 6, 2) := dk_16 6 (dk_at dksX0_init_2 6 rfl rfl)
theorem dX0_init_56 : decode cX0_init 56 = .ok (.newarray .int, 2) := dk_188_10 (dk_at dksX0_init_2 8 rfl rfl)
theorem dX0_init_58 : decode cX0_init 58 = .ok (.putfield 35, 3) := dk_181 0 35 (dk_at dksX0_init_2 10 rfl rfl)
theorem dX0_init_61 : decode cX0_init 61 = .ok (.aload_n 0, 1) := dk_42 (dk_at dksX0_init_2 13 rfl rfl)
theorem dX0_init_62 : decode cX0_init 62 = .ok (.bipush 6, 2) := dk_16 6 (dk_at dksX0_init_2 14 rfl rfl)
theorem dX0_init_64 : decode cX0_init 64 = .ok (.newarray .int, 2) := dk_188_10 (dk_at dksX0_init_2 16 rfl rfl)
theorem dX0_init_66 : decode cX0_init 66 = .ok (.putfield 38, 3) := dk_181 0 38 (dk_at dksX0_init_2 18 rfl rfl)
theorem dX0_init_69 : decode cX0_init 69 = .ok (.aload_n 0, 1) := dk_42 (dk_at dksX0_init_2 21 rfl rfl)
theorem dX0_init_70 : decode cX0_init 70 = .ok (.bipush 36, 2) := dk_16 36 (dk_at dksX0_init_2 22 rfl rfl)
theorem dX0_init_72 : decode cX0_init 72 = .ok (.newarray .int, 2) := dk_188_10 (dk_at dksX0_init_3 0 rfl rfl)
theorem dX0_init_74 : decode cX0_init 74 = .ok (.putfield 41, 3) := dk_181 0 41 (dk_at dksX0_init_3 2 rfl rfl)
theorem dX0_init_77 : decode cX0_init 77 = .ok (.aload_n 0, 1) := dk_42 (dk_at dksX0_init_3 5 rfl rfl)
theorem dX0_init_78 : decode cX0_init 78 = .ok (.iconst 3, 1) := dk_6 (dk_at dksX0_init_3 6 rfl rfl)
theorem dX0_init_79 : decode cX0_init 79 = .ok (.newarray .int, 2) := dk_188_10 (dk_at dksX0_init_3 7 rfl rfl)
theorem dX0_init_81 : decode cX0_init 81 = .ok (.putfield 44, 3) := dk_181 0 44 (dk_at dksX0_init_3 9 rfl rfl)
theorem dX0_init_84 : decode cX0_init 84 = .ok (.aload_n 0, 1) := dk_42 (dk_at dksX0_init_3 12 rfl rfl)
theorem dX0_init_85 : decode cX0_init 85 = .ok (.bipush 6, 2) := dk_16 6 (dk_at dksX0_init_3 13 rfl rfl)
theorem dX0_init_87 : decode cX0_init 87 = .ok (.newarray .int, 2) := dk_188_10 (dk_at dksX0_init_3 15 rfl rfl)
theorem dX0_init_89 : decode cX0_init 89 = .ok (.putfield 47, 3) := dk_181 0 47 (dk_at dksX0_init_3 17 rfl rfl)
theorem dX0_init_92 : decode cX0_init 92 = .ok (.aload_n 0, 1) := dk_42 (dk_at dksX0_init_3 20 rfl rfl)
theorem dX0_init_93 : decode cX0_init 93 = .ok (.bipush 6, 2) := dk_16 6 (dk_at dksX0_init_3 21 rfl rfl)
theorem dX0_init_95 : decode cX0_init 95 = .ok (.newarray .int, 2) := dk_188_10 (dk_at dksX0_init_4 0 rfl rfl)
theorem dX0_init_97 : decode cX0_init 97 = .ok (.putfield 50, 3) := dk_181 0 50 (dk_at dksX0_init_4 2 rfl rfl)
theorem dX0_init_100 : decode cX0_init 100 = .ok (.aload_n 0, 1) := dk_42 (dk_at dksX0_init_4 5 rfl rfl)
theorem dX0_init_101 : decode cX0_init 101 = .ok (.bipush 8, 2) := dk_16 8 (dk_at dksX0_init_4 6 rfl rfl)
theorem dX0_init_103 : decode cX0_init 103 = .ok (.newarray .int, 2) := dk_188_10 (dk_at dksX0_init_4 8 rfl rfl)
theorem dX0_init_105 : decode cX0_init 105 = .ok (.putfield 53, 3) := dk_181 0 53 (dk_at dksX0_init_4 10 rfl rfl)
theorem dX0_init_108 : decode cX0_init 108 = .ok (.aload_n 0, 1) := dk_42 (dk_at dksX0_init_4 13 rfl rfl)
theorem dX0_init_109 : decode cX0_init 109 = .ok (.bipush 8, 2) := dk_16 8 (dk_at dksX0_init_4 14 rfl rfl)
theorem dX0_init_111 : decode cX0_init 111 = .ok (.newarray .int, 2) := dk_188_10 (dk_at dksX0_init_4 16 rfl rfl)
theorem dX0_init_113 : decode cX0_init 113 = .ok (.putfield 56, 3) := dk_181 0 56 (dk_at dksX0_init_4 18 rfl rfl)
theorem dX0_init_116 : decode cX0_init 116 = .ok (.aload_n 0, 1) := dk_42 (dk_at dksX0_init_4 21 rfl rfl)
theorem dX0_init_117 : decode cX0_init 117 = .ok (.bipush 8, 2) := dk_16 8 (dk_at dksX0_init_4 22 rfl rfl)
theorem dX0_init_119 : decode cX0_init 119 = .ok (.newarray .boolean, 2) := dk_188_4 (dk_at dksX0_init_5 0 rfl rfl)
theorem dX0_init_121 : decode cX0_init 121 = .ok (.putfield 59, 3) := dk_181 0 59 (dk_at dksX0_init_5 2 rfl rfl)
theorem dX0_init_124 : decode cX0_init 124 = .ok (.aload_n 0, 1) := dk_42 (dk_at dksX0_init_5 5 rfl rfl)
theorem dX0_init_125 : decode cX0_init 125 = .ok (.iconst 4, 1) := dk_7 (dk_at dksX0_init_5 6 rfl rfl)
theorem dX0_init_126 : decode cX0_init 126 = .ok (.invokestatic 63, 3) := dk_184 0 63 (dk_at dksX0_init_5 7 rfl rfl)
theorem dX0_init_129 : decode cX0_init 129 = .ok (.putfield 67, 3) := dk_181 0 67 (dk_at dksX0_init_5 10 rfl rfl)
theorem dX0_init_132 : decode cX0_init 132 = .ok (.return_, 1) := dk_177 (dk_at dksX0_init_5 13 rfl rfl)
abbrev cX0_places : ByteArray := prog_1_method_57_code
def yX0_places : MethodName := ⟨RX0, "places", "(I)[LLentYouths$Place;"⟩
def dkwX0_places_1 : List UInt8 := [132, 2, 1, 167, 255, 238, 43, 176]
abbrev dktX0_places_1 : List UInt8 := dkwX0_places_1 ++ []
def dkwX0_places_0 : List UInt8 := [26, 189, 0, 158, 76, 3, 61, 28, 26, 162, 0, 19, 43, 28, 187, 0, 158, 89, 183, 1, 104, 83]
abbrev dktX0_places_0 : List UInt8 := dkwX0_places_0 ++ dktX0_places_1
theorem dksX0_places_0 : cX0_places.data.toList.drop 0 = dktX0_places_0 := by decide +kernel
theorem dksX0_places_1 : cX0_places.data.toList.drop 22 = dktX0_places_1 := dk_seg dksX0_places_0 22 rfl rfl
theorem dX0_places_0 : decode cX0_places 0 = .ok (.iload_n 0, 1) := dk_26 (dk_at dksX0_places_0 0 rfl rfl)
theorem dX0_places_1 : decode cX0_places 1 = .ok (.anewarray 158, 3) := dk_189 0 158 (dk_at dksX0_places_0 1 rfl rfl)
theorem dX0_places_4 : decode cX0_places 4 = .ok (.astore_n 1, 1) := dk_76 (dk_at dksX0_places_0 4 rfl rfl)
theorem dX0_places_5 : decode cX0_places 5 = .ok (.iconst 0, 1) := dk_3 (dk_at dksX0_places_0 5 rfl rfl)
theorem dX0_places_6 : decode cX0_places 6 = .ok (.istore_n 2, 1) := dk_61 (dk_at dksX0_places_0 6 rfl rfl)
theorem dX0_places_7 : decode cX0_places 7 = .ok (.iload_n 2, 1) := dk_28 (dk_at dksX0_places_0 7 rfl rfl)
theorem dX0_places_8 : decode cX0_places 8 = .ok (.iload_n 0, 1) := dk_26 (dk_at dksX0_places_0 8 rfl rfl)
theorem dX0_places_9 : decode cX0_places 9 = .ok (.if_icmp .ge 19, 3) := dk_162 0 19 (dk_at dksX0_places_0 9 rfl rfl)
theorem dX0_places_12 : decode cX0_places 12 = .ok (.aload_n 1, 1) := dk_43 (dk_at dksX0_places_0 12 rfl rfl)
theorem dX0_places_13 : decode cX0_places 13 = .ok (.iload_n 2, 1) := dk_28 (dk_at dksX0_places_0 13 rfl rfl)
theorem dX0_places_14 : decode cX0_places 14 = .ok (.new 158, 3) := dk_187 0 158 (dk_at dksX0_places_0 14 rfl rfl)
theorem dX0_places_17 : decode cX0_places 17 = .ok (.dup, 1) := dk_89 (dk_at dksX0_places_0 17 rfl rfl)
theorem dX0_places_18 : decode cX0_places 18 = .ok (.invokespecial 360, 3) := dk_183 1 104 (dk_at dksX0_places_0 18 rfl rfl)
theorem dX0_places_21 : decode cX0_places 21 = .ok (.aastore, 1) := dk_83 (dk_at dksX0_places_0 21 rfl rfl)
theorem dX0_places_22 : decode cX0_places 22 = .ok (.iinc 2 1, 3) := dk_132 2 1 (dk_at dksX0_places_1 0 rfl rfl)
theorem dX0_places_25 : decode cX0_places 25 = .ok (.goto (-18), 3) := dk_167 255 238 (dk_at dksX0_places_1 3 rfl rfl)
theorem dX0_places_28 : decode cX0_places 28 = .ok (.aload_n 1, 1) := dk_43 (dk_at dksX0_places_1 6 rfl rfl)
theorem dX0_places_29 : decode cX0_places 29 = .ok (.areturn, 1) := dk_176 (dk_at dksX0_places_1 7 rfl rfl)
abbrev cX0_counter : ByteArray := prog_1_method_20_code
def yX0_counter : MethodName := ⟨RX0, "counter", "(IIII)I"⟩
def dkwX0_counter_3 : List UInt8 := [58, 5, 42, 6, 182, 0, 175, 172]
abbrev dktX0_counter_3 : List UInt8 := dkwX0_counter_3 ++ []
def dkwX0_counter_2 : List UInt8 := [58, 5, 42, 5, 182, 0, 175, 172, 58, 5, 42, 4, 182, 0, 175, 172, 58, 5, 42, 7, 182, 0, 175, 172]
abbrev dktX0_counter_2 : List UInt8 := dkwX0_counter_2 ++ dktX0_counter_3
def dkwX0_counter_1 : List UInt8 := [42, 42, 180, 0, 67, 27, 50, 180, 0, 157, 28, 184, 0, 162, 29, 21, 4, 184, 0, 166, 182, 0, 170, 172]
abbrev dktX0_counter_1 : List UInt8 := dkwX0_counter_1 ++ dktX0_counter_2
def dkwX0_counter_0 : List UInt8 := [42, 3, 181, 0, 77, 27, 184, 0, 150, 154, 0, 5, 2, 172, 28, 184, 0, 154, 154, 0, 6, 16, 254, 172]
abbrev dktX0_counter_0 : List UInt8 := dkwX0_counter_0 ++ dktX0_counter_1
theorem dksX0_counter_0 : cX0_counter.data.toList.drop 0 = dktX0_counter_0 := by decide +kernel
theorem dksX0_counter_1 : cX0_counter.data.toList.drop 24 = dktX0_counter_1 := dk_seg dksX0_counter_0 24 rfl rfl
theorem dksX0_counter_2 : cX0_counter.data.toList.drop 48 = dktX0_counter_2 := dk_seg dksX0_counter_1 24 rfl rfl
theorem dksX0_counter_3 : cX0_counter.data.toList.drop 72 = dktX0_counter_3 := dk_seg dksX0_counter_2 24 rfl rfl
theorem dX0_counter_0 : decode cX0_counter 0 = .ok (.aload_n 0, 1) := dk_42 (dk_at dksX0_counter_0 0 rfl rfl)
theorem dX0_counter_1 : decode cX0_counter 1 = .ok (.iconst 0, 1) := dk_3 (dk_at dksX0_counter_0 1 rfl rfl)
theorem dX0_counter_2 : decode cX0_counter 2 = .ok (.putfield 77, 3) := dk_181 0 77 (dk_at dksX0_counter_0 2 rfl rfl)
theorem dX0_counter_5 : decode cX0_counter 5 = .ok (.iload_n 1, 1) := dk_27 (dk_at dksX0_counter_0 5 rfl rfl)
theorem dX0_counter_6 : decode cX0_counter 6 = .ok (.invokestatic 150, 3) := dk_184 0 150 (dk_at dksX0_counter_0 6 rfl rfl)
theorem dX0_counter_9 : decode cX0_counter 9 = .ok (.ifCond .ne 5, 3) := dk_154 0 5 (dk_at dksX0_counter_0 9 rfl rfl)
theorem dX0_counter_12 : decode cX0_counter 12 = .ok (.iconst (-1), 1) := dk_2 (dk_at dksX0_counter_0 12 rfl rfl)
theorem dX0_counter_13 : decode cX0_counter 13 = .ok (.ireturn, 1) := dk_172 (dk_at dksX0_counter_0 13 rfl rfl)
theorem dX0_counter_14 : decode cX0_counter 14 = .ok (.iload_n 2, 1) := dk_28 (dk_at dksX0_counter_0 14 rfl rfl)
theorem dX0_counter_15 : decode cX0_counter 15 = .ok (.invokestatic 154, 3) := dk_184 0 154 (dk_at dksX0_counter_0 15 rfl rfl)
theorem dX0_counter_18 : decode cX0_counter 18 = .ok (.ifCond .ne 6, 3) := dk_154 0 6 (dk_at dksX0_counter_0 18 rfl rfl)
theorem dX0_counter_21 : decode cX0_counter 21 = .ok (.bipush (-2), 2) := dk_16 254 (dk_at dksX0_counter_0 21 rfl rfl)
theorem dX0_counter_23 : decode cX0_counter 23 = .ok (.ireturn, 1) := dk_172 (dk_at dksX0_counter_0 23 rfl rfl)
theorem dX0_counter_24 : decode cX0_counter 24 = .ok (.aload_n 0, 1) := dk_42 (dk_at dksX0_counter_1 0 rfl rfl)
theorem dX0_counter_25 : decode cX0_counter 25 = .ok (.aload_n 0, 1) := dk_42 (dk_at dksX0_counter_1 1 rfl rfl)
theorem dX0_counter_26 : decode cX0_counter 26 = .ok (.getfield 67, 3) := dk_180 0 67 (dk_at dksX0_counter_1 2 rfl rfl)
theorem dX0_counter_29 : decode cX0_counter 29 = .ok (.iload_n 1, 1) := dk_27 (dk_at dksX0_counter_1 5 rfl rfl)
theorem dX0_counter_30 : decode cX0_counter 30 = .ok (.aaload, 1) := dk_50 (dk_at dksX0_counter_1 6 rfl rfl)
theorem dX0_counter_31 : decode cX0_counter 31 = .ok (.getfield 157, 3) := dk_180 0 157 (dk_at dksX0_counter_1 7 rfl rfl)
theorem dX0_counter_34 : decode cX0_counter 34 = .ok (.iload_n 2, 1) := dk_28 (dk_at dksX0_counter_1 10 rfl rfl)
theorem dX0_counter_35 : decode cX0_counter 35 = .ok (.invokestatic 162, 3) := dk_184 0 162 (dk_at dksX0_counter_1 11 rfl rfl)
theorem dX0_counter_38 : decode cX0_counter 38 = .ok (.iload_n 3, 1) := dk_29 (dk_at dksX0_counter_1 14 rfl rfl)
theorem dX0_counter_39 : decode cX0_counter 39 = .ok (.iload 4, 2) := dk_21 4 (dk_at dksX0_counter_1 15 rfl rfl)
theorem dX0_counter_41 : decode cX0_counter 41 = .ok (.invokestatic 166, 3) := dk_184 0 166 (dk_at dksX0_counter_1 17 rfl rfl)
theorem dX0_counter_44 : decode cX0_counter 44 = .ok (.invokevirtual 170, 3) := dk_182 0 170 (dk_at dksX0_counter_1 20 rfl rfl)
theorem dX0_counter_47 : decode cX0_counter 47 = .ok (.ireturn, 1) := dk_172 (dk_at dksX0_counter_1 23 rfl rfl)
theorem dX0_counter_48 : decode cX0_counter 48 = .ok (.astore 5, 2) := dk_58 5 (dk_at dksX0_counter_2 0 rfl rfl)
theorem dX0_counter_50 : decode cX0_counter 50 = .ok (.aload_n 0, 1) := dk_42 (dk_at dksX0_counter_2 2 rfl rfl)
theorem dX0_counter_51 : decode cX0_counter 51 = .ok (.iconst 2, 1) := dk_5 (dk_at dksX0_counter_2 3 rfl rfl)
theorem dX0_counter_52 : decode cX0_counter 52 = .ok (.invokevirtual 175, 3) := dk_182 0 175 (dk_at dksX0_counter_2 4 rfl rfl)
theorem dX0_counter_55 : decode cX0_counter 55 = .ok (.ireturn, 1) := dk_172 (dk_at dksX0_counter_2 7 rfl rfl)
theorem dX0_counter_56 : decode cX0_counter 56 = .ok (.astore 5, 2) := dk_58 5 (dk_at dksX0_counter_2 8 rfl rfl)
theorem dX0_counter_58 : decode cX0_counter 58 = .ok (.aload_n 0, 1) := dk_42 (dk_at dksX0_counter_2 10 rfl rfl)
theorem dX0_counter_59 : decode cX0_counter 59 = .ok (.iconst 1, 1) := dk_4 (dk_at dksX0_counter_2 11 rfl rfl)
theorem dX0_counter_60 : decode cX0_counter 60 = .ok (.invokevirtual 175, 3) := dk_182 0 175 (dk_at dksX0_counter_2 12 rfl rfl)
theorem dX0_counter_63 : decode cX0_counter 63 = .ok (.ireturn, 1) := dk_172 (dk_at dksX0_counter_2 15 rfl rfl)
theorem dX0_counter_64 : decode cX0_counter 64 = .ok (.astore 5, 2) := dk_58 5 (dk_at dksX0_counter_2 16 rfl rfl)
theorem dX0_counter_66 : decode cX0_counter 66 = .ok (.aload_n 0, 1) := dk_42 (dk_at dksX0_counter_2 18 rfl rfl)
theorem dX0_counter_67 : decode cX0_counter 67 = .ok (.iconst 4, 1) := dk_7 (dk_at dksX0_counter_2 19 rfl rfl)
theorem dX0_counter_68 : decode cX0_counter 68 = .ok (.invokevirtual 175, 3) := dk_182 0 175 (dk_at dksX0_counter_2 20 rfl rfl)
theorem dX0_counter_71 : decode cX0_counter 71 = .ok (.ireturn, 1) := dk_172 (dk_at dksX0_counter_2 23 rfl rfl)
theorem dX0_counter_72 : decode cX0_counter 72 = .ok (.astore 5, 2) := dk_58 5 (dk_at dksX0_counter_3 0 rfl rfl)
theorem dX0_counter_74 : decode cX0_counter 74 = .ok (.aload_n 0, 1) := dk_42 (dk_at dksX0_counter_3 2 rfl rfl)
theorem dX0_counter_75 : decode cX0_counter 75 = .ok (.iconst 3, 1) := dk_6 (dk_at dksX0_counter_3 3 rfl rfl)
theorem dX0_counter_76 : decode cX0_counter 76 = .ok (.invokevirtual 175, 3) := dk_182 0 175 (dk_at dksX0_counter_3 4 rfl rfl)
theorem dX0_counter_79 : decode cX0_counter 79 = .ok (.ireturn, 1) := dk_172 (dk_at dksX0_counter_3 7 rfl rfl)
abbrev cX0_isSheet : ByteArray := prog_1_method_58_code
def yX0_isSheet : MethodName := ⟨RX0, "isSheet", "(I)Z"⟩
def dkwX0_isSheet_0 : List UInt8 := [26, 133, 9, 20, 1, 9, 184, 0, 73, 172]
abbrev dktX0_isSheet_0 : List UInt8 := dkwX0_isSheet_0 ++ []
theorem dksX0_isSheet_0 : cX0_isSheet.data.toList.drop 0 = dktX0_isSheet_0 := by decide +kernel
theorem dX0_isSheet_0 : decode cX0_isSheet 0 = .ok (.iload_n 0, 1) := dk_26 (dk_at dksX0_isSheet_0 0 rfl rfl)
theorem dX0_isSheet_1 : decode cX0_isSheet 1 = .ok (.i2l, 1) := dk_133 (dk_at dksX0_isSheet_0 1 rfl rfl)
theorem dX0_isSheet_2 : decode cX0_isSheet 2 = .ok (.lconst 0, 1) := dk_9 (dk_at dksX0_isSheet_0 2 rfl rfl)
theorem dX0_isSheet_3 : decode cX0_isSheet 3 = .ok (.ldc2_w 265, 3) := dk_20 1 9 (dk_at dksX0_isSheet_0 3 rfl rfl)
theorem dX0_isSheet_6 : decode cX0_isSheet 6 = .ok (.invokestatic 73, 3) := dk_184 0 73 (dk_at dksX0_isSheet_0 6 rfl rfl)
theorem dX0_isSheet_9 : decode cX0_isSheet 9 = .ok (.ireturn, 1) := dk_172 (dk_at dksX0_isSheet_0 9 rfl rfl)
abbrev cX0_isIn : ByteArray := prog_1_method_2_code
def yX0_isIn : MethodName := ⟨RX0, "isIn", "(JJJ)Z"⟩
def dkwX0_isIn_0 : List UInt8 := [30, 32, 148, 155, 0, 14, 30, 22, 4, 148, 157, 0, 7, 4, 167, 0, 4, 3, 172]
abbrev dktX0_isIn_0 : List UInt8 := dkwX0_isIn_0 ++ []
theorem dksX0_isIn_0 : cX0_isIn.data.toList.drop 0 = dktX0_isIn_0 := by decide +kernel
theorem dX0_isIn_0 : decode cX0_isIn 0 = .ok (.lload_n 0, 1) := dk_30 (dk_at dksX0_isIn_0 0 rfl rfl)
theorem dX0_isIn_1 : decode cX0_isIn 1 = .ok (.lload_n 2, 1) := dk_32 (dk_at dksX0_isIn_0 1 rfl rfl)
theorem dX0_isIn_2 : decode cX0_isIn 2 = .ok (.lcmp, 1) := dk_148 (dk_at dksX0_isIn_0 2 rfl rfl)
theorem dX0_isIn_3 : decode cX0_isIn 3 = .ok (.ifCond .lt 14, 3) := dk_155 0 14 (dk_at dksX0_isIn_0 3 rfl rfl)
theorem dX0_isIn_6 : decode cX0_isIn 6 = .ok (.lload_n 0, 1) := dk_30 (dk_at dksX0_isIn_0 6 rfl rfl)
theorem dX0_isIn_7 : decode cX0_isIn 7 = .ok (.lload 4, 2) := dk_22 4 (dk_at dksX0_isIn_0 7 rfl rfl)
theorem dX0_isIn_9 : decode cX0_isIn 9 = .ok (.lcmp, 1) := dk_148 (dk_at dksX0_isIn_0 9 rfl rfl)
theorem dX0_isIn_10 : decode cX0_isIn 10 = .ok (.ifCond .gt 7, 3) := dk_157 0 7 (dk_at dksX0_isIn_0 10 rfl rfl)
theorem dX0_isIn_13 : decode cX0_isIn 13 = .ok (.iconst 1, 1) := dk_4 (dk_at dksX0_isIn_0 13 rfl rfl)
theorem dX0_isIn_14 : decode cX0_isIn 14 = .ok (.goto 4, 3) := dk_167 0 4 (dk_at dksX0_isIn_0 14 rfl rfl)
theorem dX0_isIn_17 : decode cX0_isIn 17 = .ok (.iconst 0, 1) := dk_3 (dk_at dksX0_isIn_0 17 rfl rfl)
theorem dX0_isIn_18 : decode cX0_isIn 18 = .ok (.ireturn, 1) := dk_172 (dk_at dksX0_isIn_0 18 rfl rfl)
abbrev cX0_isLane : ByteArray := prog_1_method_59_code
def yX0_isLane : MethodName := ⟨RX0, "isLane", "(I)Z"⟩
def dkwX0_isLane_0 : List UInt8 := [26, 133, 9, 20, 1, 48, 184, 0, 73, 172]
abbrev dktX0_isLane_0 : List UInt8 := dkwX0_isLane_0 ++ []
theorem dksX0_isLane_0 : cX0_isLane.data.toList.drop 0 = dktX0_isLane_0 := by decide +kernel
theorem dX0_isLane_0 : decode cX0_isLane 0 = .ok (.iload_n 0, 1) := dk_26 (dk_at dksX0_isLane_0 0 rfl rfl)
theorem dX0_isLane_1 : decode cX0_isLane 1 = .ok (.i2l, 1) := dk_133 (dk_at dksX0_isLane_0 1 rfl rfl)
theorem dX0_isLane_2 : decode cX0_isLane 2 = .ok (.lconst 0, 1) := dk_9 (dk_at dksX0_isLane_0 2 rfl rfl)
theorem dX0_isLane_3 : decode cX0_isLane 3 = .ok (.ldc2_w 304, 3) := dk_20 1 48 (dk_at dksX0_isLane_0 3 rfl rfl)
theorem dX0_isLane_6 : decode cX0_isLane 6 = .ok (.invokestatic 73, 3) := dk_184 0 73 (dk_at dksX0_isLane_0 6 rfl rfl)
theorem dX0_isLane_9 : decode cX0_isLane 9 = .ok (.ireturn, 1) := dk_172 (dk_at dksX0_isLane_0 9 rfl rfl)
abbrev cX0_asLane : ByteArray := prog_1_method_60_code
def yX0_asLane : MethodName := ⟨RX0, "asLane", "(Ljava/lang/Object;I)Ljava/lang/Object;"⟩
def dkwX0_asLane_2 : List UInt8 := [42, 192, 1, 105, 176, 42, 192, 1, 107, 176, 42, 192, 1, 109, 176]
abbrev dktX0_asLane_2 : List UInt8 := dkwX0_asLane_2 ++ []
def dkwX0_asLane_1 : List UInt8 := [171, 0, 0, 0, 0, 0, 37, 0, 0, 0, 2, 0, 0, 0, 0, 0, 0, 0, 27, 0, 0, 0, 1, 0, 0, 0, 32]
abbrev dktX0_asLane_1 : List UInt8 := dkwX0_asLane_1 ++ dktX0_asLane_2
def dkwX0_asLane_0 : List UInt8 := [27]
abbrev dktX0_asLane_0 : List UInt8 := dkwX0_asLane_0 ++ dktX0_asLane_1
theorem dksX0_asLane_0 : cX0_asLane.data.toList.drop 0 = dktX0_asLane_0 := by decide +kernel
theorem dksX0_asLane_1 : cX0_asLane.data.toList.drop 1 = dktX0_asLane_1 := dk_seg dksX0_asLane_0 1 rfl rfl
theorem dksX0_asLane_2 : cX0_asLane.data.toList.drop 28 = dktX0_asLane_2 := dk_seg dksX0_asLane_1 27 rfl rfl
theorem dX0_asLane_0 : decode cX0_asLane 0 = .ok (.iload_n 1, 1) := dk_27 (dk_at dksX0_asLane_0 0 rfl rfl)
theorem dX0_asLane_1 : decode cX0_asLane 1 = .ok (.lookupswitch 37 #[(0, 27), (1, 32)], 27) := by decide +kernel
theorem dX0_asLane_28 : decode cX0_asLane 28 = .ok (.aload_n 0, 1) := dk_42 (dk_at dksX0_asLane_2 0 rfl rfl)
theorem dX0_asLane_29 : decode cX0_asLane 29 = .ok (.checkcast 361, 3) := dk_192 1 105 (dk_at dksX0_asLane_2 1 rfl rfl)
theorem dX0_asLane_32 : decode cX0_asLane 32 = .ok (.areturn, 1) := dk_176 (dk_at dksX0_asLane_2 4 rfl rfl)
theorem dX0_asLane_33 : decode cX0_asLane 33 = .ok (.aload_n 0, 1) := dk_42 (dk_at dksX0_asLane_2 5 rfl rfl)
theorem dX0_asLane_34 : decode cX0_asLane 34 = .ok (.checkcast 363, 3) := dk_192 1 107 (dk_at dksX0_asLane_2 6 rfl rfl)
theorem dX0_asLane_37 : decode cX0_asLane 37 = .ok (.areturn, 1) := dk_176 (dk_at dksX0_asLane_2 9 rfl rfl)
theorem dX0_asLane_38 : decode cX0_asLane 38 = .ok (.aload_n 0, 1) := dk_42 (dk_at dksX0_asLane_2 10 rfl rfl)
theorem dX0_asLane_39 : decode cX0_asLane 39 = .ok (.checkcast 365, 3) := dk_192 1 109 (dk_at dksX0_asLane_2 11 rfl rfl)
theorem dX0_asLane_42 : decode cX0_asLane 42 = .ok (.areturn, 1) := dk_176 (dk_at dksX0_asLane_2 14 rfl rfl)
abbrev cX0_rowOf : ByteArray := prog_1_method_68_code
def yX0_rowOf : MethodName := ⟨RX0, "rowOf", "(Ljava/lang/Object;II)[I"⟩
def dkwX0_rowOf_2 : List UInt8 := [42, 27, 21, 5, 96, 184, 1, 110, 79, 132, 5, 1, 167, 255, 234, 25, 4, 176]
abbrev dktX0_rowOf_2 : List UInt8 := dkwX0_rowOf_2 ++ []
def dkwX0_rowOf_1 : List UInt8 := [164, 0, 11, 187, 0, 183, 89, 183, 1, 128, 191, 3, 54, 5, 21, 5, 28, 162, 0, 22, 25, 4, 21, 5]
abbrev dktX0_rowOf_1 : List UInt8 := dkwX0_rowOf_1 ++ dktX0_rowOf_2
def dkwX0_rowOf_0 : List UInt8 := [42, 184, 1, 118, 62, 28, 16, 61, 184, 1, 122, 188, 10, 58, 4, 27, 155, 0, 10, 27, 29, 28, 100]
abbrev dktX0_rowOf_0 : List UInt8 := dkwX0_rowOf_0 ++ dktX0_rowOf_1
theorem dksX0_rowOf_0 : cX0_rowOf.data.toList.drop 0 = dktX0_rowOf_0 := by decide +kernel
theorem dksX0_rowOf_1 : cX0_rowOf.data.toList.drop 23 = dktX0_rowOf_1 := dk_seg dksX0_rowOf_0 23 rfl rfl
theorem dksX0_rowOf_2 : cX0_rowOf.data.toList.drop 47 = dktX0_rowOf_2 := dk_seg dksX0_rowOf_1 24 rfl rfl
theorem dX0_rowOf_0 : decode cX0_rowOf 0 = .ok (.aload_n 0, 1) := dk_42 (dk_at dksX0_rowOf_0 0 rfl rfl)
theorem dX0_rowOf_1 : decode cX0_rowOf 1 = .ok (.invokestatic 374, 3) := dk_184 1 118 (dk_at dksX0_rowOf_0 1 rfl rfl)
theorem dX0_rowOf_4 : decode cX0_rowOf 4 = .ok (.istore_n 3, 1) := dk_62 (dk_at dksX0_rowOf_0 4 rfl rfl)
theorem dX0_rowOf_5 : decode cX0_rowOf 5 = .ok (.iload_n 2, 1) := dk_28 (dk_at dksX0_rowOf_0 5 rfl rfl)
theorem dX0_rowOf_6 : decode cX0_rowOf 6 = .ok (.bipush 61, 2) := dk_16 61 (dk_at dksX0_rowOf_0 6 rfl rfl)
theorem dX0_rowOf_8 : decode cX0_rowOf 8 = .ok (.invokestatic 378, 3) := dk_184 1 122 (dk_at dksX0_rowOf_0 8 rfl rfl)
theorem dX0_rowOf_11 : decode cX0_rowOf 11 = .ok (.newarray .int, 2) := dk_188_10 (dk_at dksX0_rowOf_0 11 rfl rfl)
theorem dX0_rowOf_13 : decode cX0_rowOf 13 = .ok (.astore 4, 2) := dk_58 4 (dk_at dksX0_rowOf_0 13 rfl rfl)
theorem dX0_rowOf_15 : decode cX0_rowOf 15 = .ok (.iload_n 1, 1) := dk_27 (dk_at dksX0_rowOf_0 15 rfl rfl)
theorem dX0_rowOf_16 : decode cX0_rowOf 16 = .ok (.ifCond .lt 10, 3) := dk_155 0 10 (dk_at dksX0_rowOf_0 16 rfl rfl)
theorem dX0_rowOf_19 : decode cX0_rowOf 19 = .ok (.iload_n 1, 1) := dk_27 (dk_at dksX0_rowOf_0 19 rfl rfl)
theorem dX0_rowOf_20 : decode cX0_rowOf 20 = .ok (.iload_n 3, 1) := dk_29 (dk_at dksX0_rowOf_0 20 rfl rfl)
theorem dX0_rowOf_21 : decode cX0_rowOf 21 = .ok (.iload_n 2, 1) := dk_28 (dk_at dksX0_rowOf_0 21 rfl rfl)
theorem dX0_rowOf_22 : decode cX0_rowOf 22 = .ok (.isub, 1) := dk_100 (dk_at dksX0_rowOf_0 22 rfl rfl)
theorem dX0_rowOf_23 : decode cX0_rowOf 23 = .ok (.if_icmp .le 11, 3) := dk_164 0 11 (dk_at dksX0_rowOf_1 0 rfl rfl)
theorem dX0_rowOf_26 : decode cX0_rowOf 26 = .ok (.new 183, 3) := dk_187 0 183 (dk_at dksX0_rowOf_1 3 rfl rfl)
theorem dX0_rowOf_29 : decode cX0_rowOf 29 = .ok (.dup, 1) := dk_89 (dk_at dksX0_rowOf_1 6 rfl rfl)
theorem dX0_rowOf_30 : decode cX0_rowOf 30 = .ok (.invokespecial 384, 3) := dk_183 1 128 (dk_at dksX0_rowOf_1 7 rfl rfl)
theorem dX0_rowOf_33 : decode cX0_rowOf 33 = .ok (.athrow, 1) := dk_191 (dk_at dksX0_rowOf_1 10 rfl rfl)
theorem dX0_rowOf_34 : decode cX0_rowOf 34 = .ok (.iconst 0, 1) := dk_3 (dk_at dksX0_rowOf_1 11 rfl rfl)
theorem dX0_rowOf_35 : decode cX0_rowOf 35 = .ok (.istore 5, 2) := dk_54 5 (dk_at dksX0_rowOf_1 12 rfl rfl)
theorem dX0_rowOf_37 : decode cX0_rowOf 37 = .ok (.iload 5, 2) := dk_21 5 (dk_at dksX0_rowOf_1 14 rfl rfl)
theorem dX0_rowOf_39 : decode cX0_rowOf 39 = .ok (.iload_n 2, 1) := dk_28 (dk_at dksX0_rowOf_1 16 rfl rfl)
theorem dX0_rowOf_40 : decode cX0_rowOf 40 = .ok (.if_icmp .ge 22, 3) := dk_162 0 22 (dk_at dksX0_rowOf_1 17 rfl rfl)
theorem dX0_rowOf_43 : decode cX0_rowOf 43 = .ok (.aload 4, 2) := dk_25 4 (dk_at dksX0_rowOf_1 20 rfl rfl)
theorem dX0_rowOf_45 : decode cX0_rowOf 45 = .ok (.iload 5, 2) := dk_21 5 (dk_at dksX0_rowOf_1 22 rfl rfl)
theorem dX0_rowOf_47 : decode cX0_rowOf 47 = .ok (.aload_n 0, 1) := dk_42 (dk_at dksX0_rowOf_2 0 rfl rfl)
theorem dX0_rowOf_48 : decode cX0_rowOf 48 = .ok (.iload_n 1, 1) := dk_27 (dk_at dksX0_rowOf_2 1 rfl rfl)
theorem dX0_rowOf_49 : decode cX0_rowOf 49 = .ok (.iload 5, 2) := dk_21 5 (dk_at dksX0_rowOf_2 2 rfl rfl)
theorem dX0_rowOf_51 : decode cX0_rowOf 51 = .ok (.iadd, 1) := dk_96 (dk_at dksX0_rowOf_2 4 rfl rfl)
theorem dX0_rowOf_52 : decode cX0_rowOf 52 = .ok (.invokestatic 366, 3) := dk_184 1 110 (dk_at dksX0_rowOf_2 5 rfl rfl)
theorem dX0_rowOf_55 : decode cX0_rowOf 55 = .ok (.iastore, 1) := dk_79 (dk_at dksX0_rowOf_2 8 rfl rfl)
theorem dX0_rowOf_56 : decode cX0_rowOf 56 = .ok (.iinc 5 1, 3) := dk_132 5 1 (dk_at dksX0_rowOf_2 9 rfl rfl)
theorem dX0_rowOf_59 : decode cX0_rowOf 59 = .ok (.goto (-22), 3) := dk_167 255 234 (dk_at dksX0_rowOf_2 12 rfl rfl)
theorem dX0_rowOf_62 : decode cX0_rowOf 62 = .ok (.aload 4, 2) := dk_25 4 (dk_at dksX0_rowOf_2 15 rfl rfl)
theorem dX0_rowOf_64 : decode cX0_rowOf 64 = .ok (.areturn, 1) := dk_176 (dk_at dksX0_rowOf_2 17 rfl rfl)
abbrev cX0_lengthOf : ByteArray := prog_1_method_62_code
def yX0_lengthOf : MethodName := ⟨RX0, "lengthOf", "(Ljava/lang/Object;)I"⟩
def dkwX0_lengthOf_1 : List UInt8 := [192, 1, 107, 76, 43, 190, 172, 42, 192, 1, 109, 190, 172]
abbrev dktX0_lengthOf_1 : List UInt8 := dkwX0_lengthOf_1 ++ []
def dkwX0_lengthOf_0 : List UInt8 := [42, 193, 1, 105, 153, 0, 11, 42, 192, 1, 105, 76, 43, 190, 172, 42, 193, 1, 107, 153, 0, 11, 42]
abbrev dktX0_lengthOf_0 : List UInt8 := dkwX0_lengthOf_0 ++ dktX0_lengthOf_1
theorem dksX0_lengthOf_0 : cX0_lengthOf.data.toList.drop 0 = dktX0_lengthOf_0 := by decide +kernel
theorem dksX0_lengthOf_1 : cX0_lengthOf.data.toList.drop 23 = dktX0_lengthOf_1 := dk_seg dksX0_lengthOf_0 23 rfl rfl
theorem dX0_lengthOf_0 : decode cX0_lengthOf 0 = .ok (.aload_n 0, 1) := dk_42 (dk_at dksX0_lengthOf_0 0 rfl rfl)
theorem dX0_lengthOf_1 : decode cX0_lengthOf 1 = .ok (.instanceof 361, 3) := dk_193 1 105 (dk_at dksX0_lengthOf_0 1 rfl rfl)
theorem dX0_lengthOf_4 : decode cX0_lengthOf 4 = .ok (.ifCond .eq 11, 3) := dk_153 0 11 (dk_at dksX0_lengthOf_0 4 rfl rfl)
theorem dX0_lengthOf_7 : decode cX0_lengthOf 7 = .ok (.aload_n 0, 1) := dk_42 (dk_at dksX0_lengthOf_0 7 rfl rfl)
theorem dX0_lengthOf_8 : decode cX0_lengthOf 8 = .ok (.checkcast 361, 3) := dk_192 1 105 (dk_at dksX0_lengthOf_0 8 rfl rfl)
theorem dX0_lengthOf_11 : decode cX0_lengthOf 11 = .ok (.astore_n 1, 1) := dk_76 (dk_at dksX0_lengthOf_0 11 rfl rfl)
theorem dX0_lengthOf_12 : decode cX0_lengthOf 12 = .ok (.aload_n 1, 1) := dk_43 (dk_at dksX0_lengthOf_0 12 rfl rfl)
theorem dX0_lengthOf_13 : decode cX0_lengthOf 13 = .ok (.arraylength, 1) := dk_190 (dk_at dksX0_lengthOf_0 13 rfl rfl)
theorem dX0_lengthOf_14 : decode cX0_lengthOf 14 = .ok (.ireturn, 1) := dk_172 (dk_at dksX0_lengthOf_0 14 rfl rfl)
theorem dX0_lengthOf_15 : decode cX0_lengthOf 15 = .ok (.aload_n 0, 1) := dk_42 (dk_at dksX0_lengthOf_0 15 rfl rfl)
theorem dX0_lengthOf_16 : decode cX0_lengthOf 16 = .ok (.instanceof 363, 3) := dk_193 1 107 (dk_at dksX0_lengthOf_0 16 rfl rfl)
theorem dX0_lengthOf_19 : decode cX0_lengthOf 19 = .ok (.ifCond .eq 11, 3) := dk_153 0 11 (dk_at dksX0_lengthOf_0 19 rfl rfl)
theorem dX0_lengthOf_22 : decode cX0_lengthOf 22 = .ok (.aload_n 0, 1) := dk_42 (dk_at dksX0_lengthOf_0 22 rfl rfl)
theorem dX0_lengthOf_23 : decode cX0_lengthOf 23 = .ok (.checkcast 363, 3) := dk_192 1 107 (dk_at dksX0_lengthOf_1 0 rfl rfl)
theorem dX0_lengthOf_26 : decode cX0_lengthOf 26 = .ok (.astore_n 1, 1) := dk_76 (dk_at dksX0_lengthOf_1 3 rfl rfl)
theorem dX0_lengthOf_27 : decode cX0_lengthOf 27 = .ok (.aload_n 1, 1) := dk_43 (dk_at dksX0_lengthOf_1 4 rfl rfl)
theorem dX0_lengthOf_28 : decode cX0_lengthOf 28 = .ok (.arraylength, 1) := dk_190 (dk_at dksX0_lengthOf_1 5 rfl rfl)
theorem dX0_lengthOf_29 : decode cX0_lengthOf 29 = .ok (.ireturn, 1) := dk_172 (dk_at dksX0_lengthOf_1 6 rfl rfl)
theorem dX0_lengthOf_30 : decode cX0_lengthOf 30 = .ok (.aload_n 0, 1) := dk_42 (dk_at dksX0_lengthOf_1 7 rfl rfl)
theorem dX0_lengthOf_31 : decode cX0_lengthOf 31 = .ok (.checkcast 365, 3) := dk_192 1 109 (dk_at dksX0_lengthOf_1 8 rfl rfl)
theorem dX0_lengthOf_34 : decode cX0_lengthOf 34 = .ok (.arraylength, 1) := dk_190 (dk_at dksX0_lengthOf_1 11 rfl rfl)
theorem dX0_lengthOf_35 : decode cX0_lengthOf 35 = .ok (.ireturn, 1) := dk_172 (dk_at dksX0_lengthOf_1 12 rfl rfl)
abbrev cX0_cellOf : ByteArray := prog_1_method_61_code
def yX0_cellOf : MethodName := ⟨RX0, "cellOf", "(Ljava/lang/Object;I)I"⟩
def dkwX0_cellOf_1 : List UInt8 := [192, 1, 107, 77, 44, 27, 53, 172, 42, 192, 1, 109, 27, 46, 172]
abbrev dktX0_cellOf_1 : List UInt8 := dkwX0_cellOf_1 ++ []
def dkwX0_cellOf_0 : List UInt8 := [42, 193, 1, 105, 153, 0, 12, 42, 192, 1, 105, 77, 44, 27, 51, 172, 42, 193, 1, 107, 153, 0, 12, 42]
abbrev dktX0_cellOf_0 : List UInt8 := dkwX0_cellOf_0 ++ dktX0_cellOf_1
theorem dksX0_cellOf_0 : cX0_cellOf.data.toList.drop 0 = dktX0_cellOf_0 := by decide +kernel
theorem dksX0_cellOf_1 : cX0_cellOf.data.toList.drop 24 = dktX0_cellOf_1 := dk_seg dksX0_cellOf_0 24 rfl rfl
theorem dX0_cellOf_0 : decode cX0_cellOf 0 = .ok (.aload_n 0, 1) := dk_42 (dk_at dksX0_cellOf_0 0 rfl rfl)
theorem dX0_cellOf_1 : decode cX0_cellOf 1 = .ok (.instanceof 361, 3) := dk_193 1 105 (dk_at dksX0_cellOf_0 1 rfl rfl)
theorem dX0_cellOf_4 : decode cX0_cellOf 4 = .ok (.ifCond .eq 12, 3) := dk_153 0 12 (dk_at dksX0_cellOf_0 4 rfl rfl)
theorem dX0_cellOf_7 : decode cX0_cellOf 7 = .ok (.aload_n 0, 1) := dk_42 (dk_at dksX0_cellOf_0 7 rfl rfl)
theorem dX0_cellOf_8 : decode cX0_cellOf 8 = .ok (.checkcast 361, 3) := dk_192 1 105 (dk_at dksX0_cellOf_0 8 rfl rfl)
theorem dX0_cellOf_11 : decode cX0_cellOf 11 = .ok (.astore_n 2, 1) := dk_77 (dk_at dksX0_cellOf_0 11 rfl rfl)
theorem dX0_cellOf_12 : decode cX0_cellOf 12 = .ok (.aload_n 2, 1) := dk_44 (dk_at dksX0_cellOf_0 12 rfl rfl)
theorem dX0_cellOf_13 : decode cX0_cellOf 13 = .ok (.iload_n 1, 1) := dk_27 (dk_at dksX0_cellOf_0 13 rfl rfl)
theorem dX0_cellOf_14 : decode cX0_cellOf 14 = .ok (.baload, 1) := dk_51 (dk_at dksX0_cellOf_0 14 rfl rfl)
theorem dX0_cellOf_15 : decode cX0_cellOf 15 = .ok (.ireturn, 1) := dk_172 (dk_at dksX0_cellOf_0 15 rfl rfl)
theorem dX0_cellOf_16 : decode cX0_cellOf 16 = .ok (.aload_n 0, 1) := dk_42 (dk_at dksX0_cellOf_0 16 rfl rfl)
theorem dX0_cellOf_17 : decode cX0_cellOf 17 = .ok (.instanceof 363, 3) := dk_193 1 107 (dk_at dksX0_cellOf_0 17 rfl rfl)
theorem dX0_cellOf_20 : decode cX0_cellOf 20 = .ok (.ifCond .eq 12, 3) := dk_153 0 12 (dk_at dksX0_cellOf_0 20 rfl rfl)
theorem dX0_cellOf_23 : decode cX0_cellOf 23 = .ok (.aload_n 0, 1) := dk_42 (dk_at dksX0_cellOf_0 23 rfl rfl)
theorem dX0_cellOf_24 : decode cX0_cellOf 24 = .ok (.checkcast 363, 3) := dk_192 1 107 (dk_at dksX0_cellOf_1 0 rfl rfl)
theorem dX0_cellOf_27 : decode cX0_cellOf 27 = .ok (.astore_n 2, 1) := dk_77 (dk_at dksX0_cellOf_1 3 rfl rfl)
theorem dX0_cellOf_28 : decode cX0_cellOf 28 = .ok (.aload_n 2, 1) := dk_44 (dk_at dksX0_cellOf_1 4 rfl rfl)
theorem dX0_cellOf_29 : decode cX0_cellOf 29 = .ok (.iload_n 1, 1) := dk_27 (dk_at dksX0_cellOf_1 5 rfl rfl)
theorem dX0_cellOf_30 : decode cX0_cellOf 30 = .ok (.saload, 1) := dk_53 (dk_at dksX0_cellOf_1 6 rfl rfl)
theorem dX0_cellOf_31 : decode cX0_cellOf 31 = .ok (.ireturn, 1) := dk_172 (dk_at dksX0_cellOf_1 7 rfl rfl)
theorem dX0_cellOf_32 : decode cX0_cellOf 32 = .ok (.aload_n 0, 1) := dk_42 (dk_at dksX0_cellOf_1 8 rfl rfl)
theorem dX0_cellOf_33 : decode cX0_cellOf 33 = .ok (.checkcast 365, 3) := dk_192 1 109 (dk_at dksX0_cellOf_1 9 rfl rfl)
theorem dX0_cellOf_36 : decode cX0_cellOf 36 = .ok (.iload_n 1, 1) := dk_27 (dk_at dksX0_cellOf_1 12 rfl rfl)
theorem dX0_cellOf_37 : decode cX0_cellOf 37 = .ok (.iaload, 1) := dk_46 (dk_at dksX0_cellOf_1 13 rfl rfl)
theorem dX0_cellOf_38 : decode cX0_cellOf 38 = .ok (.ireturn, 1) := dk_172 (dk_at dksX0_cellOf_1 14 rfl rfl)
abbrev cX0_comesCounter : ByteArray := prog_1_method_19_code
def yX0_comesCounter : MethodName := ⟨RX0, "comesCounter", "([I)I"⟩
def dkwX0_comesCounter_2 : List UInt8 := [185, 0, 143, 2, 0, 87, 132, 2, 1, 167, 255, 230, 42, 3, 181, 0, 147, 42, 180, 0, 118, 172]
abbrev dktX0_comesCounter_2 : List UInt8 := dkwX0_comesCounter_2 ++ []
def dkwX0_comesCounter_1 : List UInt8 := [185, 0, 136, 1, 0, 3, 61, 28, 42, 180, 0, 118, 162, 0, 24, 42, 180, 0, 12, 42, 28, 182, 0, 139]
abbrev dktX0_comesCounter_1 : List UInt8 := dkwX0_comesCounter_1 ++ dktX0_comesCounter_2
def dkwX0_comesCounter_0 : List UInt8 := [42, 43, 182, 0, 133, 154, 0, 11, 16, 156, 42, 180, 0, 109, 100, 172, 42, 180, 0, 12]
abbrev dktX0_comesCounter_0 : List UInt8 := dkwX0_comesCounter_0 ++ dktX0_comesCounter_1
theorem dksX0_comesCounter_0 : cX0_comesCounter.data.toList.drop 0 = dktX0_comesCounter_0 := by decide +kernel
theorem dksX0_comesCounter_1 : cX0_comesCounter.data.toList.drop 20 = dktX0_comesCounter_1 := dk_seg dksX0_comesCounter_0 20 rfl rfl
theorem dksX0_comesCounter_2 : cX0_comesCounter.data.toList.drop 44 = dktX0_comesCounter_2 := dk_seg dksX0_comesCounter_1 24 rfl rfl
theorem dX0_comesCounter_0 : decode cX0_comesCounter 0 = .ok (.aload_n 0, 1) := dk_42 (dk_at dksX0_comesCounter_0 0 rfl rfl)
theorem dX0_comesCounter_1 : decode cX0_comesCounter 1 = .ok (.aload_n 1, 1) := dk_43 (dk_at dksX0_comesCounter_0 1 rfl rfl)
theorem dX0_comesCounter_2 : decode cX0_comesCounter 2 = .ok (.invokevirtual 133, 3) := dk_182 0 133 (dk_at dksX0_comesCounter_0 2 rfl rfl)
theorem dX0_comesCounter_5 : decode cX0_comesCounter 5 = .ok (.ifCond .ne 11, 3) := dk_154 0 11 (dk_at dksX0_comesCounter_0 5 rfl rfl)
theorem dX0_comesCounter_8 : decode cX0_comesCounter 8 = .ok (.bipush (-100), 2) := dk_16 156 (dk_at dksX0_comesCounter_0 8 rfl rfl)
theorem dX0_comesCounter_10 : decode cX0_comesCounter 10 = .ok (.aload_n 0, 1) := dk_42 (dk_at dksX0_comesCounter_0 10 rfl rfl)
theorem dX0_comesCounter_11 : decode cX0_comesCounter 11 = .ok (.getfield 109, 3) := dk_180 0 109 (dk_at dksX0_comesCounter_0 11 rfl rfl)
theorem dX0_comesCounter_14 : decode cX0_comesCounter 14 = .ok (.isub, 1) := dk_100 (dk_at dksX0_comesCounter_0 14 rfl rfl)
theorem dX0_comesCounter_15 : decode cX0_comesCounter 15 = .ok (.ireturn, 1) := dk_172 (dk_at dksX0_comesCounter_0 15 rfl rfl)
theorem dX0_comesCounter_16 : decode cX0_comesCounter 16 = .ok (.aload_n 0, 1) := dk_42 (dk_at dksX0_comesCounter_0 16 rfl rfl)
theorem dX0_comesCounter_17 : decode cX0_comesCounter 17 = .ok (.getfield 12, 3) := dk_180 0 12 (dk_at dksX0_comesCounter_0 17 rfl rfl)
theorem dX0_comesCounter_20 : decode cX0_comesCounter 20 = .ok (.invokeinterface 136 1, 5) := by decide +kernel
theorem dX0_comesCounter_25 : decode cX0_comesCounter 25 = .ok (.iconst 0, 1) := dk_3 (dk_at dksX0_comesCounter_1 5 rfl rfl)
theorem dX0_comesCounter_26 : decode cX0_comesCounter 26 = .ok (.istore_n 2, 1) := dk_61 (dk_at dksX0_comesCounter_1 6 rfl rfl)
theorem dX0_comesCounter_27 : decode cX0_comesCounter 27 = .ok (.iload_n 2, 1) := dk_28 (dk_at dksX0_comesCounter_1 7 rfl rfl)
theorem dX0_comesCounter_28 : decode cX0_comesCounter 28 = .ok (.aload_n 0, 1) := dk_42 (dk_at dksX0_comesCounter_1 8 rfl rfl)
theorem dX0_comesCounter_29 : decode cX0_comesCounter 29 = .ok (.getfield 118, 3) := dk_180 0 118 (dk_at dksX0_comesCounter_1 9 rfl rfl)
theorem dX0_comesCounter_32 : decode cX0_comesCounter 32 = .ok (.if_icmp .ge 24, 3) := dk_162 0 24 (dk_at dksX0_comesCounter_1 12 rfl rfl)
theorem dX0_comesCounter_35 : decode cX0_comesCounter 35 = .ok (.aload_n 0, 1) := dk_42 (dk_at dksX0_comesCounter_1 15 rfl rfl)
theorem dX0_comesCounter_36 : decode cX0_comesCounter 36 = .ok (.getfield 12, 3) := dk_180 0 12 (dk_at dksX0_comesCounter_1 16 rfl rfl)
theorem dX0_comesCounter_39 : decode cX0_comesCounter 39 = .ok (.aload_n 0, 1) := dk_42 (dk_at dksX0_comesCounter_1 19 rfl rfl)
theorem dX0_comesCounter_40 : decode cX0_comesCounter 40 = .ok (.iload_n 2, 1) := dk_28 (dk_at dksX0_comesCounter_1 20 rfl rfl)
theorem dX0_comesCounter_41 : decode cX0_comesCounter 41 = .ok (.invokevirtual 139, 3) := dk_182 0 139 (dk_at dksX0_comesCounter_1 21 rfl rfl)
theorem dX0_comesCounter_44 : decode cX0_comesCounter 44 = .ok (.invokeinterface 143 2, 5) := by decide +kernel
theorem dX0_comesCounter_49 : decode cX0_comesCounter 49 = .ok (.pop, 1) := dk_87 (dk_at dksX0_comesCounter_2 5 rfl rfl)
theorem dX0_comesCounter_50 : decode cX0_comesCounter 50 = .ok (.iinc 2 1, 3) := dk_132 2 1 (dk_at dksX0_comesCounter_2 6 rfl rfl)
theorem dX0_comesCounter_53 : decode cX0_comesCounter 53 = .ok (.goto (-26), 3) := dk_167 255 230 (dk_at dksX0_comesCounter_2 9 rfl rfl)
theorem dX0_comesCounter_56 : decode cX0_comesCounter 56 = .ok (.aload_n 0, 1) := dk_42 (dk_at dksX0_comesCounter_2 12 rfl rfl)
theorem dX0_comesCounter_57 : decode cX0_comesCounter 57 = .ok (.iconst 0, 1) := dk_3 (dk_at dksX0_comesCounter_2 13 rfl rfl)
theorem dX0_comesCounter_58 : decode cX0_comesCounter 58 = .ok (.putfield 147, 3) := dk_181 0 147 (dk_at dksX0_comesCounter_2 14 rfl rfl)
theorem dX0_comesCounter_61 : decode cX0_comesCounter 61 = .ok (.aload_n 0, 1) := dk_42 (dk_at dksX0_comesCounter_2 17 rfl rfl)
theorem dX0_comesCounter_62 : decode cX0_comesCounter 62 = .ok (.getfield 118, 3) := dk_180 0 118 (dk_at dksX0_comesCounter_2 18 rfl rfl)
theorem dX0_comesCounter_65 : decode cX0_comesCounter 65 = .ok (.ireturn, 1) := dk_172 (dk_at dksX0_comesCounter_2 21 rfl rfl)
abbrev cX0_readAll : ByteArray := prog_1_method_18_code
def yX0_readAll : MethodName := ⟨RX0, "readAll", "([I)Z"⟩
def dkwX0_readAll_3 : List UInt8 := [180, 0, 109, 43, 190, 160, 0, 7, 4, 167, 0, 4, 3, 172]
abbrev dktX0_readAll_3 : List UInt8 := dkwX0_readAll_3 ++ []
def dkwX0_readAll_2 : List UInt8 := [162, 0, 23, 42, 43, 16, 59, 182, 0, 121, 153, 0, 11, 42, 43, 182, 0, 129, 154, 255, 215, 3, 172, 42]
abbrev dktX0_readAll_2 : List UInt8 := dkwX0_readAll_2 ++ dktX0_readAll_3
def dkwX0_readAll_1 : List UInt8 := [180, 0, 118, 5, 161, 0, 21, 42, 180, 0, 118, 16, 6, 162, 0, 32, 42, 180, 0, 109, 43, 190]
abbrev dktX0_readAll_1 : List UInt8 := dkwX0_readAll_1 ++ dktX0_readAll_2
def dkwX0_readAll_0 : List UInt8 := [42, 3, 181, 0, 109, 42, 3, 181, 0, 118, 42, 43, 16, 107, 182, 0, 121, 154, 0, 5, 3, 172, 42]
abbrev dktX0_readAll_0 : List UInt8 := dkwX0_readAll_0 ++ dktX0_readAll_1
theorem dksX0_readAll_0 : cX0_readAll.data.toList.drop 0 = dktX0_readAll_0 := by decide +kernel
theorem dksX0_readAll_1 : cX0_readAll.data.toList.drop 23 = dktX0_readAll_1 := dk_seg dksX0_readAll_0 23 rfl rfl
theorem dksX0_readAll_2 : cX0_readAll.data.toList.drop 45 = dktX0_readAll_2 := dk_seg dksX0_readAll_1 22 rfl rfl
theorem dksX0_readAll_3 : cX0_readAll.data.toList.drop 69 = dktX0_readAll_3 := dk_seg dksX0_readAll_2 24 rfl rfl
theorem dX0_readAll_0 : decode cX0_readAll 0 = .ok (.aload_n 0, 1) := dk_42 (dk_at dksX0_readAll_0 0 rfl rfl)
theorem dX0_readAll_1 : decode cX0_readAll 1 = .ok (.iconst 0, 1) := dk_3 (dk_at dksX0_readAll_0 1 rfl rfl)
theorem dX0_readAll_2 : decode cX0_readAll 2 = .ok (.putfield 109, 3) := dk_181 0 109 (dk_at dksX0_readAll_0 2 rfl rfl)
theorem dX0_readAll_5 : decode cX0_readAll 5 = .ok (.aload_n 0, 1) := dk_42 (dk_at dksX0_readAll_0 5 rfl rfl)
theorem dX0_readAll_6 : decode cX0_readAll 6 = .ok (.iconst 0, 1) := dk_3 (dk_at dksX0_readAll_0 6 rfl rfl)
theorem dX0_readAll_7 : decode cX0_readAll 7 = .ok (.putfield 118, 3) := dk_181 0 118 (dk_at dksX0_readAll_0 7 rfl rfl)
theorem dX0_readAll_10 : decode cX0_readAll 10 = .ok (.aload_n 0, 1) := dk_42 (dk_at dksX0_readAll_0 10 rfl rfl)
theorem dX0_readAll_11 : decode cX0_readAll 11 = .ok (.aload_n 1, 1) := dk_43 (dk_at dksX0_readAll_0 11 rfl rfl)
theorem dX0_readAll_12 : decode cX0_readAll 12 = .ok (.bipush 107, 2) := dk_16 107 (dk_at dksX0_readAll_0 12 rfl rfl)
theorem dX0_readAll_14 : decode cX0_readAll 14 = .ok (.invokevirtual 121, 3) := dk_182 0 121 (dk_at dksX0_readAll_0 14 rfl rfl)
theorem dX0_readAll_17 : decode cX0_readAll 17 = .ok (.ifCond .ne 5, 3) := dk_154 0 5 (dk_at dksX0_readAll_0 17 rfl rfl)
theorem dX0_readAll_20 : decode cX0_readAll 20 = .ok (.iconst 0, 1) := dk_3 (dk_at dksX0_readAll_0 20 rfl rfl)
theorem dX0_readAll_21 : decode cX0_readAll 21 = .ok (.ireturn, 1) := dk_172 (dk_at dksX0_readAll_0 21 rfl rfl)
theorem dX0_readAll_22 : decode cX0_readAll 22 = .ok (.aload_n 0, 1) := dk_42 (dk_at dksX0_readAll_0 22 rfl rfl)
theorem dX0_readAll_23 : decode cX0_readAll 23 = .ok (.getfield 118, 3) := dk_180 0 118 (dk_at dksX0_readAll_1 0 rfl rfl)
theorem dX0_readAll_26 : decode cX0_readAll 26 = .ok (.iconst 2, 1) := dk_5 (dk_at dksX0_readAll_1 3 rfl rfl)
theorem dX0_readAll_27 : decode cX0_readAll 27 = .ok (.if_icmp .lt 21, 3) := dk_161 0 21 (dk_at dksX0_readAll_1 4 rfl rfl)
theorem dX0_readAll_30 : decode cX0_readAll 30 = .ok (.aload_n 0, 1) := dk_42 (dk_at dksX0_readAll_1 7 rfl rfl)
theorem dX0_readAll_31 : decode cX0_readAll 31 = .ok (.getfield 118, 3) := dk_180 0 118 (dk_at dksX0_readAll_1 8 rfl rfl)
theorem dX0_readAll_34 : decode cX0_readAll 34 = .ok (.bipush 6, 2) := dk_16 6 (dk_at dksX0_readAll_1 11 rfl rfl)
theorem dX0_readAll_36 : decode cX0_readAll 36 = .ok (.if_icmp .ge 32, 3) := dk_162 0 32 (dk_at dksX0_readAll_1 13 rfl rfl)
theorem dX0_readAll_39 : decode cX0_readAll 39 = .ok (.aload_n 0, 1) := dk_42 (dk_at dksX0_readAll_1 16 rfl rfl)
theorem dX0_readAll_40 : decode cX0_readAll 40 = .ok (.getfield 109, 3) := dk_180 0 109 (dk_at dksX0_readAll_1 17 rfl rfl)
theorem dX0_readAll_43 : decode cX0_readAll 43 = .ok (.aload_n 1, 1) := dk_43 (dk_at dksX0_readAll_1 20 rfl rfl)
theorem dX0_readAll_44 : decode cX0_readAll 44 = .ok (.arraylength, 1) := dk_190 (dk_at dksX0_readAll_1 21 rfl rfl)
theorem dX0_readAll_45 : decode cX0_readAll 45 = .ok (.if_icmp .ge 23, 3) := dk_162 0 23 (dk_at dksX0_readAll_2 0 rfl rfl)
theorem dX0_readAll_48 : decode cX0_readAll 48 = .ok (.aload_n 0, 1) := dk_42 (dk_at dksX0_readAll_2 3 rfl rfl)
theorem dX0_readAll_49 : decode cX0_readAll 49 = .ok (.aload_n 1, 1) := dk_43 (dk_at dksX0_readAll_2 4 rfl rfl)
theorem dX0_readAll_50 : decode cX0_readAll 50 = .ok (.bipush 59, 2) := dk_16 59 (dk_at dksX0_readAll_2 5 rfl rfl)
theorem dX0_readAll_52 : decode cX0_readAll 52 = .ok (.invokevirtual 121, 3) := dk_182 0 121 (dk_at dksX0_readAll_2 7 rfl rfl)
theorem dX0_readAll_55 : decode cX0_readAll 55 = .ok (.ifCond .eq 11, 3) := dk_153 0 11 (dk_at dksX0_readAll_2 10 rfl rfl)
theorem dX0_readAll_58 : decode cX0_readAll 58 = .ok (.aload_n 0, 1) := dk_42 (dk_at dksX0_readAll_2 13 rfl rfl)
theorem dX0_readAll_59 : decode cX0_readAll 59 = .ok (.aload_n 1, 1) := dk_43 (dk_at dksX0_readAll_2 14 rfl rfl)
theorem dX0_readAll_60 : decode cX0_readAll 60 = .ok (.invokevirtual 129, 3) := dk_182 0 129 (dk_at dksX0_readAll_2 15 rfl rfl)
theorem dX0_readAll_63 : decode cX0_readAll 63 = .ok (.ifCond .ne (-41), 3) := dk_154 255 215 (dk_at dksX0_readAll_2 18 rfl rfl)
theorem dX0_readAll_66 : decode cX0_readAll 66 = .ok (.iconst 0, 1) := dk_3 (dk_at dksX0_readAll_2 21 rfl rfl)
theorem dX0_readAll_67 : decode cX0_readAll 67 = .ok (.ireturn, 1) := dk_172 (dk_at dksX0_readAll_2 22 rfl rfl)
theorem dX0_readAll_68 : decode cX0_readAll 68 = .ok (.aload_n 0, 1) := dk_42 (dk_at dksX0_readAll_2 23 rfl rfl)
theorem dX0_readAll_69 : decode cX0_readAll 69 = .ok (.getfield 109, 3) := dk_180 0 109 (dk_at dksX0_readAll_3 0 rfl rfl)
theorem dX0_readAll_72 : decode cX0_readAll 72 = .ok (.aload_n 1, 1) := dk_43 (dk_at dksX0_readAll_3 3 rfl rfl)
theorem dX0_readAll_73 : decode cX0_readAll 73 = .ok (.arraylength, 1) := dk_190 (dk_at dksX0_readAll_3 4 rfl rfl)
theorem dX0_readAll_74 : decode cX0_readAll 74 = .ok (.if_icmp .ne 7, 3) := dk_160 0 7 (dk_at dksX0_readAll_3 5 rfl rfl)
theorem dX0_readAll_77 : decode cX0_readAll 77 = .ok (.iconst 1, 1) := dk_4 (dk_at dksX0_readAll_3 8 rfl rfl)
theorem dX0_readAll_78 : decode cX0_readAll 78 = .ok (.goto 4, 3) := dk_167 0 4 (dk_at dksX0_readAll_3 9 rfl rfl)
theorem dX0_readAll_81 : decode cX0_readAll 81 = .ok (.iconst 0, 1) := dk_3 (dk_at dksX0_readAll_3 12 rfl rfl)
theorem dX0_readAll_82 : decode cX0_readAll 82 = .ok (.ireturn, 1) := dk_172 (dk_at dksX0_readAll_3 13 rfl rfl)
abbrev cX0_isSign : ByteArray := prog_1_method_14_code
def yX0_isSign : MethodName := ⟨RX0, "isSign", "([II)Z"⟩
def dkwX0_isSign_1 : List UInt8 := [180, 0, 109, 4, 96, 181, 0, 109, 4, 172]
abbrev dktX0_isSign_1 : List UInt8 := dkwX0_isSign_1 ++ []
def dkwX0_isSign_0 : List UInt8 := [42, 180, 0, 109, 43, 190, 159, 0, 13, 43, 42, 180, 0, 109, 46, 28, 159, 0, 5, 3, 172, 42, 89]
abbrev dktX0_isSign_0 : List UInt8 := dkwX0_isSign_0 ++ dktX0_isSign_1
theorem dksX0_isSign_0 : cX0_isSign.data.toList.drop 0 = dktX0_isSign_0 := by decide +kernel
theorem dksX0_isSign_1 : cX0_isSign.data.toList.drop 23 = dktX0_isSign_1 := dk_seg dksX0_isSign_0 23 rfl rfl
theorem dX0_isSign_0 : decode cX0_isSign 0 = .ok (.aload_n 0, 1) := dk_42 (dk_at dksX0_isSign_0 0 rfl rfl)
theorem dX0_isSign_1 : decode cX0_isSign 1 = .ok (.getfield 109, 3) := dk_180 0 109 (dk_at dksX0_isSign_0 1 rfl rfl)
theorem dX0_isSign_4 : decode cX0_isSign 4 = .ok (.aload_n 1, 1) := dk_43 (dk_at dksX0_isSign_0 4 rfl rfl)
theorem dX0_isSign_5 : decode cX0_isSign 5 = .ok (.arraylength, 1) := dk_190 (dk_at dksX0_isSign_0 5 rfl rfl)
theorem dX0_isSign_6 : decode cX0_isSign 6 = .ok (.if_icmp .eq 13, 3) := dk_159 0 13 (dk_at dksX0_isSign_0 6 rfl rfl)
theorem dX0_isSign_9 : decode cX0_isSign 9 = .ok (.aload_n 1, 1) := dk_43 (dk_at dksX0_isSign_0 9 rfl rfl)
theorem dX0_isSign_10 : decode cX0_isSign 10 = .ok (.aload_n 0, 1) := dk_42 (dk_at dksX0_isSign_0 10 rfl rfl)
theorem dX0_isSign_11 : decode cX0_isSign 11 = .ok (.getfield 109, 3) := dk_180 0 109 (dk_at dksX0_isSign_0 11 rfl rfl)
theorem dX0_isSign_14 : decode cX0_isSign 14 = .ok (.iaload, 1) := dk_46 (dk_at dksX0_isSign_0 14 rfl rfl)
theorem dX0_isSign_15 : decode cX0_isSign 15 = .ok (.iload_n 2, 1) := dk_28 (dk_at dksX0_isSign_0 15 rfl rfl)
theorem dX0_isSign_16 : decode cX0_isSign 16 = .ok (.if_icmp .eq 5, 3) := dk_159 0 5 (dk_at dksX0_isSign_0 16 rfl rfl)
theorem dX0_isSign_19 : decode cX0_isSign 19 = .ok (.iconst 0, 1) := dk_3 (dk_at dksX0_isSign_0 19 rfl rfl)
theorem dX0_isSign_20 : decode cX0_isSign 20 = .ok (.ireturn, 1) := dk_172 (dk_at dksX0_isSign_0 20 rfl rfl)
theorem dX0_isSign_21 : decode cX0_isSign 21 = .ok (.aload_n 0, 1) := dk_42 (dk_at dksX0_isSign_0 21 rfl rfl)
theorem dX0_isSign_22 : decode cX0_isSign 22 = .ok (.dup, 1) := dk_89 (dk_at dksX0_isSign_0 22 rfl rfl)
theorem dX0_isSign_23 : decode cX0_isSign 23 = .ok (.getfield 109, 3) := dk_180 0 109 (dk_at dksX0_isSign_1 0 rfl rfl)
theorem dX0_isSign_26 : decode cX0_isSign 26 = .ok (.iconst 1, 1) := dk_4 (dk_at dksX0_isSign_1 3 rfl rfl)
theorem dX0_isSign_27 : decode cX0_isSign 27 = .ok (.iadd, 1) := dk_96 (dk_at dksX0_isSign_1 4 rfl rfl)
theorem dX0_isSign_28 : decode cX0_isSign 28 = .ok (.putfield 109, 3) := dk_181 0 109 (dk_at dksX0_isSign_1 5 rfl rfl)
theorem dX0_isSign_31 : decode cX0_isSign 31 = .ok (.iconst 1, 1) := dk_4 (dk_at dksX0_isSign_1 8 rfl rfl)
theorem dX0_isSign_32 : decode cX0_isSign 32 = .ok (.ireturn, 1) := dk_172 (dk_at dksX0_isSign_1 9 rfl rfl)
abbrev cX0_readPerson : ByteArray := prog_1_method_17_code
def yX0_readPerson : MethodName := ⟨RX0, "readPerson", "([I)Z"⟩
def dkwX0_readPerson_6 : List UInt8 := [180, 0, 32, 28, 46, 16, 247, 159, 0, 7, 4, 167, 0, 4, 3, 172]
abbrev dktX0_readPerson_6 : List UInt8 := dkwX0_readPerson_6 ++ []
def dkwX0_readPerson_5 : List UInt8 := [180, 0, 32, 28, 42, 43, 4, 16, 9, 182, 0, 114, 79, 42, 89, 180, 0, 118, 4, 96, 181, 0, 118, 42]
abbrev dktX0_readPerson_5 : List UInt8 := dkwX0_readPerson_5 ++ dktX0_readPerson_6
def dkwX0_readPerson_4 : List UInt8 := [28, 42, 43, 3, 16, 6, 182, 0, 114, 79, 42, 180, 0, 29, 28, 46, 16, 247, 160, 0, 5, 3, 172, 42]
abbrev dktX0_readPerson_4 : List UInt8 := dkwX0_readPerson_4 ++ dktX0_readPerson_5
def dkwX0_readPerson_3 : List UInt8 := [28, 42, 43, 182, 0, 125, 79, 42, 180, 0, 26, 28, 46, 16, 247, 160, 0, 5, 3, 172, 42, 180, 0, 29]
abbrev dktX0_readPerson_3 : List UInt8 := dkwX0_readPerson_3 ++ dktX0_readPerson_4
def dkwX0_readPerson_2 : List UInt8 := [5, 167, 0, 5, 16, 247, 79, 42, 180, 0, 22, 28, 46, 16, 247, 160, 0, 5, 3, 172, 42, 180, 0, 26]
abbrev dktX0_readPerson_2 : List UInt8 := dkwX0_readPerson_2 ++ dktX0_readPerson_3
def dkwX0_readPerson_1 : List UInt8 := [42, 43, 16, 115, 182, 0, 121, 153, 0, 7, 4, 167, 0, 19, 42, 43, 16, 116, 182, 0, 121, 153, 0, 7]
abbrev dktX0_readPerson_1 : List UInt8 := dkwX0_readPerson_1 ++ dktX0_readPerson_2
def dkwX0_readPerson_0 : List UInt8 := [42, 180, 0, 118, 61, 42, 180, 0, 22, 28, 42, 43, 16, 99, 182, 0, 121, 153, 0, 7, 3, 167, 0, 33]
abbrev dktX0_readPerson_0 : List UInt8 := dkwX0_readPerson_0 ++ dktX0_readPerson_1
theorem dksX0_readPerson_0 : cX0_readPerson.data.toList.drop 0 = dktX0_readPerson_0 := by decide +kernel
theorem dksX0_readPerson_1 : cX0_readPerson.data.toList.drop 24 = dktX0_readPerson_1 := dk_seg dksX0_readPerson_0 24 rfl rfl
theorem dksX0_readPerson_2 : cX0_readPerson.data.toList.drop 48 = dktX0_readPerson_2 := dk_seg dksX0_readPerson_1 24 rfl rfl
theorem dksX0_readPerson_3 : cX0_readPerson.data.toList.drop 72 = dktX0_readPerson_3 := dk_seg dksX0_readPerson_2 24 rfl rfl
theorem dksX0_readPerson_4 : cX0_readPerson.data.toList.drop 96 = dktX0_readPerson_4 := dk_seg dksX0_readPerson_3 24 rfl rfl
theorem dksX0_readPerson_5 : cX0_readPerson.data.toList.drop 120 = dktX0_readPerson_5 := dk_seg dksX0_readPerson_4 24 rfl rfl
theorem dksX0_readPerson_6 : cX0_readPerson.data.toList.drop 144 = dktX0_readPerson_6 := dk_seg dksX0_readPerson_5 24 rfl rfl
theorem dX0_readPerson_0 : decode cX0_readPerson 0 = .ok (.aload_n 0, 1) := dk_42 (dk_at dksX0_readPerson_0 0 rfl rfl)
theorem dX0_readPerson_1 : decode cX0_readPerson 1 = .ok (.getfield 118, 3) := dk_180 0 118 (dk_at dksX0_readPerson_0 1 rfl rfl)
theorem dX0_readPerson_4 : decode cX0_readPerson 4 = .ok (.istore_n 2, 1) := dk_61 (dk_at dksX0_readPerson_0 4 rfl rfl)
theorem dX0_readPerson_5 : decode cX0_readPerson 5 = .ok (.aload_n 0, 1) := dk_42 (dk_at dksX0_readPerson_0 5 rfl rfl)
theorem dX0_readPerson_6 : decode cX0_readPerson 6 = .ok (.getfield 22, 3) := dk_180 0 22 (dk_at dksX0_readPerson_0 6 rfl rfl)
theorem dX0_readPerson_9 : decode cX0_readPerson 9 = .ok (.iload_n 2, 1) := dk_28 (dk_at dksX0_readPerson_0 9 rfl rfl)
theorem dX0_readPerson_10 : decode cX0_readPerson 10 = .ok (.aload_n 0, 1) := dk_42 (dk_at dksX0_readPerson_0 10 rfl rfl)
theorem dX0_readPerson_11 : decode cX0_readPerson 11 = .ok (.aload_n 1, 1) := dk_43 (dk_at dksX0_readPerson_0 11 rfl rfl)
theorem dX0_readPerson_12 : decode cX0_readPerson 12 = .ok (.bipush 99, 2) := dk_16 99 (dk_at dksX0_readPerson_0 12 rfl rfl)
theorem dX0_readPerson_14 : decode cX0_readPerson 14 = .ok (.invokevirtual 121, 3) := dk_182 0 121 (dk_at dksX0_readPerson_0 14 rfl rfl)
theorem dX0_readPerson_17 : decode cX0_readPerson 17 = .ok (.ifCond .eq 7, 3) := dk_153 0 7 (dk_at dksX0_readPerson_0 17 rfl rfl)
theorem dX0_readPerson_20 : decode cX0_readPerson 20 = .ok (.iconst 0, 1) := dk_3 (dk_at dksX0_readPerson_0 20 rfl rfl)
theorem dX0_readPerson_21 : decode cX0_readPerson 21 = .ok (.goto 33, 3) := dk_167 0 33 (dk_at dksX0_readPerson_0 21 rfl rfl)
theorem dX0_readPerson_24 : decode cX0_readPerson 24 = .ok (.aload_n 0, 1) := dk_42 (dk_at dksX0_readPerson_1 0 rfl rfl)
theorem dX0_readPerson_25 : decode cX0_readPerson 25 = .ok (.aload_n 1, 1) := dk_43 (dk_at dksX0_readPerson_1 1 rfl rfl)
theorem dX0_readPerson_26 : decode cX0_readPerson 26 = .ok (.bipush 115, 2) := dk_16 115 (dk_at dksX0_readPerson_1 2 rfl rfl)
theorem dX0_readPerson_28 : decode cX0_readPerson 28 = .ok (.invokevirtual 121, 3) := dk_182 0 121 (dk_at dksX0_readPerson_1 4 rfl rfl)
theorem dX0_readPerson_31 : decode cX0_readPerson 31 = .ok (.ifCond .eq 7, 3) := dk_153 0 7 (dk_at dksX0_readPerson_1 7 rfl rfl)
theorem dX0_readPerson_34 : decode cX0_readPerson 34 = .ok (.iconst 1, 1) := dk_4 (dk_at dksX0_readPerson_1 10 rfl rfl)
theorem dX0_readPerson_35 : decode cX0_readPerson 35 = .ok (.goto 19, 3) := dk_167 0 19 (dk_at dksX0_readPerson_1 11 rfl rfl)
theorem dX0_readPerson_38 : decode cX0_readPerson 38 = .ok (.aload_n 0, 1) := dk_42 (dk_at dksX0_readPerson_1 14 rfl rfl)
theorem dX0_readPerson_39 : decode cX0_readPerson 39 = .ok (.aload_n 1, 1) := dk_43 (dk_at dksX0_readPerson_1 15 rfl rfl)
theorem dX0_readPerson_40 : decode cX0_readPerson 40 = .ok (.bipush 116, 2) := dk_16 116 (dk_at dksX0_readPerson_1 16 rfl rfl)
theorem dX0_readPerson_42 : decode cX0_readPerson 42 = .ok (.invokevirtual 121, 3) := dk_182 0 121 (dk_at dksX0_readPerson_1 18 rfl rfl)
theorem dX0_readPerson_45 : decode cX0_readPerson 45 = .ok (.ifCond .eq 7, 3) := dk_153 0 7 (dk_at dksX0_readPerson_1 21 rfl rfl)
theorem dX0_readPerson_48 : decode cX0_readPerson 48 = .ok (.iconst 2, 1) := dk_5 (dk_at dksX0_readPerson_2 0 rfl rfl)
theorem dX0_readPerson_49 : decode cX0_readPerson 49 = .ok (.goto 5, 3) := dk_167 0 5 (dk_at dksX0_readPerson_2 1 rfl rfl)
theorem dX0_readPerson_52 : decode cX0_readPerson 52 = .ok (.bipush (-9), 2) := dk_16 247 (dk_at dksX0_readPerson_2 4 rfl rfl)
theorem dX0_readPerson_54 : decode cX0_readPerson 54 = .ok (.iastore, 1) := dk_79 (dk_at dksX0_readPerson_2 6 rfl rfl)
theorem dX0_readPerson_55 : decode cX0_readPerson 55 = .ok (.aload_n 0, 1) := dk_42 (dk_at dksX0_readPerson_2 7 rfl rfl)
theorem dX0_readPerson_56 : decode cX0_readPerson 56 = .ok (.getfield 22, 3) := dk_180 0 22 (dk_at dksX0_readPerson_2 8 rfl rfl)
theorem dX0_readPerson_59 : decode cX0_readPerson 59 = .ok (.iload_n 2, 1) := dk_28 (dk_at dksX0_readPerson_2 11 rfl rfl)
theorem dX0_readPerson_60 : decode cX0_readPerson 60 = .ok (.iaload, 1) := dk_46 (dk_at dksX0_readPerson_2 12 rfl rfl)
theorem dX0_readPerson_61 : decode cX0_readPerson 61 = .ok (.bipush (-9), 2) := dk_16 247 (dk_at dksX0_readPerson_2 13 rfl rfl)
theorem dX0_readPerson_63 : decode cX0_readPerson 63 = .ok (.if_icmp .ne 5, 3) := dk_160 0 5 (dk_at dksX0_readPerson_2 15 rfl rfl)
theorem dX0_readPerson_66 : decode cX0_readPerson 66 = .ok (.iconst 0, 1) := dk_3 (dk_at dksX0_readPerson_2 18 rfl rfl)
theorem dX0_readPerson_67 : decode cX0_readPerson 67 = .ok (.ireturn, 1) := dk_172 (dk_at dksX0_readPerson_2 19 rfl rfl)
theorem dX0_readPerson_68 : decode cX0_readPerson 68 = .ok (.aload_n 0, 1) := dk_42 (dk_at dksX0_readPerson_2 20 rfl rfl)
theorem dX0_readPerson_69 : decode cX0_readPerson 69 = .ok (.getfield 26, 3) := dk_180 0 26 (dk_at dksX0_readPerson_2 21 rfl rfl)
theorem dX0_readPerson_72 : decode cX0_readPerson 72 = .ok (.iload_n 2, 1) := dk_28 (dk_at dksX0_readPerson_3 0 rfl rfl)
theorem dX0_readPerson_73 : decode cX0_readPerson 73 = .ok (.aload_n 0, 1) := dk_42 (dk_at dksX0_readPerson_3 1 rfl rfl)
theorem dX0_readPerson_74 : decode cX0_readPerson 74 = .ok (.aload_n 1, 1) := dk_43 (dk_at dksX0_readPerson_3 2 rfl rfl)
theorem dX0_readPerson_75 : decode cX0_readPerson 75 = .ok (.invokevirtual 125, 3) := dk_182 0 125 (dk_at dksX0_readPerson_3 3 rfl rfl)
theorem dX0_readPerson_78 : decode cX0_readPerson 78 = .ok (.iastore, 1) := dk_79 (dk_at dksX0_readPerson_3 6 rfl rfl)
theorem dX0_readPerson_79 : decode cX0_readPerson 79 = .ok (.aload_n 0, 1) := dk_42 (dk_at dksX0_readPerson_3 7 rfl rfl)
theorem dX0_readPerson_80 : decode cX0_readPerson 80 = .ok (.getfield 26, 3) := dk_180 0 26 (dk_at dksX0_readPerson_3 8 rfl rfl)
theorem dX0_readPerson_83 : decode cX0_readPerson 83 = .ok (.iload_n 2, 1) := dk_28 (dk_at dksX0_readPerson_3 11 rfl rfl)
theorem dX0_readPerson_84 : decode cX0_readPerson 84 = .ok (.iaload, 1) := dk_46 (dk_at dksX0_readPerson_3 12 rfl rfl)
theorem dX0_readPerson_85 : decode cX0_readPerson 85 = .ok (.bipush (-9), 2) := dk_16 247 (dk_at dksX0_readPerson_3 13 rfl rfl)
theorem dX0_readPerson_87 : decode cX0_readPerson 87 = .ok (.if_icmp .ne 5, 3) := dk_160 0 5 (dk_at dksX0_readPerson_3 15 rfl rfl)
theorem dX0_readPerson_90 : decode cX0_readPerson 90 = .ok (.iconst 0, 1) := dk_3 (dk_at dksX0_readPerson_3 18 rfl rfl)
theorem dX0_readPerson_91 : decode cX0_readPerson 91 = .ok (.ireturn, 1) := dk_172 (dk_at dksX0_readPerson_3 19 rfl rfl)
theorem dX0_readPerson_92 : decode cX0_readPerson 92 = .ok (.aload_n 0, 1) := dk_42 (dk_at dksX0_readPerson_3 20 rfl rfl)
theorem dX0_readPerson_93 : decode cX0_readPerson 93 = .ok (.getfield 29, 3) := dk_180 0 29 (dk_at dksX0_readPerson_3 21 rfl rfl)
theorem dX0_readPerson_96 : decode cX0_readPerson 96 = .ok (.iload_n 2, 1) := dk_28 (dk_at dksX0_readPerson_4 0 rfl rfl)
theorem dX0_readPerson_97 : decode cX0_readPerson 97 = .ok (.aload_n 0, 1) := dk_42 (dk_at dksX0_readPerson_4 1 rfl rfl)
theorem dX0_readPerson_98 : decode cX0_readPerson 98 = .ok (.aload_n 1, 1) := dk_43 (dk_at dksX0_readPerson_4 2 rfl rfl)
theorem dX0_readPerson_99 : decode cX0_readPerson 99 = .ok (.iconst 0, 1) := dk_3 (dk_at dksX0_readPerson_4 3 rfl rfl)
theorem dX0_readPerson_100 : decode cX0_readPerson 100 = .ok (.bipush 6, 2) := dk_16 6 (dk_at dksX0_readPerson_4 4 rfl rfl)
theorem dX0_readPerson_102 : decode cX0_readPerson 102 = .ok (.invokevirtual 114, 3) := dk_182 0 114 (dk_at dksX0_readPerson_4 6 rfl rfl)
theorem dX0_readPerson_105 : decode cX0_readPerson 105 = .ok (.iastore, 1) := dk_79 (dk_at dksX0_readPerson_4 9 rfl rfl)
theorem dX0_readPerson_106 : decode cX0_readPerson 106 = .ok (.aload_n 0, 1) := dk_42 (dk_at dksX0_readPerson_4 10 rfl rfl)
theorem dX0_readPerson_107 : decode cX0_readPerson 107 = .ok (.getfield 29, 3) := dk_180 0 29 (dk_at dksX0_readPerson_4 11 rfl rfl)
theorem dX0_readPerson_110 : decode cX0_readPerson 110 = .ok (.iload_n 2, 1) := dk_28 (dk_at dksX0_readPerson_4 14 rfl rfl)
theorem dX0_readPerson_111 : decode cX0_readPerson 111 = .ok (.iaload, 1) := dk_46 (dk_at dksX0_readPerson_4 15 rfl rfl)
theorem dX0_readPerson_112 : decode cX0_readPerson 112 = .ok (.bipush (-9), 2) := dk_16 247 (dk_at dksX0_readPerson_4 16 rfl rfl)
theorem dX0_readPerson_114 : decode cX0_readPerson 114 = .ok (.if_icmp .ne 5, 3) := dk_160 0 5 (dk_at dksX0_readPerson_4 18 rfl rfl)
theorem dX0_readPerson_117 : decode cX0_readPerson 117 = .ok (.iconst 0, 1) := dk_3 (dk_at dksX0_readPerson_4 21 rfl rfl)
theorem dX0_readPerson_118 : decode cX0_readPerson 118 = .ok (.ireturn, 1) := dk_172 (dk_at dksX0_readPerson_4 22 rfl rfl)
theorem dX0_readPerson_119 : decode cX0_readPerson 119 = .ok (.aload_n 0, 1) := dk_42 (dk_at dksX0_readPerson_4 23 rfl rfl)
theorem dX0_readPerson_120 : decode cX0_readPerson 120 = .ok (.getfield 32, 3) := dk_180 0 32 (dk_at dksX0_readPerson_5 0 rfl rfl)
theorem dX0_readPerson_123 : decode cX0_readPerson 123 = .ok (.iload_n 2, 1) := dk_28 (dk_at dksX0_readPerson_5 3 rfl rfl)
theorem dX0_readPerson_124 : decode cX0_readPerson 124 = .ok (.aload_n 0, 1) := dk_42 (dk_at dksX0_readPerson_5 4 rfl rfl)
theorem dX0_readPerson_125 : decode cX0_readPerson 125 = .ok (.aload_n 1, 1) := dk_43 (dk_at dksX0_readPerson_5 5 rfl rfl)
theorem dX0_readPerson_126 : decode cX0_readPerson 126 = .ok (.iconst 1, 1) := dk_4 (dk_at dksX0_readPerson_5 6 rfl rfl)
theorem dX0_readPerson_127 : decode cX0_readPerson 127 = .ok (.bipush 9, 2) := dk_16 9 (dk_at dksX0_readPerson_5 7 rfl rfl)
theorem dX0_readPerson_129 : decode cX0_readPerson 129 = .ok (.invokevirtual 114, 3) := dk_182 0 114 (dk_at dksX0_readPerson_5 9 rfl rfl)
theorem dX0_readPerson_132 : decode cX0_readPerson 132 = .ok (.iastore, 1) := dk_79 (dk_at dksX0_readPerson_5 12 rfl rfl)
theorem dX0_readPerson_133 : decode cX0_readPerson 133 = .ok (.aload_n 0, 1) := dk_42 (dk_at dksX0_readPerson_5 13 rfl rfl)
theorem dX0_readPerson_134 : decode cX0_readPerson 134 = .ok (.dup, 1) := dk_89 (dk_at dksX0_readPerson_5 14 rfl rfl)
theorem dX0_readPerson_135 : decode cX0_readPerson 135 = .ok (.getfield 118, 3) := dk_180 0 118 (dk_at dksX0_readPerson_5 15 rfl rfl)
theorem dX0_readPerson_138 : decode cX0_readPerson 138 = .ok (.iconst 1, 1) := dk_4 (dk_at dksX0_readPerson_5 18 rfl rfl)
theorem dX0_readPerson_139 : decode cX0_readPerson 139 = .ok (.iadd, 1) := dk_96 (dk_at dksX0_readPerson_5 19 rfl rfl)
theorem dX0_readPerson_140 : decode cX0_readPerson 140 = .ok (.putfield 118, 3) := dk_181 0 118 (dk_at dksX0_readPerson_5 20 rfl rfl)
theorem dX0_readPerson_143 : decode cX0_readPerson 143 = .ok (.aload_n 0, 1) := dk_42 (dk_at dksX0_readPerson_5 23 rfl rfl)
theorem dX0_readPerson_144 : decode cX0_readPerson 144 = .ok (.getfield 32, 3) := dk_180 0 32 (dk_at dksX0_readPerson_6 0 rfl rfl)
theorem dX0_readPerson_147 : decode cX0_readPerson 147 = .ok (.iload_n 2, 1) := dk_28 (dk_at dksX0_readPerson_6 3 rfl rfl)
theorem dX0_readPerson_148 : decode cX0_readPerson 148 = .ok (.iaload, 1) := dk_46 (dk_at dksX0_readPerson_6 4 rfl rfl)
theorem dX0_readPerson_149 : decode cX0_readPerson 149 = .ok (.bipush (-9), 2) := dk_16 247 (dk_at dksX0_readPerson_6 5 rfl rfl)
theorem dX0_readPerson_151 : decode cX0_readPerson 151 = .ok (.if_icmp .eq 7, 3) := dk_159 0 7 (dk_at dksX0_readPerson_6 7 rfl rfl)
theorem dX0_readPerson_154 : decode cX0_readPerson 154 = .ok (.iconst 1, 1) := dk_4 (dk_at dksX0_readPerson_6 10 rfl rfl)
theorem dX0_readPerson_155 : decode cX0_readPerson 155 = .ok (.goto 4, 3) := dk_167 0 4 (dk_at dksX0_readPerson_6 11 rfl rfl)
theorem dX0_readPerson_158 : decode cX0_readPerson 158 = .ok (.iconst 0, 1) := dk_3 (dk_at dksX0_readPerson_6 14 rfl rfl)
theorem dX0_readPerson_159 : decode cX0_readPerson 159 = .ok (.ireturn, 1) := dk_172 (dk_at dksX0_readPerson_6 15 rfl rfl)
abbrev cX0_readSet : ByteArray := prog_1_method_16_code
def yX0_readSet : MethodName := ⟨RX0, "readSet", "([I)I"⟩
def dkwX0_readSet_2 : List UInt8 := [16, 10, 28, 104, 29, 96, 172]
abbrev dktX0_readSet_2 : List UInt8 := dkwX0_readSet_2 ++ []
def dkwX0_readSet_1 : List UInt8 := [160, 0, 7, 6, 167, 0, 5, 16, 9, 182, 0, 114, 62, 29, 16, 247, 160, 0, 8, 16, 247, 167, 0, 9]
abbrev dktX0_readSet_1 : List UInt8 := dkwX0_readSet_1 ++ dktX0_readSet_2
def dkwX0_readSet_0 : List UInt8 := [42, 43, 3, 16, 6, 182, 0, 114, 61, 28, 16, 247, 160, 0, 6, 16, 247, 172, 42, 43, 3, 28, 16, 6]
abbrev dktX0_readSet_0 : List UInt8 := dkwX0_readSet_0 ++ dktX0_readSet_1
theorem dksX0_readSet_0 : cX0_readSet.data.toList.drop 0 = dktX0_readSet_0 := by decide +kernel
theorem dksX0_readSet_1 : cX0_readSet.data.toList.drop 24 = dktX0_readSet_1 := dk_seg dksX0_readSet_0 24 rfl rfl
theorem dksX0_readSet_2 : cX0_readSet.data.toList.drop 48 = dktX0_readSet_2 := dk_seg dksX0_readSet_1 24 rfl rfl
theorem dX0_readSet_0 : decode cX0_readSet 0 = .ok (.aload_n 0, 1) := dk_42 (dk_at dksX0_readSet_0 0 rfl rfl)
theorem dX0_readSet_1 : decode cX0_readSet 1 = .ok (.aload_n 1, 1) := dk_43 (dk_at dksX0_readSet_0 1 rfl rfl)
theorem dX0_readSet_2 : decode cX0_readSet 2 = .ok (.iconst 0, 1) := dk_3 (dk_at dksX0_readSet_0 2 rfl rfl)
theorem dX0_readSet_3 : decode cX0_readSet 3 = .ok (.bipush 6, 2) := dk_16 6 (dk_at dksX0_readSet_0 3 rfl rfl)
theorem dX0_readSet_5 : decode cX0_readSet 5 = .ok (.invokevirtual 114, 3) := dk_182 0 114 (dk_at dksX0_readSet_0 5 rfl rfl)
theorem dX0_readSet_8 : decode cX0_readSet 8 = .ok (.istore_n 2, 1) := dk_61 (dk_at dksX0_readSet_0 8 rfl rfl)
theorem dX0_readSet_9 : decode cX0_readSet 9 = .ok (.iload_n 2, 1) := dk_28 (dk_at dksX0_readSet_0 9 rfl rfl)
theorem dX0_readSet_10 : decode cX0_readSet 10 = .ok (.bipush (-9), 2) := dk_16 247 (dk_at dksX0_readSet_0 10 rfl rfl)
theorem dX0_readSet_12 : decode cX0_readSet 12 = .ok (.if_icmp .ne 6, 3) := dk_160 0 6 (dk_at dksX0_readSet_0 12 rfl rfl)
theorem dX0_readSet_15 : decode cX0_readSet 15 = .ok (.bipush (-9), 2) := dk_16 247 (dk_at dksX0_readSet_0 15 rfl rfl)
theorem dX0_readSet_17 : decode cX0_readSet 17 = .ok (.ireturn, 1) := dk_172 (dk_at dksX0_readSet_0 17 rfl rfl)
theorem dX0_readSet_18 : decode cX0_readSet 18 = .ok (.aload_n 0, 1) := dk_42 (dk_at dksX0_readSet_0 18 rfl rfl)
theorem dX0_readSet_19 : decode cX0_readSet 19 = .ok (.aload_n 1, 1) := dk_43 (dk_at dksX0_readSet_0 19 rfl rfl)
theorem dX0_readSet_20 : decode cX0_readSet 20 = .ok (.iconst 0, 1) := dk_3 (dk_at dksX0_readSet_0 20 rfl rfl)
theorem dX0_readSet_21 : decode cX0_readSet 21 = .ok (.iload_n 2, 1) := dk_28 (dk_at dksX0_readSet_0 21 rfl rfl)
theorem dX0_readSet_22 : decode cX0_readSet 22 = .ok (.bipush 6, 2) := dk_16 6 (dk_at dksX0_readSet_0 22 rfl rfl)
theorem dX0_readSet_24 : decode cX0_readSet 24 = .ok (.if_icmp .ne 7, 3) := dk_160 0 7 (dk_at dksX0_readSet_1 0 rfl rfl)
theorem dX0_readSet_27 : decode cX0_readSet 27 = .ok (.iconst 3, 1) := dk_6 (dk_at dksX0_readSet_1 3 rfl rfl)
theorem dX0_readSet_28 : decode cX0_readSet 28 = .ok (.goto 5, 3) := dk_167 0 5 (dk_at dksX0_readSet_1 4 rfl rfl)
theorem dX0_readSet_31 : decode cX0_readSet 31 = .ok (.bipush 9, 2) := dk_16 9 (dk_at dksX0_readSet_1 7 rfl rfl)
theorem dX0_readSet_33 : decode cX0_readSet 33 = .ok (.invokevirtual 114, 3) := dk_182 0 114 (dk_at dksX0_readSet_1 9 rfl rfl)
theorem dX0_readSet_36 : decode cX0_readSet 36 = .ok (.istore_n 3, 1) := dk_62 (dk_at dksX0_readSet_1 12 rfl rfl)
theorem dX0_readSet_37 : decode cX0_readSet 37 = .ok (.iload_n 3, 1) := dk_29 (dk_at dksX0_readSet_1 13 rfl rfl)
theorem dX0_readSet_38 : decode cX0_readSet 38 = .ok (.bipush (-9), 2) := dk_16 247 (dk_at dksX0_readSet_1 14 rfl rfl)
theorem dX0_readSet_40 : decode cX0_readSet 40 = .ok (.if_icmp .ne 8, 3) := dk_160 0 8 (dk_at dksX0_readSet_1 16 rfl rfl)
theorem dX0_readSet_43 : decode cX0_readSet 43 = .ok (.bipush (-9), 2) := dk_16 247 (dk_at dksX0_readSet_1 19 rfl rfl)
theorem dX0_readSet_45 : decode cX0_readSet 45 = .ok (.goto 9, 3) := dk_167 0 9 (dk_at dksX0_readSet_1 21 rfl rfl)
theorem dX0_readSet_48 : decode cX0_readSet 48 = .ok (.bipush 10, 2) := dk_16 10 (dk_at dksX0_readSet_2 0 rfl rfl)
theorem dX0_readSet_50 : decode cX0_readSet 50 = .ok (.iload_n 2, 1) := dk_28 (dk_at dksX0_readSet_2 2 rfl rfl)
theorem dX0_readSet_51 : decode cX0_readSet 51 = .ok (.imul, 1) := dk_104 (dk_at dksX0_readSet_2 3 rfl rfl)
theorem dX0_readSet_52 : decode cX0_readSet 52 = .ok (.iload_n 3, 1) := dk_29 (dk_at dksX0_readSet_2 4 rfl rfl)
theorem dX0_readSet_53 : decode cX0_readSet 53 = .ok (.iadd, 1) := dk_96 (dk_at dksX0_readSet_2 5 rfl rfl)
theorem dX0_readSet_54 : decode cX0_readSet 54 = .ok (.ireturn, 1) := dk_172 (dk_at dksX0_readSet_2 6 rfl rfl)
abbrev cX0_digit : ByteArray := prog_1_method_15_code
def yX0_digit : MethodName := ⟨RX0, "digit", "([III)I"⟩
def dkwX0_digit_2 : List UInt8 := [4, 100, 46, 16, 48, 100, 172]
abbrev dktX0_digit_2 : List UInt8 := dkwX0_digit_2 ++ []
def dkwX0_digit_1 : List UInt8 := [184, 0, 73, 154, 0, 6, 16, 247, 172, 42, 89, 180, 0, 109, 4, 96, 181, 0, 109, 43, 42, 180, 0, 109]
abbrev dktX0_digit_1 : List UInt8 := dkwX0_digit_1 ++ dktX0_digit_2
def dkwX0_digit_0 : List UInt8 := [42, 180, 0, 109, 43, 190, 159, 0, 24, 43, 42, 180, 0, 109, 46, 133, 20, 0, 112, 101, 28, 133, 29, 133]
abbrev dktX0_digit_0 : List UInt8 := dkwX0_digit_0 ++ dktX0_digit_1
theorem dksX0_digit_0 : cX0_digit.data.toList.drop 0 = dktX0_digit_0 := by decide +kernel
theorem dksX0_digit_1 : cX0_digit.data.toList.drop 24 = dktX0_digit_1 := dk_seg dksX0_digit_0 24 rfl rfl
theorem dksX0_digit_2 : cX0_digit.data.toList.drop 48 = dktX0_digit_2 := dk_seg dksX0_digit_1 24 rfl rfl
theorem dX0_digit_0 : decode cX0_digit 0 = .ok (.aload_n 0, 1) := dk_42 (dk_at dksX0_digit_0 0 rfl rfl)
theorem dX0_digit_1 : decode cX0_digit 1 = .ok (.getfield 109, 3) := dk_180 0 109 (dk_at dksX0_digit_0 1 rfl rfl)
theorem dX0_digit_4 : decode cX0_digit 4 = .ok (.aload_n 1, 1) := dk_43 (dk_at dksX0_digit_0 4 rfl rfl)
theorem dX0_digit_5 : decode cX0_digit 5 = .ok (.arraylength, 1) := dk_190 (dk_at dksX0_digit_0 5 rfl rfl)
theorem dX0_digit_6 : decode cX0_digit 6 = .ok (.if_icmp .eq 24, 3) := dk_159 0 24 (dk_at dksX0_digit_0 6 rfl rfl)
theorem dX0_digit_9 : decode cX0_digit 9 = .ok (.aload_n 1, 1) := dk_43 (dk_at dksX0_digit_0 9 rfl rfl)
theorem dX0_digit_10 : decode cX0_digit 10 = .ok (.aload_n 0, 1) := dk_42 (dk_at dksX0_digit_0 10 rfl rfl)
theorem dX0_digit_11 : decode cX0_digit 11 = .ok (.getfield 109, 3) := dk_180 0 109 (dk_at dksX0_digit_0 11 rfl rfl)
theorem dX0_digit_14 : decode cX0_digit 14 = .ok (.iaload, 1) := dk_46 (dk_at dksX0_digit_0 14 rfl rfl)
theorem dX0_digit_15 : decode cX0_digit 15 = .ok (.i2l, 1) := dk_133 (dk_at dksX0_digit_0 15 rfl rfl)
theorem dX0_digit_16 : decode cX0_digit 16 = .ok (.ldc2_w 112, 3) := dk_20 0 112 (dk_at dksX0_digit_0 16 rfl rfl)
theorem dX0_digit_19 : decode cX0_digit 19 = .ok (.lsub, 1) := dk_101 (dk_at dksX0_digit_0 19 rfl rfl)
theorem dX0_digit_20 : decode cX0_digit 20 = .ok (.iload_n 2, 1) := dk_28 (dk_at dksX0_digit_0 20 rfl rfl)
theorem dX0_digit_21 : decode cX0_digit 21 = .ok (.i2l, 1) := dk_133 (dk_at dksX0_digit_0 21 rfl rfl)
theorem dX0_digit_22 : decode cX0_digit 22 = .ok (.iload_n 3, 1) := dk_29 (dk_at dksX0_digit_0 22 rfl rfl)
theorem dX0_digit_23 : decode cX0_digit 23 = .ok (.i2l, 1) := dk_133 (dk_at dksX0_digit_0 23 rfl rfl)
theorem dX0_digit_24 : decode cX0_digit 24 = .ok (.invokestatic 73, 3) := dk_184 0 73 (dk_at dksX0_digit_1 0 rfl rfl)
theorem dX0_digit_27 : decode cX0_digit 27 = .ok (.ifCond .ne 6, 3) := dk_154 0 6 (dk_at dksX0_digit_1 3 rfl rfl)
theorem dX0_digit_30 : decode cX0_digit 30 = .ok (.bipush (-9), 2) := dk_16 247 (dk_at dksX0_digit_1 6 rfl rfl)
theorem dX0_digit_32 : decode cX0_digit 32 = .ok (.ireturn, 1) := dk_172 (dk_at dksX0_digit_1 8 rfl rfl)
theorem dX0_digit_33 : decode cX0_digit 33 = .ok (.aload_n 0, 1) := dk_42 (dk_at dksX0_digit_1 9 rfl rfl)
theorem dX0_digit_34 : decode cX0_digit 34 = .ok (.dup, 1) := dk_89 (dk_at dksX0_digit_1 10 rfl rfl)
theorem dX0_digit_35 : decode cX0_digit 35 = .ok (.getfield 109, 3) := dk_180 0 109 (dk_at dksX0_digit_1 11 rfl rfl)
theorem dX0_digit_38 : decode cX0_digit 38 = .ok (.iconst 1, 1) := dk_4 (dk_at dksX0_digit_1 14 rfl rfl)
theorem dX0_digit_39 : decode cX0_digit 39 = .ok (.iadd, 1) := dk_96 (dk_at dksX0_digit_1 15 rfl rfl)
theorem dX0_digit_40 : decode cX0_digit 40 = .ok (.putfield 109, 3) := dk_181 0 109 (dk_at dksX0_digit_1 16 rfl rfl)
theorem dX0_digit_43 : decode cX0_digit 43 = .ok (.aload_n 1, 1) := dk_43 (dk_at dksX0_digit_1 19 rfl rfl)
theorem dX0_digit_44 : decode cX0_digit 44 = .ok (.aload_n 0, 1) := dk_42 (dk_at dksX0_digit_1 20 rfl rfl)
theorem dX0_digit_45 : decode cX0_digit 45 = .ok (.getfield 109, 3) := dk_180 0 109 (dk_at dksX0_digit_1 21 rfl rfl)
theorem dX0_digit_48 : decode cX0_digit 48 = .ok (.iconst 1, 1) := dk_4 (dk_at dksX0_digit_2 0 rfl rfl)
theorem dX0_digit_49 : decode cX0_digit 49 = .ok (.isub, 1) := dk_100 (dk_at dksX0_digit_2 1 rfl rfl)
theorem dX0_digit_50 : decode cX0_digit 50 = .ok (.iaload, 1) := dk_46 (dk_at dksX0_digit_2 2 rfl rfl)
theorem dX0_digit_51 : decode cX0_digit 51 = .ok (.bipush 48, 2) := dk_16 48 (dk_at dksX0_digit_2 3 rfl rfl)
theorem dX0_digit_53 : decode cX0_digit 53 = .ok (.isub, 1) := dk_100 (dk_at dksX0_digit_2 5 rfl rfl)
theorem dX0_digit_54 : decode cX0_digit 54 = .ok (.ireturn, 1) := dk_172 (dk_at dksX0_digit_2 6 rfl rfl)
abbrev cX0_newChildhood : ByteArray := prog_1_method_8_code
def yX0_newChildhood : MethodName := ⟨RX0, "newChildhood", "(I)LLentYouths$Childhood;"⟩
def dkwX0_newChildhood_2 : List UInt8 := [89, 42, 27, 183, 0, 95, 176]
abbrev dktX0_newChildhood_2 : List UInt8 := dkwX0_newChildhood_2 ++ []
def dkwX0_newChildhood_1 : List UInt8 := [180, 0, 22, 27, 46, 4, 160, 0, 15, 187, 0, 90, 89, 42, 27, 183, 0, 92, 167, 0, 12, 187, 0, 93]
abbrev dktX0_newChildhood_1 : List UInt8 := dkwX0_newChildhood_1 ++ dktX0_newChildhood_2
def dkwX0_newChildhood_0 : List UInt8 := [42, 180, 0, 22, 27, 46, 154, 0, 15, 187, 0, 85, 89, 42, 27, 183, 0, 87, 167, 0, 34, 42]
abbrev dktX0_newChildhood_0 : List UInt8 := dkwX0_newChildhood_0 ++ dktX0_newChildhood_1
theorem dksX0_newChildhood_0 : cX0_newChildhood.data.toList.drop 0 = dktX0_newChildhood_0 := by decide +kernel
theorem dksX0_newChildhood_1 : cX0_newChildhood.data.toList.drop 22 = dktX0_newChildhood_1 := dk_seg dksX0_newChildhood_0 22 rfl rfl
theorem dksX0_newChildhood_2 : cX0_newChildhood.data.toList.drop 46 = dktX0_newChildhood_2 := dk_seg dksX0_newChildhood_1 24 rfl rfl
theorem dX0_newChildhood_0 : decode cX0_newChildhood 0 = .ok (.aload_n 0, 1) := dk_42 (dk_at dksX0_newChildhood_0 0 rfl rfl)
theorem dX0_newChildhood_1 : decode cX0_newChildhood 1 = .ok (.getfield 22, 3) := dk_180 0 22 (dk_at dksX0_newChildhood_0 1 rfl rfl)
theorem dX0_newChildhood_4 : decode cX0_newChildhood 4 = .ok (.iload_n 1, 1) := dk_27 (dk_at dksX0_newChildhood_0 4 rfl rfl)
theorem dX0_newChildhood_5 : decode cX0_newChildhood 5 = .ok (.iaload, 1) := dk_46 (dk_at dksX0_newChildhood_0 5 rfl rfl)
theorem dX0_newChildhood_6 : decode cX0_newChildhood 6 = .ok (.ifCond .ne 15, 3) := dk_154 0 15 (dk_at dksX0_newChildhood_0 6 rfl rfl)
theorem dX0_newChildhood_9 : decode cX0_newChildhood 9 = .ok (.new 85, 3) := dk_187 0 85 (dk_at dksX0_newChildhood_0 9 rfl rfl)
theorem dX0_newChildhood_12 : decode cX0_newChildhood 12 = .ok (.dup, 1) := dk_89 (dk_at dksX0_newChildhood_0 12 rfl rfl)
theorem dX0_newChildhood_13 : decode cX0_newChildhood 13 = .ok (.aload_n 0, 1) := dk_42 (dk_at dksX0_newChildhood_0 13 rfl rfl)
theorem dX0_newChildhood_14 : decode cX0_newChildhood 14 = .ok (.iload_n 1, 1) := dk_27 (dk_at dksX0_newChildhood_0 14 rfl rfl)
theorem dX0_newChildhood_15 : decode cX0_newChildhood 15 = .ok (.invokespecial 87, 3) := dk_183 0 87 (dk_at dksX0_newChildhood_0 15 rfl rfl)
theorem dX0_newChildhood_18 : decode cX0_newChildhood 18 = .ok (.goto 34, 3) := dk_167 0 34 (dk_at dksX0_newChildhood_0 18 rfl rfl)
theorem dX0_newChildhood_21 : decode cX0_newChildhood 21 = .ok (.aload_n 0, 1) := dk_42 (dk_at dksX0_newChildhood_0 21 rfl rfl)
theorem dX0_newChildhood_22 : decode cX0_newChildhood 22 = .ok (.getfield 22, 3) := dk_180 0 22 (dk_at dksX0_newChildhood_1 0 rfl rfl)
theorem dX0_newChildhood_25 : decode cX0_newChildhood 25 = .ok (.iload_n 1, 1) := dk_27 (dk_at dksX0_newChildhood_1 3 rfl rfl)
theorem dX0_newChildhood_26 : decode cX0_newChildhood 26 = .ok (.iaload, 1) := dk_46 (dk_at dksX0_newChildhood_1 4 rfl rfl)
theorem dX0_newChildhood_27 : decode cX0_newChildhood 27 = .ok (.iconst 1, 1) := dk_4 (dk_at dksX0_newChildhood_1 5 rfl rfl)
theorem dX0_newChildhood_28 : decode cX0_newChildhood 28 = .ok (.if_icmp .ne 15, 3) := dk_160 0 15 (dk_at dksX0_newChildhood_1 6 rfl rfl)
theorem dX0_newChildhood_31 : decode cX0_newChildhood 31 = .ok (.new 90, 3) := dk_187 0 90 (dk_at dksX0_newChildhood_1 9 rfl rfl)
theorem dX0_newChildhood_34 : decode cX0_newChildhood 34 = .ok (.dup, 1) := dk_89 (dk_at dksX0_newChildhood_1 12 rfl rfl)
theorem dX0_newChildhood_35 : decode cX0_newChildhood 35 = .ok (.aload_n 0, 1) := dk_42 (dk_at dksX0_newChildhood_1 13 rfl rfl)
theorem dX0_newChildhood_36 : decode cX0_newChildhood 36 = .ok (.iload_n 1, 1) := dk_27 (dk_at dksX0_newChildhood_1 14 rfl rfl)
theorem dX0_newChildhood_37 : decode cX0_newChildhood 37 = .ok (.invokespecial 92, 3) := dk_183 0 92 (dk_at dksX0_newChildhood_1 15 rfl rfl)
theorem dX0_newChildhood_40 : decode cX0_newChildhood 40 = .ok (.goto 12, 3) := dk_167 0 12 (dk_at dksX0_newChildhood_1 18 rfl rfl)
theorem dX0_newChildhood_43 : decode cX0_newChildhood 43 = .ok (.new 93, 3) := dk_187 0 93 (dk_at dksX0_newChildhood_1 21 rfl rfl)
theorem dX0_newChildhood_46 : decode cX0_newChildhood 46 = .ok (.dup, 1) := dk_89 (dk_at dksX0_newChildhood_2 0 rfl rfl)
theorem dX0_newChildhood_47 : decode cX0_newChildhood 47 = .ok (.aload_n 0, 1) := dk_42 (dk_at dksX0_newChildhood_2 1 rfl rfl)
theorem dX0_newChildhood_48 : decode cX0_newChildhood 48 = .ok (.iload_n 1, 1) := dk_27 (dk_at dksX0_newChildhood_2 2 rfl rfl)
theorem dX0_newChildhood_49 : decode cX0_newChildhood 49 = .ok (.invokespecial 95, 3) := dk_183 0 95 (dk_at dksX0_newChildhood_2 3 rfl rfl)
theorem dX0_newChildhood_52 : decode cX0_newChildhood 52 = .ok (.areturn, 1) := dk_176 (dk_at dksX0_newChildhood_2 6 rfl rfl)
abbrev cX0_faulty : ByteArray := prog_1_method_5_code
def yX0_faulty : MethodName := ⟨RX0, "faulty", "(I)I"⟩
def dkwX0_faulty_0 : List UInt8 := [42, 27, 181, 0, 77, 16, 246, 27, 100, 172]
abbrev dktX0_faulty_0 : List UInt8 := dkwX0_faulty_0 ++ []
theorem dksX0_faulty_0 : cX0_faulty.data.toList.drop 0 = dktX0_faulty_0 := by decide +kernel
theorem dX0_faulty_0 : decode cX0_faulty 0 = .ok (.aload_n 0, 1) := dk_42 (dk_at dksX0_faulty_0 0 rfl rfl)
theorem dX0_faulty_1 : decode cX0_faulty 1 = .ok (.iload_n 1, 1) := dk_27 (dk_at dksX0_faulty_0 1 rfl rfl)
theorem dX0_faulty_2 : decode cX0_faulty 2 = .ok (.putfield 77, 3) := dk_181 0 77 (dk_at dksX0_faulty_0 2 rfl rfl)
theorem dX0_faulty_5 : decode cX0_faulty 5 = .ok (.bipush (-10), 2) := dk_16 246 (dk_at dksX0_faulty_0 5 rfl rfl)
theorem dX0_faulty_7 : decode cX0_faulty 7 = .ok (.iload_n 1, 1) := dk_27 (dk_at dksX0_faulty_0 7 rfl rfl)
theorem dX0_faulty_8 : decode cX0_faulty 8 = .ok (.isub, 1) := dk_100 (dk_at dksX0_faulty_0 8 rfl rfl)
theorem dX0_faulty_9 : decode cX0_faulty 9 = .ok (.ireturn, 1) := dk_172 (dk_at dksX0_faulty_0 9 rfl rfl)
abbrev cX0_ofPerson : ByteArray := prog_1_method_21_code
def yX0_ofPerson : MethodName := ⟨RX0, "ofPerson", "(II)I"⟩
def dkwX0_ofPerson_4 : List UInt8 := [172, 16, 254, 172]
abbrev dktX0_ofPerson_4 : List UInt8 := dkwX0_ofPerson_4 ++ []
def dkwX0_ofPerson_3 : List UInt8 := [45, 182, 0, 192, 172, 45, 180, 0, 195, 172, 45, 180, 0, 198, 172, 45, 180, 0, 201, 172, 45, 182, 0, 204]
abbrev dktX0_ofPerson_3 : List UInt8 := dkwX0_ofPerson_3 ++ dktX0_ofPerson_4
def dkwX0_ofPerson_2 : List UInt8 := [170, 0, 0, 0, 0, 0, 60, 0, 0, 0, 0, 0, 0, 0, 4, 0, 0, 0, 35, 0, 0, 0, 40, 0, 0, 0, 45, 0, 0, 0, 50, 0, 0, 0, 55]
abbrev dktX0_ofPerson_2 : List UInt8 := dkwX0_ofPerson_2 ++ dktX0_ofPerson_3
def dkwX0_ofPerson_1 : List UInt8 := [28]
abbrev dktX0_ofPerson_1 : List UInt8 := dkwX0_ofPerson_1 ++ dktX0_ofPerson_2
def dkwX0_ofPerson_0 : List UInt8 := [42, 27, 182, 0, 185, 154, 0, 5, 2, 172, 42, 180, 0, 12, 27, 185, 0, 188, 2, 0, 192, 0, 85, 78]
abbrev dktX0_ofPerson_0 : List UInt8 := dkwX0_ofPerson_0 ++ dktX0_ofPerson_1
theorem dksX0_ofPerson_0 : cX0_ofPerson.data.toList.drop 0 = dktX0_ofPerson_0 := by decide +kernel
theorem dksX0_ofPerson_1 : cX0_ofPerson.data.toList.drop 24 = dktX0_ofPerson_1 := dk_seg dksX0_ofPerson_0 24 rfl rfl
theorem dksX0_ofPerson_2 : cX0_ofPerson.data.toList.drop 25 = dktX0_ofPerson_2 := dk_seg dksX0_ofPerson_1 1 rfl rfl
theorem dksX0_ofPerson_3 : cX0_ofPerson.data.toList.drop 60 = dktX0_ofPerson_3 := dk_seg dksX0_ofPerson_2 35 rfl rfl
theorem dksX0_ofPerson_4 : cX0_ofPerson.data.toList.drop 84 = dktX0_ofPerson_4 := dk_seg dksX0_ofPerson_3 24 rfl rfl
theorem dX0_ofPerson_0 : decode cX0_ofPerson 0 = .ok (.aload_n 0, 1) := dk_42 (dk_at dksX0_ofPerson_0 0 rfl rfl)
theorem dX0_ofPerson_1 : decode cX0_ofPerson 1 = .ok (.iload_n 1, 1) := dk_27 (dk_at dksX0_ofPerson_0 1 rfl rfl)
theorem dX0_ofPerson_2 : decode cX0_ofPerson 2 = .ok (.invokevirtual 185, 3) := dk_182 0 185 (dk_at dksX0_ofPerson_0 2 rfl rfl)
theorem dX0_ofPerson_5 : decode cX0_ofPerson 5 = .ok (.ifCond .ne 5, 3) := dk_154 0 5 (dk_at dksX0_ofPerson_0 5 rfl rfl)
theorem dX0_ofPerson_8 : decode cX0_ofPerson 8 = .ok (.iconst (-1), 1) := dk_2 (dk_at dksX0_ofPerson_0 8 rfl rfl)
theorem dX0_ofPerson_9 : decode cX0_ofPerson 9 = .ok (.ireturn, 1) := dk_172 (dk_at dksX0_ofPerson_0 9 rfl rfl)
theorem dX0_ofPerson_10 : decode cX0_ofPerson 10 = .ok (.aload_n 0, 1) := dk_42 (dk_at dksX0_ofPerson_0 10 rfl rfl)
theorem dX0_ofPerson_11 : decode cX0_ofPerson 11 = .ok (.getfield 12, 3) := dk_180 0 12 (dk_at dksX0_ofPerson_0 11 rfl rfl)
theorem dX0_ofPerson_14 : decode cX0_ofPerson 14 = .ok (.iload_n 1, 1) := dk_27 (dk_at dksX0_ofPerson_0 14 rfl rfl)
theorem dX0_ofPerson_15 : decode cX0_ofPerson 15 = .ok (.invokeinterface 188 2, 5) := by decide +kernel
theorem dX0_ofPerson_20 : decode cX0_ofPerson 20 = .ok (.checkcast 85, 3) := dk_192 0 85 (dk_at dksX0_ofPerson_0 20 rfl rfl)
theorem dX0_ofPerson_23 : decode cX0_ofPerson 23 = .ok (.astore_n 3, 1) := dk_78 (dk_at dksX0_ofPerson_0 23 rfl rfl)
theorem dX0_ofPerson_24 : decode cX0_ofPerson 24 = .ok (.iload_n 2, 1) := dk_28 (dk_at dksX0_ofPerson_1 0 rfl rfl)
theorem dX0_ofPerson_25 : decode cX0_ofPerson 25 = .ok (.tableswitch 60 0 4 #[35, 40, 45, 50, 55], 35) := by decide +kernel
theorem dX0_ofPerson_60 : decode cX0_ofPerson 60 = .ok (.aload_n 3, 1) := dk_45 (dk_at dksX0_ofPerson_3 0 rfl rfl)
theorem dX0_ofPerson_61 : decode cX0_ofPerson 61 = .ok (.invokevirtual 192, 3) := dk_182 0 192 (dk_at dksX0_ofPerson_3 1 rfl rfl)
theorem dX0_ofPerson_64 : decode cX0_ofPerson 64 = .ok (.ireturn, 1) := dk_172 (dk_at dksX0_ofPerson_3 4 rfl rfl)
theorem dX0_ofPerson_65 : decode cX0_ofPerson 65 = .ok (.aload_n 3, 1) := dk_45 (dk_at dksX0_ofPerson_3 5 rfl rfl)
theorem dX0_ofPerson_66 : decode cX0_ofPerson 66 = .ok (.getfield 195, 3) := dk_180 0 195 (dk_at dksX0_ofPerson_3 6 rfl rfl)
theorem dX0_ofPerson_69 : decode cX0_ofPerson 69 = .ok (.ireturn, 1) := dk_172 (dk_at dksX0_ofPerson_3 9 rfl rfl)
theorem dX0_ofPerson_70 : decode cX0_ofPerson 70 = .ok (.aload_n 3, 1) := dk_45 (dk_at dksX0_ofPerson_3 10 rfl rfl)
theorem dX0_ofPerson_71 : decode cX0_ofPerson 71 = .ok (.getfield 198, 3) := dk_180 0 198 (dk_at dksX0_ofPerson_3 11 rfl rfl)
theorem dX0_ofPerson_74 : decode cX0_ofPerson 74 = .ok (.ireturn, 1) := dk_172 (dk_at dksX0_ofPerson_3 14 rfl rfl)
theorem dX0_ofPerson_75 : decode cX0_ofPerson 75 = .ok (.aload_n 3, 1) := dk_45 (dk_at dksX0_ofPerson_3 15 rfl rfl)
theorem dX0_ofPerson_76 : decode cX0_ofPerson 76 = .ok (.getfield 201, 3) := dk_180 0 201 (dk_at dksX0_ofPerson_3 16 rfl rfl)
theorem dX0_ofPerson_79 : decode cX0_ofPerson 79 = .ok (.ireturn, 1) := dk_172 (dk_at dksX0_ofPerson_3 19 rfl rfl)
theorem dX0_ofPerson_80 : decode cX0_ofPerson 80 = .ok (.aload_n 3, 1) := dk_45 (dk_at dksX0_ofPerson_3 20 rfl rfl)
theorem dX0_ofPerson_81 : decode cX0_ofPerson 81 = .ok (.invokevirtual 204, 3) := dk_182 0 204 (dk_at dksX0_ofPerson_3 21 rfl rfl)
theorem dX0_ofPerson_84 : decode cX0_ofPerson 84 = .ok (.ireturn, 1) := dk_172 (dk_at dksX0_ofPerson_4 0 rfl rfl)
theorem dX0_ofPerson_85 : decode cX0_ofPerson 85 = .ok (.bipush (-2), 2) := dk_16 254 (dk_at dksX0_ofPerson_4 1 rfl rfl)
theorem dX0_ofPerson_87 : decode cX0_ofPerson 87 = .ok (.ireturn, 1) := dk_172 (dk_at dksX0_ofPerson_4 3 rfl rfl)
abbrev cX0_isPerson : ByteArray := prog_1_method_12_code
def yX0_isPerson : MethodName := ⟨RX0, "isPerson", "(I)Z"⟩
def dkwX0_isPerson_0 : List UInt8 := [27, 133, 9, 42, 182, 0, 106, 133, 10, 101, 184, 0, 73, 172]
abbrev dktX0_isPerson_0 : List UInt8 := dkwX0_isPerson_0 ++ []
theorem dksX0_isPerson_0 : cX0_isPerson.data.toList.drop 0 = dktX0_isPerson_0 := by decide +kernel
theorem dX0_isPerson_0 : decode cX0_isPerson 0 = .ok (.iload_n 1, 1) := dk_27 (dk_at dksX0_isPerson_0 0 rfl rfl)
theorem dX0_isPerson_1 : decode cX0_isPerson 1 = .ok (.i2l, 1) := dk_133 (dk_at dksX0_isPerson_0 1 rfl rfl)
theorem dX0_isPerson_2 : decode cX0_isPerson 2 = .ok (.lconst 0, 1) := dk_9 (dk_at dksX0_isPerson_0 2 rfl rfl)
theorem dX0_isPerson_3 : decode cX0_isPerson 3 = .ok (.aload_n 0, 1) := dk_42 (dk_at dksX0_isPerson_0 3 rfl rfl)
theorem dX0_isPerson_4 : decode cX0_isPerson 4 = .ok (.invokevirtual 106, 3) := dk_182 0 106 (dk_at dksX0_isPerson_0 4 rfl rfl)
theorem dX0_isPerson_7 : decode cX0_isPerson 7 = .ok (.i2l, 1) := dk_133 (dk_at dksX0_isPerson_0 7 rfl rfl)
theorem dX0_isPerson_8 : decode cX0_isPerson 8 = .ok (.lconst 1, 1) := dk_10 (dk_at dksX0_isPerson_0 8 rfl rfl)
theorem dX0_isPerson_9 : decode cX0_isPerson 9 = .ok (.lsub, 1) := dk_101 (dk_at dksX0_isPerson_0 9 rfl rfl)
theorem dX0_isPerson_10 : decode cX0_isPerson 10 = .ok (.invokestatic 73, 3) := dk_184 0 73 (dk_at dksX0_isPerson_0 10 rfl rfl)
theorem dX0_isPerson_13 : decode cX0_isPerson 13 = .ok (.ireturn, 1) := dk_172 (dk_at dksX0_isPerson_0 13 rfl rfl)
abbrev cX0_people : ByteArray := prog_1_method_10_code
def yX0_people : MethodName := ⟨RX0, "people", "()I"⟩
def dkwX0_people_0 : List UInt8 := [42, 180, 0, 12, 185, 0, 96, 1, 0, 172]
abbrev dktX0_people_0 : List UInt8 := dkwX0_people_0 ++ []
theorem dksX0_people_0 : cX0_people.data.toList.drop 0 = dktX0_people_0 := by decide +kernel
theorem dX0_people_0 : decode cX0_people 0 = .ok (.aload_n 0, 1) := dk_42 (dk_at dksX0_people_0 0 rfl rfl)
theorem dX0_people_1 : decode cX0_people 1 = .ok (.getfield 12, 3) := dk_180 0 12 (dk_at dksX0_people_0 1 rfl rfl)
theorem dX0_people_4 : decode cX0_people 4 = .ok (.invokeinterface 96 1, 5) := by decide +kernel
theorem dX0_people_9 : decode cX0_people 9 = .ok (.ireturn, 1) := dk_172 (dk_at dksX0_people_0 9 rfl rfl)
abbrev cX0_live : ByteArray := prog_1_method_22_code
def yX0_live : MethodName := ⟨RX0, "live", "(II)I"⟩
def dkwX0_live_2 : List UInt8 := [185, 0, 188, 2, 0, 192, 0, 85, 28, 181, 0, 195, 29, 172]
abbrev dktX0_live_2 : List UInt8 := dkwX0_live_2 ++ []
def dkwX0_live_1 : List UInt8 := [172, 42, 180, 0, 12, 27, 185, 0, 188, 2, 0, 192, 0, 85, 180, 0, 195, 62, 42, 180, 0, 12, 27]
abbrev dktX0_live_1 : List UInt8 := dkwX0_live_1 ++ dktX0_live_2
def dkwX0_live_0 : List UInt8 := [42, 27, 182, 0, 185, 154, 0, 5, 2, 172, 28, 133, 9, 20, 0, 207, 184, 0, 73, 154, 0, 6, 16, 254]
abbrev dktX0_live_0 : List UInt8 := dkwX0_live_0 ++ dktX0_live_1
theorem dksX0_live_0 : cX0_live.data.toList.drop 0 = dktX0_live_0 := by decide +kernel
theorem dksX0_live_1 : cX0_live.data.toList.drop 24 = dktX0_live_1 := dk_seg dksX0_live_0 24 rfl rfl
theorem dksX0_live_2 : cX0_live.data.toList.drop 47 = dktX0_live_2 := dk_seg dksX0_live_1 23 rfl rfl
theorem dX0_live_0 : decode cX0_live 0 = .ok (.aload_n 0, 1) := dk_42 (dk_at dksX0_live_0 0 rfl rfl)
theorem dX0_live_1 : decode cX0_live 1 = .ok (.iload_n 1, 1) := dk_27 (dk_at dksX0_live_0 1 rfl rfl)
theorem dX0_live_2 : decode cX0_live 2 = .ok (.invokevirtual 185, 3) := dk_182 0 185 (dk_at dksX0_live_0 2 rfl rfl)
theorem dX0_live_5 : decode cX0_live 5 = .ok (.ifCond .ne 5, 3) := dk_154 0 5 (dk_at dksX0_live_0 5 rfl rfl)
theorem dX0_live_8 : decode cX0_live 8 = .ok (.iconst (-1), 1) := dk_2 (dk_at dksX0_live_0 8 rfl rfl)
theorem dX0_live_9 : decode cX0_live 9 = .ok (.ireturn, 1) := dk_172 (dk_at dksX0_live_0 9 rfl rfl)
theorem dX0_live_10 : decode cX0_live 10 = .ok (.iload_n 2, 1) := dk_28 (dk_at dksX0_live_0 10 rfl rfl)
theorem dX0_live_11 : decode cX0_live 11 = .ok (.i2l, 1) := dk_133 (dk_at dksX0_live_0 11 rfl rfl)
theorem dX0_live_12 : decode cX0_live 12 = .ok (.lconst 0, 1) := dk_9 (dk_at dksX0_live_0 12 rfl rfl)
theorem dX0_live_13 : decode cX0_live 13 = .ok (.ldc2_w 207, 3) := dk_20 0 207 (dk_at dksX0_live_0 13 rfl rfl)
theorem dX0_live_16 : decode cX0_live 16 = .ok (.invokestatic 73, 3) := dk_184 0 73 (dk_at dksX0_live_0 16 rfl rfl)
theorem dX0_live_19 : decode cX0_live 19 = .ok (.ifCond .ne 6, 3) := dk_154 0 6 (dk_at dksX0_live_0 19 rfl rfl)
theorem dX0_live_22 : decode cX0_live 22 = .ok (.bipush (-2), 2) := dk_16 254 (dk_at dksX0_live_0 22 rfl rfl)
theorem dX0_live_24 : decode cX0_live 24 = .ok (.ireturn, 1) := dk_172 (dk_at dksX0_live_1 0 rfl rfl)
theorem dX0_live_25 : decode cX0_live 25 = .ok (.aload_n 0, 1) := dk_42 (dk_at dksX0_live_1 1 rfl rfl)
theorem dX0_live_26 : decode cX0_live 26 = .ok (.getfield 12, 3) := dk_180 0 12 (dk_at dksX0_live_1 2 rfl rfl)
theorem dX0_live_29 : decode cX0_live 29 = .ok (.iload_n 1, 1) := dk_27 (dk_at dksX0_live_1 5 rfl rfl)
theorem dX0_live_30 : decode cX0_live 30 = .ok (.invokeinterface 188 2, 5) := by decide +kernel
theorem dX0_live_35 : decode cX0_live 35 = .ok (.checkcast 85, 3) := dk_192 0 85 (dk_at dksX0_live_1 11 rfl rfl)
theorem dX0_live_38 : decode cX0_live 38 = .ok (.getfield 195, 3) := dk_180 0 195 (dk_at dksX0_live_1 14 rfl rfl)
theorem dX0_live_41 : decode cX0_live 41 = .ok (.istore_n 3, 1) := dk_62 (dk_at dksX0_live_1 17 rfl rfl)
theorem dX0_live_42 : decode cX0_live 42 = .ok (.aload_n 0, 1) := dk_42 (dk_at dksX0_live_1 18 rfl rfl)
theorem dX0_live_43 : decode cX0_live 43 = .ok (.getfield 12, 3) := dk_180 0 12 (dk_at dksX0_live_1 19 rfl rfl)
theorem dX0_live_46 : decode cX0_live 46 = .ok (.iload_n 1, 1) := dk_27 (dk_at dksX0_live_1 22 rfl rfl)
theorem dX0_live_47 : decode cX0_live 47 = .ok (.invokeinterface 188 2, 5) := by decide +kernel
theorem dX0_live_52 : decode cX0_live 52 = .ok (.checkcast 85, 3) := dk_192 0 85 (dk_at dksX0_live_2 5 rfl rfl)
theorem dX0_live_55 : decode cX0_live 55 = .ok (.iload_n 2, 1) := dk_28 (dk_at dksX0_live_2 8 rfl rfl)
theorem dX0_live_56 : decode cX0_live 56 = .ok (.putfield 195, 3) := dk_181 0 195 (dk_at dksX0_live_2 9 rfl rfl)
theorem dX0_live_59 : decode cX0_live 59 = .ok (.iload_n 3, 1) := dk_29 (dk_at dksX0_live_2 12 rfl rfl)
theorem dX0_live_60 : decode cX0_live 60 = .ok (.ireturn, 1) := dk_172 (dk_at dksX0_live_2 13 rfl rfl)
abbrev cX0_want : ByteArray := prog_1_method_23_code
def yX0_want : MethodName := ⟨RX0, "want", "(II)I"⟩
def dkwX0_want_2 : List UInt8 := [185, 0, 188, 2, 0, 192, 0, 85, 28, 181, 0, 198, 29, 172]
abbrev dktX0_want_2 : List UInt8 := dkwX0_want_2 ++ []
def dkwX0_want_1 : List UInt8 := [172, 42, 180, 0, 12, 27, 185, 0, 188, 2, 0, 192, 0, 85, 180, 0, 198, 62, 42, 180, 0, 12, 27]
abbrev dktX0_want_1 : List UInt8 := dkwX0_want_1 ++ dktX0_want_2
def dkwX0_want_0 : List UInt8 := [42, 27, 182, 0, 185, 154, 0, 5, 2, 172, 28, 133, 9, 20, 0, 209, 184, 0, 73, 154, 0, 6, 16, 254]
abbrev dktX0_want_0 : List UInt8 := dkwX0_want_0 ++ dktX0_want_1
theorem dksX0_want_0 : cX0_want.data.toList.drop 0 = dktX0_want_0 := by decide +kernel
theorem dksX0_want_1 : cX0_want.data.toList.drop 24 = dktX0_want_1 := dk_seg dksX0_want_0 24 rfl rfl
theorem dksX0_want_2 : cX0_want.data.toList.drop 47 = dktX0_want_2 := dk_seg dksX0_want_1 23 rfl rfl
theorem dX0_want_0 : decode cX0_want 0 = .ok (.aload_n 0, 1) := dk_42 (dk_at dksX0_want_0 0 rfl rfl)
theorem dX0_want_1 : decode cX0_want 1 = .ok (.iload_n 1, 1) := dk_27 (dk_at dksX0_want_0 1 rfl rfl)
theorem dX0_want_2 : decode cX0_want 2 = .ok (.invokevirtual 185, 3) := dk_182 0 185 (dk_at dksX0_want_0 2 rfl rfl)
theorem dX0_want_5 : decode cX0_want 5 = .ok (.ifCond .ne 5, 3) := dk_154 0 5 (dk_at dksX0_want_0 5 rfl rfl)
theorem dX0_want_8 : decode cX0_want 8 = .ok (.iconst (-1), 1) := dk_2 (dk_at dksX0_want_0 8 rfl rfl)
theorem dX0_want_9 : decode cX0_want 9 = .ok (.ireturn, 1) := dk_172 (dk_at dksX0_want_0 9 rfl rfl)
theorem dX0_want_10 : decode cX0_want 10 = .ok (.iload_n 2, 1) := dk_28 (dk_at dksX0_want_0 10 rfl rfl)
theorem dX0_want_11 : decode cX0_want 11 = .ok (.i2l, 1) := dk_133 (dk_at dksX0_want_0 11 rfl rfl)
theorem dX0_want_12 : decode cX0_want 12 = .ok (.lconst 0, 1) := dk_9 (dk_at dksX0_want_0 12 rfl rfl)
theorem dX0_want_13 : decode cX0_want 13 = .ok (.ldc2_w 209, 3) := dk_20 0 209 (dk_at dksX0_want_0 13 rfl rfl)
theorem dX0_want_16 : decode cX0_want 16 = .ok (.invokestatic 73, 3) := dk_184 0 73 (dk_at dksX0_want_0 16 rfl rfl)
theorem dX0_want_19 : decode cX0_want 19 = .ok (.ifCond .ne 6, 3) := dk_154 0 6 (dk_at dksX0_want_0 19 rfl rfl)
theorem dX0_want_22 : decode cX0_want 22 = .ok (.bipush (-2), 2) := dk_16 254 (dk_at dksX0_want_0 22 rfl rfl)
theorem dX0_want_24 : decode cX0_want 24 = .ok (.ireturn, 1) := dk_172 (dk_at dksX0_want_1 0 rfl rfl)
theorem dX0_want_25 : decode cX0_want 25 = .ok (.aload_n 0, 1) := dk_42 (dk_at dksX0_want_1 1 rfl rfl)
theorem dX0_want_26 : decode cX0_want 26 = .ok (.getfield 12, 3) := dk_180 0 12 (dk_at dksX0_want_1 2 rfl rfl)
theorem dX0_want_29 : decode cX0_want 29 = .ok (.iload_n 1, 1) := dk_27 (dk_at dksX0_want_1 5 rfl rfl)
theorem dX0_want_30 : decode cX0_want 30 = .ok (.invokeinterface 188 2, 5) := by decide +kernel
theorem dX0_want_35 : decode cX0_want 35 = .ok (.checkcast 85, 3) := dk_192 0 85 (dk_at dksX0_want_1 11 rfl rfl)
theorem dX0_want_38 : decode cX0_want 38 = .ok (.getfield 198, 3) := dk_180 0 198 (dk_at dksX0_want_1 14 rfl rfl)
theorem dX0_want_41 : decode cX0_want 41 = .ok (.istore_n 3, 1) := dk_62 (dk_at dksX0_want_1 17 rfl rfl)
theorem dX0_want_42 : decode cX0_want 42 = .ok (.aload_n 0, 1) := dk_42 (dk_at dksX0_want_1 18 rfl rfl)
theorem dX0_want_43 : decode cX0_want 43 = .ok (.getfield 12, 3) := dk_180 0 12 (dk_at dksX0_want_1 19 rfl rfl)
theorem dX0_want_46 : decode cX0_want 46 = .ok (.iload_n 1, 1) := dk_27 (dk_at dksX0_want_1 22 rfl rfl)
theorem dX0_want_47 : decode cX0_want 47 = .ok (.invokeinterface 188 2, 5) := by decide +kernel
theorem dX0_want_52 : decode cX0_want 52 = .ok (.checkcast 85, 3) := dk_192 0 85 (dk_at dksX0_want_2 5 rfl rfl)
theorem dX0_want_55 : decode cX0_want 55 = .ok (.iload_n 2, 1) := dk_28 (dk_at dksX0_want_2 8 rfl rfl)
theorem dX0_want_56 : decode cX0_want 56 = .ok (.putfield 198, 3) := dk_181 0 198 (dk_at dksX0_want_2 9 rfl rfl)
theorem dX0_want_59 : decode cX0_want 59 = .ok (.iload_n 3, 1) := dk_29 (dk_at dksX0_want_2 12 rfl rfl)
theorem dX0_want_60 : decode cX0_want 60 = .ok (.ireturn, 1) := dk_172 (dk_at dksX0_want_2 13 rfl rfl)
abbrev cX0_loans : ByteArray := prog_1_method_36_code
def yX0_loans : MethodName := ⟨RX0, "loans", "(IIIII)I"⟩
def dkwX0_loans_4 : List UInt8 := [4, 182, 0, 175, 172, 58, 6, 42, 6, 182, 0, 175, 172]
abbrev dktX0_loans_4 : List UInt8 := dkwX0_loans_4 ++ []
def dkwX0_loans_3 : List UInt8 := [5, 21, 4, 104, 184, 0, 166, 21, 5, 182, 1, 29, 172, 58, 6, 42, 5, 182, 0, 175, 172, 58, 6, 42]
abbrev dktX0_loans_3 : List UInt8 := dkwX0_loans_3 ++ dktX0_loans_4
def dkwX0_loans_2 : List UInt8 := [182, 1, 26, 154, 0, 6, 16, 253, 172, 42, 42, 180, 0, 67, 27, 50, 180, 0, 157, 28, 184, 0, 162, 29]
abbrev dktX0_loans_2 : List UInt8 := dkwX0_loans_2 ++ dktX0_loans_3
def dkwX0_loans_1 : List UInt8 := [9, 20, 1, 15, 184, 0, 73, 153, 0, 11, 21, 5, 184, 1, 23, 154, 0, 6, 16, 254, 172, 42]
abbrev dktX0_loans_1 : List UInt8 := dkwX0_loans_1 ++ dktX0_loans_2
def dkwX0_loans_0 : List UInt8 := [42, 3, 181, 0, 77, 27, 184, 0, 150, 154, 0, 5, 2, 172, 28, 184, 0, 154, 153, 0, 24, 21, 4, 133]
abbrev dktX0_loans_0 : List UInt8 := dkwX0_loans_0 ++ dktX0_loans_1
theorem dksX0_loans_0 : cX0_loans.data.toList.drop 0 = dktX0_loans_0 := by decide +kernel
theorem dksX0_loans_1 : cX0_loans.data.toList.drop 24 = dktX0_loans_1 := dk_seg dksX0_loans_0 24 rfl rfl
theorem dksX0_loans_2 : cX0_loans.data.toList.drop 46 = dktX0_loans_2 := dk_seg dksX0_loans_1 22 rfl rfl
theorem dksX0_loans_3 : cX0_loans.data.toList.drop 70 = dktX0_loans_3 := dk_seg dksX0_loans_2 24 rfl rfl
theorem dksX0_loans_4 : cX0_loans.data.toList.drop 94 = dktX0_loans_4 := dk_seg dksX0_loans_3 24 rfl rfl
theorem dX0_loans_0 : decode cX0_loans 0 = .ok (.aload_n 0, 1) := dk_42 (dk_at dksX0_loans_0 0 rfl rfl)
theorem dX0_loans_1 : decode cX0_loans 1 = .ok (.iconst 0, 1) := dk_3 (dk_at dksX0_loans_0 1 rfl rfl)
theorem dX0_loans_2 : decode cX0_loans 2 = .ok (.putfield 77, 3) := dk_181 0 77 (dk_at dksX0_loans_0 2 rfl rfl)
theorem dX0_loans_5 : decode cX0_loans 5 = .ok (.iload_n 1, 1) := dk_27 (dk_at dksX0_loans_0 5 rfl rfl)
theorem dX0_loans_6 : decode cX0_loans 6 = .ok (.invokestatic 150, 3) := dk_184 0 150 (dk_at dksX0_loans_0 6 rfl rfl)
theorem dX0_loans_9 : decode cX0_loans 9 = .ok (.ifCond .ne 5, 3) := dk_154 0 5 (dk_at dksX0_loans_0 9 rfl rfl)
theorem dX0_loans_12 : decode cX0_loans 12 = .ok (.iconst (-1), 1) := dk_2 (dk_at dksX0_loans_0 12 rfl rfl)
theorem dX0_loans_13 : decode cX0_loans 13 = .ok (.ireturn, 1) := dk_172 (dk_at dksX0_loans_0 13 rfl rfl)
theorem dX0_loans_14 : decode cX0_loans 14 = .ok (.iload_n 2, 1) := dk_28 (dk_at dksX0_loans_0 14 rfl rfl)
theorem dX0_loans_15 : decode cX0_loans 15 = .ok (.invokestatic 154, 3) := dk_184 0 154 (dk_at dksX0_loans_0 15 rfl rfl)
theorem dX0_loans_18 : decode cX0_loans 18 = .ok (.ifCond .eq 24, 3) := dk_153 0 24 (dk_at dksX0_loans_0 18 rfl rfl)
theorem dX0_loans_21 : decode cX0_loans 21 = .ok (.iload 4, 2) := dk_21 4 (dk_at dksX0_loans_0 21 rfl rfl)
theorem dX0_loans_23 : decode cX0_loans 23 = .ok (.i2l, 1) := dk_133 (dk_at dksX0_loans_0 23 rfl rfl)
theorem dX0_loans_24 : decode cX0_loans 24 = .ok (.lconst 0, 1) := dk_9 (dk_at dksX0_loans_1 0 rfl rfl)
theorem dX0_loans_25 : decode cX0_loans 25 = .ok (.ldc2_w 271, 3) := dk_20 1 15 (dk_at dksX0_loans_1 1 rfl rfl)
theorem dX0_loans_28 : decode cX0_loans 28 = .ok (.invokestatic 73, 3) := dk_184 0 73 (dk_at dksX0_loans_1 4 rfl rfl)
theorem dX0_loans_31 : decode cX0_loans 31 = .ok (.ifCond .eq 11, 3) := dk_153 0 11 (dk_at dksX0_loans_1 7 rfl rfl)
theorem dX0_loans_34 : decode cX0_loans 34 = .ok (.iload 5, 2) := dk_21 5 (dk_at dksX0_loans_1 10 rfl rfl)
theorem dX0_loans_36 : decode cX0_loans 36 = .ok (.invokestatic 279, 3) := dk_184 1 23 (dk_at dksX0_loans_1 12 rfl rfl)
theorem dX0_loans_39 : decode cX0_loans 39 = .ok (.ifCond .ne 6, 3) := dk_154 0 6 (dk_at dksX0_loans_1 15 rfl rfl)
theorem dX0_loans_42 : decode cX0_loans 42 = .ok (.bipush (-2), 2) := dk_16 254 (dk_at dksX0_loans_1 18 rfl rfl)
theorem dX0_loans_44 : decode cX0_loans 44 = .ok (.ireturn, 1) := dk_172 (dk_at dksX0_loans_1 20 rfl rfl)
theorem dX0_loans_45 : decode cX0_loans 45 = .ok (.aload_n 0, 1) := dk_42 (dk_at dksX0_loans_1 21 rfl rfl)
theorem dX0_loans_46 : decode cX0_loans 46 = .ok (.invokevirtual 282, 3) := dk_182 1 26 (dk_at dksX0_loans_2 0 rfl rfl)
theorem dX0_loans_49 : decode cX0_loans 49 = .ok (.ifCond .ne 6, 3) := dk_154 0 6 (dk_at dksX0_loans_2 3 rfl rfl)
theorem dX0_loans_52 : decode cX0_loans 52 = .ok (.bipush (-3), 2) := dk_16 253 (dk_at dksX0_loans_2 6 rfl rfl)
theorem dX0_loans_54 : decode cX0_loans 54 = .ok (.ireturn, 1) := dk_172 (dk_at dksX0_loans_2 8 rfl rfl)
theorem dX0_loans_55 : decode cX0_loans 55 = .ok (.aload_n 0, 1) := dk_42 (dk_at dksX0_loans_2 9 rfl rfl)
theorem dX0_loans_56 : decode cX0_loans 56 = .ok (.aload_n 0, 1) := dk_42 (dk_at dksX0_loans_2 10 rfl rfl)
theorem dX0_loans_57 : decode cX0_loans 57 = .ok (.getfield 67, 3) := dk_180 0 67 (dk_at dksX0_loans_2 11 rfl rfl)
theorem dX0_loans_60 : decode cX0_loans 60 = .ok (.iload_n 1, 1) := dk_27 (dk_at dksX0_loans_2 14 rfl rfl)
theorem dX0_loans_61 : decode cX0_loans 61 = .ok (.aaload, 1) := dk_50 (dk_at dksX0_loans_2 15 rfl rfl)
theorem dX0_loans_62 : decode cX0_loans 62 = .ok (.getfield 157, 3) := dk_180 0 157 (dk_at dksX0_loans_2 16 rfl rfl)
theorem dX0_loans_65 : decode cX0_loans 65 = .ok (.iload_n 2, 1) := dk_28 (dk_at dksX0_loans_2 19 rfl rfl)
theorem dX0_loans_66 : decode cX0_loans 66 = .ok (.invokestatic 162, 3) := dk_184 0 162 (dk_at dksX0_loans_2 20 rfl rfl)
theorem dX0_loans_69 : decode cX0_loans 69 = .ok (.iload_n 3, 1) := dk_29 (dk_at dksX0_loans_2 23 rfl rfl)
theorem dX0_loans_70 : decode cX0_loans 70 = .ok (.iconst 2, 1) := dk_5 (dk_at dksX0_loans_3 0 rfl rfl)
theorem dX0_loans_71 : decode cX0_loans 71 = .ok (.iload 4, 2) := dk_21 4 (dk_at dksX0_loans_3 1 rfl rfl)
theorem dX0_loans_73 : decode cX0_loans 73 = .ok (.imul, 1) := dk_104 (dk_at dksX0_loans_3 3 rfl rfl)
theorem dX0_loans_74 : decode cX0_loans 74 = .ok (.invokestatic 166, 3) := dk_184 0 166 (dk_at dksX0_loans_3 4 rfl rfl)
theorem dX0_loans_77 : decode cX0_loans 77 = .ok (.iload 5, 2) := dk_21 5 (dk_at dksX0_loans_3 7 rfl rfl)
theorem dX0_loans_79 : decode cX0_loans 79 = .ok (.invokevirtual 285, 3) := dk_182 1 29 (dk_at dksX0_loans_3 9 rfl rfl)
theorem dX0_loans_82 : decode cX0_loans 82 = .ok (.ireturn, 1) := dk_172 (dk_at dksX0_loans_3 12 rfl rfl)
theorem dX0_loans_83 : decode cX0_loans 83 = .ok (.astore 6, 2) := dk_58 6 (dk_at dksX0_loans_3 13 rfl rfl)
theorem dX0_loans_85 : decode cX0_loans 85 = .ok (.aload_n 0, 1) := dk_42 (dk_at dksX0_loans_3 15 rfl rfl)
theorem dX0_loans_86 : decode cX0_loans 86 = .ok (.iconst 2, 1) := dk_5 (dk_at dksX0_loans_3 16 rfl rfl)
theorem dX0_loans_87 : decode cX0_loans 87 = .ok (.invokevirtual 175, 3) := dk_182 0 175 (dk_at dksX0_loans_3 17 rfl rfl)
theorem dX0_loans_90 : decode cX0_loans 90 = .ok (.ireturn, 1) := dk_172 (dk_at dksX0_loans_3 20 rfl rfl)
theorem dX0_loans_91 : decode cX0_loans 91 = .ok (.astore 6, 2) := dk_58 6 (dk_at dksX0_loans_3 21 rfl rfl)
theorem dX0_loans_93 : decode cX0_loans 93 = .ok (.aload_n 0, 1) := dk_42 (dk_at dksX0_loans_3 23 rfl rfl)
theorem dX0_loans_94 : decode cX0_loans 94 = .ok (.iconst 1, 1) := dk_4 (dk_at dksX0_loans_4 0 rfl rfl)
theorem dX0_loans_95 : decode cX0_loans 95 = .ok (.invokevirtual 175, 3) := dk_182 0 175 (dk_at dksX0_loans_4 1 rfl rfl)
theorem dX0_loans_98 : decode cX0_loans 98 = .ok (.ireturn, 1) := dk_172 (dk_at dksX0_loans_4 4 rfl rfl)
theorem dX0_loans_99 : decode cX0_loans 99 = .ok (.astore 6, 2) := dk_58 6 (dk_at dksX0_loans_4 5 rfl rfl)
theorem dX0_loans_101 : decode cX0_loans 101 = .ok (.aload_n 0, 1) := dk_42 (dk_at dksX0_loans_4 7 rfl rfl)
theorem dX0_loans_102 : decode cX0_loans 102 = .ok (.iconst 3, 1) := dk_6 (dk_at dksX0_loans_4 8 rfl rfl)
theorem dX0_loans_103 : decode cX0_loans 103 = .ok (.invokevirtual 175, 3) := dk_182 0 175 (dk_at dksX0_loans_4 9 rfl rfl)
theorem dX0_loans_106 : decode cX0_loans 106 = .ok (.ireturn, 1) := dk_172 (dk_at dksX0_loans_4 12 rfl rfl)
abbrev cX0_isWhat : ByteArray := prog_1_method_35_code
def yX0_isWhat : MethodName := ⟨RX0, "isWhat", "(I)Z"⟩
def dkwX0_isWhat_2 : List UInt8 := [20, 1, 21, 184, 0, 73, 153, 0, 7, 4, 167, 0, 4, 3, 172]
abbrev dktX0_isWhat_2 : List UInt8 := dkwX0_isWhat_2 ++ []
def dkwX0_isWhat_1 : List UInt8 := [154, 0, 31, 26, 133, 20, 1, 15, 20, 1, 17, 184, 0, 73, 154, 0, 17, 26, 133, 20, 1, 19]
abbrev dktX0_isWhat_1 : List UInt8 := dkwX0_isWhat_1 ++ dktX0_isWhat_2
def dkwX0_isWhat_0 : List UInt8 := [26, 133, 9, 20, 1, 9, 184, 0, 73, 154, 0, 45, 26, 133, 20, 1, 11, 20, 1, 13, 184, 0, 73]
abbrev dktX0_isWhat_0 : List UInt8 := dkwX0_isWhat_0 ++ dktX0_isWhat_1
theorem dksX0_isWhat_0 : cX0_isWhat.data.toList.drop 0 = dktX0_isWhat_0 := by decide +kernel
theorem dksX0_isWhat_1 : cX0_isWhat.data.toList.drop 23 = dktX0_isWhat_1 := dk_seg dksX0_isWhat_0 23 rfl rfl
theorem dksX0_isWhat_2 : cX0_isWhat.data.toList.drop 45 = dktX0_isWhat_2 := dk_seg dksX0_isWhat_1 22 rfl rfl
theorem dX0_isWhat_0 : decode cX0_isWhat 0 = .ok (.iload_n 0, 1) := dk_26 (dk_at dksX0_isWhat_0 0 rfl rfl)
theorem dX0_isWhat_1 : decode cX0_isWhat 1 = .ok (.i2l, 1) := dk_133 (dk_at dksX0_isWhat_0 1 rfl rfl)
theorem dX0_isWhat_2 : decode cX0_isWhat 2 = .ok (.lconst 0, 1) := dk_9 (dk_at dksX0_isWhat_0 2 rfl rfl)
theorem dX0_isWhat_3 : decode cX0_isWhat 3 = .ok (.ldc2_w 265, 3) := dk_20 1 9 (dk_at dksX0_isWhat_0 3 rfl rfl)
theorem dX0_isWhat_6 : decode cX0_isWhat 6 = .ok (.invokestatic 73, 3) := dk_184 0 73 (dk_at dksX0_isWhat_0 6 rfl rfl)
theorem dX0_isWhat_9 : decode cX0_isWhat 9 = .ok (.ifCond .ne 45, 3) := dk_154 0 45 (dk_at dksX0_isWhat_0 9 rfl rfl)
theorem dX0_isWhat_12 : decode cX0_isWhat 12 = .ok (.iload_n 0, 1) := dk_26 (dk_at dksX0_isWhat_0 12 rfl rfl)
theorem dX0_isWhat_13 : decode cX0_isWhat 13 = .ok (.i2l, 1) := dk_133 (dk_at dksX0_isWhat_0 13 rfl rfl)
theorem dX0_isWhat_14 : decode cX0_isWhat 14 = .ok (.ldc2_w 267, 3) := dk_20 1 11 (dk_at dksX0_isWhat_0 14 rfl rfl)
theorem dX0_isWhat_17 : decode cX0_isWhat 17 = .ok (.ldc2_w 269, 3) := dk_20 1 13 (dk_at dksX0_isWhat_0 17 rfl rfl)
theorem dX0_isWhat_20 : decode cX0_isWhat 20 = .ok (.invokestatic 73, 3) := dk_184 0 73 (dk_at dksX0_isWhat_0 20 rfl rfl)
theorem dX0_isWhat_23 : decode cX0_isWhat 23 = .ok (.ifCond .ne 31, 3) := dk_154 0 31 (dk_at dksX0_isWhat_1 0 rfl rfl)
theorem dX0_isWhat_26 : decode cX0_isWhat 26 = .ok (.iload_n 0, 1) := dk_26 (dk_at dksX0_isWhat_1 3 rfl rfl)
theorem dX0_isWhat_27 : decode cX0_isWhat 27 = .ok (.i2l, 1) := dk_133 (dk_at dksX0_isWhat_1 4 rfl rfl)
theorem dX0_isWhat_28 : decode cX0_isWhat 28 = .ok (.ldc2_w 271, 3) := dk_20 1 15 (dk_at dksX0_isWhat_1 5 rfl rfl)
theorem dX0_isWhat_31 : decode cX0_isWhat 31 = .ok (.ldc2_w 273, 3) := dk_20 1 17 (dk_at dksX0_isWhat_1 8 rfl rfl)
theorem dX0_isWhat_34 : decode cX0_isWhat 34 = .ok (.invokestatic 73, 3) := dk_184 0 73 (dk_at dksX0_isWhat_1 11 rfl rfl)
theorem dX0_isWhat_37 : decode cX0_isWhat 37 = .ok (.ifCond .ne 17, 3) := dk_154 0 17 (dk_at dksX0_isWhat_1 14 rfl rfl)
theorem dX0_isWhat_40 : decode cX0_isWhat 40 = .ok (.iload_n 0, 1) := dk_26 (dk_at dksX0_isWhat_1 17 rfl rfl)
theorem dX0_isWhat_41 : decode cX0_isWhat 41 = .ok (.i2l, 1) := dk_133 (dk_at dksX0_isWhat_1 18 rfl rfl)
theorem dX0_isWhat_42 : decode cX0_isWhat 42 = .ok (.ldc2_w 275, 3) := dk_20 1 19 (dk_at dksX0_isWhat_1 19 rfl rfl)
theorem dX0_isWhat_45 : decode cX0_isWhat 45 = .ok (.ldc2_w 277, 3) := dk_20 1 21 (dk_at dksX0_isWhat_2 0 rfl rfl)
theorem dX0_isWhat_48 : decode cX0_isWhat 48 = .ok (.invokestatic 73, 3) := dk_184 0 73 (dk_at dksX0_isWhat_2 3 rfl rfl)
theorem dX0_isWhat_51 : decode cX0_isWhat 51 = .ok (.ifCond .eq 7, 3) := dk_153 0 7 (dk_at dksX0_isWhat_2 6 rfl rfl)
theorem dX0_isWhat_54 : decode cX0_isWhat 54 = .ok (.iconst 1, 1) := dk_4 (dk_at dksX0_isWhat_2 9 rfl rfl)
theorem dX0_isWhat_55 : decode cX0_isWhat 55 = .ok (.goto 4, 3) := dk_167 0 4 (dk_at dksX0_isWhat_2 10 rfl rfl)
theorem dX0_isWhat_58 : decode cX0_isWhat 58 = .ok (.iconst 0, 1) := dk_3 (dk_at dksX0_isWhat_2 13 rfl rfl)
theorem dX0_isWhat_59 : decode cX0_isWhat 59 = .ok (.ireturn, 1) := dk_172 (dk_at dksX0_isWhat_2 14 rfl rfl)
abbrev cX0_isCounter : ByteArray := prog_1_method_11_code
def yX0_isCounter : MethodName := ⟨RX0, "isCounter", "()Z"⟩
def dkwX0_isCounter_0 : List UInt8 := [42, 180, 0, 12, 185, 0, 102, 1, 0, 154, 0, 7, 4, 167, 0, 4, 3, 172]
abbrev dktX0_isCounter_0 : List UInt8 := dkwX0_isCounter_0 ++ []
theorem dksX0_isCounter_0 : cX0_isCounter.data.toList.drop 0 = dktX0_isCounter_0 := by decide +kernel
theorem dX0_isCounter_0 : decode cX0_isCounter 0 = .ok (.aload_n 0, 1) := dk_42 (dk_at dksX0_isCounter_0 0 rfl rfl)
theorem dX0_isCounter_1 : decode cX0_isCounter 1 = .ok (.getfield 12, 3) := dk_180 0 12 (dk_at dksX0_isCounter_0 1 rfl rfl)
theorem dX0_isCounter_4 : decode cX0_isCounter 4 = .ok (.invokeinterface 102 1, 5) := by decide +kernel
theorem dX0_isCounter_9 : decode cX0_isCounter 9 = .ok (.ifCond .ne 7, 3) := dk_154 0 7 (dk_at dksX0_isCounter_0 9 rfl rfl)
theorem dX0_isCounter_12 : decode cX0_isCounter 12 = .ok (.iconst 1, 1) := dk_4 (dk_at dksX0_isCounter_0 12 rfl rfl)
theorem dX0_isCounter_13 : decode cX0_isCounter 13 = .ok (.goto 4, 3) := dk_167 0 4 (dk_at dksX0_isCounter_0 13 rfl rfl)
theorem dX0_isCounter_16 : decode cX0_isCounter 16 = .ok (.iconst 0, 1) := dk_3 (dk_at dksX0_isCounter_0 16 rfl rfl)
theorem dX0_isCounter_17 : decode cX0_isCounter 17 = .ok (.ireturn, 1) := dk_172 (dk_at dksX0_isCounter_0 17 rfl rfl)
abbrev cX0_lentBy : ByteArray := prog_1_method_34_code
def yX0_lentBy : MethodName := ⟨RX0, "lentBy", "([II)I"⟩
def dkwX0_lentBy_3 : List UInt8 := [182, 1, 6, 172]
abbrev dktX0_lentBy_3 : List UInt8 := dkwX0_lentBy_3 ++ []
def dkwX0_lentBy_2 : List UInt8 := [160, 0, 10, 42, 180, 0, 227, 167, 0, 20, 28, 6, 160, 0, 10, 42, 182, 1, 3, 167, 0, 8, 42, 28]
abbrev dktX0_lentBy_2 : List UInt8 := dkwX0_lentBy_2 ++ dktX0_lentBy_3
def dkwX0_lentBy_1 : List UInt8 := [16, 247, 159, 0, 8, 16, 156, 29, 100, 172, 28, 154, 0, 10, 42, 182, 0, 241, 167, 0, 32, 28, 5]
abbrev dktX0_lentBy_1 : List UInt8 := dkwX0_lentBy_1 ++ dktX0_lentBy_2
def dkwX0_lentBy_0 : List UInt8 := [42, 43, 182, 0, 253, 153, 0, 5, 2, 172, 42, 43, 182, 1, 0, 62, 28, 4, 160, 0, 5, 29, 172, 29]
abbrev dktX0_lentBy_0 : List UInt8 := dkwX0_lentBy_0 ++ dktX0_lentBy_1
theorem dksX0_lentBy_0 : cX0_lentBy.data.toList.drop 0 = dktX0_lentBy_0 := by decide +kernel
theorem dksX0_lentBy_1 : cX0_lentBy.data.toList.drop 24 = dktX0_lentBy_1 := dk_seg dksX0_lentBy_0 24 rfl rfl
theorem dksX0_lentBy_2 : cX0_lentBy.data.toList.drop 47 = dktX0_lentBy_2 := dk_seg dksX0_lentBy_1 23 rfl rfl
theorem dksX0_lentBy_3 : cX0_lentBy.data.toList.drop 71 = dktX0_lentBy_3 := dk_seg dksX0_lentBy_2 24 rfl rfl
theorem dX0_lentBy_0 : decode cX0_lentBy 0 = .ok (.aload_n 0, 1) := dk_42 (dk_at dksX0_lentBy_0 0 rfl rfl)
theorem dX0_lentBy_1 : decode cX0_lentBy 1 = .ok (.aload_n 1, 1) := dk_43 (dk_at dksX0_lentBy_0 1 rfl rfl)
theorem dX0_lentBy_2 : decode cX0_lentBy 2 = .ok (.invokevirtual 253, 3) := dk_182 0 253 (dk_at dksX0_lentBy_0 2 rfl rfl)
theorem dX0_lentBy_5 : decode cX0_lentBy 5 = .ok (.ifCond .eq 5, 3) := dk_153 0 5 (dk_at dksX0_lentBy_0 5 rfl rfl)
theorem dX0_lentBy_8 : decode cX0_lentBy 8 = .ok (.iconst (-1), 1) := dk_2 (dk_at dksX0_lentBy_0 8 rfl rfl)
theorem dX0_lentBy_9 : decode cX0_lentBy 9 = .ok (.ireturn, 1) := dk_172 (dk_at dksX0_lentBy_0 9 rfl rfl)
theorem dX0_lentBy_10 : decode cX0_lentBy 10 = .ok (.aload_n 0, 1) := dk_42 (dk_at dksX0_lentBy_0 10 rfl rfl)
theorem dX0_lentBy_11 : decode cX0_lentBy 11 = .ok (.aload_n 1, 1) := dk_43 (dk_at dksX0_lentBy_0 11 rfl rfl)
theorem dX0_lentBy_12 : decode cX0_lentBy 12 = .ok (.invokevirtual 256, 3) := dk_182 1 0 (dk_at dksX0_lentBy_0 12 rfl rfl)
theorem dX0_lentBy_15 : decode cX0_lentBy 15 = .ok (.istore_n 3, 1) := dk_62 (dk_at dksX0_lentBy_0 15 rfl rfl)
theorem dX0_lentBy_16 : decode cX0_lentBy 16 = .ok (.iload_n 2, 1) := dk_28 (dk_at dksX0_lentBy_0 16 rfl rfl)
theorem dX0_lentBy_17 : decode cX0_lentBy 17 = .ok (.iconst 1, 1) := dk_4 (dk_at dksX0_lentBy_0 17 rfl rfl)
theorem dX0_lentBy_18 : decode cX0_lentBy 18 = .ok (.if_icmp .ne 5, 3) := dk_160 0 5 (dk_at dksX0_lentBy_0 18 rfl rfl)
theorem dX0_lentBy_21 : decode cX0_lentBy 21 = .ok (.iload_n 3, 1) := dk_29 (dk_at dksX0_lentBy_0 21 rfl rfl)
theorem dX0_lentBy_22 : decode cX0_lentBy 22 = .ok (.ireturn, 1) := dk_172 (dk_at dksX0_lentBy_0 22 rfl rfl)
theorem dX0_lentBy_23 : decode cX0_lentBy 23 = .ok (.iload_n 3, 1) := dk_29 (dk_at dksX0_lentBy_0 23 rfl rfl)
theorem dX0_lentBy_24 : decode cX0_lentBy 24 = .ok (.bipush (-9), 2) := dk_16 247 (dk_at dksX0_lentBy_1 0 rfl rfl)
theorem dX0_lentBy_26 : decode cX0_lentBy 26 = .ok (.if_icmp .eq 8, 3) := dk_159 0 8 (dk_at dksX0_lentBy_1 2 rfl rfl)
theorem dX0_lentBy_29 : decode cX0_lentBy 29 = .ok (.bipush (-100), 2) := dk_16 156 (dk_at dksX0_lentBy_1 5 rfl rfl)
theorem dX0_lentBy_31 : decode cX0_lentBy 31 = .ok (.iload_n 3, 1) := dk_29 (dk_at dksX0_lentBy_1 7 rfl rfl)
theorem dX0_lentBy_32 : decode cX0_lentBy 32 = .ok (.isub, 1) := dk_100 (dk_at dksX0_lentBy_1 8 rfl rfl)
theorem dX0_lentBy_33 : decode cX0_lentBy 33 = .ok (.ireturn, 1) := dk_172 (dk_at dksX0_lentBy_1 9 rfl rfl)
theorem dX0_lentBy_34 : decode cX0_lentBy 34 = .ok (.iload_n 2, 1) := dk_28 (dk_at dksX0_lentBy_1 10 rfl rfl)
theorem dX0_lentBy_35 : decode cX0_lentBy 35 = .ok (.ifCond .ne 10, 3) := dk_154 0 10 (dk_at dksX0_lentBy_1 11 rfl rfl)
theorem dX0_lentBy_38 : decode cX0_lentBy 38 = .ok (.aload_n 0, 1) := dk_42 (dk_at dksX0_lentBy_1 14 rfl rfl)
theorem dX0_lentBy_39 : decode cX0_lentBy 39 = .ok (.invokevirtual 241, 3) := dk_182 0 241 (dk_at dksX0_lentBy_1 15 rfl rfl)
theorem dX0_lentBy_42 : decode cX0_lentBy 42 = .ok (.goto 32, 3) := dk_167 0 32 (dk_at dksX0_lentBy_1 18 rfl rfl)
theorem dX0_lentBy_45 : decode cX0_lentBy 45 = .ok (.iload_n 2, 1) := dk_28 (dk_at dksX0_lentBy_1 21 rfl rfl)
theorem dX0_lentBy_46 : decode cX0_lentBy 46 = .ok (.iconst 2, 1) := dk_5 (dk_at dksX0_lentBy_1 22 rfl rfl)
theorem dX0_lentBy_47 : decode cX0_lentBy 47 = .ok (.if_icmp .ne 10, 3) := dk_160 0 10 (dk_at dksX0_lentBy_2 0 rfl rfl)
theorem dX0_lentBy_50 : decode cX0_lentBy 50 = .ok (.aload_n 0, 1) := dk_42 (dk_at dksX0_lentBy_2 3 rfl rfl)
theorem dX0_lentBy_51 : decode cX0_lentBy 51 = .ok (.getfield 227, 3) := dk_180 0 227 (dk_at dksX0_lentBy_2 4 rfl rfl)
theorem dX0_lentBy_54 : decode cX0_lentBy 54 = .ok (.goto 20, 3) := dk_167 0 20 (dk_at dksX0_lentBy_2 7 rfl rfl)
theorem dX0_lentBy_57 : decode cX0_lentBy 57 = .ok (.iload_n 2, 1) := dk_28 (dk_at dksX0_lentBy_2 10 rfl rfl)
theorem dX0_lentBy_58 : decode cX0_lentBy 58 = .ok (.iconst 3, 1) := dk_6 (dk_at dksX0_lentBy_2 11 rfl rfl)
theorem dX0_lentBy_59 : decode cX0_lentBy 59 = .ok (.if_icmp .ne 10, 3) := dk_160 0 10 (dk_at dksX0_lentBy_2 12 rfl rfl)
theorem dX0_lentBy_62 : decode cX0_lentBy 62 = .ok (.aload_n 0, 1) := dk_42 (dk_at dksX0_lentBy_2 15 rfl rfl)
theorem dX0_lentBy_63 : decode cX0_lentBy 63 = .ok (.invokevirtual 259, 3) := dk_182 1 3 (dk_at dksX0_lentBy_2 16 rfl rfl)
theorem dX0_lentBy_66 : decode cX0_lentBy 66 = .ok (.goto 8, 3) := dk_167 0 8 (dk_at dksX0_lentBy_2 19 rfl rfl)
theorem dX0_lentBy_69 : decode cX0_lentBy 69 = .ok (.aload_n 0, 1) := dk_42 (dk_at dksX0_lentBy_2 22 rfl rfl)
theorem dX0_lentBy_70 : decode cX0_lentBy 70 = .ok (.iload_n 2, 1) := dk_28 (dk_at dksX0_lentBy_2 23 rfl rfl)
theorem dX0_lentBy_71 : decode cX0_lentBy 71 = .ok (.invokevirtual 262, 3) := dk_182 1 6 (dk_at dksX0_lentBy_3 0 rfl rfl)
theorem dX0_lentBy_74 : decode cX0_lentBy 74 = .ok (.ireturn, 1) := dk_172 (dk_at dksX0_lentBy_3 3 rfl rfl)
abbrev cX0_areOthers : ByteArray := prog_1_method_32_code
def yX0_areOthers : MethodName := ⟨RX0, "areOthers", "([I)Z"⟩
def dkwX0_areOthers_1 : List UInt8 := [167, 255, 235, 3, 172]
abbrev dktX0_areOthers_1 : List UInt8 := dkwX0_areOthers_1 ++ []
def dkwX0_areOthers_0 : List UInt8 := [3, 61, 28, 43, 190, 162, 0, 21, 42, 43, 28, 46, 182, 0, 185, 154, 0, 5, 4, 172, 132, 2, 1]
abbrev dktX0_areOthers_0 : List UInt8 := dkwX0_areOthers_0 ++ dktX0_areOthers_1
theorem dksX0_areOthers_0 : cX0_areOthers.data.toList.drop 0 = dktX0_areOthers_0 := by decide +kernel
theorem dksX0_areOthers_1 : cX0_areOthers.data.toList.drop 23 = dktX0_areOthers_1 := dk_seg dksX0_areOthers_0 23 rfl rfl
theorem dX0_areOthers_0 : decode cX0_areOthers 0 = .ok (.iconst 0, 1) := dk_3 (dk_at dksX0_areOthers_0 0 rfl rfl)
theorem dX0_areOthers_1 : decode cX0_areOthers 1 = .ok (.istore_n 2, 1) := dk_61 (dk_at dksX0_areOthers_0 1 rfl rfl)
theorem dX0_areOthers_2 : decode cX0_areOthers 2 = .ok (.iload_n 2, 1) := dk_28 (dk_at dksX0_areOthers_0 2 rfl rfl)
theorem dX0_areOthers_3 : decode cX0_areOthers 3 = .ok (.aload_n 1, 1) := dk_43 (dk_at dksX0_areOthers_0 3 rfl rfl)
theorem dX0_areOthers_4 : decode cX0_areOthers 4 = .ok (.arraylength, 1) := dk_190 (dk_at dksX0_areOthers_0 4 rfl rfl)
theorem dX0_areOthers_5 : decode cX0_areOthers 5 = .ok (.if_icmp .ge 21, 3) := dk_162 0 21 (dk_at dksX0_areOthers_0 5 rfl rfl)
theorem dX0_areOthers_8 : decode cX0_areOthers 8 = .ok (.aload_n 0, 1) := dk_42 (dk_at dksX0_areOthers_0 8 rfl rfl)
theorem dX0_areOthers_9 : decode cX0_areOthers 9 = .ok (.aload_n 1, 1) := dk_43 (dk_at dksX0_areOthers_0 9 rfl rfl)
theorem dX0_areOthers_10 : decode cX0_areOthers 10 = .ok (.iload_n 2, 1) := dk_28 (dk_at dksX0_areOthers_0 10 rfl rfl)
theorem dX0_areOthers_11 : decode cX0_areOthers 11 = .ok (.iaload, 1) := dk_46 (dk_at dksX0_areOthers_0 11 rfl rfl)
theorem dX0_areOthers_12 : decode cX0_areOthers 12 = .ok (.invokevirtual 185, 3) := dk_182 0 185 (dk_at dksX0_areOthers_0 12 rfl rfl)
theorem dX0_areOthers_15 : decode cX0_areOthers 15 = .ok (.ifCond .ne 5, 3) := dk_154 0 5 (dk_at dksX0_areOthers_0 15 rfl rfl)
theorem dX0_areOthers_18 : decode cX0_areOthers 18 = .ok (.iconst 1, 1) := dk_4 (dk_at dksX0_areOthers_0 18 rfl rfl)
theorem dX0_areOthers_19 : decode cX0_areOthers 19 = .ok (.ireturn, 1) := dk_172 (dk_at dksX0_areOthers_0 19 rfl rfl)
theorem dX0_areOthers_20 : decode cX0_areOthers 20 = .ok (.iinc 2 1, 3) := dk_132 2 1 (dk_at dksX0_areOthers_0 20 rfl rfl)
theorem dX0_areOthers_23 : decode cX0_areOthers 23 = .ok (.goto (-21), 3) := dk_167 255 235 (dk_at dksX0_areOthers_1 0 rfl rfl)
theorem dX0_areOthers_26 : decode cX0_areOthers 26 = .ok (.iconst 0, 1) := dk_3 (dk_at dksX0_areOthers_1 3 rfl rfl)
theorem dX0_areOthers_27 : decode cX0_areOthers 27 = .ok (.ireturn, 1) := dk_172 (dk_at dksX0_areOthers_1 4 rfl rfl)
abbrev cX0_goAll : ByteArray := prog_1_method_30_code
def yX0_goAll : MethodName := ⟨RX0, "goAll", "([I)I"⟩
def dkwX0_goAll_4 : List UInt8 := [167, 255, 185, 16, 247, 172]
abbrev dktX0_goAll_4 : List UInt8 := dkwX0_goAll_4 ++ []
def dkwX0_goAll_3 : List UInt8 := [160, 0, 21, 42, 182, 0, 241, 42, 182, 0, 244, 160, 0, 10, 42, 29, 5, 108, 181, 0, 227, 132, 3, 2]
abbrev dktX0_goAll_3 : List UInt8 := dkwX0_goAll_3 ++ dktX0_goAll_4
def dkwX0_goAll_2 : List UInt8 := [42, 43, 29, 46, 43, 29, 4, 96, 46, 182, 0, 250, 28, 154, 0, 30, 42, 180, 0, 227, 16, 247]
abbrev dktX0_goAll_2 : List UInt8 := dkwX0_goAll_2 ++ dktX0_goAll_3
def dkwX0_goAll_1 : List UInt8 := [43, 190, 162, 0, 71, 42, 43, 29, 46, 43, 29, 4, 96, 46, 182, 0, 247, 154, 0, 7, 29, 5, 108, 172]
abbrev dktX0_goAll_1 : List UInt8 := dkwX0_goAll_1 ++ dktX0_goAll_2
def dkwX0_goAll_0 : List UInt8 := [42, 182, 0, 240, 42, 182, 0, 241, 42, 182, 0, 244, 160, 0, 7, 4, 167, 0, 4, 3, 61, 3, 62, 29]
abbrev dktX0_goAll_0 : List UInt8 := dkwX0_goAll_0 ++ dktX0_goAll_1
theorem dksX0_goAll_0 : cX0_goAll.data.toList.drop 0 = dktX0_goAll_0 := by decide +kernel
theorem dksX0_goAll_1 : cX0_goAll.data.toList.drop 24 = dktX0_goAll_1 := dk_seg dksX0_goAll_0 24 rfl rfl
theorem dksX0_goAll_2 : cX0_goAll.data.toList.drop 48 = dktX0_goAll_2 := dk_seg dksX0_goAll_1 24 rfl rfl
theorem dksX0_goAll_3 : cX0_goAll.data.toList.drop 70 = dktX0_goAll_3 := dk_seg dksX0_goAll_2 22 rfl rfl
theorem dksX0_goAll_4 : cX0_goAll.data.toList.drop 94 = dktX0_goAll_4 := dk_seg dksX0_goAll_3 24 rfl rfl
theorem dX0_goAll_0 : decode cX0_goAll 0 = .ok (.aload_n 0, 1) := dk_42 (dk_at dksX0_goAll_0 0 rfl rfl)
theorem dX0_goAll_1 : decode cX0_goAll 1 = .ok (.invokevirtual 240, 3) := dk_182 0 240 (dk_at dksX0_goAll_0 1 rfl rfl)
theorem dX0_goAll_4 : decode cX0_goAll 4 = .ok (.aload_n 0, 1) := dk_42 (dk_at dksX0_goAll_0 4 rfl rfl)
theorem dX0_goAll_5 : decode cX0_goAll 5 = .ok (.invokevirtual 241, 3) := dk_182 0 241 (dk_at dksX0_goAll_0 5 rfl rfl)
theorem dX0_goAll_8 : decode cX0_goAll 8 = .ok (.aload_n 0, 1) := dk_42 (dk_at dksX0_goAll_0 8 rfl rfl)
theorem dX0_goAll_9 : decode cX0_goAll 9 = .ok (.invokevirtual 244, 3) := dk_182 0 244 (dk_at dksX0_goAll_0 9 rfl rfl)
theorem dX0_goAll_12 : decode cX0_goAll 12 = .ok (.if_icmp .ne 7, 3) := dk_160 0 7 (dk_at dksX0_goAll_0 12 rfl rfl)
theorem dX0_goAll_15 : decode cX0_goAll 15 = .ok (.iconst 1, 1) := dk_4 (dk_at dksX0_goAll_0 15 rfl rfl)
theorem dX0_goAll_16 : decode cX0_goAll 16 = .ok (.goto 4, 3) := dk_167 0 4 (dk_at dksX0_goAll_0 16 rfl rfl)
theorem dX0_goAll_19 : decode cX0_goAll 19 = .ok (.iconst 0, 1) := dk_3 (dk_at dksX0_goAll_0 19 rfl rfl)
theorem dX0_goAll_20 : decode cX0_goAll 20 = .ok (.istore_n 2, 1) := dk_61 (dk_at dksX0_goAll_0 20 rfl rfl)
theorem dX0_goAll_21 : decode cX0_goAll 21 = .ok (.iconst 0, 1) := dk_3 (dk_at dksX0_goAll_0 21 rfl rfl)
theorem dX0_goAll_22 : decode cX0_goAll 22 = .ok (.istore_n 3, 1) := dk_62 (dk_at dksX0_goAll_0 22 rfl rfl)
theorem dX0_goAll_23 : decode cX0_goAll 23 = .ok (.iload_n 3, 1) := dk_29 (dk_at dksX0_goAll_0 23 rfl rfl)
theorem dX0_goAll_24 : decode cX0_goAll 24 = .ok (.aload_n 1, 1) := dk_43 (dk_at dksX0_goAll_1 0 rfl rfl)
theorem dX0_goAll_25 : decode cX0_goAll 25 = .ok (.arraylength, 1) := dk_190 (dk_at dksX0_goAll_1 1 rfl rfl)
theorem dX0_goAll_26 : decode cX0_goAll 26 = .ok (.if_icmp .ge 71, 3) := dk_162 0 71 (dk_at dksX0_goAll_1 2 rfl rfl)
theorem dX0_goAll_29 : decode cX0_goAll 29 = .ok (.aload_n 0, 1) := dk_42 (dk_at dksX0_goAll_1 5 rfl rfl)
theorem dX0_goAll_30 : decode cX0_goAll 30 = .ok (.aload_n 1, 1) := dk_43 (dk_at dksX0_goAll_1 6 rfl rfl)
theorem dX0_goAll_31 : decode cX0_goAll 31 = .ok (.iload_n 3, 1) := dk_29 (dk_at dksX0_goAll_1 7 rfl rfl)
theorem dX0_goAll_32 : decode cX0_goAll 32 = .ok (.iaload, 1) := dk_46 (dk_at dksX0_goAll_1 8 rfl rfl)
theorem dX0_goAll_33 : decode cX0_goAll 33 = .ok (.aload_n 1, 1) := dk_43 (dk_at dksX0_goAll_1 9 rfl rfl)
theorem dX0_goAll_34 : decode cX0_goAll 34 = .ok (.iload_n 3, 1) := dk_29 (dk_at dksX0_goAll_1 10 rfl rfl)
theorem dX0_goAll_35 : decode cX0_goAll 35 = .ok (.iconst 1, 1) := dk_4 (dk_at dksX0_goAll_1 11 rfl rfl)
theorem dX0_goAll_36 : decode cX0_goAll 36 = .ok (.iadd, 1) := dk_96 (dk_at dksX0_goAll_1 12 rfl rfl)
theorem dX0_goAll_37 : decode cX0_goAll 37 = .ok (.iaload, 1) := dk_46 (dk_at dksX0_goAll_1 13 rfl rfl)
theorem dX0_goAll_38 : decode cX0_goAll 38 = .ok (.invokevirtual 247, 3) := dk_182 0 247 (dk_at dksX0_goAll_1 14 rfl rfl)
theorem dX0_goAll_41 : decode cX0_goAll 41 = .ok (.ifCond .ne 7, 3) := dk_154 0 7 (dk_at dksX0_goAll_1 17 rfl rfl)
theorem dX0_goAll_44 : decode cX0_goAll 44 = .ok (.iload_n 3, 1) := dk_29 (dk_at dksX0_goAll_1 20 rfl rfl)
theorem dX0_goAll_45 : decode cX0_goAll 45 = .ok (.iconst 2, 1) := dk_5 (dk_at dksX0_goAll_1 21 rfl rfl)
theorem dX0_goAll_46 : decode cX0_goAll 46 = .ok (.idiv, 1) := dk_108 (dk_at dksX0_goAll_1 22 rfl rfl)
theorem dX0_goAll_47 : decode cX0_goAll 47 = .ok (.ireturn, 1) := dk_172 (dk_at dksX0_goAll_1 23 rfl rfl)
theorem dX0_goAll_48 : decode cX0_goAll 48 = .ok (.aload_n 0, 1) := dk_42 (dk_at dksX0_goAll_2 0 rfl rfl)
theorem dX0_goAll_49 : decode cX0_goAll 49 = .ok (.aload_n 1, 1) := dk_43 (dk_at dksX0_goAll_2 1 rfl rfl)
theorem dX0_goAll_50 : decode cX0_goAll 50 = .ok (.iload_n 3, 1) := dk_29 (dk_at dksX0_goAll_2 2 rfl rfl)
theorem dX0_goAll_51 : decode cX0_goAll 51 = .ok (.iaload, 1) := dk_46 (dk_at dksX0_goAll_2 3 rfl rfl)
theorem dX0_goAll_52 : decode cX0_goAll 52 = .ok (.aload_n 1, 1) := dk_43 (dk_at dksX0_goAll_2 4 rfl rfl)
theorem dX0_goAll_53 : decode cX0_goAll 53 = .ok (.iload_n 3, 1) := dk_29 (dk_at dksX0_goAll_2 5 rfl rfl)
theorem dX0_goAll_54 : decode cX0_goAll 54 = .ok (.iconst 1, 1) := dk_4 (dk_at dksX0_goAll_2 6 rfl rfl)
theorem dX0_goAll_55 : decode cX0_goAll 55 = .ok (.iadd, 1) := dk_96 (dk_at dksX0_goAll_2 7 rfl rfl)
theorem dX0_goAll_56 : decode cX0_goAll 56 = .ok (.iaload, 1) := dk_46 (dk_at dksX0_goAll_2 8 rfl rfl)
theorem dX0_goAll_57 : decode cX0_goAll 57 = .ok (.invokevirtual 250, 3) := dk_182 0 250 (dk_at dksX0_goAll_2 9 rfl rfl)
theorem dX0_goAll_60 : decode cX0_goAll 60 = .ok (.iload_n 2, 1) := dk_28 (dk_at dksX0_goAll_2 12 rfl rfl)
theorem dX0_goAll_61 : decode cX0_goAll 61 = .ok (.ifCond .ne 30, 3) := dk_154 0 30 (dk_at dksX0_goAll_2 13 rfl rfl)
theorem dX0_goAll_64 : decode cX0_goAll 64 = .ok (.aload_n 0, 1) := dk_42 (dk_at dksX0_goAll_2 16 rfl rfl)
theorem dX0_goAll_65 : decode cX0_goAll 65 = .ok (.getfield 227, 3) := dk_180 0 227 (dk_at dksX0_goAll_2 17 rfl rfl)
theorem dX0_goAll_68 : decode cX0_goAll 68 = .ok (.bipush (-9), 2) := dk_16 247 (dk_at dksX0_goAll_2 20 rfl rfl)
theorem dX0_goAll_70 : decode cX0_goAll 70 = .ok (.if_icmp .ne 21, 3) := dk_160 0 21 (dk_at dksX0_goAll_3 0 rfl rfl)
theorem dX0_goAll_73 : decode cX0_goAll 73 = .ok (.aload_n 0, 1) := dk_42 (dk_at dksX0_goAll_3 3 rfl rfl)
theorem dX0_goAll_74 : decode cX0_goAll 74 = .ok (.invokevirtual 241, 3) := dk_182 0 241 (dk_at dksX0_goAll_3 4 rfl rfl)
theorem dX0_goAll_77 : decode cX0_goAll 77 = .ok (.aload_n 0, 1) := dk_42 (dk_at dksX0_goAll_3 7 rfl rfl)
theorem dX0_goAll_78 : decode cX0_goAll 78 = .ok (.invokevirtual 244, 3) := dk_182 0 244 (dk_at dksX0_goAll_3 8 rfl rfl)
theorem dX0_goAll_81 : decode cX0_goAll 81 = .ok (.if_icmp .ne 10, 3) := dk_160 0 10 (dk_at dksX0_goAll_3 11 rfl rfl)
theorem dX0_goAll_84 : decode cX0_goAll 84 = .ok (.aload_n 0, 1) := dk_42 (dk_at dksX0_goAll_3 14 rfl rfl)
theorem dX0_goAll_85 : decode cX0_goAll 85 = .ok (.iload_n 3, 1) := dk_29 (dk_at dksX0_goAll_3 15 rfl rfl)
theorem dX0_goAll_86 : decode cX0_goAll 86 = .ok (.iconst 2, 1) := dk_5 (dk_at dksX0_goAll_3 16 rfl rfl)
theorem dX0_goAll_87 : decode cX0_goAll 87 = .ok (.idiv, 1) := dk_108 (dk_at dksX0_goAll_3 17 rfl rfl)
theorem dX0_goAll_88 : decode cX0_goAll 88 = .ok (.putfield 227, 3) := dk_181 0 227 (dk_at dksX0_goAll_3 18 rfl rfl)
theorem dX0_goAll_91 : decode cX0_goAll 91 = .ok (.iinc 3 2, 3) := dk_132 3 2 (dk_at dksX0_goAll_3 21 rfl rfl)
theorem dX0_goAll_94 : decode cX0_goAll 94 = .ok (.goto (-71), 3) := dk_167 255 185 (dk_at dksX0_goAll_4 0 rfl rfl)
theorem dX0_goAll_97 : decode cX0_goAll 97 = .ok (.bipush (-9), 2) := dk_16 247 (dk_at dksX0_goAll_4 3 rfl rfl)
theorem dX0_goAll_99 : decode cX0_goAll 99 = .ok (.ireturn, 1) := dk_172 (dk_at dksX0_goAll_4 5 rfl rfl)
abbrev cX0_begin : ByteArray := prog_1_method_25_code
def yX0_begin : MethodName := ⟨RX0, "begin", "()V"⟩
def dkwX0_begin_2 : List UInt8 := [27, 79, 42, 27, 182, 0, 223, 132, 1, 1, 167, 255, 217, 42, 16, 247, 181, 0, 227, 177]
abbrev dktX0_begin_2 : List UInt8 := dkwX0_begin_2 ++ []
def dkwX0_begin_1 : List UInt8 := [162, 0, 37, 42, 180, 0, 12, 27, 185, 0, 188, 2, 0, 192, 0, 85, 182, 0, 220, 42, 180, 0, 35, 27]
abbrev dktX0_begin_1 : List UInt8 := dkwX0_begin_1 ++ dktX0_begin_2
def dkwX0_begin_0 : List UInt8 := [42, 180, 0, 38, 3, 184, 0, 214, 42, 180, 0, 41, 3, 184, 0, 214, 3, 60, 27, 42, 182, 0, 106]
abbrev dktX0_begin_0 : List UInt8 := dkwX0_begin_0 ++ dktX0_begin_1
theorem dksX0_begin_0 : cX0_begin.data.toList.drop 0 = dktX0_begin_0 := by decide +kernel
theorem dksX0_begin_1 : cX0_begin.data.toList.drop 23 = dktX0_begin_1 := dk_seg dksX0_begin_0 23 rfl rfl
theorem dksX0_begin_2 : cX0_begin.data.toList.drop 47 = dktX0_begin_2 := dk_seg dksX0_begin_1 24 rfl rfl
theorem dX0_begin_0 : decode cX0_begin 0 = .ok (.aload_n 0, 1) := dk_42 (dk_at dksX0_begin_0 0 rfl rfl)
theorem dX0_begin_1 : decode cX0_begin 1 = .ok (.getfield 38, 3) := dk_180 0 38 (dk_at dksX0_begin_0 1 rfl rfl)
theorem dX0_begin_4 : decode cX0_begin 4 = .ok (.iconst 0, 1) := dk_3 (dk_at dksX0_begin_0 4 rfl rfl)
theorem dX0_begin_5 : decode cX0_begin 5 = .ok (.invokestatic 214, 3) := dk_184 0 214 (dk_at dksX0_begin_0 5 rfl rfl)
theorem dX0_begin_8 : decode cX0_begin 8 = .ok (.aload_n 0, 1) := dk_42 (dk_at dksX0_begin_0 8 rfl rfl)
theorem dX0_begin_9 : decode cX0_begin 9 = .ok (.getfield 41, 3) := dk_180 0 41 (dk_at dksX0_begin_0 9 rfl rfl)
theorem dX0_begin_12 : decode cX0_begin 12 = .ok (.iconst 0, 1) := dk_3 (dk_at dksX0_begin_0 12 rfl rfl)
theorem dX0_begin_13 : decode cX0_begin 13 = .ok (.invokestatic 214, 3) := dk_184 0 214 (dk_at dksX0_begin_0 13 rfl rfl)
theorem dX0_begin_16 : decode cX0_begin 16 = .ok (.iconst 0, 1) := dk_3 (dk_at dksX0_begin_0 16 rfl rfl)
theorem dX0_begin_17 : decode cX0_begin 17 = .ok (.istore_n 1, 1) := dk_60 (dk_at dksX0_begin_0 17 rfl rfl)
theorem dX0_begin_18 : decode cX0_begin 18 = .ok (.iload_n 1, 1) := dk_27 (dk_at dksX0_begin_0 18 rfl rfl)
theorem dX0_begin_19 : decode cX0_begin 19 = .ok (.aload_n 0, 1) := dk_42 (dk_at dksX0_begin_0 19 rfl rfl)
theorem dX0_begin_20 : decode cX0_begin 20 = .ok (.invokevirtual 106, 3) := dk_182 0 106 (dk_at dksX0_begin_0 20 rfl rfl)
theorem dX0_begin_23 : decode cX0_begin 23 = .ok (.if_icmp .ge 37, 3) := dk_162 0 37 (dk_at dksX0_begin_1 0 rfl rfl)
theorem dX0_begin_26 : decode cX0_begin 26 = .ok (.aload_n 0, 1) := dk_42 (dk_at dksX0_begin_1 3 rfl rfl)
theorem dX0_begin_27 : decode cX0_begin 27 = .ok (.getfield 12, 3) := dk_180 0 12 (dk_at dksX0_begin_1 4 rfl rfl)
theorem dX0_begin_30 : decode cX0_begin 30 = .ok (.iload_n 1, 1) := dk_27 (dk_at dksX0_begin_1 7 rfl rfl)
theorem dX0_begin_31 : decode cX0_begin 31 = .ok (.invokeinterface 188 2, 5) := by decide +kernel
theorem dX0_begin_36 : decode cX0_begin 36 = .ok (.checkcast 85, 3) := dk_192 0 85 (dk_at dksX0_begin_1 13 rfl rfl)
theorem dX0_begin_39 : decode cX0_begin 39 = .ok (.invokevirtual 220, 3) := dk_182 0 220 (dk_at dksX0_begin_1 16 rfl rfl)
theorem dX0_begin_42 : decode cX0_begin 42 = .ok (.aload_n 0, 1) := dk_42 (dk_at dksX0_begin_1 19 rfl rfl)
theorem dX0_begin_43 : decode cX0_begin 43 = .ok (.getfield 35, 3) := dk_180 0 35 (dk_at dksX0_begin_1 20 rfl rfl)
theorem dX0_begin_46 : decode cX0_begin 46 = .ok (.iload_n 1, 1) := dk_27 (dk_at dksX0_begin_1 23 rfl rfl)
theorem dX0_begin_47 : decode cX0_begin 47 = .ok (.iload_n 1, 1) := dk_27 (dk_at dksX0_begin_2 0 rfl rfl)
theorem dX0_begin_48 : decode cX0_begin 48 = .ok (.iastore, 1) := dk_79 (dk_at dksX0_begin_2 1 rfl rfl)
theorem dX0_begin_49 : decode cX0_begin 49 = .ok (.aload_n 0, 1) := dk_42 (dk_at dksX0_begin_2 2 rfl rfl)
theorem dX0_begin_50 : decode cX0_begin 50 = .ok (.iload_n 1, 1) := dk_27 (dk_at dksX0_begin_2 3 rfl rfl)
theorem dX0_begin_51 : decode cX0_begin 51 = .ok (.invokevirtual 223, 3) := dk_182 0 223 (dk_at dksX0_begin_2 4 rfl rfl)
theorem dX0_begin_54 : decode cX0_begin 54 = .ok (.iinc 1 1, 3) := dk_132 1 1 (dk_at dksX0_begin_2 7 rfl rfl)
theorem dX0_begin_57 : decode cX0_begin 57 = .ok (.goto (-39), 3) := dk_167 255 217 (dk_at dksX0_begin_2 10 rfl rfl)
theorem dX0_begin_60 : decode cX0_begin 60 = .ok (.aload_n 0, 1) := dk_42 (dk_at dksX0_begin_2 13 rfl rfl)
theorem dX0_begin_61 : decode cX0_begin 61 = .ok (.bipush (-9), 2) := dk_16 247 (dk_at dksX0_begin_2 14 rfl rfl)
theorem dX0_begin_63 : decode cX0_begin 63 = .ok (.putfield 227, 3) := dk_181 0 227 (dk_at dksX0_begin_2 16 rfl rfl)
theorem dX0_begin_66 : decode cX0_begin 66 = .ok (.return_, 1) := dk_177 (dk_at dksX0_begin_2 19 rfl rfl)
abbrev cX0_see : ByteArray := prog_1_method_24_code
def yX0_see : MethodName := ⟨RX0, "see", "(I)V"⟩
def dkwX0_see_2 : List UInt8 := [92, 46, 28, 128, 79, 177]
abbrev dktX0_see_2 : List UInt8 := dkwX0_see_2 ++ []
def dkwX0_see_1 : List UInt8 := [180, 0, 38, 27, 92, 46, 28, 128, 79, 42, 180, 0, 41, 27, 16, 6, 104, 42, 180, 0, 35, 27, 46, 96]
abbrev dktX0_see_1 : List UInt8 := dkwX0_see_1 ++ dktX0_see_2
def dkwX0_see_0 : List UInt8 := [42, 180, 0, 12, 42, 180, 0, 35, 27, 46, 185, 0, 188, 2, 0, 192, 0, 85, 180, 0, 211, 61, 42]
abbrev dktX0_see_0 : List UInt8 := dkwX0_see_0 ++ dktX0_see_1
theorem dksX0_see_0 : cX0_see.data.toList.drop 0 = dktX0_see_0 := by decide +kernel
theorem dksX0_see_1 : cX0_see.data.toList.drop 23 = dktX0_see_1 := dk_seg dksX0_see_0 23 rfl rfl
theorem dksX0_see_2 : cX0_see.data.toList.drop 47 = dktX0_see_2 := dk_seg dksX0_see_1 24 rfl rfl
theorem dX0_see_0 : decode cX0_see 0 = .ok (.aload_n 0, 1) := dk_42 (dk_at dksX0_see_0 0 rfl rfl)
theorem dX0_see_1 : decode cX0_see 1 = .ok (.getfield 12, 3) := dk_180 0 12 (dk_at dksX0_see_0 1 rfl rfl)
theorem dX0_see_4 : decode cX0_see 4 = .ok (.aload_n 0, 1) := dk_42 (dk_at dksX0_see_0 4 rfl rfl)
theorem dX0_see_5 : decode cX0_see 5 = .ok (.getfield 35, 3) := dk_180 0 35 (dk_at dksX0_see_0 5 rfl rfl)
theorem dX0_see_8 : decode cX0_see 8 = .ok (.iload_n 1, 1) := dk_27 (dk_at dksX0_see_0 8 rfl rfl)
theorem dX0_see_9 : decode cX0_see 9 = .ok (.iaload, 1) := dk_46 (dk_at dksX0_see_0 9 rfl rfl)
theorem dX0_see_10 : decode cX0_see 10 = .ok (.invokeinterface 188 2, 5) := by decide +kernel
theorem dX0_see_15 : decode cX0_see 15 = .ok (.checkcast 85, 3) := dk_192 0 85 (dk_at dksX0_see_0 15 rfl rfl)
theorem dX0_see_18 : decode cX0_see 18 = .ok (.getfield 211, 3) := dk_180 0 211 (dk_at dksX0_see_0 18 rfl rfl)
theorem dX0_see_21 : decode cX0_see 21 = .ok (.istore_n 2, 1) := dk_61 (dk_at dksX0_see_0 21 rfl rfl)
theorem dX0_see_22 : decode cX0_see 22 = .ok (.aload_n 0, 1) := dk_42 (dk_at dksX0_see_0 22 rfl rfl)
theorem dX0_see_23 : decode cX0_see 23 = .ok (.getfield 38, 3) := dk_180 0 38 (dk_at dksX0_see_1 0 rfl rfl)
theorem dX0_see_26 : decode cX0_see 26 = .ok (.iload_n 1, 1) := dk_27 (dk_at dksX0_see_1 3 rfl rfl)
theorem dX0_see_27 : decode cX0_see 27 = .ok (.dup2, 1) := dk_92 (dk_at dksX0_see_1 4 rfl rfl)
theorem dX0_see_28 : decode cX0_see 28 = .ok (.iaload, 1) := dk_46 (dk_at dksX0_see_1 5 rfl rfl)
theorem dX0_see_29 : decode cX0_see 29 = .ok (.iload_n 2, 1) := dk_28 (dk_at dksX0_see_1 6 rfl rfl)
theorem dX0_see_30 : decode cX0_see 30 = .ok (.ior, 1) := dk_128 (dk_at dksX0_see_1 7 rfl rfl)
theorem dX0_see_31 : decode cX0_see 31 = .ok (.iastore, 1) := dk_79 (dk_at dksX0_see_1 8 rfl rfl)
theorem dX0_see_32 : decode cX0_see 32 = .ok (.aload_n 0, 1) := dk_42 (dk_at dksX0_see_1 9 rfl rfl)
theorem dX0_see_33 : decode cX0_see 33 = .ok (.getfield 41, 3) := dk_180 0 41 (dk_at dksX0_see_1 10 rfl rfl)
theorem dX0_see_36 : decode cX0_see 36 = .ok (.iload_n 1, 1) := dk_27 (dk_at dksX0_see_1 13 rfl rfl)
theorem dX0_see_37 : decode cX0_see 37 = .ok (.bipush 6, 2) := dk_16 6 (dk_at dksX0_see_1 14 rfl rfl)
theorem dX0_see_39 : decode cX0_see 39 = .ok (.imul, 1) := dk_104 (dk_at dksX0_see_1 16 rfl rfl)
theorem dX0_see_40 : decode cX0_see 40 = .ok (.aload_n 0, 1) := dk_42 (dk_at dksX0_see_1 17 rfl rfl)
theorem dX0_see_41 : decode cX0_see 41 = .ok (.getfield 35, 3) := dk_180 0 35 (dk_at dksX0_see_1 18 rfl rfl)
theorem dX0_see_44 : decode cX0_see 44 = .ok (.iload_n 1, 1) := dk_27 (dk_at dksX0_see_1 21 rfl rfl)
theorem dX0_see_45 : decode cX0_see 45 = .ok (.iaload, 1) := dk_46 (dk_at dksX0_see_1 22 rfl rfl)
theorem dX0_see_46 : decode cX0_see 46 = .ok (.iadd, 1) := dk_96 (dk_at dksX0_see_1 23 rfl rfl)
theorem dX0_see_47 : decode cX0_see 47 = .ok (.dup2, 1) := dk_92 (dk_at dksX0_see_2 0 rfl rfl)
theorem dX0_see_48 : decode cX0_see 48 = .ok (.iaload, 1) := dk_46 (dk_at dksX0_see_2 1 rfl rfl)
theorem dX0_see_49 : decode cX0_see 49 = .ok (.iload_n 2, 1) := dk_28 (dk_at dksX0_see_2 2 rfl rfl)
theorem dX0_see_50 : decode cX0_see 50 = .ok (.ior, 1) := dk_128 (dk_at dksX0_see_2 3 rfl rfl)
theorem dX0_see_51 : decode cX0_see 51 = .ok (.iastore, 1) := dk_79 (dk_at dksX0_see_2 4 rfl rfl)
theorem dX0_see_52 : decode cX0_see 52 = .ok (.return_, 1) := dk_177 (dk_at dksX0_see_2 5 rfl rfl)
abbrev cX0_mended : ByteArray := prog_1_method_27_code
def yX0_mended : MethodName := ⟨RX0, "mended", "()I"⟩
def dkwX0_mended_1 : List UInt8 := [167, 0, 4, 3, 128, 60, 132, 2, 1, 167, 255, 227, 27, 172]
abbrev dktX0_mended_1 : List UInt8 := dkwX0_mended_1 ++ []
def dkwX0_mended_0 : List UInt8 := [3, 60, 3, 61, 28, 42, 182, 0, 106, 162, 0, 27, 27, 42, 28, 182, 0, 234, 153, 0, 9, 4, 28, 120]
abbrev dktX0_mended_0 : List UInt8 := dkwX0_mended_0 ++ dktX0_mended_1
theorem dksX0_mended_0 : cX0_mended.data.toList.drop 0 = dktX0_mended_0 := by decide +kernel
theorem dksX0_mended_1 : cX0_mended.data.toList.drop 24 = dktX0_mended_1 := dk_seg dksX0_mended_0 24 rfl rfl
theorem dX0_mended_0 : decode cX0_mended 0 = .ok (.iconst 0, 1) := dk_3 (dk_at dksX0_mended_0 0 rfl rfl)
theorem dX0_mended_1 : decode cX0_mended 1 = .ok (.istore_n 1, 1) := dk_60 (dk_at dksX0_mended_0 1 rfl rfl)
theorem dX0_mended_2 : decode cX0_mended 2 = .ok (.iconst 0, 1) := dk_3 (dk_at dksX0_mended_0 2 rfl rfl)
theorem dX0_mended_3 : decode cX0_mended 3 = .ok (.istore_n 2, 1) := dk_61 (dk_at dksX0_mended_0 3 rfl rfl)
theorem dX0_mended_4 : decode cX0_mended 4 = .ok (.iload_n 2, 1) := dk_28 (dk_at dksX0_mended_0 4 rfl rfl)
theorem dX0_mended_5 : decode cX0_mended 5 = .ok (.aload_n 0, 1) := dk_42 (dk_at dksX0_mended_0 5 rfl rfl)
theorem dX0_mended_6 : decode cX0_mended 6 = .ok (.invokevirtual 106, 3) := dk_182 0 106 (dk_at dksX0_mended_0 6 rfl rfl)
theorem dX0_mended_9 : decode cX0_mended 9 = .ok (.if_icmp .ge 27, 3) := dk_162 0 27 (dk_at dksX0_mended_0 9 rfl rfl)
theorem dX0_mended_12 : decode cX0_mended 12 = .ok (.iload_n 1, 1) := dk_27 (dk_at dksX0_mended_0 12 rfl rfl)
theorem dX0_mended_13 : decode cX0_mended 13 = .ok (.aload_n 0, 1) := dk_42 (dk_at dksX0_mended_0 13 rfl rfl)
theorem dX0_mended_14 : decode cX0_mended 14 = .ok (.iload_n 2, 1) := dk_28 (dk_at dksX0_mended_0 14 rfl rfl)
theorem dX0_mended_15 : decode cX0_mended 15 = .ok (.invokevirtual 234, 3) := dk_182 0 234 (dk_at dksX0_mended_0 15 rfl rfl)
theorem dX0_mended_18 : decode cX0_mended 18 = .ok (.ifCond .eq 9, 3) := dk_153 0 9 (dk_at dksX0_mended_0 18 rfl rfl)
theorem dX0_mended_21 : decode cX0_mended 21 = .ok (.iconst 1, 1) := dk_4 (dk_at dksX0_mended_0 21 rfl rfl)
theorem dX0_mended_22 : decode cX0_mended 22 = .ok (.iload_n 2, 1) := dk_28 (dk_at dksX0_mended_0 22 rfl rfl)
theorem dX0_mended_23 : decode cX0_mended 23 = .ok (.ishl, 1) := dk_120 (dk_at dksX0_mended_0 23 rfl rfl)
theorem dX0_mended_24 : decode cX0_mended 24 = .ok (.goto 4, 3) := dk_167 0 4 (dk_at dksX0_mended_1 0 rfl rfl)
theorem dX0_mended_27 : decode cX0_mended 27 = .ok (.iconst 0, 1) := dk_3 (dk_at dksX0_mended_1 3 rfl rfl)
theorem dX0_mended_28 : decode cX0_mended 28 = .ok (.ior, 1) := dk_128 (dk_at dksX0_mended_1 4 rfl rfl)
theorem dX0_mended_29 : decode cX0_mended 29 = .ok (.istore_n 1, 1) := dk_60 (dk_at dksX0_mended_1 5 rfl rfl)
theorem dX0_mended_30 : decode cX0_mended 30 = .ok (.iinc 2 1, 3) := dk_132 2 1 (dk_at dksX0_mended_1 6 rfl rfl)
theorem dX0_mended_33 : decode cX0_mended 33 = .ok (.goto (-29), 3) := dk_167 255 227 (dk_at dksX0_mended_1 9 rfl rfl)
theorem dX0_mended_36 : decode cX0_mended 36 = .ok (.iload_n 1, 1) := dk_27 (dk_at dksX0_mended_1 12 rfl rfl)
theorem dX0_mended_37 : decode cX0_mended 37 = .ok (.ireturn, 1) := dk_172 (dk_at dksX0_mended_1 13 rfl rfl)
abbrev cX0_isMended : ByteArray := prog_1_method_26_code
def yX0_isMended : MethodName := ⟨RX0, "isMended", "(I)Z"⟩
def dkwX0_isMended_1 : List UInt8 := [180, 0, 38, 27, 46, 28, 184, 0, 230, 153, 0, 7, 4, 167, 0, 4, 3, 172]
abbrev dktX0_isMended_1 : List UInt8 := dkwX0_isMended_1 ++ []
def dkwX0_isMended_0 : List UInt8 := [42, 180, 0, 12, 27, 185, 0, 188, 2, 0, 192, 0, 85, 180, 0, 198, 61, 28, 16, 6, 159, 0, 16, 42]
abbrev dktX0_isMended_0 : List UInt8 := dkwX0_isMended_0 ++ dktX0_isMended_1
theorem dksX0_isMended_0 : cX0_isMended.data.toList.drop 0 = dktX0_isMended_0 := by decide +kernel
theorem dksX0_isMended_1 : cX0_isMended.data.toList.drop 24 = dktX0_isMended_1 := dk_seg dksX0_isMended_0 24 rfl rfl
theorem dX0_isMended_0 : decode cX0_isMended 0 = .ok (.aload_n 0, 1) := dk_42 (dk_at dksX0_isMended_0 0 rfl rfl)
theorem dX0_isMended_1 : decode cX0_isMended 1 = .ok (.getfield 12, 3) := dk_180 0 12 (dk_at dksX0_isMended_0 1 rfl rfl)
theorem dX0_isMended_4 : decode cX0_isMended 4 = .ok (.iload_n 1, 1) := dk_27 (dk_at dksX0_isMended_0 4 rfl rfl)
theorem dX0_isMended_5 : decode cX0_isMended 5 = .ok (.invokeinterface 188 2, 5) := by decide +kernel
theorem dX0_isMended_10 : decode cX0_isMended 10 = .ok (.checkcast 85, 3) := dk_192 0 85 (dk_at dksX0_isMended_0 10 rfl rfl)
theorem dX0_isMended_13 : decode cX0_isMended 13 = .ok (.getfield 198, 3) := dk_180 0 198 (dk_at dksX0_isMended_0 13 rfl rfl)
theorem dX0_isMended_16 : decode cX0_isMended 16 = .ok (.istore_n 2, 1) := dk_61 (dk_at dksX0_isMended_0 16 rfl rfl)
theorem dX0_isMended_17 : decode cX0_isMended 17 = .ok (.iload_n 2, 1) := dk_28 (dk_at dksX0_isMended_0 17 rfl rfl)
theorem dX0_isMended_18 : decode cX0_isMended 18 = .ok (.bipush 6, 2) := dk_16 6 (dk_at dksX0_isMended_0 18 rfl rfl)
theorem dX0_isMended_20 : decode cX0_isMended 20 = .ok (.if_icmp .eq 16, 3) := dk_159 0 16 (dk_at dksX0_isMended_0 20 rfl rfl)
theorem dX0_isMended_23 : decode cX0_isMended 23 = .ok (.aload_n 0, 1) := dk_42 (dk_at dksX0_isMended_0 23 rfl rfl)
theorem dX0_isMended_24 : decode cX0_isMended 24 = .ok (.getfield 38, 3) := dk_180 0 38 (dk_at dksX0_isMended_1 0 rfl rfl)
theorem dX0_isMended_27 : decode cX0_isMended 27 = .ok (.iload_n 1, 1) := dk_27 (dk_at dksX0_isMended_1 3 rfl rfl)
theorem dX0_isMended_28 : decode cX0_isMended 28 = .ok (.iaload, 1) := dk_46 (dk_at dksX0_isMended_1 4 rfl rfl)
theorem dX0_isMended_29 : decode cX0_isMended 29 = .ok (.iload_n 2, 1) := dk_28 (dk_at dksX0_isMended_1 5 rfl rfl)
theorem dX0_isMended_30 : decode cX0_isMended 30 = .ok (.invokestatic 230, 3) := dk_184 0 230 (dk_at dksX0_isMended_1 6 rfl rfl)
theorem dX0_isMended_33 : decode cX0_isMended 33 = .ok (.ifCond .eq 7, 3) := dk_153 0 7 (dk_at dksX0_isMended_1 9 rfl rfl)
theorem dX0_isMended_36 : decode cX0_isMended 36 = .ok (.iconst 1, 1) := dk_4 (dk_at dksX0_isMended_1 12 rfl rfl)
theorem dX0_isMended_37 : decode cX0_isMended 37 = .ok (.goto 4, 3) := dk_167 0 4 (dk_at dksX0_isMended_1 13 rfl rfl)
theorem dX0_isMended_40 : decode cX0_isMended 40 = .ok (.iconst 0, 1) := dk_3 (dk_at dksX0_isMended_1 16 rfl rfl)
theorem dX0_isMended_41 : decode cX0_isMended 41 = .ok (.ireturn, 1) := dk_172 (dk_at dksX0_isMended_1 17 rfl rfl)
abbrev cX0_isOf : ByteArray := prog_1_method_4_code
def yX0_isOf : MethodName := ⟨RX0, "isOf", "(II)Z"⟩
def dkwX0_isOf_0 : List UInt8 := [26, 27, 122, 4, 126, 4, 160, 0, 7, 4, 167, 0, 4, 3, 172]
abbrev dktX0_isOf_0 : List UInt8 := dkwX0_isOf_0 ++ []
theorem dksX0_isOf_0 : cX0_isOf.data.toList.drop 0 = dktX0_isOf_0 := by decide +kernel
theorem dX0_isOf_0 : decode cX0_isOf 0 = .ok (.iload_n 0, 1) := dk_26 (dk_at dksX0_isOf_0 0 rfl rfl)
theorem dX0_isOf_1 : decode cX0_isOf 1 = .ok (.iload_n 1, 1) := dk_27 (dk_at dksX0_isOf_0 1 rfl rfl)
theorem dX0_isOf_2 : decode cX0_isOf 2 = .ok (.ishr, 1) := dk_122 (dk_at dksX0_isOf_0 2 rfl rfl)
theorem dX0_isOf_3 : decode cX0_isOf 3 = .ok (.iconst 1, 1) := dk_4 (dk_at dksX0_isOf_0 3 rfl rfl)
theorem dX0_isOf_4 : decode cX0_isOf 4 = .ok (.iand, 1) := dk_126 (dk_at dksX0_isOf_0 4 rfl rfl)
theorem dX0_isOf_5 : decode cX0_isOf 5 = .ok (.iconst 1, 1) := dk_4 (dk_at dksX0_isOf_0 5 rfl rfl)
theorem dX0_isOf_6 : decode cX0_isOf 6 = .ok (.if_icmp .ne 7, 3) := dk_160 0 7 (dk_at dksX0_isOf_0 6 rfl rfl)
theorem dX0_isOf_9 : decode cX0_isOf 9 = .ok (.iconst 1, 1) := dk_4 (dk_at dksX0_isOf_0 9 rfl rfl)
theorem dX0_isOf_10 : decode cX0_isOf 10 = .ok (.goto 4, 3) := dk_167 0 4 (dk_at dksX0_isOf_0 10 rfl rfl)
theorem dX0_isOf_13 : decode cX0_isOf 13 = .ok (.iconst 0, 1) := dk_3 (dk_at dksX0_isOf_0 13 rfl rfl)
theorem dX0_isOf_14 : decode cX0_isOf 14 = .ok (.ireturn, 1) := dk_172 (dk_at dksX0_isOf_0 14 rfl rfl)
abbrev cX0_all : ByteArray := prog_1_method_13_code
def yX0_all : MethodName := ⟨RX0, "all", "()I"⟩
def dkwX0_all_0 : List UInt8 := [4, 42, 182, 0, 106, 120, 4, 100, 172]
abbrev dktX0_all_0 : List UInt8 := dkwX0_all_0 ++ []
theorem dksX0_all_0 : cX0_all.data.toList.drop 0 = dktX0_all_0 := by decide +kernel
theorem dX0_all_0 : decode cX0_all 0 = .ok (.iconst 1, 1) := dk_4 (dk_at dksX0_all_0 0 rfl rfl)
theorem dX0_all_1 : decode cX0_all 1 = .ok (.aload_n 0, 1) := dk_42 (dk_at dksX0_all_0 1 rfl rfl)
theorem dX0_all_2 : decode cX0_all 2 = .ok (.invokevirtual 106, 3) := dk_182 0 106 (dk_at dksX0_all_0 2 rfl rfl)
theorem dX0_all_5 : decode cX0_all 5 = .ok (.ishl, 1) := dk_120 (dk_at dksX0_all_0 5 rfl rfl)
theorem dX0_all_6 : decode cX0_all 6 = .ok (.iconst 1, 1) := dk_4 (dk_at dksX0_all_0 6 rfl rfl)
theorem dX0_all_7 : decode cX0_all 7 = .ok (.isub, 1) := dk_100 (dk_at dksX0_all_0 7 rfl rfl)
theorem dX0_all_8 : decode cX0_all 8 = .ok (.ireturn, 1) := dk_172 (dk_at dksX0_all_0 8 rfl rfl)
abbrev cX0_mayLend : ByteArray := prog_1_method_28_code
def yX0_mayLend : MethodName := ⟨RX0, "mayLend", "(II)Z"⟩
def dkwX0_mayLend_2 : List UInt8 := [180, 0, 211, 153, 0, 7, 4, 167, 0, 4, 3, 172]
abbrev dktX0_mayLend_2 : List UInt8 := dkwX0_mayLend_2 ++ []
def dkwX0_mayLend_1 : List UInt8 := [180, 0, 211, 153, 0, 31, 42, 180, 0, 12, 42, 180, 0, 35, 28, 46, 185, 0, 188, 2, 0, 192, 0, 85]
abbrev dktX0_mayLend_1 : List UInt8 := dkwX0_mayLend_1 ++ dktX0_mayLend_2
def dkwX0_mayLend_0 : List UInt8 := [27, 28, 159, 0, 55, 42, 180, 0, 12, 42, 180, 0, 35, 27, 46, 185, 0, 188, 2, 0, 192, 0, 85]
abbrev dktX0_mayLend_0 : List UInt8 := dkwX0_mayLend_0 ++ dktX0_mayLend_1
theorem dksX0_mayLend_0 : cX0_mayLend.data.toList.drop 0 = dktX0_mayLend_0 := by decide +kernel
theorem dksX0_mayLend_1 : cX0_mayLend.data.toList.drop 23 = dktX0_mayLend_1 := dk_seg dksX0_mayLend_0 23 rfl rfl
theorem dksX0_mayLend_2 : cX0_mayLend.data.toList.drop 47 = dktX0_mayLend_2 := dk_seg dksX0_mayLend_1 24 rfl rfl
theorem dX0_mayLend_0 : decode cX0_mayLend 0 = .ok (.iload_n 1, 1) := dk_27 (dk_at dksX0_mayLend_0 0 rfl rfl)
theorem dX0_mayLend_1 : decode cX0_mayLend 1 = .ok (.iload_n 2, 1) := dk_28 (dk_at dksX0_mayLend_0 1 rfl rfl)
theorem dX0_mayLend_2 : decode cX0_mayLend 2 = .ok (.if_icmp .eq 55, 3) := dk_159 0 55 (dk_at dksX0_mayLend_0 2 rfl rfl)
theorem dX0_mayLend_5 : decode cX0_mayLend 5 = .ok (.aload_n 0, 1) := dk_42 (dk_at dksX0_mayLend_0 5 rfl rfl)
theorem dX0_mayLend_6 : decode cX0_mayLend 6 = .ok (.getfield 12, 3) := dk_180 0 12 (dk_at dksX0_mayLend_0 6 rfl rfl)
theorem dX0_mayLend_9 : decode cX0_mayLend 9 = .ok (.aload_n 0, 1) := dk_42 (dk_at dksX0_mayLend_0 9 rfl rfl)
theorem dX0_mayLend_10 : decode cX0_mayLend 10 = .ok (.getfield 35, 3) := dk_180 0 35 (dk_at dksX0_mayLend_0 10 rfl rfl)
theorem dX0_mayLend_13 : decode cX0_mayLend 13 = .ok (.iload_n 1, 1) := dk_27 (dk_at dksX0_mayLend_0 13 rfl rfl)
theorem dX0_mayLend_14 : decode cX0_mayLend 14 = .ok (.iaload, 1) := dk_46 (dk_at dksX0_mayLend_0 14 rfl rfl)
theorem dX0_mayLend_15 : decode cX0_mayLend 15 = .ok (.invokeinterface 188 2, 5) := by decide +kernel
theorem dX0_mayLend_20 : decode cX0_mayLend 20 = .ok (.checkcast 85, 3) := dk_192 0 85 (dk_at dksX0_mayLend_0 20 rfl rfl)
theorem dX0_mayLend_23 : decode cX0_mayLend 23 = .ok (.getfield 211, 3) := dk_180 0 211 (dk_at dksX0_mayLend_1 0 rfl rfl)
theorem dX0_mayLend_26 : decode cX0_mayLend 26 = .ok (.ifCond .eq 31, 3) := dk_153 0 31 (dk_at dksX0_mayLend_1 3 rfl rfl)
theorem dX0_mayLend_29 : decode cX0_mayLend 29 = .ok (.aload_n 0, 1) := dk_42 (dk_at dksX0_mayLend_1 6 rfl rfl)
theorem dX0_mayLend_30 : decode cX0_mayLend 30 = .ok (.getfield 12, 3) := dk_180 0 12 (dk_at dksX0_mayLend_1 7 rfl rfl)
theorem dX0_mayLend_33 : decode cX0_mayLend 33 = .ok (.aload_n 0, 1) := dk_42 (dk_at dksX0_mayLend_1 10 rfl rfl)
theorem dX0_mayLend_34 : decode cX0_mayLend 34 = .ok (.getfield 35, 3) := dk_180 0 35 (dk_at dksX0_mayLend_1 11 rfl rfl)
theorem dX0_mayLend_37 : decode cX0_mayLend 37 = .ok (.iload_n 2, 1) := dk_28 (dk_at dksX0_mayLend_1 14 rfl rfl)
theorem dX0_mayLend_38 : decode cX0_mayLend 38 = .ok (.iaload, 1) := dk_46 (dk_at dksX0_mayLend_1 15 rfl rfl)
theorem dX0_mayLend_39 : decode cX0_mayLend 39 = .ok (.invokeinterface 188 2, 5) := by decide +kernel
theorem dX0_mayLend_44 : decode cX0_mayLend 44 = .ok (.checkcast 85, 3) := dk_192 0 85 (dk_at dksX0_mayLend_1 21 rfl rfl)
theorem dX0_mayLend_47 : decode cX0_mayLend 47 = .ok (.getfield 211, 3) := dk_180 0 211 (dk_at dksX0_mayLend_2 0 rfl rfl)
theorem dX0_mayLend_50 : decode cX0_mayLend 50 = .ok (.ifCond .eq 7, 3) := dk_153 0 7 (dk_at dksX0_mayLend_2 3 rfl rfl)
theorem dX0_mayLend_53 : decode cX0_mayLend 53 = .ok (.iconst 1, 1) := dk_4 (dk_at dksX0_mayLend_2 6 rfl rfl)
theorem dX0_mayLend_54 : decode cX0_mayLend 54 = .ok (.goto 4, 3) := dk_167 0 4 (dk_at dksX0_mayLend_2 7 rfl rfl)
theorem dX0_mayLend_57 : decode cX0_mayLend 57 = .ok (.iconst 0, 1) := dk_3 (dk_at dksX0_mayLend_2 10 rfl rfl)
theorem dX0_mayLend_58 : decode cX0_mayLend 58 = .ok (.ireturn, 1) := dk_172 (dk_at dksX0_mayLend_2 11 rfl rfl)
abbrev cX0_lend : ByteArray := prog_1_method_29_code
def yX0_lend : MethodName := ⟨RX0, "lend", "(II)V"⟩
def dkwX0_lend_3 : List UInt8 := [182, 0, 223, 42, 28, 182, 0, 223, 177]
abbrev dktX0_lend_3 : List UInt8 := dkwX0_lend_3 ++ []
def dkwX0_lend_2 : List UInt8 := [180, 0, 12, 42, 180, 0, 35, 28, 46, 185, 0, 188, 2, 0, 192, 0, 85, 182, 0, 237, 42, 27]
abbrev dktX0_lend_2 : List UInt8 := dkwX0_lend_2 ++ dktX0_lend_3
def dkwX0_lend_1 : List UInt8 := [29, 79, 42, 180, 0, 12, 42, 180, 0, 35, 27, 46, 185, 0, 188, 2, 0, 192, 0, 85, 182, 0, 237, 42]
abbrev dktX0_lend_1 : List UInt8 := dkwX0_lend_1 ++ dktX0_lend_2
def dkwX0_lend_0 : List UInt8 := [42, 180, 0, 35, 27, 46, 62, 42, 180, 0, 35, 27, 42, 180, 0, 35, 28, 46, 79, 42, 180, 0, 35, 28]
abbrev dktX0_lend_0 : List UInt8 := dkwX0_lend_0 ++ dktX0_lend_1
theorem dksX0_lend_0 : cX0_lend.data.toList.drop 0 = dktX0_lend_0 := by decide +kernel
theorem dksX0_lend_1 : cX0_lend.data.toList.drop 24 = dktX0_lend_1 := dk_seg dksX0_lend_0 24 rfl rfl
theorem dksX0_lend_2 : cX0_lend.data.toList.drop 48 = dktX0_lend_2 := dk_seg dksX0_lend_1 24 rfl rfl
theorem dksX0_lend_3 : cX0_lend.data.toList.drop 70 = dktX0_lend_3 := dk_seg dksX0_lend_2 22 rfl rfl
theorem dX0_lend_0 : decode cX0_lend 0 = .ok (.aload_n 0, 1) := dk_42 (dk_at dksX0_lend_0 0 rfl rfl)
theorem dX0_lend_1 : decode cX0_lend 1 = .ok (.getfield 35, 3) := dk_180 0 35 (dk_at dksX0_lend_0 1 rfl rfl)
theorem dX0_lend_4 : decode cX0_lend 4 = .ok (.iload_n 1, 1) := dk_27 (dk_at dksX0_lend_0 4 rfl rfl)
theorem dX0_lend_5 : decode cX0_lend 5 = .ok (.iaload, 1) := dk_46 (dk_at dksX0_lend_0 5 rfl rfl)
theorem dX0_lend_6 : decode cX0_lend 6 = .ok (.istore_n 3, 1) := dk_62 (dk_at dksX0_lend_0 6 rfl rfl)
theorem dX0_lend_7 : decode cX0_lend 7 = .ok (.aload_n 0, 1) := dk_42 (dk_at dksX0_lend_0 7 rfl rfl)
theorem dX0_lend_8 : decode cX0_lend 8 = .ok (.getfield 35, 3) := dk_180 0 35 (dk_at dksX0_lend_0 8 rfl rfl)
theorem dX0_lend_11 : decode cX0_lend 11 = .ok (.iload_n 1, 1) := dk_27 (dk_at dksX0_lend_0 11 rfl rfl)
theorem dX0_lend_12 : decode cX0_lend 12 = .ok (.aload_n 0, 1) := dk_42 (dk_at dksX0_lend_0 12 rfl rfl)
theorem dX0_lend_13 : decode cX0_lend 13 = .ok (.getfield 35, 3) := dk_180 0 35 (dk_at dksX0_lend_0 13 rfl rfl)
theorem dX0_lend_16 : decode cX0_lend 16 = .ok (.iload_n 2, 1) := dk_28 (dk_at dksX0_lend_0 16 rfl rfl)
theorem dX0_lend_17 : decode cX0_lend 17 = .ok (.iaload, 1) := dk_46 (dk_at dksX0_lend_0 17 rfl rfl)
theorem dX0_lend_18 : decode cX0_lend 18 = .ok (.iastore, 1) := dk_79 (dk_at dksX0_lend_0 18 rfl rfl)
theorem dX0_lend_19 : decode cX0_lend 19 = .ok (.aload_n 0, 1) := dk_42 (dk_at dksX0_lend_0 19 rfl rfl)
theorem dX0_lend_20 : decode cX0_lend 20 = .ok (.getfield 35, 3) := dk_180 0 35 (dk_at dksX0_lend_0 20 rfl rfl)
theorem dX0_lend_23 : decode cX0_lend 23 = .ok (.iload_n 2, 1) := dk_28 (dk_at dksX0_lend_0 23 rfl rfl)
theorem dX0_lend_24 : decode cX0_lend 24 = .ok (.iload_n 3, 1) := dk_29 (dk_at dksX0_lend_1 0 rfl rfl)
theorem dX0_lend_25 : decode cX0_lend 25 = .ok (.iastore, 1) := dk_79 (dk_at dksX0_lend_1 1 rfl rfl)
theorem dX0_lend_26 : decode cX0_lend 26 = .ok (.aload_n 0, 1) := dk_42 (dk_at dksX0_lend_1 2 rfl rfl)
theorem dX0_lend_27 : decode cX0_lend 27 = .ok (.getfield 12, 3) := dk_180 0 12 (dk_at dksX0_lend_1 3 rfl rfl)
theorem dX0_lend_30 : decode cX0_lend 30 = .ok (.aload_n 0, 1) := dk_42 (dk_at dksX0_lend_1 6 rfl rfl)
theorem dX0_lend_31 : decode cX0_lend 31 = .ok (.getfield 35, 3) := dk_180 0 35 (dk_at dksX0_lend_1 7 rfl rfl)
theorem dX0_lend_34 : decode cX0_lend 34 = .ok (.iload_n 1, 1) := dk_27 (dk_at dksX0_lend_1 10 rfl rfl)
theorem dX0_lend_35 : decode cX0_lend 35 = .ok (.iaload, 1) := dk_46 (dk_at dksX0_lend_1 11 rfl rfl)
theorem dX0_lend_36 : decode cX0_lend 36 = .ok (.invokeinterface 188 2, 5) := by decide +kernel
theorem dX0_lend_41 : decode cX0_lend 41 = .ok (.checkcast 85, 3) := dk_192 0 85 (dk_at dksX0_lend_1 17 rfl rfl)
theorem dX0_lend_44 : decode cX0_lend 44 = .ok (.invokevirtual 237, 3) := dk_182 0 237 (dk_at dksX0_lend_1 20 rfl rfl)
theorem dX0_lend_47 : decode cX0_lend 47 = .ok (.aload_n 0, 1) := dk_42 (dk_at dksX0_lend_1 23 rfl rfl)
theorem dX0_lend_48 : decode cX0_lend 48 = .ok (.getfield 12, 3) := dk_180 0 12 (dk_at dksX0_lend_2 0 rfl rfl)
theorem dX0_lend_51 : decode cX0_lend 51 = .ok (.aload_n 0, 1) := dk_42 (dk_at dksX0_lend_2 3 rfl rfl)
theorem dX0_lend_52 : decode cX0_lend 52 = .ok (.getfield 35, 3) := dk_180 0 35 (dk_at dksX0_lend_2 4 rfl rfl)
theorem dX0_lend_55 : decode cX0_lend 55 = .ok (.iload_n 2, 1) := dk_28 (dk_at dksX0_lend_2 7 rfl rfl)
theorem dX0_lend_56 : decode cX0_lend 56 = .ok (.iaload, 1) := dk_46 (dk_at dksX0_lend_2 8 rfl rfl)
theorem dX0_lend_57 : decode cX0_lend 57 = .ok (.invokeinterface 188 2, 5) := by decide +kernel
theorem dX0_lend_62 : decode cX0_lend 62 = .ok (.checkcast 85, 3) := dk_192 0 85 (dk_at dksX0_lend_2 14 rfl rfl)
theorem dX0_lend_65 : decode cX0_lend 65 = .ok (.invokevirtual 237, 3) := dk_182 0 237 (dk_at dksX0_lend_2 17 rfl rfl)
theorem dX0_lend_68 : decode cX0_lend 68 = .ok (.aload_n 0, 1) := dk_42 (dk_at dksX0_lend_2 20 rfl rfl)
theorem dX0_lend_69 : decode cX0_lend 69 = .ok (.iload_n 1, 1) := dk_27 (dk_at dksX0_lend_2 21 rfl rfl)
theorem dX0_lend_70 : decode cX0_lend 70 = .ok (.invokevirtual 223, 3) := dk_182 0 223 (dk_at dksX0_lend_3 0 rfl rfl)
theorem dX0_lend_73 : decode cX0_lend 73 = .ok (.aload_n 0, 1) := dk_42 (dk_at dksX0_lend_3 3 rfl rfl)
theorem dX0_lend_74 : decode cX0_lend 74 = .ok (.iload_n 2, 1) := dk_28 (dk_at dksX0_lend_3 4 rfl rfl)
theorem dX0_lend_75 : decode cX0_lend 75 = .ok (.invokevirtual 223, 3) := dk_182 0 223 (dk_at dksX0_lend_3 5 rfl rfl)
theorem dX0_lend_78 : decode cX0_lend 78 = .ok (.return_, 1) := dk_177 (dk_at dksX0_lend_3 8 rfl rfl)
abbrev cX0_asKind : ByteArray := prog_1_method_9_code
def yX0_asKind : MethodName := ⟨RX0, "asKind", "(II)I"⟩
def dkwX0_asKind_1 : List UInt8 := [172]
abbrev dktX0_asKind_1 : List UInt8 := dkwX0_asKind_1 ++ []
def dkwX0_asKind_0 : List UInt8 := [27, 154, 0, 7, 26, 167, 0, 19, 27, 4, 160, 0, 9, 26, 4, 96, 167, 0, 8, 5, 26, 4, 96, 104]
abbrev dktX0_asKind_0 : List UInt8 := dkwX0_asKind_0 ++ dktX0_asKind_1
theorem dksX0_asKind_0 : cX0_asKind.data.toList.drop 0 = dktX0_asKind_0 := by decide +kernel
theorem dksX0_asKind_1 : cX0_asKind.data.toList.drop 24 = dktX0_asKind_1 := dk_seg dksX0_asKind_0 24 rfl rfl
theorem dX0_asKind_0 : decode cX0_asKind 0 = .ok (.iload_n 1, 1) := dk_27 (dk_at dksX0_asKind_0 0 rfl rfl)
theorem dX0_asKind_1 : decode cX0_asKind 1 = .ok (.ifCond .ne 7, 3) := dk_154 0 7 (dk_at dksX0_asKind_0 1 rfl rfl)
theorem dX0_asKind_4 : decode cX0_asKind 4 = .ok (.iload_n 0, 1) := dk_26 (dk_at dksX0_asKind_0 4 rfl rfl)
theorem dX0_asKind_5 : decode cX0_asKind 5 = .ok (.goto 19, 3) := dk_167 0 19 (dk_at dksX0_asKind_0 5 rfl rfl)
theorem dX0_asKind_8 : decode cX0_asKind 8 = .ok (.iload_n 1, 1) := dk_27 (dk_at dksX0_asKind_0 8 rfl rfl)
theorem dX0_asKind_9 : decode cX0_asKind 9 = .ok (.iconst 1, 1) := dk_4 (dk_at dksX0_asKind_0 9 rfl rfl)
theorem dX0_asKind_10 : decode cX0_asKind 10 = .ok (.if_icmp .ne 9, 3) := dk_160 0 9 (dk_at dksX0_asKind_0 10 rfl rfl)
theorem dX0_asKind_13 : decode cX0_asKind 13 = .ok (.iload_n 0, 1) := dk_26 (dk_at dksX0_asKind_0 13 rfl rfl)
theorem dX0_asKind_14 : decode cX0_asKind 14 = .ok (.iconst 1, 1) := dk_4 (dk_at dksX0_asKind_0 14 rfl rfl)
theorem dX0_asKind_15 : decode cX0_asKind 15 = .ok (.iadd, 1) := dk_96 (dk_at dksX0_asKind_0 15 rfl rfl)
theorem dX0_asKind_16 : decode cX0_asKind 16 = .ok (.goto 8, 3) := dk_167 0 8 (dk_at dksX0_asKind_0 16 rfl rfl)
theorem dX0_asKind_19 : decode cX0_asKind 19 = .ok (.iconst 2, 1) := dk_5 (dk_at dksX0_asKind_0 19 rfl rfl)
theorem dX0_asKind_20 : decode cX0_asKind 20 = .ok (.iload_n 0, 1) := dk_26 (dk_at dksX0_asKind_0 20 rfl rfl)
theorem dX0_asKind_21 : decode cX0_asKind 21 = .ok (.iconst 1, 1) := dk_4 (dk_at dksX0_asKind_0 21 rfl rfl)
theorem dX0_asKind_22 : decode cX0_asKind 22 = .ok (.iadd, 1) := dk_96 (dk_at dksX0_asKind_0 22 rfl rfl)
theorem dX0_asKind_23 : decode cX0_asKind 23 = .ok (.imul, 1) := dk_104 (dk_at dksX0_asKind_0 23 rfl rfl)
theorem dX0_asKind_24 : decode cX0_asKind 24 = .ok (.ireturn, 1) := dk_172 (dk_at dksX0_asKind_1 0 rfl rfl)
abbrev cX0_home : ByteArray := prog_1_method_31_code
def yX0_home : MethodName := ⟨RX0, "home", "()I"⟩
def dkwX0_home_3 : List UInt8 := [167, 255, 192, 27, 172]
abbrev dktX0_home_3 : List UInt8 := dkwX0_home_3 ++ []
def dkwX0_home_2 : List UInt8 := [4, 21, 4, 120, 128, 61, 132, 1, 1, 42, 180, 0, 35, 21, 4, 46, 54, 4, 167, 255, 231, 132, 3, 1]
abbrev dktX0_home_2 : List UInt8 := dkwX0_home_2 ++ dktX0_home_3
def dkwX0_home_1 : List UInt8 := [167, 0, 45, 28, 4, 29, 120, 128, 61, 42, 180, 0, 35, 29, 46, 54, 4, 21, 4, 29, 159, 0, 25, 28]
abbrev dktX0_home_1 : List UInt8 := dkwX0_home_1 ++ dktX0_home_2
def dkwX0_home_0 : List UInt8 := [3, 60, 3, 61, 3, 62, 29, 42, 182, 0, 106, 162, 0, 62, 28, 29, 184, 0, 230, 153, 0, 6]
abbrev dktX0_home_0 : List UInt8 := dkwX0_home_0 ++ dktX0_home_1
theorem dksX0_home_0 : cX0_home.data.toList.drop 0 = dktX0_home_0 := by decide +kernel
theorem dksX0_home_1 : cX0_home.data.toList.drop 22 = dktX0_home_1 := dk_seg dksX0_home_0 22 rfl rfl
theorem dksX0_home_2 : cX0_home.data.toList.drop 46 = dktX0_home_2 := dk_seg dksX0_home_1 24 rfl rfl
theorem dksX0_home_3 : cX0_home.data.toList.drop 70 = dktX0_home_3 := dk_seg dksX0_home_2 24 rfl rfl
theorem dX0_home_0 : decode cX0_home 0 = .ok (.iconst 0, 1) := dk_3 (dk_at dksX0_home_0 0 rfl rfl)
theorem dX0_home_1 : decode cX0_home 1 = .ok (.istore_n 1, 1) := dk_60 (dk_at dksX0_home_0 1 rfl rfl)
theorem dX0_home_2 : decode cX0_home 2 = .ok (.iconst 0, 1) := dk_3 (dk_at dksX0_home_0 2 rfl rfl)
theorem dX0_home_3 : decode cX0_home 3 = .ok (.istore_n 2, 1) := dk_61 (dk_at dksX0_home_0 3 rfl rfl)
theorem dX0_home_4 : decode cX0_home 4 = .ok (.iconst 0, 1) := dk_3 (dk_at dksX0_home_0 4 rfl rfl)
theorem dX0_home_5 : decode cX0_home 5 = .ok (.istore_n 3, 1) := dk_62 (dk_at dksX0_home_0 5 rfl rfl)
theorem dX0_home_6 : decode cX0_home 6 = .ok (.iload_n 3, 1) := dk_29 (dk_at dksX0_home_0 6 rfl rfl)
theorem dX0_home_7 : decode cX0_home 7 = .ok (.aload_n 0, 1) := dk_42 (dk_at dksX0_home_0 7 rfl rfl)
theorem dX0_home_8 : decode cX0_home 8 = .ok (.invokevirtual 106, 3) := dk_182 0 106 (dk_at dksX0_home_0 8 rfl rfl)
theorem dX0_home_11 : decode cX0_home 11 = .ok (.if_icmp .ge 62, 3) := dk_162 0 62 (dk_at dksX0_home_0 11 rfl rfl)
theorem dX0_home_14 : decode cX0_home 14 = .ok (.iload_n 2, 1) := dk_28 (dk_at dksX0_home_0 14 rfl rfl)
theorem dX0_home_15 : decode cX0_home 15 = .ok (.iload_n 3, 1) := dk_29 (dk_at dksX0_home_0 15 rfl rfl)
theorem dX0_home_16 : decode cX0_home 16 = .ok (.invokestatic 230, 3) := dk_184 0 230 (dk_at dksX0_home_0 16 rfl rfl)
theorem dX0_home_19 : decode cX0_home 19 = .ok (.ifCond .eq 6, 3) := dk_153 0 6 (dk_at dksX0_home_0 19 rfl rfl)
theorem dX0_home_22 : decode cX0_home 22 = .ok (.goto 45, 3) := dk_167 0 45 (dk_at dksX0_home_1 0 rfl rfl)
theorem dX0_home_25 : decode cX0_home 25 = .ok (.iload_n 2, 1) := dk_28 (dk_at dksX0_home_1 3 rfl rfl)
theorem dX0_home_26 : decode cX0_home 26 = .ok (.iconst 1, 1) := dk_4 (dk_at dksX0_home_1 4 rfl rfl)
theorem dX0_home_27 : decode cX0_home 27 = .ok (.iload_n 3, 1) := dk_29 (dk_at dksX0_home_1 5 rfl rfl)
theorem dX0_home_28 : decode cX0_home 28 = .ok (.ishl, 1) := dk_120 (dk_at dksX0_home_1 6 rfl rfl)
theorem dX0_home_29 : decode cX0_home 29 = .ok (.ior, 1) := dk_128 (dk_at dksX0_home_1 7 rfl rfl)
theorem dX0_home_30 : decode cX0_home 30 = .ok (.istore_n 2, 1) := dk_61 (dk_at dksX0_home_1 8 rfl rfl)
theorem dX0_home_31 : decode cX0_home 31 = .ok (.aload_n 0, 1) := dk_42 (dk_at dksX0_home_1 9 rfl rfl)
theorem dX0_home_32 : decode cX0_home 32 = .ok (.getfield 35, 3) := dk_180 0 35 (dk_at dksX0_home_1 10 rfl rfl)
theorem dX0_home_35 : decode cX0_home 35 = .ok (.iload_n 3, 1) := dk_29 (dk_at dksX0_home_1 13 rfl rfl)
theorem dX0_home_36 : decode cX0_home 36 = .ok (.iaload, 1) := dk_46 (dk_at dksX0_home_1 14 rfl rfl)
theorem dX0_home_37 : decode cX0_home 37 = .ok (.istore 4, 2) := dk_54 4 (dk_at dksX0_home_1 15 rfl rfl)
theorem dX0_home_39 : decode cX0_home 39 = .ok (.iload 4, 2) := dk_21 4 (dk_at dksX0_home_1 17 rfl rfl)
theorem dX0_home_41 : decode cX0_home 41 = .ok (.iload_n 3, 1) := dk_29 (dk_at dksX0_home_1 19 rfl rfl)
theorem dX0_home_42 : decode cX0_home 42 = .ok (.if_icmp .eq 25, 3) := dk_159 0 25 (dk_at dksX0_home_1 20 rfl rfl)
theorem dX0_home_45 : decode cX0_home 45 = .ok (.iload_n 2, 1) := dk_28 (dk_at dksX0_home_1 23 rfl rfl)
theorem dX0_home_46 : decode cX0_home 46 = .ok (.iconst 1, 1) := dk_4 (dk_at dksX0_home_2 0 rfl rfl)
theorem dX0_home_47 : decode cX0_home 47 = .ok (.iload 4, 2) := dk_21 4 (dk_at dksX0_home_2 1 rfl rfl)
theorem dX0_home_49 : decode cX0_home 49 = .ok (.ishl, 1) := dk_120 (dk_at dksX0_home_2 3 rfl rfl)
theorem dX0_home_50 : decode cX0_home 50 = .ok (.ior, 1) := dk_128 (dk_at dksX0_home_2 4 rfl rfl)
theorem dX0_home_51 : decode cX0_home 51 = .ok (.istore_n 2, 1) := dk_61 (dk_at dksX0_home_2 5 rfl rfl)
theorem dX0_home_52 : decode cX0_home 52 = .ok (.iinc 1 1, 3) := dk_132 1 1 (dk_at dksX0_home_2 6 rfl rfl)
theorem dX0_home_55 : decode cX0_home 55 = .ok (.aload_n 0, 1) := dk_42 (dk_at dksX0_home_2 9 rfl rfl)
theorem dX0_home_56 : decode cX0_home 56 = .ok (.getfield 35, 3) := dk_180 0 35 (dk_at dksX0_home_2 10 rfl rfl)
theorem dX0_home_59 : decode cX0_home 59 = .ok (.iload 4, 2) := dk_21 4 (dk_at dksX0_home_2 13 rfl rfl)
theorem dX0_home_61 : decode cX0_home 61 = .ok (.iaload, 1) := dk_46 (dk_at dksX0_home_2 15 rfl rfl)
theorem dX0_home_62 : decode cX0_home 62 = .ok (.istore 4, 2) := dk_54 4 (dk_at dksX0_home_2 16 rfl rfl)
theorem dX0_home_64 : decode cX0_home 64 = .ok (.goto (-25), 3) := dk_167 255 231 (dk_at dksX0_home_2 18 rfl rfl)
theorem dX0_home_67 : decode cX0_home 67 = .ok (.iinc 3 1, 3) := dk_132 3 1 (dk_at dksX0_home_2 21 rfl rfl)
theorem dX0_home_70 : decode cX0_home 70 = .ok (.goto (-64), 3) := dk_167 255 192 (dk_at dksX0_home_3 0 rfl rfl)
theorem dX0_home_73 : decode cX0_home 73 = .ok (.iload_n 1, 1) := dk_27 (dk_at dksX0_home_3 3 rfl rfl)
theorem dX0_home_74 : decode cX0_home 74 = .ok (.ireturn, 1) := dk_172 (dk_at dksX0_home_3 4 rfl rfl)
abbrev cX0_ofPeople : ByteArray := prog_1_method_33_code
def yX0_ofPeople : MethodName := ⟨RX0, "ofPeople", "(I)I"⟩
def dkwX0_ofPeople_2 : List UInt8 := [180, 0, 12, 28, 185, 0, 188, 2, 0, 192, 0, 85, 180, 0, 211, 172]
abbrev dktX0_ofPeople_2 : List UInt8 := dkwX0_ofPeople_2 ++ []
def dkwX0_ofPeople_1 : List UInt8 := [180, 0, 35, 28, 46, 167, 0, 34, 27, 16, 30, 162, 0, 12, 42, 180, 0, 38, 28, 46, 167, 0, 19, 42]
abbrev dktX0_ofPeople_1 : List UInt8 := dkwX0_ofPeople_1 ++ dktX0_ofPeople_2
def dkwX0_ofPeople_0 : List UInt8 := [27, 16, 10, 112, 61, 42, 28, 182, 0, 185, 154, 0, 6, 16, 247, 172, 27, 16, 20, 162, 0, 12, 42]
abbrev dktX0_ofPeople_0 : List UInt8 := dkwX0_ofPeople_0 ++ dktX0_ofPeople_1
theorem dksX0_ofPeople_0 : cX0_ofPeople.data.toList.drop 0 = dktX0_ofPeople_0 := by decide +kernel
theorem dksX0_ofPeople_1 : cX0_ofPeople.data.toList.drop 23 = dktX0_ofPeople_1 := dk_seg dksX0_ofPeople_0 23 rfl rfl
theorem dksX0_ofPeople_2 : cX0_ofPeople.data.toList.drop 47 = dktX0_ofPeople_2 := dk_seg dksX0_ofPeople_1 24 rfl rfl
theorem dX0_ofPeople_0 : decode cX0_ofPeople 0 = .ok (.iload_n 1, 1) := dk_27 (dk_at dksX0_ofPeople_0 0 rfl rfl)
theorem dX0_ofPeople_1 : decode cX0_ofPeople 1 = .ok (.bipush 10, 2) := dk_16 10 (dk_at dksX0_ofPeople_0 1 rfl rfl)
theorem dX0_ofPeople_3 : decode cX0_ofPeople 3 = .ok (.irem, 1) := dk_112 (dk_at dksX0_ofPeople_0 3 rfl rfl)
theorem dX0_ofPeople_4 : decode cX0_ofPeople 4 = .ok (.istore_n 2, 1) := dk_61 (dk_at dksX0_ofPeople_0 4 rfl rfl)
theorem dX0_ofPeople_5 : decode cX0_ofPeople 5 = .ok (.aload_n 0, 1) := dk_42 (dk_at dksX0_ofPeople_0 5 rfl rfl)
theorem dX0_ofPeople_6 : decode cX0_ofPeople 6 = .ok (.iload_n 2, 1) := dk_28 (dk_at dksX0_ofPeople_0 6 rfl rfl)
theorem dX0_ofPeople_7 : decode cX0_ofPeople 7 = .ok (.invokevirtual 185, 3) := dk_182 0 185 (dk_at dksX0_ofPeople_0 7 rfl rfl)
theorem dX0_ofPeople_10 : decode cX0_ofPeople 10 = .ok (.ifCond .ne 6, 3) := dk_154 0 6 (dk_at dksX0_ofPeople_0 10 rfl rfl)
theorem dX0_ofPeople_13 : decode cX0_ofPeople 13 = .ok (.bipush (-9), 2) := dk_16 247 (dk_at dksX0_ofPeople_0 13 rfl rfl)
theorem dX0_ofPeople_15 : decode cX0_ofPeople 15 = .ok (.ireturn, 1) := dk_172 (dk_at dksX0_ofPeople_0 15 rfl rfl)
theorem dX0_ofPeople_16 : decode cX0_ofPeople 16 = .ok (.iload_n 1, 1) := dk_27 (dk_at dksX0_ofPeople_0 16 rfl rfl)
theorem dX0_ofPeople_17 : decode cX0_ofPeople 17 = .ok (.bipush 20, 2) := dk_16 20 (dk_at dksX0_ofPeople_0 17 rfl rfl)
theorem dX0_ofPeople_19 : decode cX0_ofPeople 19 = .ok (.if_icmp .ge 12, 3) := dk_162 0 12 (dk_at dksX0_ofPeople_0 19 rfl rfl)
theorem dX0_ofPeople_22 : decode cX0_ofPeople 22 = .ok (.aload_n 0, 1) := dk_42 (dk_at dksX0_ofPeople_0 22 rfl rfl)
theorem dX0_ofPeople_23 : decode cX0_ofPeople 23 = .ok (.getfield 35, 3) := dk_180 0 35 (dk_at dksX0_ofPeople_1 0 rfl rfl)
theorem dX0_ofPeople_26 : decode cX0_ofPeople 26 = .ok (.iload_n 2, 1) := dk_28 (dk_at dksX0_ofPeople_1 3 rfl rfl)
theorem dX0_ofPeople_27 : decode cX0_ofPeople 27 = .ok (.iaload, 1) := dk_46 (dk_at dksX0_ofPeople_1 4 rfl rfl)
theorem dX0_ofPeople_28 : decode cX0_ofPeople 28 = .ok (.goto 34, 3) := dk_167 0 34 (dk_at dksX0_ofPeople_1 5 rfl rfl)
theorem dX0_ofPeople_31 : decode cX0_ofPeople 31 = .ok (.iload_n 1, 1) := dk_27 (dk_at dksX0_ofPeople_1 8 rfl rfl)
theorem dX0_ofPeople_32 : decode cX0_ofPeople 32 = .ok (.bipush 30, 2) := dk_16 30 (dk_at dksX0_ofPeople_1 9 rfl rfl)
theorem dX0_ofPeople_34 : decode cX0_ofPeople 34 = .ok (.if_icmp .ge 12, 3) := dk_162 0 12 (dk_at dksX0_ofPeople_1 11 rfl rfl)
theorem dX0_ofPeople_37 : decode cX0_ofPeople 37 = .ok (.aload_n 0, 1) := dk_42 (dk_at dksX0_ofPeople_1 14 rfl rfl)
theorem dX0_ofPeople_38 : decode cX0_ofPeople 38 = .ok (.getfield 38, 3) := dk_180 0 38 (dk_at dksX0_ofPeople_1 15 rfl rfl)
theorem dX0_ofPeople_41 : decode cX0_ofPeople 41 = .ok (.iload_n 2, 1) := dk_28 (dk_at dksX0_ofPeople_1 18 rfl rfl)
theorem dX0_ofPeople_42 : decode cX0_ofPeople 42 = .ok (.iaload, 1) := dk_46 (dk_at dksX0_ofPeople_1 19 rfl rfl)
theorem dX0_ofPeople_43 : decode cX0_ofPeople 43 = .ok (.goto 19, 3) := dk_167 0 19 (dk_at dksX0_ofPeople_1 20 rfl rfl)
theorem dX0_ofPeople_46 : decode cX0_ofPeople 46 = .ok (.aload_n 0, 1) := dk_42 (dk_at dksX0_ofPeople_1 23 rfl rfl)
theorem dX0_ofPeople_47 : decode cX0_ofPeople 47 = .ok (.getfield 12, 3) := dk_180 0 12 (dk_at dksX0_ofPeople_2 0 rfl rfl)
theorem dX0_ofPeople_50 : decode cX0_ofPeople 50 = .ok (.iload_n 2, 1) := dk_28 (dk_at dksX0_ofPeople_2 3 rfl rfl)
theorem dX0_ofPeople_51 : decode cX0_ofPeople 51 = .ok (.invokeinterface 188 2, 5) := by decide +kernel
theorem dX0_ofPeople_56 : decode cX0_ofPeople 56 = .ok (.checkcast 85, 3) := dk_192 0 85 (dk_at dksX0_ofPeople_2 9 rfl rfl)
theorem dX0_ofPeople_59 : decode cX0_ofPeople 59 = .ok (.getfield 211, 3) := dk_180 0 211 (dk_at dksX0_ofPeople_2 12 rfl rfl)
theorem dX0_ofPeople_62 : decode cX0_ofPeople 62 = .ok (.ireturn, 1) := dk_172 (dk_at dksX0_ofPeople_2 15 rfl rfl)
abbrev cX0_fewest : ByteArray := prog_1_method_40_code
def yX0_fewest : MethodName := ⟨RX0, "fewest", "(II)I"⟩
def dkwX0_fewest_3 : List UInt8 := [172]
abbrev dktX0_fewest_3 : List UInt8 := dkwX0_fewest_3 ++ []
def dkwX0_fewest_2 : List UInt8 := [2, 160, 0, 7, 29, 167, 0, 19, 28, 29, 162, 0, 12, 42, 180, 0, 44, 28, 46, 167, 0, 5, 16, 247]
abbrev dktX0_fewest_2 : List UInt8 := dkwX0_fewest_2 ++ dktX0_fewest_3
def dkwX0_fewest_1 : List UInt8 := [27, 133, 9, 42, 182, 0, 244, 133, 184, 0, 73, 154, 0, 6, 16, 254, 172, 42, 27, 182, 1, 50, 62, 28]
abbrev dktX0_fewest_1 : List UInt8 := dkwX0_fewest_1 ++ dktX0_fewest_2
def dkwX0_fewest_0 : List UInt8 := [42, 182, 1, 26, 154, 0, 6, 16, 253, 172, 28, 133, 20, 1, 46, 20, 1, 48, 184, 0, 73, 153, 0, 17]
abbrev dktX0_fewest_0 : List UInt8 := dkwX0_fewest_0 ++ dktX0_fewest_1
theorem dksX0_fewest_0 : cX0_fewest.data.toList.drop 0 = dktX0_fewest_0 := by decide +kernel
theorem dksX0_fewest_1 : cX0_fewest.data.toList.drop 24 = dktX0_fewest_1 := dk_seg dksX0_fewest_0 24 rfl rfl
theorem dksX0_fewest_2 : cX0_fewest.data.toList.drop 48 = dktX0_fewest_2 := dk_seg dksX0_fewest_1 24 rfl rfl
theorem dksX0_fewest_3 : cX0_fewest.data.toList.drop 72 = dktX0_fewest_3 := dk_seg dksX0_fewest_2 24 rfl rfl
theorem dX0_fewest_0 : decode cX0_fewest 0 = .ok (.aload_n 0, 1) := dk_42 (dk_at dksX0_fewest_0 0 rfl rfl)
theorem dX0_fewest_1 : decode cX0_fewest 1 = .ok (.invokevirtual 282, 3) := dk_182 1 26 (dk_at dksX0_fewest_0 1 rfl rfl)
theorem dX0_fewest_4 : decode cX0_fewest 4 = .ok (.ifCond .ne 6, 3) := dk_154 0 6 (dk_at dksX0_fewest_0 4 rfl rfl)
theorem dX0_fewest_7 : decode cX0_fewest 7 = .ok (.bipush (-3), 2) := dk_16 253 (dk_at dksX0_fewest_0 7 rfl rfl)
theorem dX0_fewest_9 : decode cX0_fewest 9 = .ok (.ireturn, 1) := dk_172 (dk_at dksX0_fewest_0 9 rfl rfl)
theorem dX0_fewest_10 : decode cX0_fewest 10 = .ok (.iload_n 2, 1) := dk_28 (dk_at dksX0_fewest_0 10 rfl rfl)
theorem dX0_fewest_11 : decode cX0_fewest 11 = .ok (.i2l, 1) := dk_133 (dk_at dksX0_fewest_0 11 rfl rfl)
theorem dX0_fewest_12 : decode cX0_fewest 12 = .ok (.ldc2_w 302, 3) := dk_20 1 46 (dk_at dksX0_fewest_0 12 rfl rfl)
theorem dX0_fewest_15 : decode cX0_fewest 15 = .ok (.ldc2_w 304, 3) := dk_20 1 48 (dk_at dksX0_fewest_0 15 rfl rfl)
theorem dX0_fewest_18 : decode cX0_fewest 18 = .ok (.invokestatic 73, 3) := dk_184 0 73 (dk_at dksX0_fewest_0 18 rfl rfl)
theorem dX0_fewest_21 : decode cX0_fewest 21 = .ok (.ifCond .eq 17, 3) := dk_153 0 17 (dk_at dksX0_fewest_0 21 rfl rfl)
theorem dX0_fewest_24 : decode cX0_fewest 24 = .ok (.iload_n 1, 1) := dk_27 (dk_at dksX0_fewest_1 0 rfl rfl)
theorem dX0_fewest_25 : decode cX0_fewest 25 = .ok (.i2l, 1) := dk_133 (dk_at dksX0_fewest_1 1 rfl rfl)
theorem dX0_fewest_26 : decode cX0_fewest 26 = .ok (.lconst 0, 1) := dk_9 (dk_at dksX0_fewest_1 2 rfl rfl)
theorem dX0_fewest_27 : decode cX0_fewest 27 = .ok (.aload_n 0, 1) := dk_42 (dk_at dksX0_fewest_1 3 rfl rfl)
theorem dX0_fewest_28 : decode cX0_fewest 28 = .ok (.invokevirtual 244, 3) := dk_182 0 244 (dk_at dksX0_fewest_1 4 rfl rfl)
theorem dX0_fewest_31 : decode cX0_fewest 31 = .ok (.i2l, 1) := dk_133 (dk_at dksX0_fewest_1 7 rfl rfl)
theorem dX0_fewest_32 : decode cX0_fewest 32 = .ok (.invokestatic 73, 3) := dk_184 0 73 (dk_at dksX0_fewest_1 8 rfl rfl)
theorem dX0_fewest_35 : decode cX0_fewest 35 = .ok (.ifCond .ne 6, 3) := dk_154 0 6 (dk_at dksX0_fewest_1 11 rfl rfl)
theorem dX0_fewest_38 : decode cX0_fewest 38 = .ok (.bipush (-2), 2) := dk_16 254 (dk_at dksX0_fewest_1 14 rfl rfl)
theorem dX0_fewest_40 : decode cX0_fewest 40 = .ok (.ireturn, 1) := dk_172 (dk_at dksX0_fewest_1 16 rfl rfl)
theorem dX0_fewest_41 : decode cX0_fewest 41 = .ok (.aload_n 0, 1) := dk_42 (dk_at dksX0_fewest_1 17 rfl rfl)
theorem dX0_fewest_42 : decode cX0_fewest 42 = .ok (.iload_n 1, 1) := dk_27 (dk_at dksX0_fewest_1 18 rfl rfl)
theorem dX0_fewest_43 : decode cX0_fewest 43 = .ok (.invokevirtual 306, 3) := dk_182 1 50 (dk_at dksX0_fewest_1 19 rfl rfl)
theorem dX0_fewest_46 : decode cX0_fewest 46 = .ok (.istore_n 3, 1) := dk_62 (dk_at dksX0_fewest_1 22 rfl rfl)
theorem dX0_fewest_47 : decode cX0_fewest 47 = .ok (.iload_n 2, 1) := dk_28 (dk_at dksX0_fewest_1 23 rfl rfl)
theorem dX0_fewest_48 : decode cX0_fewest 48 = .ok (.iconst (-1), 1) := dk_2 (dk_at dksX0_fewest_2 0 rfl rfl)
theorem dX0_fewest_49 : decode cX0_fewest 49 = .ok (.if_icmp .ne 7, 3) := dk_160 0 7 (dk_at dksX0_fewest_2 1 rfl rfl)
theorem dX0_fewest_52 : decode cX0_fewest 52 = .ok (.iload_n 3, 1) := dk_29 (dk_at dksX0_fewest_2 4 rfl rfl)
theorem dX0_fewest_53 : decode cX0_fewest 53 = .ok (.goto 19, 3) := dk_167 0 19 (dk_at dksX0_fewest_2 5 rfl rfl)
theorem dX0_fewest_56 : decode cX0_fewest 56 = .ok (.iload_n 2, 1) := dk_28 (dk_at dksX0_fewest_2 8 rfl rfl)
theorem dX0_fewest_57 : decode cX0_fewest 57 = .ok (.iload_n 3, 1) := dk_29 (dk_at dksX0_fewest_2 9 rfl rfl)
theorem dX0_fewest_58 : decode cX0_fewest 58 = .ok (.if_icmp .ge 12, 3) := dk_162 0 12 (dk_at dksX0_fewest_2 10 rfl rfl)
theorem dX0_fewest_61 : decode cX0_fewest 61 = .ok (.aload_n 0, 1) := dk_42 (dk_at dksX0_fewest_2 13 rfl rfl)
theorem dX0_fewest_62 : decode cX0_fewest 62 = .ok (.getfield 44, 3) := dk_180 0 44 (dk_at dksX0_fewest_2 14 rfl rfl)
theorem dX0_fewest_65 : decode cX0_fewest 65 = .ok (.iload_n 2, 1) := dk_28 (dk_at dksX0_fewest_2 17 rfl rfl)
theorem dX0_fewest_66 : decode cX0_fewest 66 = .ok (.iaload, 1) := dk_46 (dk_at dksX0_fewest_2 18 rfl rfl)
theorem dX0_fewest_67 : decode cX0_fewest 67 = .ok (.goto 5, 3) := dk_167 0 5 (dk_at dksX0_fewest_2 19 rfl rfl)
theorem dX0_fewest_70 : decode cX0_fewest 70 = .ok (.bipush (-9), 2) := dk_16 247 (dk_at dksX0_fewest_2 22 rfl rfl)
theorem dX0_fewest_72 : decode cX0_fewest 72 = .ok (.ireturn, 1) := dk_172 (dk_at dksX0_fewest_3 0 rfl rfl)
abbrev cX0_fewestOf : ByteArray := prog_1_method_39_code
def yX0_fewestOf : MethodName := ⟨RX0, "fewestOf", "(I)I"⟩
def dkwX0_fewestOf_1 : List UInt8 := [180, 1, 39, 153, 0, 5, 28, 172, 132, 2, 1, 167, 255, 233, 16, 247, 172]
abbrev dktX0_fewestOf_1 : List UInt8 := dkwX0_fewestOf_1 ++ []
def dkwX0_fewestOf_0 : List UInt8 := [42, 27, 181, 1, 36, 42, 3, 181, 1, 39, 3, 61, 28, 6, 163, 0, 24, 42, 3, 28, 182, 1, 43, 42]
abbrev dktX0_fewestOf_0 : List UInt8 := dkwX0_fewestOf_0 ++ dktX0_fewestOf_1
theorem dksX0_fewestOf_0 : cX0_fewestOf.data.toList.drop 0 = dktX0_fewestOf_0 := by decide +kernel
theorem dksX0_fewestOf_1 : cX0_fewestOf.data.toList.drop 24 = dktX0_fewestOf_1 := dk_seg dksX0_fewestOf_0 24 rfl rfl
theorem dX0_fewestOf_0 : decode cX0_fewestOf 0 = .ok (.aload_n 0, 1) := dk_42 (dk_at dksX0_fewestOf_0 0 rfl rfl)
theorem dX0_fewestOf_1 : decode cX0_fewestOf 1 = .ok (.iload_n 1, 1) := dk_27 (dk_at dksX0_fewestOf_0 1 rfl rfl)
theorem dX0_fewestOf_2 : decode cX0_fewestOf 2 = .ok (.putfield 292, 3) := dk_181 1 36 (dk_at dksX0_fewestOf_0 2 rfl rfl)
theorem dX0_fewestOf_5 : decode cX0_fewestOf 5 = .ok (.aload_n 0, 1) := dk_42 (dk_at dksX0_fewestOf_0 5 rfl rfl)
theorem dX0_fewestOf_6 : decode cX0_fewestOf 6 = .ok (.iconst 0, 1) := dk_3 (dk_at dksX0_fewestOf_0 6 rfl rfl)
theorem dX0_fewestOf_7 : decode cX0_fewestOf 7 = .ok (.putfield 295, 3) := dk_181 1 39 (dk_at dksX0_fewestOf_0 7 rfl rfl)
theorem dX0_fewestOf_10 : decode cX0_fewestOf 10 = .ok (.iconst 0, 1) := dk_3 (dk_at dksX0_fewestOf_0 10 rfl rfl)
theorem dX0_fewestOf_11 : decode cX0_fewestOf 11 = .ok (.istore_n 2, 1) := dk_61 (dk_at dksX0_fewestOf_0 11 rfl rfl)
theorem dX0_fewestOf_12 : decode cX0_fewestOf 12 = .ok (.iload_n 2, 1) := dk_28 (dk_at dksX0_fewestOf_0 12 rfl rfl)
theorem dX0_fewestOf_13 : decode cX0_fewestOf 13 = .ok (.iconst 3, 1) := dk_6 (dk_at dksX0_fewestOf_0 13 rfl rfl)
theorem dX0_fewestOf_14 : decode cX0_fewestOf 14 = .ok (.if_icmp .gt 24, 3) := dk_163 0 24 (dk_at dksX0_fewestOf_0 14 rfl rfl)
theorem dX0_fewestOf_17 : decode cX0_fewestOf 17 = .ok (.aload_n 0, 1) := dk_42 (dk_at dksX0_fewestOf_0 17 rfl rfl)
theorem dX0_fewestOf_18 : decode cX0_fewestOf 18 = .ok (.iconst 0, 1) := dk_3 (dk_at dksX0_fewestOf_0 18 rfl rfl)
theorem dX0_fewestOf_19 : decode cX0_fewestOf 19 = .ok (.iload_n 2, 1) := dk_28 (dk_at dksX0_fewestOf_0 19 rfl rfl)
theorem dX0_fewestOf_20 : decode cX0_fewestOf 20 = .ok (.invokevirtual 299, 3) := dk_182 1 43 (dk_at dksX0_fewestOf_0 20 rfl rfl)
theorem dX0_fewestOf_23 : decode cX0_fewestOf 23 = .ok (.aload_n 0, 1) := dk_42 (dk_at dksX0_fewestOf_0 23 rfl rfl)
theorem dX0_fewestOf_24 : decode cX0_fewestOf 24 = .ok (.getfield 295, 3) := dk_180 1 39 (dk_at dksX0_fewestOf_1 0 rfl rfl)
theorem dX0_fewestOf_27 : decode cX0_fewestOf 27 = .ok (.ifCond .eq 5, 3) := dk_153 0 5 (dk_at dksX0_fewestOf_1 3 rfl rfl)
theorem dX0_fewestOf_30 : decode cX0_fewestOf 30 = .ok (.iload_n 2, 1) := dk_28 (dk_at dksX0_fewestOf_1 6 rfl rfl)
theorem dX0_fewestOf_31 : decode cX0_fewestOf 31 = .ok (.ireturn, 1) := dk_172 (dk_at dksX0_fewestOf_1 7 rfl rfl)
theorem dX0_fewestOf_32 : decode cX0_fewestOf 32 = .ok (.iinc 2 1, 3) := dk_132 2 1 (dk_at dksX0_fewestOf_1 8 rfl rfl)
theorem dX0_fewestOf_35 : decode cX0_fewestOf 35 = .ok (.goto (-23), 3) := dk_167 255 233 (dk_at dksX0_fewestOf_1 11 rfl rfl)
theorem dX0_fewestOf_38 : decode cX0_fewestOf 38 = .ok (.bipush (-9), 2) := dk_16 247 (dk_at dksX0_fewestOf_1 14 rfl rfl)
theorem dX0_fewestOf_40 : decode cX0_fewestOf 40 = .ok (.ireturn, 1) := dk_172 (dk_at dksX0_fewestOf_1 16 rfl rfl)
abbrev cX0_tryFrom : ByteArray := prog_1_method_38_code
def yX0_tryFrom : MethodName := ⟨RX0, "tryFrom", "(II)V"⟩
def dkwX0_tryFrom_4 : List UInt8 := [132, 4, 1, 167, 255, 215, 132, 3, 1, 167, 255, 196, 177]
abbrev dktX0_tryFrom_4 : List UInt8 := dkwX0_tryFrom_4 ++ []
def dkwX0_tryFrom_3 : List UInt8 := [177, 42, 180, 0, 44, 27, 16, 10, 29, 104, 21, 4, 96, 79, 42, 27, 4, 96, 28, 182, 1, 43]
abbrev dktX0_tryFrom_3 : List UInt8 := dkwX0_tryFrom_3 ++ dktX0_tryFrom_4
def dkwX0_tryFrom_2 : List UInt8 := [162, 0, 58, 29, 4, 96, 54, 4, 21, 4, 42, 182, 0, 106, 162, 0, 38, 42, 180, 1, 39, 153, 0, 4]
abbrev dktX0_tryFrom_2 : List UInt8 := dkwX0_tryFrom_2 ++ dktX0_tryFrom_3
def dkwX0_tryFrom_1 : List UInt8 := [180, 1, 36, 160, 0, 7, 4, 167, 0, 4, 3, 181, 1, 39, 177, 3, 62, 29, 42, 182, 0, 106]
abbrev dktX0_tryFrom_1 : List UInt8 := dkwX0_tryFrom_1 ++ dktX0_tryFrom_2
def dkwX0_tryFrom_0 : List UInt8 := [27, 28, 160, 0, 37, 42, 42, 28, 182, 1, 33, 153, 0, 23, 42, 182, 0, 241, 42, 180, 1, 36, 126, 42]
abbrev dktX0_tryFrom_0 : List UInt8 := dkwX0_tryFrom_0 ++ dktX0_tryFrom_1
theorem dksX0_tryFrom_0 : cX0_tryFrom.data.toList.drop 0 = dktX0_tryFrom_0 := by decide +kernel
theorem dksX0_tryFrom_1 : cX0_tryFrom.data.toList.drop 24 = dktX0_tryFrom_1 := dk_seg dksX0_tryFrom_0 24 rfl rfl
theorem dksX0_tryFrom_2 : cX0_tryFrom.data.toList.drop 46 = dktX0_tryFrom_2 := dk_seg dksX0_tryFrom_1 22 rfl rfl
theorem dksX0_tryFrom_3 : cX0_tryFrom.data.toList.drop 70 = dktX0_tryFrom_3 := dk_seg dksX0_tryFrom_2 24 rfl rfl
theorem dksX0_tryFrom_4 : cX0_tryFrom.data.toList.drop 92 = dktX0_tryFrom_4 := dk_seg dksX0_tryFrom_3 22 rfl rfl
theorem dX0_tryFrom_0 : decode cX0_tryFrom 0 = .ok (.iload_n 1, 1) := dk_27 (dk_at dksX0_tryFrom_0 0 rfl rfl)
theorem dX0_tryFrom_1 : decode cX0_tryFrom 1 = .ok (.iload_n 2, 1) := dk_28 (dk_at dksX0_tryFrom_0 1 rfl rfl)
theorem dX0_tryFrom_2 : decode cX0_tryFrom 2 = .ok (.if_icmp .ne 37, 3) := dk_160 0 37 (dk_at dksX0_tryFrom_0 2 rfl rfl)
theorem dX0_tryFrom_5 : decode cX0_tryFrom 5 = .ok (.aload_n 0, 1) := dk_42 (dk_at dksX0_tryFrom_0 5 rfl rfl)
theorem dX0_tryFrom_6 : decode cX0_tryFrom 6 = .ok (.aload_n 0, 1) := dk_42 (dk_at dksX0_tryFrom_0 6 rfl rfl)
theorem dX0_tryFrom_7 : decode cX0_tryFrom 7 = .ok (.iload_n 2, 1) := dk_28 (dk_at dksX0_tryFrom_0 7 rfl rfl)
theorem dX0_tryFrom_8 : decode cX0_tryFrom 8 = .ok (.invokevirtual 289, 3) := dk_182 1 33 (dk_at dksX0_tryFrom_0 8 rfl rfl)
theorem dX0_tryFrom_11 : decode cX0_tryFrom 11 = .ok (.ifCond .eq 23, 3) := dk_153 0 23 (dk_at dksX0_tryFrom_0 11 rfl rfl)
theorem dX0_tryFrom_14 : decode cX0_tryFrom 14 = .ok (.aload_n 0, 1) := dk_42 (dk_at dksX0_tryFrom_0 14 rfl rfl)
theorem dX0_tryFrom_15 : decode cX0_tryFrom 15 = .ok (.invokevirtual 241, 3) := dk_182 0 241 (dk_at dksX0_tryFrom_0 15 rfl rfl)
theorem dX0_tryFrom_18 : decode cX0_tryFrom 18 = .ok (.aload_n 0, 1) := dk_42 (dk_at dksX0_tryFrom_0 18 rfl rfl)
theorem dX0_tryFrom_19 : decode cX0_tryFrom 19 = .ok (.getfield 292, 3) := dk_180 1 36 (dk_at dksX0_tryFrom_0 19 rfl rfl)
theorem dX0_tryFrom_22 : decode cX0_tryFrom 22 = .ok (.iand, 1) := dk_126 (dk_at dksX0_tryFrom_0 22 rfl rfl)
theorem dX0_tryFrom_23 : decode cX0_tryFrom 23 = .ok (.aload_n 0, 1) := dk_42 (dk_at dksX0_tryFrom_0 23 rfl rfl)
theorem dX0_tryFrom_24 : decode cX0_tryFrom 24 = .ok (.getfield 292, 3) := dk_180 1 36 (dk_at dksX0_tryFrom_1 0 rfl rfl)
theorem dX0_tryFrom_27 : decode cX0_tryFrom 27 = .ok (.if_icmp .ne 7, 3) := dk_160 0 7 (dk_at dksX0_tryFrom_1 3 rfl rfl)
theorem dX0_tryFrom_30 : decode cX0_tryFrom 30 = .ok (.iconst 1, 1) := dk_4 (dk_at dksX0_tryFrom_1 6 rfl rfl)
theorem dX0_tryFrom_31 : decode cX0_tryFrom 31 = .ok (.goto 4, 3) := dk_167 0 4 (dk_at dksX0_tryFrom_1 7 rfl rfl)
theorem dX0_tryFrom_34 : decode cX0_tryFrom 34 = .ok (.iconst 0, 1) := dk_3 (dk_at dksX0_tryFrom_1 10 rfl rfl)
theorem dX0_tryFrom_35 : decode cX0_tryFrom 35 = .ok (.putfield 295, 3) := dk_181 1 39 (dk_at dksX0_tryFrom_1 11 rfl rfl)
theorem dX0_tryFrom_38 : decode cX0_tryFrom 38 = .ok (.return_, 1) := dk_177 (dk_at dksX0_tryFrom_1 14 rfl rfl)
theorem dX0_tryFrom_39 : decode cX0_tryFrom 39 = .ok (.iconst 0, 1) := dk_3 (dk_at dksX0_tryFrom_1 15 rfl rfl)
theorem dX0_tryFrom_40 : decode cX0_tryFrom 40 = .ok (.istore_n 3, 1) := dk_62 (dk_at dksX0_tryFrom_1 16 rfl rfl)
theorem dX0_tryFrom_41 : decode cX0_tryFrom 41 = .ok (.iload_n 3, 1) := dk_29 (dk_at dksX0_tryFrom_1 17 rfl rfl)
theorem dX0_tryFrom_42 : decode cX0_tryFrom 42 = .ok (.aload_n 0, 1) := dk_42 (dk_at dksX0_tryFrom_1 18 rfl rfl)
theorem dX0_tryFrom_43 : decode cX0_tryFrom 43 = .ok (.invokevirtual 106, 3) := dk_182 0 106 (dk_at dksX0_tryFrom_1 19 rfl rfl)
theorem dX0_tryFrom_46 : decode cX0_tryFrom 46 = .ok (.if_icmp .ge 58, 3) := dk_162 0 58 (dk_at dksX0_tryFrom_2 0 rfl rfl)
theorem dX0_tryFrom_49 : decode cX0_tryFrom 49 = .ok (.iload_n 3, 1) := dk_29 (dk_at dksX0_tryFrom_2 3 rfl rfl)
theorem dX0_tryFrom_50 : decode cX0_tryFrom 50 = .ok (.iconst 1, 1) := dk_4 (dk_at dksX0_tryFrom_2 4 rfl rfl)
theorem dX0_tryFrom_51 : decode cX0_tryFrom 51 = .ok (.iadd, 1) := dk_96 (dk_at dksX0_tryFrom_2 5 rfl rfl)
theorem dX0_tryFrom_52 : decode cX0_tryFrom 52 = .ok (.istore 4, 2) := dk_54 4 (dk_at dksX0_tryFrom_2 6 rfl rfl)
theorem dX0_tryFrom_54 : decode cX0_tryFrom 54 = .ok (.iload 4, 2) := dk_21 4 (dk_at dksX0_tryFrom_2 8 rfl rfl)
theorem dX0_tryFrom_56 : decode cX0_tryFrom 56 = .ok (.aload_n 0, 1) := dk_42 (dk_at dksX0_tryFrom_2 10 rfl rfl)
theorem dX0_tryFrom_57 : decode cX0_tryFrom 57 = .ok (.invokevirtual 106, 3) := dk_182 0 106 (dk_at dksX0_tryFrom_2 11 rfl rfl)
theorem dX0_tryFrom_60 : decode cX0_tryFrom 60 = .ok (.if_icmp .ge 38, 3) := dk_162 0 38 (dk_at dksX0_tryFrom_2 14 rfl rfl)
theorem dX0_tryFrom_63 : decode cX0_tryFrom 63 = .ok (.aload_n 0, 1) := dk_42 (dk_at dksX0_tryFrom_2 17 rfl rfl)
theorem dX0_tryFrom_64 : decode cX0_tryFrom 64 = .ok (.getfield 295, 3) := dk_180 1 39 (dk_at dksX0_tryFrom_2 18 rfl rfl)
theorem dX0_tryFrom_67 : decode cX0_tryFrom 67 = .ok (.ifCond .eq 4, 3) := dk_153 0 4 (dk_at dksX0_tryFrom_2 21 rfl rfl)
theorem dX0_tryFrom_70 : decode cX0_tryFrom 70 = .ok (.return_, 1) := dk_177 (dk_at dksX0_tryFrom_3 0 rfl rfl)
theorem dX0_tryFrom_71 : decode cX0_tryFrom 71 = .ok (.aload_n 0, 1) := dk_42 (dk_at dksX0_tryFrom_3 1 rfl rfl)
theorem dX0_tryFrom_72 : decode cX0_tryFrom 72 = .ok (.getfield 44, 3) := dk_180 0 44 (dk_at dksX0_tryFrom_3 2 rfl rfl)
theorem dX0_tryFrom_75 : decode cX0_tryFrom 75 = .ok (.iload_n 1, 1) := dk_27 (dk_at dksX0_tryFrom_3 5 rfl rfl)
theorem dX0_tryFrom_76 : decode cX0_tryFrom 76 = .ok (.bipush 10, 2) := dk_16 10 (dk_at dksX0_tryFrom_3 6 rfl rfl)
theorem dX0_tryFrom_78 : decode cX0_tryFrom 78 = .ok (.iload_n 3, 1) := dk_29 (dk_at dksX0_tryFrom_3 8 rfl rfl)
theorem dX0_tryFrom_79 : decode cX0_tryFrom 79 = .ok (.imul, 1) := dk_104 (dk_at dksX0_tryFrom_3 9 rfl rfl)
theorem dX0_tryFrom_80 : decode cX0_tryFrom 80 = .ok (.iload 4, 2) := dk_21 4 (dk_at dksX0_tryFrom_3 10 rfl rfl)
theorem dX0_tryFrom_82 : decode cX0_tryFrom 82 = .ok (.iadd, 1) := dk_96 (dk_at dksX0_tryFrom_3 12 rfl rfl)
theorem dX0_tryFrom_83 : decode cX0_tryFrom 83 = .ok (.iastore, 1) := dk_79 (dk_at dksX0_tryFrom_3 13 rfl rfl)
theorem dX0_tryFrom_84 : decode cX0_tryFrom 84 = .ok (.aload_n 0, 1) := dk_42 (dk_at dksX0_tryFrom_3 14 rfl rfl)
theorem dX0_tryFrom_85 : decode cX0_tryFrom 85 = .ok (.iload_n 1, 1) := dk_27 (dk_at dksX0_tryFrom_3 15 rfl rfl)
theorem dX0_tryFrom_86 : decode cX0_tryFrom 86 = .ok (.iconst 1, 1) := dk_4 (dk_at dksX0_tryFrom_3 16 rfl rfl)
theorem dX0_tryFrom_87 : decode cX0_tryFrom 87 = .ok (.iadd, 1) := dk_96 (dk_at dksX0_tryFrom_3 17 rfl rfl)
theorem dX0_tryFrom_88 : decode cX0_tryFrom 88 = .ok (.iload_n 2, 1) := dk_28 (dk_at dksX0_tryFrom_3 18 rfl rfl)
theorem dX0_tryFrom_89 : decode cX0_tryFrom 89 = .ok (.invokevirtual 299, 3) := dk_182 1 43 (dk_at dksX0_tryFrom_3 19 rfl rfl)
theorem dX0_tryFrom_92 : decode cX0_tryFrom 92 = .ok (.iinc 4 1, 3) := dk_132 4 1 (dk_at dksX0_tryFrom_4 0 rfl rfl)
theorem dX0_tryFrom_95 : decode cX0_tryFrom 95 = .ok (.goto (-41), 3) := dk_167 255 215 (dk_at dksX0_tryFrom_4 3 rfl rfl)
theorem dX0_tryFrom_98 : decode cX0_tryFrom 98 = .ok (.iinc 3 1, 3) := dk_132 3 1 (dk_at dksX0_tryFrom_4 6 rfl rfl)
theorem dX0_tryFrom_101 : decode cX0_tryFrom 101 = .ok (.goto (-60), 3) := dk_167 255 196 (dk_at dksX0_tryFrom_4 9 rfl rfl)
theorem dX0_tryFrom_104 : decode cX0_tryFrom 104 = .ok (.return_, 1) := dk_177 (dk_at dksX0_tryFrom_4 12 rfl rfl)
abbrev cX0_goRow : ByteArray := prog_1_method_37_code
def yX0_goRow : MethodName := ⟨RX0, "goRow", "(I)Z"⟩
def dkwX0_goRow_2 : List UInt8 := [16, 10, 108, 42, 180, 0, 44, 28, 46, 16, 10, 112, 182, 0, 250, 132, 2, 1, 167, 255, 199, 4, 172]
abbrev dktX0_goRow_2 : List UInt8 := dkwX0_goRow_2 ++ []
def dkwX0_goRow_1 : List UInt8 := [180, 0, 44, 28, 46, 16, 10, 112, 182, 0, 247, 154, 0, 5, 3, 172, 42, 42, 180, 0, 44, 28, 46]
abbrev dktX0_goRow_1 : List UInt8 := dkwX0_goRow_1 ++ dktX0_goRow_2
def dkwX0_goRow_0 : List UInt8 := [42, 182, 0, 240, 3, 61, 28, 27, 162, 0, 58, 42, 42, 180, 0, 44, 28, 46, 16, 10, 108, 42]
abbrev dktX0_goRow_0 : List UInt8 := dkwX0_goRow_0 ++ dktX0_goRow_1
theorem dksX0_goRow_0 : cX0_goRow.data.toList.drop 0 = dktX0_goRow_0 := by decide +kernel
theorem dksX0_goRow_1 : cX0_goRow.data.toList.drop 22 = dktX0_goRow_1 := dk_seg dksX0_goRow_0 22 rfl rfl
theorem dksX0_goRow_2 : cX0_goRow.data.toList.drop 45 = dktX0_goRow_2 := dk_seg dksX0_goRow_1 23 rfl rfl
theorem dX0_goRow_0 : decode cX0_goRow 0 = .ok (.aload_n 0, 1) := dk_42 (dk_at dksX0_goRow_0 0 rfl rfl)
theorem dX0_goRow_1 : decode cX0_goRow 1 = .ok (.invokevirtual 240, 3) := dk_182 0 240 (dk_at dksX0_goRow_0 1 rfl rfl)
theorem dX0_goRow_4 : decode cX0_goRow 4 = .ok (.iconst 0, 1) := dk_3 (dk_at dksX0_goRow_0 4 rfl rfl)
theorem dX0_goRow_5 : decode cX0_goRow 5 = .ok (.istore_n 2, 1) := dk_61 (dk_at dksX0_goRow_0 5 rfl rfl)
theorem dX0_goRow_6 : decode cX0_goRow 6 = .ok (.iload_n 2, 1) := dk_28 (dk_at dksX0_goRow_0 6 rfl rfl)
theorem dX0_goRow_7 : decode cX0_goRow 7 = .ok (.iload_n 1, 1) := dk_27 (dk_at dksX0_goRow_0 7 rfl rfl)
theorem dX0_goRow_8 : decode cX0_goRow 8 = .ok (.if_icmp .ge 58, 3) := dk_162 0 58 (dk_at dksX0_goRow_0 8 rfl rfl)
theorem dX0_goRow_11 : decode cX0_goRow 11 = .ok (.aload_n 0, 1) := dk_42 (dk_at dksX0_goRow_0 11 rfl rfl)
theorem dX0_goRow_12 : decode cX0_goRow 12 = .ok (.aload_n 0, 1) := dk_42 (dk_at dksX0_goRow_0 12 rfl rfl)
theorem dX0_goRow_13 : decode cX0_goRow 13 = .ok (.getfield 44, 3) := dk_180 0 44 (dk_at dksX0_goRow_0 13 rfl rfl)
theorem dX0_goRow_16 : decode cX0_goRow 16 = .ok (.iload_n 2, 1) := dk_28 (dk_at dksX0_goRow_0 16 rfl rfl)
theorem dX0_goRow_17 : decode cX0_goRow 17 = .ok (.iaload, 1) := dk_46 (dk_at dksX0_goRow_0 17 rfl rfl)
theorem dX0_goRow_18 : decode cX0_goRow 18 = .ok (.bipush 10, 2) := dk_16 10 (dk_at dksX0_goRow_0 18 rfl rfl)
theorem dX0_goRow_20 : decode cX0_goRow 20 = .ok (.idiv, 1) := dk_108 (dk_at dksX0_goRow_0 20 rfl rfl)
theorem dX0_goRow_21 : decode cX0_goRow 21 = .ok (.aload_n 0, 1) := dk_42 (dk_at dksX0_goRow_0 21 rfl rfl)
theorem dX0_goRow_22 : decode cX0_goRow 22 = .ok (.getfield 44, 3) := dk_180 0 44 (dk_at dksX0_goRow_1 0 rfl rfl)
theorem dX0_goRow_25 : decode cX0_goRow 25 = .ok (.iload_n 2, 1) := dk_28 (dk_at dksX0_goRow_1 3 rfl rfl)
theorem dX0_goRow_26 : decode cX0_goRow 26 = .ok (.iaload, 1) := dk_46 (dk_at dksX0_goRow_1 4 rfl rfl)
theorem dX0_goRow_27 : decode cX0_goRow 27 = .ok (.bipush 10, 2) := dk_16 10 (dk_at dksX0_goRow_1 5 rfl rfl)
theorem dX0_goRow_29 : decode cX0_goRow 29 = .ok (.irem, 1) := dk_112 (dk_at dksX0_goRow_1 7 rfl rfl)
theorem dX0_goRow_30 : decode cX0_goRow 30 = .ok (.invokevirtual 247, 3) := dk_182 0 247 (dk_at dksX0_goRow_1 8 rfl rfl)
theorem dX0_goRow_33 : decode cX0_goRow 33 = .ok (.ifCond .ne 5, 3) := dk_154 0 5 (dk_at dksX0_goRow_1 11 rfl rfl)
theorem dX0_goRow_36 : decode cX0_goRow 36 = .ok (.iconst 0, 1) := dk_3 (dk_at dksX0_goRow_1 14 rfl rfl)
theorem dX0_goRow_37 : decode cX0_goRow 37 = .ok (.ireturn, 1) := dk_172 (dk_at dksX0_goRow_1 15 rfl rfl)
theorem dX0_goRow_38 : decode cX0_goRow 38 = .ok (.aload_n 0, 1) := dk_42 (dk_at dksX0_goRow_1 16 rfl rfl)
theorem dX0_goRow_39 : decode cX0_goRow 39 = .ok (.aload_n 0, 1) := dk_42 (dk_at dksX0_goRow_1 17 rfl rfl)
theorem dX0_goRow_40 : decode cX0_goRow 40 = .ok (.getfield 44, 3) := dk_180 0 44 (dk_at dksX0_goRow_1 18 rfl rfl)
theorem dX0_goRow_43 : decode cX0_goRow 43 = .ok (.iload_n 2, 1) := dk_28 (dk_at dksX0_goRow_1 21 rfl rfl)
theorem dX0_goRow_44 : decode cX0_goRow 44 = .ok (.iaload, 1) := dk_46 (dk_at dksX0_goRow_1 22 rfl rfl)
theorem dX0_goRow_45 : decode cX0_goRow 45 = .ok (.bipush 10, 2) := dk_16 10 (dk_at dksX0_goRow_2 0 rfl rfl)
theorem dX0_goRow_47 : decode cX0_goRow 47 = .ok (.idiv, 1) := dk_108 (dk_at dksX0_goRow_2 2 rfl rfl)
theorem dX0_goRow_48 : decode cX0_goRow 48 = .ok (.aload_n 0, 1) := dk_42 (dk_at dksX0_goRow_2 3 rfl rfl)
theorem dX0_goRow_49 : decode cX0_goRow 49 = .ok (.getfield 44, 3) := dk_180 0 44 (dk_at dksX0_goRow_2 4 rfl rfl)
theorem dX0_goRow_52 : decode cX0_goRow 52 = .ok (.iload_n 2, 1) := dk_28 (dk_at dksX0_goRow_2 7 rfl rfl)
theorem dX0_goRow_53 : decode cX0_goRow 53 = .ok (.iaload, 1) := dk_46 (dk_at dksX0_goRow_2 8 rfl rfl)
theorem dX0_goRow_54 : decode cX0_goRow 54 = .ok (.bipush 10, 2) := dk_16 10 (dk_at dksX0_goRow_2 9 rfl rfl)
theorem dX0_goRow_56 : decode cX0_goRow 56 = .ok (.irem, 1) := dk_112 (dk_at dksX0_goRow_2 11 rfl rfl)
theorem dX0_goRow_57 : decode cX0_goRow 57 = .ok (.invokevirtual 250, 3) := dk_182 0 250 (dk_at dksX0_goRow_2 12 rfl rfl)
theorem dX0_goRow_60 : decode cX0_goRow 60 = .ok (.iinc 2 1, 3) := dk_132 2 1 (dk_at dksX0_goRow_2 15 rfl rfl)
theorem dX0_goRow_63 : decode cX0_goRow 63 = .ok (.goto (-57), 3) := dk_167 255 199 (dk_at dksX0_goRow_2 18 rfl rfl)
theorem dX0_goRow_66 : decode cX0_goRow 66 = .ok (.iconst 1, 1) := dk_4 (dk_at dksX0_goRow_2 21 rfl rfl)
theorem dX0_goRow_67 : decode cX0_goRow 67 = .ok (.ireturn, 1) := dk_172 (dk_at dksX0_goRow_2 22 rfl rfl)
abbrev cX0_match : ByteArray := prog_1_method_43_code
def yX0_match : MethodName := ⟨RX0, "match", "(I)I"⟩
def dkwX0_match_2 : List UInt8 := [153, 0, 12, 42, 180, 0, 50, 27, 46, 167, 0, 5, 16, 247, 172]
abbrev dktX0_match_2 : List UInt8 := dkwX0_match_2 ++ []
def dkwX0_match_1 : List UInt8 := [3, 3, 3, 182, 1, 65, 27, 2, 160, 0, 10, 42, 180, 1, 53, 167, 0, 22, 42, 27, 182, 0, 185]
abbrev dktX0_match_1 : List UInt8 := dkwX0_match_1 ++ dktX0_match_2
def dkwX0_match_0 : List UInt8 := [27, 2, 162, 0, 5, 2, 172, 42, 182, 1, 26, 154, 0, 6, 16, 253, 172, 42, 16, 247, 181, 1, 53, 42]
abbrev dktX0_match_0 : List UInt8 := dkwX0_match_0 ++ dktX0_match_1
theorem dksX0_match_0 : cX0_match.data.toList.drop 0 = dktX0_match_0 := by decide +kernel
theorem dksX0_match_1 : cX0_match.data.toList.drop 24 = dktX0_match_1 := dk_seg dksX0_match_0 24 rfl rfl
theorem dksX0_match_2 : cX0_match.data.toList.drop 47 = dktX0_match_2 := dk_seg dksX0_match_1 23 rfl rfl
theorem dX0_match_0 : decode cX0_match 0 = .ok (.iload_n 1, 1) := dk_27 (dk_at dksX0_match_0 0 rfl rfl)
theorem dX0_match_1 : decode cX0_match 1 = .ok (.iconst (-1), 1) := dk_2 (dk_at dksX0_match_0 1 rfl rfl)
theorem dX0_match_2 : decode cX0_match 2 = .ok (.if_icmp .ge 5, 3) := dk_162 0 5 (dk_at dksX0_match_0 2 rfl rfl)
theorem dX0_match_5 : decode cX0_match 5 = .ok (.iconst (-1), 1) := dk_2 (dk_at dksX0_match_0 5 rfl rfl)
theorem dX0_match_6 : decode cX0_match 6 = .ok (.ireturn, 1) := dk_172 (dk_at dksX0_match_0 6 rfl rfl)
theorem dX0_match_7 : decode cX0_match 7 = .ok (.aload_n 0, 1) := dk_42 (dk_at dksX0_match_0 7 rfl rfl)
theorem dX0_match_8 : decode cX0_match 8 = .ok (.invokevirtual 282, 3) := dk_182 1 26 (dk_at dksX0_match_0 8 rfl rfl)
theorem dX0_match_11 : decode cX0_match 11 = .ok (.ifCond .ne 6, 3) := dk_154 0 6 (dk_at dksX0_match_0 11 rfl rfl)
theorem dX0_match_14 : decode cX0_match 14 = .ok (.bipush (-3), 2) := dk_16 253 (dk_at dksX0_match_0 14 rfl rfl)
theorem dX0_match_16 : decode cX0_match 16 = .ok (.ireturn, 1) := dk_172 (dk_at dksX0_match_0 16 rfl rfl)
theorem dX0_match_17 : decode cX0_match 17 = .ok (.aload_n 0, 1) := dk_42 (dk_at dksX0_match_0 17 rfl rfl)
theorem dX0_match_18 : decode cX0_match 18 = .ok (.bipush (-9), 2) := dk_16 247 (dk_at dksX0_match_0 18 rfl rfl)
theorem dX0_match_20 : decode cX0_match 20 = .ok (.putfield 309, 3) := dk_181 1 53 (dk_at dksX0_match_0 20 rfl rfl)
theorem dX0_match_23 : decode cX0_match 23 = .ok (.aload_n 0, 1) := dk_42 (dk_at dksX0_match_0 23 rfl rfl)
theorem dX0_match_24 : decode cX0_match 24 = .ok (.iconst 0, 1) := dk_3 (dk_at dksX0_match_1 0 rfl rfl)
theorem dX0_match_25 : decode cX0_match 25 = .ok (.iconst 0, 1) := dk_3 (dk_at dksX0_match_1 1 rfl rfl)
theorem dX0_match_26 : decode cX0_match 26 = .ok (.iconst 0, 1) := dk_3 (dk_at dksX0_match_1 2 rfl rfl)
theorem dX0_match_27 : decode cX0_match 27 = .ok (.invokevirtual 321, 3) := dk_182 1 65 (dk_at dksX0_match_1 3 rfl rfl)
theorem dX0_match_30 : decode cX0_match 30 = .ok (.iload_n 1, 1) := dk_27 (dk_at dksX0_match_1 6 rfl rfl)
theorem dX0_match_31 : decode cX0_match 31 = .ok (.iconst (-1), 1) := dk_2 (dk_at dksX0_match_1 7 rfl rfl)
theorem dX0_match_32 : decode cX0_match 32 = .ok (.if_icmp .ne 10, 3) := dk_160 0 10 (dk_at dksX0_match_1 8 rfl rfl)
theorem dX0_match_35 : decode cX0_match 35 = .ok (.aload_n 0, 1) := dk_42 (dk_at dksX0_match_1 11 rfl rfl)
theorem dX0_match_36 : decode cX0_match 36 = .ok (.getfield 309, 3) := dk_180 1 53 (dk_at dksX0_match_1 12 rfl rfl)
theorem dX0_match_39 : decode cX0_match 39 = .ok (.goto 22, 3) := dk_167 0 22 (dk_at dksX0_match_1 15 rfl rfl)
theorem dX0_match_42 : decode cX0_match 42 = .ok (.aload_n 0, 1) := dk_42 (dk_at dksX0_match_1 18 rfl rfl)
theorem dX0_match_43 : decode cX0_match 43 = .ok (.iload_n 1, 1) := dk_27 (dk_at dksX0_match_1 19 rfl rfl)
theorem dX0_match_44 : decode cX0_match 44 = .ok (.invokevirtual 185, 3) := dk_182 0 185 (dk_at dksX0_match_1 20 rfl rfl)
theorem dX0_match_47 : decode cX0_match 47 = .ok (.ifCond .eq 12, 3) := dk_153 0 12 (dk_at dksX0_match_2 0 rfl rfl)
theorem dX0_match_50 : decode cX0_match 50 = .ok (.aload_n 0, 1) := dk_42 (dk_at dksX0_match_2 3 rfl rfl)
theorem dX0_match_51 : decode cX0_match 51 = .ok (.getfield 50, 3) := dk_180 0 50 (dk_at dksX0_match_2 4 rfl rfl)
theorem dX0_match_54 : decode cX0_match 54 = .ok (.iload_n 1, 1) := dk_27 (dk_at dksX0_match_2 7 rfl rfl)
theorem dX0_match_55 : decode cX0_match 55 = .ok (.iaload, 1) := dk_46 (dk_at dksX0_match_2 8 rfl rfl)
theorem dX0_match_56 : decode cX0_match 56 = .ok (.goto 5, 3) := dk_167 0 5 (dk_at dksX0_match_2 9 rfl rfl)
theorem dX0_match_59 : decode cX0_match 59 = .ok (.bipush (-9), 2) := dk_16 247 (dk_at dksX0_match_2 12 rfl rfl)
theorem dX0_match_61 : decode cX0_match 61 = .ok (.ireturn, 1) := dk_172 (dk_at dksX0_match_2 14 rfl rfl)
abbrev cX0_matchFrom : ByteArray := prog_1_method_42_code
def yX0_matchFrom : MethodName := ⟨RX0, "matchFrom", "(III)V"⟩
def dkwX0_matchFrom_4 : List UInt8 := [3, 96, 182, 1, 65, 132, 4, 1, 167, 255, 194, 177]
abbrev dktX0_matchFrom_4 : List UInt8 := dkwX0_matchFrom_4 ++ []
def dkwX0_matchFrom_3 : List UInt8 := [27, 4, 96, 28, 4, 21, 4, 120, 128, 29, 42, 27, 21, 4, 182, 1, 62, 153, 0, 7, 4, 167, 0, 4]
abbrev dktX0_matchFrom_3 : List UInt8 := dkwX0_matchFrom_3 ++ dktX0_matchFrom_4
def dkwX0_matchFrom_2 : List UInt8 := [162, 0, 59, 28, 21, 4, 184, 0, 230, 153, 0, 6, 167, 0, 41, 42, 180, 0, 47, 27, 21, 4, 79, 42]
abbrev dktX0_matchFrom_2 : List UInt8 := dkwX0_matchFrom_2 ++ dktX0_matchFrom_3
def dkwX0_matchFrom_1 : List UInt8 := [180, 0, 47, 3, 42, 180, 0, 50, 3, 16, 6, 184, 1, 56, 177, 3, 54, 4, 21, 4, 42, 182, 0, 106]
abbrev dktX0_matchFrom_1 : List UInt8 := dkwX0_matchFrom_1 ++ dktX0_matchFrom_2
def dkwX0_matchFrom_0 : List UInt8 := [27, 42, 182, 0, 106, 160, 0, 33, 29, 42, 180, 1, 53, 163, 0, 4, 177, 42, 29, 181, 1, 53, 42]
abbrev dktX0_matchFrom_0 : List UInt8 := dkwX0_matchFrom_0 ++ dktX0_matchFrom_1
theorem dksX0_matchFrom_0 : cX0_matchFrom.data.toList.drop 0 = dktX0_matchFrom_0 := by decide +kernel
theorem dksX0_matchFrom_1 : cX0_matchFrom.data.toList.drop 23 = dktX0_matchFrom_1 := dk_seg dksX0_matchFrom_0 23 rfl rfl
theorem dksX0_matchFrom_2 : cX0_matchFrom.data.toList.drop 47 = dktX0_matchFrom_2 := dk_seg dksX0_matchFrom_1 24 rfl rfl
theorem dksX0_matchFrom_3 : cX0_matchFrom.data.toList.drop 71 = dktX0_matchFrom_3 := dk_seg dksX0_matchFrom_2 24 rfl rfl
theorem dksX0_matchFrom_4 : cX0_matchFrom.data.toList.drop 95 = dktX0_matchFrom_4 := dk_seg dksX0_matchFrom_3 24 rfl rfl
theorem dX0_matchFrom_0 : decode cX0_matchFrom 0 = .ok (.iload_n 1, 1) := dk_27 (dk_at dksX0_matchFrom_0 0 rfl rfl)
theorem dX0_matchFrom_1 : decode cX0_matchFrom 1 = .ok (.aload_n 0, 1) := dk_42 (dk_at dksX0_matchFrom_0 1 rfl rfl)
theorem dX0_matchFrom_2 : decode cX0_matchFrom 2 = .ok (.invokevirtual 106, 3) := dk_182 0 106 (dk_at dksX0_matchFrom_0 2 rfl rfl)
theorem dX0_matchFrom_5 : decode cX0_matchFrom 5 = .ok (.if_icmp .ne 33, 3) := dk_160 0 33 (dk_at dksX0_matchFrom_0 5 rfl rfl)
theorem dX0_matchFrom_8 : decode cX0_matchFrom 8 = .ok (.iload_n 3, 1) := dk_29 (dk_at dksX0_matchFrom_0 8 rfl rfl)
theorem dX0_matchFrom_9 : decode cX0_matchFrom 9 = .ok (.aload_n 0, 1) := dk_42 (dk_at dksX0_matchFrom_0 9 rfl rfl)
theorem dX0_matchFrom_10 : decode cX0_matchFrom 10 = .ok (.getfield 309, 3) := dk_180 1 53 (dk_at dksX0_matchFrom_0 10 rfl rfl)
theorem dX0_matchFrom_13 : decode cX0_matchFrom 13 = .ok (.if_icmp .gt 4, 3) := dk_163 0 4 (dk_at dksX0_matchFrom_0 13 rfl rfl)
theorem dX0_matchFrom_16 : decode cX0_matchFrom 16 = .ok (.return_, 1) := dk_177 (dk_at dksX0_matchFrom_0 16 rfl rfl)
theorem dX0_matchFrom_17 : decode cX0_matchFrom 17 = .ok (.aload_n 0, 1) := dk_42 (dk_at dksX0_matchFrom_0 17 rfl rfl)
theorem dX0_matchFrom_18 : decode cX0_matchFrom 18 = .ok (.iload_n 3, 1) := dk_29 (dk_at dksX0_matchFrom_0 18 rfl rfl)
theorem dX0_matchFrom_19 : decode cX0_matchFrom 19 = .ok (.putfield 309, 3) := dk_181 1 53 (dk_at dksX0_matchFrom_0 19 rfl rfl)
theorem dX0_matchFrom_22 : decode cX0_matchFrom 22 = .ok (.aload_n 0, 1) := dk_42 (dk_at dksX0_matchFrom_0 22 rfl rfl)
theorem dX0_matchFrom_23 : decode cX0_matchFrom 23 = .ok (.getfield 47, 3) := dk_180 0 47 (dk_at dksX0_matchFrom_1 0 rfl rfl)
theorem dX0_matchFrom_26 : decode cX0_matchFrom 26 = .ok (.iconst 0, 1) := dk_3 (dk_at dksX0_matchFrom_1 3 rfl rfl)
theorem dX0_matchFrom_27 : decode cX0_matchFrom 27 = .ok (.aload_n 0, 1) := dk_42 (dk_at dksX0_matchFrom_1 4 rfl rfl)
theorem dX0_matchFrom_28 : decode cX0_matchFrom 28 = .ok (.getfield 50, 3) := dk_180 0 50 (dk_at dksX0_matchFrom_1 5 rfl rfl)
theorem dX0_matchFrom_31 : decode cX0_matchFrom 31 = .ok (.iconst 0, 1) := dk_3 (dk_at dksX0_matchFrom_1 8 rfl rfl)
theorem dX0_matchFrom_32 : decode cX0_matchFrom 32 = .ok (.bipush 6, 2) := dk_16 6 (dk_at dksX0_matchFrom_1 9 rfl rfl)
theorem dX0_matchFrom_34 : decode cX0_matchFrom 34 = .ok (.invokestatic 312, 3) := dk_184 1 56 (dk_at dksX0_matchFrom_1 11 rfl rfl)
theorem dX0_matchFrom_37 : decode cX0_matchFrom 37 = .ok (.return_, 1) := dk_177 (dk_at dksX0_matchFrom_1 14 rfl rfl)
theorem dX0_matchFrom_38 : decode cX0_matchFrom 38 = .ok (.iconst 0, 1) := dk_3 (dk_at dksX0_matchFrom_1 15 rfl rfl)
theorem dX0_matchFrom_39 : decode cX0_matchFrom 39 = .ok (.istore 4, 2) := dk_54 4 (dk_at dksX0_matchFrom_1 16 rfl rfl)
theorem dX0_matchFrom_41 : decode cX0_matchFrom 41 = .ok (.iload 4, 2) := dk_21 4 (dk_at dksX0_matchFrom_1 18 rfl rfl)
theorem dX0_matchFrom_43 : decode cX0_matchFrom 43 = .ok (.aload_n 0, 1) := dk_42 (dk_at dksX0_matchFrom_1 20 rfl rfl)
theorem dX0_matchFrom_44 : decode cX0_matchFrom 44 = .ok (.invokevirtual 106, 3) := dk_182 0 106 (dk_at dksX0_matchFrom_1 21 rfl rfl)
theorem dX0_matchFrom_47 : decode cX0_matchFrom 47 = .ok (.if_icmp .ge 59, 3) := dk_162 0 59 (dk_at dksX0_matchFrom_2 0 rfl rfl)
theorem dX0_matchFrom_50 : decode cX0_matchFrom 50 = .ok (.iload_n 2, 1) := dk_28 (dk_at dksX0_matchFrom_2 3 rfl rfl)
theorem dX0_matchFrom_51 : decode cX0_matchFrom 51 = .ok (.iload 4, 2) := dk_21 4 (dk_at dksX0_matchFrom_2 4 rfl rfl)
theorem dX0_matchFrom_53 : decode cX0_matchFrom 53 = .ok (.invokestatic 230, 3) := dk_184 0 230 (dk_at dksX0_matchFrom_2 6 rfl rfl)
theorem dX0_matchFrom_56 : decode cX0_matchFrom 56 = .ok (.ifCond .eq 6, 3) := dk_153 0 6 (dk_at dksX0_matchFrom_2 9 rfl rfl)
theorem dX0_matchFrom_59 : decode cX0_matchFrom 59 = .ok (.goto 41, 3) := dk_167 0 41 (dk_at dksX0_matchFrom_2 12 rfl rfl)
theorem dX0_matchFrom_62 : decode cX0_matchFrom 62 = .ok (.aload_n 0, 1) := dk_42 (dk_at dksX0_matchFrom_2 15 rfl rfl)
theorem dX0_matchFrom_63 : decode cX0_matchFrom 63 = .ok (.getfield 47, 3) := dk_180 0 47 (dk_at dksX0_matchFrom_2 16 rfl rfl)
theorem dX0_matchFrom_66 : decode cX0_matchFrom 66 = .ok (.iload_n 1, 1) := dk_27 (dk_at dksX0_matchFrom_2 19 rfl rfl)
theorem dX0_matchFrom_67 : decode cX0_matchFrom 67 = .ok (.iload 4, 2) := dk_21 4 (dk_at dksX0_matchFrom_2 20 rfl rfl)
theorem dX0_matchFrom_69 : decode cX0_matchFrom 69 = .ok (.iastore, 1) := dk_79 (dk_at dksX0_matchFrom_2 22 rfl rfl)
theorem dX0_matchFrom_70 : decode cX0_matchFrom 70 = .ok (.aload_n 0, 1) := dk_42 (dk_at dksX0_matchFrom_2 23 rfl rfl)
theorem dX0_matchFrom_71 : decode cX0_matchFrom 71 = .ok (.iload_n 1, 1) := dk_27 (dk_at dksX0_matchFrom_3 0 rfl rfl)
theorem dX0_matchFrom_72 : decode cX0_matchFrom 72 = .ok (.iconst 1, 1) := dk_4 (dk_at dksX0_matchFrom_3 1 rfl rfl)
theorem dX0_matchFrom_73 : decode cX0_matchFrom 73 = .ok (.iadd, 1) := dk_96 (dk_at dksX0_matchFrom_3 2 rfl rfl)
theorem dX0_matchFrom_74 : decode cX0_matchFrom 74 = .ok (.iload_n 2, 1) := dk_28 (dk_at dksX0_matchFrom_3 3 rfl rfl)
theorem dX0_matchFrom_75 : decode cX0_matchFrom 75 = .ok (.iconst 1, 1) := dk_4 (dk_at dksX0_matchFrom_3 4 rfl rfl)
theorem dX0_matchFrom_76 : decode cX0_matchFrom 76 = .ok (.iload 4, 2) := dk_21 4 (dk_at dksX0_matchFrom_3 5 rfl rfl)
theorem dX0_matchFrom_78 : decode cX0_matchFrom 78 = .ok (.ishl, 1) := dk_120 (dk_at dksX0_matchFrom_3 7 rfl rfl)
theorem dX0_matchFrom_79 : decode cX0_matchFrom 79 = .ok (.ior, 1) := dk_128 (dk_at dksX0_matchFrom_3 8 rfl rfl)
theorem dX0_matchFrom_80 : decode cX0_matchFrom 80 = .ok (.iload_n 3, 1) := dk_29 (dk_at dksX0_matchFrom_3 9 rfl rfl)
theorem dX0_matchFrom_81 : decode cX0_matchFrom 81 = .ok (.aload_n 0, 1) := dk_42 (dk_at dksX0_matchFrom_3 10 rfl rfl)
theorem dX0_matchFrom_82 : decode cX0_matchFrom 82 = .ok (.iload_n 1, 1) := dk_27 (dk_at dksX0_matchFrom_3 11 rfl rfl)
theorem dX0_matchFrom_83 : decode cX0_matchFrom 83 = .ok (.iload 4, 2) := dk_21 4 (dk_at dksX0_matchFrom_3 12 rfl rfl)
theorem dX0_matchFrom_85 : decode cX0_matchFrom 85 = .ok (.invokevirtual 318, 3) := dk_182 1 62 (dk_at dksX0_matchFrom_3 14 rfl rfl)
theorem dX0_matchFrom_88 : decode cX0_matchFrom 88 = .ok (.ifCond .eq 7, 3) := dk_153 0 7 (dk_at dksX0_matchFrom_3 17 rfl rfl)
theorem dX0_matchFrom_91 : decode cX0_matchFrom 91 = .ok (.iconst 1, 1) := dk_4 (dk_at dksX0_matchFrom_3 20 rfl rfl)
theorem dX0_matchFrom_92 : decode cX0_matchFrom 92 = .ok (.goto 4, 3) := dk_167 0 4 (dk_at dksX0_matchFrom_3 21 rfl rfl)
theorem dX0_matchFrom_95 : decode cX0_matchFrom 95 = .ok (.iconst 0, 1) := dk_3 (dk_at dksX0_matchFrom_4 0 rfl rfl)
theorem dX0_matchFrom_96 : decode cX0_matchFrom 96 = .ok (.iadd, 1) := dk_96 (dk_at dksX0_matchFrom_4 1 rfl rfl)
theorem dX0_matchFrom_97 : decode cX0_matchFrom 97 = .ok (.invokevirtual 321, 3) := dk_182 1 65 (dk_at dksX0_matchFrom_4 2 rfl rfl)
theorem dX0_matchFrom_100 : decode cX0_matchFrom 100 = .ok (.iinc 4 1, 3) := dk_132 4 1 (dk_at dksX0_matchFrom_4 5 rfl rfl)
theorem dX0_matchFrom_103 : decode cX0_matchFrom 103 = .ok (.goto (-62), 3) := dk_167 255 194 (dk_at dksX0_matchFrom_4 8 rfl rfl)
theorem dX0_matchFrom_106 : decode cX0_matchFrom 106 = .ok (.return_, 1) := dk_177 (dk_at dksX0_matchFrom_4 11 rfl rfl)
abbrev cX0_isMendedBy : ByteArray := prog_1_method_41_code
def yX0_isMendedBy : MethodName := ⟨RX0, "isMendedBy", "(II)Z"⟩
def dkwX0_isMendedBy_3 : List UInt8 := [172]
abbrev dktX0_isMendedBy_3 : List UInt8 := dkwX0_isMendedBy_3 ++ []
def dkwX0_isMendedBy_2 : List UInt8 := [185, 0, 188, 2, 0, 192, 0, 85, 180, 0, 195, 128, 29, 184, 0, 230, 153, 0, 7, 4, 167, 0, 4, 3]
abbrev dktX0_isMendedBy_2 : List UInt8 := dkwX0_isMendedBy_2 ++ dktX0_isMendedBy_3
def dkwX0_isMendedBy_1 : List UInt8 := [180, 0, 12, 27, 185, 0, 188, 2, 0, 192, 0, 85, 180, 0, 195, 42, 180, 0, 12, 28]
abbrev dktX0_isMendedBy_1 : List UInt8 := dkwX0_isMendedBy_1 ++ dktX0_isMendedBy_2
def dkwX0_isMendedBy_0 : List UInt8 := [42, 180, 0, 12, 27, 185, 0, 188, 2, 0, 192, 0, 85, 180, 0, 198, 62, 29, 16, 6, 159, 0, 43, 42]
abbrev dktX0_isMendedBy_0 : List UInt8 := dkwX0_isMendedBy_0 ++ dktX0_isMendedBy_1
theorem dksX0_isMendedBy_0 : cX0_isMendedBy.data.toList.drop 0 = dktX0_isMendedBy_0 := by decide +kernel
theorem dksX0_isMendedBy_1 : cX0_isMendedBy.data.toList.drop 24 = dktX0_isMendedBy_1 := dk_seg dksX0_isMendedBy_0 24 rfl rfl
theorem dksX0_isMendedBy_2 : cX0_isMendedBy.data.toList.drop 44 = dktX0_isMendedBy_2 := dk_seg dksX0_isMendedBy_1 20 rfl rfl
theorem dksX0_isMendedBy_3 : cX0_isMendedBy.data.toList.drop 68 = dktX0_isMendedBy_3 := dk_seg dksX0_isMendedBy_2 24 rfl rfl
theorem dX0_isMendedBy_0 : decode cX0_isMendedBy 0 = .ok (.aload_n 0, 1) := dk_42 (dk_at dksX0_isMendedBy_0 0 rfl rfl)
theorem dX0_isMendedBy_1 : decode cX0_isMendedBy 1 = .ok (.getfield 12, 3) := dk_180 0 12 (dk_at dksX0_isMendedBy_0 1 rfl rfl)
theorem dX0_isMendedBy_4 : decode cX0_isMendedBy 4 = .ok (.iload_n 1, 1) := dk_27 (dk_at dksX0_isMendedBy_0 4 rfl rfl)
theorem dX0_isMendedBy_5 : decode cX0_isMendedBy 5 = .ok (.invokeinterface 188 2, 5) := by decide +kernel
theorem dX0_isMendedBy_10 : decode cX0_isMendedBy 10 = .ok (.checkcast 85, 3) := dk_192 0 85 (dk_at dksX0_isMendedBy_0 10 rfl rfl)
theorem dX0_isMendedBy_13 : decode cX0_isMendedBy 13 = .ok (.getfield 198, 3) := dk_180 0 198 (dk_at dksX0_isMendedBy_0 13 rfl rfl)
theorem dX0_isMendedBy_16 : decode cX0_isMendedBy 16 = .ok (.istore_n 3, 1) := dk_62 (dk_at dksX0_isMendedBy_0 16 rfl rfl)
theorem dX0_isMendedBy_17 : decode cX0_isMendedBy 17 = .ok (.iload_n 3, 1) := dk_29 (dk_at dksX0_isMendedBy_0 17 rfl rfl)
theorem dX0_isMendedBy_18 : decode cX0_isMendedBy 18 = .ok (.bipush 6, 2) := dk_16 6 (dk_at dksX0_isMendedBy_0 18 rfl rfl)
theorem dX0_isMendedBy_20 : decode cX0_isMendedBy 20 = .ok (.if_icmp .eq 43, 3) := dk_159 0 43 (dk_at dksX0_isMendedBy_0 20 rfl rfl)
theorem dX0_isMendedBy_23 : decode cX0_isMendedBy 23 = .ok (.aload_n 0, 1) := dk_42 (dk_at dksX0_isMendedBy_0 23 rfl rfl)
theorem dX0_isMendedBy_24 : decode cX0_isMendedBy 24 = .ok (.getfield 12, 3) := dk_180 0 12 (dk_at dksX0_isMendedBy_1 0 rfl rfl)
theorem dX0_isMendedBy_27 : decode cX0_isMendedBy 27 = .ok (.iload_n 1, 1) := dk_27 (dk_at dksX0_isMendedBy_1 3 rfl rfl)
theorem dX0_isMendedBy_28 : decode cX0_isMendedBy 28 = .ok (.invokeinterface 188 2, 5) := by decide +kernel
theorem dX0_isMendedBy_33 : decode cX0_isMendedBy 33 = .ok (.checkcast 85, 3) := dk_192 0 85 (dk_at dksX0_isMendedBy_1 9 rfl rfl)
theorem dX0_isMendedBy_36 : decode cX0_isMendedBy 36 = .ok (.getfield 195, 3) := dk_180 0 195 (dk_at dksX0_isMendedBy_1 12 rfl rfl)
theorem dX0_isMendedBy_39 : decode cX0_isMendedBy 39 = .ok (.aload_n 0, 1) := dk_42 (dk_at dksX0_isMendedBy_1 15 rfl rfl)
theorem dX0_isMendedBy_40 : decode cX0_isMendedBy 40 = .ok (.getfield 12, 3) := dk_180 0 12 (dk_at dksX0_isMendedBy_1 16 rfl rfl)
theorem dX0_isMendedBy_43 : decode cX0_isMendedBy 43 = .ok (.iload_n 2, 1) := dk_28 (dk_at dksX0_isMendedBy_1 19 rfl rfl)
theorem dX0_isMendedBy_44 : decode cX0_isMendedBy 44 = .ok (.invokeinterface 188 2, 5) := by decide +kernel
theorem dX0_isMendedBy_49 : decode cX0_isMendedBy 49 = .ok (.checkcast 85, 3) := dk_192 0 85 (dk_at dksX0_isMendedBy_2 5 rfl rfl)
theorem dX0_isMendedBy_52 : decode cX0_isMendedBy 52 = .ok (.getfield 195, 3) := dk_180 0 195 (dk_at dksX0_isMendedBy_2 8 rfl rfl)
theorem dX0_isMendedBy_55 : decode cX0_isMendedBy 55 = .ok (.ior, 1) := dk_128 (dk_at dksX0_isMendedBy_2 11 rfl rfl)
theorem dX0_isMendedBy_56 : decode cX0_isMendedBy 56 = .ok (.iload_n 3, 1) := dk_29 (dk_at dksX0_isMendedBy_2 12 rfl rfl)
theorem dX0_isMendedBy_57 : decode cX0_isMendedBy 57 = .ok (.invokestatic 230, 3) := dk_184 0 230 (dk_at dksX0_isMendedBy_2 13 rfl rfl)
theorem dX0_isMendedBy_60 : decode cX0_isMendedBy 60 = .ok (.ifCond .eq 7, 3) := dk_153 0 7 (dk_at dksX0_isMendedBy_2 16 rfl rfl)
theorem dX0_isMendedBy_63 : decode cX0_isMendedBy 63 = .ok (.iconst 1, 1) := dk_4 (dk_at dksX0_isMendedBy_2 19 rfl rfl)
theorem dX0_isMendedBy_64 : decode cX0_isMendedBy 64 = .ok (.goto 4, 3) := dk_167 0 4 (dk_at dksX0_isMendedBy_2 20 rfl rfl)
theorem dX0_isMendedBy_67 : decode cX0_isMendedBy 67 = .ok (.iconst 0, 1) := dk_3 (dk_at dksX0_isMendedBy_2 23 rfl rfl)
theorem dX0_isMendedBy_68 : decode cX0_isMendedBy 68 = .ok (.ireturn, 1) := dk_172 (dk_at dksX0_isMendedBy_3 0 rfl rfl)
abbrev cX0_help : ByteArray := prog_1_method_44_code
def yX0_help : MethodName := ⟨RX0, "help", "(I)I"⟩
def dkwX0_help_4 : List UInt8 := [167, 255, 177, 28, 172]
abbrev dktX0_help_4 : List UInt8 := dkwX0_help_4 ++ []
def dkwX0_help_3 : List UInt8 := [2, 130, 126, 25, 4, 180, 0, 198, 184, 0, 230, 153, 0, 7, 4, 167, 0, 4, 3, 96, 61, 132, 3, 1]
abbrev dktX0_help_3 : List UInt8 := dkwX0_help_3 ++ dktX0_help_4
def dkwX0_help_2 : List UInt8 := [159, 0, 42, 42, 180, 0, 12, 27, 185, 0, 188, 2, 0, 192, 0, 85, 180, 0, 195, 25, 4, 180, 0, 195]
abbrev dktX0_help_2 : List UInt8 := dkwX0_help_2 ++ dktX0_help_3
def dkwX0_help_1 : List UInt8 := [180, 0, 12, 29, 185, 0, 188, 2, 0, 192, 0, 85, 58, 4, 28, 25, 4, 180, 0, 198, 16, 6]
abbrev dktX0_help_1 : List UInt8 := dkwX0_help_1 ++ dktX0_help_2
def dkwX0_help_0 : List UInt8 := [42, 27, 182, 0, 185, 154, 0, 5, 2, 172, 3, 61, 3, 62, 29, 42, 182, 0, 106, 162, 0, 77, 42]
abbrev dktX0_help_0 : List UInt8 := dkwX0_help_0 ++ dktX0_help_1
theorem dksX0_help_0 : cX0_help.data.toList.drop 0 = dktX0_help_0 := by decide +kernel
theorem dksX0_help_1 : cX0_help.data.toList.drop 23 = dktX0_help_1 := dk_seg dksX0_help_0 23 rfl rfl
theorem dksX0_help_2 : cX0_help.data.toList.drop 45 = dktX0_help_2 := dk_seg dksX0_help_1 22 rfl rfl
theorem dksX0_help_3 : cX0_help.data.toList.drop 69 = dktX0_help_3 := dk_seg dksX0_help_2 24 rfl rfl
theorem dksX0_help_4 : cX0_help.data.toList.drop 93 = dktX0_help_4 := dk_seg dksX0_help_3 24 rfl rfl
theorem dX0_help_0 : decode cX0_help 0 = .ok (.aload_n 0, 1) := dk_42 (dk_at dksX0_help_0 0 rfl rfl)
theorem dX0_help_1 : decode cX0_help 1 = .ok (.iload_n 1, 1) := dk_27 (dk_at dksX0_help_0 1 rfl rfl)
theorem dX0_help_2 : decode cX0_help 2 = .ok (.invokevirtual 185, 3) := dk_182 0 185 (dk_at dksX0_help_0 2 rfl rfl)
theorem dX0_help_5 : decode cX0_help 5 = .ok (.ifCond .ne 5, 3) := dk_154 0 5 (dk_at dksX0_help_0 5 rfl rfl)
theorem dX0_help_8 : decode cX0_help 8 = .ok (.iconst (-1), 1) := dk_2 (dk_at dksX0_help_0 8 rfl rfl)
theorem dX0_help_9 : decode cX0_help 9 = .ok (.ireturn, 1) := dk_172 (dk_at dksX0_help_0 9 rfl rfl)
theorem dX0_help_10 : decode cX0_help 10 = .ok (.iconst 0, 1) := dk_3 (dk_at dksX0_help_0 10 rfl rfl)
theorem dX0_help_11 : decode cX0_help 11 = .ok (.istore_n 2, 1) := dk_61 (dk_at dksX0_help_0 11 rfl rfl)
theorem dX0_help_12 : decode cX0_help 12 = .ok (.iconst 0, 1) := dk_3 (dk_at dksX0_help_0 12 rfl rfl)
theorem dX0_help_13 : decode cX0_help 13 = .ok (.istore_n 3, 1) := dk_62 (dk_at dksX0_help_0 13 rfl rfl)
theorem dX0_help_14 : decode cX0_help 14 = .ok (.iload_n 3, 1) := dk_29 (dk_at dksX0_help_0 14 rfl rfl)
theorem dX0_help_15 : decode cX0_help 15 = .ok (.aload_n 0, 1) := dk_42 (dk_at dksX0_help_0 15 rfl rfl)
theorem dX0_help_16 : decode cX0_help 16 = .ok (.invokevirtual 106, 3) := dk_182 0 106 (dk_at dksX0_help_0 16 rfl rfl)
theorem dX0_help_19 : decode cX0_help 19 = .ok (.if_icmp .ge 77, 3) := dk_162 0 77 (dk_at dksX0_help_0 19 rfl rfl)
theorem dX0_help_22 : decode cX0_help 22 = .ok (.aload_n 0, 1) := dk_42 (dk_at dksX0_help_0 22 rfl rfl)
theorem dX0_help_23 : decode cX0_help 23 = .ok (.getfield 12, 3) := dk_180 0 12 (dk_at dksX0_help_1 0 rfl rfl)
theorem dX0_help_26 : decode cX0_help 26 = .ok (.iload_n 3, 1) := dk_29 (dk_at dksX0_help_1 3 rfl rfl)
theorem dX0_help_27 : decode cX0_help 27 = .ok (.invokeinterface 188 2, 5) := by decide +kernel
theorem dX0_help_32 : decode cX0_help 32 = .ok (.checkcast 85, 3) := dk_192 0 85 (dk_at dksX0_help_1 9 rfl rfl)
theorem dX0_help_35 : decode cX0_help 35 = .ok (.astore 4, 2) := dk_58 4 (dk_at dksX0_help_1 12 rfl rfl)
theorem dX0_help_37 : decode cX0_help 37 = .ok (.iload_n 2, 1) := dk_28 (dk_at dksX0_help_1 14 rfl rfl)
theorem dX0_help_38 : decode cX0_help 38 = .ok (.aload 4, 2) := dk_25 4 (dk_at dksX0_help_1 15 rfl rfl)
theorem dX0_help_40 : decode cX0_help 40 = .ok (.getfield 198, 3) := dk_180 0 198 (dk_at dksX0_help_1 17 rfl rfl)
theorem dX0_help_43 : decode cX0_help 43 = .ok (.bipush 6, 2) := dk_16 6 (dk_at dksX0_help_1 20 rfl rfl)
theorem dX0_help_45 : decode cX0_help 45 = .ok (.if_icmp .eq 42, 3) := dk_159 0 42 (dk_at dksX0_help_2 0 rfl rfl)
theorem dX0_help_48 : decode cX0_help 48 = .ok (.aload_n 0, 1) := dk_42 (dk_at dksX0_help_2 3 rfl rfl)
theorem dX0_help_49 : decode cX0_help 49 = .ok (.getfield 12, 3) := dk_180 0 12 (dk_at dksX0_help_2 4 rfl rfl)
theorem dX0_help_52 : decode cX0_help 52 = .ok (.iload_n 1, 1) := dk_27 (dk_at dksX0_help_2 7 rfl rfl)
theorem dX0_help_53 : decode cX0_help 53 = .ok (.invokeinterface 188 2, 5) := by decide +kernel
theorem dX0_help_58 : decode cX0_help 58 = .ok (.checkcast 85, 3) := dk_192 0 85 (dk_at dksX0_help_2 13 rfl rfl)
theorem dX0_help_61 : decode cX0_help 61 = .ok (.getfield 195, 3) := dk_180 0 195 (dk_at dksX0_help_2 16 rfl rfl)
theorem dX0_help_64 : decode cX0_help 64 = .ok (.aload 4, 2) := dk_25 4 (dk_at dksX0_help_2 19 rfl rfl)
theorem dX0_help_66 : decode cX0_help 66 = .ok (.getfield 195, 3) := dk_180 0 195 (dk_at dksX0_help_2 21 rfl rfl)
theorem dX0_help_69 : decode cX0_help 69 = .ok (.iconst (-1), 1) := dk_2 (dk_at dksX0_help_3 0 rfl rfl)
theorem dX0_help_70 : decode cX0_help 70 = .ok (.ixor, 1) := dk_130 (dk_at dksX0_help_3 1 rfl rfl)
theorem dX0_help_71 : decode cX0_help 71 = .ok (.iand, 1) := dk_126 (dk_at dksX0_help_3 2 rfl rfl)
theorem dX0_help_72 : decode cX0_help 72 = .ok (.aload 4, 2) := dk_25 4 (dk_at dksX0_help_3 3 rfl rfl)
theorem dX0_help_74 : decode cX0_help 74 = .ok (.getfield 198, 3) := dk_180 0 198 (dk_at dksX0_help_3 5 rfl rfl)
theorem dX0_help_77 : decode cX0_help 77 = .ok (.invokestatic 230, 3) := dk_184 0 230 (dk_at dksX0_help_3 8 rfl rfl)
theorem dX0_help_80 : decode cX0_help 80 = .ok (.ifCond .eq 7, 3) := dk_153 0 7 (dk_at dksX0_help_3 11 rfl rfl)
theorem dX0_help_83 : decode cX0_help 83 = .ok (.iconst 1, 1) := dk_4 (dk_at dksX0_help_3 14 rfl rfl)
theorem dX0_help_84 : decode cX0_help 84 = .ok (.goto 4, 3) := dk_167 0 4 (dk_at dksX0_help_3 15 rfl rfl)
theorem dX0_help_87 : decode cX0_help 87 = .ok (.iconst 0, 1) := dk_3 (dk_at dksX0_help_3 18 rfl rfl)
theorem dX0_help_88 : decode cX0_help 88 = .ok (.iadd, 1) := dk_96 (dk_at dksX0_help_3 19 rfl rfl)
theorem dX0_help_89 : decode cX0_help 89 = .ok (.istore_n 2, 1) := dk_61 (dk_at dksX0_help_3 20 rfl rfl)
theorem dX0_help_90 : decode cX0_help 90 = .ok (.iinc 3 1, 3) := dk_132 3 1 (dk_at dksX0_help_3 21 rfl rfl)
theorem dX0_help_93 : decode cX0_help 93 = .ok (.goto (-79), 3) := dk_167 255 177 (dk_at dksX0_help_4 0 rfl rfl)
theorem dX0_help_96 : decode cX0_help 96 = .ok (.iload_n 2, 1) := dk_28 (dk_at dksX0_help_4 3 rfl rfl)
theorem dX0_help_97 : decode cX0_help 97 = .ok (.ireturn, 1) := dk_172 (dk_at dksX0_help_4 4 rfl rfl)
abbrev cX0_reading : ByteArray := prog_1_method_45_code
def yX0_reading : MethodName := ⟨RX0, "reading", "(IIZ)I"⟩
def dkwX0_reading_3 : List UInt8 := [180, 0, 147, 4, 100, 172]
abbrev dktX0_reading_3 : List UInt8 := dkwX0_reading_3 ++ []
def dkwX0_reading_2 : List UInt8 := [28, 79, 42, 180, 0, 59, 42, 180, 0, 147, 29, 84, 42, 89, 180, 0, 147, 4, 96, 181, 0, 147, 42]
abbrev dktX0_reading_2 : List UInt8 := dkwX0_reading_2 ++ dktX0_reading_3
def dkwX0_reading_1 : List UInt8 := [160, 0, 6, 16, 252, 172, 42, 180, 0, 53, 42, 180, 0, 147, 27, 79, 42, 180, 0, 56, 42, 180, 0, 147]
abbrev dktX0_reading_1 : List UInt8 := dkwX0_reading_1 ++ dktX0_reading_2
def dkwX0_reading_0 : List UInt8 := [42, 27, 182, 0, 185, 153, 0, 10, 28, 184, 1, 69, 154, 0, 5, 2, 172, 42, 180, 0, 147, 16, 8]
abbrev dktX0_reading_0 : List UInt8 := dkwX0_reading_0 ++ dktX0_reading_1
theorem dksX0_reading_0 : cX0_reading.data.toList.drop 0 = dktX0_reading_0 := by decide +kernel
theorem dksX0_reading_1 : cX0_reading.data.toList.drop 23 = dktX0_reading_1 := dk_seg dksX0_reading_0 23 rfl rfl
theorem dksX0_reading_2 : cX0_reading.data.toList.drop 47 = dktX0_reading_2 := dk_seg dksX0_reading_1 24 rfl rfl
theorem dksX0_reading_3 : cX0_reading.data.toList.drop 70 = dktX0_reading_3 := dk_seg dksX0_reading_2 23 rfl rfl
theorem dX0_reading_0 : decode cX0_reading 0 = .ok (.aload_n 0, 1) := dk_42 (dk_at dksX0_reading_0 0 rfl rfl)
theorem dX0_reading_1 : decode cX0_reading 1 = .ok (.iload_n 1, 1) := dk_27 (dk_at dksX0_reading_0 1 rfl rfl)
theorem dX0_reading_2 : decode cX0_reading 2 = .ok (.invokevirtual 185, 3) := dk_182 0 185 (dk_at dksX0_reading_0 2 rfl rfl)
theorem dX0_reading_5 : decode cX0_reading 5 = .ok (.ifCond .eq 10, 3) := dk_153 0 10 (dk_at dksX0_reading_0 5 rfl rfl)
theorem dX0_reading_8 : decode cX0_reading 8 = .ok (.iload_n 2, 1) := dk_28 (dk_at dksX0_reading_0 8 rfl rfl)
theorem dX0_reading_9 : decode cX0_reading 9 = .ok (.invokestatic 325, 3) := dk_184 1 69 (dk_at dksX0_reading_0 9 rfl rfl)
theorem dX0_reading_12 : decode cX0_reading 12 = .ok (.ifCond .ne 5, 3) := dk_154 0 5 (dk_at dksX0_reading_0 12 rfl rfl)
theorem dX0_reading_15 : decode cX0_reading 15 = .ok (.iconst (-1), 1) := dk_2 (dk_at dksX0_reading_0 15 rfl rfl)
theorem dX0_reading_16 : decode cX0_reading 16 = .ok (.ireturn, 1) := dk_172 (dk_at dksX0_reading_0 16 rfl rfl)
theorem dX0_reading_17 : decode cX0_reading 17 = .ok (.aload_n 0, 1) := dk_42 (dk_at dksX0_reading_0 17 rfl rfl)
theorem dX0_reading_18 : decode cX0_reading 18 = .ok (.getfield 147, 3) := dk_180 0 147 (dk_at dksX0_reading_0 18 rfl rfl)
theorem dX0_reading_21 : decode cX0_reading 21 = .ok (.bipush 8, 2) := dk_16 8 (dk_at dksX0_reading_0 21 rfl rfl)
theorem dX0_reading_23 : decode cX0_reading 23 = .ok (.if_icmp .ne 6, 3) := dk_160 0 6 (dk_at dksX0_reading_1 0 rfl rfl)
theorem dX0_reading_26 : decode cX0_reading 26 = .ok (.bipush (-4), 2) := dk_16 252 (dk_at dksX0_reading_1 3 rfl rfl)
theorem dX0_reading_28 : decode cX0_reading 28 = .ok (.ireturn, 1) := dk_172 (dk_at dksX0_reading_1 5 rfl rfl)
theorem dX0_reading_29 : decode cX0_reading 29 = .ok (.aload_n 0, 1) := dk_42 (dk_at dksX0_reading_1 6 rfl rfl)
theorem dX0_reading_30 : decode cX0_reading 30 = .ok (.getfield 53, 3) := dk_180 0 53 (dk_at dksX0_reading_1 7 rfl rfl)
theorem dX0_reading_33 : decode cX0_reading 33 = .ok (.aload_n 0, 1) := dk_42 (dk_at dksX0_reading_1 10 rfl rfl)
theorem dX0_reading_34 : decode cX0_reading 34 = .ok (.getfield 147, 3) := dk_180 0 147 (dk_at dksX0_reading_1 11 rfl rfl)
theorem dX0_reading_37 : decode cX0_reading 37 = .ok (.iload_n 1, 1) := dk_27 (dk_at dksX0_reading_1 14 rfl rfl)
theorem dX0_reading_38 : decode cX0_reading 38 = .ok (.iastore, 1) := dk_79 (dk_at dksX0_reading_1 15 rfl rfl)
theorem dX0_reading_39 : decode cX0_reading 39 = .ok (.aload_n 0, 1) := dk_42 (dk_at dksX0_reading_1 16 rfl rfl)
theorem dX0_reading_40 : decode cX0_reading 40 = .ok (.getfield 56, 3) := dk_180 0 56 (dk_at dksX0_reading_1 17 rfl rfl)
theorem dX0_reading_43 : decode cX0_reading 43 = .ok (.aload_n 0, 1) := dk_42 (dk_at dksX0_reading_1 20 rfl rfl)
theorem dX0_reading_44 : decode cX0_reading 44 = .ok (.getfield 147, 3) := dk_180 0 147 (dk_at dksX0_reading_1 21 rfl rfl)
theorem dX0_reading_47 : decode cX0_reading 47 = .ok (.iload_n 2, 1) := dk_28 (dk_at dksX0_reading_2 0 rfl rfl)
theorem dX0_reading_48 : decode cX0_reading 48 = .ok (.iastore, 1) := dk_79 (dk_at dksX0_reading_2 1 rfl rfl)
theorem dX0_reading_49 : decode cX0_reading 49 = .ok (.aload_n 0, 1) := dk_42 (dk_at dksX0_reading_2 2 rfl rfl)
theorem dX0_reading_50 : decode cX0_reading 50 = .ok (.getfield 59, 3) := dk_180 0 59 (dk_at dksX0_reading_2 3 rfl rfl)
theorem dX0_reading_53 : decode cX0_reading 53 = .ok (.aload_n 0, 1) := dk_42 (dk_at dksX0_reading_2 6 rfl rfl)
theorem dX0_reading_54 : decode cX0_reading 54 = .ok (.getfield 147, 3) := dk_180 0 147 (dk_at dksX0_reading_2 7 rfl rfl)
theorem dX0_reading_57 : decode cX0_reading 57 = .ok (.iload_n 3, 1) := dk_29 (dk_at dksX0_reading_2 10 rfl rfl)
theorem dX0_reading_58 : decode cX0_reading 58 = .ok (.bastore, 1) := dk_84 (dk_at dksX0_reading_2 11 rfl rfl)
theorem dX0_reading_59 : decode cX0_reading 59 = .ok (.aload_n 0, 1) := dk_42 (dk_at dksX0_reading_2 12 rfl rfl)
theorem dX0_reading_60 : decode cX0_reading 60 = .ok (.dup, 1) := dk_89 (dk_at dksX0_reading_2 13 rfl rfl)
theorem dX0_reading_61 : decode cX0_reading 61 = .ok (.getfield 147, 3) := dk_180 0 147 (dk_at dksX0_reading_2 14 rfl rfl)
theorem dX0_reading_64 : decode cX0_reading 64 = .ok (.iconst 1, 1) := dk_4 (dk_at dksX0_reading_2 17 rfl rfl)
theorem dX0_reading_65 : decode cX0_reading 65 = .ok (.iadd, 1) := dk_96 (dk_at dksX0_reading_2 18 rfl rfl)
theorem dX0_reading_66 : decode cX0_reading 66 = .ok (.putfield 147, 3) := dk_181 0 147 (dk_at dksX0_reading_2 19 rfl rfl)
theorem dX0_reading_69 : decode cX0_reading 69 = .ok (.aload_n 0, 1) := dk_42 (dk_at dksX0_reading_2 22 rfl rfl)
theorem dX0_reading_70 : decode cX0_reading 70 = .ok (.getfield 147, 3) := dk_180 0 147 (dk_at dksX0_reading_3 0 rfl rfl)
theorem dX0_reading_73 : decode cX0_reading 73 = .ok (.iconst 1, 1) := dk_4 (dk_at dksX0_reading_3 3 rfl rfl)
theorem dX0_reading_74 : decode cX0_reading 74 = .ok (.isub, 1) := dk_100 (dk_at dksX0_reading_3 4 rfl rfl)
theorem dX0_reading_75 : decode cX0_reading 75 = .ok (.ireturn, 1) := dk_172 (dk_at dksX0_reading_3 5 rfl rfl)
abbrev cX0_isScene : ByteArray := prog_1_method_3_code
def yX0_isScene : MethodName := ⟨RX0, "isScene", "(I)Z"⟩
def dkwX0_isScene_0 : List UInt8 := [26, 133, 9, 20, 0, 71, 184, 0, 73, 172]
abbrev dktX0_isScene_0 : List UInt8 := dkwX0_isScene_0 ++ []
theorem dksX0_isScene_0 : cX0_isScene.data.toList.drop 0 = dktX0_isScene_0 := by decide +kernel
theorem dX0_isScene_0 : decode cX0_isScene 0 = .ok (.iload_n 0, 1) := dk_26 (dk_at dksX0_isScene_0 0 rfl rfl)
theorem dX0_isScene_1 : decode cX0_isScene 1 = .ok (.i2l, 1) := dk_133 (dk_at dksX0_isScene_0 1 rfl rfl)
theorem dX0_isScene_2 : decode cX0_isScene 2 = .ok (.lconst 0, 1) := dk_9 (dk_at dksX0_isScene_0 2 rfl rfl)
theorem dX0_isScene_3 : decode cX0_isScene 3 = .ok (.ldc2_w 71, 3) := dk_20 0 71 (dk_at dksX0_isScene_0 3 rfl rfl)
theorem dX0_isScene_6 : decode cX0_isScene 6 = .ok (.invokestatic 73, 3) := dk_184 0 73 (dk_at dksX0_isScene_0 6 rfl rfl)
theorem dX0_isScene_9 : decode cX0_isScene 9 = .ok (.ireturn, 1) := dk_172 (dk_at dksX0_isScene_0 9 rfl rfl)
abbrev cX0_back : ByteArray := prog_1_method_46_code
def yX0_back : MethodName := ⟨RX0, "back", "(I)I"⟩
def dkwX0_back_1 : List UInt8 := [181, 0, 147, 42, 180, 0, 147, 172]
abbrev dktX0_back_1 : List UInt8 := dkwX0_back_1 ++ []
def dkwX0_back_0 : List UInt8 := [27, 133, 9, 42, 180, 0, 147, 133, 184, 0, 73, 154, 0, 6, 16, 254, 172, 42, 89, 180, 0, 147, 27, 100]
abbrev dktX0_back_0 : List UInt8 := dkwX0_back_0 ++ dktX0_back_1
theorem dksX0_back_0 : cX0_back.data.toList.drop 0 = dktX0_back_0 := by decide +kernel
theorem dksX0_back_1 : cX0_back.data.toList.drop 24 = dktX0_back_1 := dk_seg dksX0_back_0 24 rfl rfl
theorem dX0_back_0 : decode cX0_back 0 = .ok (.iload_n 1, 1) := dk_27 (dk_at dksX0_back_0 0 rfl rfl)
theorem dX0_back_1 : decode cX0_back 1 = .ok (.i2l, 1) := dk_133 (dk_at dksX0_back_0 1 rfl rfl)
theorem dX0_back_2 : decode cX0_back 2 = .ok (.lconst 0, 1) := dk_9 (dk_at dksX0_back_0 2 rfl rfl)
theorem dX0_back_3 : decode cX0_back 3 = .ok (.aload_n 0, 1) := dk_42 (dk_at dksX0_back_0 3 rfl rfl)
theorem dX0_back_4 : decode cX0_back 4 = .ok (.getfield 147, 3) := dk_180 0 147 (dk_at dksX0_back_0 4 rfl rfl)
theorem dX0_back_7 : decode cX0_back 7 = .ok (.i2l, 1) := dk_133 (dk_at dksX0_back_0 7 rfl rfl)
theorem dX0_back_8 : decode cX0_back 8 = .ok (.invokestatic 73, 3) := dk_184 0 73 (dk_at dksX0_back_0 8 rfl rfl)
theorem dX0_back_11 : decode cX0_back 11 = .ok (.ifCond .ne 6, 3) := dk_154 0 6 (dk_at dksX0_back_0 11 rfl rfl)
theorem dX0_back_14 : decode cX0_back 14 = .ok (.bipush (-2), 2) := dk_16 254 (dk_at dksX0_back_0 14 rfl rfl)
theorem dX0_back_16 : decode cX0_back 16 = .ok (.ireturn, 1) := dk_172 (dk_at dksX0_back_0 16 rfl rfl)
theorem dX0_back_17 : decode cX0_back 17 = .ok (.aload_n 0, 1) := dk_42 (dk_at dksX0_back_0 17 rfl rfl)
theorem dX0_back_18 : decode cX0_back 18 = .ok (.dup, 1) := dk_89 (dk_at dksX0_back_0 18 rfl rfl)
theorem dX0_back_19 : decode cX0_back 19 = .ok (.getfield 147, 3) := dk_180 0 147 (dk_at dksX0_back_0 19 rfl rfl)
theorem dX0_back_22 : decode cX0_back 22 = .ok (.iload_n 1, 1) := dk_27 (dk_at dksX0_back_0 22 rfl rfl)
theorem dX0_back_23 : decode cX0_back 23 = .ok (.isub, 1) := dk_100 (dk_at dksX0_back_0 23 rfl rfl)
theorem dX0_back_24 : decode cX0_back 24 = .ok (.putfield 147, 3) := dk_181 0 147 (dk_at dksX0_back_1 0 rfl rfl)
theorem dX0_back_27 : decode cX0_back 27 = .ok (.aload_n 0, 1) := dk_42 (dk_at dksX0_back_1 3 rfl rfl)
theorem dX0_back_28 : decode cX0_back 28 = .ok (.getfield 147, 3) := dk_180 0 147 (dk_at dksX0_back_1 4 rfl rfl)
theorem dX0_back_31 : decode cX0_back 31 = .ok (.ireturn, 1) := dk_172 (dk_at dksX0_back_1 7 rfl rfl)
abbrev cX0_told : ByteArray := prog_1_method_52_code
def yX0_told : MethodName := ⟨RX0, "told", "(IIIIII)I"⟩
def dkwX0_told_0 : List UInt8 := [42, 27, 28, 29, 21, 4, 21, 5, 21, 6, 3, 182, 1, 92, 172]
abbrev dktX0_told_0 : List UInt8 := dkwX0_told_0 ++ []
theorem dksX0_told_0 : cX0_told.data.toList.drop 0 = dktX0_told_0 := by decide +kernel
theorem dX0_told_0 : decode cX0_told 0 = .ok (.aload_n 0, 1) := dk_42 (dk_at dksX0_told_0 0 rfl rfl)
theorem dX0_told_1 : decode cX0_told 1 = .ok (.iload_n 1, 1) := dk_27 (dk_at dksX0_told_0 1 rfl rfl)
theorem dX0_told_2 : decode cX0_told 2 = .ok (.iload_n 2, 1) := dk_28 (dk_at dksX0_told_0 2 rfl rfl)
theorem dX0_told_3 : decode cX0_told 3 = .ok (.iload_n 3, 1) := dk_29 (dk_at dksX0_told_0 3 rfl rfl)
theorem dX0_told_4 : decode cX0_told 4 = .ok (.iload 4, 2) := dk_21 4 (dk_at dksX0_told_0 4 rfl rfl)
theorem dX0_told_6 : decode cX0_told 6 = .ok (.iload 5, 2) := dk_21 5 (dk_at dksX0_told_0 6 rfl rfl)
theorem dX0_told_8 : decode cX0_told 8 = .ok (.iload 6, 2) := dk_21 6 (dk_at dksX0_told_0 8 rfl rfl)
theorem dX0_told_10 : decode cX0_told 10 = .ok (.iconst 0, 1) := dk_3 (dk_at dksX0_told_0 10 rfl rfl)
theorem dX0_told_11 : decode cX0_told 11 = .ok (.invokevirtual 348, 3) := dk_182 1 92 (dk_at dksX0_told_0 11 rfl rfl)
theorem dX0_told_14 : decode cX0_told 14 = .ok (.ireturn, 1) := dk_172 (dk_at dksX0_told_0 14 rfl rfl)
abbrev cX0_asked : ByteArray := prog_1_method_51_code
def yX0_asked : MethodName := ⟨RX0, "asked", "(IIIIIII)I"⟩
def dkwX0_asked_8 : List UInt8 := [182, 0, 175, 172]
abbrev dktX0_asked_8 : List UInt8 := dkwX0_asked_8 ++ []
def dkwX0_asked_7 : List UInt8 := [182, 1, 89, 172, 58, 8, 42, 5, 182, 0, 175, 172, 58, 8, 42, 4, 182, 0, 175, 172, 58, 8, 42, 6]
abbrev dktX0_asked_7 : List UInt8 := dkwX0_asked_7 ++ dktX0_asked_8
def dkwX0_asked_6 : List UInt8 := [25, 8, 182, 1, 85, 167, 0, 22, 42, 42, 180, 0, 12, 27, 185, 0, 188, 2, 0, 192, 0, 85, 25, 8]
abbrev dktX0_asked_6 : List UInt8 := dkwX0_asked_6 ++ dktX0_asked_7
def dkwX0_asked_5 : List UInt8 := [167, 0, 50, 21, 7, 4, 160, 0, 25, 42, 42, 180, 0, 12, 27, 185, 0, 188, 2, 0, 192, 0, 85]
abbrev dktX0_asked_5 : List UInt8 := dkwX0_asked_5 ++ dktX0_asked_6
def dkwX0_asked_4 : List UInt8 := [154, 0, 27, 42, 42, 180, 0, 12, 27, 185, 0, 188, 2, 0, 192, 0, 85, 25, 8, 21, 6, 182, 1, 81]
abbrev dktX0_asked_4 : List UInt8 := dkwX0_asked_4 ++ dktX0_asked_5
def dkwX0_asked_3 : List UInt8 := [5, 21, 5, 104, 184, 0, 166, 58, 8, 42, 25, 8, 182, 0, 253, 153, 0, 5, 2, 172, 21, 7]
abbrev dktX0_asked_3 : List UInt8 := dkwX0_asked_3 ++ dktX0_asked_4
def dkwX0_asked_2 : List UInt8 := [184, 0, 73, 154, 0, 6, 16, 254, 172, 42, 180, 0, 67, 28, 50, 180, 0, 157, 29, 184, 0, 162, 21, 4]
abbrev dktX0_asked_2 : List UInt8 := dkwX0_asked_2 ++ dktX0_asked_3
def dkwX0_asked_1 : List UInt8 := [184, 0, 154, 153, 0, 27, 21, 5, 133, 9, 20, 1, 15, 184, 0, 73, 153, 0, 14, 21, 6, 133, 9, 10]
abbrev dktX0_asked_1 : List UInt8 := dkwX0_asked_1 ++ dktX0_asked_2
def dkwX0_asked_0 : List UInt8 := [42, 3, 181, 0, 77, 42, 27, 182, 0, 185, 153, 0, 10, 28, 184, 0, 150, 154, 0, 5, 2, 172, 29]
abbrev dktX0_asked_0 : List UInt8 := dkwX0_asked_0 ++ dktX0_asked_1
theorem dksX0_asked_0 : cX0_asked.data.toList.drop 0 = dktX0_asked_0 := by decide +kernel
theorem dksX0_asked_1 : cX0_asked.data.toList.drop 23 = dktX0_asked_1 := dk_seg dksX0_asked_0 23 rfl rfl
theorem dksX0_asked_2 : cX0_asked.data.toList.drop 47 = dktX0_asked_2 := dk_seg dksX0_asked_1 24 rfl rfl
theorem dksX0_asked_3 : cX0_asked.data.toList.drop 71 = dktX0_asked_3 := dk_seg dksX0_asked_2 24 rfl rfl
theorem dksX0_asked_4 : cX0_asked.data.toList.drop 93 = dktX0_asked_4 := dk_seg dksX0_asked_3 22 rfl rfl
theorem dksX0_asked_5 : cX0_asked.data.toList.drop 117 = dktX0_asked_5 := dk_seg dksX0_asked_4 24 rfl rfl
theorem dksX0_asked_6 : cX0_asked.data.toList.drop 140 = dktX0_asked_6 := dk_seg dksX0_asked_5 23 rfl rfl
theorem dksX0_asked_7 : cX0_asked.data.toList.drop 164 = dktX0_asked_7 := dk_seg dksX0_asked_6 24 rfl rfl
theorem dksX0_asked_8 : cX0_asked.data.toList.drop 188 = dktX0_asked_8 := dk_seg dksX0_asked_7 24 rfl rfl
theorem dX0_asked_0 : decode cX0_asked 0 = .ok (.aload_n 0, 1) := dk_42 (dk_at dksX0_asked_0 0 rfl rfl)
theorem dX0_asked_1 : decode cX0_asked 1 = .ok (.iconst 0, 1) := dk_3 (dk_at dksX0_asked_0 1 rfl rfl)
theorem dX0_asked_2 : decode cX0_asked 2 = .ok (.putfield 77, 3) := dk_181 0 77 (dk_at dksX0_asked_0 2 rfl rfl)
theorem dX0_asked_5 : decode cX0_asked 5 = .ok (.aload_n 0, 1) := dk_42 (dk_at dksX0_asked_0 5 rfl rfl)
theorem dX0_asked_6 : decode cX0_asked 6 = .ok (.iload_n 1, 1) := dk_27 (dk_at dksX0_asked_0 6 rfl rfl)
theorem dX0_asked_7 : decode cX0_asked 7 = .ok (.invokevirtual 185, 3) := dk_182 0 185 (dk_at dksX0_asked_0 7 rfl rfl)
theorem dX0_asked_10 : decode cX0_asked 10 = .ok (.ifCond .eq 10, 3) := dk_153 0 10 (dk_at dksX0_asked_0 10 rfl rfl)
theorem dX0_asked_13 : decode cX0_asked 13 = .ok (.iload_n 2, 1) := dk_28 (dk_at dksX0_asked_0 13 rfl rfl)
theorem dX0_asked_14 : decode cX0_asked 14 = .ok (.invokestatic 150, 3) := dk_184 0 150 (dk_at dksX0_asked_0 14 rfl rfl)
theorem dX0_asked_17 : decode cX0_asked 17 = .ok (.ifCond .ne 5, 3) := dk_154 0 5 (dk_at dksX0_asked_0 17 rfl rfl)
theorem dX0_asked_20 : decode cX0_asked 20 = .ok (.iconst (-1), 1) := dk_2 (dk_at dksX0_asked_0 20 rfl rfl)
theorem dX0_asked_21 : decode cX0_asked 21 = .ok (.ireturn, 1) := dk_172 (dk_at dksX0_asked_0 21 rfl rfl)
theorem dX0_asked_22 : decode cX0_asked 22 = .ok (.iload_n 3, 1) := dk_29 (dk_at dksX0_asked_0 22 rfl rfl)
theorem dX0_asked_23 : decode cX0_asked 23 = .ok (.invokestatic 154, 3) := dk_184 0 154 (dk_at dksX0_asked_1 0 rfl rfl)
theorem dX0_asked_26 : decode cX0_asked 26 = .ok (.ifCond .eq 27, 3) := dk_153 0 27 (dk_at dksX0_asked_1 3 rfl rfl)
theorem dX0_asked_29 : decode cX0_asked 29 = .ok (.iload 5, 2) := dk_21 5 (dk_at dksX0_asked_1 6 rfl rfl)
theorem dX0_asked_31 : decode cX0_asked 31 = .ok (.i2l, 1) := dk_133 (dk_at dksX0_asked_1 8 rfl rfl)
theorem dX0_asked_32 : decode cX0_asked 32 = .ok (.lconst 0, 1) := dk_9 (dk_at dksX0_asked_1 9 rfl rfl)
theorem dX0_asked_33 : decode cX0_asked 33 = .ok (.ldc2_w 271, 3) := dk_20 1 15 (dk_at dksX0_asked_1 10 rfl rfl)
theorem dX0_asked_36 : decode cX0_asked 36 = .ok (.invokestatic 73, 3) := dk_184 0 73 (dk_at dksX0_asked_1 13 rfl rfl)
theorem dX0_asked_39 : decode cX0_asked 39 = .ok (.ifCond .eq 14, 3) := dk_153 0 14 (dk_at dksX0_asked_1 16 rfl rfl)
theorem dX0_asked_42 : decode cX0_asked 42 = .ok (.iload 6, 2) := dk_21 6 (dk_at dksX0_asked_1 19 rfl rfl)
theorem dX0_asked_44 : decode cX0_asked 44 = .ok (.i2l, 1) := dk_133 (dk_at dksX0_asked_1 21 rfl rfl)
theorem dX0_asked_45 : decode cX0_asked 45 = .ok (.lconst 0, 1) := dk_9 (dk_at dksX0_asked_1 22 rfl rfl)
theorem dX0_asked_46 : decode cX0_asked 46 = .ok (.lconst 1, 1) := dk_10 (dk_at dksX0_asked_1 23 rfl rfl)
theorem dX0_asked_47 : decode cX0_asked 47 = .ok (.invokestatic 73, 3) := dk_184 0 73 (dk_at dksX0_asked_2 0 rfl rfl)
theorem dX0_asked_50 : decode cX0_asked 50 = .ok (.ifCond .ne 6, 3) := dk_154 0 6 (dk_at dksX0_asked_2 3 rfl rfl)
theorem dX0_asked_53 : decode cX0_asked 53 = .ok (.bipush (-2), 2) := dk_16 254 (dk_at dksX0_asked_2 6 rfl rfl)
theorem dX0_asked_55 : decode cX0_asked 55 = .ok (.ireturn, 1) := dk_172 (dk_at dksX0_asked_2 8 rfl rfl)
theorem dX0_asked_56 : decode cX0_asked 56 = .ok (.aload_n 0, 1) := dk_42 (dk_at dksX0_asked_2 9 rfl rfl)
theorem dX0_asked_57 : decode cX0_asked 57 = .ok (.getfield 67, 3) := dk_180 0 67 (dk_at dksX0_asked_2 10 rfl rfl)
theorem dX0_asked_60 : decode cX0_asked 60 = .ok (.iload_n 2, 1) := dk_28 (dk_at dksX0_asked_2 13 rfl rfl)
theorem dX0_asked_61 : decode cX0_asked 61 = .ok (.aaload, 1) := dk_50 (dk_at dksX0_asked_2 14 rfl rfl)
theorem dX0_asked_62 : decode cX0_asked 62 = .ok (.getfield 157, 3) := dk_180 0 157 (dk_at dksX0_asked_2 15 rfl rfl)
theorem dX0_asked_65 : decode cX0_asked 65 = .ok (.iload_n 3, 1) := dk_29 (dk_at dksX0_asked_2 18 rfl rfl)
theorem dX0_asked_66 : decode cX0_asked 66 = .ok (.invokestatic 162, 3) := dk_184 0 162 (dk_at dksX0_asked_2 19 rfl rfl)
theorem dX0_asked_69 : decode cX0_asked 69 = .ok (.iload 4, 2) := dk_21 4 (dk_at dksX0_asked_2 22 rfl rfl)
theorem dX0_asked_71 : decode cX0_asked 71 = .ok (.iconst 2, 1) := dk_5 (dk_at dksX0_asked_3 0 rfl rfl)
theorem dX0_asked_72 : decode cX0_asked 72 = .ok (.iload 5, 2) := dk_21 5 (dk_at dksX0_asked_3 1 rfl rfl)
theorem dX0_asked_74 : decode cX0_asked 74 = .ok (.imul, 1) := dk_104 (dk_at dksX0_asked_3 3 rfl rfl)
theorem dX0_asked_75 : decode cX0_asked 75 = .ok (.invokestatic 166, 3) := dk_184 0 166 (dk_at dksX0_asked_3 4 rfl rfl)
theorem dX0_asked_78 : decode cX0_asked 78 = .ok (.astore 8, 2) := dk_58 8 (dk_at dksX0_asked_3 7 rfl rfl)
theorem dX0_asked_80 : decode cX0_asked 80 = .ok (.aload_n 0, 1) := dk_42 (dk_at dksX0_asked_3 9 rfl rfl)
theorem dX0_asked_81 : decode cX0_asked 81 = .ok (.aload 8, 2) := dk_25 8 (dk_at dksX0_asked_3 10 rfl rfl)
theorem dX0_asked_83 : decode cX0_asked 83 = .ok (.invokevirtual 253, 3) := dk_182 0 253 (dk_at dksX0_asked_3 12 rfl rfl)
theorem dX0_asked_86 : decode cX0_asked 86 = .ok (.ifCond .eq 5, 3) := dk_153 0 5 (dk_at dksX0_asked_3 15 rfl rfl)
theorem dX0_asked_89 : decode cX0_asked 89 = .ok (.iconst (-1), 1) := dk_2 (dk_at dksX0_asked_3 18 rfl rfl)
theorem dX0_asked_90 : decode cX0_asked 90 = .ok (.ireturn, 1) := dk_172 (dk_at dksX0_asked_3 19 rfl rfl)
theorem dX0_asked_91 : decode cX0_asked 91 = .ok (.iload 7, 2) := dk_21 7 (dk_at dksX0_asked_3 20 rfl rfl)
theorem dX0_asked_93 : decode cX0_asked 93 = .ok (.ifCond .ne 27, 3) := dk_154 0 27 (dk_at dksX0_asked_4 0 rfl rfl)
theorem dX0_asked_96 : decode cX0_asked 96 = .ok (.aload_n 0, 1) := dk_42 (dk_at dksX0_asked_4 3 rfl rfl)
theorem dX0_asked_97 : decode cX0_asked 97 = .ok (.aload_n 0, 1) := dk_42 (dk_at dksX0_asked_4 4 rfl rfl)
theorem dX0_asked_98 : decode cX0_asked 98 = .ok (.getfield 12, 3) := dk_180 0 12 (dk_at dksX0_asked_4 5 rfl rfl)
theorem dX0_asked_101 : decode cX0_asked 101 = .ok (.iload_n 1, 1) := dk_27 (dk_at dksX0_asked_4 8 rfl rfl)
theorem dX0_asked_102 : decode cX0_asked 102 = .ok (.invokeinterface 188 2, 5) := by decide +kernel
theorem dX0_asked_107 : decode cX0_asked 107 = .ok (.checkcast 85, 3) := dk_192 0 85 (dk_at dksX0_asked_4 14 rfl rfl)
theorem dX0_asked_110 : decode cX0_asked 110 = .ok (.aload 8, 2) := dk_25 8 (dk_at dksX0_asked_4 17 rfl rfl)
theorem dX0_asked_112 : decode cX0_asked 112 = .ok (.iload 6, 2) := dk_21 6 (dk_at dksX0_asked_4 19 rfl rfl)
theorem dX0_asked_114 : decode cX0_asked 114 = .ok (.invokevirtual 337, 3) := dk_182 1 81 (dk_at dksX0_asked_4 21 rfl rfl)
theorem dX0_asked_117 : decode cX0_asked 117 = .ok (.goto 50, 3) := dk_167 0 50 (dk_at dksX0_asked_5 0 rfl rfl)
theorem dX0_asked_120 : decode cX0_asked 120 = .ok (.iload 7, 2) := dk_21 7 (dk_at dksX0_asked_5 3 rfl rfl)
theorem dX0_asked_122 : decode cX0_asked 122 = .ok (.iconst 1, 1) := dk_4 (dk_at dksX0_asked_5 5 rfl rfl)
theorem dX0_asked_123 : decode cX0_asked 123 = .ok (.if_icmp .ne 25, 3) := dk_160 0 25 (dk_at dksX0_asked_5 6 rfl rfl)
theorem dX0_asked_126 : decode cX0_asked 126 = .ok (.aload_n 0, 1) := dk_42 (dk_at dksX0_asked_5 9 rfl rfl)
theorem dX0_asked_127 : decode cX0_asked 127 = .ok (.aload_n 0, 1) := dk_42 (dk_at dksX0_asked_5 10 rfl rfl)
theorem dX0_asked_128 : decode cX0_asked 128 = .ok (.getfield 12, 3) := dk_180 0 12 (dk_at dksX0_asked_5 11 rfl rfl)
theorem dX0_asked_131 : decode cX0_asked 131 = .ok (.iload_n 1, 1) := dk_27 (dk_at dksX0_asked_5 14 rfl rfl)
theorem dX0_asked_132 : decode cX0_asked 132 = .ok (.invokeinterface 188 2, 5) := by decide +kernel
theorem dX0_asked_137 : decode cX0_asked 137 = .ok (.checkcast 85, 3) := dk_192 0 85 (dk_at dksX0_asked_5 20 rfl rfl)
theorem dX0_asked_140 : decode cX0_asked 140 = .ok (.aload 8, 2) := dk_25 8 (dk_at dksX0_asked_6 0 rfl rfl)
theorem dX0_asked_142 : decode cX0_asked 142 = .ok (.invokevirtual 341, 3) := dk_182 1 85 (dk_at dksX0_asked_6 2 rfl rfl)
theorem dX0_asked_145 : decode cX0_asked 145 = .ok (.goto 22, 3) := dk_167 0 22 (dk_at dksX0_asked_6 5 rfl rfl)
theorem dX0_asked_148 : decode cX0_asked 148 = .ok (.aload_n 0, 1) := dk_42 (dk_at dksX0_asked_6 8 rfl rfl)
theorem dX0_asked_149 : decode cX0_asked 149 = .ok (.aload_n 0, 1) := dk_42 (dk_at dksX0_asked_6 9 rfl rfl)
theorem dX0_asked_150 : decode cX0_asked 150 = .ok (.getfield 12, 3) := dk_180 0 12 (dk_at dksX0_asked_6 10 rfl rfl)
theorem dX0_asked_153 : decode cX0_asked 153 = .ok (.iload_n 1, 1) := dk_27 (dk_at dksX0_asked_6 13 rfl rfl)
theorem dX0_asked_154 : decode cX0_asked 154 = .ok (.invokeinterface 188 2, 5) := by decide +kernel
theorem dX0_asked_159 : decode cX0_asked 159 = .ok (.checkcast 85, 3) := dk_192 0 85 (dk_at dksX0_asked_6 19 rfl rfl)
theorem dX0_asked_162 : decode cX0_asked 162 = .ok (.aload 8, 2) := dk_25 8 (dk_at dksX0_asked_6 22 rfl rfl)
theorem dX0_asked_164 : decode cX0_asked 164 = .ok (.invokevirtual 345, 3) := dk_182 1 89 (dk_at dksX0_asked_7 0 rfl rfl)
theorem dX0_asked_167 : decode cX0_asked 167 = .ok (.ireturn, 1) := dk_172 (dk_at dksX0_asked_7 3 rfl rfl)
theorem dX0_asked_168 : decode cX0_asked 168 = .ok (.astore 8, 2) := dk_58 8 (dk_at dksX0_asked_7 4 rfl rfl)
theorem dX0_asked_170 : decode cX0_asked 170 = .ok (.aload_n 0, 1) := dk_42 (dk_at dksX0_asked_7 6 rfl rfl)
theorem dX0_asked_171 : decode cX0_asked 171 = .ok (.iconst 2, 1) := dk_5 (dk_at dksX0_asked_7 7 rfl rfl)
theorem dX0_asked_172 : decode cX0_asked 172 = .ok (.invokevirtual 175, 3) := dk_182 0 175 (dk_at dksX0_asked_7 8 rfl rfl)
theorem dX0_asked_175 : decode cX0_asked 175 = .ok (.ireturn, 1) := dk_172 (dk_at dksX0_asked_7 11 rfl rfl)
theorem dX0_asked_176 : decode cX0_asked 176 = .ok (.astore 8, 2) := dk_58 8 (dk_at dksX0_asked_7 12 rfl rfl)
theorem dX0_asked_178 : decode cX0_asked 178 = .ok (.aload_n 0, 1) := dk_42 (dk_at dksX0_asked_7 14 rfl rfl)
theorem dX0_asked_179 : decode cX0_asked 179 = .ok (.iconst 1, 1) := dk_4 (dk_at dksX0_asked_7 15 rfl rfl)
theorem dX0_asked_180 : decode cX0_asked 180 = .ok (.invokevirtual 175, 3) := dk_182 0 175 (dk_at dksX0_asked_7 16 rfl rfl)
theorem dX0_asked_183 : decode cX0_asked 183 = .ok (.ireturn, 1) := dk_172 (dk_at dksX0_asked_7 19 rfl rfl)
theorem dX0_asked_184 : decode cX0_asked 184 = .ok (.astore 8, 2) := dk_58 8 (dk_at dksX0_asked_7 20 rfl rfl)
theorem dX0_asked_186 : decode cX0_asked 186 = .ok (.aload_n 0, 1) := dk_42 (dk_at dksX0_asked_7 22 rfl rfl)
theorem dX0_asked_187 : decode cX0_asked 187 = .ok (.iconst 3, 1) := dk_6 (dk_at dksX0_asked_7 23 rfl rfl)
theorem dX0_asked_188 : decode cX0_asked 188 = .ok (.invokevirtual 175, 3) := dk_182 0 175 (dk_at dksX0_asked_8 0 rfl rfl)
theorem dX0_asked_191 : decode cX0_asked 191 = .ok (.ireturn, 1) := dk_172 (dk_at dksX0_asked_8 3 rfl rfl)
abbrev cX0_scenesOf : ByteArray := prog_1_method_48_code
def yX0_scenesOf : MethodName := ⟨RX0, "scenesOf", "(LLentYouths$Childhood;[II)I"⟩
def dkwX0_scenesOf_3 : List UInt8 := [154, 0, 8, 21, 5, 167, 0, 5, 21, 6, 172]
abbrev dktX0_scenesOf_3 : List UInt8 := dkwX0_scenesOf_3 ++ []
def dkwX0_scenesOf_2 : List UInt8 := [167, 0, 5, 21, 6, 54, 6, 132, 5, 1, 132, 7, 1, 167, 255, 212, 43, 21, 4, 181, 0, 195, 29]
abbrev dktX0_scenesOf_2 : List UInt8 := dkwX0_scenesOf_2 ++ dktX0_scenesOf_3
def dkwX0_scenesOf_1 : List UInt8 := [21, 7, 181, 0, 195, 42, 44, 182, 1, 72, 154, 0, 6, 167, 0, 20, 21, 5, 154, 0, 8, 21, 7]
abbrev dktX0_scenesOf_1 : List UInt8 := dkwX0_scenesOf_1 ++ dktX0_scenesOf_2
def dkwX0_scenesOf_0 : List UInt8 := [43, 180, 0, 195, 54, 4, 3, 54, 5, 16, 247, 54, 6, 3, 54, 7, 21, 7, 16, 64, 162, 0, 43, 43]
abbrev dktX0_scenesOf_0 : List UInt8 := dkwX0_scenesOf_0 ++ dktX0_scenesOf_1
theorem dksX0_scenesOf_0 : cX0_scenesOf.data.toList.drop 0 = dktX0_scenesOf_0 := by decide +kernel
theorem dksX0_scenesOf_1 : cX0_scenesOf.data.toList.drop 24 = dktX0_scenesOf_1 := dk_seg dksX0_scenesOf_0 24 rfl rfl
theorem dksX0_scenesOf_2 : cX0_scenesOf.data.toList.drop 47 = dktX0_scenesOf_2 := dk_seg dksX0_scenesOf_1 23 rfl rfl
theorem dksX0_scenesOf_3 : cX0_scenesOf.data.toList.drop 70 = dktX0_scenesOf_3 := dk_seg dksX0_scenesOf_2 23 rfl rfl
theorem dX0_scenesOf_0 : decode cX0_scenesOf 0 = .ok (.aload_n 1, 1) := dk_43 (dk_at dksX0_scenesOf_0 0 rfl rfl)
theorem dX0_scenesOf_1 : decode cX0_scenesOf 1 = .ok (.getfield 195, 3) := dk_180 0 195 (dk_at dksX0_scenesOf_0 1 rfl rfl)
theorem dX0_scenesOf_4 : decode cX0_scenesOf 4 = .ok (.istore 4, 2) := dk_54 4 (dk_at dksX0_scenesOf_0 4 rfl rfl)
theorem dX0_scenesOf_6 : decode cX0_scenesOf 6 = .ok (.iconst 0, 1) := dk_3 (dk_at dksX0_scenesOf_0 6 rfl rfl)
theorem dX0_scenesOf_7 : decode cX0_scenesOf 7 = .ok (.istore 5, 2) := dk_54 5 (dk_at dksX0_scenesOf_0 7 rfl rfl)
theorem dX0_scenesOf_9 : decode cX0_scenesOf 9 = .ok (.bipush (-9), 2) := dk_16 247 (dk_at dksX0_scenesOf_0 9 rfl rfl)
theorem dX0_scenesOf_11 : decode cX0_scenesOf 11 = .ok (.istore 6, 2) := dk_54 6 (dk_at dksX0_scenesOf_0 11 rfl rfl)
theorem dX0_scenesOf_13 : decode cX0_scenesOf 13 = .ok (.iconst 0, 1) := dk_3 (dk_at dksX0_scenesOf_0 13 rfl rfl)
theorem dX0_scenesOf_14 : decode cX0_scenesOf 14 = .ok (.istore 7, 2) := dk_54 7 (dk_at dksX0_scenesOf_0 14 rfl rfl)
theorem dX0_scenesOf_16 : decode cX0_scenesOf 16 = .ok (.iload 7, 2) := dk_21 7 (dk_at dksX0_scenesOf_0 16 rfl rfl)
theorem dX0_scenesOf_18 : decode cX0_scenesOf 18 = .ok (.bipush 64, 2) := dk_16 64 (dk_at dksX0_scenesOf_0 18 rfl rfl)
theorem dX0_scenesOf_20 : decode cX0_scenesOf 20 = .ok (.if_icmp .ge 43, 3) := dk_162 0 43 (dk_at dksX0_scenesOf_0 20 rfl rfl)
theorem dX0_scenesOf_23 : decode cX0_scenesOf 23 = .ok (.aload_n 1, 1) := dk_43 (dk_at dksX0_scenesOf_0 23 rfl rfl)
theorem dX0_scenesOf_24 : decode cX0_scenesOf 24 = .ok (.iload 7, 2) := dk_21 7 (dk_at dksX0_scenesOf_1 0 rfl rfl)
theorem dX0_scenesOf_26 : decode cX0_scenesOf 26 = .ok (.putfield 195, 3) := dk_181 0 195 (dk_at dksX0_scenesOf_1 2 rfl rfl)
theorem dX0_scenesOf_29 : decode cX0_scenesOf 29 = .ok (.aload_n 0, 1) := dk_42 (dk_at dksX0_scenesOf_1 5 rfl rfl)
theorem dX0_scenesOf_30 : decode cX0_scenesOf 30 = .ok (.aload_n 2, 1) := dk_44 (dk_at dksX0_scenesOf_1 6 rfl rfl)
theorem dX0_scenesOf_31 : decode cX0_scenesOf 31 = .ok (.invokevirtual 328, 3) := dk_182 1 72 (dk_at dksX0_scenesOf_1 7 rfl rfl)
theorem dX0_scenesOf_34 : decode cX0_scenesOf 34 = .ok (.ifCond .ne 6, 3) := dk_154 0 6 (dk_at dksX0_scenesOf_1 10 rfl rfl)
theorem dX0_scenesOf_37 : decode cX0_scenesOf 37 = .ok (.goto 20, 3) := dk_167 0 20 (dk_at dksX0_scenesOf_1 13 rfl rfl)
theorem dX0_scenesOf_40 : decode cX0_scenesOf 40 = .ok (.iload 5, 2) := dk_21 5 (dk_at dksX0_scenesOf_1 16 rfl rfl)
theorem dX0_scenesOf_42 : decode cX0_scenesOf 42 = .ok (.ifCond .ne 8, 3) := dk_154 0 8 (dk_at dksX0_scenesOf_1 18 rfl rfl)
theorem dX0_scenesOf_45 : decode cX0_scenesOf 45 = .ok (.iload 7, 2) := dk_21 7 (dk_at dksX0_scenesOf_1 21 rfl rfl)
theorem dX0_scenesOf_47 : decode cX0_scenesOf 47 = .ok (.goto 5, 3) := dk_167 0 5 (dk_at dksX0_scenesOf_2 0 rfl rfl)
theorem dX0_scenesOf_50 : decode cX0_scenesOf 50 = .ok (.iload 6, 2) := dk_21 6 (dk_at dksX0_scenesOf_2 3 rfl rfl)
theorem dX0_scenesOf_52 : decode cX0_scenesOf 52 = .ok (.istore 6, 2) := dk_54 6 (dk_at dksX0_scenesOf_2 5 rfl rfl)
theorem dX0_scenesOf_54 : decode cX0_scenesOf 54 = .ok (.iinc 5 1, 3) := dk_132 5 1 (dk_at dksX0_scenesOf_2 7 rfl rfl)
theorem dX0_scenesOf_57 : decode cX0_scenesOf 57 = .ok (.iinc 7 1, 3) := dk_132 7 1 (dk_at dksX0_scenesOf_2 10 rfl rfl)
theorem dX0_scenesOf_60 : decode cX0_scenesOf 60 = .ok (.goto (-44), 3) := dk_167 255 212 (dk_at dksX0_scenesOf_2 13 rfl rfl)
theorem dX0_scenesOf_63 : decode cX0_scenesOf 63 = .ok (.aload_n 1, 1) := dk_43 (dk_at dksX0_scenesOf_2 16 rfl rfl)
theorem dX0_scenesOf_64 : decode cX0_scenesOf 64 = .ok (.iload 4, 2) := dk_21 4 (dk_at dksX0_scenesOf_2 17 rfl rfl)
theorem dX0_scenesOf_66 : decode cX0_scenesOf 66 = .ok (.putfield 195, 3) := dk_181 0 195 (dk_at dksX0_scenesOf_2 19 rfl rfl)
theorem dX0_scenesOf_69 : decode cX0_scenesOf 69 = .ok (.iload_n 3, 1) := dk_29 (dk_at dksX0_scenesOf_2 22 rfl rfl)
theorem dX0_scenesOf_70 : decode cX0_scenesOf 70 = .ok (.ifCond .ne 8, 3) := dk_154 0 8 (dk_at dksX0_scenesOf_3 0 rfl rfl)
theorem dX0_scenesOf_73 : decode cX0_scenesOf 73 = .ok (.iload 5, 2) := dk_21 5 (dk_at dksX0_scenesOf_3 3 rfl rfl)
theorem dX0_scenesOf_75 : decode cX0_scenesOf 75 = .ok (.goto 5, 3) := dk_167 0 5 (dk_at dksX0_scenesOf_3 5 rfl rfl)
theorem dX0_scenesOf_78 : decode cX0_scenesOf 78 = .ok (.iload 6, 2) := dk_21 6 (dk_at dksX0_scenesOf_3 8 rfl rfl)
theorem dX0_scenesOf_80 : decode cX0_scenesOf 80 = .ok (.ireturn, 1) := dk_172 (dk_at dksX0_scenesOf_3 10 rfl rfl)
abbrev cX0_areSo : ByteArray := prog_1_method_47_code
def yX0_areSo : MethodName := ⟨RX0, "areSo", "([I)Z"⟩
def dkwX0_areSo_2 : List UInt8 := [180, 0, 59, 29, 51, 160, 0, 7, 4, 167, 0, 4, 3, 126, 61, 132, 3, 1, 167, 255, 208, 28, 172]
abbrev dktX0_areSo_2 : List UInt8 := dkwX0_areSo_2 ++ []
def dkwX0_areSo_1 : List UInt8 := [28, 42, 180, 0, 38, 42, 180, 0, 53, 29, 46, 46, 42, 180, 0, 56, 29, 46, 184, 0, 230, 42]
abbrev dktX0_areSo_1 : List UInt8 := dkwX0_areSo_1 ++ dktX0_areSo_2
def dkwX0_areSo_0 : List UInt8 := [42, 43, 182, 1, 0, 16, 247, 159, 0, 5, 3, 172, 4, 61, 3, 62, 29, 42, 180, 0, 147, 162, 0, 46]
abbrev dktX0_areSo_0 : List UInt8 := dkwX0_areSo_0 ++ dktX0_areSo_1
theorem dksX0_areSo_0 : cX0_areSo.data.toList.drop 0 = dktX0_areSo_0 := by decide +kernel
theorem dksX0_areSo_1 : cX0_areSo.data.toList.drop 24 = dktX0_areSo_1 := dk_seg dksX0_areSo_0 24 rfl rfl
theorem dksX0_areSo_2 : cX0_areSo.data.toList.drop 46 = dktX0_areSo_2 := dk_seg dksX0_areSo_1 22 rfl rfl
theorem dX0_areSo_0 : decode cX0_areSo 0 = .ok (.aload_n 0, 1) := dk_42 (dk_at dksX0_areSo_0 0 rfl rfl)
theorem dX0_areSo_1 : decode cX0_areSo 1 = .ok (.aload_n 1, 1) := dk_43 (dk_at dksX0_areSo_0 1 rfl rfl)
theorem dX0_areSo_2 : decode cX0_areSo 2 = .ok (.invokevirtual 256, 3) := dk_182 1 0 (dk_at dksX0_areSo_0 2 rfl rfl)
theorem dX0_areSo_5 : decode cX0_areSo 5 = .ok (.bipush (-9), 2) := dk_16 247 (dk_at dksX0_areSo_0 5 rfl rfl)
theorem dX0_areSo_7 : decode cX0_areSo 7 = .ok (.if_icmp .eq 5, 3) := dk_159 0 5 (dk_at dksX0_areSo_0 7 rfl rfl)
theorem dX0_areSo_10 : decode cX0_areSo 10 = .ok (.iconst 0, 1) := dk_3 (dk_at dksX0_areSo_0 10 rfl rfl)
theorem dX0_areSo_11 : decode cX0_areSo 11 = .ok (.ireturn, 1) := dk_172 (dk_at dksX0_areSo_0 11 rfl rfl)
theorem dX0_areSo_12 : decode cX0_areSo 12 = .ok (.iconst 1, 1) := dk_4 (dk_at dksX0_areSo_0 12 rfl rfl)
theorem dX0_areSo_13 : decode cX0_areSo 13 = .ok (.istore_n 2, 1) := dk_61 (dk_at dksX0_areSo_0 13 rfl rfl)
theorem dX0_areSo_14 : decode cX0_areSo 14 = .ok (.iconst 0, 1) := dk_3 (dk_at dksX0_areSo_0 14 rfl rfl)
theorem dX0_areSo_15 : decode cX0_areSo 15 = .ok (.istore_n 3, 1) := dk_62 (dk_at dksX0_areSo_0 15 rfl rfl)
theorem dX0_areSo_16 : decode cX0_areSo 16 = .ok (.iload_n 3, 1) := dk_29 (dk_at dksX0_areSo_0 16 rfl rfl)
theorem dX0_areSo_17 : decode cX0_areSo 17 = .ok (.aload_n 0, 1) := dk_42 (dk_at dksX0_areSo_0 17 rfl rfl)
theorem dX0_areSo_18 : decode cX0_areSo 18 = .ok (.getfield 147, 3) := dk_180 0 147 (dk_at dksX0_areSo_0 18 rfl rfl)
theorem dX0_areSo_21 : decode cX0_areSo 21 = .ok (.if_icmp .ge 46, 3) := dk_162 0 46 (dk_at dksX0_areSo_0 21 rfl rfl)
theorem dX0_areSo_24 : decode cX0_areSo 24 = .ok (.iload_n 2, 1) := dk_28 (dk_at dksX0_areSo_1 0 rfl rfl)
theorem dX0_areSo_25 : decode cX0_areSo 25 = .ok (.aload_n 0, 1) := dk_42 (dk_at dksX0_areSo_1 1 rfl rfl)
theorem dX0_areSo_26 : decode cX0_areSo 26 = .ok (.getfield 38, 3) := dk_180 0 38 (dk_at dksX0_areSo_1 2 rfl rfl)
theorem dX0_areSo_29 : decode cX0_areSo 29 = .ok (.aload_n 0, 1) := dk_42 (dk_at dksX0_areSo_1 5 rfl rfl)
theorem dX0_areSo_30 : decode cX0_areSo 30 = .ok (.getfield 53, 3) := dk_180 0 53 (dk_at dksX0_areSo_1 6 rfl rfl)
theorem dX0_areSo_33 : decode cX0_areSo 33 = .ok (.iload_n 3, 1) := dk_29 (dk_at dksX0_areSo_1 9 rfl rfl)
theorem dX0_areSo_34 : decode cX0_areSo 34 = .ok (.iaload, 1) := dk_46 (dk_at dksX0_areSo_1 10 rfl rfl)
theorem dX0_areSo_35 : decode cX0_areSo 35 = .ok (.iaload, 1) := dk_46 (dk_at dksX0_areSo_1 11 rfl rfl)
theorem dX0_areSo_36 : decode cX0_areSo 36 = .ok (.aload_n 0, 1) := dk_42 (dk_at dksX0_areSo_1 12 rfl rfl)
theorem dX0_areSo_37 : decode cX0_areSo 37 = .ok (.getfield 56, 3) := dk_180 0 56 (dk_at dksX0_areSo_1 13 rfl rfl)
theorem dX0_areSo_40 : decode cX0_areSo 40 = .ok (.iload_n 3, 1) := dk_29 (dk_at dksX0_areSo_1 16 rfl rfl)
theorem dX0_areSo_41 : decode cX0_areSo 41 = .ok (.iaload, 1) := dk_46 (dk_at dksX0_areSo_1 17 rfl rfl)
theorem dX0_areSo_42 : decode cX0_areSo 42 = .ok (.invokestatic 230, 3) := dk_184 0 230 (dk_at dksX0_areSo_1 18 rfl rfl)
theorem dX0_areSo_45 : decode cX0_areSo 45 = .ok (.aload_n 0, 1) := dk_42 (dk_at dksX0_areSo_1 21 rfl rfl)
theorem dX0_areSo_46 : decode cX0_areSo 46 = .ok (.getfield 59, 3) := dk_180 0 59 (dk_at dksX0_areSo_2 0 rfl rfl)
theorem dX0_areSo_49 : decode cX0_areSo 49 = .ok (.iload_n 3, 1) := dk_29 (dk_at dksX0_areSo_2 3 rfl rfl)
theorem dX0_areSo_50 : decode cX0_areSo 50 = .ok (.baload, 1) := dk_51 (dk_at dksX0_areSo_2 4 rfl rfl)
theorem dX0_areSo_51 : decode cX0_areSo 51 = .ok (.if_icmp .ne 7, 3) := dk_160 0 7 (dk_at dksX0_areSo_2 5 rfl rfl)
theorem dX0_areSo_54 : decode cX0_areSo 54 = .ok (.iconst 1, 1) := dk_4 (dk_at dksX0_areSo_2 8 rfl rfl)
theorem dX0_areSo_55 : decode cX0_areSo 55 = .ok (.goto 4, 3) := dk_167 0 4 (dk_at dksX0_areSo_2 9 rfl rfl)
theorem dX0_areSo_58 : decode cX0_areSo 58 = .ok (.iconst 0, 1) := dk_3 (dk_at dksX0_areSo_2 12 rfl rfl)
theorem dX0_areSo_59 : decode cX0_areSo 59 = .ok (.iand, 1) := dk_126 (dk_at dksX0_areSo_2 13 rfl rfl)
theorem dX0_areSo_60 : decode cX0_areSo 60 = .ok (.istore_n 2, 1) := dk_61 (dk_at dksX0_areSo_2 14 rfl rfl)
theorem dX0_areSo_61 : decode cX0_areSo 61 = .ok (.iinc 3 1, 3) := dk_132 3 1 (dk_at dksX0_areSo_2 15 rfl rfl)
theorem dX0_areSo_64 : decode cX0_areSo 64 = .ok (.goto (-48), 3) := dk_167 255 208 (dk_at dksX0_areSo_2 18 rfl rfl)
theorem dX0_areSo_67 : decode cX0_areSo 67 = .ok (.iload_n 2, 1) := dk_28 (dk_at dksX0_areSo_2 21 rfl rfl)
theorem dX0_areSo_68 : decode cX0_areSo 68 = .ok (.ireturn, 1) := dk_172 (dk_at dksX0_areSo_2 22 rfl rfl)
abbrev cX0_kindsOf : ByteArray := prog_1_method_49_code
def yX0_kindsOf : MethodName := ⟨RX0, "kindsOf", "(LLentYouths$Childhood;[I)I"⟩
def dkwX0_kindsOf_2 : List UInt8 := [180, 1, 78, 4, 96, 181, 1, 78, 167, 255, 217, 42, 16, 247, 181, 0, 18, 29, 172]
abbrev dktX0_kindsOf_2 : List UInt8 := dkwX0_kindsOf_2 ++ []
def dkwX0_kindsOf_1 : List UInt8 := [42, 44, 182, 1, 72, 153, 0, 12, 4, 42, 180, 1, 78, 120, 167, 0, 4, 3, 128, 62, 42, 89]
abbrev dktX0_kindsOf_1 : List UInt8 := dkwX0_kindsOf_1 ++ dktX0_kindsOf_2
def dkwX0_kindsOf_0 : List UInt8 := [42, 43, 180, 1, 75, 181, 0, 18, 3, 62, 42, 3, 181, 1, 78, 42, 180, 1, 78, 6, 162, 0, 37, 29]
abbrev dktX0_kindsOf_0 : List UInt8 := dkwX0_kindsOf_0 ++ dktX0_kindsOf_1
theorem dksX0_kindsOf_0 : cX0_kindsOf.data.toList.drop 0 = dktX0_kindsOf_0 := by decide +kernel
theorem dksX0_kindsOf_1 : cX0_kindsOf.data.toList.drop 24 = dktX0_kindsOf_1 := dk_seg dksX0_kindsOf_0 24 rfl rfl
theorem dksX0_kindsOf_2 : cX0_kindsOf.data.toList.drop 46 = dktX0_kindsOf_2 := dk_seg dksX0_kindsOf_1 22 rfl rfl
theorem dX0_kindsOf_0 : decode cX0_kindsOf 0 = .ok (.aload_n 0, 1) := dk_42 (dk_at dksX0_kindsOf_0 0 rfl rfl)
theorem dX0_kindsOf_1 : decode cX0_kindsOf 1 = .ok (.aload_n 1, 1) := dk_43 (dk_at dksX0_kindsOf_0 1 rfl rfl)
theorem dX0_kindsOf_2 : decode cX0_kindsOf 2 = .ok (.getfield 331, 3) := dk_180 1 75 (dk_at dksX0_kindsOf_0 2 rfl rfl)
theorem dX0_kindsOf_5 : decode cX0_kindsOf 5 = .ok (.putfield 18, 3) := dk_181 0 18 (dk_at dksX0_kindsOf_0 5 rfl rfl)
theorem dX0_kindsOf_8 : decode cX0_kindsOf 8 = .ok (.iconst 0, 1) := dk_3 (dk_at dksX0_kindsOf_0 8 rfl rfl)
theorem dX0_kindsOf_9 : decode cX0_kindsOf 9 = .ok (.istore_n 3, 1) := dk_62 (dk_at dksX0_kindsOf_0 9 rfl rfl)
theorem dX0_kindsOf_10 : decode cX0_kindsOf 10 = .ok (.aload_n 0, 1) := dk_42 (dk_at dksX0_kindsOf_0 10 rfl rfl)
theorem dX0_kindsOf_11 : decode cX0_kindsOf 11 = .ok (.iconst 0, 1) := dk_3 (dk_at dksX0_kindsOf_0 11 rfl rfl)
theorem dX0_kindsOf_12 : decode cX0_kindsOf 12 = .ok (.putfield 334, 3) := dk_181 1 78 (dk_at dksX0_kindsOf_0 12 rfl rfl)
theorem dX0_kindsOf_15 : decode cX0_kindsOf 15 = .ok (.aload_n 0, 1) := dk_42 (dk_at dksX0_kindsOf_0 15 rfl rfl)
theorem dX0_kindsOf_16 : decode cX0_kindsOf 16 = .ok (.getfield 334, 3) := dk_180 1 78 (dk_at dksX0_kindsOf_0 16 rfl rfl)
theorem dX0_kindsOf_19 : decode cX0_kindsOf 19 = .ok (.iconst 3, 1) := dk_6 (dk_at dksX0_kindsOf_0 19 rfl rfl)
theorem dX0_kindsOf_20 : decode cX0_kindsOf 20 = .ok (.if_icmp .ge 37, 3) := dk_162 0 37 (dk_at dksX0_kindsOf_0 20 rfl rfl)
theorem dX0_kindsOf_23 : decode cX0_kindsOf 23 = .ok (.iload_n 3, 1) := dk_29 (dk_at dksX0_kindsOf_0 23 rfl rfl)
theorem dX0_kindsOf_24 : decode cX0_kindsOf 24 = .ok (.aload_n 0, 1) := dk_42 (dk_at dksX0_kindsOf_1 0 rfl rfl)
theorem dX0_kindsOf_25 : decode cX0_kindsOf 25 = .ok (.aload_n 2, 1) := dk_44 (dk_at dksX0_kindsOf_1 1 rfl rfl)
theorem dX0_kindsOf_26 : decode cX0_kindsOf 26 = .ok (.invokevirtual 328, 3) := dk_182 1 72 (dk_at dksX0_kindsOf_1 2 rfl rfl)
theorem dX0_kindsOf_29 : decode cX0_kindsOf 29 = .ok (.ifCond .eq 12, 3) := dk_153 0 12 (dk_at dksX0_kindsOf_1 5 rfl rfl)
theorem dX0_kindsOf_32 : decode cX0_kindsOf 32 = .ok (.iconst 1, 1) := dk_4 (dk_at dksX0_kindsOf_1 8 rfl rfl)
theorem dX0_kindsOf_33 : decode cX0_kindsOf 33 = .ok (.aload_n 0, 1) := dk_42 (dk_at dksX0_kindsOf_1 9 rfl rfl)
theorem dX0_kindsOf_34 : decode cX0_kindsOf 34 = .ok (.getfield 334, 3) := dk_180 1 78 (dk_at dksX0_kindsOf_1 10 rfl rfl)
theorem dX0_kindsOf_37 : decode cX0_kindsOf 37 = .ok (.ishl, 1) := dk_120 (dk_at dksX0_kindsOf_1 13 rfl rfl)
theorem dX0_kindsOf_38 : decode cX0_kindsOf 38 = .ok (.goto 4, 3) := dk_167 0 4 (dk_at dksX0_kindsOf_1 14 rfl rfl)
theorem dX0_kindsOf_41 : decode cX0_kindsOf 41 = .ok (.iconst 0, 1) := dk_3 (dk_at dksX0_kindsOf_1 17 rfl rfl)
theorem dX0_kindsOf_42 : decode cX0_kindsOf 42 = .ok (.ior, 1) := dk_128 (dk_at dksX0_kindsOf_1 18 rfl rfl)
theorem dX0_kindsOf_43 : decode cX0_kindsOf 43 = .ok (.istore_n 3, 1) := dk_62 (dk_at dksX0_kindsOf_1 19 rfl rfl)
theorem dX0_kindsOf_44 : decode cX0_kindsOf 44 = .ok (.aload_n 0, 1) := dk_42 (dk_at dksX0_kindsOf_1 20 rfl rfl)
theorem dX0_kindsOf_45 : decode cX0_kindsOf 45 = .ok (.dup, 1) := dk_89 (dk_at dksX0_kindsOf_1 21 rfl rfl)
theorem dX0_kindsOf_46 : decode cX0_kindsOf 46 = .ok (.getfield 334, 3) := dk_180 1 78 (dk_at dksX0_kindsOf_2 0 rfl rfl)
theorem dX0_kindsOf_49 : decode cX0_kindsOf 49 = .ok (.iconst 1, 1) := dk_4 (dk_at dksX0_kindsOf_2 3 rfl rfl)
theorem dX0_kindsOf_50 : decode cX0_kindsOf 50 = .ok (.iadd, 1) := dk_96 (dk_at dksX0_kindsOf_2 4 rfl rfl)
theorem dX0_kindsOf_51 : decode cX0_kindsOf 51 = .ok (.putfield 334, 3) := dk_181 1 78 (dk_at dksX0_kindsOf_2 5 rfl rfl)
theorem dX0_kindsOf_54 : decode cX0_kindsOf 54 = .ok (.goto (-39), 3) := dk_167 255 217 (dk_at dksX0_kindsOf_2 8 rfl rfl)
theorem dX0_kindsOf_57 : decode cX0_kindsOf 57 = .ok (.aload_n 0, 1) := dk_42 (dk_at dksX0_kindsOf_2 11 rfl rfl)
theorem dX0_kindsOf_58 : decode cX0_kindsOf 58 = .ok (.bipush (-9), 2) := dk_16 247 (dk_at dksX0_kindsOf_2 12 rfl rfl)
theorem dX0_kindsOf_60 : decode cX0_kindsOf 60 = .ok (.putfield 18, 3) := dk_181 0 18 (dk_at dksX0_kindsOf_2 14 rfl rfl)
theorem dX0_kindsOf_63 : decode cX0_kindsOf 63 = .ok (.iload_n 3, 1) := dk_29 (dk_at dksX0_kindsOf_2 17 rfl rfl)
theorem dX0_kindsOf_64 : decode cX0_kindsOf 64 = .ok (.ireturn, 1) := dk_172 (dk_at dksX0_kindsOf_2 18 rfl rfl)
abbrev cX0_wearsOf : ByteArray := prog_1_method_50_code
def yX0_wearsOf : MethodName := ⟨RX0, "wearsOf", "(LLentYouths$Childhood;[I)I"⟩
def dkwX0_wearsOf_2 : List UInt8 := [180, 0, 201, 4, 96, 181, 0, 201, 167, 255, 214, 43, 29, 181, 0, 201, 21, 4, 172]
abbrev dktX0_wearsOf_2 : List UInt8 := dkwX0_wearsOf_2 ++ []
def dkwX0_wearsOf_1 : List UInt8 := [42, 44, 182, 1, 72, 153, 0, 12, 4, 43, 180, 0, 201, 120, 167, 0, 4, 3, 128, 54, 4, 43, 89]
abbrev dktX0_wearsOf_1 : List UInt8 := dkwX0_wearsOf_1 ++ dktX0_wearsOf_2
def dkwX0_wearsOf_0 : List UInt8 := [43, 180, 0, 201, 62, 3, 54, 4, 43, 4, 181, 0, 201, 43, 180, 0, 201, 16, 9, 163, 0, 39, 21, 4]
abbrev dktX0_wearsOf_0 : List UInt8 := dkwX0_wearsOf_0 ++ dktX0_wearsOf_1
theorem dksX0_wearsOf_0 : cX0_wearsOf.data.toList.drop 0 = dktX0_wearsOf_0 := by decide +kernel
theorem dksX0_wearsOf_1 : cX0_wearsOf.data.toList.drop 24 = dktX0_wearsOf_1 := dk_seg dksX0_wearsOf_0 24 rfl rfl
theorem dksX0_wearsOf_2 : cX0_wearsOf.data.toList.drop 47 = dktX0_wearsOf_2 := dk_seg dksX0_wearsOf_1 23 rfl rfl
theorem dX0_wearsOf_0 : decode cX0_wearsOf 0 = .ok (.aload_n 1, 1) := dk_43 (dk_at dksX0_wearsOf_0 0 rfl rfl)
theorem dX0_wearsOf_1 : decode cX0_wearsOf 1 = .ok (.getfield 201, 3) := dk_180 0 201 (dk_at dksX0_wearsOf_0 1 rfl rfl)
theorem dX0_wearsOf_4 : decode cX0_wearsOf 4 = .ok (.istore_n 3, 1) := dk_62 (dk_at dksX0_wearsOf_0 4 rfl rfl)
theorem dX0_wearsOf_5 : decode cX0_wearsOf 5 = .ok (.iconst 0, 1) := dk_3 (dk_at dksX0_wearsOf_0 5 rfl rfl)
theorem dX0_wearsOf_6 : decode cX0_wearsOf 6 = .ok (.istore 4, 2) := dk_54 4 (dk_at dksX0_wearsOf_0 6 rfl rfl)
theorem dX0_wearsOf_8 : decode cX0_wearsOf 8 = .ok (.aload_n 1, 1) := dk_43 (dk_at dksX0_wearsOf_0 8 rfl rfl)
theorem dX0_wearsOf_9 : decode cX0_wearsOf 9 = .ok (.iconst 1, 1) := dk_4 (dk_at dksX0_wearsOf_0 9 rfl rfl)
theorem dX0_wearsOf_10 : decode cX0_wearsOf 10 = .ok (.putfield 201, 3) := dk_181 0 201 (dk_at dksX0_wearsOf_0 10 rfl rfl)
theorem dX0_wearsOf_13 : decode cX0_wearsOf 13 = .ok (.aload_n 1, 1) := dk_43 (dk_at dksX0_wearsOf_0 13 rfl rfl)
theorem dX0_wearsOf_14 : decode cX0_wearsOf 14 = .ok (.getfield 201, 3) := dk_180 0 201 (dk_at dksX0_wearsOf_0 14 rfl rfl)
theorem dX0_wearsOf_17 : decode cX0_wearsOf 17 = .ok (.bipush 9, 2) := dk_16 9 (dk_at dksX0_wearsOf_0 17 rfl rfl)
theorem dX0_wearsOf_19 : decode cX0_wearsOf 19 = .ok (.if_icmp .gt 39, 3) := dk_163 0 39 (dk_at dksX0_wearsOf_0 19 rfl rfl)
theorem dX0_wearsOf_22 : decode cX0_wearsOf 22 = .ok (.iload 4, 2) := dk_21 4 (dk_at dksX0_wearsOf_0 22 rfl rfl)
theorem dX0_wearsOf_24 : decode cX0_wearsOf 24 = .ok (.aload_n 0, 1) := dk_42 (dk_at dksX0_wearsOf_1 0 rfl rfl)
theorem dX0_wearsOf_25 : decode cX0_wearsOf 25 = .ok (.aload_n 2, 1) := dk_44 (dk_at dksX0_wearsOf_1 1 rfl rfl)
theorem dX0_wearsOf_26 : decode cX0_wearsOf 26 = .ok (.invokevirtual 328, 3) := dk_182 1 72 (dk_at dksX0_wearsOf_1 2 rfl rfl)
theorem dX0_wearsOf_29 : decode cX0_wearsOf 29 = .ok (.ifCond .eq 12, 3) := dk_153 0 12 (dk_at dksX0_wearsOf_1 5 rfl rfl)
theorem dX0_wearsOf_32 : decode cX0_wearsOf 32 = .ok (.iconst 1, 1) := dk_4 (dk_at dksX0_wearsOf_1 8 rfl rfl)
theorem dX0_wearsOf_33 : decode cX0_wearsOf 33 = .ok (.aload_n 1, 1) := dk_43 (dk_at dksX0_wearsOf_1 9 rfl rfl)
theorem dX0_wearsOf_34 : decode cX0_wearsOf 34 = .ok (.getfield 201, 3) := dk_180 0 201 (dk_at dksX0_wearsOf_1 10 rfl rfl)
theorem dX0_wearsOf_37 : decode cX0_wearsOf 37 = .ok (.ishl, 1) := dk_120 (dk_at dksX0_wearsOf_1 13 rfl rfl)
theorem dX0_wearsOf_38 : decode cX0_wearsOf 38 = .ok (.goto 4, 3) := dk_167 0 4 (dk_at dksX0_wearsOf_1 14 rfl rfl)
theorem dX0_wearsOf_41 : decode cX0_wearsOf 41 = .ok (.iconst 0, 1) := dk_3 (dk_at dksX0_wearsOf_1 17 rfl rfl)
theorem dX0_wearsOf_42 : decode cX0_wearsOf 42 = .ok (.ior, 1) := dk_128 (dk_at dksX0_wearsOf_1 18 rfl rfl)
theorem dX0_wearsOf_43 : decode cX0_wearsOf 43 = .ok (.istore 4, 2) := dk_54 4 (dk_at dksX0_wearsOf_1 19 rfl rfl)
theorem dX0_wearsOf_45 : decode cX0_wearsOf 45 = .ok (.aload_n 1, 1) := dk_43 (dk_at dksX0_wearsOf_1 21 rfl rfl)
theorem dX0_wearsOf_46 : decode cX0_wearsOf 46 = .ok (.dup, 1) := dk_89 (dk_at dksX0_wearsOf_1 22 rfl rfl)
theorem dX0_wearsOf_47 : decode cX0_wearsOf 47 = .ok (.getfield 201, 3) := dk_180 0 201 (dk_at dksX0_wearsOf_2 0 rfl rfl)
theorem dX0_wearsOf_50 : decode cX0_wearsOf 50 = .ok (.iconst 1, 1) := dk_4 (dk_at dksX0_wearsOf_2 3 rfl rfl)
theorem dX0_wearsOf_51 : decode cX0_wearsOf 51 = .ok (.iadd, 1) := dk_96 (dk_at dksX0_wearsOf_2 4 rfl rfl)
theorem dX0_wearsOf_52 : decode cX0_wearsOf 52 = .ok (.putfield 201, 3) := dk_181 0 201 (dk_at dksX0_wearsOf_2 5 rfl rfl)
theorem dX0_wearsOf_55 : decode cX0_wearsOf 55 = .ok (.goto (-42), 3) := dk_167 255 214 (dk_at dksX0_wearsOf_2 8 rfl rfl)
theorem dX0_wearsOf_58 : decode cX0_wearsOf 58 = .ok (.aload_n 1, 1) := dk_43 (dk_at dksX0_wearsOf_2 11 rfl rfl)
theorem dX0_wearsOf_59 : decode cX0_wearsOf 59 = .ok (.iload_n 3, 1) := dk_29 (dk_at dksX0_wearsOf_2 12 rfl rfl)
theorem dX0_wearsOf_60 : decode cX0_wearsOf 60 = .ok (.putfield 201, 3) := dk_181 0 201 (dk_at dksX0_wearsOf_2 13 rfl rfl)
theorem dX0_wearsOf_63 : decode cX0_wearsOf 63 = .ok (.iload 4, 2) := dk_21 4 (dk_at dksX0_wearsOf_2 16 rfl rfl)
theorem dX0_wearsOf_65 : decode cX0_wearsOf 65 = .ok (.ireturn, 1) := dk_172 (dk_at dksX0_wearsOf_2 18 rfl rfl)
abbrev cX0_kinds : ByteArray := prog_1_method_53_code
def yX0_kinds : MethodName := ⟨RX0, "kinds", "(IIIII)I"⟩
def dkwX0_kinds_0 : List UInt8 := [42, 27, 28, 29, 21, 4, 21, 5, 3, 4, 182, 1, 92, 172]
abbrev dktX0_kinds_0 : List UInt8 := dkwX0_kinds_0 ++ []
theorem dksX0_kinds_0 : cX0_kinds.data.toList.drop 0 = dktX0_kinds_0 := by decide +kernel
theorem dX0_kinds_0 : decode cX0_kinds 0 = .ok (.aload_n 0, 1) := dk_42 (dk_at dksX0_kinds_0 0 rfl rfl)
theorem dX0_kinds_1 : decode cX0_kinds 1 = .ok (.iload_n 1, 1) := dk_27 (dk_at dksX0_kinds_0 1 rfl rfl)
theorem dX0_kinds_2 : decode cX0_kinds 2 = .ok (.iload_n 2, 1) := dk_28 (dk_at dksX0_kinds_0 2 rfl rfl)
theorem dX0_kinds_3 : decode cX0_kinds 3 = .ok (.iload_n 3, 1) := dk_29 (dk_at dksX0_kinds_0 3 rfl rfl)
theorem dX0_kinds_4 : decode cX0_kinds 4 = .ok (.iload 4, 2) := dk_21 4 (dk_at dksX0_kinds_0 4 rfl rfl)
theorem dX0_kinds_6 : decode cX0_kinds 6 = .ok (.iload 5, 2) := dk_21 5 (dk_at dksX0_kinds_0 6 rfl rfl)
theorem dX0_kinds_8 : decode cX0_kinds 8 = .ok (.iconst 0, 1) := dk_3 (dk_at dksX0_kinds_0 8 rfl rfl)
theorem dX0_kinds_9 : decode cX0_kinds 9 = .ok (.iconst 1, 1) := dk_4 (dk_at dksX0_kinds_0 9 rfl rfl)
theorem dX0_kinds_10 : decode cX0_kinds 10 = .ok (.invokevirtual 348, 3) := dk_182 1 92 (dk_at dksX0_kinds_0 10 rfl rfl)
theorem dX0_kinds_13 : decode cX0_kinds 13 = .ok (.ireturn, 1) := dk_172 (dk_at dksX0_kinds_0 13 rfl rfl)
abbrev cX0_wears : ByteArray := prog_1_method_54_code
def yX0_wears : MethodName := ⟨RX0, "wears", "(IIIII)I"⟩
def dkwX0_wears_0 : List UInt8 := [42, 27, 28, 29, 21, 4, 21, 5, 3, 5, 182, 1, 92, 172]
abbrev dktX0_wears_0 : List UInt8 := dkwX0_wears_0 ++ []
theorem dksX0_wears_0 : cX0_wears.data.toList.drop 0 = dktX0_wears_0 := by decide +kernel
theorem dX0_wears_0 : decode cX0_wears 0 = .ok (.aload_n 0, 1) := dk_42 (dk_at dksX0_wears_0 0 rfl rfl)
theorem dX0_wears_1 : decode cX0_wears 1 = .ok (.iload_n 1, 1) := dk_27 (dk_at dksX0_wears_0 1 rfl rfl)
theorem dX0_wears_2 : decode cX0_wears 2 = .ok (.iload_n 2, 1) := dk_28 (dk_at dksX0_wears_0 2 rfl rfl)
theorem dX0_wears_3 : decode cX0_wears 3 = .ok (.iload_n 3, 1) := dk_29 (dk_at dksX0_wears_0 3 rfl rfl)
theorem dX0_wears_4 : decode cX0_wears 4 = .ok (.iload 4, 2) := dk_21 4 (dk_at dksX0_wears_0 4 rfl rfl)
theorem dX0_wears_6 : decode cX0_wears 6 = .ok (.iload 5, 2) := dk_21 5 (dk_at dksX0_wears_0 6 rfl rfl)
theorem dX0_wears_8 : decode cX0_wears 8 = .ok (.iconst 0, 1) := dk_3 (dk_at dksX0_wears_0 8 rfl rfl)
theorem dX0_wears_9 : decode cX0_wears 9 = .ok (.iconst 2, 1) := dk_5 (dk_at dksX0_wears_0 9 rfl rfl)
theorem dX0_wears_10 : decode cX0_wears 10 = .ok (.invokevirtual 348, 3) := dk_182 1 92 (dk_at dksX0_wears_0 10 rfl rfl)
theorem dX0_wears_13 : decode cX0_wears 13 = .ok (.ireturn, 1) := dk_172 (dk_at dksX0_wears_0 13 rfl rfl)
abbrev cX0_odds : ByteArray := prog_1_method_56_code
def yX0_odds : MethodName := ⟨RX0, "odds", "(IIIIII)J"⟩
def dkwX0_odds_4 : List UInt8 := [4, 182, 1, 100, 173, 58, 7, 42, 6, 182, 1, 100, 173]
abbrev dktX0_odds_4 : List UInt8 := dkwX0_odds_4 ++ []
def dkwX0_odds_3 : List UInt8 := [5, 21, 5, 104, 184, 0, 166, 21, 6, 182, 1, 96, 173, 58, 7, 42, 5, 182, 1, 100, 173, 58, 7, 42]
abbrev dktX0_odds_3 : List UInt8 := dkwX0_odds_3 ++ dktX0_odds_4
def dkwX0_odds_2 : List UInt8 := [154, 0, 7, 20, 0, 80, 173, 42, 27, 42, 180, 0, 67, 28, 50, 180, 0, 157, 29, 184, 0, 162, 21, 4]
abbrev dktX0_odds_2 : List UInt8 := dkwX0_odds_2 ++ dktX0_odds_3
def dkwX0_odds_1 : List UInt8 := [153, 0, 27, 21, 5, 133, 9, 20, 1, 15, 184, 0, 73, 153, 0, 14, 21, 6, 133, 9, 10, 184, 0, 73]
abbrev dktX0_odds_1 : List UInt8 := dkwX0_odds_1 ++ dktX0_odds_2
def dkwX0_odds_0 : List UInt8 := [42, 3, 181, 0, 77, 42, 27, 182, 0, 185, 153, 0, 41, 28, 184, 0, 150, 153, 0, 34, 29, 184, 0, 154]
abbrev dktX0_odds_0 : List UInt8 := dkwX0_odds_0 ++ dktX0_odds_1
theorem dksX0_odds_0 : cX0_odds.data.toList.drop 0 = dktX0_odds_0 := by decide +kernel
theorem dksX0_odds_1 : cX0_odds.data.toList.drop 24 = dktX0_odds_1 := dk_seg dksX0_odds_0 24 rfl rfl
theorem dksX0_odds_2 : cX0_odds.data.toList.drop 48 = dktX0_odds_2 := dk_seg dksX0_odds_1 24 rfl rfl
theorem dksX0_odds_3 : cX0_odds.data.toList.drop 72 = dktX0_odds_3 := dk_seg dksX0_odds_2 24 rfl rfl
theorem dksX0_odds_4 : cX0_odds.data.toList.drop 96 = dktX0_odds_4 := dk_seg dksX0_odds_3 24 rfl rfl
theorem dX0_odds_0 : decode cX0_odds 0 = .ok (.aload_n 0, 1) := dk_42 (dk_at dksX0_odds_0 0 rfl rfl)
theorem dX0_odds_1 : decode cX0_odds 1 = .ok (.iconst 0, 1) := dk_3 (dk_at dksX0_odds_0 1 rfl rfl)
theorem dX0_odds_2 : decode cX0_odds 2 = .ok (.putfield 77, 3) := dk_181 0 77 (dk_at dksX0_odds_0 2 rfl rfl)
theorem dX0_odds_5 : decode cX0_odds 5 = .ok (.aload_n 0, 1) := dk_42 (dk_at dksX0_odds_0 5 rfl rfl)
theorem dX0_odds_6 : decode cX0_odds 6 = .ok (.iload_n 1, 1) := dk_27 (dk_at dksX0_odds_0 6 rfl rfl)
theorem dX0_odds_7 : decode cX0_odds 7 = .ok (.invokevirtual 185, 3) := dk_182 0 185 (dk_at dksX0_odds_0 7 rfl rfl)
theorem dX0_odds_10 : decode cX0_odds 10 = .ok (.ifCond .eq 41, 3) := dk_153 0 41 (dk_at dksX0_odds_0 10 rfl rfl)
theorem dX0_odds_13 : decode cX0_odds 13 = .ok (.iload_n 2, 1) := dk_28 (dk_at dksX0_odds_0 13 rfl rfl)
theorem dX0_odds_14 : decode cX0_odds 14 = .ok (.invokestatic 150, 3) := dk_184 0 150 (dk_at dksX0_odds_0 14 rfl rfl)
theorem dX0_odds_17 : decode cX0_odds 17 = .ok (.ifCond .eq 34, 3) := dk_153 0 34 (dk_at dksX0_odds_0 17 rfl rfl)
theorem dX0_odds_20 : decode cX0_odds 20 = .ok (.iload_n 3, 1) := dk_29 (dk_at dksX0_odds_0 20 rfl rfl)
theorem dX0_odds_21 : decode cX0_odds 21 = .ok (.invokestatic 154, 3) := dk_184 0 154 (dk_at dksX0_odds_0 21 rfl rfl)
theorem dX0_odds_24 : decode cX0_odds 24 = .ok (.ifCond .eq 27, 3) := dk_153 0 27 (dk_at dksX0_odds_1 0 rfl rfl)
theorem dX0_odds_27 : decode cX0_odds 27 = .ok (.iload 5, 2) := dk_21 5 (dk_at dksX0_odds_1 3 rfl rfl)
theorem dX0_odds_29 : decode cX0_odds 29 = .ok (.i2l, 1) := dk_133 (dk_at dksX0_odds_1 5 rfl rfl)
theorem dX0_odds_30 : decode cX0_odds 30 = .ok (.lconst 0, 1) := dk_9 (dk_at dksX0_odds_1 6 rfl rfl)
theorem dX0_odds_31 : decode cX0_odds 31 = .ok (.ldc2_w 271, 3) := dk_20 1 15 (dk_at dksX0_odds_1 7 rfl rfl)
theorem dX0_odds_34 : decode cX0_odds 34 = .ok (.invokestatic 73, 3) := dk_184 0 73 (dk_at dksX0_odds_1 10 rfl rfl)
theorem dX0_odds_37 : decode cX0_odds 37 = .ok (.ifCond .eq 14, 3) := dk_153 0 14 (dk_at dksX0_odds_1 13 rfl rfl)
theorem dX0_odds_40 : decode cX0_odds 40 = .ok (.iload 6, 2) := dk_21 6 (dk_at dksX0_odds_1 16 rfl rfl)
theorem dX0_odds_42 : decode cX0_odds 42 = .ok (.i2l, 1) := dk_133 (dk_at dksX0_odds_1 18 rfl rfl)
theorem dX0_odds_43 : decode cX0_odds 43 = .ok (.lconst 0, 1) := dk_9 (dk_at dksX0_odds_1 19 rfl rfl)
theorem dX0_odds_44 : decode cX0_odds 44 = .ok (.lconst 1, 1) := dk_10 (dk_at dksX0_odds_1 20 rfl rfl)
theorem dX0_odds_45 : decode cX0_odds 45 = .ok (.invokestatic 73, 3) := dk_184 0 73 (dk_at dksX0_odds_1 21 rfl rfl)
theorem dX0_odds_48 : decode cX0_odds 48 = .ok (.ifCond .ne 7, 3) := dk_154 0 7 (dk_at dksX0_odds_2 0 rfl rfl)
theorem dX0_odds_51 : decode cX0_odds 51 = .ok (.ldc2_w 80, 3) := dk_20 0 80 (dk_at dksX0_odds_2 3 rfl rfl)
theorem dX0_odds_54 : decode cX0_odds 54 = .ok (.lreturn, 1) := dk_173 (dk_at dksX0_odds_2 6 rfl rfl)
theorem dX0_odds_55 : decode cX0_odds 55 = .ok (.aload_n 0, 1) := dk_42 (dk_at dksX0_odds_2 7 rfl rfl)
theorem dX0_odds_56 : decode cX0_odds 56 = .ok (.iload_n 1, 1) := dk_27 (dk_at dksX0_odds_2 8 rfl rfl)
theorem dX0_odds_57 : decode cX0_odds 57 = .ok (.aload_n 0, 1) := dk_42 (dk_at dksX0_odds_2 9 rfl rfl)
theorem dX0_odds_58 : decode cX0_odds 58 = .ok (.getfield 67, 3) := dk_180 0 67 (dk_at dksX0_odds_2 10 rfl rfl)
theorem dX0_odds_61 : decode cX0_odds 61 = .ok (.iload_n 2, 1) := dk_28 (dk_at dksX0_odds_2 13 rfl rfl)
theorem dX0_odds_62 : decode cX0_odds 62 = .ok (.aaload, 1) := dk_50 (dk_at dksX0_odds_2 14 rfl rfl)
theorem dX0_odds_63 : decode cX0_odds 63 = .ok (.getfield 157, 3) := dk_180 0 157 (dk_at dksX0_odds_2 15 rfl rfl)
theorem dX0_odds_66 : decode cX0_odds 66 = .ok (.iload_n 3, 1) := dk_29 (dk_at dksX0_odds_2 18 rfl rfl)
theorem dX0_odds_67 : decode cX0_odds 67 = .ok (.invokestatic 162, 3) := dk_184 0 162 (dk_at dksX0_odds_2 19 rfl rfl)
theorem dX0_odds_70 : decode cX0_odds 70 = .ok (.iload 4, 2) := dk_21 4 (dk_at dksX0_odds_2 22 rfl rfl)
theorem dX0_odds_72 : decode cX0_odds 72 = .ok (.iconst 2, 1) := dk_5 (dk_at dksX0_odds_3 0 rfl rfl)
theorem dX0_odds_73 : decode cX0_odds 73 = .ok (.iload 5, 2) := dk_21 5 (dk_at dksX0_odds_3 1 rfl rfl)
theorem dX0_odds_75 : decode cX0_odds 75 = .ok (.imul, 1) := dk_104 (dk_at dksX0_odds_3 3 rfl rfl)
theorem dX0_odds_76 : decode cX0_odds 76 = .ok (.invokestatic 166, 3) := dk_184 0 166 (dk_at dksX0_odds_3 4 rfl rfl)
theorem dX0_odds_79 : decode cX0_odds 79 = .ok (.iload 6, 2) := dk_21 6 (dk_at dksX0_odds_3 7 rfl rfl)
theorem dX0_odds_81 : decode cX0_odds 81 = .ok (.invokevirtual 352, 3) := dk_182 1 96 (dk_at dksX0_odds_3 9 rfl rfl)
theorem dX0_odds_84 : decode cX0_odds 84 = .ok (.lreturn, 1) := dk_173 (dk_at dksX0_odds_3 12 rfl rfl)
theorem dX0_odds_85 : decode cX0_odds 85 = .ok (.astore 7, 2) := dk_58 7 (dk_at dksX0_odds_3 13 rfl rfl)
theorem dX0_odds_87 : decode cX0_odds 87 = .ok (.aload_n 0, 1) := dk_42 (dk_at dksX0_odds_3 15 rfl rfl)
theorem dX0_odds_88 : decode cX0_odds 88 = .ok (.iconst 2, 1) := dk_5 (dk_at dksX0_odds_3 16 rfl rfl)
theorem dX0_odds_89 : decode cX0_odds 89 = .ok (.invokevirtual 356, 3) := dk_182 1 100 (dk_at dksX0_odds_3 17 rfl rfl)
theorem dX0_odds_92 : decode cX0_odds 92 = .ok (.lreturn, 1) := dk_173 (dk_at dksX0_odds_3 20 rfl rfl)
theorem dX0_odds_93 : decode cX0_odds 93 = .ok (.astore 7, 2) := dk_58 7 (dk_at dksX0_odds_3 21 rfl rfl)
theorem dX0_odds_95 : decode cX0_odds 95 = .ok (.aload_n 0, 1) := dk_42 (dk_at dksX0_odds_3 23 rfl rfl)
theorem dX0_odds_96 : decode cX0_odds 96 = .ok (.iconst 1, 1) := dk_4 (dk_at dksX0_odds_4 0 rfl rfl)
theorem dX0_odds_97 : decode cX0_odds 97 = .ok (.invokevirtual 356, 3) := dk_182 1 100 (dk_at dksX0_odds_4 1 rfl rfl)
theorem dX0_odds_100 : decode cX0_odds 100 = .ok (.lreturn, 1) := dk_173 (dk_at dksX0_odds_4 4 rfl rfl)
theorem dX0_odds_101 : decode cX0_odds 101 = .ok (.astore 7, 2) := dk_58 7 (dk_at dksX0_odds_4 5 rfl rfl)
theorem dX0_odds_103 : decode cX0_odds 103 = .ok (.aload_n 0, 1) := dk_42 (dk_at dksX0_odds_4 7 rfl rfl)
theorem dX0_odds_104 : decode cX0_odds 104 = .ok (.iconst 3, 1) := dk_6 (dk_at dksX0_odds_4 8 rfl rfl)
theorem dX0_odds_105 : decode cX0_odds 105 = .ok (.invokevirtual 356, 3) := dk_182 1 100 (dk_at dksX0_odds_4 9 rfl rfl)
theorem dX0_odds_108 : decode cX0_odds 108 = .ok (.lreturn, 1) := dk_173 (dk_at dksX0_odds_4 12 rfl rfl)
abbrev cX0_oddsOf : ByteArray := prog_1_method_55_code
def yX0_oddsOf : MethodName := ⟨RX0, "oddsOf", "(I[II)J"⟩
def dkwX0_oddsOf_4 : List UInt8 := [154, 0, 12, 10, 21, 5, 121, 10, 101, 167, 0, 7, 10, 21, 5, 121, 173]
abbrev dktX0_oddsOf_4 : List UInt8 := dkwX0_oddsOf_4 ++ []
def dkwX0_oddsOf_3 : List UInt8 := [16, 6, 104, 21, 6, 96, 46, 21, 4, 122, 4, 126, 96, 54, 5, 132, 6, 1, 167, 255, 222, 29]
abbrev dktX0_oddsOf_3 : List UInt8 := dkwX0_oddsOf_3 ++ dktX0_oddsOf_4
def dkwX0_oddsOf_2 : List UInt8 := [10, 173, 3, 54, 5, 3, 54, 6, 21, 6, 42, 182, 0, 106, 162, 0, 31, 21, 5, 42, 180, 0, 41, 27]
abbrev dktX0_oddsOf_2 : List UInt8 := dkwX0_oddsOf_2 ++ dktX0_oddsOf_3
def dkwX0_oddsOf_1 : List UInt8 := [180, 0, 12, 27, 185, 0, 188, 2, 0, 192, 0, 85, 180, 0, 198, 54, 4, 21, 4, 16, 6, 160, 0, 5]
abbrev dktX0_oddsOf_1 : List UInt8 := dkwX0_oddsOf_1 ++ dktX0_oddsOf_2
def dkwX0_oddsOf_0 : List UInt8 := [42, 44, 182, 0, 253, 154, 0, 13, 42, 44, 182, 1, 0, 16, 247, 159, 0, 7, 20, 0, 80, 173, 42]
abbrev dktX0_oddsOf_0 : List UInt8 := dkwX0_oddsOf_0 ++ dktX0_oddsOf_1
theorem dksX0_oddsOf_0 : cX0_oddsOf.data.toList.drop 0 = dktX0_oddsOf_0 := by decide +kernel
theorem dksX0_oddsOf_1 : cX0_oddsOf.data.toList.drop 23 = dktX0_oddsOf_1 := dk_seg dksX0_oddsOf_0 23 rfl rfl
theorem dksX0_oddsOf_2 : cX0_oddsOf.data.toList.drop 47 = dktX0_oddsOf_2 := dk_seg dksX0_oddsOf_1 24 rfl rfl
theorem dksX0_oddsOf_3 : cX0_oddsOf.data.toList.drop 71 = dktX0_oddsOf_3 := dk_seg dksX0_oddsOf_2 24 rfl rfl
theorem dksX0_oddsOf_4 : cX0_oddsOf.data.toList.drop 93 = dktX0_oddsOf_4 := dk_seg dksX0_oddsOf_3 22 rfl rfl
theorem dX0_oddsOf_0 : decode cX0_oddsOf 0 = .ok (.aload_n 0, 1) := dk_42 (dk_at dksX0_oddsOf_0 0 rfl rfl)
theorem dX0_oddsOf_1 : decode cX0_oddsOf 1 = .ok (.aload_n 2, 1) := dk_44 (dk_at dksX0_oddsOf_0 1 rfl rfl)
theorem dX0_oddsOf_2 : decode cX0_oddsOf 2 = .ok (.invokevirtual 253, 3) := dk_182 0 253 (dk_at dksX0_oddsOf_0 2 rfl rfl)
theorem dX0_oddsOf_5 : decode cX0_oddsOf 5 = .ok (.ifCond .ne 13, 3) := dk_154 0 13 (dk_at dksX0_oddsOf_0 5 rfl rfl)
theorem dX0_oddsOf_8 : decode cX0_oddsOf 8 = .ok (.aload_n 0, 1) := dk_42 (dk_at dksX0_oddsOf_0 8 rfl rfl)
theorem dX0_oddsOf_9 : decode cX0_oddsOf 9 = .ok (.aload_n 2, 1) := dk_44 (dk_at dksX0_oddsOf_0 9 rfl rfl)
theorem dX0_oddsOf_10 : decode cX0_oddsOf 10 = .ok (.invokevirtual 256, 3) := dk_182 1 0 (dk_at dksX0_oddsOf_0 10 rfl rfl)
theorem dX0_oddsOf_13 : decode cX0_oddsOf 13 = .ok (.bipush (-9), 2) := dk_16 247 (dk_at dksX0_oddsOf_0 13 rfl rfl)
theorem dX0_oddsOf_15 : decode cX0_oddsOf 15 = .ok (.if_icmp .eq 7, 3) := dk_159 0 7 (dk_at dksX0_oddsOf_0 15 rfl rfl)
theorem dX0_oddsOf_18 : decode cX0_oddsOf 18 = .ok (.ldc2_w 80, 3) := dk_20 0 80 (dk_at dksX0_oddsOf_0 18 rfl rfl)
theorem dX0_oddsOf_21 : decode cX0_oddsOf 21 = .ok (.lreturn, 1) := dk_173 (dk_at dksX0_oddsOf_0 21 rfl rfl)
theorem dX0_oddsOf_22 : decode cX0_oddsOf 22 = .ok (.aload_n 0, 1) := dk_42 (dk_at dksX0_oddsOf_0 22 rfl rfl)
theorem dX0_oddsOf_23 : decode cX0_oddsOf 23 = .ok (.getfield 12, 3) := dk_180 0 12 (dk_at dksX0_oddsOf_1 0 rfl rfl)
theorem dX0_oddsOf_26 : decode cX0_oddsOf 26 = .ok (.iload_n 1, 1) := dk_27 (dk_at dksX0_oddsOf_1 3 rfl rfl)
theorem dX0_oddsOf_27 : decode cX0_oddsOf 27 = .ok (.invokeinterface 188 2, 5) := by decide +kernel
theorem dX0_oddsOf_32 : decode cX0_oddsOf 32 = .ok (.checkcast 85, 3) := dk_192 0 85 (dk_at dksX0_oddsOf_1 9 rfl rfl)
theorem dX0_oddsOf_35 : decode cX0_oddsOf 35 = .ok (.getfield 198, 3) := dk_180 0 198 (dk_at dksX0_oddsOf_1 12 rfl rfl)
theorem dX0_oddsOf_38 : decode cX0_oddsOf 38 = .ok (.istore 4, 2) := dk_54 4 (dk_at dksX0_oddsOf_1 15 rfl rfl)
theorem dX0_oddsOf_40 : decode cX0_oddsOf 40 = .ok (.iload 4, 2) := dk_21 4 (dk_at dksX0_oddsOf_1 17 rfl rfl)
theorem dX0_oddsOf_42 : decode cX0_oddsOf 42 = .ok (.bipush 6, 2) := dk_16 6 (dk_at dksX0_oddsOf_1 19 rfl rfl)
theorem dX0_oddsOf_44 : decode cX0_oddsOf 44 = .ok (.if_icmp .ne 5, 3) := dk_160 0 5 (dk_at dksX0_oddsOf_1 21 rfl rfl)
theorem dX0_oddsOf_47 : decode cX0_oddsOf 47 = .ok (.lconst 1, 1) := dk_10 (dk_at dksX0_oddsOf_2 0 rfl rfl)
theorem dX0_oddsOf_48 : decode cX0_oddsOf 48 = .ok (.lreturn, 1) := dk_173 (dk_at dksX0_oddsOf_2 1 rfl rfl)
theorem dX0_oddsOf_49 : decode cX0_oddsOf 49 = .ok (.iconst 0, 1) := dk_3 (dk_at dksX0_oddsOf_2 2 rfl rfl)
theorem dX0_oddsOf_50 : decode cX0_oddsOf 50 = .ok (.istore 5, 2) := dk_54 5 (dk_at dksX0_oddsOf_2 3 rfl rfl)
theorem dX0_oddsOf_52 : decode cX0_oddsOf 52 = .ok (.iconst 0, 1) := dk_3 (dk_at dksX0_oddsOf_2 5 rfl rfl)
theorem dX0_oddsOf_53 : decode cX0_oddsOf 53 = .ok (.istore 6, 2) := dk_54 6 (dk_at dksX0_oddsOf_2 6 rfl rfl)
theorem dX0_oddsOf_55 : decode cX0_oddsOf 55 = .ok (.iload 6, 2) := dk_21 6 (dk_at dksX0_oddsOf_2 8 rfl rfl)
theorem dX0_oddsOf_57 : decode cX0_oddsOf 57 = .ok (.aload_n 0, 1) := dk_42 (dk_at dksX0_oddsOf_2 10 rfl rfl)
theorem dX0_oddsOf_58 : decode cX0_oddsOf 58 = .ok (.invokevirtual 106, 3) := dk_182 0 106 (dk_at dksX0_oddsOf_2 11 rfl rfl)
theorem dX0_oddsOf_61 : decode cX0_oddsOf 61 = .ok (.if_icmp .ge 31, 3) := dk_162 0 31 (dk_at dksX0_oddsOf_2 14 rfl rfl)
theorem dX0_oddsOf_64 : decode cX0_oddsOf 64 = .ok (.iload 5, 2) := dk_21 5 (dk_at dksX0_oddsOf_2 17 rfl rfl)
theorem dX0_oddsOf_66 : decode cX0_oddsOf 66 = .ok (.aload_n 0, 1) := dk_42 (dk_at dksX0_oddsOf_2 19 rfl rfl)
theorem dX0_oddsOf_67 : decode cX0_oddsOf 67 = .ok (.getfield 41, 3) := dk_180 0 41 (dk_at dksX0_oddsOf_2 20 rfl rfl)
theorem dX0_oddsOf_70 : decode cX0_oddsOf 70 = .ok (.iload_n 1, 1) := dk_27 (dk_at dksX0_oddsOf_2 23 rfl rfl)
theorem dX0_oddsOf_71 : decode cX0_oddsOf 71 = .ok (.bipush 6, 2) := dk_16 6 (dk_at dksX0_oddsOf_3 0 rfl rfl)
theorem dX0_oddsOf_73 : decode cX0_oddsOf 73 = .ok (.imul, 1) := dk_104 (dk_at dksX0_oddsOf_3 2 rfl rfl)
theorem dX0_oddsOf_74 : decode cX0_oddsOf 74 = .ok (.iload 6, 2) := dk_21 6 (dk_at dksX0_oddsOf_3 3 rfl rfl)
theorem dX0_oddsOf_76 : decode cX0_oddsOf 76 = .ok (.iadd, 1) := dk_96 (dk_at dksX0_oddsOf_3 5 rfl rfl)
theorem dX0_oddsOf_77 : decode cX0_oddsOf 77 = .ok (.iaload, 1) := dk_46 (dk_at dksX0_oddsOf_3 6 rfl rfl)
theorem dX0_oddsOf_78 : decode cX0_oddsOf 78 = .ok (.iload 4, 2) := dk_21 4 (dk_at dksX0_oddsOf_3 7 rfl rfl)
theorem dX0_oddsOf_80 : decode cX0_oddsOf 80 = .ok (.ishr, 1) := dk_122 (dk_at dksX0_oddsOf_3 9 rfl rfl)
theorem dX0_oddsOf_81 : decode cX0_oddsOf 81 = .ok (.iconst 1, 1) := dk_4 (dk_at dksX0_oddsOf_3 10 rfl rfl)
theorem dX0_oddsOf_82 : decode cX0_oddsOf 82 = .ok (.iand, 1) := dk_126 (dk_at dksX0_oddsOf_3 11 rfl rfl)
theorem dX0_oddsOf_83 : decode cX0_oddsOf 83 = .ok (.iadd, 1) := dk_96 (dk_at dksX0_oddsOf_3 12 rfl rfl)
theorem dX0_oddsOf_84 : decode cX0_oddsOf 84 = .ok (.istore 5, 2) := dk_54 5 (dk_at dksX0_oddsOf_3 13 rfl rfl)
theorem dX0_oddsOf_86 : decode cX0_oddsOf 86 = .ok (.iinc 6 1, 3) := dk_132 6 1 (dk_at dksX0_oddsOf_3 15 rfl rfl)
theorem dX0_oddsOf_89 : decode cX0_oddsOf 89 = .ok (.goto (-34), 3) := dk_167 255 222 (dk_at dksX0_oddsOf_3 18 rfl rfl)
theorem dX0_oddsOf_92 : decode cX0_oddsOf 92 = .ok (.iload_n 3, 1) := dk_29 (dk_at dksX0_oddsOf_3 21 rfl rfl)
theorem dX0_oddsOf_93 : decode cX0_oddsOf 93 = .ok (.ifCond .ne 12, 3) := dk_154 0 12 (dk_at dksX0_oddsOf_4 0 rfl rfl)
theorem dX0_oddsOf_96 : decode cX0_oddsOf 96 = .ok (.lconst 1, 1) := dk_10 (dk_at dksX0_oddsOf_4 3 rfl rfl)
theorem dX0_oddsOf_97 : decode cX0_oddsOf 97 = .ok (.iload 5, 2) := dk_21 5 (dk_at dksX0_oddsOf_4 4 rfl rfl)
theorem dX0_oddsOf_99 : decode cX0_oddsOf 99 = .ok (.lshl, 1) := dk_121 (dk_at dksX0_oddsOf_4 6 rfl rfl)
theorem dX0_oddsOf_100 : decode cX0_oddsOf 100 = .ok (.lconst 1, 1) := dk_10 (dk_at dksX0_oddsOf_4 7 rfl rfl)
theorem dX0_oddsOf_101 : decode cX0_oddsOf 101 = .ok (.lsub, 1) := dk_101 (dk_at dksX0_oddsOf_4 8 rfl rfl)
theorem dX0_oddsOf_102 : decode cX0_oddsOf 102 = .ok (.goto 7, 3) := dk_167 0 7 (dk_at dksX0_oddsOf_4 9 rfl rfl)
theorem dX0_oddsOf_105 : decode cX0_oddsOf 105 = .ok (.lconst 1, 1) := dk_10 (dk_at dksX0_oddsOf_4 12 rfl rfl)
theorem dX0_oddsOf_106 : decode cX0_oddsOf 106 = .ok (.iload 5, 2) := dk_21 5 (dk_at dksX0_oddsOf_4 13 rfl rfl)
theorem dX0_oddsOf_108 : decode cX0_oddsOf 108 = .ok (.lshl, 1) := dk_121 (dk_at dksX0_oddsOf_4 15 rfl rfl)
theorem dX0_oddsOf_109 : decode cX0_oddsOf 109 = .ok (.lreturn, 1) := dk_173 (dk_at dksX0_oddsOf_4 16 rfl rfl)
abbrev cX0_lost : ByteArray := prog_1_method_6_code
def yX0_lost : MethodName := ⟨RX0, "lost", "(I)J"⟩
def dkwX0_lost_0 : List UInt8 := [42, 27, 181, 0, 77, 20, 0, 80, 173]
abbrev dktX0_lost_0 : List UInt8 := dkwX0_lost_0 ++ []
theorem dksX0_lost_0 : cX0_lost.data.toList.drop 0 = dktX0_lost_0 := by decide +kernel
theorem dX0_lost_0 : decode cX0_lost 0 = .ok (.aload_n 0, 1) := dk_42 (dk_at dksX0_lost_0 0 rfl rfl)
theorem dX0_lost_1 : decode cX0_lost 1 = .ok (.iload_n 1, 1) := dk_27 (dk_at dksX0_lost_0 1 rfl rfl)
theorem dX0_lost_2 : decode cX0_lost 2 = .ok (.putfield 77, 3) := dk_181 0 77 (dk_at dksX0_lost_0 2 rfl rfl)
theorem dX0_lost_5 : decode cX0_lost 5 = .ok (.ldc2_w 80, 3) := dk_20 0 80 (dk_at dksX0_lost_0 5 rfl rfl)
theorem dX0_lost_8 : decode cX0_lost 8 = .ok (.lreturn, 1) := dk_173 (dk_at dksX0_lost_0 8 rfl rfl)
abbrev cX0_sheet : ByteArray := prog_1_method_63_code
def yX0_sheet : MethodName := ⟨RX0, "sheet", "(III)I"⟩
def dkwX0_sheet_3 : List UInt8 := [172]
abbrev dktX0_sheet_3 : List UInt8 := dkwX0_sheet_3 ++ []
def dkwX0_sheet_2 : List UInt8 := [160, 0, 9, 29, 188, 9, 167, 0, 6, 29, 188, 10, 181, 0, 157, 4, 172, 58, 4, 42, 7, 182, 0, 175]
abbrev dktX0_sheet_2 : List UInt8 := dkwX0_sheet_2 ++ dktX0_sheet_3
def dkwX0_sheet_1 : List UInt8 := [164, 0, 6, 16, 254, 172, 42, 180, 0, 67, 27, 50, 28, 154, 0, 9, 29, 188, 8, 167, 0, 17, 28, 4]
abbrev dktX0_sheet_1 : List UInt8 := dkwX0_sheet_1 ++ dktX0_sheet_2
def dkwX0_sheet_0 : List UInt8 := [42, 3, 181, 0, 77, 27, 184, 0, 150, 154, 0, 5, 2, 172, 28, 184, 0, 154, 153, 0, 9, 29, 16, 60]
abbrev dktX0_sheet_0 : List UInt8 := dkwX0_sheet_0 ++ dktX0_sheet_1
theorem dksX0_sheet_0 : cX0_sheet.data.toList.drop 0 = dktX0_sheet_0 := by decide +kernel
theorem dksX0_sheet_1 : cX0_sheet.data.toList.drop 24 = dktX0_sheet_1 := dk_seg dksX0_sheet_0 24 rfl rfl
theorem dksX0_sheet_2 : cX0_sheet.data.toList.drop 48 = dktX0_sheet_2 := dk_seg dksX0_sheet_1 24 rfl rfl
theorem dksX0_sheet_3 : cX0_sheet.data.toList.drop 72 = dktX0_sheet_3 := dk_seg dksX0_sheet_2 24 rfl rfl
theorem dX0_sheet_0 : decode cX0_sheet 0 = .ok (.aload_n 0, 1) := dk_42 (dk_at dksX0_sheet_0 0 rfl rfl)
theorem dX0_sheet_1 : decode cX0_sheet 1 = .ok (.iconst 0, 1) := dk_3 (dk_at dksX0_sheet_0 1 rfl rfl)
theorem dX0_sheet_2 : decode cX0_sheet 2 = .ok (.putfield 77, 3) := dk_181 0 77 (dk_at dksX0_sheet_0 2 rfl rfl)
theorem dX0_sheet_5 : decode cX0_sheet 5 = .ok (.iload_n 1, 1) := dk_27 (dk_at dksX0_sheet_0 5 rfl rfl)
theorem dX0_sheet_6 : decode cX0_sheet 6 = .ok (.invokestatic 150, 3) := dk_184 0 150 (dk_at dksX0_sheet_0 6 rfl rfl)
theorem dX0_sheet_9 : decode cX0_sheet 9 = .ok (.ifCond .ne 5, 3) := dk_154 0 5 (dk_at dksX0_sheet_0 9 rfl rfl)
theorem dX0_sheet_12 : decode cX0_sheet 12 = .ok (.iconst (-1), 1) := dk_2 (dk_at dksX0_sheet_0 12 rfl rfl)
theorem dX0_sheet_13 : decode cX0_sheet 13 = .ok (.ireturn, 1) := dk_172 (dk_at dksX0_sheet_0 13 rfl rfl)
theorem dX0_sheet_14 : decode cX0_sheet 14 = .ok (.iload_n 2, 1) := dk_28 (dk_at dksX0_sheet_0 14 rfl rfl)
theorem dX0_sheet_15 : decode cX0_sheet 15 = .ok (.invokestatic 154, 3) := dk_184 0 154 (dk_at dksX0_sheet_0 15 rfl rfl)
theorem dX0_sheet_18 : decode cX0_sheet 18 = .ok (.ifCond .eq 9, 3) := dk_153 0 9 (dk_at dksX0_sheet_0 18 rfl rfl)
theorem dX0_sheet_21 : decode cX0_sheet 21 = .ok (.iload_n 3, 1) := dk_29 (dk_at dksX0_sheet_0 21 rfl rfl)
theorem dX0_sheet_22 : decode cX0_sheet 22 = .ok (.bipush 60, 2) := dk_16 60 (dk_at dksX0_sheet_0 22 rfl rfl)
theorem dX0_sheet_24 : decode cX0_sheet 24 = .ok (.if_icmp .le 6, 3) := dk_164 0 6 (dk_at dksX0_sheet_1 0 rfl rfl)
theorem dX0_sheet_27 : decode cX0_sheet 27 = .ok (.bipush (-2), 2) := dk_16 254 (dk_at dksX0_sheet_1 3 rfl rfl)
theorem dX0_sheet_29 : decode cX0_sheet 29 = .ok (.ireturn, 1) := dk_172 (dk_at dksX0_sheet_1 5 rfl rfl)
theorem dX0_sheet_30 : decode cX0_sheet 30 = .ok (.aload_n 0, 1) := dk_42 (dk_at dksX0_sheet_1 6 rfl rfl)
theorem dX0_sheet_31 : decode cX0_sheet 31 = .ok (.getfield 67, 3) := dk_180 0 67 (dk_at dksX0_sheet_1 7 rfl rfl)
theorem dX0_sheet_34 : decode cX0_sheet 34 = .ok (.iload_n 1, 1) := dk_27 (dk_at dksX0_sheet_1 10 rfl rfl)
theorem dX0_sheet_35 : decode cX0_sheet 35 = .ok (.aaload, 1) := dk_50 (dk_at dksX0_sheet_1 11 rfl rfl)
theorem dX0_sheet_36 : decode cX0_sheet 36 = .ok (.iload_n 2, 1) := dk_28 (dk_at dksX0_sheet_1 12 rfl rfl)
theorem dX0_sheet_37 : decode cX0_sheet 37 = .ok (.ifCond .ne 9, 3) := dk_154 0 9 (dk_at dksX0_sheet_1 13 rfl rfl)
theorem dX0_sheet_40 : decode cX0_sheet 40 = .ok (.iload_n 3, 1) := dk_29 (dk_at dksX0_sheet_1 16 rfl rfl)
theorem dX0_sheet_41 : decode cX0_sheet 41 = .ok (.newarray .byte, 2) := dk_188_8 (dk_at dksX0_sheet_1 17 rfl rfl)
theorem dX0_sheet_43 : decode cX0_sheet 43 = .ok (.goto 17, 3) := dk_167 0 17 (dk_at dksX0_sheet_1 19 rfl rfl)
theorem dX0_sheet_46 : decode cX0_sheet 46 = .ok (.iload_n 2, 1) := dk_28 (dk_at dksX0_sheet_1 22 rfl rfl)
theorem dX0_sheet_47 : decode cX0_sheet 47 = .ok (.iconst 1, 1) := dk_4 (dk_at dksX0_sheet_1 23 rfl rfl)
theorem dX0_sheet_48 : decode cX0_sheet 48 = .ok (.if_icmp .ne 9, 3) := dk_160 0 9 (dk_at dksX0_sheet_2 0 rfl rfl)
theorem dX0_sheet_51 : decode cX0_sheet 51 = .ok (.iload_n 3, 1) := dk_29 (dk_at dksX0_sheet_2 3 rfl rfl)
theorem dX0_sheet_52 : decode cX0_sheet 52 = .ok (.newarray .short, 2) := dk_188_9 (dk_at dksX0_sheet_2 4 rfl rfl)
theorem dX0_sheet_54 : decode cX0_sheet 54 = .ok (.goto 6, 3) := dk_167 0 6 (dk_at dksX0_sheet_2 6 rfl rfl)
theorem dX0_sheet_57 : decode cX0_sheet 57 = .ok (.iload_n 3, 1) := dk_29 (dk_at dksX0_sheet_2 9 rfl rfl)
theorem dX0_sheet_58 : decode cX0_sheet 58 = .ok (.newarray .int, 2) := dk_188_10 (dk_at dksX0_sheet_2 10 rfl rfl)
theorem dX0_sheet_60 : decode cX0_sheet 60 = .ok (.putfield 157, 3) := dk_181 0 157 (dk_at dksX0_sheet_2 12 rfl rfl)
theorem dX0_sheet_63 : decode cX0_sheet 63 = .ok (.iconst 1, 1) := dk_4 (dk_at dksX0_sheet_2 15 rfl rfl)
theorem dX0_sheet_64 : decode cX0_sheet 64 = .ok (.ireturn, 1) := dk_172 (dk_at dksX0_sheet_2 16 rfl rfl)
theorem dX0_sheet_65 : decode cX0_sheet 65 = .ok (.astore 4, 2) := dk_58 4 (dk_at dksX0_sheet_2 17 rfl rfl)
theorem dX0_sheet_67 : decode cX0_sheet 67 = .ok (.aload_n 0, 1) := dk_42 (dk_at dksX0_sheet_2 19 rfl rfl)
theorem dX0_sheet_68 : decode cX0_sheet 68 = .ok (.iconst 4, 1) := dk_7 (dk_at dksX0_sheet_2 20 rfl rfl)
theorem dX0_sheet_69 : decode cX0_sheet 69 = .ok (.invokevirtual 175, 3) := dk_182 0 175 (dk_at dksX0_sheet_2 21 rfl rfl)
theorem dX0_sheet_72 : decode cX0_sheet 72 = .ok (.ireturn, 1) := dk_172 (dk_at dksX0_sheet_3 0 rfl rfl)
abbrev cX0_lose : ByteArray := prog_1_method_64_code
def yX0_lose : MethodName := ⟨RX0, "lose", "(I)I"⟩
def dkwX0_lose_1 : List UInt8 := [167, 0, 4, 4, 61, 42, 180, 0, 67, 27, 50, 1, 181, 0, 157, 28, 172]
abbrev dktX0_lose_1 : List UInt8 := dkwX0_lose_1 ++ []
def dkwX0_lose_0 : List UInt8 := [27, 184, 0, 150, 154, 0, 5, 2, 172, 42, 180, 0, 67, 27, 50, 180, 0, 157, 199, 0, 7, 3]
abbrev dktX0_lose_0 : List UInt8 := dkwX0_lose_0 ++ dktX0_lose_1
theorem dksX0_lose_0 : cX0_lose.data.toList.drop 0 = dktX0_lose_0 := by decide +kernel
theorem dksX0_lose_1 : cX0_lose.data.toList.drop 22 = dktX0_lose_1 := dk_seg dksX0_lose_0 22 rfl rfl
theorem dX0_lose_0 : decode cX0_lose 0 = .ok (.iload_n 1, 1) := dk_27 (dk_at dksX0_lose_0 0 rfl rfl)
theorem dX0_lose_1 : decode cX0_lose 1 = .ok (.invokestatic 150, 3) := dk_184 0 150 (dk_at dksX0_lose_0 1 rfl rfl)
theorem dX0_lose_4 : decode cX0_lose 4 = .ok (.ifCond .ne 5, 3) := dk_154 0 5 (dk_at dksX0_lose_0 4 rfl rfl)
theorem dX0_lose_7 : decode cX0_lose 7 = .ok (.iconst (-1), 1) := dk_2 (dk_at dksX0_lose_0 7 rfl rfl)
theorem dX0_lose_8 : decode cX0_lose 8 = .ok (.ireturn, 1) := dk_172 (dk_at dksX0_lose_0 8 rfl rfl)
theorem dX0_lose_9 : decode cX0_lose 9 = .ok (.aload_n 0, 1) := dk_42 (dk_at dksX0_lose_0 9 rfl rfl)
theorem dX0_lose_10 : decode cX0_lose 10 = .ok (.getfield 67, 3) := dk_180 0 67 (dk_at dksX0_lose_0 10 rfl rfl)
theorem dX0_lose_13 : decode cX0_lose 13 = .ok (.iload_n 1, 1) := dk_27 (dk_at dksX0_lose_0 13 rfl rfl)
theorem dX0_lose_14 : decode cX0_lose 14 = .ok (.aaload, 1) := dk_50 (dk_at dksX0_lose_0 14 rfl rfl)
theorem dX0_lose_15 : decode cX0_lose 15 = .ok (.getfield 157, 3) := dk_180 0 157 (dk_at dksX0_lose_0 15 rfl rfl)
theorem dX0_lose_18 : decode cX0_lose 18 = .ok (.ifnonnull 7, 3) := dk_199 0 7 (dk_at dksX0_lose_0 18 rfl rfl)
theorem dX0_lose_21 : decode cX0_lose 21 = .ok (.iconst 0, 1) := dk_3 (dk_at dksX0_lose_0 21 rfl rfl)
theorem dX0_lose_22 : decode cX0_lose 22 = .ok (.goto 4, 3) := dk_167 0 4 (dk_at dksX0_lose_1 0 rfl rfl)
theorem dX0_lose_25 : decode cX0_lose 25 = .ok (.iconst 1, 1) := dk_4 (dk_at dksX0_lose_1 3 rfl rfl)
theorem dX0_lose_26 : decode cX0_lose 26 = .ok (.istore_n 2, 1) := dk_61 (dk_at dksX0_lose_1 4 rfl rfl)
theorem dX0_lose_27 : decode cX0_lose 27 = .ok (.aload_n 0, 1) := dk_42 (dk_at dksX0_lose_1 5 rfl rfl)
theorem dX0_lose_28 : decode cX0_lose 28 = .ok (.getfield 67, 3) := dk_180 0 67 (dk_at dksX0_lose_1 6 rfl rfl)
theorem dX0_lose_31 : decode cX0_lose 31 = .ok (.iload_n 1, 1) := dk_27 (dk_at dksX0_lose_1 9 rfl rfl)
theorem dX0_lose_32 : decode cX0_lose 32 = .ok (.aaload, 1) := dk_50 (dk_at dksX0_lose_1 10 rfl rfl)
theorem dX0_lose_33 : decode cX0_lose 33 = .ok (.aconst_null, 1) := dk_1 (dk_at dksX0_lose_1 11 rfl rfl)
theorem dX0_lose_34 : decode cX0_lose 34 = .ok (.putfield 157, 3) := dk_181 0 157 (dk_at dksX0_lose_1 12 rfl rfl)
theorem dX0_lose_37 : decode cX0_lose 37 = .ok (.iload_n 2, 1) := dk_28 (dk_at dksX0_lose_1 15 rfl rfl)
theorem dX0_lose_38 : decode cX0_lose 38 = .ok (.ireturn, 1) := dk_172 (dk_at dksX0_lose_1 16 rfl rfl)
abbrev cX0_put : ByteArray := prog_1_method_65_code
def yX0_put : MethodName := ⟨RX0, "put", "(III)I"⟩
def dkwX0_put_4 : List UInt8 := [192, 1, 109, 28, 29, 79, 4, 172, 58, 4, 42, 4, 182, 0, 175, 172, 58, 4, 42, 6, 182, 0, 175, 172]
abbrev dktX0_put_4 : List UInt8 := dkwX0_put_4 ++ []
def dkwX0_put_3 : List UInt8 := [192, 1, 107, 58, 5, 25, 5, 28, 29, 147, 86, 167, 0, 18, 42, 180, 0, 67, 27, 50, 180, 0, 157]
abbrev dktX0_put_3 : List UInt8 := dkwX0_put_3 ++ dktX0_put_4
def dkwX0_put_2 : List UInt8 := [167, 0, 53, 42, 180, 0, 67, 27, 50, 180, 0, 157, 58, 6, 25, 6, 193, 1, 107, 153, 0, 19, 25, 6]
abbrev dktX0_put_2 : List UInt8 := dkwX0_put_2 ++ dktX0_put_3
def dkwX0_put_1 : List UInt8 := [58, 6, 25, 6, 193, 1, 105, 153, 0, 19, 25, 6, 192, 1, 105, 58, 4, 25, 4, 28, 29, 145, 84]
abbrev dktX0_put_1 : List UInt8 := dkwX0_put_1 ++ dktX0_put_2
def dkwX0_put_0 : List UInt8 := [42, 3, 181, 0, 77, 27, 184, 0, 150, 154, 0, 5, 2, 172, 42, 180, 0, 67, 27, 50, 180, 0, 157]
abbrev dktX0_put_0 : List UInt8 := dkwX0_put_0 ++ dktX0_put_1
theorem dksX0_put_0 : cX0_put.data.toList.drop 0 = dktX0_put_0 := by decide +kernel
theorem dksX0_put_1 : cX0_put.data.toList.drop 23 = dktX0_put_1 := dk_seg dksX0_put_0 23 rfl rfl
theorem dksX0_put_2 : cX0_put.data.toList.drop 46 = dktX0_put_2 := dk_seg dksX0_put_1 23 rfl rfl
theorem dksX0_put_3 : cX0_put.data.toList.drop 70 = dktX0_put_3 := dk_seg dksX0_put_2 24 rfl rfl
theorem dksX0_put_4 : cX0_put.data.toList.drop 93 = dktX0_put_4 := dk_seg dksX0_put_3 23 rfl rfl
theorem dX0_put_0 : decode cX0_put 0 = .ok (.aload_n 0, 1) := dk_42 (dk_at dksX0_put_0 0 rfl rfl)
theorem dX0_put_1 : decode cX0_put 1 = .ok (.iconst 0, 1) := dk_3 (dk_at dksX0_put_0 1 rfl rfl)
theorem dX0_put_2 : decode cX0_put 2 = .ok (.putfield 77, 3) := dk_181 0 77 (dk_at dksX0_put_0 2 rfl rfl)
theorem dX0_put_5 : decode cX0_put 5 = .ok (.iload_n 1, 1) := dk_27 (dk_at dksX0_put_0 5 rfl rfl)
theorem dX0_put_6 : decode cX0_put 6 = .ok (.invokestatic 150, 3) := dk_184 0 150 (dk_at dksX0_put_0 6 rfl rfl)
theorem dX0_put_9 : decode cX0_put 9 = .ok (.ifCond .ne 5, 3) := dk_154 0 5 (dk_at dksX0_put_0 9 rfl rfl)
theorem dX0_put_12 : decode cX0_put 12 = .ok (.iconst (-1), 1) := dk_2 (dk_at dksX0_put_0 12 rfl rfl)
theorem dX0_put_13 : decode cX0_put 13 = .ok (.ireturn, 1) := dk_172 (dk_at dksX0_put_0 13 rfl rfl)
theorem dX0_put_14 : decode cX0_put 14 = .ok (.aload_n 0, 1) := dk_42 (dk_at dksX0_put_0 14 rfl rfl)
theorem dX0_put_15 : decode cX0_put 15 = .ok (.getfield 67, 3) := dk_180 0 67 (dk_at dksX0_put_0 15 rfl rfl)
theorem dX0_put_18 : decode cX0_put 18 = .ok (.iload_n 1, 1) := dk_27 (dk_at dksX0_put_0 18 rfl rfl)
theorem dX0_put_19 : decode cX0_put 19 = .ok (.aaload, 1) := dk_50 (dk_at dksX0_put_0 19 rfl rfl)
theorem dX0_put_20 : decode cX0_put 20 = .ok (.getfield 157, 3) := dk_180 0 157 (dk_at dksX0_put_0 20 rfl rfl)
theorem dX0_put_23 : decode cX0_put 23 = .ok (.astore 6, 2) := dk_58 6 (dk_at dksX0_put_1 0 rfl rfl)
theorem dX0_put_25 : decode cX0_put 25 = .ok (.aload 6, 2) := dk_25 6 (dk_at dksX0_put_1 2 rfl rfl)
theorem dX0_put_27 : decode cX0_put 27 = .ok (.instanceof 361, 3) := dk_193 1 105 (dk_at dksX0_put_1 4 rfl rfl)
theorem dX0_put_30 : decode cX0_put 30 = .ok (.ifCond .eq 19, 3) := dk_153 0 19 (dk_at dksX0_put_1 7 rfl rfl)
theorem dX0_put_33 : decode cX0_put 33 = .ok (.aload 6, 2) := dk_25 6 (dk_at dksX0_put_1 10 rfl rfl)
theorem dX0_put_35 : decode cX0_put 35 = .ok (.checkcast 361, 3) := dk_192 1 105 (dk_at dksX0_put_1 12 rfl rfl)
theorem dX0_put_38 : decode cX0_put 38 = .ok (.astore 4, 2) := dk_58 4 (dk_at dksX0_put_1 15 rfl rfl)
theorem dX0_put_40 : decode cX0_put 40 = .ok (.aload 4, 2) := dk_25 4 (dk_at dksX0_put_1 17 rfl rfl)
theorem dX0_put_42 : decode cX0_put 42 = .ok (.iload_n 2, 1) := dk_28 (dk_at dksX0_put_1 19 rfl rfl)
theorem dX0_put_43 : decode cX0_put 43 = .ok (.iload_n 3, 1) := dk_29 (dk_at dksX0_put_1 20 rfl rfl)
theorem dX0_put_44 : decode cX0_put 44 = .ok (.i2b, 1) := dk_145 (dk_at dksX0_put_1 21 rfl rfl)
theorem dX0_put_45 : decode cX0_put 45 = .ok (.bastore, 1) := dk_84 (dk_at dksX0_put_1 22 rfl rfl)
theorem dX0_put_46 : decode cX0_put 46 = .ok (.goto 53, 3) := dk_167 0 53 (dk_at dksX0_put_2 0 rfl rfl)
theorem dX0_put_49 : decode cX0_put 49 = .ok (.aload_n 0, 1) := dk_42 (dk_at dksX0_put_2 3 rfl rfl)
theorem dX0_put_50 : decode cX0_put 50 = .ok (.getfield 67, 3) := dk_180 0 67 (dk_at dksX0_put_2 4 rfl rfl)
theorem dX0_put_53 : decode cX0_put 53 = .ok (.iload_n 1, 1) := dk_27 (dk_at dksX0_put_2 7 rfl rfl)
theorem dX0_put_54 : decode cX0_put 54 = .ok (.aaload, 1) := dk_50 (dk_at dksX0_put_2 8 rfl rfl)
theorem dX0_put_55 : decode cX0_put 55 = .ok (.getfield 157, 3) := dk_180 0 157 (dk_at dksX0_put_2 9 rfl rfl)
theorem dX0_put_58 : decode cX0_put 58 = .ok (.astore 6, 2) := dk_58 6 (dk_at dksX0_put_2 12 rfl rfl)
theorem dX0_put_60 : decode cX0_put 60 = .ok (.aload 6, 2) := dk_25 6 (dk_at dksX0_put_2 14 rfl rfl)
theorem dX0_put_62 : decode cX0_put 62 = .ok (.instanceof 363, 3) := dk_193 1 107 (dk_at dksX0_put_2 16 rfl rfl)
theorem dX0_put_65 : decode cX0_put 65 = .ok (.ifCond .eq 19, 3) := dk_153 0 19 (dk_at dksX0_put_2 19 rfl rfl)
theorem dX0_put_68 : decode cX0_put 68 = .ok (.aload 6, 2) := dk_25 6 (dk_at dksX0_put_2 22 rfl rfl)
theorem dX0_put_70 : decode cX0_put 70 = .ok (.checkcast 363, 3) := dk_192 1 107 (dk_at dksX0_put_3 0 rfl rfl)
theorem dX0_put_73 : decode cX0_put 73 = .ok (.astore 5, 2) := dk_58 5 (dk_at dksX0_put_3 3 rfl rfl)
theorem dX0_put_75 : decode cX0_put 75 = .ok (.aload 5, 2) := dk_25 5 (dk_at dksX0_put_3 5 rfl rfl)
theorem dX0_put_77 : decode cX0_put 77 = .ok (.iload_n 2, 1) := dk_28 (dk_at dksX0_put_3 7 rfl rfl)
theorem dX0_put_78 : decode cX0_put 78 = .ok (.iload_n 3, 1) := dk_29 (dk_at dksX0_put_3 8 rfl rfl)
theorem dX0_put_79 : decode cX0_put 79 = .ok (.i2s, 1) := dk_147 (dk_at dksX0_put_3 9 rfl rfl)
theorem dX0_put_80 : decode cX0_put 80 = .ok (.sastore, 1) := dk_86 (dk_at dksX0_put_3 10 rfl rfl)
theorem dX0_put_81 : decode cX0_put 81 = .ok (.goto 18, 3) := dk_167 0 18 (dk_at dksX0_put_3 11 rfl rfl)
theorem dX0_put_84 : decode cX0_put 84 = .ok (.aload_n 0, 1) := dk_42 (dk_at dksX0_put_3 14 rfl rfl)
theorem dX0_put_85 : decode cX0_put 85 = .ok (.getfield 67, 3) := dk_180 0 67 (dk_at dksX0_put_3 15 rfl rfl)
theorem dX0_put_88 : decode cX0_put 88 = .ok (.iload_n 1, 1) := dk_27 (dk_at dksX0_put_3 18 rfl rfl)
theorem dX0_put_89 : decode cX0_put 89 = .ok (.aaload, 1) := dk_50 (dk_at dksX0_put_3 19 rfl rfl)
theorem dX0_put_90 : decode cX0_put 90 = .ok (.getfield 157, 3) := dk_180 0 157 (dk_at dksX0_put_3 20 rfl rfl)
theorem dX0_put_93 : decode cX0_put 93 = .ok (.checkcast 365, 3) := dk_192 1 109 (dk_at dksX0_put_4 0 rfl rfl)
theorem dX0_put_96 : decode cX0_put 96 = .ok (.iload_n 2, 1) := dk_28 (dk_at dksX0_put_4 3 rfl rfl)
theorem dX0_put_97 : decode cX0_put 97 = .ok (.iload_n 3, 1) := dk_29 (dk_at dksX0_put_4 4 rfl rfl)
theorem dX0_put_98 : decode cX0_put 98 = .ok (.iastore, 1) := dk_79 (dk_at dksX0_put_4 5 rfl rfl)
theorem dX0_put_99 : decode cX0_put 99 = .ok (.iconst 1, 1) := dk_4 (dk_at dksX0_put_4 6 rfl rfl)
theorem dX0_put_100 : decode cX0_put 100 = .ok (.ireturn, 1) := dk_172 (dk_at dksX0_put_4 7 rfl rfl)
theorem dX0_put_101 : decode cX0_put 101 = .ok (.astore 4, 2) := dk_58 4 (dk_at dksX0_put_4 8 rfl rfl)
theorem dX0_put_103 : decode cX0_put 103 = .ok (.aload_n 0, 1) := dk_42 (dk_at dksX0_put_4 10 rfl rfl)
theorem dX0_put_104 : decode cX0_put 104 = .ok (.iconst 1, 1) := dk_4 (dk_at dksX0_put_4 11 rfl rfl)
theorem dX0_put_105 : decode cX0_put 105 = .ok (.invokevirtual 175, 3) := dk_182 0 175 (dk_at dksX0_put_4 12 rfl rfl)
theorem dX0_put_108 : decode cX0_put 108 = .ok (.ireturn, 1) := dk_172 (dk_at dksX0_put_4 15 rfl rfl)
theorem dX0_put_109 : decode cX0_put 109 = .ok (.astore 4, 2) := dk_58 4 (dk_at dksX0_put_4 16 rfl rfl)
theorem dX0_put_111 : decode cX0_put 111 = .ok (.aload_n 0, 1) := dk_42 (dk_at dksX0_put_4 18 rfl rfl)
theorem dX0_put_112 : decode cX0_put 112 = .ok (.iconst 3, 1) := dk_6 (dk_at dksX0_put_4 19 rfl rfl)
theorem dX0_put_113 : decode cX0_put 113 = .ok (.invokevirtual 175, 3) := dk_182 0 175 (dk_at dksX0_put_4 20 rfl rfl)
theorem dX0_put_116 : decode cX0_put 116 = .ok (.ireturn, 1) := dk_172 (dk_at dksX0_put_4 23 rfl rfl)
abbrev cX0_cell : ByteArray := prog_1_method_66_code
def yX0_cell : MethodName := ⟨RX0, "cell", "(III)J"⟩
def dkwX0_cell_2 : List UInt8 := [182, 1, 100, 173, 58, 4, 42, 4, 182, 1, 100, 173, 58, 4, 42, 6, 182, 1, 100, 173]
abbrev dktX0_cell_2 : List UInt8 := dkwX0_cell_2 ++ []
def dkwX0_cell_1 : List UInt8 := [180, 0, 67, 27, 50, 180, 0, 157, 29, 184, 0, 162, 28, 184, 1, 110, 133, 173, 58, 4, 42, 5]
abbrev dktX0_cell_1 : List UInt8 := dkwX0_cell_1 ++ dktX0_cell_2
def dkwX0_cell_0 : List UInt8 := [42, 3, 181, 0, 77, 27, 184, 0, 150, 153, 0, 10, 29, 184, 0, 154, 154, 0, 7, 20, 0, 80, 173, 42]
abbrev dktX0_cell_0 : List UInt8 := dkwX0_cell_0 ++ dktX0_cell_1
theorem dksX0_cell_0 : cX0_cell.data.toList.drop 0 = dktX0_cell_0 := by decide +kernel
theorem dksX0_cell_1 : cX0_cell.data.toList.drop 24 = dktX0_cell_1 := dk_seg dksX0_cell_0 24 rfl rfl
theorem dksX0_cell_2 : cX0_cell.data.toList.drop 46 = dktX0_cell_2 := dk_seg dksX0_cell_1 22 rfl rfl
theorem dX0_cell_0 : decode cX0_cell 0 = .ok (.aload_n 0, 1) := dk_42 (dk_at dksX0_cell_0 0 rfl rfl)
theorem dX0_cell_1 : decode cX0_cell 1 = .ok (.iconst 0, 1) := dk_3 (dk_at dksX0_cell_0 1 rfl rfl)
theorem dX0_cell_2 : decode cX0_cell 2 = .ok (.putfield 77, 3) := dk_181 0 77 (dk_at dksX0_cell_0 2 rfl rfl)
theorem dX0_cell_5 : decode cX0_cell 5 = .ok (.iload_n 1, 1) := dk_27 (dk_at dksX0_cell_0 5 rfl rfl)
theorem dX0_cell_6 : decode cX0_cell 6 = .ok (.invokestatic 150, 3) := dk_184 0 150 (dk_at dksX0_cell_0 6 rfl rfl)
theorem dX0_cell_9 : decode cX0_cell 9 = .ok (.ifCond .eq 10, 3) := dk_153 0 10 (dk_at dksX0_cell_0 9 rfl rfl)
theorem dX0_cell_12 : decode cX0_cell 12 = .ok (.iload_n 3, 1) := dk_29 (dk_at dksX0_cell_0 12 rfl rfl)
theorem dX0_cell_13 : decode cX0_cell 13 = .ok (.invokestatic 154, 3) := dk_184 0 154 (dk_at dksX0_cell_0 13 rfl rfl)
theorem dX0_cell_16 : decode cX0_cell 16 = .ok (.ifCond .ne 7, 3) := dk_154 0 7 (dk_at dksX0_cell_0 16 rfl rfl)
theorem dX0_cell_19 : decode cX0_cell 19 = .ok (.ldc2_w 80, 3) := dk_20 0 80 (dk_at dksX0_cell_0 19 rfl rfl)
theorem dX0_cell_22 : decode cX0_cell 22 = .ok (.lreturn, 1) := dk_173 (dk_at dksX0_cell_0 22 rfl rfl)
theorem dX0_cell_23 : decode cX0_cell 23 = .ok (.aload_n 0, 1) := dk_42 (dk_at dksX0_cell_0 23 rfl rfl)
theorem dX0_cell_24 : decode cX0_cell 24 = .ok (.getfield 67, 3) := dk_180 0 67 (dk_at dksX0_cell_1 0 rfl rfl)
theorem dX0_cell_27 : decode cX0_cell 27 = .ok (.iload_n 1, 1) := dk_27 (dk_at dksX0_cell_1 3 rfl rfl)
theorem dX0_cell_28 : decode cX0_cell 28 = .ok (.aaload, 1) := dk_50 (dk_at dksX0_cell_1 4 rfl rfl)
theorem dX0_cell_29 : decode cX0_cell 29 = .ok (.getfield 157, 3) := dk_180 0 157 (dk_at dksX0_cell_1 5 rfl rfl)
theorem dX0_cell_32 : decode cX0_cell 32 = .ok (.iload_n 3, 1) := dk_29 (dk_at dksX0_cell_1 8 rfl rfl)
theorem dX0_cell_33 : decode cX0_cell 33 = .ok (.invokestatic 162, 3) := dk_184 0 162 (dk_at dksX0_cell_1 9 rfl rfl)
theorem dX0_cell_36 : decode cX0_cell 36 = .ok (.iload_n 2, 1) := dk_28 (dk_at dksX0_cell_1 12 rfl rfl)
theorem dX0_cell_37 : decode cX0_cell 37 = .ok (.invokestatic 366, 3) := dk_184 1 110 (dk_at dksX0_cell_1 13 rfl rfl)
theorem dX0_cell_40 : decode cX0_cell 40 = .ok (.i2l, 1) := dk_133 (dk_at dksX0_cell_1 16 rfl rfl)
theorem dX0_cell_41 : decode cX0_cell 41 = .ok (.lreturn, 1) := dk_173 (dk_at dksX0_cell_1 17 rfl rfl)
theorem dX0_cell_42 : decode cX0_cell 42 = .ok (.astore 4, 2) := dk_58 4 (dk_at dksX0_cell_1 18 rfl rfl)
theorem dX0_cell_44 : decode cX0_cell 44 = .ok (.aload_n 0, 1) := dk_42 (dk_at dksX0_cell_1 20 rfl rfl)
theorem dX0_cell_45 : decode cX0_cell 45 = .ok (.iconst 2, 1) := dk_5 (dk_at dksX0_cell_1 21 rfl rfl)
theorem dX0_cell_46 : decode cX0_cell 46 = .ok (.invokevirtual 356, 3) := dk_182 1 100 (dk_at dksX0_cell_2 0 rfl rfl)
theorem dX0_cell_49 : decode cX0_cell 49 = .ok (.lreturn, 1) := dk_173 (dk_at dksX0_cell_2 3 rfl rfl)
theorem dX0_cell_50 : decode cX0_cell 50 = .ok (.astore 4, 2) := dk_58 4 (dk_at dksX0_cell_2 4 rfl rfl)
theorem dX0_cell_52 : decode cX0_cell 52 = .ok (.aload_n 0, 1) := dk_42 (dk_at dksX0_cell_2 6 rfl rfl)
theorem dX0_cell_53 : decode cX0_cell 53 = .ok (.iconst 1, 1) := dk_4 (dk_at dksX0_cell_2 7 rfl rfl)
theorem dX0_cell_54 : decode cX0_cell 54 = .ok (.invokevirtual 356, 3) := dk_182 1 100 (dk_at dksX0_cell_2 8 rfl rfl)
theorem dX0_cell_57 : decode cX0_cell 57 = .ok (.lreturn, 1) := dk_173 (dk_at dksX0_cell_2 11 rfl rfl)
theorem dX0_cell_58 : decode cX0_cell 58 = .ok (.astore 4, 2) := dk_58 4 (dk_at dksX0_cell_2 12 rfl rfl)
theorem dX0_cell_60 : decode cX0_cell 60 = .ok (.aload_n 0, 1) := dk_42 (dk_at dksX0_cell_2 14 rfl rfl)
theorem dX0_cell_61 : decode cX0_cell 61 = .ok (.iconst 3, 1) := dk_6 (dk_at dksX0_cell_2 15 rfl rfl)
theorem dX0_cell_62 : decode cX0_cell 62 = .ok (.invokevirtual 356, 3) := dk_182 1 100 (dk_at dksX0_cell_2 16 rfl rfl)
theorem dX0_cell_65 : decode cX0_cell 65 = .ok (.lreturn, 1) := dk_173 (dk_at dksX0_cell_2 19 rfl rfl)
abbrev cX0_copy : ByteArray := prog_1_method_67_code
def yX0_copy : MethodName := ⟨RX0, "copy", "(IIIII)I"⟩
def dkwX0_copy_3 : List UInt8 := [42, 6, 182, 0, 175, 172]
abbrev dktX0_copy_3 : List UInt8 := dkwX0_copy_3 ++ []
def dkwX0_copy_2 : List UInt8 := [184, 1, 56, 21, 5, 172, 58, 6, 42, 4, 182, 0, 175, 172, 58, 6, 42, 5, 182, 0, 175, 172, 58, 6]
abbrev dktX0_copy_2 : List UInt8 := dkwX0_copy_2 ++ dktX0_copy_3
def dkwX0_copy_1 : List UInt8 := [180, 0, 67, 27, 50, 180, 0, 157, 28, 42, 180, 0, 67, 29, 50, 180, 0, 157, 21, 4, 21, 5]
abbrev dktX0_copy_1 : List UInt8 := dkwX0_copy_1 ++ dktX0_copy_2
def dkwX0_copy_0 : List UInt8 := [42, 3, 181, 0, 77, 27, 184, 0, 150, 153, 0, 10, 29, 184, 0, 150, 154, 0, 5, 2, 172, 42]
abbrev dktX0_copy_0 : List UInt8 := dkwX0_copy_0 ++ dktX0_copy_1
theorem dksX0_copy_0 : cX0_copy.data.toList.drop 0 = dktX0_copy_0 := by decide +kernel
theorem dksX0_copy_1 : cX0_copy.data.toList.drop 22 = dktX0_copy_1 := dk_seg dksX0_copy_0 22 rfl rfl
theorem dksX0_copy_2 : cX0_copy.data.toList.drop 44 = dktX0_copy_2 := dk_seg dksX0_copy_1 22 rfl rfl
theorem dksX0_copy_3 : cX0_copy.data.toList.drop 68 = dktX0_copy_3 := dk_seg dksX0_copy_2 24 rfl rfl
theorem dX0_copy_0 : decode cX0_copy 0 = .ok (.aload_n 0, 1) := dk_42 (dk_at dksX0_copy_0 0 rfl rfl)
theorem dX0_copy_1 : decode cX0_copy 1 = .ok (.iconst 0, 1) := dk_3 (dk_at dksX0_copy_0 1 rfl rfl)
theorem dX0_copy_2 : decode cX0_copy 2 = .ok (.putfield 77, 3) := dk_181 0 77 (dk_at dksX0_copy_0 2 rfl rfl)
theorem dX0_copy_5 : decode cX0_copy 5 = .ok (.iload_n 1, 1) := dk_27 (dk_at dksX0_copy_0 5 rfl rfl)
theorem dX0_copy_6 : decode cX0_copy 6 = .ok (.invokestatic 150, 3) := dk_184 0 150 (dk_at dksX0_copy_0 6 rfl rfl)
theorem dX0_copy_9 : decode cX0_copy 9 = .ok (.ifCond .eq 10, 3) := dk_153 0 10 (dk_at dksX0_copy_0 9 rfl rfl)
theorem dX0_copy_12 : decode cX0_copy 12 = .ok (.iload_n 3, 1) := dk_29 (dk_at dksX0_copy_0 12 rfl rfl)
theorem dX0_copy_13 : decode cX0_copy 13 = .ok (.invokestatic 150, 3) := dk_184 0 150 (dk_at dksX0_copy_0 13 rfl rfl)
theorem dX0_copy_16 : decode cX0_copy 16 = .ok (.ifCond .ne 5, 3) := dk_154 0 5 (dk_at dksX0_copy_0 16 rfl rfl)
theorem dX0_copy_19 : decode cX0_copy 19 = .ok (.iconst (-1), 1) := dk_2 (dk_at dksX0_copy_0 19 rfl rfl)
theorem dX0_copy_20 : decode cX0_copy 20 = .ok (.ireturn, 1) := dk_172 (dk_at dksX0_copy_0 20 rfl rfl)
theorem dX0_copy_21 : decode cX0_copy 21 = .ok (.aload_n 0, 1) := dk_42 (dk_at dksX0_copy_0 21 rfl rfl)
theorem dX0_copy_22 : decode cX0_copy 22 = .ok (.getfield 67, 3) := dk_180 0 67 (dk_at dksX0_copy_1 0 rfl rfl)
theorem dX0_copy_25 : decode cX0_copy 25 = .ok (.iload_n 1, 1) := dk_27 (dk_at dksX0_copy_1 3 rfl rfl)
theorem dX0_copy_26 : decode cX0_copy 26 = .ok (.aaload, 1) := dk_50 (dk_at dksX0_copy_1 4 rfl rfl)
theorem dX0_copy_27 : decode cX0_copy 27 = .ok (.getfield 157, 3) := dk_180 0 157 (dk_at dksX0_copy_1 5 rfl rfl)
theorem dX0_copy_30 : decode cX0_copy 30 = .ok (.iload_n 2, 1) := dk_28 (dk_at dksX0_copy_1 8 rfl rfl)
theorem dX0_copy_31 : decode cX0_copy 31 = .ok (.aload_n 0, 1) := dk_42 (dk_at dksX0_copy_1 9 rfl rfl)
theorem dX0_copy_32 : decode cX0_copy 32 = .ok (.getfield 67, 3) := dk_180 0 67 (dk_at dksX0_copy_1 10 rfl rfl)
theorem dX0_copy_35 : decode cX0_copy 35 = .ok (.iload_n 3, 1) := dk_29 (dk_at dksX0_copy_1 13 rfl rfl)
theorem dX0_copy_36 : decode cX0_copy 36 = .ok (.aaload, 1) := dk_50 (dk_at dksX0_copy_1 14 rfl rfl)
theorem dX0_copy_37 : decode cX0_copy 37 = .ok (.getfield 157, 3) := dk_180 0 157 (dk_at dksX0_copy_1 15 rfl rfl)
theorem dX0_copy_40 : decode cX0_copy 40 = .ok (.iload 4, 2) := dk_21 4 (dk_at dksX0_copy_1 18 rfl rfl)
theorem dX0_copy_42 : decode cX0_copy 42 = .ok (.iload 5, 2) := dk_21 5 (dk_at dksX0_copy_1 20 rfl rfl)
theorem dX0_copy_44 : decode cX0_copy 44 = .ok (.invokestatic 312, 3) := dk_184 1 56 (dk_at dksX0_copy_2 0 rfl rfl)
theorem dX0_copy_47 : decode cX0_copy 47 = .ok (.iload 5, 2) := dk_21 5 (dk_at dksX0_copy_2 3 rfl rfl)
theorem dX0_copy_49 : decode cX0_copy 49 = .ok (.ireturn, 1) := dk_172 (dk_at dksX0_copy_2 5 rfl rfl)
theorem dX0_copy_50 : decode cX0_copy 50 = .ok (.astore 6, 2) := dk_58 6 (dk_at dksX0_copy_2 6 rfl rfl)
theorem dX0_copy_52 : decode cX0_copy 52 = .ok (.aload_n 0, 1) := dk_42 (dk_at dksX0_copy_2 8 rfl rfl)
theorem dX0_copy_53 : decode cX0_copy 53 = .ok (.iconst 1, 1) := dk_4 (dk_at dksX0_copy_2 9 rfl rfl)
theorem dX0_copy_54 : decode cX0_copy 54 = .ok (.invokevirtual 175, 3) := dk_182 0 175 (dk_at dksX0_copy_2 10 rfl rfl)
theorem dX0_copy_57 : decode cX0_copy 57 = .ok (.ireturn, 1) := dk_172 (dk_at dksX0_copy_2 13 rfl rfl)
theorem dX0_copy_58 : decode cX0_copy 58 = .ok (.astore 6, 2) := dk_58 6 (dk_at dksX0_copy_2 14 rfl rfl)
theorem dX0_copy_60 : decode cX0_copy 60 = .ok (.aload_n 0, 1) := dk_42 (dk_at dksX0_copy_2 16 rfl rfl)
theorem dX0_copy_61 : decode cX0_copy 61 = .ok (.iconst 2, 1) := dk_5 (dk_at dksX0_copy_2 17 rfl rfl)
theorem dX0_copy_62 : decode cX0_copy 62 = .ok (.invokevirtual 175, 3) := dk_182 0 175 (dk_at dksX0_copy_2 18 rfl rfl)
theorem dX0_copy_65 : decode cX0_copy 65 = .ok (.ireturn, 1) := dk_172 (dk_at dksX0_copy_2 21 rfl rfl)
theorem dX0_copy_66 : decode cX0_copy 66 = .ok (.astore 6, 2) := dk_58 6 (dk_at dksX0_copy_2 22 rfl rfl)
theorem dX0_copy_68 : decode cX0_copy 68 = .ok (.aload_n 0, 1) := dk_42 (dk_at dksX0_copy_3 0 rfl rfl)
theorem dX0_copy_69 : decode cX0_copy 69 = .ok (.iconst 3, 1) := dk_6 (dk_at dksX0_copy_3 1 rfl rfl)
theorem dX0_copy_70 : decode cX0_copy 70 = .ok (.invokevirtual 175, 3) := dk_182 0 175 (dk_at dksX0_copy_3 2 rfl rfl)
theorem dX0_copy_73 : decode cX0_copy 73 = .ok (.ireturn, 1) := dk_172 (dk_at dksX0_copy_3 5 rfl rfl)
abbrev cX0_tell : ByteArray := prog_1_method_69_code
def yX0_tell : MethodName := ⟨RX0, "tell", "(I)I"⟩
def dkwX0_tell_1 : List UInt8 := [167, 0, 4, 2, 172]
abbrev dktX0_tell_1 : List UInt8 := dkwX0_tell_1 ++ []
def dkwX0_tell_0 : List UInt8 := [42, 27, 182, 0, 185, 153, 0, 22, 42, 180, 0, 12, 27, 185, 0, 188, 2, 0, 192, 0, 85, 182, 1, 129]
abbrev dktX0_tell_0 : List UInt8 := dkwX0_tell_0 ++ dktX0_tell_1
theorem dksX0_tell_0 : cX0_tell.data.toList.drop 0 = dktX0_tell_0 := by decide +kernel
theorem dksX0_tell_1 : cX0_tell.data.toList.drop 24 = dktX0_tell_1 := dk_seg dksX0_tell_0 24 rfl rfl
theorem dX0_tell_0 : decode cX0_tell 0 = .ok (.aload_n 0, 1) := dk_42 (dk_at dksX0_tell_0 0 rfl rfl)
theorem dX0_tell_1 : decode cX0_tell 1 = .ok (.iload_n 1, 1) := dk_27 (dk_at dksX0_tell_0 1 rfl rfl)
theorem dX0_tell_2 : decode cX0_tell 2 = .ok (.invokevirtual 185, 3) := dk_182 0 185 (dk_at dksX0_tell_0 2 rfl rfl)
theorem dX0_tell_5 : decode cX0_tell 5 = .ok (.ifCond .eq 22, 3) := dk_153 0 22 (dk_at dksX0_tell_0 5 rfl rfl)
theorem dX0_tell_8 : decode cX0_tell 8 = .ok (.aload_n 0, 1) := dk_42 (dk_at dksX0_tell_0 8 rfl rfl)
theorem dX0_tell_9 : decode cX0_tell 9 = .ok (.getfield 12, 3) := dk_180 0 12 (dk_at dksX0_tell_0 9 rfl rfl)
theorem dX0_tell_12 : decode cX0_tell 12 = .ok (.iload_n 1, 1) := dk_27 (dk_at dksX0_tell_0 12 rfl rfl)
theorem dX0_tell_13 : decode cX0_tell 13 = .ok (.invokeinterface 188 2, 5) := by decide +kernel
theorem dX0_tell_18 : decode cX0_tell 18 = .ok (.checkcast 85, 3) := dk_192 0 85 (dk_at dksX0_tell_0 18 rfl rfl)
theorem dX0_tell_21 : decode cX0_tell 21 = .ok (.invokevirtual 385, 3) := dk_182 1 129 (dk_at dksX0_tell_0 21 rfl rfl)
theorem dX0_tell_24 : decode cX0_tell 24 = .ok (.goto 4, 3) := dk_167 0 4 (dk_at dksX0_tell_1 0 rfl rfl)
theorem dX0_tell_27 : decode cX0_tell 27 = .ok (.iconst (-1), 1) := dk_2 (dk_at dksX0_tell_1 3 rfl rfl)
theorem dX0_tell_28 : decode cX0_tell 28 = .ok (.ireturn, 1) := dk_172 (dk_at dksX0_tell_1 4 rfl rfl)
abbrev cX0_begins : ByteArray := prog_1_method_7_code
def yX0_begins : MethodName := ⟨RX0, "begins", "(I)V"⟩
def dkwX0_begins_0 : List UInt8 := [42, 16, 31, 42, 180, 0, 82, 104, 27, 96, 181, 0, 82, 177]
abbrev dktX0_begins_0 : List UInt8 := dkwX0_begins_0 ++ []
theorem dksX0_begins_0 : cX0_begins.data.toList.drop 0 = dktX0_begins_0 := by decide +kernel
theorem dX0_begins_0 : decode cX0_begins 0 = .ok (.aload_n 0, 1) := dk_42 (dk_at dksX0_begins_0 0 rfl rfl)
theorem dX0_begins_1 : decode cX0_begins 1 = .ok (.bipush 31, 2) := dk_16 31 (dk_at dksX0_begins_0 1 rfl rfl)
theorem dX0_begins_3 : decode cX0_begins 3 = .ok (.aload_n 0, 1) := dk_42 (dk_at dksX0_begins_0 3 rfl rfl)
theorem dX0_begins_4 : decode cX0_begins 4 = .ok (.getfield 82, 3) := dk_180 0 82 (dk_at dksX0_begins_0 4 rfl rfl)
theorem dX0_begins_7 : decode cX0_begins 7 = .ok (.imul, 1) := dk_104 (dk_at dksX0_begins_0 7 rfl rfl)
theorem dX0_begins_8 : decode cX0_begins 8 = .ok (.iload_n 1, 1) := dk_27 (dk_at dksX0_begins_0 8 rfl rfl)
theorem dX0_begins_9 : decode cX0_begins 9 = .ok (.iadd, 1) := dk_96 (dk_at dksX0_begins_0 9 rfl rfl)
theorem dX0_begins_10 : decode cX0_begins 10 = .ok (.putfield 82, 3) := dk_181 0 82 (dk_at dksX0_begins_0 10 rfl rfl)
theorem dX0_begins_13 : decode cX0_begins 13 = .ok (.return_, 1) := dk_177 (dk_at dksX0_begins_0 13 rfl rfl)
abbrev cX0_hand : ByteArray := prog_1_method_71_code
def yX0_hand : MethodName := ⟨RX0, "hand", "(I)I"⟩
def dkwX0_hand_1 : List UInt8 := [167, 0, 4, 2, 172]
abbrev dktX0_hand_1 : List UInt8 := dkwX0_hand_1 ++ []
def dkwX0_hand_0 : List UInt8 := [42, 27, 182, 0, 185, 153, 0, 22, 42, 180, 0, 12, 27, 185, 0, 188, 2, 0, 192, 1, 133, 184, 1, 137]
abbrev dktX0_hand_0 : List UInt8 := dkwX0_hand_0 ++ dktX0_hand_1
theorem dksX0_hand_0 : cX0_hand.data.toList.drop 0 = dktX0_hand_0 := by decide +kernel
theorem dksX0_hand_1 : cX0_hand.data.toList.drop 24 = dktX0_hand_1 := dk_seg dksX0_hand_0 24 rfl rfl
theorem dX0_hand_0 : decode cX0_hand 0 = .ok (.aload_n 0, 1) := dk_42 (dk_at dksX0_hand_0 0 rfl rfl)
theorem dX0_hand_1 : decode cX0_hand 1 = .ok (.iload_n 1, 1) := dk_27 (dk_at dksX0_hand_0 1 rfl rfl)
theorem dX0_hand_2 : decode cX0_hand 2 = .ok (.invokevirtual 185, 3) := dk_182 0 185 (dk_at dksX0_hand_0 2 rfl rfl)
theorem dX0_hand_5 : decode cX0_hand 5 = .ok (.ifCond .eq 22, 3) := dk_153 0 22 (dk_at dksX0_hand_0 5 rfl rfl)
theorem dX0_hand_8 : decode cX0_hand 8 = .ok (.aload_n 0, 1) := dk_42 (dk_at dksX0_hand_0 8 rfl rfl)
theorem dX0_hand_9 : decode cX0_hand 9 = .ok (.getfield 12, 3) := dk_180 0 12 (dk_at dksX0_hand_0 9 rfl rfl)
theorem dX0_hand_12 : decode cX0_hand 12 = .ok (.iload_n 1, 1) := dk_27 (dk_at dksX0_hand_0 12 rfl rfl)
theorem dX0_hand_13 : decode cX0_hand 13 = .ok (.invokeinterface 188 2, 5) := by decide +kernel
theorem dX0_hand_18 : decode cX0_hand 18 = .ok (.checkcast 389, 3) := dk_192 1 133 (dk_at dksX0_hand_0 18 rfl rfl)
theorem dX0_hand_21 : decode cX0_hand 21 = .ok (.invokestatic 393, 3) := dk_184 1 137 (dk_at dksX0_hand_0 21 rfl rfl)
theorem dX0_hand_24 : decode cX0_hand 24 = .ok (.goto 4, 3) := dk_167 0 4 (dk_at dksX0_hand_1 0 rfl rfl)
theorem dX0_hand_27 : decode cX0_hand 27 = .ok (.iconst (-1), 1) := dk_2 (dk_at dksX0_hand_1 3 rfl rfl)
theorem dX0_hand_28 : decode cX0_hand 28 = .ok (.ireturn, 1) := dk_172 (dk_at dksX0_hand_1 4 rfl rfl)
abbrev cX0_handed : ByteArray := prog_1_method_70_code
def yX0_handed : MethodName := ⟨RX0, "handed", "(LLentYouths$Handed;)I"⟩
theorem dX0_handed_0 : decode cX0_handed 0 = .ok (.aload_n 0, 1) := by decide +kernel
theorem dX0_handed_1 : decode cX0_handed 1 = .ok (.invokeinterface 388 1, 5) := by decide +kernel
theorem dX0_handed_6 : decode cX0_handed 6 = .ok (.ireturn, 1) := by decide +kernel
abbrev cX0_as : ByteArray := prog_1_method_73_code
def yX0_as : MethodName := ⟨RX0, "as", "(II)I"⟩
def dkwX0_as_2 : List UInt8 := [182, 0, 192, 28, 161, 0, 7, 4, 167, 0, 4, 3, 172, 78, 42, 5, 182, 0, 175, 172]
abbrev dktX0_as_2 : List UInt8 := dkwX0_as_2 ++ []
def dkwX0_as_1 : List UInt8 := [154, 0, 6, 16, 254, 172, 42, 180, 0, 12, 27, 185, 0, 188, 2, 0, 192, 0, 85, 28, 184, 1, 141]
abbrev dktX0_as_1 : List UInt8 := dkwX0_as_1 ++ dktX0_as_2
def dkwX0_as_0 : List UInt8 := [42, 3, 181, 0, 77, 42, 27, 182, 0, 185, 154, 0, 5, 2, 172, 28, 133, 9, 20, 1, 48, 184, 0, 73]
abbrev dktX0_as_0 : List UInt8 := dkwX0_as_0 ++ dktX0_as_1
theorem dksX0_as_0 : cX0_as.data.toList.drop 0 = dktX0_as_0 := by decide +kernel
theorem dksX0_as_1 : cX0_as.data.toList.drop 24 = dktX0_as_1 := dk_seg dksX0_as_0 24 rfl rfl
theorem dksX0_as_2 : cX0_as.data.toList.drop 47 = dktX0_as_2 := dk_seg dksX0_as_1 23 rfl rfl
theorem dX0_as_0 : decode cX0_as 0 = .ok (.aload_n 0, 1) := dk_42 (dk_at dksX0_as_0 0 rfl rfl)
theorem dX0_as_1 : decode cX0_as 1 = .ok (.iconst 0, 1) := dk_3 (dk_at dksX0_as_0 1 rfl rfl)
theorem dX0_as_2 : decode cX0_as 2 = .ok (.putfield 77, 3) := dk_181 0 77 (dk_at dksX0_as_0 2 rfl rfl)
theorem dX0_as_5 : decode cX0_as 5 = .ok (.aload_n 0, 1) := dk_42 (dk_at dksX0_as_0 5 rfl rfl)
theorem dX0_as_6 : decode cX0_as 6 = .ok (.iload_n 1, 1) := dk_27 (dk_at dksX0_as_0 6 rfl rfl)
theorem dX0_as_7 : decode cX0_as 7 = .ok (.invokevirtual 185, 3) := dk_182 0 185 (dk_at dksX0_as_0 7 rfl rfl)
theorem dX0_as_10 : decode cX0_as 10 = .ok (.ifCond .ne 5, 3) := dk_154 0 5 (dk_at dksX0_as_0 10 rfl rfl)
theorem dX0_as_13 : decode cX0_as 13 = .ok (.iconst (-1), 1) := dk_2 (dk_at dksX0_as_0 13 rfl rfl)
theorem dX0_as_14 : decode cX0_as 14 = .ok (.ireturn, 1) := dk_172 (dk_at dksX0_as_0 14 rfl rfl)
theorem dX0_as_15 : decode cX0_as 15 = .ok (.iload_n 2, 1) := dk_28 (dk_at dksX0_as_0 15 rfl rfl)
theorem dX0_as_16 : decode cX0_as 16 = .ok (.i2l, 1) := dk_133 (dk_at dksX0_as_0 16 rfl rfl)
theorem dX0_as_17 : decode cX0_as 17 = .ok (.lconst 0, 1) := dk_9 (dk_at dksX0_as_0 17 rfl rfl)
theorem dX0_as_18 : decode cX0_as 18 = .ok (.ldc2_w 304, 3) := dk_20 1 48 (dk_at dksX0_as_0 18 rfl rfl)
theorem dX0_as_21 : decode cX0_as 21 = .ok (.invokestatic 73, 3) := dk_184 0 73 (dk_at dksX0_as_0 21 rfl rfl)
theorem dX0_as_24 : decode cX0_as 24 = .ok (.ifCond .ne 6, 3) := dk_154 0 6 (dk_at dksX0_as_1 0 rfl rfl)
theorem dX0_as_27 : decode cX0_as 27 = .ok (.bipush (-2), 2) := dk_16 254 (dk_at dksX0_as_1 3 rfl rfl)
theorem dX0_as_29 : decode cX0_as 29 = .ok (.ireturn, 1) := dk_172 (dk_at dksX0_as_1 5 rfl rfl)
theorem dX0_as_30 : decode cX0_as 30 = .ok (.aload_n 0, 1) := dk_42 (dk_at dksX0_as_1 6 rfl rfl)
theorem dX0_as_31 : decode cX0_as 31 = .ok (.getfield 12, 3) := dk_180 0 12 (dk_at dksX0_as_1 7 rfl rfl)
theorem dX0_as_34 : decode cX0_as 34 = .ok (.iload_n 1, 1) := dk_27 (dk_at dksX0_as_1 10 rfl rfl)
theorem dX0_as_35 : decode cX0_as 35 = .ok (.invokeinterface 188 2, 5) := by decide +kernel
theorem dX0_as_40 : decode cX0_as 40 = .ok (.checkcast 85, 3) := dk_192 0 85 (dk_at dksX0_as_1 16 rfl rfl)
theorem dX0_as_43 : decode cX0_as 43 = .ok (.iload_n 2, 1) := dk_28 (dk_at dksX0_as_1 19 rfl rfl)
theorem dX0_as_44 : decode cX0_as 44 = .ok (.invokestatic 397, 3) := dk_184 1 141 (dk_at dksX0_as_1 20 rfl rfl)
theorem dX0_as_47 : decode cX0_as 47 = .ok (.invokevirtual 192, 3) := dk_182 0 192 (dk_at dksX0_as_2 0 rfl rfl)
theorem dX0_as_50 : decode cX0_as 50 = .ok (.iload_n 2, 1) := dk_28 (dk_at dksX0_as_2 3 rfl rfl)
theorem dX0_as_51 : decode cX0_as 51 = .ok (.if_icmp .lt 7, 3) := dk_161 0 7 (dk_at dksX0_as_2 4 rfl rfl)
theorem dX0_as_54 : decode cX0_as 54 = .ok (.iconst 1, 1) := dk_4 (dk_at dksX0_as_2 7 rfl rfl)
theorem dX0_as_55 : decode cX0_as 55 = .ok (.goto 4, 3) := dk_167 0 4 (dk_at dksX0_as_2 8 rfl rfl)
theorem dX0_as_58 : decode cX0_as 58 = .ok (.iconst 0, 1) := dk_3 (dk_at dksX0_as_2 11 rfl rfl)
theorem dX0_as_59 : decode cX0_as 59 = .ok (.ireturn, 1) := dk_172 (dk_at dksX0_as_2 12 rfl rfl)
theorem dX0_as_60 : decode cX0_as 60 = .ok (.astore_n 3, 1) := dk_78 (dk_at dksX0_as_2 13 rfl rfl)
theorem dX0_as_61 : decode cX0_as 61 = .ok (.aload_n 0, 1) := dk_42 (dk_at dksX0_as_2 14 rfl rfl)
theorem dX0_as_62 : decode cX0_as 62 = .ok (.iconst 2, 1) := dk_5 (dk_at dksX0_as_2 15 rfl rfl)
theorem dX0_as_63 : decode cX0_as 63 = .ok (.invokevirtual 175, 3) := dk_182 0 175 (dk_at dksX0_as_2 16 rfl rfl)
theorem dX0_as_66 : decode cX0_as 66 = .ok (.ireturn, 1) := dk_172 (dk_at dksX0_as_2 19 rfl rfl)
abbrev cX0_of : ByteArray := prog_1_method_72_code
def yX0_of : MethodName := ⟨RX0, "of", "(LLentYouths$Childhood;I)LLentYouths$Childhood;"⟩
def dkwX0_of_1 : List UInt8 := [176]
abbrev dktX0_of_1 : List UInt8 := dkwX0_of_1 ++ []
def dkwX0_of_0 : List UInt8 := [27, 154, 0, 7, 42, 167, 0, 19, 27, 4, 160, 0, 10, 42, 192, 0, 90, 167, 0, 7, 42, 192, 0, 93]
abbrev dktX0_of_0 : List UInt8 := dkwX0_of_0 ++ dktX0_of_1
theorem dksX0_of_0 : cX0_of.data.toList.drop 0 = dktX0_of_0 := by decide +kernel
theorem dksX0_of_1 : cX0_of.data.toList.drop 24 = dktX0_of_1 := dk_seg dksX0_of_0 24 rfl rfl
theorem dX0_of_0 : decode cX0_of 0 = .ok (.iload_n 1, 1) := dk_27 (dk_at dksX0_of_0 0 rfl rfl)
theorem dX0_of_1 : decode cX0_of 1 = .ok (.ifCond .ne 7, 3) := dk_154 0 7 (dk_at dksX0_of_0 1 rfl rfl)
theorem dX0_of_4 : decode cX0_of 4 = .ok (.aload_n 0, 1) := dk_42 (dk_at dksX0_of_0 4 rfl rfl)
theorem dX0_of_5 : decode cX0_of 5 = .ok (.goto 19, 3) := dk_167 0 19 (dk_at dksX0_of_0 5 rfl rfl)
theorem dX0_of_8 : decode cX0_of 8 = .ok (.iload_n 1, 1) := dk_27 (dk_at dksX0_of_0 8 rfl rfl)
theorem dX0_of_9 : decode cX0_of 9 = .ok (.iconst 1, 1) := dk_4 (dk_at dksX0_of_0 9 rfl rfl)
theorem dX0_of_10 : decode cX0_of 10 = .ok (.if_icmp .ne 10, 3) := dk_160 0 10 (dk_at dksX0_of_0 10 rfl rfl)
theorem dX0_of_13 : decode cX0_of 13 = .ok (.aload_n 0, 1) := dk_42 (dk_at dksX0_of_0 13 rfl rfl)
theorem dX0_of_14 : decode cX0_of 14 = .ok (.checkcast 90, 3) := dk_192 0 90 (dk_at dksX0_of_0 14 rfl rfl)
theorem dX0_of_17 : decode cX0_of 17 = .ok (.goto 7, 3) := dk_167 0 7 (dk_at dksX0_of_0 17 rfl rfl)
theorem dX0_of_20 : decode cX0_of 20 = .ok (.aload_n 0, 1) := dk_42 (dk_at dksX0_of_0 20 rfl rfl)
theorem dX0_of_21 : decode cX0_of 21 = .ok (.checkcast 93, 3) := dk_192 0 93 (dk_at dksX0_of_0 21 rfl rfl)
theorem dX0_of_24 : decode cX0_of 24 = .ok (.areturn, 1) := dk_176 (dk_at dksX0_of_1 0 rfl rfl)
abbrev cX0_trace : ByteArray := prog_1_method_74_code
def yX0_trace : MethodName := ⟨RX0, "trace", "()I"⟩
theorem dX0_trace_0 : decode cX0_trace 0 = .ok (.aload_n 0, 1) := by decide +kernel
theorem dX0_trace_1 : decode cX0_trace 1 = .ok (.getfield 82, 3) := by decide +kernel
theorem dX0_trace_4 : decode cX0_trace 4 = .ok (.ireturn, 1) := by decide +kernel
abbrev cX0_fault : ByteArray := prog_1_method_75_code
def yX0_fault : MethodName := ⟨RX0, "fault", "()I"⟩
theorem dX0_fault_0 : decode cX0_fault 0 = .ok (.aload_n 0, 1) := by decide +kernel
theorem dX0_fault_1 : decode cX0_fault 1 = .ok (.getfield 77, 3) := by decide +kernel
theorem dX0_fault_4 : decode cX0_fault 4 = .ok (.ireturn, 1) := by decide +kernel
abbrev cX0_many : ByteArray := prog_1_method_76_code
def yX0_many : MethodName := ⟨RX0, "many", "(I)I"⟩
def dkwX0_many_1 : List UInt8 := [16, 254, 172]
abbrev dktX0_many_1 : List UInt8 := dkwX0_many_1 ++ []
def dkwX0_many_0 : List UInt8 := [27, 154, 0, 10, 42, 182, 0, 106, 167, 0, 17, 27, 4, 160, 0, 10, 42, 180, 0, 147, 167, 0, 5]
abbrev dktX0_many_0 : List UInt8 := dkwX0_many_0 ++ dktX0_many_1
theorem dksX0_many_0 : cX0_many.data.toList.drop 0 = dktX0_many_0 := by decide +kernel
theorem dksX0_many_1 : cX0_many.data.toList.drop 23 = dktX0_many_1 := dk_seg dksX0_many_0 23 rfl rfl
theorem dX0_many_0 : decode cX0_many 0 = .ok (.iload_n 1, 1) := dk_27 (dk_at dksX0_many_0 0 rfl rfl)
theorem dX0_many_1 : decode cX0_many 1 = .ok (.ifCond .ne 10, 3) := dk_154 0 10 (dk_at dksX0_many_0 1 rfl rfl)
theorem dX0_many_4 : decode cX0_many 4 = .ok (.aload_n 0, 1) := dk_42 (dk_at dksX0_many_0 4 rfl rfl)
theorem dX0_many_5 : decode cX0_many 5 = .ok (.invokevirtual 106, 3) := dk_182 0 106 (dk_at dksX0_many_0 5 rfl rfl)
theorem dX0_many_8 : decode cX0_many 8 = .ok (.goto 17, 3) := dk_167 0 17 (dk_at dksX0_many_0 8 rfl rfl)
theorem dX0_many_11 : decode cX0_many 11 = .ok (.iload_n 1, 1) := dk_27 (dk_at dksX0_many_0 11 rfl rfl)
theorem dX0_many_12 : decode cX0_many 12 = .ok (.iconst 1, 1) := dk_4 (dk_at dksX0_many_0 12 rfl rfl)
theorem dX0_many_13 : decode cX0_many 13 = .ok (.if_icmp .ne 10, 3) := dk_160 0 10 (dk_at dksX0_many_0 13 rfl rfl)
theorem dX0_many_16 : decode cX0_many 16 = .ok (.aload_n 0, 1) := dk_42 (dk_at dksX0_many_0 16 rfl rfl)
theorem dX0_many_17 : decode cX0_many 17 = .ok (.getfield 147, 3) := dk_180 0 147 (dk_at dksX0_many_0 17 rfl rfl)
theorem dX0_many_20 : decode cX0_many 20 = .ok (.goto 5, 3) := dk_167 0 5 (dk_at dksX0_many_0 20 rfl rfl)
theorem dX0_many_23 : decode cX0_many 23 = .ok (.bipush (-2), 2) := dk_16 254 (dk_at dksX0_many_1 0 rfl rfl)
theorem dX0_many_25 : decode cX0_many 25 = .ok (.ireturn, 1) := dk_172 (dk_at dksX0_many_1 2 rfl rfl)
theorem q69 : (Jvm.Cond.initialized "LentYouths") ∈ lw_all := lw_g (lw_at lw_m1 1 rfl) rfl
theorem q95 : (Jvm.Cond.instantiable "LentYouths" (26 : Nat)) ∈ lw_all := lw_g (lw_at lw_m1 27 rfl) rfl
theorem q97 : (Jvm.Cond.instanceMethod ({ cls := "LentYouths", name := "<init>", desc := "()V" } : Jvm.MethodName)) ∈ lw_all := lw_g (lw_at lw_m1 29 rfl) rfl
theorem q98 : (Jvm.Cond.code ({ cls := "LentYouths", name := "<init>", desc := "()V" } : Jvm.MethodName) prog_1_method_1_code (1 : Nat) (Option.none : Option Jvm.ClassFile.FieldType)) ∈ lw_all := lw_g (lw_at lw_m1 30 rfl) rfl
theorem q99 : (Jvm.Cond.methodLink "LentYouths" (3 : Nat) ({ cls := "java/lang/Object", name := "<init>", desc := "()V" } : Jvm.MethodName)) ∈ lw_all := lw_g (lw_at lw_m1 31 rfl) rfl
theorem q102 : (Jvm.Cond.classLink "LentYouths" (9 : Nat) "java/util/ArrayList") ∈ lw_all := lw_g (lw_at lw_m1 34 rfl) rfl
theorem q104 : (Jvm.Cond.methodLink "LentYouths" (11 : Nat) ({ cls := "java/util/ArrayList", name := "<init>", desc := "()V" } : Jvm.MethodName)) ∈ lw_all := lw_g (lw_at lw_m1 36 rfl) rfl
theorem q128 : (Jvm.Cond.methodLink "LentYouths" (63 : Nat) ({ cls := "LentYouths", name := "places", desc := "(I)[LLentYouths$Place;" } : Jvm.MethodName)) ∈ lw_all := lw_g (lw_at lw_m1 60 rfl) rfl
theorem q129 : (Jvm.Cond.static ({ cls := "LentYouths", name := "places", desc := "(I)[LLentYouths$Place;" } : Jvm.MethodName)) ∈ lw_all := lw_g (lw_at lw_m1 61 rfl) rfl
theorem q130 : (Jvm.Cond.code ({ cls := "LentYouths", name := "places", desc := "(I)[LLentYouths$Place;" } : Jvm.MethodName) prog_1_method_57_code (3 : Nat) (Option.some (Jvm.ClassFile.FieldType.array (Jvm.ClassFile.FieldType.object "LentYouths$Place")))) ∈ lw_all := lw_g (lw_at lw_m1 62 rfl) rfl
theorem q131 : (Jvm.Cond.classLink "LentYouths" (158 : Nat) "LentYouths$Place") ∈ lw_all := lw_g (lw_at lw_m1 63 rfl) rfl
theorem q134 : (Jvm.Cond.methodLinkNest "LentYouths" (360 : Nat) ({ cls := "LentYouths$Place", name := "<init>", desc := "()V" } : Jvm.MethodName) "LentYouths") ∈ lw_tbl := lw_at lw_m1 66 rfl
theorem q138 : (Jvm.Cond.fieldLinkNest "LentYouths" (157 : Nat) "LentYouths$Place" "has" "Ljava/lang/Object;" "LentYouths") ∈ lw_tbl := lw_at lw_m1 70 rfl
theorem q144 : (Jvm.Cond.fieldLink "LentYouths" (77 : Nat) "LentYouths" "fault" "I") ∈ lw_all := lw_g (lw_at lw_m1 76 rfl) rfl
theorem q145 : (Jvm.Cond.fieldLink "LentYouths" (82 : Nat) "LentYouths" "trace" "I") ∈ lw_all := lw_g (lw_at lw_m1 77 rfl) rfl
theorem q146 : (Jvm.Cond.fieldLink "LentYouths" (12 : Nat) "LentYouths" "youths" "Ljava/util/List;") ∈ lw_all := lw_g (lw_at lw_m1 78 rfl) rfl
theorem q147 : (Jvm.Cond.fieldLink "LentYouths" (18 : Nat) "LentYouths" "changed" "I") ∈ lw_all := lw_g (lw_at lw_m1 79 rfl) rfl
theorem q150 : (Jvm.Cond.fieldLink "LentYouths" (334 : Nat) "LentYouths" "changedKind" "I") ∈ lw_all := lw_g (lw_at lw_m1 82 rfl) rfl
theorem q151 : (Jvm.Cond.fieldLink "LentYouths" (109 : Nat) "LentYouths" "at" "I") ∈ lw_all := lw_g (lw_at lw_m1 83 rfl) rfl
theorem q152 : (Jvm.Cond.fieldLink "LentYouths" (118 : Nat) "LentYouths" "readMany" "I") ∈ lw_all := lw_g (lw_at lw_m1 84 rfl) rfl
theorem q153 : (Jvm.Cond.fieldLink "LentYouths" (22 : Nat) "LentYouths" "readKind" "[I") ∈ lw_all := lw_g (lw_at lw_m1 85 rfl) rfl
theorem q155 : (Jvm.Cond.fieldLink "LentYouths" (26 : Nat) "LentYouths" "readScenes" "[I") ∈ lw_all := lw_g (lw_at lw_m1 87 rfl) rfl
theorem q157 : (Jvm.Cond.fieldLink "LentYouths" (29 : Nat) "LentYouths" "readWants" "[I") ∈ lw_all := lw_g (lw_at lw_m1 89 rfl) rfl
theorem q159 : (Jvm.Cond.fieldLink "LentYouths" (32 : Nat) "LentYouths" "readWear" "[I") ∈ lw_all := lw_g (lw_at lw_m1 91 rfl) rfl
theorem q160 : (Jvm.Cond.fieldLink "LentYouths" (35 : Nat) "LentYouths" "has" "[I") ∈ lw_all := lw_g (lw_at lw_m1 92 rfl) rfl
theorem q161 : (Jvm.Cond.fieldLink "LentYouths" (38 : Nat) "LentYouths" "knows" "[I") ∈ lw_all := lw_g (lw_at lw_m1 93 rfl) rfl
theorem q162 : (Jvm.Cond.fieldLink "LentYouths" (41 : Nat) "LentYouths" "knowsBy" "[I") ∈ lw_all := lw_g (lw_at lw_m1 94 rfl) rfl
theorem q163 : (Jvm.Cond.fieldLink "LentYouths" (227 : Nat) "LentYouths" "allMended" "I") ∈ lw_all := lw_g (lw_at lw_m1 95 rfl) rfl
theorem q164 : (Jvm.Cond.fieldLink "LentYouths" (44 : Nat) "LentYouths" "row" "[I") ∈ lw_all := lw_g (lw_at lw_m1 96 rfl) rfl
theorem q165 : (Jvm.Cond.fieldLink "LentYouths" (292 : Nat) "LentYouths" "wanted" "I") ∈ lw_all := lw_g (lw_at lw_m1 97 rfl) rfl
theorem q166 : (Jvm.Cond.fieldLink "LentYouths" (295 : Nat) "LentYouths" "isFound" "Z") ∈ lw_all := lw_g (lw_at lw_m1 98 rfl) rfl
theorem q167 : (Jvm.Cond.fieldLink "LentYouths" (47 : Nat) "LentYouths" "gets" "[I") ∈ lw_all := lw_g (lw_at lw_m1 99 rfl) rfl
theorem q168 : (Jvm.Cond.fieldLink "LentYouths" (50 : Nat) "LentYouths" "best" "[I") ∈ lw_all := lw_g (lw_at lw_m1 100 rfl) rfl
theorem q169 : (Jvm.Cond.fieldLink "LentYouths" (309 : Nat) "LentYouths" "most" "I") ∈ lw_all := lw_g (lw_at lw_m1 101 rfl) rfl
theorem q170 : (Jvm.Cond.fieldLink "LentYouths" (147 : Nat) "LentYouths" "readings" "I") ∈ lw_all := lw_g (lw_at lw_m1 102 rfl) rfl
theorem q171 : (Jvm.Cond.fieldLink "LentYouths" (53 : Nat) "LentYouths" "readWho" "[I") ∈ lw_all := lw_g (lw_at lw_m1 103 rfl) rfl
theorem q172 : (Jvm.Cond.fieldLink "LentYouths" (56 : Nat) "LentYouths" "readScene" "[I") ∈ lw_all := lw_g (lw_at lw_m1 104 rfl) rfl
theorem q173 : (Jvm.Cond.fieldLink "LentYouths" (59 : Nat) "LentYouths" "readKnew" "[Z") ∈ lw_all := lw_g (lw_at lw_m1 105 rfl) rfl
theorem q174 : (Jvm.Cond.fieldLink "LentYouths" (67 : Nat) "LentYouths" "sheets" "[LLentYouths$Place;") ∈ lw_all := lw_g (lw_at lw_m1 106 rfl) rfl
theorem q175 : (Jvm.Cond.lays "LentYouths" "LentYouths" "fault" "I") ∈ lw_all := lw_g (lw_at lw_m1 107 rfl) rfl
theorem q176 : (Jvm.Cond.soleField "LentYouths" "fault") ∈ lw_all := lw_g (lw_at lw_m1 108 rfl) rfl
theorem q177 : (Jvm.Cond.lays "LentYouths" "LentYouths" "trace" "I") ∈ lw_all := lw_g (lw_at lw_m1 109 rfl) rfl
theorem q178 : (Jvm.Cond.soleField "LentYouths" "trace") ∈ lw_all := lw_g (lw_at lw_m1 110 rfl) rfl
theorem q179 : (Jvm.Cond.laysFinal "LentYouths" "LentYouths" "youths" "Ljava/util/List;") ∈ lw_all := lw_g (lw_at lw_m1 111 rfl) rfl
theorem q180 : (Jvm.Cond.soleField "LentYouths" "youths") ∈ lw_all := lw_g (lw_at lw_m1 112 rfl) rfl
theorem q181 : (Jvm.Cond.lays "LentYouths" "LentYouths" "changed" "I") ∈ lw_all := lw_g (lw_at lw_m1 113 rfl) rfl
theorem q182 : (Jvm.Cond.soleField "LentYouths" "changed") ∈ lw_all := lw_g (lw_at lw_m1 114 rfl) rfl
theorem q183 : (Jvm.Cond.lays "LentYouths" "LentYouths" "changedKind" "I") ∈ lw_all := lw_g (lw_at lw_m1 115 rfl) rfl
theorem q184 : (Jvm.Cond.soleField "LentYouths" "changedKind") ∈ lw_all := lw_g (lw_at lw_m1 116 rfl) rfl
theorem q185 : (Jvm.Cond.lays "LentYouths" "LentYouths" "at" "I") ∈ lw_all := lw_g (lw_at lw_m1 117 rfl) rfl
theorem q186 : (Jvm.Cond.soleField "LentYouths" "at") ∈ lw_all := lw_g (lw_at lw_m1 118 rfl) rfl
theorem q187 : (Jvm.Cond.lays "LentYouths" "LentYouths" "readMany" "I") ∈ lw_all := lw_g (lw_at lw_m1 119 rfl) rfl
theorem q188 : (Jvm.Cond.soleField "LentYouths" "readMany") ∈ lw_all := lw_g (lw_at lw_m1 120 rfl) rfl
theorem q189 : (Jvm.Cond.laysFinal "LentYouths" "LentYouths" "readKind" "[I") ∈ lw_all := lw_g (lw_at lw_m1 121 rfl) rfl
theorem q190 : (Jvm.Cond.soleField "LentYouths" "readKind") ∈ lw_all := lw_g (lw_at lw_m1 122 rfl) rfl
theorem q191 : (Jvm.Cond.laysFinal "LentYouths" "LentYouths" "readScenes" "[I") ∈ lw_all := lw_g (lw_at lw_m1 123 rfl) rfl
theorem q192 : (Jvm.Cond.soleField "LentYouths" "readScenes") ∈ lw_all := lw_g (lw_at lw_m1 124 rfl) rfl
theorem q193 : (Jvm.Cond.laysFinal "LentYouths" "LentYouths" "readWants" "[I") ∈ lw_all := lw_g (lw_at lw_m1 125 rfl) rfl
theorem q194 : (Jvm.Cond.soleField "LentYouths" "readWants") ∈ lw_all := lw_g (lw_at lw_m1 126 rfl) rfl
theorem q195 : (Jvm.Cond.laysFinal "LentYouths" "LentYouths" "readWear" "[I") ∈ lw_all := lw_g (lw_at lw_m1 127 rfl) rfl
theorem q196 : (Jvm.Cond.soleField "LentYouths" "readWear") ∈ lw_all := lw_g (lw_at lw_m1 128 rfl) rfl
theorem q197 : (Jvm.Cond.laysFinal "LentYouths" "LentYouths" "has" "[I") ∈ lw_all := lw_g (lw_at lw_m1 129 rfl) rfl
theorem q198 : (Jvm.Cond.soleField "LentYouths" "has") ∈ lw_all := lw_g (lw_at lw_m1 130 rfl) rfl
theorem q199 : (Jvm.Cond.laysFinal "LentYouths" "LentYouths" "knows" "[I") ∈ lw_all := lw_g (lw_at lw_m1 131 rfl) rfl
theorem q200 : (Jvm.Cond.soleField "LentYouths" "knows") ∈ lw_all := lw_g (lw_at lw_m1 132 rfl) rfl
theorem q201 : (Jvm.Cond.laysFinal "LentYouths" "LentYouths" "knowsBy" "[I") ∈ lw_all := lw_g (lw_at lw_m1 133 rfl) rfl
theorem q202 : (Jvm.Cond.soleField "LentYouths" "knowsBy") ∈ lw_all := lw_g (lw_at lw_m1 134 rfl) rfl
theorem q203 : (Jvm.Cond.lays "LentYouths" "LentYouths" "allMended" "I") ∈ lw_all := lw_g (lw_at lw_m1 135 rfl) rfl
theorem q204 : (Jvm.Cond.soleField "LentYouths" "allMended") ∈ lw_all := lw_g (lw_at lw_m1 136 rfl) rfl
theorem q205 : (Jvm.Cond.laysFinal "LentYouths" "LentYouths" "row" "[I") ∈ lw_all := lw_g (lw_at lw_m1 137 rfl) rfl
theorem q206 : (Jvm.Cond.soleField "LentYouths" "row") ∈ lw_all := lw_g (lw_at lw_m1 138 rfl) rfl
theorem q207 : (Jvm.Cond.lays "LentYouths" "LentYouths" "wanted" "I") ∈ lw_all := lw_g (lw_at lw_m1 139 rfl) rfl
theorem q208 : (Jvm.Cond.soleField "LentYouths" "wanted") ∈ lw_all := lw_g (lw_at lw_m1 140 rfl) rfl
theorem q209 : (Jvm.Cond.lays "LentYouths" "LentYouths" "isFound" "Z") ∈ lw_all := lw_g (lw_at lw_m1 141 rfl) rfl
theorem q210 : (Jvm.Cond.soleField "LentYouths" "isFound") ∈ lw_all := lw_g (lw_at lw_m1 142 rfl) rfl
theorem q211 : (Jvm.Cond.laysFinal "LentYouths" "LentYouths" "gets" "[I") ∈ lw_all := lw_g (lw_at lw_m1 143 rfl) rfl
theorem q212 : (Jvm.Cond.soleField "LentYouths" "gets") ∈ lw_all := lw_g (lw_at lw_m1 144 rfl) rfl
theorem q213 : (Jvm.Cond.laysFinal "LentYouths" "LentYouths" "best" "[I") ∈ lw_all := lw_g (lw_at lw_m1 145 rfl) rfl
theorem q214 : (Jvm.Cond.soleField "LentYouths" "best") ∈ lw_all := lw_g (lw_at lw_m1 146 rfl) rfl
theorem q215 : (Jvm.Cond.lays "LentYouths" "LentYouths" "most" "I") ∈ lw_all := lw_g (lw_at lw_m1 147 rfl) rfl
theorem q216 : (Jvm.Cond.soleField "LentYouths" "most") ∈ lw_all := lw_g (lw_at lw_m1 148 rfl) rfl
theorem q217 : (Jvm.Cond.lays "LentYouths" "LentYouths" "readings" "I") ∈ lw_all := lw_g (lw_at lw_m1 149 rfl) rfl
theorem q218 : (Jvm.Cond.soleField "LentYouths" "readings") ∈ lw_all := lw_g (lw_at lw_m1 150 rfl) rfl
theorem q219 : (Jvm.Cond.laysFinal "LentYouths" "LentYouths" "readWho" "[I") ∈ lw_all := lw_g (lw_at lw_m1 151 rfl) rfl
theorem q220 : (Jvm.Cond.soleField "LentYouths" "readWho") ∈ lw_all := lw_g (lw_at lw_m1 152 rfl) rfl
theorem q221 : (Jvm.Cond.laysFinal "LentYouths" "LentYouths" "readScene" "[I") ∈ lw_all := lw_g (lw_at lw_m1 153 rfl) rfl
theorem q222 : (Jvm.Cond.soleField "LentYouths" "readScene") ∈ lw_all := lw_g (lw_at lw_m1 154 rfl) rfl
theorem q223 : (Jvm.Cond.laysFinal "LentYouths" "LentYouths" "readKnew" "[Z") ∈ lw_all := lw_g (lw_at lw_m1 155 rfl) rfl
theorem q224 : (Jvm.Cond.soleField "LentYouths" "readKnew") ∈ lw_all := lw_g (lw_at lw_m1 156 rfl) rfl
theorem q225 : (Jvm.Cond.laysFinal "LentYouths" "LentYouths" "sheets" "[LLentYouths$Place;") ∈ lw_all := lw_g (lw_at lw_m1 157 rfl) rfl
theorem q226 : (Jvm.Cond.soleField "LentYouths" "sheets") ∈ lw_all := lw_g (lw_at lw_m1 158 rfl) rfl
theorem q227 : (Jvm.Cond.superclass "LentYouths" "java/lang/Object") ∈ lw_all := lw_g (lw_at lw_m1 159 rfl) rfl
theorem q229 : (Jvm.Cond.instanceMethod ({ cls := "LentYouths", name := "counter", desc := "(IIII)I" } : Jvm.MethodName)) ∈ lw_all := lw_g (lw_at lw_m1 161 rfl) rfl
theorem q230 : (Jvm.Cond.selects "LentYouths" ({ cls := "LentYouths", name := "counter", desc := "(IIII)I" } : Jvm.MethodName) ({ cls := "LentYouths", name := "counter", desc := "(IIII)I" } : Jvm.MethodName)) ∈ lw_all := lw_g (lw_at lw_m1 162 rfl) rfl
theorem q231 : (Jvm.Cond.codeWith ({ cls := "LentYouths", name := "counter", desc := "(IIII)I" } : Jvm.MethodName) prog_1_method_20_code (6 : Nat) (Option.some Jvm.ClassFile.FieldType.int) [((24 : Nat), (47 : Nat), (48 : Nat), (173 : Nat)), ((24 : Nat), (47 : Nat), (56 : Nat), (179 : Nat)), ((24 : Nat), (47 : Nat), (64 : Nat), (181 : Nat)), ((24 : Nat), (47 : Nat), (72 : Nat), (183 : Nat))]) ∈ lw_all := lw_g (lw_at lw_m1 163 rfl) rfl
theorem q232 : (Jvm.Cond.classLink "LentYouths" (173 : Nat) "java/lang/ClassCastException") ∈ lw_all := lw_g (lw_at lw_m1 164 rfl) rfl
theorem q318 : (Jvm.Cond.classLink "LentYouths" (179 : Nat) "java/lang/NullPointerException") ∈ lw_all := lw_g (lw_at lw_m2 10 rfl) rfl
theorem q343 : (Jvm.Cond.classLink "LentYouths" (181 : Nat) "java/lang/NegativeArraySizeException") ∈ lw_all := lw_g (lw_at lw_m2 35 rfl) rfl
theorem q357 : (Jvm.Cond.classLink "LentYouths" (183 : Nat) "java/lang/ArrayIndexOutOfBoundsException") ∈ lw_all := lw_g (lw_at lw_m2 49 rfl) rfl
theorem q376 : (Jvm.Cond.methodLink "LentYouths" (150 : Nat) ({ cls := "LentYouths", name := "isSheet", desc := "(I)Z" } : Jvm.MethodName)) ∈ lw_all := lw_g (lw_at lw_m2 68 rfl) rfl
theorem q377 : (Jvm.Cond.static ({ cls := "LentYouths", name := "isSheet", desc := "(I)Z" } : Jvm.MethodName)) ∈ lw_all := lw_g (lw_at lw_m2 69 rfl) rfl
theorem q378 : (Jvm.Cond.code ({ cls := "LentYouths", name := "isSheet", desc := "(I)Z" } : Jvm.MethodName) prog_1_method_58_code (1 : Nat) (Option.some Jvm.ClassFile.FieldType.boolean)) ∈ lw_all := lw_g (lw_at lw_m2 70 rfl) rfl
theorem q379 : (Jvm.Cond.constantLong "LentYouths" (265 : Nat) (3 : Int64)) ∈ lw_all := lw_g (lw_at lw_m2 71 rfl) rfl
theorem q380 : (Jvm.Cond.methodLink "LentYouths" (73 : Nat) ({ cls := "LentYouths", name := "isIn", desc := "(JJJ)Z" } : Jvm.MethodName)) ∈ lw_all := lw_g (lw_at lw_m2 72 rfl) rfl
theorem q381 : (Jvm.Cond.static ({ cls := "LentYouths", name := "isIn", desc := "(JJJ)Z" } : Jvm.MethodName)) ∈ lw_all := lw_g (lw_at lw_m2 73 rfl) rfl
theorem q382 : (Jvm.Cond.code ({ cls := "LentYouths", name := "isIn", desc := "(JJJ)Z" } : Jvm.MethodName) prog_1_method_2_code (6 : Nat) (Option.some Jvm.ClassFile.FieldType.boolean)) ∈ lw_all := lw_g (lw_at lw_m2 74 rfl) rfl
theorem q383 : (Jvm.Cond.methodLink "LentYouths" (154 : Nat) ({ cls := "LentYouths", name := "isLane", desc := "(I)Z" } : Jvm.MethodName)) ∈ lw_all := lw_g (lw_at lw_m2 75 rfl) rfl
theorem q384 : (Jvm.Cond.static ({ cls := "LentYouths", name := "isLane", desc := "(I)Z" } : Jvm.MethodName)) ∈ lw_all := lw_g (lw_at lw_m2 76 rfl) rfl
theorem q385 : (Jvm.Cond.code ({ cls := "LentYouths", name := "isLane", desc := "(I)Z" } : Jvm.MethodName) prog_1_method_59_code (1 : Nat) (Option.some Jvm.ClassFile.FieldType.boolean)) ∈ lw_all := lw_g (lw_at lw_m2 77 rfl) rfl
theorem q386 : (Jvm.Cond.constantLong "LentYouths" (304 : Nat) (2 : Int64)) ∈ lw_all := lw_g (lw_at lw_m2 78 rfl) rfl
theorem q387 : (Jvm.Cond.methodLink "LentYouths" (162 : Nat) ({ cls := "LentYouths", name := "asLane", desc := "(Ljava/lang/Object;I)Ljava/lang/Object;" } : Jvm.MethodName)) ∈ lw_all := lw_g (lw_at lw_m2 79 rfl) rfl
theorem q388 : (Jvm.Cond.static ({ cls := "LentYouths", name := "asLane", desc := "(Ljava/lang/Object;I)Ljava/lang/Object;" } : Jvm.MethodName)) ∈ lw_all := lw_g (lw_at lw_m2 80 rfl) rfl
theorem q389 : (Jvm.Cond.code ({ cls := "LentYouths", name := "asLane", desc := "(Ljava/lang/Object;I)Ljava/lang/Object;" } : Jvm.MethodName) prog_1_method_60_code (2 : Nat) (Option.some (Jvm.ClassFile.FieldType.object "java/lang/Object"))) ∈ lw_all := lw_g (lw_at lw_m2 81 rfl) rfl
theorem q390 : (Jvm.Cond.classLink "LentYouths" (361 : Nat) "[B") ∈ lw_all := lw_g (lw_at lw_m2 82 rfl) rfl
theorem q391 : (Jvm.Cond.classLink "LentYouths" (363 : Nat) "[S") ∈ lw_all := lw_g (lw_at lw_m2 83 rfl) rfl
theorem q392 : (Jvm.Cond.classLink "LentYouths" (365 : Nat) "[I") ∈ lw_all := lw_g (lw_at lw_m2 84 rfl) rfl
theorem q393 : (Jvm.Cond.methodLink "LentYouths" (166 : Nat) ({ cls := "LentYouths", name := "rowOf", desc := "(Ljava/lang/Object;II)[I" } : Jvm.MethodName)) ∈ lw_all := lw_g (lw_at lw_m2 85 rfl) rfl
theorem q394 : (Jvm.Cond.static ({ cls := "LentYouths", name := "rowOf", desc := "(Ljava/lang/Object;II)[I" } : Jvm.MethodName)) ∈ lw_all := lw_g (lw_at lw_m2 86 rfl) rfl
theorem q395 : (Jvm.Cond.code ({ cls := "LentYouths", name := "rowOf", desc := "(Ljava/lang/Object;II)[I" } : Jvm.MethodName) prog_1_method_68_code (6 : Nat) (Option.some (Jvm.ClassFile.FieldType.array Jvm.ClassFile.FieldType.int))) ∈ lw_all := lw_g (lw_at lw_m2 87 rfl) rfl
theorem q396 : (Jvm.Cond.methodLink "LentYouths" (374 : Nat) ({ cls := "LentYouths", name := "lengthOf", desc := "(Ljava/lang/Object;)I" } : Jvm.MethodName)) ∈ lw_all := lw_g (lw_at lw_m2 88 rfl) rfl
theorem q397 : (Jvm.Cond.static ({ cls := "LentYouths", name := "lengthOf", desc := "(Ljava/lang/Object;)I" } : Jvm.MethodName)) ∈ lw_all := lw_g (lw_at lw_m2 89 rfl) rfl
theorem q398 : (Jvm.Cond.code ({ cls := "LentYouths", name := "lengthOf", desc := "(Ljava/lang/Object;)I" } : Jvm.MethodName) prog_1_method_62_code (2 : Nat) (Option.some Jvm.ClassFile.FieldType.int)) ∈ lw_all := lw_g (lw_at lw_m2 90 rfl) rfl
theorem q399 : (Jvm.Cond.methodLink "LentYouths" (378 : Nat) ({ cls := "java/lang/Math", name := "min", desc := "(II)I" } : Jvm.MethodName)) ∈ lw_all := lw_g (lw_at lw_m2 91 rfl) rfl
theorem q402 : (Jvm.Cond.methodLink "LentYouths" (384 : Nat) ({ cls := "java/lang/ArrayIndexOutOfBoundsException", name := "<init>", desc := "()V" } : Jvm.MethodName)) ∈ lw_all := lw_g (lw_at lw_m2 94 rfl) rfl
theorem q409 : (Jvm.Cond.methodLink "LentYouths" (366 : Nat) ({ cls := "LentYouths", name := "cellOf", desc := "(Ljava/lang/Object;I)I" } : Jvm.MethodName)) ∈ lw_all := lw_g (lw_at lw_m2 101 rfl) rfl
theorem q410 : (Jvm.Cond.static ({ cls := "LentYouths", name := "cellOf", desc := "(Ljava/lang/Object;I)I" } : Jvm.MethodName)) ∈ lw_all := lw_g (lw_at lw_m2 102 rfl) rfl
theorem q411 : (Jvm.Cond.code ({ cls := "LentYouths", name := "cellOf", desc := "(Ljava/lang/Object;I)I" } : Jvm.MethodName) prog_1_method_61_code (3 : Nat) (Option.some Jvm.ClassFile.FieldType.int)) ∈ lw_all := lw_g (lw_at lw_m2 103 rfl) rfl
theorem q412 : (Jvm.Cond.methodLink "LentYouths" (170 : Nat) ({ cls := "LentYouths", name := "comesCounter", desc := "([I)I" } : Jvm.MethodName)) ∈ lw_all := lw_g (lw_at lw_m2 104 rfl) rfl
theorem q413 : (Jvm.Cond.privateMethod ({ cls := "LentYouths", name := "comesCounter", desc := "([I)I" } : Jvm.MethodName)) ∈ lw_tbl := lw_at lw_m2 105 rfl
theorem q414 : (Jvm.Cond.instanceMethod ({ cls := "LentYouths", name := "comesCounter", desc := "([I)I" } : Jvm.MethodName)) ∈ lw_all := lw_g (lw_at lw_m2 106 rfl) rfl
theorem q415 : (Jvm.Cond.code ({ cls := "LentYouths", name := "comesCounter", desc := "([I)I" } : Jvm.MethodName) prog_1_method_19_code (3 : Nat) (Option.some Jvm.ClassFile.FieldType.int)) ∈ lw_all := lw_g (lw_at lw_m2 107 rfl) rfl
theorem q416 : (Jvm.Cond.methodLink "LentYouths" (133 : Nat) ({ cls := "LentYouths", name := "readAll", desc := "([I)Z" } : Jvm.MethodName)) ∈ lw_all := lw_g (lw_at lw_m2 108 rfl) rfl
theorem q417 : (Jvm.Cond.privateMethod ({ cls := "LentYouths", name := "readAll", desc := "([I)Z" } : Jvm.MethodName)) ∈ lw_tbl := lw_at lw_m2 109 rfl
theorem q418 : (Jvm.Cond.instanceMethod ({ cls := "LentYouths", name := "readAll", desc := "([I)Z" } : Jvm.MethodName)) ∈ lw_all := lw_g (lw_at lw_m2 110 rfl) rfl
theorem q419 : (Jvm.Cond.code ({ cls := "LentYouths", name := "readAll", desc := "([I)Z" } : Jvm.MethodName) prog_1_method_18_code (2 : Nat) (Option.some Jvm.ClassFile.FieldType.boolean)) ∈ lw_all := lw_g (lw_at lw_m2 111 rfl) rfl
theorem q420 : (Jvm.Cond.methodLink "LentYouths" (121 : Nat) ({ cls := "LentYouths", name := "isSign", desc := "([II)Z" } : Jvm.MethodName)) ∈ lw_all := lw_g (lw_at lw_m2 112 rfl) rfl
theorem q421 : (Jvm.Cond.privateMethod ({ cls := "LentYouths", name := "isSign", desc := "([II)Z" } : Jvm.MethodName)) ∈ lw_tbl := lw_at lw_m2 113 rfl
theorem q422 : (Jvm.Cond.instanceMethod ({ cls := "LentYouths", name := "isSign", desc := "([II)Z" } : Jvm.MethodName)) ∈ lw_all := lw_g (lw_at lw_m2 114 rfl) rfl
theorem q423 : (Jvm.Cond.code ({ cls := "LentYouths", name := "isSign", desc := "([II)Z" } : Jvm.MethodName) prog_1_method_14_code (3 : Nat) (Option.some Jvm.ClassFile.FieldType.boolean)) ∈ lw_all := lw_g (lw_at lw_m2 115 rfl) rfl
theorem q424 : (Jvm.Cond.methodLink "LentYouths" (129 : Nat) ({ cls := "LentYouths", name := "readPerson", desc := "([I)Z" } : Jvm.MethodName)) ∈ lw_all := lw_g (lw_at lw_m2 116 rfl) rfl
theorem q425 : (Jvm.Cond.privateMethod ({ cls := "LentYouths", name := "readPerson", desc := "([I)Z" } : Jvm.MethodName)) ∈ lw_tbl := lw_at lw_m2 117 rfl
theorem q426 : (Jvm.Cond.instanceMethod ({ cls := "LentYouths", name := "readPerson", desc := "([I)Z" } : Jvm.MethodName)) ∈ lw_all := lw_g (lw_at lw_m2 118 rfl) rfl
theorem q427 : (Jvm.Cond.code ({ cls := "LentYouths", name := "readPerson", desc := "([I)Z" } : Jvm.MethodName) prog_1_method_17_code (3 : Nat) (Option.some Jvm.ClassFile.FieldType.boolean)) ∈ lw_all := lw_g (lw_at lw_m2 119 rfl) rfl
theorem q428 : (Jvm.Cond.methodLink "LentYouths" (125 : Nat) ({ cls := "LentYouths", name := "readSet", desc := "([I)I" } : Jvm.MethodName)) ∈ lw_all := lw_g (lw_at lw_m2 120 rfl) rfl
theorem q429 : (Jvm.Cond.privateMethod ({ cls := "LentYouths", name := "readSet", desc := "([I)I" } : Jvm.MethodName)) ∈ lw_tbl := lw_at lw_m2 121 rfl
theorem q430 : (Jvm.Cond.instanceMethod ({ cls := "LentYouths", name := "readSet", desc := "([I)I" } : Jvm.MethodName)) ∈ lw_all := lw_g (lw_at lw_m2 122 rfl) rfl
theorem q431 : (Jvm.Cond.code ({ cls := "LentYouths", name := "readSet", desc := "([I)I" } : Jvm.MethodName) prog_1_method_16_code (4 : Nat) (Option.some Jvm.ClassFile.FieldType.int)) ∈ lw_all := lw_g (lw_at lw_m2 123 rfl) rfl
theorem q432 : (Jvm.Cond.methodLink "LentYouths" (114 : Nat) ({ cls := "LentYouths", name := "digit", desc := "([III)I" } : Jvm.MethodName)) ∈ lw_all := lw_g (lw_at lw_m2 124 rfl) rfl
theorem q433 : (Jvm.Cond.privateMethod ({ cls := "LentYouths", name := "digit", desc := "([III)I" } : Jvm.MethodName)) ∈ lw_tbl := lw_at lw_m2 125 rfl
theorem q434 : (Jvm.Cond.instanceMethod ({ cls := "LentYouths", name := "digit", desc := "([III)I" } : Jvm.MethodName)) ∈ lw_all := lw_g (lw_at lw_m2 126 rfl) rfl
theorem q435 : (Jvm.Cond.code ({ cls := "LentYouths", name := "digit", desc := "([III)I" } : Jvm.MethodName) prog_1_method_15_code (4 : Nat) (Option.some Jvm.ClassFile.FieldType.int)) ∈ lw_all := lw_g (lw_at lw_m2 127 rfl) rfl
theorem q436 : (Jvm.Cond.constantLong "LentYouths" (112 : Nat) (48 : Int64)) ∈ lw_all := lw_g (lw_at lw_m2 128 rfl) rfl
theorem q437 : (Jvm.Cond.interfaceEntry "LentYouths" (136 : Nat)) ∈ lw_tbl := lw_at lw_m2 129 rfl
theorem q438 : (Jvm.Cond.methodLink "LentYouths" (136 : Nat) ({ cls := "java/util/List", name := "clear", desc := "()V" } : Jvm.MethodName)) ∈ lw_all := lw_g (lw_at lw_m2 130 rfl) rfl
theorem q447 : (Jvm.Cond.methodLink "LentYouths" (139 : Nat) ({ cls := "LentYouths", name := "newChildhood", desc := "(I)LLentYouths$Childhood;" } : Jvm.MethodName)) ∈ lw_all := lw_g (lw_at lw_m2 139 rfl) rfl
theorem q448 : (Jvm.Cond.privateMethod ({ cls := "LentYouths", name := "newChildhood", desc := "(I)LLentYouths$Childhood;" } : Jvm.MethodName)) ∈ lw_tbl := lw_at lw_m2 140 rfl
theorem q449 : (Jvm.Cond.instanceMethod ({ cls := "LentYouths", name := "newChildhood", desc := "(I)LLentYouths$Childhood;" } : Jvm.MethodName)) ∈ lw_all := lw_g (lw_at lw_m2 141 rfl) rfl
theorem q450 : (Jvm.Cond.code ({ cls := "LentYouths", name := "newChildhood", desc := "(I)LLentYouths$Childhood;" } : Jvm.MethodName) prog_1_method_8_code (2 : Nat) (Option.some (Jvm.ClassFile.FieldType.object "LentYouths$Childhood"))) ∈ lw_all := lw_g (lw_at lw_m2 142 rfl) rfl
theorem q451 : (Jvm.Cond.classLink "LentYouths" (85 : Nat) "LentYouths$Childhood") ∈ lw_all := lw_g (lw_at lw_m2 143 rfl) rfl
theorem q453 : (Jvm.Cond.methodLink "LentYouths" (87 : Nat) ({ cls := "LentYouths$Childhood", name := "<init>", desc := "(LLentYouths;I)V" } : Jvm.MethodName)) ∈ lw_all := lw_g (lw_at lw_m2 145 rfl) rfl
theorem q458 : (Jvm.Cond.fieldLinkNest "LentYouths" (331 : Nat) "LentYouths$Childhood" "number" "I" "LentYouths") ∈ lw_tbl := lw_at lw_m2 150 rfl
theorem q460 : (Jvm.Cond.fieldLinkNest "LentYouths" (195 : Nat) "LentYouths$Childhood" "scenes" "I" "LentYouths") ∈ lw_tbl := lw_at lw_m2 152 rfl
theorem q462 : (Jvm.Cond.fieldLinkNest "LentYouths" (198 : Nat) "LentYouths$Childhood" "wants" "I" "LentYouths") ∈ lw_tbl := lw_at lw_m2 154 rfl
theorem q464 : (Jvm.Cond.fieldLinkNest "LentYouths" (201 : Nat) "LentYouths$Childhood" "wear" "I" "LentYouths") ∈ lw_tbl := lw_at lw_m2 156 rfl
theorem q466 : (Jvm.Cond.fieldLinkNest "LentYouths" (211 : Nat) "LentYouths$Childhood" "left" "I" "LentYouths") ∈ lw_tbl := lw_at lw_m2 158 rfl
theorem q484 : (Jvm.Cond.classLink "LentYouths" (90 : Nat) "LentYouths$Sad") ∈ lw_all := lw_g (lw_at lw_m2 176 rfl) rfl
theorem q486 : (Jvm.Cond.methodLink "LentYouths" (92 : Nat) ({ cls := "LentYouths$Sad", name := "<init>", desc := "(LLentYouths;I)V" } : Jvm.MethodName)) ∈ lw_all := lw_g (lw_at lw_m2 178 rfl) rfl
theorem q501 : (Jvm.Cond.classLink "LentYouths" (93 : Nat) "LentYouths$Twin") ∈ lw_all := lw_g (lw_at lw_m2 193 rfl) rfl
theorem q503 : (Jvm.Cond.methodLink "LentYouths" (95 : Nat) ({ cls := "LentYouths$Twin", name := "<init>", desc := "(LLentYouths;I)V" } : Jvm.MethodName)) ∈ lw_all := lw_g (lw_at lw_m2 195 rfl) rfl
theorem q519 : (Jvm.Cond.interfaceEntry "LentYouths" (143 : Nat)) ∈ lw_tbl := lw_at lw_m2 211 rfl
theorem q520 : (Jvm.Cond.methodLink "LentYouths" (143 : Nat) ({ cls := "java/util/List", name := "add", desc := "(Ljava/lang/Object;)Z" } : Jvm.MethodName)) ∈ lw_all := lw_g (lw_at lw_m2 212 rfl) rfl
theorem q556 : (Jvm.Cond.selects "LentYouths" ({ cls := "java/lang/Object", name := "getClass", desc := "()Ljava/lang/Class;" } : Jvm.MethodName) ({ cls := "java/lang/Object", name := "getClass", desc := "()Ljava/lang/Class;" } : Jvm.MethodName)) ∈ lw_all := lw_g (lw_at lw_m3 8 rfl) rfl
theorem q581 : (Jvm.Cond.methodLink "LentYouths" (175 : Nat) ({ cls := "LentYouths", name := "faulty", desc := "(I)I" } : Jvm.MethodName)) ∈ lw_all := lw_g (lw_at lw_m3 33 rfl) rfl
theorem q582 : (Jvm.Cond.privateMethod ({ cls := "LentYouths", name := "faulty", desc := "(I)I" } : Jvm.MethodName)) ∈ lw_tbl := lw_at lw_m3 34 rfl
theorem q583 : (Jvm.Cond.instanceMethod ({ cls := "LentYouths", name := "faulty", desc := "(I)I" } : Jvm.MethodName)) ∈ lw_all := lw_g (lw_at lw_m3 35 rfl) rfl
theorem q584 : (Jvm.Cond.code ({ cls := "LentYouths", name := "faulty", desc := "(I)I" } : Jvm.MethodName) prog_1_method_5_code (2 : Nat) (Option.some Jvm.ClassFile.FieldType.int)) ∈ lw_all := lw_g (lw_at lw_m3 36 rfl) rfl
theorem q586 : (Jvm.Cond.instanceMethod ({ cls := "LentYouths", name := "ofPerson", desc := "(II)I" } : Jvm.MethodName)) ∈ lw_all := lw_g (lw_at lw_m3 38 rfl) rfl
theorem q587 : (Jvm.Cond.selects "LentYouths" ({ cls := "LentYouths", name := "ofPerson", desc := "(II)I" } : Jvm.MethodName) ({ cls := "LentYouths", name := "ofPerson", desc := "(II)I" } : Jvm.MethodName)) ∈ lw_all := lw_g (lw_at lw_m3 39 rfl) rfl
theorem q588 : (Jvm.Cond.code ({ cls := "LentYouths", name := "ofPerson", desc := "(II)I" } : Jvm.MethodName) prog_1_method_21_code (4 : Nat) (Option.some Jvm.ClassFile.FieldType.int)) ∈ lw_all := lw_g (lw_at lw_m3 40 rfl) rfl
theorem q589 : (Jvm.Cond.methodLink "LentYouths" (185 : Nat) ({ cls := "LentYouths", name := "isPerson", desc := "(I)Z" } : Jvm.MethodName)) ∈ lw_all := lw_g (lw_at lw_m3 41 rfl) rfl
theorem q590 : (Jvm.Cond.privateMethod ({ cls := "LentYouths", name := "isPerson", desc := "(I)Z" } : Jvm.MethodName)) ∈ lw_tbl := lw_at lw_m3 42 rfl
theorem q591 : (Jvm.Cond.instanceMethod ({ cls := "LentYouths", name := "isPerson", desc := "(I)Z" } : Jvm.MethodName)) ∈ lw_all := lw_g (lw_at lw_m3 43 rfl) rfl
theorem q592 : (Jvm.Cond.code ({ cls := "LentYouths", name := "isPerson", desc := "(I)Z" } : Jvm.MethodName) prog_1_method_12_code (2 : Nat) (Option.some Jvm.ClassFile.FieldType.boolean)) ∈ lw_all := lw_g (lw_at lw_m3 44 rfl) rfl
theorem q593 : (Jvm.Cond.methodLink "LentYouths" (106 : Nat) ({ cls := "LentYouths", name := "people", desc := "()I" } : Jvm.MethodName)) ∈ lw_all := lw_g (lw_at lw_m3 45 rfl) rfl
theorem q594 : (Jvm.Cond.privateMethod ({ cls := "LentYouths", name := "people", desc := "()I" } : Jvm.MethodName)) ∈ lw_tbl := lw_at lw_m3 46 rfl
theorem q595 : (Jvm.Cond.instanceMethod ({ cls := "LentYouths", name := "people", desc := "()I" } : Jvm.MethodName)) ∈ lw_all := lw_g (lw_at lw_m3 47 rfl) rfl
theorem q596 : (Jvm.Cond.code ({ cls := "LentYouths", name := "people", desc := "()I" } : Jvm.MethodName) prog_1_method_10_code (1 : Nat) (Option.some Jvm.ClassFile.FieldType.int)) ∈ lw_all := lw_g (lw_at lw_m3 48 rfl) rfl
theorem q597 : (Jvm.Cond.interfaceEntry "LentYouths" (96 : Nat)) ∈ lw_tbl := lw_at lw_m3 49 rfl
theorem q598 : (Jvm.Cond.methodLink "LentYouths" (96 : Nat) ({ cls := "java/util/List", name := "size", desc := "()I" } : Jvm.MethodName)) ∈ lw_all := lw_g (lw_at lw_m3 50 rfl) rfl
theorem q606 : (Jvm.Cond.interfaceEntry "LentYouths" (188 : Nat)) ∈ lw_tbl := lw_at lw_m3 58 rfl
theorem q607 : (Jvm.Cond.methodLink "LentYouths" (188 : Nat) ({ cls := "java/util/List", name := "get", desc := "(I)Ljava/lang/Object;" } : Jvm.MethodName)) ∈ lw_all := lw_g (lw_at lw_m3 59 rfl) rfl
theorem q625 : (Jvm.Cond.methodLink "LentYouths" (192 : Nat) ({ cls := "LentYouths$Childhood", name := "kind", desc := "()I" } : Jvm.MethodName)) ∈ lw_all := lw_g (lw_at lw_m3 77 rfl) rfl
theorem q636 : (Jvm.Cond.methodLink "LentYouths" (204 : Nat) ({ cls := "LentYouths$Childhood", name := "lasts", desc := "()I" } : Jvm.MethodName)) ∈ lw_all := lw_g (lw_at lw_m3 88 rfl) rfl
theorem q650 : (Jvm.Cond.instanceMethod ({ cls := "LentYouths", name := "live", desc := "(II)I" } : Jvm.MethodName)) ∈ lw_all := lw_g (lw_at lw_m3 102 rfl) rfl
theorem q651 : (Jvm.Cond.selects "LentYouths" ({ cls := "LentYouths", name := "live", desc := "(II)I" } : Jvm.MethodName) ({ cls := "LentYouths", name := "live", desc := "(II)I" } : Jvm.MethodName)) ∈ lw_all := lw_g (lw_at lw_m3 103 rfl) rfl
theorem q652 : (Jvm.Cond.code ({ cls := "LentYouths", name := "live", desc := "(II)I" } : Jvm.MethodName) prog_1_method_22_code (4 : Nat) (Option.some Jvm.ClassFile.FieldType.int)) ∈ lw_all := lw_g (lw_at lw_m3 104 rfl) rfl
theorem q653 : (Jvm.Cond.constantLong "LentYouths" (207 : Nat) (63 : Int64)) ∈ lw_all := lw_g (lw_at lw_m3 105 rfl) rfl
theorem q655 : (Jvm.Cond.instanceMethod ({ cls := "LentYouths", name := "want", desc := "(II)I" } : Jvm.MethodName)) ∈ lw_all := lw_g (lw_at lw_m3 107 rfl) rfl
theorem q656 : (Jvm.Cond.selects "LentYouths" ({ cls := "LentYouths", name := "want", desc := "(II)I" } : Jvm.MethodName) ({ cls := "LentYouths", name := "want", desc := "(II)I" } : Jvm.MethodName)) ∈ lw_all := lw_g (lw_at lw_m3 108 rfl) rfl
theorem q657 : (Jvm.Cond.code ({ cls := "LentYouths", name := "want", desc := "(II)I" } : Jvm.MethodName) prog_1_method_23_code (4 : Nat) (Option.some Jvm.ClassFile.FieldType.int)) ∈ lw_all := lw_g (lw_at lw_m3 109 rfl) rfl
theorem q658 : (Jvm.Cond.constantLong "LentYouths" (209 : Nat) (6 : Int64)) ∈ lw_all := lw_g (lw_at lw_m3 110 rfl) rfl
theorem q660 : (Jvm.Cond.instanceMethod ({ cls := "LentYouths", name := "loans", desc := "(IIIII)I" } : Jvm.MethodName)) ∈ lw_all := lw_g (lw_at lw_m3 112 rfl) rfl
theorem q661 : (Jvm.Cond.selects "LentYouths" ({ cls := "LentYouths", name := "loans", desc := "(IIIII)I" } : Jvm.MethodName) ({ cls := "LentYouths", name := "loans", desc := "(IIIII)I" } : Jvm.MethodName)) ∈ lw_all := lw_g (lw_at lw_m3 113 rfl) rfl
theorem q662 : (Jvm.Cond.codeWith ({ cls := "LentYouths", name := "loans", desc := "(IIIII)I" } : Jvm.MethodName) prog_1_method_36_code (7 : Nat) (Option.some Jvm.ClassFile.FieldType.int) [((55 : Nat), (82 : Nat), (83 : Nat), (173 : Nat)), ((55 : Nat), (82 : Nat), (91 : Nat), (179 : Nat)), ((55 : Nat), (82 : Nat), (99 : Nat), (183 : Nat))]) ∈ lw_all := lw_g (lw_at lw_m3 114 rfl) rfl
theorem q663 : (Jvm.Cond.constantLong "LentYouths" (271 : Nat) (20 : Int64)) ∈ lw_all := lw_g (lw_at lw_m3 115 rfl) rfl
theorem q664 : (Jvm.Cond.methodLink "LentYouths" (279 : Nat) ({ cls := "LentYouths", name := "isWhat", desc := "(I)Z" } : Jvm.MethodName)) ∈ lw_all := lw_g (lw_at lw_m3 116 rfl) rfl
theorem q665 : (Jvm.Cond.static ({ cls := "LentYouths", name := "isWhat", desc := "(I)Z" } : Jvm.MethodName)) ∈ lw_all := lw_g (lw_at lw_m3 117 rfl) rfl
theorem q666 : (Jvm.Cond.code ({ cls := "LentYouths", name := "isWhat", desc := "(I)Z" } : Jvm.MethodName) prog_1_method_35_code (1 : Nat) (Option.some Jvm.ClassFile.FieldType.boolean)) ∈ lw_all := lw_g (lw_at lw_m3 118 rfl) rfl
theorem q667 : (Jvm.Cond.constantLong "LentYouths" (267 : Nat) (10 : Int64)) ∈ lw_all := lw_g (lw_at lw_m3 119 rfl) rfl
theorem q668 : (Jvm.Cond.constantLong "LentYouths" (269 : Nat) (15 : Int64)) ∈ lw_all := lw_g (lw_at lw_m3 120 rfl) rfl
theorem q669 : (Jvm.Cond.constantLong "LentYouths" (273 : Nat) (25 : Int64)) ∈ lw_all := lw_g (lw_at lw_m3 121 rfl) rfl
theorem q670 : (Jvm.Cond.constantLong "LentYouths" (275 : Nat) (30 : Int64)) ∈ lw_all := lw_g (lw_at lw_m3 122 rfl) rfl
theorem q671 : (Jvm.Cond.constantLong "LentYouths" (277 : Nat) (35 : Int64)) ∈ lw_all := lw_g (lw_at lw_m3 123 rfl) rfl
theorem q672 : (Jvm.Cond.methodLink "LentYouths" (282 : Nat) ({ cls := "LentYouths", name := "isCounter", desc := "()Z" } : Jvm.MethodName)) ∈ lw_all := lw_g (lw_at lw_m3 124 rfl) rfl
theorem q673 : (Jvm.Cond.privateMethod ({ cls := "LentYouths", name := "isCounter", desc := "()Z" } : Jvm.MethodName)) ∈ lw_tbl := lw_at lw_m3 125 rfl
theorem q674 : (Jvm.Cond.instanceMethod ({ cls := "LentYouths", name := "isCounter", desc := "()Z" } : Jvm.MethodName)) ∈ lw_all := lw_g (lw_at lw_m3 126 rfl) rfl
theorem q675 : (Jvm.Cond.code ({ cls := "LentYouths", name := "isCounter", desc := "()Z" } : Jvm.MethodName) prog_1_method_11_code (1 : Nat) (Option.some Jvm.ClassFile.FieldType.boolean)) ∈ lw_all := lw_g (lw_at lw_m3 127 rfl) rfl
theorem q676 : (Jvm.Cond.interfaceEntry "LentYouths" (102 : Nat)) ∈ lw_tbl := lw_at lw_m3 128 rfl
theorem q677 : (Jvm.Cond.methodLink "LentYouths" (102 : Nat) ({ cls := "java/util/List", name := "isEmpty", desc := "()Z" } : Jvm.MethodName)) ∈ lw_all := lw_g (lw_at lw_m3 129 rfl) rfl
theorem q685 : (Jvm.Cond.methodLink "LentYouths" (285 : Nat) ({ cls := "LentYouths", name := "lentBy", desc := "([II)I" } : Jvm.MethodName)) ∈ lw_all := lw_g (lw_at lw_m3 137 rfl) rfl
theorem q686 : (Jvm.Cond.privateMethod ({ cls := "LentYouths", name := "lentBy", desc := "([II)I" } : Jvm.MethodName)) ∈ lw_tbl := lw_at lw_m3 138 rfl
theorem q687 : (Jvm.Cond.instanceMethod ({ cls := "LentYouths", name := "lentBy", desc := "([II)I" } : Jvm.MethodName)) ∈ lw_all := lw_g (lw_at lw_m3 139 rfl) rfl
theorem q688 : (Jvm.Cond.code ({ cls := "LentYouths", name := "lentBy", desc := "([II)I" } : Jvm.MethodName) prog_1_method_34_code (4 : Nat) (Option.some Jvm.ClassFile.FieldType.int)) ∈ lw_all := lw_g (lw_at lw_m3 140 rfl) rfl
theorem q689 : (Jvm.Cond.methodLink "LentYouths" (253 : Nat) ({ cls := "LentYouths", name := "areOthers", desc := "([I)Z" } : Jvm.MethodName)) ∈ lw_all := lw_g (lw_at lw_m3 141 rfl) rfl
theorem q690 : (Jvm.Cond.privateMethod ({ cls := "LentYouths", name := "areOthers", desc := "([I)Z" } : Jvm.MethodName)) ∈ lw_tbl := lw_at lw_m3 142 rfl
theorem q691 : (Jvm.Cond.instanceMethod ({ cls := "LentYouths", name := "areOthers", desc := "([I)Z" } : Jvm.MethodName)) ∈ lw_all := lw_g (lw_at lw_m3 143 rfl) rfl
theorem q692 : (Jvm.Cond.code ({ cls := "LentYouths", name := "areOthers", desc := "([I)Z" } : Jvm.MethodName) prog_1_method_32_code (3 : Nat) (Option.some Jvm.ClassFile.FieldType.boolean)) ∈ lw_all := lw_g (lw_at lw_m3 144 rfl) rfl
theorem q693 : (Jvm.Cond.methodLink "LentYouths" (256 : Nat) ({ cls := "LentYouths", name := "goAll", desc := "([I)I" } : Jvm.MethodName)) ∈ lw_all := lw_g (lw_at lw_m3 145 rfl) rfl
theorem q694 : (Jvm.Cond.privateMethod ({ cls := "LentYouths", name := "goAll", desc := "([I)I" } : Jvm.MethodName)) ∈ lw_tbl := lw_at lw_m3 146 rfl
theorem q695 : (Jvm.Cond.instanceMethod ({ cls := "LentYouths", name := "goAll", desc := "([I)I" } : Jvm.MethodName)) ∈ lw_all := lw_g (lw_at lw_m3 147 rfl) rfl
theorem q696 : (Jvm.Cond.code ({ cls := "LentYouths", name := "goAll", desc := "([I)I" } : Jvm.MethodName) prog_1_method_30_code (4 : Nat) (Option.some Jvm.ClassFile.FieldType.int)) ∈ lw_all := lw_g (lw_at lw_m3 148 rfl) rfl
theorem q697 : (Jvm.Cond.methodLink "LentYouths" (240 : Nat) ({ cls := "LentYouths", name := "begin", desc := "()V" } : Jvm.MethodName)) ∈ lw_all := lw_g (lw_at lw_m3 149 rfl) rfl
theorem q698 : (Jvm.Cond.privateMethod ({ cls := "LentYouths", name := "begin", desc := "()V" } : Jvm.MethodName)) ∈ lw_tbl := lw_at lw_m3 150 rfl
theorem q699 : (Jvm.Cond.instanceMethod ({ cls := "LentYouths", name := "begin", desc := "()V" } : Jvm.MethodName)) ∈ lw_all := lw_g (lw_at lw_m3 151 rfl) rfl
theorem q700 : (Jvm.Cond.code ({ cls := "LentYouths", name := "begin", desc := "()V" } : Jvm.MethodName) prog_1_method_25_code (2 : Nat) (Option.none : Option Jvm.ClassFile.FieldType)) ∈ lw_all := lw_g (lw_at lw_m3 152 rfl) rfl
theorem q701 : (Jvm.Cond.methodLink "LentYouths" (214 : Nat) ({ cls := "java/util/Arrays", name := "fill", desc := "([II)V" } : Jvm.MethodName)) ∈ lw_all := lw_g (lw_at lw_m3 153 rfl) rfl
theorem q704 : (Jvm.Cond.methodLink "LentYouths" (220 : Nat) ({ cls := "LentYouths$Childhood", name := "begin", desc := "()V" } : Jvm.MethodName)) ∈ lw_all := lw_g (lw_at lw_m3 156 rfl) rfl
theorem q711 : (Jvm.Cond.methodLink "LentYouths" (223 : Nat) ({ cls := "LentYouths", name := "see", desc := "(I)V" } : Jvm.MethodName)) ∈ lw_all := lw_g (lw_at lw_m3 163 rfl) rfl
theorem q712 : (Jvm.Cond.privateMethod ({ cls := "LentYouths", name := "see", desc := "(I)V" } : Jvm.MethodName)) ∈ lw_tbl := lw_at lw_m3 164 rfl
theorem q713 : (Jvm.Cond.instanceMethod ({ cls := "LentYouths", name := "see", desc := "(I)V" } : Jvm.MethodName)) ∈ lw_all := lw_g (lw_at lw_m3 165 rfl) rfl
theorem q714 : (Jvm.Cond.code ({ cls := "LentYouths", name := "see", desc := "(I)V" } : Jvm.MethodName) prog_1_method_24_code (3 : Nat) (Option.none : Option Jvm.ClassFile.FieldType)) ∈ lw_all := lw_g (lw_at lw_m3 166 rfl) rfl
theorem q715 : (Jvm.Cond.methodLink "LentYouths" (241 : Nat) ({ cls := "LentYouths", name := "mended", desc := "()I" } : Jvm.MethodName)) ∈ lw_all := lw_g (lw_at lw_m3 167 rfl) rfl
theorem q716 : (Jvm.Cond.privateMethod ({ cls := "LentYouths", name := "mended", desc := "()I" } : Jvm.MethodName)) ∈ lw_tbl := lw_at lw_m3 168 rfl
theorem q717 : (Jvm.Cond.instanceMethod ({ cls := "LentYouths", name := "mended", desc := "()I" } : Jvm.MethodName)) ∈ lw_all := lw_g (lw_at lw_m3 169 rfl) rfl
theorem q718 : (Jvm.Cond.code ({ cls := "LentYouths", name := "mended", desc := "()I" } : Jvm.MethodName) prog_1_method_27_code (3 : Nat) (Option.some Jvm.ClassFile.FieldType.int)) ∈ lw_all := lw_g (lw_at lw_m3 170 rfl) rfl
theorem q719 : (Jvm.Cond.methodLink "LentYouths" (234 : Nat) ({ cls := "LentYouths", name := "isMended", desc := "(I)Z" } : Jvm.MethodName)) ∈ lw_all := lw_g (lw_at lw_m3 171 rfl) rfl
theorem q720 : (Jvm.Cond.privateMethod ({ cls := "LentYouths", name := "isMended", desc := "(I)Z" } : Jvm.MethodName)) ∈ lw_tbl := lw_at lw_m3 172 rfl
theorem q721 : (Jvm.Cond.instanceMethod ({ cls := "LentYouths", name := "isMended", desc := "(I)Z" } : Jvm.MethodName)) ∈ lw_all := lw_g (lw_at lw_m3 173 rfl) rfl
theorem q722 : (Jvm.Cond.code ({ cls := "LentYouths", name := "isMended", desc := "(I)Z" } : Jvm.MethodName) prog_1_method_26_code (3 : Nat) (Option.some Jvm.ClassFile.FieldType.boolean)) ∈ lw_all := lw_g (lw_at lw_m3 174 rfl) rfl
theorem q723 : (Jvm.Cond.methodLink "LentYouths" (230 : Nat) ({ cls := "LentYouths", name := "isOf", desc := "(II)Z" } : Jvm.MethodName)) ∈ lw_all := lw_g (lw_at lw_m3 175 rfl) rfl
theorem q724 : (Jvm.Cond.static ({ cls := "LentYouths", name := "isOf", desc := "(II)Z" } : Jvm.MethodName)) ∈ lw_all := lw_g (lw_at lw_m3 176 rfl) rfl
theorem q725 : (Jvm.Cond.code ({ cls := "LentYouths", name := "isOf", desc := "(II)Z" } : Jvm.MethodName) prog_1_method_4_code (2 : Nat) (Option.some Jvm.ClassFile.FieldType.boolean)) ∈ lw_all := lw_g (lw_at lw_m3 177 rfl) rfl
theorem q726 : (Jvm.Cond.methodLink "LentYouths" (244 : Nat) ({ cls := "LentYouths", name := "all", desc := "()I" } : Jvm.MethodName)) ∈ lw_all := lw_g (lw_at lw_m3 178 rfl) rfl
theorem q727 : (Jvm.Cond.privateMethod ({ cls := "LentYouths", name := "all", desc := "()I" } : Jvm.MethodName)) ∈ lw_tbl := lw_at lw_m3 179 rfl
theorem q728 : (Jvm.Cond.instanceMethod ({ cls := "LentYouths", name := "all", desc := "()I" } : Jvm.MethodName)) ∈ lw_all := lw_g (lw_at lw_m3 180 rfl) rfl
theorem q729 : (Jvm.Cond.code ({ cls := "LentYouths", name := "all", desc := "()I" } : Jvm.MethodName) prog_1_method_13_code (1 : Nat) (Option.some Jvm.ClassFile.FieldType.int)) ∈ lw_all := lw_g (lw_at lw_m3 181 rfl) rfl
theorem q730 : (Jvm.Cond.methodLink "LentYouths" (247 : Nat) ({ cls := "LentYouths", name := "mayLend", desc := "(II)Z" } : Jvm.MethodName)) ∈ lw_all := lw_g (lw_at lw_m3 182 rfl) rfl
theorem q731 : (Jvm.Cond.privateMethod ({ cls := "LentYouths", name := "mayLend", desc := "(II)Z" } : Jvm.MethodName)) ∈ lw_tbl := lw_at lw_m3 183 rfl
theorem q732 : (Jvm.Cond.instanceMethod ({ cls := "LentYouths", name := "mayLend", desc := "(II)Z" } : Jvm.MethodName)) ∈ lw_all := lw_g (lw_at lw_m3 184 rfl) rfl
theorem q733 : (Jvm.Cond.code ({ cls := "LentYouths", name := "mayLend", desc := "(II)Z" } : Jvm.MethodName) prog_1_method_28_code (3 : Nat) (Option.some Jvm.ClassFile.FieldType.boolean)) ∈ lw_all := lw_g (lw_at lw_m3 185 rfl) rfl
theorem q734 : (Jvm.Cond.methodLink "LentYouths" (250 : Nat) ({ cls := "LentYouths", name := "lend", desc := "(II)V" } : Jvm.MethodName)) ∈ lw_all := lw_g (lw_at lw_m3 186 rfl) rfl
theorem q735 : (Jvm.Cond.privateMethod ({ cls := "LentYouths", name := "lend", desc := "(II)V" } : Jvm.MethodName)) ∈ lw_tbl := lw_at lw_m3 187 rfl
theorem q736 : (Jvm.Cond.instanceMethod ({ cls := "LentYouths", name := "lend", desc := "(II)V" } : Jvm.MethodName)) ∈ lw_all := lw_g (lw_at lw_m3 188 rfl) rfl
theorem q737 : (Jvm.Cond.code ({ cls := "LentYouths", name := "lend", desc := "(II)V" } : Jvm.MethodName) prog_1_method_29_code (4 : Nat) (Option.none : Option Jvm.ClassFile.FieldType)) ∈ lw_all := lw_g (lw_at lw_m3 189 rfl) rfl
theorem q738 : (Jvm.Cond.methodLink "LentYouths" (237 : Nat) ({ cls := "LentYouths$Childhood", name := "lend", desc := "()V" } : Jvm.MethodName)) ∈ lw_all := lw_g (lw_at lw_m3 190 rfl) rfl
theorem q753 : (Jvm.Cond.static ({ cls := "LentYouths", name := "asKind", desc := "(II)I" } : Jvm.MethodName)) ∈ lw_all := lw_g (lw_at lw_m3 205 rfl) rfl
theorem q754 : (Jvm.Cond.code ({ cls := "LentYouths", name := "asKind", desc := "(II)I" } : Jvm.MethodName) prog_1_method_9_code (2 : Nat) (Option.some Jvm.ClassFile.FieldType.int)) ∈ lw_all := lw_g (lw_at lw_m3 206 rfl) rfl
theorem q756 : (Jvm.Cond.methodLink "LentYouths" (259 : Nat) ({ cls := "LentYouths", name := "home", desc := "()I" } : Jvm.MethodName)) ∈ lw_all := lw_g (lw_at lw_m3 208 rfl) rfl
theorem q757 : (Jvm.Cond.privateMethod ({ cls := "LentYouths", name := "home", desc := "()I" } : Jvm.MethodName)) ∈ lw_tbl := lw_at lw_m3 209 rfl
theorem q758 : (Jvm.Cond.instanceMethod ({ cls := "LentYouths", name := "home", desc := "()I" } : Jvm.MethodName)) ∈ lw_all := lw_g (lw_at lw_m3 210 rfl) rfl
theorem q759 : (Jvm.Cond.code ({ cls := "LentYouths", name := "home", desc := "()I" } : Jvm.MethodName) prog_1_method_31_code (5 : Nat) (Option.some Jvm.ClassFile.FieldType.int)) ∈ lw_all := lw_g (lw_at lw_m3 211 rfl) rfl
theorem q760 : (Jvm.Cond.methodLink "LentYouths" (262 : Nat) ({ cls := "LentYouths", name := "ofPeople", desc := "(I)I" } : Jvm.MethodName)) ∈ lw_all := lw_g (lw_at lw_m3 212 rfl) rfl
theorem q761 : (Jvm.Cond.privateMethod ({ cls := "LentYouths", name := "ofPeople", desc := "(I)I" } : Jvm.MethodName)) ∈ lw_tbl := lw_at lw_m3 213 rfl
theorem q762 : (Jvm.Cond.instanceMethod ({ cls := "LentYouths", name := "ofPeople", desc := "(I)I" } : Jvm.MethodName)) ∈ lw_all := lw_g (lw_at lw_m3 214 rfl) rfl
theorem q763 : (Jvm.Cond.code ({ cls := "LentYouths", name := "ofPeople", desc := "(I)I" } : Jvm.MethodName) prog_1_method_33_code (3 : Nat) (Option.some Jvm.ClassFile.FieldType.int)) ∈ lw_all := lw_g (lw_at lw_m3 215 rfl) rfl
theorem q765 : (Jvm.Cond.instanceMethod ({ cls := "LentYouths", name := "fewest", desc := "(II)I" } : Jvm.MethodName)) ∈ lw_all := lw_g (lw_at lw_m3 217 rfl) rfl
theorem q766 : (Jvm.Cond.selects "LentYouths" ({ cls := "LentYouths", name := "fewest", desc := "(II)I" } : Jvm.MethodName) ({ cls := "LentYouths", name := "fewest", desc := "(II)I" } : Jvm.MethodName)) ∈ lw_all := lw_g (lw_at lw_m3 218 rfl) rfl
theorem q767 : (Jvm.Cond.code ({ cls := "LentYouths", name := "fewest", desc := "(II)I" } : Jvm.MethodName) prog_1_method_40_code (4 : Nat) (Option.some Jvm.ClassFile.FieldType.int)) ∈ lw_all := lw_g (lw_at lw_m3 219 rfl) rfl
theorem q768 : (Jvm.Cond.constantLong "LentYouths" (302 : Nat) (-1 : Int64)) ∈ lw_all := lw_g (lw_at lw_m3 220 rfl) rfl
theorem q769 : (Jvm.Cond.methodLink "LentYouths" (306 : Nat) ({ cls := "LentYouths", name := "fewestOf", desc := "(I)I" } : Jvm.MethodName)) ∈ lw_all := lw_g (lw_at lw_m3 221 rfl) rfl
theorem q770 : (Jvm.Cond.privateMethod ({ cls := "LentYouths", name := "fewestOf", desc := "(I)I" } : Jvm.MethodName)) ∈ lw_tbl := lw_at lw_m3 222 rfl
theorem q771 : (Jvm.Cond.instanceMethod ({ cls := "LentYouths", name := "fewestOf", desc := "(I)I" } : Jvm.MethodName)) ∈ lw_all := lw_g (lw_at lw_m3 223 rfl) rfl
theorem q772 : (Jvm.Cond.code ({ cls := "LentYouths", name := "fewestOf", desc := "(I)I" } : Jvm.MethodName) prog_1_method_39_code (3 : Nat) (Option.some Jvm.ClassFile.FieldType.int)) ∈ lw_all := lw_g (lw_at lw_m3 224 rfl) rfl
theorem q773 : (Jvm.Cond.methodLink "LentYouths" (299 : Nat) ({ cls := "LentYouths", name := "tryFrom", desc := "(II)V" } : Jvm.MethodName)) ∈ lw_all := lw_g (lw_at lw_m3 225 rfl) rfl
theorem q774 : (Jvm.Cond.privateMethod ({ cls := "LentYouths", name := "tryFrom", desc := "(II)V" } : Jvm.MethodName)) ∈ lw_tbl := lw_at lw_m3 226 rfl
theorem q775 : (Jvm.Cond.instanceMethod ({ cls := "LentYouths", name := "tryFrom", desc := "(II)V" } : Jvm.MethodName)) ∈ lw_all := lw_g (lw_at lw_m3 227 rfl) rfl
theorem q776 : (Jvm.Cond.code ({ cls := "LentYouths", name := "tryFrom", desc := "(II)V" } : Jvm.MethodName) prog_1_method_38_code (5 : Nat) (Option.none : Option Jvm.ClassFile.FieldType)) ∈ lw_all := lw_g (lw_at lw_m3 228 rfl) rfl
theorem q777 : (Jvm.Cond.methodLink "LentYouths" (289 : Nat) ({ cls := "LentYouths", name := "goRow", desc := "(I)Z" } : Jvm.MethodName)) ∈ lw_all := lw_g (lw_at lw_m3 229 rfl) rfl
theorem q778 : (Jvm.Cond.privateMethod ({ cls := "LentYouths", name := "goRow", desc := "(I)Z" } : Jvm.MethodName)) ∈ lw_tbl := lw_at lw_m3 230 rfl
theorem q779 : (Jvm.Cond.instanceMethod ({ cls := "LentYouths", name := "goRow", desc := "(I)Z" } : Jvm.MethodName)) ∈ lw_all := lw_g (lw_at lw_m3 231 rfl) rfl
theorem q780 : (Jvm.Cond.code ({ cls := "LentYouths", name := "goRow", desc := "(I)Z" } : Jvm.MethodName) prog_1_method_37_code (3 : Nat) (Option.some Jvm.ClassFile.FieldType.boolean)) ∈ lw_all := lw_g (lw_at lw_m3 232 rfl) rfl
theorem q782 : (Jvm.Cond.instanceMethod ({ cls := "LentYouths", name := "match", desc := "(I)I" } : Jvm.MethodName)) ∈ lw_all := lw_g (lw_at lw_m3 234 rfl) rfl
theorem q783 : (Jvm.Cond.selects "LentYouths" ({ cls := "LentYouths", name := "match", desc := "(I)I" } : Jvm.MethodName) ({ cls := "LentYouths", name := "match", desc := "(I)I" } : Jvm.MethodName)) ∈ lw_all := lw_g (lw_at lw_m3 235 rfl) rfl
theorem q784 : (Jvm.Cond.code ({ cls := "LentYouths", name := "match", desc := "(I)I" } : Jvm.MethodName) prog_1_method_43_code (2 : Nat) (Option.some Jvm.ClassFile.FieldType.int)) ∈ lw_all := lw_g (lw_at lw_m3 236 rfl) rfl
theorem q785 : (Jvm.Cond.methodLink "LentYouths" (321 : Nat) ({ cls := "LentYouths", name := "matchFrom", desc := "(III)V" } : Jvm.MethodName)) ∈ lw_all := lw_g (lw_at lw_m3 237 rfl) rfl
theorem q786 : (Jvm.Cond.privateMethod ({ cls := "LentYouths", name := "matchFrom", desc := "(III)V" } : Jvm.MethodName)) ∈ lw_tbl := lw_at lw_m3 238 rfl
theorem q787 : (Jvm.Cond.instanceMethod ({ cls := "LentYouths", name := "matchFrom", desc := "(III)V" } : Jvm.MethodName)) ∈ lw_all := lw_g (lw_at lw_m3 239 rfl) rfl
theorem q788 : (Jvm.Cond.code ({ cls := "LentYouths", name := "matchFrom", desc := "(III)V" } : Jvm.MethodName) prog_1_method_42_code (5 : Nat) (Option.none : Option Jvm.ClassFile.FieldType)) ∈ lw_all := lw_g (lw_at lw_m4 0 rfl) rfl
theorem q789 : (Jvm.Cond.methodLink "LentYouths" (312 : Nat) ({ cls := "java/lang/System", name := "arraycopy", desc := "(Ljava/lang/Object;ILjava/lang/Object;II)V" } : Jvm.MethodName)) ∈ lw_all := lw_g (lw_at lw_m4 1 rfl) rfl
theorem q790 : (Jvm.Cond.methodLink "LentYouths" (318 : Nat) ({ cls := "LentYouths", name := "isMendedBy", desc := "(II)Z" } : Jvm.MethodName)) ∈ lw_all := lw_g (lw_at lw_m4 2 rfl) rfl
theorem q791 : (Jvm.Cond.privateMethod ({ cls := "LentYouths", name := "isMendedBy", desc := "(II)Z" } : Jvm.MethodName)) ∈ lw_tbl := lw_at lw_m4 3 rfl
theorem q792 : (Jvm.Cond.instanceMethod ({ cls := "LentYouths", name := "isMendedBy", desc := "(II)Z" } : Jvm.MethodName)) ∈ lw_all := lw_g (lw_at lw_m4 4 rfl) rfl
theorem q793 : (Jvm.Cond.code ({ cls := "LentYouths", name := "isMendedBy", desc := "(II)Z" } : Jvm.MethodName) prog_1_method_41_code (4 : Nat) (Option.some Jvm.ClassFile.FieldType.boolean)) ∈ lw_all := lw_g (lw_at lw_m4 5 rfl) rfl
theorem q795 : (Jvm.Cond.instanceMethod ({ cls := "LentYouths", name := "help", desc := "(I)I" } : Jvm.MethodName)) ∈ lw_all := lw_g (lw_at lw_m4 7 rfl) rfl
theorem q796 : (Jvm.Cond.selects "LentYouths" ({ cls := "LentYouths", name := "help", desc := "(I)I" } : Jvm.MethodName) ({ cls := "LentYouths", name := "help", desc := "(I)I" } : Jvm.MethodName)) ∈ lw_all := lw_g (lw_at lw_m4 8 rfl) rfl
theorem q797 : (Jvm.Cond.code ({ cls := "LentYouths", name := "help", desc := "(I)I" } : Jvm.MethodName) prog_1_method_44_code (5 : Nat) (Option.some Jvm.ClassFile.FieldType.int)) ∈ lw_all := lw_g (lw_at lw_m4 9 rfl) rfl
theorem q799 : (Jvm.Cond.instanceMethod ({ cls := "LentYouths", name := "reading", desc := "(IIZ)I" } : Jvm.MethodName)) ∈ lw_all := lw_g (lw_at lw_m4 11 rfl) rfl
theorem q800 : (Jvm.Cond.selects "LentYouths" ({ cls := "LentYouths", name := "reading", desc := "(IIZ)I" } : Jvm.MethodName) ({ cls := "LentYouths", name := "reading", desc := "(IIZ)I" } : Jvm.MethodName)) ∈ lw_all := lw_g (lw_at lw_m4 12 rfl) rfl
theorem q801 : (Jvm.Cond.code ({ cls := "LentYouths", name := "reading", desc := "(IIZ)I" } : Jvm.MethodName) prog_1_method_45_code (4 : Nat) (Option.some Jvm.ClassFile.FieldType.int)) ∈ lw_all := lw_g (lw_at lw_m4 13 rfl) rfl
theorem q802 : (Jvm.Cond.methodLink "LentYouths" (325 : Nat) ({ cls := "LentYouths", name := "isScene", desc := "(I)Z" } : Jvm.MethodName)) ∈ lw_all := lw_g (lw_at lw_m4 14 rfl) rfl
theorem q803 : (Jvm.Cond.static ({ cls := "LentYouths", name := "isScene", desc := "(I)Z" } : Jvm.MethodName)) ∈ lw_all := lw_g (lw_at lw_m4 15 rfl) rfl
theorem q804 : (Jvm.Cond.code ({ cls := "LentYouths", name := "isScene", desc := "(I)Z" } : Jvm.MethodName) prog_1_method_3_code (1 : Nat) (Option.some Jvm.ClassFile.FieldType.boolean)) ∈ lw_all := lw_g (lw_at lw_m4 16 rfl) rfl
theorem q805 : (Jvm.Cond.constantLong "LentYouths" (71 : Nat) (5 : Int64)) ∈ lw_all := lw_g (lw_at lw_m4 17 rfl) rfl
theorem q807 : (Jvm.Cond.instanceMethod ({ cls := "LentYouths", name := "back", desc := "(I)I" } : Jvm.MethodName)) ∈ lw_all := lw_g (lw_at lw_m4 19 rfl) rfl
theorem q808 : (Jvm.Cond.selects "LentYouths" ({ cls := "LentYouths", name := "back", desc := "(I)I" } : Jvm.MethodName) ({ cls := "LentYouths", name := "back", desc := "(I)I" } : Jvm.MethodName)) ∈ lw_all := lw_g (lw_at lw_m4 20 rfl) rfl
theorem q809 : (Jvm.Cond.code ({ cls := "LentYouths", name := "back", desc := "(I)I" } : Jvm.MethodName) prog_1_method_46_code (2 : Nat) (Option.some Jvm.ClassFile.FieldType.int)) ∈ lw_all := lw_g (lw_at lw_m4 21 rfl) rfl
theorem q811 : (Jvm.Cond.instanceMethod ({ cls := "LentYouths", name := "told", desc := "(IIIIII)I" } : Jvm.MethodName)) ∈ lw_all := lw_g (lw_at lw_m4 23 rfl) rfl
theorem q812 : (Jvm.Cond.selects "LentYouths" ({ cls := "LentYouths", name := "told", desc := "(IIIIII)I" } : Jvm.MethodName) ({ cls := "LentYouths", name := "told", desc := "(IIIIII)I" } : Jvm.MethodName)) ∈ lw_all := lw_g (lw_at lw_m4 24 rfl) rfl
theorem q813 : (Jvm.Cond.code ({ cls := "LentYouths", name := "told", desc := "(IIIIII)I" } : Jvm.MethodName) prog_1_method_52_code (7 : Nat) (Option.some Jvm.ClassFile.FieldType.int)) ∈ lw_all := lw_g (lw_at lw_m4 25 rfl) rfl
theorem q814 : (Jvm.Cond.methodLink "LentYouths" (348 : Nat) ({ cls := "LentYouths", name := "asked", desc := "(IIIIIII)I" } : Jvm.MethodName)) ∈ lw_all := lw_g (lw_at lw_m4 26 rfl) rfl
theorem q815 : (Jvm.Cond.privateMethod ({ cls := "LentYouths", name := "asked", desc := "(IIIIIII)I" } : Jvm.MethodName)) ∈ lw_tbl := lw_at lw_m4 27 rfl
theorem q816 : (Jvm.Cond.instanceMethod ({ cls := "LentYouths", name := "asked", desc := "(IIIIIII)I" } : Jvm.MethodName)) ∈ lw_all := lw_g (lw_at lw_m4 28 rfl) rfl
theorem q817 : (Jvm.Cond.codeWith ({ cls := "LentYouths", name := "asked", desc := "(IIIIIII)I" } : Jvm.MethodName) prog_1_method_51_code (9 : Nat) (Option.some Jvm.ClassFile.FieldType.int) [((56 : Nat), (90 : Nat), (168 : Nat), (173 : Nat)), ((91 : Nat), (167 : Nat), (168 : Nat), (173 : Nat)), ((56 : Nat), (90 : Nat), (176 : Nat), (179 : Nat)), ((91 : Nat), (167 : Nat), (176 : Nat), (179 : Nat)), ((56 : Nat), (90 : Nat), (184 : Nat), (183 : Nat)), ((91 : Nat), (167 : Nat), (184 : Nat), (183 : Nat))]) ∈ lw_all := lw_g (lw_at lw_m4 29 rfl) rfl
theorem q818 : (Jvm.Cond.methodLink "LentYouths" (337 : Nat) ({ cls := "LentYouths", name := "scenesOf", desc := "(LLentYouths$Childhood;[II)I" } : Jvm.MethodName)) ∈ lw_all := lw_g (lw_at lw_m4 30 rfl) rfl
theorem q819 : (Jvm.Cond.privateMethod ({ cls := "LentYouths", name := "scenesOf", desc := "(LLentYouths$Childhood;[II)I" } : Jvm.MethodName)) ∈ lw_tbl := lw_at lw_m4 31 rfl
theorem q820 : (Jvm.Cond.instanceMethod ({ cls := "LentYouths", name := "scenesOf", desc := "(LLentYouths$Childhood;[II)I" } : Jvm.MethodName)) ∈ lw_all := lw_g (lw_at lw_m4 32 rfl) rfl
theorem q821 : (Jvm.Cond.code ({ cls := "LentYouths", name := "scenesOf", desc := "(LLentYouths$Childhood;[II)I" } : Jvm.MethodName) prog_1_method_48_code (8 : Nat) (Option.some Jvm.ClassFile.FieldType.int)) ∈ lw_all := lw_g (lw_at lw_m4 33 rfl) rfl
theorem q822 : (Jvm.Cond.methodLink "LentYouths" (328 : Nat) ({ cls := "LentYouths", name := "areSo", desc := "([I)Z" } : Jvm.MethodName)) ∈ lw_all := lw_g (lw_at lw_m4 34 rfl) rfl
theorem q823 : (Jvm.Cond.privateMethod ({ cls := "LentYouths", name := "areSo", desc := "([I)Z" } : Jvm.MethodName)) ∈ lw_tbl := lw_at lw_m4 35 rfl
theorem q824 : (Jvm.Cond.instanceMethod ({ cls := "LentYouths", name := "areSo", desc := "([I)Z" } : Jvm.MethodName)) ∈ lw_all := lw_g (lw_at lw_m4 36 rfl) rfl
theorem q825 : (Jvm.Cond.code ({ cls := "LentYouths", name := "areSo", desc := "([I)Z" } : Jvm.MethodName) prog_1_method_47_code (4 : Nat) (Option.some Jvm.ClassFile.FieldType.boolean)) ∈ lw_all := lw_g (lw_at lw_m4 37 rfl) rfl
theorem q826 : (Jvm.Cond.methodLink "LentYouths" (341 : Nat) ({ cls := "LentYouths", name := "kindsOf", desc := "(LLentYouths$Childhood;[I)I" } : Jvm.MethodName)) ∈ lw_all := lw_g (lw_at lw_m4 38 rfl) rfl
theorem q827 : (Jvm.Cond.privateMethod ({ cls := "LentYouths", name := "kindsOf", desc := "(LLentYouths$Childhood;[I)I" } : Jvm.MethodName)) ∈ lw_tbl := lw_at lw_m4 39 rfl
theorem q828 : (Jvm.Cond.instanceMethod ({ cls := "LentYouths", name := "kindsOf", desc := "(LLentYouths$Childhood;[I)I" } : Jvm.MethodName)) ∈ lw_all := lw_g (lw_at lw_m4 40 rfl) rfl
theorem q829 : (Jvm.Cond.code ({ cls := "LentYouths", name := "kindsOf", desc := "(LLentYouths$Childhood;[I)I" } : Jvm.MethodName) prog_1_method_49_code (4 : Nat) (Option.some Jvm.ClassFile.FieldType.int)) ∈ lw_all := lw_g (lw_at lw_m4 41 rfl) rfl
theorem q830 : (Jvm.Cond.methodLink "LentYouths" (345 : Nat) ({ cls := "LentYouths", name := "wearsOf", desc := "(LLentYouths$Childhood;[I)I" } : Jvm.MethodName)) ∈ lw_all := lw_g (lw_at lw_m4 42 rfl) rfl
theorem q831 : (Jvm.Cond.privateMethod ({ cls := "LentYouths", name := "wearsOf", desc := "(LLentYouths$Childhood;[I)I" } : Jvm.MethodName)) ∈ lw_tbl := lw_at lw_m4 43 rfl
theorem q832 : (Jvm.Cond.instanceMethod ({ cls := "LentYouths", name := "wearsOf", desc := "(LLentYouths$Childhood;[I)I" } : Jvm.MethodName)) ∈ lw_all := lw_g (lw_at lw_m4 44 rfl) rfl
theorem q833 : (Jvm.Cond.code ({ cls := "LentYouths", name := "wearsOf", desc := "(LLentYouths$Childhood;[I)I" } : Jvm.MethodName) prog_1_method_50_code (5 : Nat) (Option.some Jvm.ClassFile.FieldType.int)) ∈ lw_all := lw_g (lw_at lw_m4 45 rfl) rfl
theorem q835 : (Jvm.Cond.instanceMethod ({ cls := "LentYouths", name := "kinds", desc := "(IIIII)I" } : Jvm.MethodName)) ∈ lw_all := lw_g (lw_at lw_m4 47 rfl) rfl
theorem q836 : (Jvm.Cond.selects "LentYouths" ({ cls := "LentYouths", name := "kinds", desc := "(IIIII)I" } : Jvm.MethodName) ({ cls := "LentYouths", name := "kinds", desc := "(IIIII)I" } : Jvm.MethodName)) ∈ lw_all := lw_g (lw_at lw_m4 48 rfl) rfl
theorem q837 : (Jvm.Cond.code ({ cls := "LentYouths", name := "kinds", desc := "(IIIII)I" } : Jvm.MethodName) prog_1_method_53_code (6 : Nat) (Option.some Jvm.ClassFile.FieldType.int)) ∈ lw_all := lw_g (lw_at lw_m4 49 rfl) rfl
theorem q839 : (Jvm.Cond.instanceMethod ({ cls := "LentYouths", name := "wears", desc := "(IIIII)I" } : Jvm.MethodName)) ∈ lw_all := lw_g (lw_at lw_m4 51 rfl) rfl
theorem q840 : (Jvm.Cond.selects "LentYouths" ({ cls := "LentYouths", name := "wears", desc := "(IIIII)I" } : Jvm.MethodName) ({ cls := "LentYouths", name := "wears", desc := "(IIIII)I" } : Jvm.MethodName)) ∈ lw_all := lw_g (lw_at lw_m4 52 rfl) rfl
theorem q841 : (Jvm.Cond.code ({ cls := "LentYouths", name := "wears", desc := "(IIIII)I" } : Jvm.MethodName) prog_1_method_54_code (6 : Nat) (Option.some Jvm.ClassFile.FieldType.int)) ∈ lw_all := lw_g (lw_at lw_m4 53 rfl) rfl
theorem q843 : (Jvm.Cond.instanceMethod ({ cls := "LentYouths", name := "odds", desc := "(IIIIII)J" } : Jvm.MethodName)) ∈ lw_all := lw_g (lw_at lw_m4 55 rfl) rfl
theorem q844 : (Jvm.Cond.selects "LentYouths" ({ cls := "LentYouths", name := "odds", desc := "(IIIIII)J" } : Jvm.MethodName) ({ cls := "LentYouths", name := "odds", desc := "(IIIIII)J" } : Jvm.MethodName)) ∈ lw_all := lw_g (lw_at lw_m4 56 rfl) rfl
theorem q845 : (Jvm.Cond.codeWith ({ cls := "LentYouths", name := "odds", desc := "(IIIIII)J" } : Jvm.MethodName) prog_1_method_56_code (8 : Nat) (Option.some Jvm.ClassFile.FieldType.long) [((55 : Nat), (84 : Nat), (85 : Nat), (173 : Nat)), ((55 : Nat), (84 : Nat), (93 : Nat), (179 : Nat)), ((55 : Nat), (84 : Nat), (101 : Nat), (183 : Nat))]) ∈ lw_all := lw_g (lw_at lw_m4 57 rfl) rfl
theorem q846 : (Jvm.Cond.constantLong "LentYouths" (80 : Nat) (-9223372036854775808 : Int64)) ∈ lw_all := lw_g (lw_at lw_m4 58 rfl) rfl
theorem q847 : (Jvm.Cond.methodLink "LentYouths" (352 : Nat) ({ cls := "LentYouths", name := "oddsOf", desc := "(I[II)J" } : Jvm.MethodName)) ∈ lw_all := lw_g (lw_at lw_m4 59 rfl) rfl
theorem q848 : (Jvm.Cond.privateMethod ({ cls := "LentYouths", name := "oddsOf", desc := "(I[II)J" } : Jvm.MethodName)) ∈ lw_tbl := lw_at lw_m4 60 rfl
theorem q849 : (Jvm.Cond.instanceMethod ({ cls := "LentYouths", name := "oddsOf", desc := "(I[II)J" } : Jvm.MethodName)) ∈ lw_all := lw_g (lw_at lw_m4 61 rfl) rfl
theorem q850 : (Jvm.Cond.code ({ cls := "LentYouths", name := "oddsOf", desc := "(I[II)J" } : Jvm.MethodName) prog_1_method_55_code (7 : Nat) (Option.some Jvm.ClassFile.FieldType.long)) ∈ lw_all := lw_g (lw_at lw_m4 62 rfl) rfl
theorem q851 : (Jvm.Cond.methodLink "LentYouths" (356 : Nat) ({ cls := "LentYouths", name := "lost", desc := "(I)J" } : Jvm.MethodName)) ∈ lw_all := lw_g (lw_at lw_m4 63 rfl) rfl
theorem q852 : (Jvm.Cond.privateMethod ({ cls := "LentYouths", name := "lost", desc := "(I)J" } : Jvm.MethodName)) ∈ lw_tbl := lw_at lw_m4 64 rfl
theorem q853 : (Jvm.Cond.instanceMethod ({ cls := "LentYouths", name := "lost", desc := "(I)J" } : Jvm.MethodName)) ∈ lw_all := lw_g (lw_at lw_m4 65 rfl) rfl
theorem q854 : (Jvm.Cond.code ({ cls := "LentYouths", name := "lost", desc := "(I)J" } : Jvm.MethodName) prog_1_method_6_code (2 : Nat) (Option.some Jvm.ClassFile.FieldType.long)) ∈ lw_all := lw_g (lw_at lw_m4 66 rfl) rfl
theorem q856 : (Jvm.Cond.instanceMethod ({ cls := "LentYouths", name := "sheet", desc := "(III)I" } : Jvm.MethodName)) ∈ lw_all := lw_g (lw_at lw_m4 68 rfl) rfl
theorem q857 : (Jvm.Cond.selects "LentYouths" ({ cls := "LentYouths", name := "sheet", desc := "(III)I" } : Jvm.MethodName) ({ cls := "LentYouths", name := "sheet", desc := "(III)I" } : Jvm.MethodName)) ∈ lw_all := lw_g (lw_at lw_m4 69 rfl) rfl
theorem q858 : (Jvm.Cond.codeWith ({ cls := "LentYouths", name := "sheet", desc := "(III)I" } : Jvm.MethodName) prog_1_method_63_code (5 : Nat) (Option.some Jvm.ClassFile.FieldType.int) [((30 : Nat), (64 : Nat), (65 : Nat), (181 : Nat))]) ∈ lw_all := lw_g (lw_at lw_m4 70 rfl) rfl
theorem q861 : (Jvm.Cond.instanceMethod ({ cls := "LentYouths", name := "lose", desc := "(I)I" } : Jvm.MethodName)) ∈ lw_all := lw_g (lw_at lw_m4 73 rfl) rfl
theorem q862 : (Jvm.Cond.selects "LentYouths" ({ cls := "LentYouths", name := "lose", desc := "(I)I" } : Jvm.MethodName) ({ cls := "LentYouths", name := "lose", desc := "(I)I" } : Jvm.MethodName)) ∈ lw_all := lw_g (lw_at lw_m4 74 rfl) rfl
theorem q863 : (Jvm.Cond.code ({ cls := "LentYouths", name := "lose", desc := "(I)I" } : Jvm.MethodName) prog_1_method_64_code (3 : Nat) (Option.some Jvm.ClassFile.FieldType.int)) ∈ lw_all := lw_g (lw_at lw_m4 75 rfl) rfl
theorem q865 : (Jvm.Cond.instanceMethod ({ cls := "LentYouths", name := "put", desc := "(III)I" } : Jvm.MethodName)) ∈ lw_all := lw_g (lw_at lw_m4 77 rfl) rfl
theorem q866 : (Jvm.Cond.selects "LentYouths" ({ cls := "LentYouths", name := "put", desc := "(III)I" } : Jvm.MethodName) ({ cls := "LentYouths", name := "put", desc := "(III)I" } : Jvm.MethodName)) ∈ lw_all := lw_g (lw_at lw_m4 78 rfl) rfl
theorem q867 : (Jvm.Cond.codeWith ({ cls := "LentYouths", name := "put", desc := "(III)I" } : Jvm.MethodName) prog_1_method_65_code (7 : Nat) (Option.some Jvm.ClassFile.FieldType.int) [((14 : Nat), (100 : Nat), (101 : Nat), (179 : Nat)), ((14 : Nat), (100 : Nat), (109 : Nat), (183 : Nat))]) ∈ lw_all := lw_g (lw_at lw_m4 79 rfl) rfl
theorem q869 : (Jvm.Cond.instanceMethod ({ cls := "LentYouths", name := "cell", desc := "(III)J" } : Jvm.MethodName)) ∈ lw_all := lw_g (lw_at lw_m4 81 rfl) rfl
theorem q870 : (Jvm.Cond.selects "LentYouths" ({ cls := "LentYouths", name := "cell", desc := "(III)J" } : Jvm.MethodName) ({ cls := "LentYouths", name := "cell", desc := "(III)J" } : Jvm.MethodName)) ∈ lw_all := lw_g (lw_at lw_m4 82 rfl) rfl
theorem q871 : (Jvm.Cond.codeWith ({ cls := "LentYouths", name := "cell", desc := "(III)J" } : Jvm.MethodName) prog_1_method_66_code (5 : Nat) (Option.some Jvm.ClassFile.FieldType.long) [((23 : Nat), (41 : Nat), (42 : Nat), (173 : Nat)), ((23 : Nat), (41 : Nat), (50 : Nat), (179 : Nat)), ((23 : Nat), (41 : Nat), (58 : Nat), (183 : Nat))]) ∈ lw_all := lw_g (lw_at lw_m4 83 rfl) rfl
theorem q873 : (Jvm.Cond.instanceMethod ({ cls := "LentYouths", name := "copy", desc := "(IIIII)I" } : Jvm.MethodName)) ∈ lw_all := lw_g (lw_at lw_m4 85 rfl) rfl
theorem q874 : (Jvm.Cond.selects "LentYouths" ({ cls := "LentYouths", name := "copy", desc := "(IIIII)I" } : Jvm.MethodName) ({ cls := "LentYouths", name := "copy", desc := "(IIIII)I" } : Jvm.MethodName)) ∈ lw_all := lw_g (lw_at lw_m4 86 rfl) rfl
theorem q875 : (Jvm.Cond.codeWith ({ cls := "LentYouths", name := "copy", desc := "(IIIII)I" } : Jvm.MethodName) prog_1_method_67_code (7 : Nat) (Option.some Jvm.ClassFile.FieldType.int) [((21 : Nat), (49 : Nat), (50 : Nat), (179 : Nat)), ((21 : Nat), (49 : Nat), (58 : Nat), (370 : Nat)), ((21 : Nat), (49 : Nat), (66 : Nat), (372 : Nat))]) ∈ lw_all := lw_g (lw_at lw_m4 87 rfl) rfl
theorem q876 : (Jvm.Cond.classLink "LentYouths" (370 : Nat) "java/lang/ArrayStoreException") ∈ lw_all := lw_g (lw_at lw_m4 88 rfl) rfl
theorem q890 : (Jvm.Cond.classLink "LentYouths" (372 : Nat) "java/lang/IndexOutOfBoundsException") ∈ lw_all := lw_g (lw_at lw_m4 102 rfl) rfl
theorem q892 : (Jvm.Cond.instanceMethod ({ cls := "LentYouths", name := "tell", desc := "(I)I" } : Jvm.MethodName)) ∈ lw_all := lw_g (lw_at lw_m4 104 rfl) rfl
theorem q893 : (Jvm.Cond.selects "LentYouths" ({ cls := "LentYouths", name := "tell", desc := "(I)I" } : Jvm.MethodName) ({ cls := "LentYouths", name := "tell", desc := "(I)I" } : Jvm.MethodName)) ∈ lw_all := lw_g (lw_at lw_m4 105 rfl) rfl
theorem q894 : (Jvm.Cond.code ({ cls := "LentYouths", name := "tell", desc := "(I)I" } : Jvm.MethodName) prog_1_method_69_code (2 : Nat) (Option.some Jvm.ClassFile.FieldType.int)) ∈ lw_all := lw_g (lw_at lw_m4 106 rfl) rfl
theorem q895 : (Jvm.Cond.methodLink "LentYouths" (385 : Nat) ({ cls := "LentYouths$Childhood", name := "tell", desc := "()I" } : Jvm.MethodName)) ∈ lw_all := lw_g (lw_at lw_m4 107 rfl) rfl
theorem q903 : (Jvm.Cond.privateMethod ({ cls := "LentYouths", name := "begins", desc := "(I)V" } : Jvm.MethodName)) ∈ lw_tbl := lw_at lw_m4 115 rfl
theorem q904 : (Jvm.Cond.instanceMethod ({ cls := "LentYouths", name := "begins", desc := "(I)V" } : Jvm.MethodName)) ∈ lw_all := lw_g (lw_at lw_m4 116 rfl) rfl
theorem q905 : (Jvm.Cond.code ({ cls := "LentYouths", name := "begins", desc := "(I)V" } : Jvm.MethodName) prog_1_method_7_code (2 : Nat) (Option.none : Option Jvm.ClassFile.FieldType)) ∈ lw_all := lw_g (lw_at lw_m4 117 rfl) rfl
theorem q922 : (Jvm.Cond.instanceMethod ({ cls := "LentYouths", name := "hand", desc := "(I)I" } : Jvm.MethodName)) ∈ lw_all := lw_g (lw_at lw_m4 134 rfl) rfl
theorem q923 : (Jvm.Cond.selects "LentYouths" ({ cls := "LentYouths", name := "hand", desc := "(I)I" } : Jvm.MethodName) ({ cls := "LentYouths", name := "hand", desc := "(I)I" } : Jvm.MethodName)) ∈ lw_all := lw_g (lw_at lw_m4 135 rfl) rfl
theorem q924 : (Jvm.Cond.code ({ cls := "LentYouths", name := "hand", desc := "(I)I" } : Jvm.MethodName) prog_1_method_71_code (2 : Nat) (Option.some Jvm.ClassFile.FieldType.int)) ∈ lw_all := lw_g (lw_at lw_m4 136 rfl) rfl
theorem q925 : (Jvm.Cond.classLink "LentYouths" (389 : Nat) "LentYouths$Handed") ∈ lw_all := lw_g (lw_at lw_m4 137 rfl) rfl
theorem q926 : (Jvm.Cond.methodLink "LentYouths" (393 : Nat) ({ cls := "LentYouths", name := "handed", desc := "(LLentYouths$Handed;)I" } : Jvm.MethodName)) ∈ lw_all := lw_g (lw_at lw_m4 138 rfl) rfl
theorem q927 : (Jvm.Cond.static ({ cls := "LentYouths", name := "handed", desc := "(LLentYouths$Handed;)I" } : Jvm.MethodName)) ∈ lw_all := lw_g (lw_at lw_m4 139 rfl) rfl
theorem q928 : (Jvm.Cond.code ({ cls := "LentYouths", name := "handed", desc := "(LLentYouths$Handed;)I" } : Jvm.MethodName) prog_1_method_70_code (1 : Nat) (Option.some Jvm.ClassFile.FieldType.int)) ∈ lw_all := lw_g (lw_at lw_m4 140 rfl) rfl
theorem q929 : (Jvm.Cond.interfaceEntry "LentYouths" (388 : Nat)) ∈ lw_tbl := lw_at lw_m4 141 rfl
theorem q930 : (Jvm.Cond.methodLink "LentYouths" (388 : Nat) ({ cls := "LentYouths$Handed", name := "hand", desc := "()I" } : Jvm.MethodName)) ∈ lw_all := lw_g (lw_at lw_m4 142 rfl) rfl
theorem q960 : (Jvm.Cond.instanceMethod ({ cls := "LentYouths", name := "as", desc := "(II)I" } : Jvm.MethodName)) ∈ lw_all := lw_g (lw_at lw_m4 172 rfl) rfl
theorem q961 : (Jvm.Cond.selects "LentYouths" ({ cls := "LentYouths", name := "as", desc := "(II)I" } : Jvm.MethodName) ({ cls := "LentYouths", name := "as", desc := "(II)I" } : Jvm.MethodName)) ∈ lw_all := lw_g (lw_at lw_m4 173 rfl) rfl
theorem q962 : (Jvm.Cond.codeWith ({ cls := "LentYouths", name := "as", desc := "(II)I" } : Jvm.MethodName) prog_1_method_73_code (4 : Nat) (Option.some Jvm.ClassFile.FieldType.int) [((30 : Nat), (59 : Nat), (60 : Nat), (173 : Nat))]) ∈ lw_all := lw_g (lw_at lw_m4 174 rfl) rfl
theorem q963 : (Jvm.Cond.methodLink "LentYouths" (397 : Nat) ({ cls := "LentYouths", name := "of", desc := "(LLentYouths$Childhood;I)LLentYouths$Childhood;" } : Jvm.MethodName)) ∈ lw_all := lw_g (lw_at lw_m4 175 rfl) rfl
theorem q964 : (Jvm.Cond.static ({ cls := "LentYouths", name := "of", desc := "(LLentYouths$Childhood;I)LLentYouths$Childhood;" } : Jvm.MethodName)) ∈ lw_all := lw_g (lw_at lw_m4 176 rfl) rfl
theorem q965 : (Jvm.Cond.code ({ cls := "LentYouths", name := "of", desc := "(LLentYouths$Childhood;I)LLentYouths$Childhood;" } : Jvm.MethodName) prog_1_method_72_code (2 : Nat) (Option.some (Jvm.ClassFile.FieldType.object "LentYouths$Childhood"))) ∈ lw_all := lw_g (lw_at lw_m4 177 rfl) rfl
theorem q967 : (Jvm.Cond.instanceMethod ({ cls := "LentYouths", name := "trace", desc := "()I" } : Jvm.MethodName)) ∈ lw_all := lw_g (lw_at lw_m4 179 rfl) rfl
theorem q968 : (Jvm.Cond.selects "LentYouths" ({ cls := "LentYouths", name := "trace", desc := "()I" } : Jvm.MethodName) ({ cls := "LentYouths", name := "trace", desc := "()I" } : Jvm.MethodName)) ∈ lw_all := lw_g (lw_at lw_m4 180 rfl) rfl
theorem q969 : (Jvm.Cond.code ({ cls := "LentYouths", name := "trace", desc := "()I" } : Jvm.MethodName) prog_1_method_74_code (1 : Nat) (Option.some Jvm.ClassFile.FieldType.int)) ∈ lw_all := lw_g (lw_at lw_m4 181 rfl) rfl
theorem q971 : (Jvm.Cond.instanceMethod ({ cls := "LentYouths", name := "fault", desc := "()I" } : Jvm.MethodName)) ∈ lw_all := lw_g (lw_at lw_m4 183 rfl) rfl
theorem q972 : (Jvm.Cond.selects "LentYouths" ({ cls := "LentYouths", name := "fault", desc := "()I" } : Jvm.MethodName) ({ cls := "LentYouths", name := "fault", desc := "()I" } : Jvm.MethodName)) ∈ lw_all := lw_g (lw_at lw_m4 184 rfl) rfl
theorem q973 : (Jvm.Cond.code ({ cls := "LentYouths", name := "fault", desc := "()I" } : Jvm.MethodName) prog_1_method_75_code (1 : Nat) (Option.some Jvm.ClassFile.FieldType.int)) ∈ lw_all := lw_g (lw_at lw_m4 185 rfl) rfl
theorem q975 : (Jvm.Cond.instanceMethod ({ cls := "LentYouths", name := "many", desc := "(I)I" } : Jvm.MethodName)) ∈ lw_all := lw_g (lw_at lw_m4 187 rfl) rfl
theorem q976 : (Jvm.Cond.selects "LentYouths" ({ cls := "LentYouths", name := "many", desc := "(I)I" } : Jvm.MethodName) ({ cls := "LentYouths", name := "many", desc := "(I)I" } : Jvm.MethodName)) ∈ lw_all := lw_g (lw_at lw_m4 188 rfl) rfl
theorem q977 : (Jvm.Cond.code ({ cls := "LentYouths", name := "many", desc := "(I)I" } : Jvm.MethodName) prog_1_method_76_code (2 : Nat) (Option.some Jvm.ClassFile.FieldType.int)) ∈ lw_all := lw_g (lw_at lw_m4 189 rfl) rfl
theorem q1323 : (Jvm.Cond.castable "LentYouths" "java/lang/Object") ∈ lw_tbl := lw_at lw_m6 55 rfl
theorem in_X0 : ∀ w ∈ wsX00, w ∈ lw_all := lw_in wsX00 [175, 177, 179, 181, 183, 185, 187, 189, 191, 193, 195, 197, 199, 201, 203, 205, 207, 209, 211, 213, 215, 217, 219, 221, 223, 225] (by decide +kernel) (by decide +kernel)
