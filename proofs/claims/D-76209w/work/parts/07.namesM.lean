/-! LineCallsModel -/
set_option maxRecDepth 100000
def RX13 : String := "LineCallsModel"
def TX13 : u_T := fun k => match k with
  | 0 => ("LineCallsModel", "now", "[I", true)
  | 1 => ("LineCallsModel", "kept", "[I", true)
  | 2 => ("LineCallsModel", "aside", "[I", true)
  | 3 => ("LineCallsModel", "isKept", "Z", false)
  | 4 => ("LineCallsModel", "found", "[I", true)
  | 5 => ("LineCallsModel", "tallMany", "I", false)
  | 6 => ("LineCallsModel", "tallLeast", "I", false)
  | 7 => ("LineCallsModel", "tape", "[I", true)
  | 8 => ("LineCallsModel", "taped", "I", false)
  | 9 => ("LineCallsModel", "begins", "I", false)
  | 10 => ("LineCallsModel", "ends", "I", false)
  | 11 => ("LineCallsModel", "sort", "I", false)
  | 12 => ("LineCallsModel", "value", "I", false)
  | 13 => ("LineCallsModel", "isWrong", "Z", false)
  | 14 => ("LineCallsModel", "kindNames", "[Ljava/lang/String;", true)
  | 15 => ("LineCallsModel", "itemWhat", "[I", true)
  | 16 => ("LineCallsModel", "itemA", "[I", true)
  | 17 => ("LineCallsModel", "itemB", "[I", true)
  | 18 => ("LineCallsModel", "itemMany", "I", false)
  | 19 => ("LineCallsModel", "jumpersThen", "I", false)
  | 20 => ("LineCallsModel", "takenThen", "I", false)
  | 21 => ("LineCallsModel", "widths", "[I", true)
  | 22 => ("LineCallsModel", "sizes", "[I", true)
  | 23 => ("LineCallsModel", "numbers", "[I", true)
  | _ => ("LineCallsModel", "moved", "[I", true)
def tyX13 : Nat → FieldType := fun k => match k with
  | 0 => .array .int
  | 1 => .array .int
  | 2 => .array .int
  | 3 => .boolean
  | 4 => .array .int
  | 5 => .int
  | 6 => .int
  | 7 => .array .int
  | 8 => .int
  | 9 => .int
  | 10 => .int
  | 11 => .int
  | 12 => .int
  | 13 => .boolean
  | 14 => .array (.object "java/lang/String")
  | 15 => .array .int
  | 16 => .array .int
  | 17 => .array .int
  | 18 => .int
  | 19 => .int
  | 20 => .int
  | 21 => .array .int
  | 22 => .array .int
  | 23 => .array .int
  | _ => .array .int
abbrev wsX130 : List Cond := u_ws RX13 TX13 25
set_option maxRecDepth 100000 in
theorem nmX13 : ∀ a, a < 25 → ∀ b, b < 25 → a ≠ b → (TX13 a).2.1 ≠ (TX13 b).2.1 := by decide +kernel
set_option maxRecDepth 100000 in
theorem tyX13_ok : ∀ k, k < 25 → parseFieldDescriptor (TX13 k).2.2.1 = some (tyX13 k) := by decide +kernel
abbrev cX13_init : ByteArray := prog_16_method_1_code
def yX13_init : MethodName := ⟨RX13, "<init>", "()V"⟩
def dkwX13_init_10 : List UInt8 := [177]
abbrev dktX13_init_10 : List UInt8 := dkwX13_init_10 ++ []
def dkwX13_init_9 : List UInt8 := [16, 6, 162, 0, 22, 42, 180, 0, 9, 16, 38, 27, 96, 16, 11, 27, 104, 79, 132, 1, 1, 167, 255, 234]
abbrev dktX13_init_9 : List UInt8 := dkwX13_init_9 ++ dktX13_init_10
def dkwX13_init_8 : List UInt8 := [27, 96, 2, 79, 42, 180, 0, 9, 16, 24, 27, 96, 16, 40, 79, 132, 1, 1, 167, 255, 226, 3, 60, 27]
abbrev dktX13_init_8 : List UInt8 := dkwX13_init_8 ++ dktX13_init_9
def dkwX13_init_7 : List UInt8 := [27, 96, 2, 79, 132, 1, 1, 167, 255, 237, 3, 60, 27, 16, 7, 162, 0, 30, 42, 180, 0, 9, 16, 17]
abbrev dktX13_init_7 : List UInt8 := dkwX13_init_7 ++ dktX13_init_8
def dkwX13_init_6 : List UInt8 := [181, 0, 63, 42, 180, 0, 9, 5, 4, 79, 3, 60, 27, 16, 10, 162, 0, 19, 42, 180, 0, 9, 16, 7]
abbrev dktX13_init_6 : List UInt8 := dkwX13_init_6 ++ dktX13_init_7
def dkwX13_init_5 : List UInt8 := [181, 0, 54, 42, 7, 188, 10, 181, 0, 57, 42, 17, 0, 160, 188, 10, 181, 0, 60, 42, 16, 40, 188, 10]
abbrev dktX13_init_5 : List UInt8 := dkwX13_init_5 ++ dktX13_init_6
def dkwX13_init_4 : List UInt8 := [181, 0, 45, 42, 16, 120, 188, 10, 181, 0, 48, 42, 16, 120, 188, 10, 181, 0, 51, 42, 7, 188, 10]
abbrev dktX13_init_4 : List UInt8 := dkwX13_init_4 ++ dktX13_init_5
def dkwX13_init_3 : List UInt8 := [7, 18, 35, 83, 89, 8, 18, 37, 83, 89, 16, 6, 18, 39, 83, 181, 0, 41, 42, 16, 120, 188, 10]
abbrev dktX13_init_3 : List UInt8 := dkwX13_init_3 ++ dktX13_init_4
def dkwX13_init_2 : List UInt8 := [189, 0, 25, 89, 3, 18, 27, 83, 89, 4, 18, 29, 83, 89, 5, 18, 31, 83, 89, 6, 18, 33, 83, 89]
abbrev dktX13_init_2 : List UInt8 := dkwX13_init_2 ++ dktX13_init_3
def dkwX13_init_1 : List UInt8 := [188, 10, 181, 0, 16, 42, 16, 8, 188, 10, 181, 0, 19, 42, 16, 120, 188, 10, 181, 0, 22, 42, 16, 7]
abbrev dktX13_init_1 : List UInt8 := dkwX13_init_1 ++ dktX13_init_2
def dkwX13_init_0 : List UInt8 := [42, 183, 0, 1, 42, 16, 84, 188, 10, 181, 0, 9, 42, 16, 84, 188, 10, 181, 0, 13, 42, 16, 84]
abbrev dktX13_init_0 : List UInt8 := dkwX13_init_0 ++ dktX13_init_1
theorem dksX13_init_0 : cX13_init.data.toList.drop 0 = dktX13_init_0 := by decide +kernel
theorem dksX13_init_1 : cX13_init.data.toList.drop 23 = dktX13_init_1 := dk_seg dksX13_init_0 23 rfl rfl
theorem dksX13_init_2 : cX13_init.data.toList.drop 47 = dktX13_init_2 := dk_seg dksX13_init_1 24 rfl rfl
theorem dksX13_init_3 : cX13_init.data.toList.drop 71 = dktX13_init_3 := dk_seg dksX13_init_2 24 rfl rfl
theorem dksX13_init_4 : cX13_init.data.toList.drop 94 = dktX13_init_4 := dk_seg dksX13_init_3 23 rfl rfl
theorem dksX13_init_5 : cX13_init.data.toList.drop 117 = dktX13_init_5 := dk_seg dksX13_init_4 23 rfl rfl
theorem dksX13_init_6 : cX13_init.data.toList.drop 141 = dktX13_init_6 := dk_seg dksX13_init_5 24 rfl rfl
theorem dksX13_init_7 : cX13_init.data.toList.drop 165 = dktX13_init_7 := dk_seg dksX13_init_6 24 rfl rfl
theorem dksX13_init_8 : cX13_init.data.toList.drop 189 = dktX13_init_8 := dk_seg dksX13_init_7 24 rfl rfl
theorem dksX13_init_9 : cX13_init.data.toList.drop 213 = dktX13_init_9 := dk_seg dksX13_init_8 24 rfl rfl
theorem dksX13_init_10 : cX13_init.data.toList.drop 237 = dktX13_init_10 := dk_seg dksX13_init_9 24 rfl rfl
theorem dX13_init_0 : decode cX13_init 0 = .ok (.aload_n 0, 1) := dk_42 (dk_at dksX13_init_0 0 rfl rfl)
theorem dX13_init_1 : decode cX13_init 1 = .ok (.invokespecial 1, 3) := dk_183 0 1 (dk_at dksX13_init_0 1 rfl rfl)
theorem dX13_init_4 : decode cX13_init 4 = .ok (.aload_n 0, 1) := dk_42 (dk_at dksX13_init_0 4 rfl rfl)
theorem dX13_init_5 : decode cX13_init 5 = .ok (.bipush 84, 2) := dk_16 84 (dk_at dksX13_init_0 5 rfl rfl)
theorem dX13_init_7 : decode cX13_init 7 = .ok (.newarray .int, 2) := dk_188_10 (dk_at dksX13_init_0 7 rfl rfl)
theorem dX13_init_9 : decode cX13_init 9 = .ok (.putfield 9, 3) := dk_181 0 9 (dk_at dksX13_init_0 9 rfl rfl)
theorem dX13_init_12 : decode cX13_init 12 = .ok (.aload_n 0, 1) := dk_42 (dk_at dksX13_init_0 12 rfl rfl)
theorem dX13_init_13 : decode cX13_init 13 = .ok (.bipush 84, 2) := dk_16 84 (dk_at dksX13_init_0 13 rfl rfl)
theorem dX13_init_15 : decode cX13_init 15 = .ok (.newarray .int, 2) := dk_188_10 (dk_at dksX13_init_0 15 rfl rfl)
theorem dX13_init_17 : decode cX13_init 17 = .ok (.putfield 13, 3) := dk_181 0 13 (dk_at dksX13_init_0 17 rfl rfl)
theorem dX13_init_20 : decode cX13_init 20 = .ok (.aload_n 0, 1) := dk_42 (dk_at dksX13_init_0 20 rfl rfl)
theorem dX13_init_21 : decode cX13_init 21 = .ok (.bipush 84, 2) := dk_16 84 (dk_at dksX13_init_0 21 rfl rfl)
theorem dX13_init_23 : decode cX13_init 23 = .ok (.newarray .int, 2) := dk_188_10 (dk_at dksX13_init_1 0 rfl rfl)
theorem dX13_init_25 : decode cX13_init 25 = .ok (.putfield 16, 3) := dk_181 0 16 (dk_at dksX13_init_1 2 rfl rfl)
theorem dX13_init_28 : decode cX13_init 28 = .ok (.aload_n 0, 1) := dk_42 (dk_at dksX13_init_1 5 rfl rfl)
theorem dX13_init_29 : decode cX13_init 29 = .ok (.bipush 8, 2) := dk_16 8 (dk_at dksX13_init_1 6 rfl rfl)
theorem dX13_init_31 : decode cX13_init 31 = .ok (.newarray .int, 2) := dk_188_10 (dk_at dksX13_init_1 8 rfl rfl)
theorem dX13_init_33 : decode cX13_init 33 = .ok (.putfield 19, 3) := dk_181 0 19 (dk_at dksX13_init_1 10 rfl rfl)
theorem dX13_init_36 : decode cX13_init 36 = .ok (.aload_n 0, 1) := dk_42 (dk_at dksX13_init_1 13 rfl rfl)
theorem dX13_init_37 : decode cX13_init 37 = .ok (.bipush 120, 2) := dk_16 120 (dk_at dksX13_init_1 14 rfl rfl)
theorem dX13_init_39 : decode cX13_init 39 = .ok (.newarray .int, 2) := dk_188_10 (dk_at dksX13_init_1 16 rfl rfl)
theorem dX13_init_41 : decode cX13_init 41 = .ok (.putfield 22, 3) := dk_181 0 22 (dk_at dksX13_init_1 18 rfl rfl)
theorem dX13_init_44 : decode cX13_init 44 = .ok (.aload_n 0, 1) := dk_42 (dk_at dksX13_init_1 21 rfl rfl)
theorem dX13_init_45 : decode cX13_init 45 = .ok (.bipush 7, 2) := dk_16 7 (dk_at dksX13_init_1 22 rfl rfl)
theorem dX13_init_47 : decode cX13_init 47 = .ok (.anewarray 25, 3) := dk_189 0 25 (dk_at dksX13_init_2 0 rfl rfl)
theorem dX13_init_50 : decode cX13_init 50 = .ok (.dup, 1) := dk_89 (dk_at dksX13_init_2 3 rfl rfl)
theorem dX13_init_51 : decode cX13_init 51 = .ok (.iconst 0, 1) := dk_3 (dk_at dksX13_init_2 4 rfl rfl)
theorem dX13_init_52 : decode cX13_init 52 = .ok (.ldc 27, 2) := dk_18 27 (dk_at dksX13_init_2 5 rfl rfl)
theorem dX13_init_54 : decode cX13_init 54 = .ok (.aastore, 1) := dk_83 (dk_at dksX13_init_2 7 rfl rfl)
theorem dX13_init_55 : decode cX13_init 55 = .ok (.dup, 1) := dk_89 (dk_at dksX13_init_2 8 rfl rfl)
theorem dX13_init_56 : decode cX13_init 56 = .ok (.iconst 1, 1) := dk_4 (dk_at dksX13_init_2 9 rfl rfl)
theorem dX13_init_57 : decode cX13_init 57 = .ok (.ldc 29, 2) := dk_18 29 (dk_at dksX13_init_2 10 rfl rfl)
theorem dX13_init_59 : decode cX13_init 59 = .ok (.aastore, 1) := dk_83 (dk_at dksX13_init_2 12 rfl rfl)
theorem dX13_init_60 : decode cX13_init 60 = .ok (.dup, 1) := dk_89 (dk_at dksX13_init_2 13 rfl rfl)
theorem dX13_init_61 : decode cX13_init 61 = .ok (.iconst 2, 1) := dk_5 (dk_at dksX13_init_2 14 rfl rfl)
theorem dX13_init_62 : decode cX13_init 62 = .ok (.ldc 31, 2) := dk_18 31 (dk_at dksX13_init_2 15 rfl rfl)
theorem dX13_init_64 : decode cX13_init 64 = .ok (.aastore, 1) := dk_83 (dk_at dksX13_init_2 17 rfl rfl)
theorem dX13_init_65 : decode cX13_init 65 = .ok (.dup, 1) := dk_89 (dk_at dksX13_init_2 18 rfl rfl)
theorem dX13_init_66 : decode cX13_init 66 = .ok (.iconst 3, 1) := dk_6 (dk_at dksX13_init_2 19 rfl rfl)
theorem dX13_init_67 : decode cX13_init 67 = .ok (.ldc 33, 2) := dk_18 33 (dk_at dksX13_init_2 20 rfl rfl)
theorem dX13_init_69 : decode cX13_init 69 = .ok (.aastore, 1) := dk_83 (dk_at dksX13_init_2 22 rfl rfl)
theorem dX13_init_70 : decode cX13_init 70 = .ok (.dup, 1) := dk_89 (dk_at dksX13_init_2 23 rfl rfl)
theorem dX13_init_71 : decode cX13_init 71 = .ok (.iconst 4, 1) := dk_7 (dk_at dksX13_init_3 0 rfl rfl)
theorem dX13_init_72 : decode cX13_init 72 = .ok (.ldc 35, 2) := dk_18 35 (dk_at dksX13_init_3 1 rfl rfl)
theorem dX13_init_74 : decode cX13_init 74 = .ok (.aastore, 1) := dk_83 (dk_at dksX13_init_3 3 rfl rfl)
theorem dX13_init_75 : decode cX13_init 75 = .ok (.dup, 1) := dk_89 (dk_at dksX13_init_3 4 rfl rfl)
theorem dX13_init_76 : decode cX13_init 76 = .ok (.iconst 5, 1) := dk_8 (dk_at dksX13_init_3 5 rfl rfl)
theorem dX13_init_77 : decode cX13_init 77 = .ok (.ldc 37, 2) := dk_18 37 (dk_at dksX13_init_3 6 rfl rfl)
theorem dX13_init_79 : decode cX13_init 79 = .ok (.aastore, 1) := dk_83 (dk_at dksX13_init_3 8 rfl rfl)
theorem dX13_init_80 : decode cX13_init 80 = .ok (.dup, 1) := dk_89 (dk_at dksX13_init_3 9 rfl rfl)
theorem dX13_init_81 : decode cX13_init 81 = .ok (.bipush 6, 2) := dk_16 6 (dk_at dksX13_init_3 10 rfl rfl)
theorem dX13_init_83 : decode cX13_init 83 = .ok (.ldc 39, 2) := dk_18 39 (dk_at dksX13_init_3 12 rfl rfl)
theorem dX13_init_85 : decode cX13_init 85 = .ok (.aastore, 1) := dk_83 (dk_at dksX13_init_3 14 rfl rfl)
theorem dX13_init_86 : decode cX13_init 86 = .ok (.putfield 41, 3) := dk_181 0 41 (dk_at dksX13_init_3 15 rfl rfl)
theorem dX13_init_89 : decode cX13_init 89 = .ok (.aload_n 0, 1) := dk_42 (dk_at dksX13_init_3 18 rfl rfl)
theorem dX13_init_90 : decode cX13_init 90 = .ok (.bipush 120, 2) := dk_16 120 (dk_at dksX13_init_3 19 rfl rfl)
theorem dX13_init_92 : decode cX13_init 92 = .ok (.newarray .int, 2) := dk_188_10 (dk_at dksX13_init_3 21 rfl rfl)
theorem dX13_init_94 : decode cX13_init 94 = .ok (.putfield 45, 3) := dk_181 0 45 (dk_at dksX13_init_4 0 rfl rfl)
theorem dX13_init_97 : decode cX13_init 97 = .ok (.aload_n 0, 1) := dk_42 (dk_at dksX13_init_4 3 rfl rfl)
theorem dX13_init_98 : decode cX13_init 98 = .ok (.bipush 120, 2) := dk_16 120 (dk_at dksX13_init_4 4 rfl rfl)
theorem dX13_init_100 : decode cX13_init 100 = .ok (.newarray .int, 2) := dk_188_10 (dk_at dksX13_init_4 6 rfl rfl)
theorem dX13_init_102 : decode cX13_init 102 = .ok (.putfield 48, 3) := dk_181 0 48 (dk_at dksX13_init_4 8 rfl rfl)
theorem dX13_init_105 : decode cX13_init 105 = .ok (.aload_n 0, 1) := dk_42 (dk_at dksX13_init_4 11 rfl rfl)
theorem dX13_init_106 : decode cX13_init 106 = .ok (.bipush 120, 2) := dk_16 120 (dk_at dksX13_init_4 12 rfl rfl)
theorem dX13_init_108 : decode cX13_init 108 = .ok (.newarray .int, 2) := dk_188_10 (dk_at dksX13_init_4 14 rfl rfl)
theorem dX13_init_110 : decode cX13_init 110 = .ok (.putfield 51, 3) := dk_181 0 51 (dk_at dksX13_init_4 16 rfl rfl)
theorem dX13_init_113 : decode cX13_init 113 = .ok (.aload_n 0, 1) := dk_42 (dk_at dksX13_init_4 19 rfl rfl)
theorem dX13_init_114 : decode cX13_init 114 = .ok (.iconst 4, 1) := dk_7 (dk_at dksX13_init_4 20 rfl rfl)
theorem dX13_init_115 : decode cX13_init 115 = .ok (.newarray .int, 2) := dk_188_10 (dk_at dksX13_init_4 21 rfl rfl)
theorem dX13_init_117 : decode cX13_init 117 = .ok (.putfield 54, 3) := dk_181 0 54 (dk_at dksX13_init_5 0 rfl rfl)
theorem dX13_init_120 : decode cX13_init 120 = .ok (.aload_n 0, 1) := dk_42 (dk_at dksX13_init_5 3 rfl rfl)
theorem dX13_init_121 : decode cX13_init 121 = .ok (.iconst 4, 1) := dk_7 (dk_at dksX13_init_5 4 rfl rfl)
theorem dX13_init_122 : decode cX13_init 122 = .ok (.newarray .int, 2) := dk_188_10 (dk_at dksX13_init_5 5 rfl rfl)
theorem dX13_init_124 : decode cX13_init 124 = .ok (.putfield 57, 3) := dk_181 0 57 (dk_at dksX13_init_5 7 rfl rfl)
theorem dX13_init_127 : decode cX13_init 127 = .ok (.aload_n 0, 1) := dk_42 (dk_at dksX13_init_5 10 rfl rfl)
theorem dX13_init_128 : decode cX13_init 128 = .ok (.sipush 160, 3) := dk_17 0 160 (dk_at dksX13_init_5 11 rfl rfl)
theorem dX13_init_131 : decode cX13_init 131 = .ok (.newarray .int, 2) := dk_188_10 (dk_at dksX13_init_5 14 rfl rfl)
theorem dX13_init_133 : decode cX13_init 133 = .ok (.putfield 60, 3) := dk_181 0 60 (dk_at dksX13_init_5 16 rfl rfl)
theorem dX13_init_136 : decode cX13_init 136 = .ok (.aload_n 0, 1) := dk_42 (dk_at dksX13_init_5 19 rfl rfl)
theorem dX13_init_137 : decode cX13_init 137 = .ok (.bipush 40, 2) := dk_16 40 (dk_at dksX13_init_5 20 rfl rfl)
theorem dX13_init_139 : decode cX13_init 139 = .ok (.newarray .int, 2) := dk_188_10 (dk_at dksX13_init_5 22 rfl rfl)
theorem dX13_init_141 : decode cX13_init 141 = .ok (.putfield 63, 3) := dk_181 0 63 (dk_at dksX13_init_6 0 rfl rfl)
theorem dX13_init_144 : decode cX13_init 144 = .ok (.aload_n 0, 1) := dk_42 (dk_at dksX13_init_6 3 rfl rfl)
theorem dX13_init_145 : decode cX13_init 145 = .ok (.getfield 9, 3) := dk_180 0 9 (dk_at dksX13_init_6 4 rfl rfl)
theorem dX13_init_148 : decode cX13_init 148 = .ok (.iconst 2, 1) := dk_5 (dk_at dksX13_init_6 7 rfl rfl)
theorem dX13_init_149 : decode cX13_init 149 = .ok (.iconst 1, 1) := dk_4 (dk_at dksX13_init_6 8 rfl rfl)
theorem dX13_init_150 : decode cX13_init 150 = .ok (.iastore, 1) := dk_79 (dk_at dksX13_init_6 9 rfl rfl)
theorem dX13_init_151 : decode cX13_init 151 = .ok (.iconst 0, 1) := dk_3 (dk_at dksX13_init_6 10 rfl rfl)
theorem dX13_init_152 : decode cX13_init 152 = .ok (.istore_n 1, 1) := dk_60 (dk_at dksX13_init_6 11 rfl rfl)
theorem dX13_init_153 : decode cX13_init 153 = .ok (.iload_n 1, 1) := dk_27 (dk_at dksX13_init_6 12 rfl rfl)
theorem dX13_init_154 : decode cX13_init 154 = .ok (.bipush 10, 2) := dk_16 10 (dk_at dksX13_init_6 13 rfl rfl)
theorem dX13_init_156 : decode cX13_init 156 = .ok (.if_icmp .ge 19, 3) := dk_162 0 19 (dk_at dksX13_init_6 15 rfl rfl)
theorem dX13_init_159 : decode cX13_init 159 = .ok (.aload_n 0, 1) := dk_42 (dk_at dksX13_init_6 18 rfl rfl)
theorem dX13_init_160 : decode cX13_init 160 = .ok (.getfield 9, 3) := dk_180 0 9 (dk_at dksX13_init_6 19 rfl rfl)
theorem dX13_init_163 : decode cX13_init 163 = .ok (.bipush 7, 2) := dk_16 7 (dk_at dksX13_init_6 22 rfl rfl)
theorem dX13_init_165 : decode cX13_init 165 = .ok (.iload_n 1, 1) := dk_27 (dk_at dksX13_init_7 0 rfl rfl)
theorem dX13_init_166 : decode cX13_init 166 = .ok (.iadd, 1) := dk_96 (dk_at dksX13_init_7 1 rfl rfl)
theorem dX13_init_167 : decode cX13_init 167 = .ok (.iconst (-1), 1) := dk_2 (dk_at dksX13_init_7 2 rfl rfl)
theorem dX13_init_168 : decode cX13_init 168 = .ok (.iastore, 1) := dk_79 (dk_at dksX13_init_7 3 rfl rfl)
theorem dX13_init_169 : decode cX13_init 169 = .ok (.iinc 1 1, 3) := dk_132 1 1 (dk_at dksX13_init_7 4 rfl rfl)
theorem dX13_init_172 : decode cX13_init 172 = .ok (.goto (-19), 3) := dk_167 255 237 (dk_at dksX13_init_7 7 rfl rfl)
theorem dX13_init_175 : decode cX13_init 175 = .ok (.iconst 0, 1) := dk_3 (dk_at dksX13_init_7 10 rfl rfl)
theorem dX13_init_176 : decode cX13_init 176 = .ok (.istore_n 1, 1) := dk_60 (dk_at dksX13_init_7 11 rfl rfl)
theorem dX13_init_177 : decode cX13_init 177 = .ok (.iload_n 1, 1) := dk_27 (dk_at dksX13_init_7 12 rfl rfl)
theorem dX13_init_178 : decode cX13_init 178 = .ok (.bipush 7, 2) := dk_16 7 (dk_at dksX13_init_7 13 rfl rfl)
theorem dX13_init_180 : decode cX13_init 180 = .ok (.if_icmp .ge 30, 3) := dk_162 0 30 (dk_at dksX13_init_7 15 rfl rfl)
theorem dX13_init_183 : decode cX13_init 183 = .ok (.aload_n 0, 1) := dk_42 (dk_at dksX13_init_7 18 rfl rfl)
theorem dX13_init_184 : decode cX13_init 184 = .ok (.getfield 9, 3) := dk_180 0 9 (dk_at dksX13_init_7 19 rfl rfl)
theorem dX13_init_187 : decode cX13_init 187 = .ok (.bipush 17, 2) := dk_16 17 (dk_at dksX13_init_7 22 rfl rfl)
theorem dX13_init_189 : decode cX13_init 189 = .ok (.iload_n 1, 1) := dk_27 (dk_at dksX13_init_8 0 rfl rfl)
theorem dX13_init_190 : decode cX13_init 190 = .ok (.iadd, 1) := dk_96 (dk_at dksX13_init_8 1 rfl rfl)
theorem dX13_init_191 : decode cX13_init 191 = .ok (.iconst (-1), 1) := dk_2 (dk_at dksX13_init_8 2 rfl rfl)
theorem dX13_init_192 : decode cX13_init 192 = .ok (.iastore, 1) := dk_79 (dk_at dksX13_init_8 3 rfl rfl)
theorem dX13_init_193 : decode cX13_init 193 = .ok (.aload_n 0, 1) := dk_42 (dk_at dksX13_init_8 4 rfl rfl)
theorem dX13_init_194 : decode cX13_init 194 = .ok (.getfield 9, 3) := dk_180 0 9 (dk_at dksX13_init_8 5 rfl rfl)
theorem dX13_init_197 : decode cX13_init 197 = .ok (.bipush 24, 2) := dk_16 24 (dk_at dksX13_init_8 8 rfl rfl)
theorem dX13_init_199 : decode cX13_init 199 = .ok (.iload_n 1, 1) := dk_27 (dk_at dksX13_init_8 10 rfl rfl)
theorem dX13_init_200 : decode cX13_init 200 = .ok (.iadd, 1) := dk_96 (dk_at dksX13_init_8 11 rfl rfl)
theorem dX13_init_201 : decode cX13_init 201 = .ok (.bipush 40, 2) := dk_16 40 (dk_at dksX13_init_8 12 rfl rfl)
theorem dX13_init_203 : decode cX13_init 203 = .ok (.iastore, 1) := dk_79 (dk_at dksX13_init_8 14 rfl rfl)
theorem dX13_init_204 : decode cX13_init 204 = .ok (.iinc 1 1, 3) := dk_132 1 1 (dk_at dksX13_init_8 15 rfl rfl)
theorem dX13_init_207 : decode cX13_init 207 = .ok (.goto (-30), 3) := dk_167 255 226 (dk_at dksX13_init_8 18 rfl rfl)
theorem dX13_init_210 : decode cX13_init 210 = .ok (.iconst 0, 1) := dk_3 (dk_at dksX13_init_8 21 rfl rfl)
theorem dX13_init_211 : decode cX13_init 211 = .ok (.istore_n 1, 1) := dk_60 (dk_at dksX13_init_8 22 rfl rfl)
theorem dX13_init_212 : decode cX13_init 212 = .ok (.iload_n 1, 1) := dk_27 (dk_at dksX13_init_8 23 rfl rfl)
theorem dX13_init_213 : decode cX13_init 213 = .ok (.bipush 6, 2) := dk_16 6 (dk_at dksX13_init_9 0 rfl rfl)
theorem dX13_init_215 : decode cX13_init 215 = .ok (.if_icmp .ge 22, 3) := dk_162 0 22 (dk_at dksX13_init_9 2 rfl rfl)
theorem dX13_init_218 : decode cX13_init 218 = .ok (.aload_n 0, 1) := dk_42 (dk_at dksX13_init_9 5 rfl rfl)
theorem dX13_init_219 : decode cX13_init 219 = .ok (.getfield 9, 3) := dk_180 0 9 (dk_at dksX13_init_9 6 rfl rfl)
theorem dX13_init_222 : decode cX13_init 222 = .ok (.bipush 38, 2) := dk_16 38 (dk_at dksX13_init_9 9 rfl rfl)
theorem dX13_init_224 : decode cX13_init 224 = .ok (.iload_n 1, 1) := dk_27 (dk_at dksX13_init_9 11 rfl rfl)
theorem dX13_init_225 : decode cX13_init 225 = .ok (.iadd, 1) := dk_96 (dk_at dksX13_init_9 12 rfl rfl)
theorem dX13_init_226 : decode cX13_init 226 = .ok (.bipush 11, 2) := dk_16 11 (dk_at dksX13_init_9 13 rfl rfl)
theorem dX13_init_228 : decode cX13_init 228 = .ok (.iload_n 1, 1) := dk_27 (dk_at dksX13_init_9 15 rfl rfl)
theorem dX13_init_229 : decode cX13_init 229 = .ok (.imul, 1) := dk_104 (dk_at dksX13_init_9 16 rfl rfl)
theorem dX13_init_230 : decode cX13_init 230 = .ok (.iastore, 1) := dk_79 (dk_at dksX13_init_9 17 rfl rfl)
theorem dX13_init_231 : decode cX13_init 231 = .ok (.iinc 1 1, 3) := dk_132 1 1 (dk_at dksX13_init_9 18 rfl rfl)
theorem dX13_init_234 : decode cX13_init 234 = .ok (.goto (-22), 3) := dk_167 255 234 (dk_at dksX13_init_9 21 rfl rfl)
theorem dX13_init_237 : decode cX13_init 237 = .ok (.return_, 1) := dk_177 (dk_at dksX13_init_10 0 rfl rfl)
abbrev cX13_stand : ByteArray := prog_16_method_14_code
def yX13_stand : MethodName := ⟨RX13, "stand", "(II)I"⟩
def dkwX13_stand_1 : List UInt8 := [182, 0, 90, 167, 0, 9, 42, 18, 66, 182, 0, 72, 172]
abbrev dktX13_stand_1 : List UInt8 := dkwX13_stand_1 ++ []
def dkwX13_stand_0 : List UInt8 := [27, 184, 0, 83, 153, 0, 25, 28, 2, 159, 0, 11, 42, 28, 182, 0, 87, 153, 0, 12, 42, 27, 28]
abbrev dktX13_stand_0 : List UInt8 := dkwX13_stand_0 ++ dktX13_stand_1
theorem dksX13_stand_0 : cX13_stand.data.toList.drop 0 = dktX13_stand_0 := by decide +kernel
theorem dksX13_stand_1 : cX13_stand.data.toList.drop 23 = dktX13_stand_1 := dk_seg dksX13_stand_0 23 rfl rfl
theorem dX13_stand_0 : decode cX13_stand 0 = .ok (.iload_n 1, 1) := dk_27 (dk_at dksX13_stand_0 0 rfl rfl)
theorem dX13_stand_1 : decode cX13_stand 1 = .ok (.invokestatic 83, 3) := dk_184 0 83 (dk_at dksX13_stand_0 1 rfl rfl)
theorem dX13_stand_4 : decode cX13_stand 4 = .ok (.ifCond .eq 25, 3) := dk_153 0 25 (dk_at dksX13_stand_0 4 rfl rfl)
theorem dX13_stand_7 : decode cX13_stand 7 = .ok (.iload_n 2, 1) := dk_28 (dk_at dksX13_stand_0 7 rfl rfl)
theorem dX13_stand_8 : decode cX13_stand 8 = .ok (.iconst (-1), 1) := dk_2 (dk_at dksX13_stand_0 8 rfl rfl)
theorem dX13_stand_9 : decode cX13_stand 9 = .ok (.if_icmp .eq 11, 3) := dk_159 0 11 (dk_at dksX13_stand_0 9 rfl rfl)
theorem dX13_stand_12 : decode cX13_stand 12 = .ok (.aload_n 0, 1) := dk_42 (dk_at dksX13_stand_0 12 rfl rfl)
theorem dX13_stand_13 : decode cX13_stand 13 = .ok (.iload_n 2, 1) := dk_28 (dk_at dksX13_stand_0 13 rfl rfl)
theorem dX13_stand_14 : decode cX13_stand 14 = .ok (.invokevirtual 87, 3) := dk_182 0 87 (dk_at dksX13_stand_0 14 rfl rfl)
theorem dX13_stand_17 : decode cX13_stand 17 = .ok (.ifCond .eq 12, 3) := dk_153 0 12 (dk_at dksX13_stand_0 17 rfl rfl)
theorem dX13_stand_20 : decode cX13_stand 20 = .ok (.aload_n 0, 1) := dk_42 (dk_at dksX13_stand_0 20 rfl rfl)
theorem dX13_stand_21 : decode cX13_stand 21 = .ok (.iload_n 1, 1) := dk_27 (dk_at dksX13_stand_0 21 rfl rfl)
theorem dX13_stand_22 : decode cX13_stand 22 = .ok (.iload_n 2, 1) := dk_28 (dk_at dksX13_stand_0 22 rfl rfl)
theorem dX13_stand_23 : decode cX13_stand 23 = .ok (.invokevirtual 90, 3) := dk_182 0 90 (dk_at dksX13_stand_1 0 rfl rfl)
theorem dX13_stand_26 : decode cX13_stand 26 = .ok (.goto 9, 3) := dk_167 0 9 (dk_at dksX13_stand_1 3 rfl rfl)
theorem dX13_stand_29 : decode cX13_stand 29 = .ok (.aload_n 0, 1) := dk_42 (dk_at dksX13_stand_1 6 rfl rfl)
theorem dX13_stand_30 : decode cX13_stand 30 = .ok (.ldc 66, 2) := dk_18 66 (dk_at dksX13_stand_1 7 rfl rfl)
theorem dX13_stand_32 : decode cX13_stand 32 = .ok (.invokevirtual 72, 3) := dk_182 0 72 (dk_at dksX13_stand_1 9 rfl rfl)
theorem dX13_stand_35 : decode cX13_stand 35 = .ok (.ireturn, 1) := dk_172 (dk_at dksX13_stand_1 12 rfl rfl)
abbrev cX13_isPlace : ByteArray := prog_16_method_10_code
def yX13_isPlace : MethodName := ⟨RX13, "isPlace", "(I)Z"⟩
def dkwX13_isPlace_0 : List UInt8 := [26, 3, 16, 6, 184, 0, 76, 172]
abbrev dktX13_isPlace_0 : List UInt8 := dkwX13_isPlace_0 ++ []
theorem dksX13_isPlace_0 : cX13_isPlace.data.toList.drop 0 = dktX13_isPlace_0 := by decide +kernel
theorem dX13_isPlace_0 : decode cX13_isPlace 0 = .ok (.iload_n 0, 1) := dk_26 (dk_at dksX13_isPlace_0 0 rfl rfl)
theorem dX13_isPlace_1 : decode cX13_isPlace 1 = .ok (.iconst 0, 1) := dk_3 (dk_at dksX13_isPlace_0 1 rfl rfl)
theorem dX13_isPlace_2 : decode cX13_isPlace 2 = .ok (.bipush 6, 2) := dk_16 6 (dk_at dksX13_isPlace_0 2 rfl rfl)
theorem dX13_isPlace_4 : decode cX13_isPlace 4 = .ok (.invokestatic 76, 3) := dk_184 0 76 (dk_at dksX13_isPlace_0 4 rfl rfl)
theorem dX13_isPlace_7 : decode cX13_isPlace 7 = .ok (.ireturn, 1) := dk_172 (dk_at dksX13_isPlace_0 7 rfl rfl)
abbrev cX13_within : ByteArray := prog_16_method_3_code
def yX13_within : MethodName := ⟨RX13, "within", "(III)Z"⟩
def dkwX13_within_0 : List UInt8 := [26, 27, 161, 0, 12, 26, 28, 163, 0, 7, 4, 167, 0, 4, 3, 172]
abbrev dktX13_within_0 : List UInt8 := dkwX13_within_0 ++ []
theorem dksX13_within_0 : cX13_within.data.toList.drop 0 = dktX13_within_0 := by decide +kernel
theorem dX13_within_0 : decode cX13_within 0 = .ok (.iload_n 0, 1) := dk_26 (dk_at dksX13_within_0 0 rfl rfl)
theorem dX13_within_1 : decode cX13_within 1 = .ok (.iload_n 1, 1) := dk_27 (dk_at dksX13_within_0 1 rfl rfl)
theorem dX13_within_2 : decode cX13_within 2 = .ok (.if_icmp .lt 12, 3) := dk_161 0 12 (dk_at dksX13_within_0 2 rfl rfl)
theorem dX13_within_5 : decode cX13_within 5 = .ok (.iload_n 0, 1) := dk_26 (dk_at dksX13_within_0 5 rfl rfl)
theorem dX13_within_6 : decode cX13_within 6 = .ok (.iload_n 2, 1) := dk_28 (dk_at dksX13_within_0 6 rfl rfl)
theorem dX13_within_7 : decode cX13_within 7 = .ok (.if_icmp .gt 7, 3) := dk_163 0 7 (dk_at dksX13_within_0 7 rfl rfl)
theorem dX13_within_10 : decode cX13_within 10 = .ok (.iconst 1, 1) := dk_4 (dk_at dksX13_within_0 10 rfl rfl)
theorem dX13_within_11 : decode cX13_within 11 = .ok (.goto 4, 3) := dk_167 0 4 (dk_at dksX13_within_0 11 rfl rfl)
theorem dX13_within_14 : decode cX13_within 14 = .ok (.iconst 0, 1) := dk_3 (dk_at dksX13_within_0 14 rfl rfl)
theorem dX13_within_15 : decode cX13_within 15 = .ok (.ireturn, 1) := dk_172 (dk_at dksX13_within_0 15 rfl rfl)
abbrev cX13_isJumper : ByteArray := prog_16_method_11_code
def yX13_isJumper : MethodName := ⟨RX13, "isJumper", "(I)Z"⟩
def dkwX13_isJumper_0 : List UInt8 := [27, 3, 42, 180, 0, 9, 4, 46, 4, 100, 184, 0, 76, 172]
abbrev dktX13_isJumper_0 : List UInt8 := dkwX13_isJumper_0 ++ []
theorem dksX13_isJumper_0 : cX13_isJumper.data.toList.drop 0 = dktX13_isJumper_0 := by decide +kernel
theorem dX13_isJumper_0 : decode cX13_isJumper 0 = .ok (.iload_n 1, 1) := dk_27 (dk_at dksX13_isJumper_0 0 rfl rfl)
theorem dX13_isJumper_1 : decode cX13_isJumper 1 = .ok (.iconst 0, 1) := dk_3 (dk_at dksX13_isJumper_0 1 rfl rfl)
theorem dX13_isJumper_2 : decode cX13_isJumper 2 = .ok (.aload_n 0, 1) := dk_42 (dk_at dksX13_isJumper_0 2 rfl rfl)
theorem dX13_isJumper_3 : decode cX13_isJumper 3 = .ok (.getfield 9, 3) := dk_180 0 9 (dk_at dksX13_isJumper_0 3 rfl rfl)
theorem dX13_isJumper_6 : decode cX13_isJumper 6 = .ok (.iconst 1, 1) := dk_4 (dk_at dksX13_isJumper_0 6 rfl rfl)
theorem dX13_isJumper_7 : decode cX13_isJumper 7 = .ok (.iaload, 1) := dk_46 (dk_at dksX13_isJumper_0 7 rfl rfl)
theorem dX13_isJumper_8 : decode cX13_isJumper 8 = .ok (.iconst 1, 1) := dk_4 (dk_at dksX13_isJumper_0 8 rfl rfl)
theorem dX13_isJumper_9 : decode cX13_isJumper 9 = .ok (.isub, 1) := dk_100 (dk_at dksX13_isJumper_0 9 rfl rfl)
theorem dX13_isJumper_10 : decode cX13_isJumper 10 = .ok (.invokestatic 76, 3) := dk_184 0 76 (dk_at dksX13_isJumper_0 10 rfl rfl)
theorem dX13_isJumper_13 : decode cX13_isJumper 13 = .ok (.ireturn, 1) := dk_172 (dk_at dksX13_isJumper_0 13 rfl rfl)
abbrev cX13_stands : ByteArray := prog_16_method_13_code
def yX13_stands : MethodName := ⟨RX13, "stands", "(II)I"⟩
def dkwX13_stands_2 : List UInt8 := [27, 96, 28, 79, 29, 172]
abbrev dktX13_stands_2 : List UInt8 := dkwX13_stands_2 ++ []
def dkwX13_stands_1 : List UInt8 := [54, 4, 21, 4, 155, 0, 14, 42, 180, 0, 9, 16, 17, 21, 4, 96, 2, 79, 42, 180, 0, 9, 16, 17]
abbrev dktX13_stands_1 : List UInt8 := dkwX13_stands_1 ++ dktX13_stands_2
def dkwX13_stands_0 : List UInt8 := [42, 180, 0, 9, 16, 17, 27, 96, 46, 62, 28, 156, 0, 7, 2, 167, 0, 8, 42, 28, 182, 0, 80]
abbrev dktX13_stands_0 : List UInt8 := dkwX13_stands_0 ++ dktX13_stands_1
theorem dksX13_stands_0 : cX13_stands.data.toList.drop 0 = dktX13_stands_0 := by decide +kernel
theorem dksX13_stands_1 : cX13_stands.data.toList.drop 23 = dktX13_stands_1 := dk_seg dksX13_stands_0 23 rfl rfl
theorem dksX13_stands_2 : cX13_stands.data.toList.drop 47 = dktX13_stands_2 := dk_seg dksX13_stands_1 24 rfl rfl
theorem dX13_stands_0 : decode cX13_stands 0 = .ok (.aload_n 0, 1) := dk_42 (dk_at dksX13_stands_0 0 rfl rfl)
theorem dX13_stands_1 : decode cX13_stands 1 = .ok (.getfield 9, 3) := dk_180 0 9 (dk_at dksX13_stands_0 1 rfl rfl)
theorem dX13_stands_4 : decode cX13_stands 4 = .ok (.bipush 17, 2) := dk_16 17 (dk_at dksX13_stands_0 4 rfl rfl)
theorem dX13_stands_6 : decode cX13_stands 6 = .ok (.iload_n 1, 1) := dk_27 (dk_at dksX13_stands_0 6 rfl rfl)
theorem dX13_stands_7 : decode cX13_stands 7 = .ok (.iadd, 1) := dk_96 (dk_at dksX13_stands_0 7 rfl rfl)
theorem dX13_stands_8 : decode cX13_stands 8 = .ok (.iaload, 1) := dk_46 (dk_at dksX13_stands_0 8 rfl rfl)
theorem dX13_stands_9 : decode cX13_stands 9 = .ok (.istore_n 3, 1) := dk_62 (dk_at dksX13_stands_0 9 rfl rfl)
theorem dX13_stands_10 : decode cX13_stands 10 = .ok (.iload_n 2, 1) := dk_28 (dk_at dksX13_stands_0 10 rfl rfl)
theorem dX13_stands_11 : decode cX13_stands 11 = .ok (.ifCond .ge 7, 3) := dk_156 0 7 (dk_at dksX13_stands_0 11 rfl rfl)
theorem dX13_stands_14 : decode cX13_stands 14 = .ok (.iconst (-1), 1) := dk_2 (dk_at dksX13_stands_0 14 rfl rfl)
theorem dX13_stands_15 : decode cX13_stands 15 = .ok (.goto 8, 3) := dk_167 0 8 (dk_at dksX13_stands_0 15 rfl rfl)
theorem dX13_stands_18 : decode cX13_stands 18 = .ok (.aload_n 0, 1) := dk_42 (dk_at dksX13_stands_0 18 rfl rfl)
theorem dX13_stands_19 : decode cX13_stands 19 = .ok (.iload_n 2, 1) := dk_28 (dk_at dksX13_stands_0 19 rfl rfl)
theorem dX13_stands_20 : decode cX13_stands 20 = .ok (.invokevirtual 80, 3) := dk_182 0 80 (dk_at dksX13_stands_0 20 rfl rfl)
theorem dX13_stands_23 : decode cX13_stands 23 = .ok (.istore 4, 2) := dk_54 4 (dk_at dksX13_stands_1 0 rfl rfl)
theorem dX13_stands_25 : decode cX13_stands 25 = .ok (.iload 4, 2) := dk_21 4 (dk_at dksX13_stands_1 2 rfl rfl)
theorem dX13_stands_27 : decode cX13_stands 27 = .ok (.ifCond .lt 14, 3) := dk_155 0 14 (dk_at dksX13_stands_1 4 rfl rfl)
theorem dX13_stands_30 : decode cX13_stands 30 = .ok (.aload_n 0, 1) := dk_42 (dk_at dksX13_stands_1 7 rfl rfl)
theorem dX13_stands_31 : decode cX13_stands 31 = .ok (.getfield 9, 3) := dk_180 0 9 (dk_at dksX13_stands_1 8 rfl rfl)
theorem dX13_stands_34 : decode cX13_stands 34 = .ok (.bipush 17, 2) := dk_16 17 (dk_at dksX13_stands_1 11 rfl rfl)
theorem dX13_stands_36 : decode cX13_stands 36 = .ok (.iload 4, 2) := dk_21 4 (dk_at dksX13_stands_1 13 rfl rfl)
theorem dX13_stands_38 : decode cX13_stands 38 = .ok (.iadd, 1) := dk_96 (dk_at dksX13_stands_1 15 rfl rfl)
theorem dX13_stands_39 : decode cX13_stands 39 = .ok (.iconst (-1), 1) := dk_2 (dk_at dksX13_stands_1 16 rfl rfl)
theorem dX13_stands_40 : decode cX13_stands 40 = .ok (.iastore, 1) := dk_79 (dk_at dksX13_stands_1 17 rfl rfl)
theorem dX13_stands_41 : decode cX13_stands 41 = .ok (.aload_n 0, 1) := dk_42 (dk_at dksX13_stands_1 18 rfl rfl)
theorem dX13_stands_42 : decode cX13_stands 42 = .ok (.getfield 9, 3) := dk_180 0 9 (dk_at dksX13_stands_1 19 rfl rfl)
theorem dX13_stands_45 : decode cX13_stands 45 = .ok (.bipush 17, 2) := dk_16 17 (dk_at dksX13_stands_1 22 rfl rfl)
theorem dX13_stands_47 : decode cX13_stands 47 = .ok (.iload_n 1, 1) := dk_27 (dk_at dksX13_stands_2 0 rfl rfl)
theorem dX13_stands_48 : decode cX13_stands 48 = .ok (.iadd, 1) := dk_96 (dk_at dksX13_stands_2 1 rfl rfl)
theorem dX13_stands_49 : decode cX13_stands 49 = .ok (.iload_n 2, 1) := dk_28 (dk_at dksX13_stands_2 2 rfl rfl)
theorem dX13_stands_50 : decode cX13_stands 50 = .ok (.iastore, 1) := dk_79 (dk_at dksX13_stands_2 3 rfl rfl)
theorem dX13_stands_51 : decode cX13_stands 51 = .ok (.iload_n 3, 1) := dk_29 (dk_at dksX13_stands_2 4 rfl rfl)
theorem dX13_stands_52 : decode cX13_stands 52 = .ok (.ireturn, 1) := dk_172 (dk_at dksX13_stands_2 5 rfl rfl)
abbrev cX13_placeOf : ByteArray := prog_16_method_12_code
def yX13_placeOf : MethodName := ⟨RX13, "placeOf", "(I)I"⟩
def dkwX13_placeOf_1 : List UInt8 := [167, 0, 4, 28, 61, 132, 3, 1, 167, 255, 228, 28, 172]
abbrev dktX13_placeOf_1 : List UInt8 := dkwX13_placeOf_1 ++ []
def dkwX13_placeOf_0 : List UInt8 := [2, 61, 3, 62, 29, 16, 7, 162, 0, 28, 42, 180, 0, 9, 16, 17, 29, 96, 46, 27, 160, 0, 7, 29]
abbrev dktX13_placeOf_0 : List UInt8 := dkwX13_placeOf_0 ++ dktX13_placeOf_1
theorem dksX13_placeOf_0 : cX13_placeOf.data.toList.drop 0 = dktX13_placeOf_0 := by decide +kernel
theorem dksX13_placeOf_1 : cX13_placeOf.data.toList.drop 24 = dktX13_placeOf_1 := dk_seg dksX13_placeOf_0 24 rfl rfl
theorem dX13_placeOf_0 : decode cX13_placeOf 0 = .ok (.iconst (-1), 1) := dk_2 (dk_at dksX13_placeOf_0 0 rfl rfl)
theorem dX13_placeOf_1 : decode cX13_placeOf 1 = .ok (.istore_n 2, 1) := dk_61 (dk_at dksX13_placeOf_0 1 rfl rfl)
theorem dX13_placeOf_2 : decode cX13_placeOf 2 = .ok (.iconst 0, 1) := dk_3 (dk_at dksX13_placeOf_0 2 rfl rfl)
theorem dX13_placeOf_3 : decode cX13_placeOf 3 = .ok (.istore_n 3, 1) := dk_62 (dk_at dksX13_placeOf_0 3 rfl rfl)
theorem dX13_placeOf_4 : decode cX13_placeOf 4 = .ok (.iload_n 3, 1) := dk_29 (dk_at dksX13_placeOf_0 4 rfl rfl)
theorem dX13_placeOf_5 : decode cX13_placeOf 5 = .ok (.bipush 7, 2) := dk_16 7 (dk_at dksX13_placeOf_0 5 rfl rfl)
theorem dX13_placeOf_7 : decode cX13_placeOf 7 = .ok (.if_icmp .ge 28, 3) := dk_162 0 28 (dk_at dksX13_placeOf_0 7 rfl rfl)
theorem dX13_placeOf_10 : decode cX13_placeOf 10 = .ok (.aload_n 0, 1) := dk_42 (dk_at dksX13_placeOf_0 10 rfl rfl)
theorem dX13_placeOf_11 : decode cX13_placeOf 11 = .ok (.getfield 9, 3) := dk_180 0 9 (dk_at dksX13_placeOf_0 11 rfl rfl)
theorem dX13_placeOf_14 : decode cX13_placeOf 14 = .ok (.bipush 17, 2) := dk_16 17 (dk_at dksX13_placeOf_0 14 rfl rfl)
theorem dX13_placeOf_16 : decode cX13_placeOf 16 = .ok (.iload_n 3, 1) := dk_29 (dk_at dksX13_placeOf_0 16 rfl rfl)
theorem dX13_placeOf_17 : decode cX13_placeOf 17 = .ok (.iadd, 1) := dk_96 (dk_at dksX13_placeOf_0 17 rfl rfl)
theorem dX13_placeOf_18 : decode cX13_placeOf 18 = .ok (.iaload, 1) := dk_46 (dk_at dksX13_placeOf_0 18 rfl rfl)
theorem dX13_placeOf_19 : decode cX13_placeOf 19 = .ok (.iload_n 1, 1) := dk_27 (dk_at dksX13_placeOf_0 19 rfl rfl)
theorem dX13_placeOf_20 : decode cX13_placeOf 20 = .ok (.if_icmp .ne 7, 3) := dk_160 0 7 (dk_at dksX13_placeOf_0 20 rfl rfl)
theorem dX13_placeOf_23 : decode cX13_placeOf 23 = .ok (.iload_n 3, 1) := dk_29 (dk_at dksX13_placeOf_0 23 rfl rfl)
theorem dX13_placeOf_24 : decode cX13_placeOf 24 = .ok (.goto 4, 3) := dk_167 0 4 (dk_at dksX13_placeOf_1 0 rfl rfl)
theorem dX13_placeOf_27 : decode cX13_placeOf 27 = .ok (.iload_n 2, 1) := dk_28 (dk_at dksX13_placeOf_1 3 rfl rfl)
theorem dX13_placeOf_28 : decode cX13_placeOf 28 = .ok (.istore_n 2, 1) := dk_61 (dk_at dksX13_placeOf_1 4 rfl rfl)
theorem dX13_placeOf_29 : decode cX13_placeOf 29 = .ok (.iinc 3 1, 3) := dk_132 3 1 (dk_at dksX13_placeOf_1 5 rfl rfl)
theorem dX13_placeOf_32 : decode cX13_placeOf 32 = .ok (.goto (-28), 3) := dk_167 255 228 (dk_at dksX13_placeOf_1 8 rfl rfl)
theorem dX13_placeOf_35 : decode cX13_placeOf 35 = .ok (.iload_n 2, 1) := dk_28 (dk_at dksX13_placeOf_1 11 rfl rfl)
theorem dX13_placeOf_36 : decode cX13_placeOf 36 = .ok (.ireturn, 1) := dk_172 (dk_at dksX13_placeOf_1 12 rfl rfl)
abbrev cX13_finding : ByteArray := prog_16_method_2_code
def yX13_finding : MethodName := ⟨RX13, "finding", "(I)I"⟩
def dkwX13_finding_1 : List UInt8 := [79, 27, 172]
abbrev dktX13_finding_1 : List UInt8 := dkwX13_finding_1 ++ []
def dkwX13_finding_0 : List UInt8 := [42, 180, 0, 19, 18, 66, 27, 100, 4, 96, 92, 46, 4, 96, 79, 42, 180, 0, 19, 3, 92, 46, 4, 96]
abbrev dktX13_finding_0 : List UInt8 := dkwX13_finding_0 ++ dktX13_finding_1
theorem dksX13_finding_0 : cX13_finding.data.toList.drop 0 = dktX13_finding_0 := by decide +kernel
theorem dksX13_finding_1 : cX13_finding.data.toList.drop 24 = dktX13_finding_1 := dk_seg dksX13_finding_0 24 rfl rfl
theorem dX13_finding_0 : decode cX13_finding 0 = .ok (.aload_n 0, 1) := dk_42 (dk_at dksX13_finding_0 0 rfl rfl)
theorem dX13_finding_1 : decode cX13_finding 1 = .ok (.getfield 19, 3) := dk_180 0 19 (dk_at dksX13_finding_0 1 rfl rfl)
theorem dX13_finding_4 : decode cX13_finding 4 = .ok (.ldc 66, 2) := dk_18 66 (dk_at dksX13_finding_0 4 rfl rfl)
theorem dX13_finding_6 : decode cX13_finding 6 = .ok (.iload_n 1, 1) := dk_27 (dk_at dksX13_finding_0 6 rfl rfl)
theorem dX13_finding_7 : decode cX13_finding 7 = .ok (.isub, 1) := dk_100 (dk_at dksX13_finding_0 7 rfl rfl)
theorem dX13_finding_8 : decode cX13_finding 8 = .ok (.iconst 1, 1) := dk_4 (dk_at dksX13_finding_0 8 rfl rfl)
theorem dX13_finding_9 : decode cX13_finding 9 = .ok (.iadd, 1) := dk_96 (dk_at dksX13_finding_0 9 rfl rfl)
theorem dX13_finding_10 : decode cX13_finding 10 = .ok (.dup2, 1) := dk_92 (dk_at dksX13_finding_0 10 rfl rfl)
theorem dX13_finding_11 : decode cX13_finding 11 = .ok (.iaload, 1) := dk_46 (dk_at dksX13_finding_0 11 rfl rfl)
theorem dX13_finding_12 : decode cX13_finding 12 = .ok (.iconst 1, 1) := dk_4 (dk_at dksX13_finding_0 12 rfl rfl)
theorem dX13_finding_13 : decode cX13_finding 13 = .ok (.iadd, 1) := dk_96 (dk_at dksX13_finding_0 13 rfl rfl)
theorem dX13_finding_14 : decode cX13_finding 14 = .ok (.iastore, 1) := dk_79 (dk_at dksX13_finding_0 14 rfl rfl)
theorem dX13_finding_15 : decode cX13_finding 15 = .ok (.aload_n 0, 1) := dk_42 (dk_at dksX13_finding_0 15 rfl rfl)
theorem dX13_finding_16 : decode cX13_finding 16 = .ok (.getfield 19, 3) := dk_180 0 19 (dk_at dksX13_finding_0 16 rfl rfl)
theorem dX13_finding_19 : decode cX13_finding 19 = .ok (.iconst 0, 1) := dk_3 (dk_at dksX13_finding_0 19 rfl rfl)
theorem dX13_finding_20 : decode cX13_finding 20 = .ok (.dup2, 1) := dk_92 (dk_at dksX13_finding_0 20 rfl rfl)
theorem dX13_finding_21 : decode cX13_finding 21 = .ok (.iaload, 1) := dk_46 (dk_at dksX13_finding_0 21 rfl rfl)
theorem dX13_finding_22 : decode cX13_finding 22 = .ok (.iconst 1, 1) := dk_4 (dk_at dksX13_finding_0 22 rfl rfl)
theorem dX13_finding_23 : decode cX13_finding 23 = .ok (.iadd, 1) := dk_96 (dk_at dksX13_finding_0 23 rfl rfl)
theorem dX13_finding_24 : decode cX13_finding 24 = .ok (.iastore, 1) := dk_79 (dk_at dksX13_finding_1 0 rfl rfl)
theorem dX13_finding_25 : decode cX13_finding 25 = .ok (.iload_n 1, 1) := dk_27 (dk_at dksX13_finding_1 1 rfl rfl)
theorem dX13_finding_26 : decode cX13_finding 26 = .ok (.ireturn, 1) := dk_172 (dk_at dksX13_finding_1 2 rfl rfl)
abbrev cX13_place : ByteArray := prog_16_method_16_code
def yX13_place : MethodName := ⟨RX13, "place", "(II)I"⟩
def dkwX13_place_3 : List UInt8 := [16, 31, 27, 96, 46, 172, 42, 27, 182, 0, 94, 172, 42, 18, 66, 182, 0, 72, 172]
abbrev dktX13_place_3 : List UInt8 := dkwX13_place_3 ++ []
def dkwX13_place_2 : List UInt8 := [42, 180, 0, 9, 16, 17, 27, 96, 46, 172, 42, 180, 0, 9, 16, 24, 27, 96, 46, 172, 42, 180, 0, 9]
abbrev dktX13_place_2 : List UInt8 := dkwX13_place_2 ++ dktX13_place_3
def dkwX13_place_1 : List UInt8 := [170, 0, 0, 0, 65, 0, 0, 0, 0, 0, 0, 0, 3, 0, 0, 0, 29, 0, 0, 0, 39, 0, 0, 0, 49, 0, 0, 0, 59]
abbrev dktX13_place_1 : List UInt8 := dkwX13_place_1 ++ dktX13_place_2
def dkwX13_place_0 : List UInt8 := [27, 184, 0, 83, 154, 0, 10, 42, 18, 66, 182, 0, 72, 172, 28]
abbrev dktX13_place_0 : List UInt8 := dkwX13_place_0 ++ dktX13_place_1
theorem dksX13_place_0 : cX13_place.data.toList.drop 0 = dktX13_place_0 := by decide +kernel
theorem dksX13_place_1 : cX13_place.data.toList.drop 15 = dktX13_place_1 := dk_seg dksX13_place_0 15 rfl rfl
theorem dksX13_place_2 : cX13_place.data.toList.drop 44 = dktX13_place_2 := dk_seg dksX13_place_1 29 rfl rfl
theorem dksX13_place_3 : cX13_place.data.toList.drop 68 = dktX13_place_3 := dk_seg dksX13_place_2 24 rfl rfl
theorem dX13_place_0 : decode cX13_place 0 = .ok (.iload_n 1, 1) := dk_27 (dk_at dksX13_place_0 0 rfl rfl)
theorem dX13_place_1 : decode cX13_place 1 = .ok (.invokestatic 83, 3) := dk_184 0 83 (dk_at dksX13_place_0 1 rfl rfl)
theorem dX13_place_4 : decode cX13_place 4 = .ok (.ifCond .ne 10, 3) := dk_154 0 10 (dk_at dksX13_place_0 4 rfl rfl)
theorem dX13_place_7 : decode cX13_place 7 = .ok (.aload_n 0, 1) := dk_42 (dk_at dksX13_place_0 7 rfl rfl)
theorem dX13_place_8 : decode cX13_place 8 = .ok (.ldc 66, 2) := dk_18 66 (dk_at dksX13_place_0 8 rfl rfl)
theorem dX13_place_10 : decode cX13_place 10 = .ok (.invokevirtual 72, 3) := dk_182 0 72 (dk_at dksX13_place_0 10 rfl rfl)
theorem dX13_place_13 : decode cX13_place 13 = .ok (.ireturn, 1) := dk_172 (dk_at dksX13_place_0 13 rfl rfl)
theorem dX13_place_14 : decode cX13_place 14 = .ok (.iload_n 2, 1) := dk_28 (dk_at dksX13_place_0 14 rfl rfl)
theorem dX13_place_15 : decode cX13_place 15 = .ok (.tableswitch 65 0 3 #[29, 39, 49, 59], 29) := by decide +kernel
theorem dX13_place_44 : decode cX13_place 44 = .ok (.aload_n 0, 1) := dk_42 (dk_at dksX13_place_2 0 rfl rfl)
theorem dX13_place_45 : decode cX13_place 45 = .ok (.getfield 9, 3) := dk_180 0 9 (dk_at dksX13_place_2 1 rfl rfl)
theorem dX13_place_48 : decode cX13_place 48 = .ok (.bipush 17, 2) := dk_16 17 (dk_at dksX13_place_2 4 rfl rfl)
theorem dX13_place_50 : decode cX13_place 50 = .ok (.iload_n 1, 1) := dk_27 (dk_at dksX13_place_2 6 rfl rfl)
theorem dX13_place_51 : decode cX13_place 51 = .ok (.iadd, 1) := dk_96 (dk_at dksX13_place_2 7 rfl rfl)
theorem dX13_place_52 : decode cX13_place 52 = .ok (.iaload, 1) := dk_46 (dk_at dksX13_place_2 8 rfl rfl)
theorem dX13_place_53 : decode cX13_place 53 = .ok (.ireturn, 1) := dk_172 (dk_at dksX13_place_2 9 rfl rfl)
theorem dX13_place_54 : decode cX13_place 54 = .ok (.aload_n 0, 1) := dk_42 (dk_at dksX13_place_2 10 rfl rfl)
theorem dX13_place_55 : decode cX13_place 55 = .ok (.getfield 9, 3) := dk_180 0 9 (dk_at dksX13_place_2 11 rfl rfl)
theorem dX13_place_58 : decode cX13_place 58 = .ok (.bipush 24, 2) := dk_16 24 (dk_at dksX13_place_2 14 rfl rfl)
theorem dX13_place_60 : decode cX13_place 60 = .ok (.iload_n 1, 1) := dk_27 (dk_at dksX13_place_2 16 rfl rfl)
theorem dX13_place_61 : decode cX13_place 61 = .ok (.iadd, 1) := dk_96 (dk_at dksX13_place_2 17 rfl rfl)
theorem dX13_place_62 : decode cX13_place 62 = .ok (.iaload, 1) := dk_46 (dk_at dksX13_place_2 18 rfl rfl)
theorem dX13_place_63 : decode cX13_place 63 = .ok (.ireturn, 1) := dk_172 (dk_at dksX13_place_2 19 rfl rfl)
theorem dX13_place_64 : decode cX13_place 64 = .ok (.aload_n 0, 1) := dk_42 (dk_at dksX13_place_2 20 rfl rfl)
theorem dX13_place_65 : decode cX13_place 65 = .ok (.getfield 9, 3) := dk_180 0 9 (dk_at dksX13_place_2 21 rfl rfl)
theorem dX13_place_68 : decode cX13_place 68 = .ok (.bipush 31, 2) := dk_16 31 (dk_at dksX13_place_3 0 rfl rfl)
theorem dX13_place_70 : decode cX13_place 70 = .ok (.iload_n 1, 1) := dk_27 (dk_at dksX13_place_3 2 rfl rfl)
theorem dX13_place_71 : decode cX13_place 71 = .ok (.iadd, 1) := dk_96 (dk_at dksX13_place_3 3 rfl rfl)
theorem dX13_place_72 : decode cX13_place 72 = .ok (.iaload, 1) := dk_46 (dk_at dksX13_place_3 4 rfl rfl)
theorem dX13_place_73 : decode cX13_place 73 = .ok (.ireturn, 1) := dk_172 (dk_at dksX13_place_3 5 rfl rfl)
theorem dX13_place_74 : decode cX13_place 74 = .ok (.aload_n 0, 1) := dk_42 (dk_at dksX13_place_3 6 rfl rfl)
theorem dX13_place_75 : decode cX13_place 75 = .ok (.iload_n 1, 1) := dk_27 (dk_at dksX13_place_3 7 rfl rfl)
theorem dX13_place_76 : decode cX13_place 76 = .ok (.invokevirtual 94, 3) := dk_182 0 94 (dk_at dksX13_place_3 8 rfl rfl)
theorem dX13_place_79 : decode cX13_place 79 = .ok (.ireturn, 1) := dk_172 (dk_at dksX13_place_3 11 rfl rfl)
theorem dX13_place_80 : decode cX13_place 80 = .ok (.aload_n 0, 1) := dk_42 (dk_at dksX13_place_3 12 rfl rfl)
theorem dX13_place_81 : decode cX13_place 81 = .ok (.ldc 66, 2) := dk_18 66 (dk_at dksX13_place_3 13 rfl rfl)
theorem dX13_place_83 : decode cX13_place 83 = .ok (.invokevirtual 72, 3) := dk_182 0 72 (dk_at dksX13_place_3 15 rfl rfl)
theorem dX13_place_86 : decode cX13_place 86 = .ok (.ireturn, 1) := dk_172 (dk_at dksX13_place_3 18 rfl rfl)
abbrev cX13_force : ByteArray := prog_16_method_15_code
def yX13_force : MethodName := ⟨RX13, "force", "(I)I"⟩
def dkwX13_force_0 : List UInt8 := [42, 180, 0, 9, 16, 24, 27, 96, 46, 42, 180, 0, 9, 16, 31, 27, 96, 46, 5, 108, 96, 172]
abbrev dktX13_force_0 : List UInt8 := dkwX13_force_0 ++ []
theorem dksX13_force_0 : cX13_force.data.toList.drop 0 = dktX13_force_0 := by decide +kernel
theorem dX13_force_0 : decode cX13_force 0 = .ok (.aload_n 0, 1) := dk_42 (dk_at dksX13_force_0 0 rfl rfl)
theorem dX13_force_1 : decode cX13_force 1 = .ok (.getfield 9, 3) := dk_180 0 9 (dk_at dksX13_force_0 1 rfl rfl)
theorem dX13_force_4 : decode cX13_force 4 = .ok (.bipush 24, 2) := dk_16 24 (dk_at dksX13_force_0 4 rfl rfl)
theorem dX13_force_6 : decode cX13_force 6 = .ok (.iload_n 1, 1) := dk_27 (dk_at dksX13_force_0 6 rfl rfl)
theorem dX13_force_7 : decode cX13_force 7 = .ok (.iadd, 1) := dk_96 (dk_at dksX13_force_0 7 rfl rfl)
theorem dX13_force_8 : decode cX13_force 8 = .ok (.iaload, 1) := dk_46 (dk_at dksX13_force_0 8 rfl rfl)
theorem dX13_force_9 : decode cX13_force 9 = .ok (.aload_n 0, 1) := dk_42 (dk_at dksX13_force_0 9 rfl rfl)
theorem dX13_force_10 : decode cX13_force 10 = .ok (.getfield 9, 3) := dk_180 0 9 (dk_at dksX13_force_0 10 rfl rfl)
theorem dX13_force_13 : decode cX13_force 13 = .ok (.bipush 31, 2) := dk_16 31 (dk_at dksX13_force_0 13 rfl rfl)
theorem dX13_force_15 : decode cX13_force 15 = .ok (.iload_n 1, 1) := dk_27 (dk_at dksX13_force_0 15 rfl rfl)
theorem dX13_force_16 : decode cX13_force 16 = .ok (.iadd, 1) := dk_96 (dk_at dksX13_force_0 16 rfl rfl)
theorem dX13_force_17 : decode cX13_force 17 = .ok (.iaload, 1) := dk_46 (dk_at dksX13_force_0 17 rfl rfl)
theorem dX13_force_18 : decode cX13_force 18 = .ok (.iconst 2, 1) := dk_5 (dk_at dksX13_force_0 18 rfl rfl)
theorem dX13_force_19 : decode cX13_force 19 = .ok (.idiv, 1) := dk_108 (dk_at dksX13_force_0 19 rfl rfl)
theorem dX13_force_20 : decode cX13_force 20 = .ok (.iadd, 1) := dk_96 (dk_at dksX13_force_0 20 rfl rfl)
theorem dX13_force_21 : decode cX13_force 21 = .ok (.ireturn, 1) := dk_172 (dk_at dksX13_force_0 21 rfl rfl)
abbrev cX13_theirs : ByteArray := prog_16_method_17_code
def yX13_theirs : MethodName := ⟨RX13, "theirs", "(III)I"⟩
def dkwX13_theirs_2 : List UInt8 := [96, 29, 182, 0, 97, 172]
abbrev dktX13_theirs_2 : List UInt8 := dkwX13_theirs_2 ++ []
def dkwX13_theirs_1 : List UInt8 := [154, 0, 10, 42, 18, 66, 182, 0, 72, 172, 42, 28, 4, 160, 0, 8, 16, 24, 167, 0, 5, 16, 31, 27]
abbrev dktX13_theirs_1 : List UInt8 := dkwX13_theirs_1 ++ dktX13_theirs_2
def dkwX13_theirs_0 : List UInt8 := [27, 184, 0, 83, 153, 0, 22, 28, 4, 5, 184, 0, 76, 153, 0, 13, 29, 3, 16, 99, 184, 0, 76]
abbrev dktX13_theirs_0 : List UInt8 := dkwX13_theirs_0 ++ dktX13_theirs_1
theorem dksX13_theirs_0 : cX13_theirs.data.toList.drop 0 = dktX13_theirs_0 := by decide +kernel
theorem dksX13_theirs_1 : cX13_theirs.data.toList.drop 23 = dktX13_theirs_1 := dk_seg dksX13_theirs_0 23 rfl rfl
theorem dksX13_theirs_2 : cX13_theirs.data.toList.drop 47 = dktX13_theirs_2 := dk_seg dksX13_theirs_1 24 rfl rfl
theorem dX13_theirs_0 : decode cX13_theirs 0 = .ok (.iload_n 1, 1) := dk_27 (dk_at dksX13_theirs_0 0 rfl rfl)
theorem dX13_theirs_1 : decode cX13_theirs 1 = .ok (.invokestatic 83, 3) := dk_184 0 83 (dk_at dksX13_theirs_0 1 rfl rfl)
theorem dX13_theirs_4 : decode cX13_theirs 4 = .ok (.ifCond .eq 22, 3) := dk_153 0 22 (dk_at dksX13_theirs_0 4 rfl rfl)
theorem dX13_theirs_7 : decode cX13_theirs 7 = .ok (.iload_n 2, 1) := dk_28 (dk_at dksX13_theirs_0 7 rfl rfl)
theorem dX13_theirs_8 : decode cX13_theirs 8 = .ok (.iconst 1, 1) := dk_4 (dk_at dksX13_theirs_0 8 rfl rfl)
theorem dX13_theirs_9 : decode cX13_theirs 9 = .ok (.iconst 2, 1) := dk_5 (dk_at dksX13_theirs_0 9 rfl rfl)
theorem dX13_theirs_10 : decode cX13_theirs 10 = .ok (.invokestatic 76, 3) := dk_184 0 76 (dk_at dksX13_theirs_0 10 rfl rfl)
theorem dX13_theirs_13 : decode cX13_theirs 13 = .ok (.ifCond .eq 13, 3) := dk_153 0 13 (dk_at dksX13_theirs_0 13 rfl rfl)
theorem dX13_theirs_16 : decode cX13_theirs 16 = .ok (.iload_n 3, 1) := dk_29 (dk_at dksX13_theirs_0 16 rfl rfl)
theorem dX13_theirs_17 : decode cX13_theirs 17 = .ok (.iconst 0, 1) := dk_3 (dk_at dksX13_theirs_0 17 rfl rfl)
theorem dX13_theirs_18 : decode cX13_theirs 18 = .ok (.bipush 99, 2) := dk_16 99 (dk_at dksX13_theirs_0 18 rfl rfl)
theorem dX13_theirs_20 : decode cX13_theirs 20 = .ok (.invokestatic 76, 3) := dk_184 0 76 (dk_at dksX13_theirs_0 20 rfl rfl)
theorem dX13_theirs_23 : decode cX13_theirs 23 = .ok (.ifCond .ne 10, 3) := dk_154 0 10 (dk_at dksX13_theirs_1 0 rfl rfl)
theorem dX13_theirs_26 : decode cX13_theirs 26 = .ok (.aload_n 0, 1) := dk_42 (dk_at dksX13_theirs_1 3 rfl rfl)
theorem dX13_theirs_27 : decode cX13_theirs 27 = .ok (.ldc 66, 2) := dk_18 66 (dk_at dksX13_theirs_1 4 rfl rfl)
theorem dX13_theirs_29 : decode cX13_theirs 29 = .ok (.invokevirtual 72, 3) := dk_182 0 72 (dk_at dksX13_theirs_1 6 rfl rfl)
theorem dX13_theirs_32 : decode cX13_theirs 32 = .ok (.ireturn, 1) := dk_172 (dk_at dksX13_theirs_1 9 rfl rfl)
theorem dX13_theirs_33 : decode cX13_theirs 33 = .ok (.aload_n 0, 1) := dk_42 (dk_at dksX13_theirs_1 10 rfl rfl)
theorem dX13_theirs_34 : decode cX13_theirs 34 = .ok (.iload_n 2, 1) := dk_28 (dk_at dksX13_theirs_1 11 rfl rfl)
theorem dX13_theirs_35 : decode cX13_theirs 35 = .ok (.iconst 1, 1) := dk_4 (dk_at dksX13_theirs_1 12 rfl rfl)
theorem dX13_theirs_36 : decode cX13_theirs 36 = .ok (.if_icmp .ne 8, 3) := dk_160 0 8 (dk_at dksX13_theirs_1 13 rfl rfl)
theorem dX13_theirs_39 : decode cX13_theirs 39 = .ok (.bipush 24, 2) := dk_16 24 (dk_at dksX13_theirs_1 16 rfl rfl)
theorem dX13_theirs_41 : decode cX13_theirs 41 = .ok (.goto 5, 3) := dk_167 0 5 (dk_at dksX13_theirs_1 18 rfl rfl)
theorem dX13_theirs_44 : decode cX13_theirs 44 = .ok (.bipush 31, 2) := dk_16 31 (dk_at dksX13_theirs_1 21 rfl rfl)
theorem dX13_theirs_46 : decode cX13_theirs 46 = .ok (.iload_n 1, 1) := dk_27 (dk_at dksX13_theirs_1 23 rfl rfl)
theorem dX13_theirs_47 : decode cX13_theirs 47 = .ok (.iadd, 1) := dk_96 (dk_at dksX13_theirs_2 0 rfl rfl)
theorem dX13_theirs_48 : decode cX13_theirs 48 = .ok (.iload_n 3, 1) := dk_29 (dk_at dksX13_theirs_2 1 rfl rfl)
theorem dX13_theirs_49 : decode cX13_theirs 49 = .ok (.invokevirtual 97, 3) := dk_182 0 97 (dk_at dksX13_theirs_2 2 rfl rfl)
theorem dX13_theirs_52 : decode cX13_theirs 52 = .ok (.ireturn, 1) := dk_172 (dk_at dksX13_theirs_2 5 rfl rfl)
abbrev cX13_become : ByteArray := prog_16_method_4_code
def yX13_become : MethodName := ⟨RX13, "become", "(II)I"⟩
def dkwX13_become_0 : List UInt8 := [42, 180, 0, 9, 27, 46, 62, 42, 180, 0, 9, 27, 28, 79, 29, 172]
abbrev dktX13_become_0 : List UInt8 := dkwX13_become_0 ++ []
theorem dksX13_become_0 : cX13_become.data.toList.drop 0 = dktX13_become_0 := by decide +kernel
theorem dX13_become_0 : decode cX13_become 0 = .ok (.aload_n 0, 1) := dk_42 (dk_at dksX13_become_0 0 rfl rfl)
theorem dX13_become_1 : decode cX13_become 1 = .ok (.getfield 9, 3) := dk_180 0 9 (dk_at dksX13_become_0 1 rfl rfl)
theorem dX13_become_4 : decode cX13_become 4 = .ok (.iload_n 1, 1) := dk_27 (dk_at dksX13_become_0 4 rfl rfl)
theorem dX13_become_5 : decode cX13_become 5 = .ok (.iaload, 1) := dk_46 (dk_at dksX13_become_0 5 rfl rfl)
theorem dX13_become_6 : decode cX13_become 6 = .ok (.istore_n 3, 1) := dk_62 (dk_at dksX13_become_0 6 rfl rfl)
theorem dX13_become_7 : decode cX13_become 7 = .ok (.aload_n 0, 1) := dk_42 (dk_at dksX13_become_0 7 rfl rfl)
theorem dX13_become_8 : decode cX13_become 8 = .ok (.getfield 9, 3) := dk_180 0 9 (dk_at dksX13_become_0 8 rfl rfl)
theorem dX13_become_11 : decode cX13_become 11 = .ok (.iload_n 1, 1) := dk_27 (dk_at dksX13_become_0 11 rfl rfl)
theorem dX13_become_12 : decode cX13_become 12 = .ok (.iload_n 2, 1) := dk_28 (dk_at dksX13_become_0 12 rfl rfl)
theorem dX13_become_13 : decode cX13_become 13 = .ok (.iastore, 1) := dk_79 (dk_at dksX13_become_0 13 rfl rfl)
theorem dX13_become_14 : decode cX13_become 14 = .ok (.iload_n 3, 1) := dk_29 (dk_at dksX13_become_0 14 rfl rfl)
theorem dX13_become_15 : decode cX13_become 15 = .ok (.ireturn, 1) := dk_172 (dk_at dksX13_become_0 15 rfl rfl)
abbrev cX13_set : ByteArray := prog_16_method_18_code
def yX13_set : MethodName := ⟨RX13, "set", "(II)I"⟩
def dkwX13_set_1 : List UInt8 := [184, 0, 76, 153, 0, 14, 42, 7, 27, 96, 28, 182, 0, 97, 167, 0, 9, 42, 18, 66, 182, 0, 72, 172]
abbrev dktX13_set_1 : List UInt8 := dkwX13_set_1 ++ []
def dkwX13_set_0 : List UInt8 := [27, 3, 5, 184, 0, 76, 153, 0, 33, 28, 3, 27, 5, 160, 0, 7, 7, 167, 0, 5, 16, 9]
abbrev dktX13_set_0 : List UInt8 := dkwX13_set_0 ++ dktX13_set_1
theorem dksX13_set_0 : cX13_set.data.toList.drop 0 = dktX13_set_0 := by decide +kernel
theorem dksX13_set_1 : cX13_set.data.toList.drop 22 = dktX13_set_1 := dk_seg dksX13_set_0 22 rfl rfl
theorem dX13_set_0 : decode cX13_set 0 = .ok (.iload_n 1, 1) := dk_27 (dk_at dksX13_set_0 0 rfl rfl)
theorem dX13_set_1 : decode cX13_set 1 = .ok (.iconst 0, 1) := dk_3 (dk_at dksX13_set_0 1 rfl rfl)
theorem dX13_set_2 : decode cX13_set 2 = .ok (.iconst 2, 1) := dk_5 (dk_at dksX13_set_0 2 rfl rfl)
theorem dX13_set_3 : decode cX13_set 3 = .ok (.invokestatic 76, 3) := dk_184 0 76 (dk_at dksX13_set_0 3 rfl rfl)
theorem dX13_set_6 : decode cX13_set 6 = .ok (.ifCond .eq 33, 3) := dk_153 0 33 (dk_at dksX13_set_0 6 rfl rfl)
theorem dX13_set_9 : decode cX13_set 9 = .ok (.iload_n 2, 1) := dk_28 (dk_at dksX13_set_0 9 rfl rfl)
theorem dX13_set_10 : decode cX13_set 10 = .ok (.iconst 0, 1) := dk_3 (dk_at dksX13_set_0 10 rfl rfl)
theorem dX13_set_11 : decode cX13_set 11 = .ok (.iload_n 1, 1) := dk_27 (dk_at dksX13_set_0 11 rfl rfl)
theorem dX13_set_12 : decode cX13_set 12 = .ok (.iconst 2, 1) := dk_5 (dk_at dksX13_set_0 12 rfl rfl)
theorem dX13_set_13 : decode cX13_set 13 = .ok (.if_icmp .ne 7, 3) := dk_160 0 7 (dk_at dksX13_set_0 13 rfl rfl)
theorem dX13_set_16 : decode cX13_set 16 = .ok (.iconst 4, 1) := dk_7 (dk_at dksX13_set_0 16 rfl rfl)
theorem dX13_set_17 : decode cX13_set 17 = .ok (.goto 5, 3) := dk_167 0 5 (dk_at dksX13_set_0 17 rfl rfl)
theorem dX13_set_20 : decode cX13_set 20 = .ok (.bipush 9, 2) := dk_16 9 (dk_at dksX13_set_0 20 rfl rfl)
theorem dX13_set_22 : decode cX13_set 22 = .ok (.invokestatic 76, 3) := dk_184 0 76 (dk_at dksX13_set_1 0 rfl rfl)
theorem dX13_set_25 : decode cX13_set 25 = .ok (.ifCond .eq 14, 3) := dk_153 0 14 (dk_at dksX13_set_1 3 rfl rfl)
theorem dX13_set_28 : decode cX13_set 28 = .ok (.aload_n 0, 1) := dk_42 (dk_at dksX13_set_1 6 rfl rfl)
theorem dX13_set_29 : decode cX13_set 29 = .ok (.iconst 4, 1) := dk_7 (dk_at dksX13_set_1 7 rfl rfl)
theorem dX13_set_30 : decode cX13_set 30 = .ok (.iload_n 1, 1) := dk_27 (dk_at dksX13_set_1 8 rfl rfl)
theorem dX13_set_31 : decode cX13_set 31 = .ok (.iadd, 1) := dk_96 (dk_at dksX13_set_1 9 rfl rfl)
theorem dX13_set_32 : decode cX13_set 32 = .ok (.iload_n 2, 1) := dk_28 (dk_at dksX13_set_1 10 rfl rfl)
theorem dX13_set_33 : decode cX13_set 33 = .ok (.invokevirtual 97, 3) := dk_182 0 97 (dk_at dksX13_set_1 11 rfl rfl)
theorem dX13_set_36 : decode cX13_set 36 = .ok (.goto 9, 3) := dk_167 0 9 (dk_at dksX13_set_1 14 rfl rfl)
theorem dX13_set_39 : decode cX13_set 39 = .ok (.aload_n 0, 1) := dk_42 (dk_at dksX13_set_1 17 rfl rfl)
theorem dX13_set_40 : decode cX13_set 40 = .ok (.ldc 66, 2) := dk_18 66 (dk_at dksX13_set_1 18 rfl rfl)
theorem dX13_set_42 : decode cX13_set 42 = .ok (.invokevirtual 72, 3) := dk_182 0 72 (dk_at dksX13_set_1 20 rfl rfl)
theorem dX13_set_45 : decode cX13_set 45 = .ok (.ireturn, 1) := dk_172 (dk_at dksX13_set_1 23 rfl rfl)
abbrev cX13_call : ByteArray := prog_16_method_20_code
def yX13_call : MethodName := ⟨RX13, "call", "(II)I"⟩
def dkwX13_call_1 : List UInt8 := [182, 0, 97, 167, 0, 9, 42, 18, 66, 182, 0, 72, 172]
abbrev dktX13_call_1 : List UInt8 := dkwX13_call_1 ++ []
def dkwX13_call_0 : List UInt8 := [27, 3, 8, 184, 0, 76, 153, 0, 22, 28, 184, 0, 100, 153, 0, 15, 42, 16, 38, 27, 96, 28]
abbrev dktX13_call_0 : List UInt8 := dkwX13_call_0 ++ dktX13_call_1
theorem dksX13_call_0 : cX13_call.data.toList.drop 0 = dktX13_call_0 := by decide +kernel
theorem dksX13_call_1 : cX13_call.data.toList.drop 22 = dktX13_call_1 := dk_seg dksX13_call_0 22 rfl rfl
theorem dX13_call_0 : decode cX13_call 0 = .ok (.iload_n 1, 1) := dk_27 (dk_at dksX13_call_0 0 rfl rfl)
theorem dX13_call_1 : decode cX13_call 1 = .ok (.iconst 0, 1) := dk_3 (dk_at dksX13_call_0 1 rfl rfl)
theorem dX13_call_2 : decode cX13_call 2 = .ok (.iconst 5, 1) := dk_8 (dk_at dksX13_call_0 2 rfl rfl)
theorem dX13_call_3 : decode cX13_call 3 = .ok (.invokestatic 76, 3) := dk_184 0 76 (dk_at dksX13_call_0 3 rfl rfl)
theorem dX13_call_6 : decode cX13_call 6 = .ok (.ifCond .eq 22, 3) := dk_153 0 22 (dk_at dksX13_call_0 6 rfl rfl)
theorem dX13_call_9 : decode cX13_call 9 = .ok (.iload_n 2, 1) := dk_28 (dk_at dksX13_call_0 9 rfl rfl)
theorem dX13_call_10 : decode cX13_call 10 = .ok (.invokestatic 100, 3) := dk_184 0 100 (dk_at dksX13_call_0 10 rfl rfl)
theorem dX13_call_13 : decode cX13_call 13 = .ok (.ifCond .eq 15, 3) := dk_153 0 15 (dk_at dksX13_call_0 13 rfl rfl)
theorem dX13_call_16 : decode cX13_call 16 = .ok (.aload_n 0, 1) := dk_42 (dk_at dksX13_call_0 16 rfl rfl)
theorem dX13_call_17 : decode cX13_call 17 = .ok (.bipush 38, 2) := dk_16 38 (dk_at dksX13_call_0 17 rfl rfl)
theorem dX13_call_19 : decode cX13_call 19 = .ok (.iload_n 1, 1) := dk_27 (dk_at dksX13_call_0 19 rfl rfl)
theorem dX13_call_20 : decode cX13_call 20 = .ok (.iadd, 1) := dk_96 (dk_at dksX13_call_0 20 rfl rfl)
theorem dX13_call_21 : decode cX13_call 21 = .ok (.iload_n 2, 1) := dk_28 (dk_at dksX13_call_0 21 rfl rfl)
theorem dX13_call_22 : decode cX13_call 22 = .ok (.invokevirtual 97, 3) := dk_182 0 97 (dk_at dksX13_call_1 0 rfl rfl)
theorem dX13_call_25 : decode cX13_call 25 = .ok (.goto 9, 3) := dk_167 0 9 (dk_at dksX13_call_1 3 rfl rfl)
theorem dX13_call_28 : decode cX13_call 28 = .ok (.aload_n 0, 1) := dk_42 (dk_at dksX13_call_1 6 rfl rfl)
theorem dX13_call_29 : decode cX13_call 29 = .ok (.ldc 66, 2) := dk_18 66 (dk_at dksX13_call_1 7 rfl rfl)
theorem dX13_call_31 : decode cX13_call 31 = .ok (.invokevirtual 72, 3) := dk_182 0 72 (dk_at dksX13_call_1 9 rfl rfl)
theorem dX13_call_34 : decode cX13_call 34 = .ok (.ireturn, 1) := dk_172 (dk_at dksX13_call_1 12 rfl rfl)
abbrev cX13_isCall : ByteArray := prog_16_method_19_code
def yX13_isCall : MethodName := ⟨RX13, "isCall", "(I)Z"⟩
def dkwX13_isCall_0 : List UInt8 := [26, 3, 17, 3, 231, 184, 0, 76, 172]
abbrev dktX13_isCall_0 : List UInt8 := dkwX13_isCall_0 ++ []
theorem dksX13_isCall_0 : cX13_isCall.data.toList.drop 0 = dktX13_isCall_0 := by decide +kernel
theorem dX13_isCall_0 : decode cX13_isCall 0 = .ok (.iload_n 0, 1) := dk_26 (dk_at dksX13_isCall_0 0 rfl rfl)
theorem dX13_isCall_1 : decode cX13_isCall 1 = .ok (.iconst 0, 1) := dk_3 (dk_at dksX13_isCall_0 1 rfl rfl)
theorem dX13_isCall_2 : decode cX13_isCall 2 = .ok (.sipush 999, 3) := dk_17 3 231 (dk_at dksX13_isCall_0 2 rfl rfl)
theorem dX13_isCall_5 : decode cX13_isCall 5 = .ok (.invokestatic 76, 3) := dk_184 0 76 (dk_at dksX13_isCall_0 5 rfl rfl)
theorem dX13_isCall_8 : decode cX13_isCall 8 = .ok (.ireturn, 1) := dk_172 (dk_at dksX13_isCall_0 8 rfl rfl)
abbrev cX13_listed : ByteArray := prog_16_method_21_code
def yX13_listed : MethodName := ⟨RX13, "listed", "(I)I"⟩
def dkwX13_listed_1 : List UInt8 := [182, 0, 72, 172]
abbrev dktX13_listed_1 : List UInt8 := dkwX13_listed_1 ++ []
def dkwX13_listed_0 : List UInt8 := [27, 3, 8, 184, 0, 76, 153, 0, 15, 42, 180, 0, 9, 16, 38, 27, 96, 46, 167, 0, 9, 42, 18, 66]
abbrev dktX13_listed_0 : List UInt8 := dkwX13_listed_0 ++ dktX13_listed_1
theorem dksX13_listed_0 : cX13_listed.data.toList.drop 0 = dktX13_listed_0 := by decide +kernel
theorem dksX13_listed_1 : cX13_listed.data.toList.drop 24 = dktX13_listed_1 := dk_seg dksX13_listed_0 24 rfl rfl
theorem dX13_listed_0 : decode cX13_listed 0 = .ok (.iload_n 1, 1) := dk_27 (dk_at dksX13_listed_0 0 rfl rfl)
theorem dX13_listed_1 : decode cX13_listed 1 = .ok (.iconst 0, 1) := dk_3 (dk_at dksX13_listed_0 1 rfl rfl)
theorem dX13_listed_2 : decode cX13_listed 2 = .ok (.iconst 5, 1) := dk_8 (dk_at dksX13_listed_0 2 rfl rfl)
theorem dX13_listed_3 : decode cX13_listed 3 = .ok (.invokestatic 76, 3) := dk_184 0 76 (dk_at dksX13_listed_0 3 rfl rfl)
theorem dX13_listed_6 : decode cX13_listed 6 = .ok (.ifCond .eq 15, 3) := dk_153 0 15 (dk_at dksX13_listed_0 6 rfl rfl)
theorem dX13_listed_9 : decode cX13_listed 9 = .ok (.aload_n 0, 1) := dk_42 (dk_at dksX13_listed_0 9 rfl rfl)
theorem dX13_listed_10 : decode cX13_listed 10 = .ok (.getfield 9, 3) := dk_180 0 9 (dk_at dksX13_listed_0 10 rfl rfl)
theorem dX13_listed_13 : decode cX13_listed 13 = .ok (.bipush 38, 2) := dk_16 38 (dk_at dksX13_listed_0 13 rfl rfl)
theorem dX13_listed_15 : decode cX13_listed 15 = .ok (.iload_n 1, 1) := dk_27 (dk_at dksX13_listed_0 15 rfl rfl)
theorem dX13_listed_16 : decode cX13_listed 16 = .ok (.iadd, 1) := dk_96 (dk_at dksX13_listed_0 16 rfl rfl)
theorem dX13_listed_17 : decode cX13_listed 17 = .ok (.iaload, 1) := dk_46 (dk_at dksX13_listed_0 17 rfl rfl)
theorem dX13_listed_18 : decode cX13_listed 18 = .ok (.goto 9, 3) := dk_167 0 9 (dk_at dksX13_listed_0 18 rfl rfl)
theorem dX13_listed_21 : decode cX13_listed 21 = .ok (.aload_n 0, 1) := dk_42 (dk_at dksX13_listed_0 21 rfl rfl)
theorem dX13_listed_22 : decode cX13_listed 22 = .ok (.ldc 66, 2) := dk_18 66 (dk_at dksX13_listed_0 22 rfl rfl)
theorem dX13_listed_24 : decode cX13_listed 24 = .ok (.invokevirtual 72, 3) := dk_182 0 72 (dk_at dksX13_listed_1 0 rfl rfl)
theorem dX13_listed_27 : decode cX13_listed 27 = .ok (.ireturn, 1) := dk_172 (dk_at dksX13_listed_1 3 rfl rfl)
abbrev cX13_says : ByteArray := prog_16_method_23_code
def yX13_says : MethodName := ⟨RX13, "says", "(II)I"⟩
def dkwX13_says_1 : List UInt8 := [42, 18, 66, 182, 0, 72, 172]
abbrev dktX13_says_1 : List UInt8 := dkwX13_says_1 ++ []
def dkwX13_says_0 : List UInt8 := [27, 184, 0, 100, 153, 0, 20, 28, 3, 7, 184, 0, 76, 153, 0, 11, 27, 28, 184, 0, 106, 167, 0, 9]
abbrev dktX13_says_0 : List UInt8 := dkwX13_says_0 ++ dktX13_says_1
theorem dksX13_says_0 : cX13_says.data.toList.drop 0 = dktX13_says_0 := by decide +kernel
theorem dksX13_says_1 : cX13_says.data.toList.drop 24 = dktX13_says_1 := dk_seg dksX13_says_0 24 rfl rfl
theorem dX13_says_0 : decode cX13_says 0 = .ok (.iload_n 1, 1) := dk_27 (dk_at dksX13_says_0 0 rfl rfl)
theorem dX13_says_1 : decode cX13_says 1 = .ok (.invokestatic 100, 3) := dk_184 0 100 (dk_at dksX13_says_0 1 rfl rfl)
theorem dX13_says_4 : decode cX13_says 4 = .ok (.ifCond .eq 20, 3) := dk_153 0 20 (dk_at dksX13_says_0 4 rfl rfl)
theorem dX13_says_7 : decode cX13_says 7 = .ok (.iload_n 2, 1) := dk_28 (dk_at dksX13_says_0 7 rfl rfl)
theorem dX13_says_8 : decode cX13_says 8 = .ok (.iconst 0, 1) := dk_3 (dk_at dksX13_says_0 8 rfl rfl)
theorem dX13_says_9 : decode cX13_says 9 = .ok (.iconst 4, 1) := dk_7 (dk_at dksX13_says_0 9 rfl rfl)
theorem dX13_says_10 : decode cX13_says 10 = .ok (.invokestatic 76, 3) := dk_184 0 76 (dk_at dksX13_says_0 10 rfl rfl)
theorem dX13_says_13 : decode cX13_says 13 = .ok (.ifCond .eq 11, 3) := dk_153 0 11 (dk_at dksX13_says_0 13 rfl rfl)
theorem dX13_says_16 : decode cX13_says 16 = .ok (.iload_n 1, 1) := dk_27 (dk_at dksX13_says_0 16 rfl rfl)
theorem dX13_says_17 : decode cX13_says 17 = .ok (.iload_n 2, 1) := dk_28 (dk_at dksX13_says_0 17 rfl rfl)
theorem dX13_says_18 : decode cX13_says 18 = .ok (.invokestatic 106, 3) := dk_184 0 106 (dk_at dksX13_says_0 18 rfl rfl)
theorem dX13_says_21 : decode cX13_says 21 = .ok (.goto 9, 3) := dk_167 0 9 (dk_at dksX13_says_0 21 rfl rfl)
theorem dX13_says_24 : decode cX13_says 24 = .ok (.aload_n 0, 1) := dk_42 (dk_at dksX13_says_1 0 rfl rfl)
theorem dX13_says_25 : decode cX13_says 25 = .ok (.ldc 66, 2) := dk_18 66 (dk_at dksX13_says_1 1 rfl rfl)
theorem dX13_says_27 : decode cX13_says 27 = .ok (.invokevirtual 72, 3) := dk_182 0 72 (dk_at dksX13_says_1 3 rfl rfl)
theorem dX13_says_30 : decode cX13_says 30 = .ok (.ireturn, 1) := dk_172 (dk_at dksX13_says_1 6 rfl rfl)
abbrev cX13_saysBy : ByteArray := prog_16_method_22_code
def yX13_saysBy : MethodName := ⟨RX13, "saysBy", "(II)I"⟩
def dkwX13_saysBy_4 : List UInt8 := [16, 6, 172, 26, 184, 0, 103, 16, 7, 112, 172]
abbrev dktX13_saysBy_4 : List UInt8 := dkwX13_saysBy_4 ++ []
def dkwX13_saysBy_3 : List UInt8 := [172, 28, 5, 112, 4, 160, 0, 7, 3, 167, 0, 16, 29, 5, 112, 4, 160, 0, 7, 6, 167, 0, 5]
abbrev dktX13_saysBy_3 : List UInt8 := dkwX13_saysBy_3 ++ dktX13_saysBy_4
def dkwX13_saysBy_2 : List UInt8 := [28, 16, 7, 112, 172, 28, 29, 96, 26, 16, 100, 108, 96, 16, 7, 112, 172, 26, 16, 100, 108, 16, 7, 112]
abbrev dktX13_saysBy_2 : List UInt8 := dkwX13_saysBy_2 ++ dktX13_saysBy_3
def dkwX13_saysBy_1 : List UInt8 := [170, 0, 0, 0, 0, 80, 0, 0, 0, 0, 0, 0, 0, 3, 0, 0, 0, 30, 0, 0, 0, 35, 0, 0, 0, 47, 0, 0, 0, 55]
abbrev dktX13_saysBy_1 : List UInt8 := dkwX13_saysBy_1 ++ dktX13_saysBy_2
def dkwX13_saysBy_0 : List UInt8 := [26, 16, 10, 112, 61, 26, 16, 10, 108, 16, 10, 112, 62, 27]
abbrev dktX13_saysBy_0 : List UInt8 := dkwX13_saysBy_0 ++ dktX13_saysBy_1
theorem dksX13_saysBy_0 : cX13_saysBy.data.toList.drop 0 = dktX13_saysBy_0 := by decide +kernel
theorem dksX13_saysBy_1 : cX13_saysBy.data.toList.drop 14 = dktX13_saysBy_1 := dk_seg dksX13_saysBy_0 14 rfl rfl
theorem dksX13_saysBy_2 : cX13_saysBy.data.toList.drop 44 = dktX13_saysBy_2 := dk_seg dksX13_saysBy_1 30 rfl rfl
theorem dksX13_saysBy_3 : cX13_saysBy.data.toList.drop 68 = dktX13_saysBy_3 := dk_seg dksX13_saysBy_2 24 rfl rfl
theorem dksX13_saysBy_4 : cX13_saysBy.data.toList.drop 91 = dktX13_saysBy_4 := dk_seg dksX13_saysBy_3 23 rfl rfl
theorem dX13_saysBy_0 : decode cX13_saysBy 0 = .ok (.iload_n 0, 1) := dk_26 (dk_at dksX13_saysBy_0 0 rfl rfl)
theorem dX13_saysBy_1 : decode cX13_saysBy 1 = .ok (.bipush 10, 2) := dk_16 10 (dk_at dksX13_saysBy_0 1 rfl rfl)
theorem dX13_saysBy_3 : decode cX13_saysBy 3 = .ok (.irem, 1) := dk_112 (dk_at dksX13_saysBy_0 3 rfl rfl)
theorem dX13_saysBy_4 : decode cX13_saysBy 4 = .ok (.istore_n 2, 1) := dk_61 (dk_at dksX13_saysBy_0 4 rfl rfl)
theorem dX13_saysBy_5 : decode cX13_saysBy 5 = .ok (.iload_n 0, 1) := dk_26 (dk_at dksX13_saysBy_0 5 rfl rfl)
theorem dX13_saysBy_6 : decode cX13_saysBy 6 = .ok (.bipush 10, 2) := dk_16 10 (dk_at dksX13_saysBy_0 6 rfl rfl)
theorem dX13_saysBy_8 : decode cX13_saysBy 8 = .ok (.idiv, 1) := dk_108 (dk_at dksX13_saysBy_0 8 rfl rfl)
theorem dX13_saysBy_9 : decode cX13_saysBy 9 = .ok (.bipush 10, 2) := dk_16 10 (dk_at dksX13_saysBy_0 9 rfl rfl)
theorem dX13_saysBy_11 : decode cX13_saysBy 11 = .ok (.irem, 1) := dk_112 (dk_at dksX13_saysBy_0 11 rfl rfl)
theorem dX13_saysBy_12 : decode cX13_saysBy 12 = .ok (.istore_n 3, 1) := dk_62 (dk_at dksX13_saysBy_0 12 rfl rfl)
theorem dX13_saysBy_13 : decode cX13_saysBy 13 = .ok (.iload_n 1, 1) := dk_27 (dk_at dksX13_saysBy_0 13 rfl rfl)
theorem dX13_saysBy_14 : decode cX13_saysBy 14 = .ok (.tableswitch 80 0 3 #[30, 35, 47, 55], 30) := by decide +kernel
theorem dX13_saysBy_44 : decode cX13_saysBy 44 = .ok (.iload_n 2, 1) := dk_28 (dk_at dksX13_saysBy_2 0 rfl rfl)
theorem dX13_saysBy_45 : decode cX13_saysBy 45 = .ok (.bipush 7, 2) := dk_16 7 (dk_at dksX13_saysBy_2 1 rfl rfl)
theorem dX13_saysBy_47 : decode cX13_saysBy 47 = .ok (.irem, 1) := dk_112 (dk_at dksX13_saysBy_2 3 rfl rfl)
theorem dX13_saysBy_48 : decode cX13_saysBy 48 = .ok (.ireturn, 1) := dk_172 (dk_at dksX13_saysBy_2 4 rfl rfl)
theorem dX13_saysBy_49 : decode cX13_saysBy 49 = .ok (.iload_n 2, 1) := dk_28 (dk_at dksX13_saysBy_2 5 rfl rfl)
theorem dX13_saysBy_50 : decode cX13_saysBy 50 = .ok (.iload_n 3, 1) := dk_29 (dk_at dksX13_saysBy_2 6 rfl rfl)
theorem dX13_saysBy_51 : decode cX13_saysBy 51 = .ok (.iadd, 1) := dk_96 (dk_at dksX13_saysBy_2 7 rfl rfl)
theorem dX13_saysBy_52 : decode cX13_saysBy 52 = .ok (.iload_n 0, 1) := dk_26 (dk_at dksX13_saysBy_2 8 rfl rfl)
theorem dX13_saysBy_53 : decode cX13_saysBy 53 = .ok (.bipush 100, 2) := dk_16 100 (dk_at dksX13_saysBy_2 9 rfl rfl)
theorem dX13_saysBy_55 : decode cX13_saysBy 55 = .ok (.idiv, 1) := dk_108 (dk_at dksX13_saysBy_2 11 rfl rfl)
theorem dX13_saysBy_56 : decode cX13_saysBy 56 = .ok (.iadd, 1) := dk_96 (dk_at dksX13_saysBy_2 12 rfl rfl)
theorem dX13_saysBy_57 : decode cX13_saysBy 57 = .ok (.bipush 7, 2) := dk_16 7 (dk_at dksX13_saysBy_2 13 rfl rfl)
theorem dX13_saysBy_59 : decode cX13_saysBy 59 = .ok (.irem, 1) := dk_112 (dk_at dksX13_saysBy_2 15 rfl rfl)
theorem dX13_saysBy_60 : decode cX13_saysBy 60 = .ok (.ireturn, 1) := dk_172 (dk_at dksX13_saysBy_2 16 rfl rfl)
theorem dX13_saysBy_61 : decode cX13_saysBy 61 = .ok (.iload_n 0, 1) := dk_26 (dk_at dksX13_saysBy_2 17 rfl rfl)
theorem dX13_saysBy_62 : decode cX13_saysBy 62 = .ok (.bipush 100, 2) := dk_16 100 (dk_at dksX13_saysBy_2 18 rfl rfl)
theorem dX13_saysBy_64 : decode cX13_saysBy 64 = .ok (.idiv, 1) := dk_108 (dk_at dksX13_saysBy_2 20 rfl rfl)
theorem dX13_saysBy_65 : decode cX13_saysBy 65 = .ok (.bipush 7, 2) := dk_16 7 (dk_at dksX13_saysBy_2 21 rfl rfl)
theorem dX13_saysBy_67 : decode cX13_saysBy 67 = .ok (.irem, 1) := dk_112 (dk_at dksX13_saysBy_2 23 rfl rfl)
theorem dX13_saysBy_68 : decode cX13_saysBy 68 = .ok (.ireturn, 1) := dk_172 (dk_at dksX13_saysBy_3 0 rfl rfl)
theorem dX13_saysBy_69 : decode cX13_saysBy 69 = .ok (.iload_n 2, 1) := dk_28 (dk_at dksX13_saysBy_3 1 rfl rfl)
theorem dX13_saysBy_70 : decode cX13_saysBy 70 = .ok (.iconst 2, 1) := dk_5 (dk_at dksX13_saysBy_3 2 rfl rfl)
theorem dX13_saysBy_71 : decode cX13_saysBy 71 = .ok (.irem, 1) := dk_112 (dk_at dksX13_saysBy_3 3 rfl rfl)
theorem dX13_saysBy_72 : decode cX13_saysBy 72 = .ok (.iconst 1, 1) := dk_4 (dk_at dksX13_saysBy_3 4 rfl rfl)
theorem dX13_saysBy_73 : decode cX13_saysBy 73 = .ok (.if_icmp .ne 7, 3) := dk_160 0 7 (dk_at dksX13_saysBy_3 5 rfl rfl)
theorem dX13_saysBy_76 : decode cX13_saysBy 76 = .ok (.iconst 0, 1) := dk_3 (dk_at dksX13_saysBy_3 8 rfl rfl)
theorem dX13_saysBy_77 : decode cX13_saysBy 77 = .ok (.goto 16, 3) := dk_167 0 16 (dk_at dksX13_saysBy_3 9 rfl rfl)
theorem dX13_saysBy_80 : decode cX13_saysBy 80 = .ok (.iload_n 3, 1) := dk_29 (dk_at dksX13_saysBy_3 12 rfl rfl)
theorem dX13_saysBy_81 : decode cX13_saysBy 81 = .ok (.iconst 2, 1) := dk_5 (dk_at dksX13_saysBy_3 13 rfl rfl)
theorem dX13_saysBy_82 : decode cX13_saysBy 82 = .ok (.irem, 1) := dk_112 (dk_at dksX13_saysBy_3 14 rfl rfl)
theorem dX13_saysBy_83 : decode cX13_saysBy 83 = .ok (.iconst 1, 1) := dk_4 (dk_at dksX13_saysBy_3 15 rfl rfl)
theorem dX13_saysBy_84 : decode cX13_saysBy 84 = .ok (.if_icmp .ne 7, 3) := dk_160 0 7 (dk_at dksX13_saysBy_3 16 rfl rfl)
theorem dX13_saysBy_87 : decode cX13_saysBy 87 = .ok (.iconst 3, 1) := dk_6 (dk_at dksX13_saysBy_3 19 rfl rfl)
theorem dX13_saysBy_88 : decode cX13_saysBy 88 = .ok (.goto 5, 3) := dk_167 0 5 (dk_at dksX13_saysBy_3 20 rfl rfl)
theorem dX13_saysBy_91 : decode cX13_saysBy 91 = .ok (.bipush 6, 2) := dk_16 6 (dk_at dksX13_saysBy_4 0 rfl rfl)
theorem dX13_saysBy_93 : decode cX13_saysBy 93 = .ok (.ireturn, 1) := dk_172 (dk_at dksX13_saysBy_4 2 rfl rfl)
theorem dX13_saysBy_94 : decode cX13_saysBy 94 = .ok (.iload_n 0, 1) := dk_26 (dk_at dksX13_saysBy_4 3 rfl rfl)
theorem dX13_saysBy_95 : decode cX13_saysBy 95 = .ok (.invokestatic 103, 3) := dk_184 0 103 (dk_at dksX13_saysBy_4 4 rfl rfl)
theorem dX13_saysBy_98 : decode cX13_saysBy 98 = .ok (.bipush 7, 2) := dk_16 7 (dk_at dksX13_saysBy_4 7 rfl rfl)
theorem dX13_saysBy_100 : decode cX13_saysBy 100 = .ok (.irem, 1) := dk_112 (dk_at dksX13_saysBy_4 9 rfl rfl)
theorem dX13_saysBy_101 : decode cX13_saysBy 101 = .ok (.ireturn, 1) := dk_172 (dk_at dksX13_saysBy_4 10 rfl rfl)
abbrev cX13_bits : ByteArray := prog_16_method_8_code
def yX13_bits : MethodName := ⟨RX13, "bits", "(I)I"⟩
def dkwX13_bits_0 : List UInt8 := [3, 60, 26, 61, 28, 153, 0, 15, 132, 1, 1, 28, 28, 4, 100, 126, 61, 167, 255, 243, 27, 172]
abbrev dktX13_bits_0 : List UInt8 := dkwX13_bits_0 ++ []
theorem dksX13_bits_0 : cX13_bits.data.toList.drop 0 = dktX13_bits_0 := by decide +kernel
theorem dX13_bits_0 : decode cX13_bits 0 = .ok (.iconst 0, 1) := dk_3 (dk_at dksX13_bits_0 0 rfl rfl)
theorem dX13_bits_1 : decode cX13_bits 1 = .ok (.istore_n 1, 1) := dk_60 (dk_at dksX13_bits_0 1 rfl rfl)
theorem dX13_bits_2 : decode cX13_bits 2 = .ok (.iload_n 0, 1) := dk_26 (dk_at dksX13_bits_0 2 rfl rfl)
theorem dX13_bits_3 : decode cX13_bits 3 = .ok (.istore_n 2, 1) := dk_61 (dk_at dksX13_bits_0 3 rfl rfl)
theorem dX13_bits_4 : decode cX13_bits 4 = .ok (.iload_n 2, 1) := dk_28 (dk_at dksX13_bits_0 4 rfl rfl)
theorem dX13_bits_5 : decode cX13_bits 5 = .ok (.ifCond .eq 15, 3) := dk_153 0 15 (dk_at dksX13_bits_0 5 rfl rfl)
theorem dX13_bits_8 : decode cX13_bits 8 = .ok (.iinc 1 1, 3) := dk_132 1 1 (dk_at dksX13_bits_0 8 rfl rfl)
theorem dX13_bits_11 : decode cX13_bits 11 = .ok (.iload_n 2, 1) := dk_28 (dk_at dksX13_bits_0 11 rfl rfl)
theorem dX13_bits_12 : decode cX13_bits 12 = .ok (.iload_n 2, 1) := dk_28 (dk_at dksX13_bits_0 12 rfl rfl)
theorem dX13_bits_13 : decode cX13_bits 13 = .ok (.iconst 1, 1) := dk_4 (dk_at dksX13_bits_0 13 rfl rfl)
theorem dX13_bits_14 : decode cX13_bits 14 = .ok (.isub, 1) := dk_100 (dk_at dksX13_bits_0 14 rfl rfl)
theorem dX13_bits_15 : decode cX13_bits 15 = .ok (.iand, 1) := dk_126 (dk_at dksX13_bits_0 15 rfl rfl)
theorem dX13_bits_16 : decode cX13_bits 16 = .ok (.istore_n 2, 1) := dk_61 (dk_at dksX13_bits_0 16 rfl rfl)
theorem dX13_bits_17 : decode cX13_bits 17 = .ok (.goto (-13), 3) := dk_167 255 243 (dk_at dksX13_bits_0 17 rfl rfl)
theorem dX13_bits_20 : decode cX13_bits 20 = .ok (.iload_n 1, 1) := dk_27 (dk_at dksX13_bits_0 20 rfl rfl)
theorem dX13_bits_21 : decode cX13_bits 21 = .ok (.ireturn, 1) := dk_172 (dk_at dksX13_bits_0 21 rfl rfl)
abbrev cX13_jumper : ByteArray := prog_16_method_28_code
def yX13_jumper : MethodName := ⟨RX13, "jumper", "(II)I"⟩
def dkwX13_jumper_2 : List UInt8 := [182, 0, 116, 172]
abbrev dktX13_jumper_2 : List UInt8 := dkwX13_jumper_2 ++ []
def dkwX13_jumper_1 : List UInt8 := [42, 180, 0, 9, 4, 46, 16, 8, 160, 0, 12, 42, 18, 115, 182, 0, 72, 167, 0, 9, 42, 27, 28]
abbrev dktX13_jumper_1 : List UInt8 := dkwX13_jumper_1 ++ dktX13_jumper_2
def dkwX13_jumper_0 : List UInt8 := [27, 184, 0, 112, 153, 0, 13, 28, 3, 16, 99, 184, 0, 76, 154, 0, 10, 42, 18, 66, 182, 0, 72, 172]
abbrev dktX13_jumper_0 : List UInt8 := dkwX13_jumper_0 ++ dktX13_jumper_1
theorem dksX13_jumper_0 : cX13_jumper.data.toList.drop 0 = dktX13_jumper_0 := by decide +kernel
theorem dksX13_jumper_1 : cX13_jumper.data.toList.drop 24 = dktX13_jumper_1 := dk_seg dksX13_jumper_0 24 rfl rfl
theorem dksX13_jumper_2 : cX13_jumper.data.toList.drop 47 = dktX13_jumper_2 := dk_seg dksX13_jumper_1 23 rfl rfl
theorem dX13_jumper_0 : decode cX13_jumper 0 = .ok (.iload_n 1, 1) := dk_27 (dk_at dksX13_jumper_0 0 rfl rfl)
theorem dX13_jumper_1 : decode cX13_jumper 1 = .ok (.invokestatic 112, 3) := dk_184 0 112 (dk_at dksX13_jumper_0 1 rfl rfl)
theorem dX13_jumper_4 : decode cX13_jumper 4 = .ok (.ifCond .eq 13, 3) := dk_153 0 13 (dk_at dksX13_jumper_0 4 rfl rfl)
theorem dX13_jumper_7 : decode cX13_jumper 7 = .ok (.iload_n 2, 1) := dk_28 (dk_at dksX13_jumper_0 7 rfl rfl)
theorem dX13_jumper_8 : decode cX13_jumper 8 = .ok (.iconst 0, 1) := dk_3 (dk_at dksX13_jumper_0 8 rfl rfl)
theorem dX13_jumper_9 : decode cX13_jumper 9 = .ok (.bipush 99, 2) := dk_16 99 (dk_at dksX13_jumper_0 9 rfl rfl)
theorem dX13_jumper_11 : decode cX13_jumper 11 = .ok (.invokestatic 76, 3) := dk_184 0 76 (dk_at dksX13_jumper_0 11 rfl rfl)
theorem dX13_jumper_14 : decode cX13_jumper 14 = .ok (.ifCond .ne 10, 3) := dk_154 0 10 (dk_at dksX13_jumper_0 14 rfl rfl)
theorem dX13_jumper_17 : decode cX13_jumper 17 = .ok (.aload_n 0, 1) := dk_42 (dk_at dksX13_jumper_0 17 rfl rfl)
theorem dX13_jumper_18 : decode cX13_jumper 18 = .ok (.ldc 66, 2) := dk_18 66 (dk_at dksX13_jumper_0 18 rfl rfl)
theorem dX13_jumper_20 : decode cX13_jumper 20 = .ok (.invokevirtual 72, 3) := dk_182 0 72 (dk_at dksX13_jumper_0 20 rfl rfl)
theorem dX13_jumper_23 : decode cX13_jumper 23 = .ok (.ireturn, 1) := dk_172 (dk_at dksX13_jumper_0 23 rfl rfl)
theorem dX13_jumper_24 : decode cX13_jumper 24 = .ok (.aload_n 0, 1) := dk_42 (dk_at dksX13_jumper_1 0 rfl rfl)
theorem dX13_jumper_25 : decode cX13_jumper 25 = .ok (.getfield 9, 3) := dk_180 0 9 (dk_at dksX13_jumper_1 1 rfl rfl)
theorem dX13_jumper_28 : decode cX13_jumper 28 = .ok (.iconst 1, 1) := dk_4 (dk_at dksX13_jumper_1 4 rfl rfl)
theorem dX13_jumper_29 : decode cX13_jumper 29 = .ok (.iaload, 1) := dk_46 (dk_at dksX13_jumper_1 5 rfl rfl)
theorem dX13_jumper_30 : decode cX13_jumper 30 = .ok (.bipush 8, 2) := dk_16 8 (dk_at dksX13_jumper_1 6 rfl rfl)
theorem dX13_jumper_32 : decode cX13_jumper 32 = .ok (.if_icmp .ne 12, 3) := dk_160 0 12 (dk_at dksX13_jumper_1 8 rfl rfl)
theorem dX13_jumper_35 : decode cX13_jumper 35 = .ok (.aload_n 0, 1) := dk_42 (dk_at dksX13_jumper_1 11 rfl rfl)
theorem dX13_jumper_36 : decode cX13_jumper 36 = .ok (.ldc 115, 2) := dk_18 115 (dk_at dksX13_jumper_1 12 rfl rfl)
theorem dX13_jumper_38 : decode cX13_jumper 38 = .ok (.invokevirtual 72, 3) := dk_182 0 72 (dk_at dksX13_jumper_1 14 rfl rfl)
theorem dX13_jumper_41 : decode cX13_jumper 41 = .ok (.goto 9, 3) := dk_167 0 9 (dk_at dksX13_jumper_1 17 rfl rfl)
theorem dX13_jumper_44 : decode cX13_jumper 44 = .ok (.aload_n 0, 1) := dk_42 (dk_at dksX13_jumper_1 20 rfl rfl)
theorem dX13_jumper_45 : decode cX13_jumper 45 = .ok (.iload_n 1, 1) := dk_27 (dk_at dksX13_jumper_1 21 rfl rfl)
theorem dX13_jumper_46 : decode cX13_jumper 46 = .ok (.iload_n 2, 1) := dk_28 (dk_at dksX13_jumper_1 22 rfl rfl)
theorem dX13_jumper_47 : decode cX13_jumper 47 = .ok (.invokevirtual 116, 3) := dk_182 0 116 (dk_at dksX13_jumper_2 0 rfl rfl)
theorem dX13_jumper_50 : decode cX13_jumper 50 = .ok (.ireturn, 1) := dk_172 (dk_at dksX13_jumper_2 3 rfl rfl)
abbrev cX13_isKind : ByteArray := prog_16_method_24_code
def yX13_isKind : MethodName := ⟨RX13, "isKind", "(I)Z"⟩
def dkwX13_isKind_0 : List UInt8 := [26, 3, 16, 6, 184, 0, 76, 172]
abbrev dktX13_isKind_0 : List UInt8 := dkwX13_isKind_0 ++ []
theorem dksX13_isKind_0 : cX13_isKind.data.toList.drop 0 = dktX13_isKind_0 := by decide +kernel
theorem dX13_isKind_0 : decode cX13_isKind 0 = .ok (.iload_n 0, 1) := dk_26 (dk_at dksX13_isKind_0 0 rfl rfl)
theorem dX13_isKind_1 : decode cX13_isKind 1 = .ok (.iconst 0, 1) := dk_3 (dk_at dksX13_isKind_0 1 rfl rfl)
theorem dX13_isKind_2 : decode cX13_isKind 2 = .ok (.bipush 6, 2) := dk_16 6 (dk_at dksX13_isKind_0 2 rfl rfl)
theorem dX13_isKind_4 : decode cX13_isKind 4 = .ok (.invokestatic 76, 3) := dk_184 0 76 (dk_at dksX13_isKind_0 4 rfl rfl)
theorem dX13_isKind_7 : decode cX13_isKind 7 = .ok (.ireturn, 1) := dk_172 (dk_at dksX13_isKind_0 7 rfl rfl)
abbrev cX13_comes : ByteArray := prog_16_method_27_code
def yX13_comes : MethodName := ⟨RX13, "comes", "(II)I"⟩
def dkwX13_comes_2 : List UInt8 := [180, 0, 9, 29, 4, 184, 0, 109, 28, 79, 42, 180, 0, 9, 4, 92, 46, 4, 96, 79, 29, 172]
abbrev dktX13_comes_2 : List UInt8 := dkwX13_comes_2 ++ []
def dkwX13_comes_1 : List UInt8 := [184, 0, 109, 3, 79, 132, 4, 1, 167, 255, 235, 42, 180, 0, 9, 29, 3, 184, 0, 109, 27, 79, 42]
abbrev dktX13_comes_1 : List UInt8 := dkwX13_comes_1 ++ dktX13_comes_2
def dkwX13_comes_0 : List UInt8 := [42, 180, 0, 9, 4, 46, 62, 3, 54, 4, 21, 4, 8, 162, 0, 21, 42, 180, 0, 9, 29, 21, 4]
abbrev dktX13_comes_0 : List UInt8 := dkwX13_comes_0 ++ dktX13_comes_1
theorem dksX13_comes_0 : cX13_comes.data.toList.drop 0 = dktX13_comes_0 := by decide +kernel
theorem dksX13_comes_1 : cX13_comes.data.toList.drop 23 = dktX13_comes_1 := dk_seg dksX13_comes_0 23 rfl rfl
theorem dksX13_comes_2 : cX13_comes.data.toList.drop 46 = dktX13_comes_2 := dk_seg dksX13_comes_1 23 rfl rfl
theorem dX13_comes_0 : decode cX13_comes 0 = .ok (.aload_n 0, 1) := dk_42 (dk_at dksX13_comes_0 0 rfl rfl)
theorem dX13_comes_1 : decode cX13_comes 1 = .ok (.getfield 9, 3) := dk_180 0 9 (dk_at dksX13_comes_0 1 rfl rfl)
theorem dX13_comes_4 : decode cX13_comes 4 = .ok (.iconst 1, 1) := dk_4 (dk_at dksX13_comes_0 4 rfl rfl)
theorem dX13_comes_5 : decode cX13_comes 5 = .ok (.iaload, 1) := dk_46 (dk_at dksX13_comes_0 5 rfl rfl)
theorem dX13_comes_6 : decode cX13_comes 6 = .ok (.istore_n 3, 1) := dk_62 (dk_at dksX13_comes_0 6 rfl rfl)
theorem dX13_comes_7 : decode cX13_comes 7 = .ok (.iconst 0, 1) := dk_3 (dk_at dksX13_comes_0 7 rfl rfl)
theorem dX13_comes_8 : decode cX13_comes 8 = .ok (.istore 4, 2) := dk_54 4 (dk_at dksX13_comes_0 8 rfl rfl)
theorem dX13_comes_10 : decode cX13_comes 10 = .ok (.iload 4, 2) := dk_21 4 (dk_at dksX13_comes_0 10 rfl rfl)
theorem dX13_comes_12 : decode cX13_comes 12 = .ok (.iconst 5, 1) := dk_8 (dk_at dksX13_comes_0 12 rfl rfl)
theorem dX13_comes_13 : decode cX13_comes 13 = .ok (.if_icmp .ge 21, 3) := dk_162 0 21 (dk_at dksX13_comes_0 13 rfl rfl)
theorem dX13_comes_16 : decode cX13_comes 16 = .ok (.aload_n 0, 1) := dk_42 (dk_at dksX13_comes_0 16 rfl rfl)
theorem dX13_comes_17 : decode cX13_comes 17 = .ok (.getfield 9, 3) := dk_180 0 9 (dk_at dksX13_comes_0 17 rfl rfl)
theorem dX13_comes_20 : decode cX13_comes 20 = .ok (.iload_n 3, 1) := dk_29 (dk_at dksX13_comes_0 20 rfl rfl)
theorem dX13_comes_21 : decode cX13_comes 21 = .ok (.iload 4, 2) := dk_21 4 (dk_at dksX13_comes_0 21 rfl rfl)
theorem dX13_comes_23 : decode cX13_comes 23 = .ok (.invokestatic 109, 3) := dk_184 0 109 (dk_at dksX13_comes_1 0 rfl rfl)
theorem dX13_comes_26 : decode cX13_comes 26 = .ok (.iconst 0, 1) := dk_3 (dk_at dksX13_comes_1 3 rfl rfl)
theorem dX13_comes_27 : decode cX13_comes 27 = .ok (.iastore, 1) := dk_79 (dk_at dksX13_comes_1 4 rfl rfl)
theorem dX13_comes_28 : decode cX13_comes 28 = .ok (.iinc 4 1, 3) := dk_132 4 1 (dk_at dksX13_comes_1 5 rfl rfl)
theorem dX13_comes_31 : decode cX13_comes 31 = .ok (.goto (-21), 3) := dk_167 255 235 (dk_at dksX13_comes_1 8 rfl rfl)
theorem dX13_comes_34 : decode cX13_comes 34 = .ok (.aload_n 0, 1) := dk_42 (dk_at dksX13_comes_1 11 rfl rfl)
theorem dX13_comes_35 : decode cX13_comes 35 = .ok (.getfield 9, 3) := dk_180 0 9 (dk_at dksX13_comes_1 12 rfl rfl)
theorem dX13_comes_38 : decode cX13_comes 38 = .ok (.iload_n 3, 1) := dk_29 (dk_at dksX13_comes_1 15 rfl rfl)
theorem dX13_comes_39 : decode cX13_comes 39 = .ok (.iconst 0, 1) := dk_3 (dk_at dksX13_comes_1 16 rfl rfl)
theorem dX13_comes_40 : decode cX13_comes 40 = .ok (.invokestatic 109, 3) := dk_184 0 109 (dk_at dksX13_comes_1 17 rfl rfl)
theorem dX13_comes_43 : decode cX13_comes 43 = .ok (.iload_n 1, 1) := dk_27 (dk_at dksX13_comes_1 20 rfl rfl)
theorem dX13_comes_44 : decode cX13_comes 44 = .ok (.iastore, 1) := dk_79 (dk_at dksX13_comes_1 21 rfl rfl)
theorem dX13_comes_45 : decode cX13_comes 45 = .ok (.aload_n 0, 1) := dk_42 (dk_at dksX13_comes_1 22 rfl rfl)
theorem dX13_comes_46 : decode cX13_comes 46 = .ok (.getfield 9, 3) := dk_180 0 9 (dk_at dksX13_comes_2 0 rfl rfl)
theorem dX13_comes_49 : decode cX13_comes 49 = .ok (.iload_n 3, 1) := dk_29 (dk_at dksX13_comes_2 3 rfl rfl)
theorem dX13_comes_50 : decode cX13_comes 50 = .ok (.iconst 1, 1) := dk_4 (dk_at dksX13_comes_2 4 rfl rfl)
theorem dX13_comes_51 : decode cX13_comes 51 = .ok (.invokestatic 109, 3) := dk_184 0 109 (dk_at dksX13_comes_2 5 rfl rfl)
theorem dX13_comes_54 : decode cX13_comes 54 = .ok (.iload_n 2, 1) := dk_28 (dk_at dksX13_comes_2 8 rfl rfl)
theorem dX13_comes_55 : decode cX13_comes 55 = .ok (.iastore, 1) := dk_79 (dk_at dksX13_comes_2 9 rfl rfl)
theorem dX13_comes_56 : decode cX13_comes 56 = .ok (.aload_n 0, 1) := dk_42 (dk_at dksX13_comes_2 10 rfl rfl)
theorem dX13_comes_57 : decode cX13_comes 57 = .ok (.getfield 9, 3) := dk_180 0 9 (dk_at dksX13_comes_2 11 rfl rfl)
theorem dX13_comes_60 : decode cX13_comes 60 = .ok (.iconst 1, 1) := dk_4 (dk_at dksX13_comes_2 14 rfl rfl)
theorem dX13_comes_61 : decode cX13_comes 61 = .ok (.dup2, 1) := dk_92 (dk_at dksX13_comes_2 15 rfl rfl)
theorem dX13_comes_62 : decode cX13_comes 62 = .ok (.iaload, 1) := dk_46 (dk_at dksX13_comes_2 16 rfl rfl)
theorem dX13_comes_63 : decode cX13_comes 63 = .ok (.iconst 1, 1) := dk_4 (dk_at dksX13_comes_2 17 rfl rfl)
theorem dX13_comes_64 : decode cX13_comes 64 = .ok (.iadd, 1) := dk_96 (dk_at dksX13_comes_2 18 rfl rfl)
theorem dX13_comes_65 : decode cX13_comes 65 = .ok (.iastore, 1) := dk_79 (dk_at dksX13_comes_2 19 rfl rfl)
theorem dX13_comes_66 : decode cX13_comes 66 = .ok (.iload_n 3, 1) := dk_29 (dk_at dksX13_comes_2 20 rfl rfl)
theorem dX13_comes_67 : decode cX13_comes 67 = .ok (.ireturn, 1) := dk_172 (dk_at dksX13_comes_2 21 rfl rfl)
abbrev cX13_jumperAt : ByteArray := prog_16_method_25_code
def yX13_jumperAt : MethodName := ⟨RX13, "jumperAt", "(II)I"⟩
def dkwX13_jumperAt_0 : List UInt8 := [16, 44, 8, 26, 104, 96, 27, 96, 172]
abbrev dktX13_jumperAt_0 : List UInt8 := dkwX13_jumperAt_0 ++ []
theorem dksX13_jumperAt_0 : cX13_jumperAt.data.toList.drop 0 = dktX13_jumperAt_0 := by decide +kernel
theorem dX13_jumperAt_0 : decode cX13_jumperAt 0 = .ok (.bipush 44, 2) := dk_16 44 (dk_at dksX13_jumperAt_0 0 rfl rfl)
theorem dX13_jumperAt_2 : decode cX13_jumperAt 2 = .ok (.iconst 5, 1) := dk_8 (dk_at dksX13_jumperAt_0 2 rfl rfl)
theorem dX13_jumperAt_3 : decode cX13_jumperAt 3 = .ok (.iload_n 0, 1) := dk_26 (dk_at dksX13_jumperAt_0 3 rfl rfl)
theorem dX13_jumperAt_4 : decode cX13_jumperAt 4 = .ok (.imul, 1) := dk_104 (dk_at dksX13_jumperAt_0 4 rfl rfl)
theorem dX13_jumperAt_5 : decode cX13_jumperAt 5 = .ok (.iadd, 1) := dk_96 (dk_at dksX13_jumperAt_0 5 rfl rfl)
theorem dX13_jumperAt_6 : decode cX13_jumperAt 6 = .ok (.iload_n 1, 1) := dk_27 (dk_at dksX13_jumperAt_0 6 rfl rfl)
theorem dX13_jumperAt_7 : decode cX13_jumperAt 7 = .ok (.iadd, 1) := dk_96 (dk_at dksX13_jumperAt_0 7 rfl rfl)
theorem dX13_jumperAt_8 : decode cX13_jumperAt 8 = .ok (.ireturn, 1) := dk_172 (dk_at dksX13_jumperAt_0 8 rfl rfl)
abbrev cX13_of : ByteArray := prog_16_method_32_code
def yX13_of : MethodName := ⟨RX13, "of", "(II)I"⟩
def dkwX13_of_3 : List UInt8 := [182, 0, 80, 172]
abbrev dktX13_of_3 : List UInt8 := dkwX13_of_3 ++ []
def dkwX13_of_2 : List UInt8 := [182, 0, 127, 167, 0, 22, 28, 16, 6, 160, 0, 11, 42, 27, 182, 0, 130, 167, 0, 8, 42, 27]
abbrev dktX13_of_2 : List UInt8 := dkwX13_of_2 ++ dktX13_of_3
def dkwX13_of_1 : List UInt8 := [172, 28, 8, 162, 0, 12, 42, 27, 28, 182, 0, 119, 167, 0, 35, 28, 8, 160, 0, 11, 42, 27]
abbrev dktX13_of_1 : List UInt8 := dkwX13_of_1 ++ dktX13_of_2
def dkwX13_of_0 : List UInt8 := [42, 27, 182, 0, 87, 153, 0, 13, 28, 3, 16, 7, 184, 0, 76, 154, 0, 10, 42, 18, 66, 182, 0, 72]
abbrev dktX13_of_0 : List UInt8 := dkwX13_of_0 ++ dktX13_of_1
theorem dksX13_of_0 : cX13_of.data.toList.drop 0 = dktX13_of_0 := by decide +kernel
theorem dksX13_of_1 : cX13_of.data.toList.drop 24 = dktX13_of_1 := dk_seg dksX13_of_0 24 rfl rfl
theorem dksX13_of_2 : cX13_of.data.toList.drop 46 = dktX13_of_2 := dk_seg dksX13_of_1 22 rfl rfl
theorem dksX13_of_3 : cX13_of.data.toList.drop 68 = dktX13_of_3 := dk_seg dksX13_of_2 22 rfl rfl
theorem dX13_of_0 : decode cX13_of 0 = .ok (.aload_n 0, 1) := dk_42 (dk_at dksX13_of_0 0 rfl rfl)
theorem dX13_of_1 : decode cX13_of 1 = .ok (.iload_n 1, 1) := dk_27 (dk_at dksX13_of_0 1 rfl rfl)
theorem dX13_of_2 : decode cX13_of 2 = .ok (.invokevirtual 87, 3) := dk_182 0 87 (dk_at dksX13_of_0 2 rfl rfl)
theorem dX13_of_5 : decode cX13_of 5 = .ok (.ifCond .eq 13, 3) := dk_153 0 13 (dk_at dksX13_of_0 5 rfl rfl)
theorem dX13_of_8 : decode cX13_of 8 = .ok (.iload_n 2, 1) := dk_28 (dk_at dksX13_of_0 8 rfl rfl)
theorem dX13_of_9 : decode cX13_of 9 = .ok (.iconst 0, 1) := dk_3 (dk_at dksX13_of_0 9 rfl rfl)
theorem dX13_of_10 : decode cX13_of 10 = .ok (.bipush 7, 2) := dk_16 7 (dk_at dksX13_of_0 10 rfl rfl)
theorem dX13_of_12 : decode cX13_of 12 = .ok (.invokestatic 76, 3) := dk_184 0 76 (dk_at dksX13_of_0 12 rfl rfl)
theorem dX13_of_15 : decode cX13_of 15 = .ok (.ifCond .ne 10, 3) := dk_154 0 10 (dk_at dksX13_of_0 15 rfl rfl)
theorem dX13_of_18 : decode cX13_of 18 = .ok (.aload_n 0, 1) := dk_42 (dk_at dksX13_of_0 18 rfl rfl)
theorem dX13_of_19 : decode cX13_of 19 = .ok (.ldc 66, 2) := dk_18 66 (dk_at dksX13_of_0 19 rfl rfl)
theorem dX13_of_21 : decode cX13_of 21 = .ok (.invokevirtual 72, 3) := dk_182 0 72 (dk_at dksX13_of_0 21 rfl rfl)
theorem dX13_of_24 : decode cX13_of 24 = .ok (.ireturn, 1) := dk_172 (dk_at dksX13_of_1 0 rfl rfl)
theorem dX13_of_25 : decode cX13_of 25 = .ok (.iload_n 2, 1) := dk_28 (dk_at dksX13_of_1 1 rfl rfl)
theorem dX13_of_26 : decode cX13_of 26 = .ok (.iconst 5, 1) := dk_8 (dk_at dksX13_of_1 2 rfl rfl)
theorem dX13_of_27 : decode cX13_of 27 = .ok (.if_icmp .ge 12, 3) := dk_162 0 12 (dk_at dksX13_of_1 3 rfl rfl)
theorem dX13_of_30 : decode cX13_of 30 = .ok (.aload_n 0, 1) := dk_42 (dk_at dksX13_of_1 6 rfl rfl)
theorem dX13_of_31 : decode cX13_of 31 = .ok (.iload_n 1, 1) := dk_27 (dk_at dksX13_of_1 7 rfl rfl)
theorem dX13_of_32 : decode cX13_of 32 = .ok (.iload_n 2, 1) := dk_28 (dk_at dksX13_of_1 8 rfl rfl)
theorem dX13_of_33 : decode cX13_of 33 = .ok (.invokevirtual 119, 3) := dk_182 0 119 (dk_at dksX13_of_1 9 rfl rfl)
theorem dX13_of_36 : decode cX13_of 36 = .ok (.goto 35, 3) := dk_167 0 35 (dk_at dksX13_of_1 12 rfl rfl)
theorem dX13_of_39 : decode cX13_of 39 = .ok (.iload_n 2, 1) := dk_28 (dk_at dksX13_of_1 15 rfl rfl)
theorem dX13_of_40 : decode cX13_of 40 = .ok (.iconst 5, 1) := dk_8 (dk_at dksX13_of_1 16 rfl rfl)
theorem dX13_of_41 : decode cX13_of 41 = .ok (.if_icmp .ne 11, 3) := dk_160 0 11 (dk_at dksX13_of_1 17 rfl rfl)
theorem dX13_of_44 : decode cX13_of 44 = .ok (.aload_n 0, 1) := dk_42 (dk_at dksX13_of_1 20 rfl rfl)
theorem dX13_of_45 : decode cX13_of 45 = .ok (.iload_n 1, 1) := dk_27 (dk_at dksX13_of_1 21 rfl rfl)
theorem dX13_of_46 : decode cX13_of 46 = .ok (.invokevirtual 127, 3) := dk_182 0 127 (dk_at dksX13_of_2 0 rfl rfl)
theorem dX13_of_49 : decode cX13_of 49 = .ok (.goto 22, 3) := dk_167 0 22 (dk_at dksX13_of_2 3 rfl rfl)
theorem dX13_of_52 : decode cX13_of 52 = .ok (.iload_n 2, 1) := dk_28 (dk_at dksX13_of_2 6 rfl rfl)
theorem dX13_of_53 : decode cX13_of 53 = .ok (.bipush 6, 2) := dk_16 6 (dk_at dksX13_of_2 7 rfl rfl)
theorem dX13_of_55 : decode cX13_of 55 = .ok (.if_icmp .ne 11, 3) := dk_160 0 11 (dk_at dksX13_of_2 9 rfl rfl)
theorem dX13_of_58 : decode cX13_of 58 = .ok (.aload_n 0, 1) := dk_42 (dk_at dksX13_of_2 12 rfl rfl)
theorem dX13_of_59 : decode cX13_of 59 = .ok (.iload_n 1, 1) := dk_27 (dk_at dksX13_of_2 13 rfl rfl)
theorem dX13_of_60 : decode cX13_of 60 = .ok (.invokevirtual 130, 3) := dk_182 0 130 (dk_at dksX13_of_2 14 rfl rfl)
theorem dX13_of_63 : decode cX13_of 63 = .ok (.goto 8, 3) := dk_167 0 8 (dk_at dksX13_of_2 17 rfl rfl)
theorem dX13_of_66 : decode cX13_of 66 = .ok (.aload_n 0, 1) := dk_42 (dk_at dksX13_of_2 20 rfl rfl)
theorem dX13_of_67 : decode cX13_of 67 = .ok (.iload_n 1, 1) := dk_27 (dk_at dksX13_of_2 21 rfl rfl)
theorem dX13_of_68 : decode cX13_of 68 = .ok (.invokevirtual 80, 3) := dk_182 0 80 (dk_at dksX13_of_3 0 rfl rfl)
theorem dX13_of_71 : decode cX13_of 71 = .ok (.ireturn, 1) := dk_172 (dk_at dksX13_of_3 3 rfl rfl)
abbrev cX13_jumperIs : ByteArray := prog_16_method_26_code
def yX13_jumperIs : MethodName := ⟨RX13, "jumperIs", "(II)I"⟩
def dkwX13_jumperIs_0 : List UInt8 := [42, 180, 0, 9, 27, 28, 184, 0, 109, 46, 172]
abbrev dktX13_jumperIs_0 : List UInt8 := dkwX13_jumperIs_0 ++ []
theorem dksX13_jumperIs_0 : cX13_jumperIs.data.toList.drop 0 = dktX13_jumperIs_0 := by decide +kernel
theorem dX13_jumperIs_0 : decode cX13_jumperIs 0 = .ok (.aload_n 0, 1) := dk_42 (dk_at dksX13_jumperIs_0 0 rfl rfl)
theorem dX13_jumperIs_1 : decode cX13_jumperIs 1 = .ok (.getfield 9, 3) := dk_180 0 9 (dk_at dksX13_jumperIs_0 1 rfl rfl)
theorem dX13_jumperIs_4 : decode cX13_jumperIs 4 = .ok (.iload_n 1, 1) := dk_27 (dk_at dksX13_jumperIs_0 4 rfl rfl)
theorem dX13_jumperIs_5 : decode cX13_jumperIs 5 = .ok (.iload_n 2, 1) := dk_28 (dk_at dksX13_jumperIs_0 5 rfl rfl)
theorem dX13_jumperIs_6 : decode cX13_jumperIs 6 = .ok (.invokestatic 109, 3) := dk_184 0 109 (dk_at dksX13_jumperIs_0 6 rfl rfl)
theorem dX13_jumperIs_9 : decode cX13_jumperIs 9 = .ok (.iaload, 1) := dk_46 (dk_at dksX13_jumperIs_0 9 rfl rfl)
theorem dX13_jumperIs_10 : decode cX13_jumperIs 10 = .ok (.ireturn, 1) := dk_172 (dk_at dksX13_jumperIs_0 10 rfl rfl)
abbrev cX13_high : ByteArray := prog_16_method_29_code
def yX13_high : MethodName := ⟨RX13, "high", "(I)I"⟩
def dkwX13_high_5 : List UInt8 := [180, 0, 9, 3, 46, 5, 112, 4, 160, 0, 7, 3, 167, 0, 4, 28, 172, 28, 172]
abbrev dktX13_high_5 : List UInt8 := dkwX13_high_5 ++ []
def dkwX13_high_4 : List UInt8 := [172, 42, 27, 5, 182, 0, 119, 16, 20, 162, 0, 10, 29, 16, 10, 96, 167, 0, 4, 29, 172, 42]
abbrev dktX13_high_4 : List UInt8 := dkwX13_high_4 ++ dktX13_high_5
def dkwX13_high_3 : List UInt8 := [28, 5, 108, 172, 28, 5, 108, 16, 30, 96, 42, 180, 0, 9, 8, 46, 100, 172, 28, 16, 10, 96, 172, 29]
abbrev dktX13_high_3 : List UInt8 := dkwX13_high_3 ++ dktX13_high_4
def dkwX13_high_2 : List UInt8 := [170, 0, 0, 0, 0, 101, 0, 0, 0, 1, 0, 0, 0, 6, 0, 0, 0, 38, 0, 0, 0, 56, 0, 0, 0, 61, 0, 0, 0, 63, 0, 0, 0, 83, 0, 0, 0, 42]
abbrev dktX13_high_2 : List UInt8 := dkwX13_high_2 ++ dktX13_high_3
def dkwX13_high_1 : List UInt8 := [42, 180, 0, 9, 7, 46, 100, 62, 42, 27, 3, 182, 0, 119]
abbrev dktX13_high_1 : List UInt8 := dkwX13_high_1 ++ dktX13_high_2
def dkwX13_high_0 : List UInt8 := [3, 42, 27, 4, 182, 0, 119, 42, 27, 5, 182, 0, 119, 7, 108, 100, 184, 0, 122, 61, 28, 16, 15, 96]
abbrev dktX13_high_0 : List UInt8 := dkwX13_high_0 ++ dktX13_high_1
theorem dksX13_high_0 : cX13_high.data.toList.drop 0 = dktX13_high_0 := by decide +kernel
theorem dksX13_high_1 : cX13_high.data.toList.drop 24 = dktX13_high_1 := dk_seg dksX13_high_0 24 rfl rfl
theorem dksX13_high_2 : cX13_high.data.toList.drop 38 = dktX13_high_2 := dk_seg dksX13_high_1 14 rfl rfl
theorem dksX13_high_3 : cX13_high.data.toList.drop 76 = dktX13_high_3 := dk_seg dksX13_high_2 38 rfl rfl
theorem dksX13_high_4 : cX13_high.data.toList.drop 100 = dktX13_high_4 := dk_seg dksX13_high_3 24 rfl rfl
theorem dksX13_high_5 : cX13_high.data.toList.drop 122 = dktX13_high_5 := dk_seg dksX13_high_4 22 rfl rfl
theorem dX13_high_0 : decode cX13_high 0 = .ok (.iconst 0, 1) := dk_3 (dk_at dksX13_high_0 0 rfl rfl)
theorem dX13_high_1 : decode cX13_high 1 = .ok (.aload_n 0, 1) := dk_42 (dk_at dksX13_high_0 1 rfl rfl)
theorem dX13_high_2 : decode cX13_high 2 = .ok (.iload_n 1, 1) := dk_27 (dk_at dksX13_high_0 2 rfl rfl)
theorem dX13_high_3 : decode cX13_high 3 = .ok (.iconst 1, 1) := dk_4 (dk_at dksX13_high_0 3 rfl rfl)
theorem dX13_high_4 : decode cX13_high 4 = .ok (.invokevirtual 119, 3) := dk_182 0 119 (dk_at dksX13_high_0 4 rfl rfl)
theorem dX13_high_7 : decode cX13_high 7 = .ok (.aload_n 0, 1) := dk_42 (dk_at dksX13_high_0 7 rfl rfl)
theorem dX13_high_8 : decode cX13_high 8 = .ok (.iload_n 1, 1) := dk_27 (dk_at dksX13_high_0 8 rfl rfl)
theorem dX13_high_9 : decode cX13_high 9 = .ok (.iconst 2, 1) := dk_5 (dk_at dksX13_high_0 9 rfl rfl)
theorem dX13_high_10 : decode cX13_high 10 = .ok (.invokevirtual 119, 3) := dk_182 0 119 (dk_at dksX13_high_0 10 rfl rfl)
theorem dX13_high_13 : decode cX13_high 13 = .ok (.iconst 4, 1) := dk_7 (dk_at dksX13_high_0 13 rfl rfl)
theorem dX13_high_14 : decode cX13_high 14 = .ok (.idiv, 1) := dk_108 (dk_at dksX13_high_0 14 rfl rfl)
theorem dX13_high_15 : decode cX13_high 15 = .ok (.isub, 1) := dk_100 (dk_at dksX13_high_0 15 rfl rfl)
theorem dX13_high_16 : decode cX13_high 16 = .ok (.invokestatic 122, 3) := dk_184 0 122 (dk_at dksX13_high_0 16 rfl rfl)
theorem dX13_high_19 : decode cX13_high 19 = .ok (.istore_n 2, 1) := dk_61 (dk_at dksX13_high_0 19 rfl rfl)
theorem dX13_high_20 : decode cX13_high 20 = .ok (.iload_n 2, 1) := dk_28 (dk_at dksX13_high_0 20 rfl rfl)
theorem dX13_high_21 : decode cX13_high 21 = .ok (.bipush 15, 2) := dk_16 15 (dk_at dksX13_high_0 21 rfl rfl)
theorem dX13_high_23 : decode cX13_high 23 = .ok (.iadd, 1) := dk_96 (dk_at dksX13_high_0 23 rfl rfl)
theorem dX13_high_24 : decode cX13_high 24 = .ok (.aload_n 0, 1) := dk_42 (dk_at dksX13_high_1 0 rfl rfl)
theorem dX13_high_25 : decode cX13_high 25 = .ok (.getfield 9, 3) := dk_180 0 9 (dk_at dksX13_high_1 1 rfl rfl)
theorem dX13_high_28 : decode cX13_high 28 = .ok (.iconst 4, 1) := dk_7 (dk_at dksX13_high_1 4 rfl rfl)
theorem dX13_high_29 : decode cX13_high 29 = .ok (.iaload, 1) := dk_46 (dk_at dksX13_high_1 5 rfl rfl)
theorem dX13_high_30 : decode cX13_high 30 = .ok (.isub, 1) := dk_100 (dk_at dksX13_high_1 6 rfl rfl)
theorem dX13_high_31 : decode cX13_high 31 = .ok (.istore_n 3, 1) := dk_62 (dk_at dksX13_high_1 7 rfl rfl)
theorem dX13_high_32 : decode cX13_high 32 = .ok (.aload_n 0, 1) := dk_42 (dk_at dksX13_high_1 8 rfl rfl)
theorem dX13_high_33 : decode cX13_high 33 = .ok (.iload_n 1, 1) := dk_27 (dk_at dksX13_high_1 9 rfl rfl)
theorem dX13_high_34 : decode cX13_high 34 = .ok (.iconst 0, 1) := dk_3 (dk_at dksX13_high_1 10 rfl rfl)
theorem dX13_high_35 : decode cX13_high 35 = .ok (.invokevirtual 119, 3) := dk_182 0 119 (dk_at dksX13_high_1 11 rfl rfl)
theorem dX13_high_38 : decode cX13_high 38 = .ok (.tableswitch 101 1 6 #[38, 56, 61, 63, 83, 42], 38) := by decide +kernel
theorem dX13_high_76 : decode cX13_high 76 = .ok (.iload_n 2, 1) := dk_28 (dk_at dksX13_high_3 0 rfl rfl)
theorem dX13_high_77 : decode cX13_high 77 = .ok (.iconst 2, 1) := dk_5 (dk_at dksX13_high_3 1 rfl rfl)
theorem dX13_high_78 : decode cX13_high 78 = .ok (.idiv, 1) := dk_108 (dk_at dksX13_high_3 2 rfl rfl)
theorem dX13_high_79 : decode cX13_high 79 = .ok (.ireturn, 1) := dk_172 (dk_at dksX13_high_3 3 rfl rfl)
theorem dX13_high_80 : decode cX13_high 80 = .ok (.iload_n 2, 1) := dk_28 (dk_at dksX13_high_3 4 rfl rfl)
theorem dX13_high_81 : decode cX13_high 81 = .ok (.iconst 2, 1) := dk_5 (dk_at dksX13_high_3 5 rfl rfl)
theorem dX13_high_82 : decode cX13_high 82 = .ok (.idiv, 1) := dk_108 (dk_at dksX13_high_3 6 rfl rfl)
theorem dX13_high_83 : decode cX13_high 83 = .ok (.bipush 30, 2) := dk_16 30 (dk_at dksX13_high_3 7 rfl rfl)
theorem dX13_high_85 : decode cX13_high 85 = .ok (.iadd, 1) := dk_96 (dk_at dksX13_high_3 9 rfl rfl)
theorem dX13_high_86 : decode cX13_high 86 = .ok (.aload_n 0, 1) := dk_42 (dk_at dksX13_high_3 10 rfl rfl)
theorem dX13_high_87 : decode cX13_high 87 = .ok (.getfield 9, 3) := dk_180 0 9 (dk_at dksX13_high_3 11 rfl rfl)
theorem dX13_high_90 : decode cX13_high 90 = .ok (.iconst 5, 1) := dk_8 (dk_at dksX13_high_3 14 rfl rfl)
theorem dX13_high_91 : decode cX13_high 91 = .ok (.iaload, 1) := dk_46 (dk_at dksX13_high_3 15 rfl rfl)
theorem dX13_high_92 : decode cX13_high 92 = .ok (.isub, 1) := dk_100 (dk_at dksX13_high_3 16 rfl rfl)
theorem dX13_high_93 : decode cX13_high 93 = .ok (.ireturn, 1) := dk_172 (dk_at dksX13_high_3 17 rfl rfl)
theorem dX13_high_94 : decode cX13_high 94 = .ok (.iload_n 2, 1) := dk_28 (dk_at dksX13_high_3 18 rfl rfl)
theorem dX13_high_95 : decode cX13_high 95 = .ok (.bipush 10, 2) := dk_16 10 (dk_at dksX13_high_3 19 rfl rfl)
theorem dX13_high_97 : decode cX13_high 97 = .ok (.iadd, 1) := dk_96 (dk_at dksX13_high_3 21 rfl rfl)
theorem dX13_high_98 : decode cX13_high 98 = .ok (.ireturn, 1) := dk_172 (dk_at dksX13_high_3 22 rfl rfl)
theorem dX13_high_99 : decode cX13_high 99 = .ok (.iload_n 3, 1) := dk_29 (dk_at dksX13_high_3 23 rfl rfl)
theorem dX13_high_100 : decode cX13_high 100 = .ok (.ireturn, 1) := dk_172 (dk_at dksX13_high_4 0 rfl rfl)
theorem dX13_high_101 : decode cX13_high 101 = .ok (.aload_n 0, 1) := dk_42 (dk_at dksX13_high_4 1 rfl rfl)
theorem dX13_high_102 : decode cX13_high 102 = .ok (.iload_n 1, 1) := dk_27 (dk_at dksX13_high_4 2 rfl rfl)
theorem dX13_high_103 : decode cX13_high 103 = .ok (.iconst 2, 1) := dk_5 (dk_at dksX13_high_4 3 rfl rfl)
theorem dX13_high_104 : decode cX13_high 104 = .ok (.invokevirtual 119, 3) := dk_182 0 119 (dk_at dksX13_high_4 4 rfl rfl)
theorem dX13_high_107 : decode cX13_high 107 = .ok (.bipush 20, 2) := dk_16 20 (dk_at dksX13_high_4 7 rfl rfl)
theorem dX13_high_109 : decode cX13_high 109 = .ok (.if_icmp .ge 10, 3) := dk_162 0 10 (dk_at dksX13_high_4 9 rfl rfl)
theorem dX13_high_112 : decode cX13_high 112 = .ok (.iload_n 3, 1) := dk_29 (dk_at dksX13_high_4 12 rfl rfl)
theorem dX13_high_113 : decode cX13_high 113 = .ok (.bipush 10, 2) := dk_16 10 (dk_at dksX13_high_4 13 rfl rfl)
theorem dX13_high_115 : decode cX13_high 115 = .ok (.iadd, 1) := dk_96 (dk_at dksX13_high_4 15 rfl rfl)
theorem dX13_high_116 : decode cX13_high 116 = .ok (.goto 4, 3) := dk_167 0 4 (dk_at dksX13_high_4 16 rfl rfl)
theorem dX13_high_119 : decode cX13_high 119 = .ok (.iload_n 3, 1) := dk_29 (dk_at dksX13_high_4 19 rfl rfl)
theorem dX13_high_120 : decode cX13_high 120 = .ok (.ireturn, 1) := dk_172 (dk_at dksX13_high_4 20 rfl rfl)
theorem dX13_high_121 : decode cX13_high 121 = .ok (.aload_n 0, 1) := dk_42 (dk_at dksX13_high_4 21 rfl rfl)
theorem dX13_high_122 : decode cX13_high 122 = .ok (.getfield 9, 3) := dk_180 0 9 (dk_at dksX13_high_5 0 rfl rfl)
theorem dX13_high_125 : decode cX13_high 125 = .ok (.iconst 0, 1) := dk_3 (dk_at dksX13_high_5 3 rfl rfl)
theorem dX13_high_126 : decode cX13_high 126 = .ok (.iaload, 1) := dk_46 (dk_at dksX13_high_5 4 rfl rfl)
theorem dX13_high_127 : decode cX13_high 127 = .ok (.iconst 2, 1) := dk_5 (dk_at dksX13_high_5 5 rfl rfl)
theorem dX13_high_128 : decode cX13_high 128 = .ok (.irem, 1) := dk_112 (dk_at dksX13_high_5 6 rfl rfl)
theorem dX13_high_129 : decode cX13_high 129 = .ok (.iconst 1, 1) := dk_4 (dk_at dksX13_high_5 7 rfl rfl)
theorem dX13_high_130 : decode cX13_high 130 = .ok (.if_icmp .ne 7, 3) := dk_160 0 7 (dk_at dksX13_high_5 8 rfl rfl)
theorem dX13_high_133 : decode cX13_high 133 = .ok (.iconst 0, 1) := dk_3 (dk_at dksX13_high_5 11 rfl rfl)
theorem dX13_high_134 : decode cX13_high 134 = .ok (.goto 4, 3) := dk_167 0 4 (dk_at dksX13_high_5 12 rfl rfl)
theorem dX13_high_137 : decode cX13_high 137 = .ok (.iload_n 2, 1) := dk_28 (dk_at dksX13_high_5 15 rfl rfl)
theorem dX13_high_138 : decode cX13_high 138 = .ok (.ireturn, 1) := dk_172 (dk_at dksX13_high_5 16 rfl rfl)
theorem dX13_high_139 : decode cX13_high 139 = .ok (.iload_n 2, 1) := dk_28 (dk_at dksX13_high_5 17 rfl rfl)
theorem dX13_high_140 : decode cX13_high 140 = .ok (.ireturn, 1) := dk_172 (dk_at dksX13_high_5 18 rfl rfl)
abbrev cX13_tires : ByteArray := prog_16_method_31_code
def yX13_tires : MethodName := ⟨RX13, "tires", "(I)I"⟩
def dkwX13_tires_2 : List UInt8 := [16, 8, 172, 5, 172, 7, 172, 8, 42, 180, 0, 9, 8, 46, 96, 172, 8, 172]
abbrev dktX13_tires_2 : List UInt8 := dkwX13_tires_2 ++ []
def dkwX13_tires_1 : List UInt8 := [170, 0, 0, 0, 0, 54, 0, 0, 0, 1, 0, 0, 0, 6, 0, 0, 0, 38, 0, 0, 0, 43, 0, 0, 0, 43, 0, 0, 0, 38, 0, 0, 0, 45, 0, 0, 0, 41]
abbrev dktX13_tires_1 : List UInt8 := dkwX13_tires_1 ++ dktX13_tires_2
def dkwX13_tires_0 : List UInt8 := [42, 27, 3, 182, 0, 119]
abbrev dktX13_tires_0 : List UInt8 := dkwX13_tires_0 ++ dktX13_tires_1
theorem dksX13_tires_0 : cX13_tires.data.toList.drop 0 = dktX13_tires_0 := by decide +kernel
theorem dksX13_tires_1 : cX13_tires.data.toList.drop 6 = dktX13_tires_1 := dk_seg dksX13_tires_0 6 rfl rfl
theorem dksX13_tires_2 : cX13_tires.data.toList.drop 44 = dktX13_tires_2 := dk_seg dksX13_tires_1 38 rfl rfl
theorem dX13_tires_0 : decode cX13_tires 0 = .ok (.aload_n 0, 1) := dk_42 (dk_at dksX13_tires_0 0 rfl rfl)
theorem dX13_tires_1 : decode cX13_tires 1 = .ok (.iload_n 1, 1) := dk_27 (dk_at dksX13_tires_0 1 rfl rfl)
theorem dX13_tires_2 : decode cX13_tires 2 = .ok (.iconst 0, 1) := dk_3 (dk_at dksX13_tires_0 2 rfl rfl)
theorem dX13_tires_3 : decode cX13_tires 3 = .ok (.invokevirtual 119, 3) := dk_182 0 119 (dk_at dksX13_tires_0 3 rfl rfl)
theorem dX13_tires_6 : decode cX13_tires 6 = .ok (.tableswitch 54 1 6 #[38, 43, 43, 38, 45, 41], 38) := by decide +kernel
theorem dX13_tires_44 : decode cX13_tires 44 = .ok (.bipush 8, 2) := dk_16 8 (dk_at dksX13_tires_2 0 rfl rfl)
theorem dX13_tires_46 : decode cX13_tires 46 = .ok (.ireturn, 1) := dk_172 (dk_at dksX13_tires_2 2 rfl rfl)
theorem dX13_tires_47 : decode cX13_tires 47 = .ok (.iconst 2, 1) := dk_5 (dk_at dksX13_tires_2 3 rfl rfl)
theorem dX13_tires_48 : decode cX13_tires 48 = .ok (.ireturn, 1) := dk_172 (dk_at dksX13_tires_2 4 rfl rfl)
theorem dX13_tires_49 : decode cX13_tires 49 = .ok (.iconst 4, 1) := dk_7 (dk_at dksX13_tires_2 5 rfl rfl)
theorem dX13_tires_50 : decode cX13_tires 50 = .ok (.ireturn, 1) := dk_172 (dk_at dksX13_tires_2 6 rfl rfl)
theorem dX13_tires_51 : decode cX13_tires 51 = .ok (.iconst 5, 1) := dk_8 (dk_at dksX13_tires_2 7 rfl rfl)
theorem dX13_tires_52 : decode cX13_tires 52 = .ok (.aload_n 0, 1) := dk_42 (dk_at dksX13_tires_2 8 rfl rfl)
theorem dX13_tires_53 : decode cX13_tires 53 = .ok (.getfield 9, 3) := dk_180 0 9 (dk_at dksX13_tires_2 9 rfl rfl)
theorem dX13_tires_56 : decode cX13_tires 56 = .ok (.iconst 5, 1) := dk_8 (dk_at dksX13_tires_2 12 rfl rfl)
theorem dX13_tires_57 : decode cX13_tires 57 = .ok (.iaload, 1) := dk_46 (dk_at dksX13_tires_2 13 rfl rfl)
theorem dX13_tires_58 : decode cX13_tires 58 = .ok (.iadd, 1) := dk_96 (dk_at dksX13_tires_2 14 rfl rfl)
theorem dX13_tires_59 : decode cX13_tires 59 = .ok (.ireturn, 1) := dk_172 (dk_at dksX13_tires_2 15 rfl rfl)
theorem dX13_tires_60 : decode cX13_tires 60 = .ok (.iconst 5, 1) := dk_8 (dk_at dksX13_tires_2 16 rfl rfl)
theorem dX13_tires_61 : decode cX13_tires 61 = .ok (.ireturn, 1) := dk_172 (dk_at dksX13_tires_2 17 rfl rfl)
abbrev cX13_change : ByteArray := prog_16_method_34_code
def yX13_change : MethodName := ⟨RX13, "change", "(III)I"⟩
def dkwX13_change_1 : List UInt8 := [182, 0, 97, 167, 0, 9, 42, 18, 66, 182, 0, 72, 172]
abbrev dktX13_change_1 : List UInt8 := dkwX13_change_1 ++ []
def dkwX13_change_0 : List UInt8 := [42, 27, 182, 0, 87, 153, 0, 24, 28, 29, 184, 0, 133, 153, 0, 16, 42, 27, 28, 184, 0, 109, 29]
abbrev dktX13_change_0 : List UInt8 := dkwX13_change_0 ++ dktX13_change_1
theorem dksX13_change_0 : cX13_change.data.toList.drop 0 = dktX13_change_0 := by decide +kernel
theorem dksX13_change_1 : cX13_change.data.toList.drop 23 = dktX13_change_1 := dk_seg dksX13_change_0 23 rfl rfl
theorem dX13_change_0 : decode cX13_change 0 = .ok (.aload_n 0, 1) := dk_42 (dk_at dksX13_change_0 0 rfl rfl)
theorem dX13_change_1 : decode cX13_change 1 = .ok (.iload_n 1, 1) := dk_27 (dk_at dksX13_change_0 1 rfl rfl)
theorem dX13_change_2 : decode cX13_change 2 = .ok (.invokevirtual 87, 3) := dk_182 0 87 (dk_at dksX13_change_0 2 rfl rfl)
theorem dX13_change_5 : decode cX13_change 5 = .ok (.ifCond .eq 24, 3) := dk_153 0 24 (dk_at dksX13_change_0 5 rfl rfl)
theorem dX13_change_8 : decode cX13_change 8 = .ok (.iload_n 2, 1) := dk_28 (dk_at dksX13_change_0 8 rfl rfl)
theorem dX13_change_9 : decode cX13_change 9 = .ok (.iload_n 3, 1) := dk_29 (dk_at dksX13_change_0 9 rfl rfl)
theorem dX13_change_10 : decode cX13_change 10 = .ok (.invokestatic 133, 3) := dk_184 0 133 (dk_at dksX13_change_0 10 rfl rfl)
theorem dX13_change_13 : decode cX13_change 13 = .ok (.ifCond .eq 16, 3) := dk_153 0 16 (dk_at dksX13_change_0 13 rfl rfl)
theorem dX13_change_16 : decode cX13_change 16 = .ok (.aload_n 0, 1) := dk_42 (dk_at dksX13_change_0 16 rfl rfl)
theorem dX13_change_17 : decode cX13_change 17 = .ok (.iload_n 1, 1) := dk_27 (dk_at dksX13_change_0 17 rfl rfl)
theorem dX13_change_18 : decode cX13_change 18 = .ok (.iload_n 2, 1) := dk_28 (dk_at dksX13_change_0 18 rfl rfl)
theorem dX13_change_19 : decode cX13_change 19 = .ok (.invokestatic 109, 3) := dk_184 0 109 (dk_at dksX13_change_0 19 rfl rfl)
theorem dX13_change_22 : decode cX13_change 22 = .ok (.iload_n 3, 1) := dk_29 (dk_at dksX13_change_0 22 rfl rfl)
theorem dX13_change_23 : decode cX13_change 23 = .ok (.invokevirtual 97, 3) := dk_182 0 97 (dk_at dksX13_change_1 0 rfl rfl)
theorem dX13_change_26 : decode cX13_change 26 = .ok (.goto 9, 3) := dk_167 0 9 (dk_at dksX13_change_1 3 rfl rfl)
theorem dX13_change_29 : decode cX13_change 29 = .ok (.aload_n 0, 1) := dk_42 (dk_at dksX13_change_1 6 rfl rfl)
theorem dX13_change_30 : decode cX13_change 30 = .ok (.ldc 66, 2) := dk_18 66 (dk_at dksX13_change_1 7 rfl rfl)
theorem dX13_change_32 : decode cX13_change 32 = .ok (.invokevirtual 72, 3) := dk_182 0 72 (dk_at dksX13_change_1 9 rfl rfl)
theorem dX13_change_35 : decode cX13_change 35 = .ok (.ireturn, 1) := dk_172 (dk_at dksX13_change_1 12 rfl rfl)
abbrev cX13_isField : ByteArray := prog_16_method_33_code
def yX13_isField : MethodName := ⟨RX13, "isField", "(II)Z"⟩
def dkwX13_isField_2 : List UInt8 := [27, 184, 0, 112, 172, 27, 3, 16, 99, 184, 0, 76, 172, 27, 3, 17, 39, 15, 184, 0, 76, 172, 3, 172]
abbrev dktX13_isField_2 : List UInt8 := dkwX13_isField_2 ++ []
def dkwX13_isField_1 : List UInt8 := [170, 0, 0, 0, 0, 0, 57, 0, 0, 0, 0, 0, 0, 0, 4, 0, 0, 0, 35, 0, 0, 0, 40, 0, 0, 0, 40, 0, 0, 0, 48, 0, 0, 0, 48]
abbrev dktX13_isField_1 : List UInt8 := dkwX13_isField_1 ++ dktX13_isField_2
def dkwX13_isField_0 : List UInt8 := [26]
abbrev dktX13_isField_0 : List UInt8 := dkwX13_isField_0 ++ dktX13_isField_1
theorem dksX13_isField_0 : cX13_isField.data.toList.drop 0 = dktX13_isField_0 := by decide +kernel
theorem dksX13_isField_1 : cX13_isField.data.toList.drop 1 = dktX13_isField_1 := dk_seg dksX13_isField_0 1 rfl rfl
theorem dksX13_isField_2 : cX13_isField.data.toList.drop 36 = dktX13_isField_2 := dk_seg dksX13_isField_1 35 rfl rfl
theorem dX13_isField_0 : decode cX13_isField 0 = .ok (.iload_n 0, 1) := dk_26 (dk_at dksX13_isField_0 0 rfl rfl)
theorem dX13_isField_1 : decode cX13_isField 1 = .ok (.tableswitch 57 0 4 #[35, 40, 40, 48, 48], 35) := by decide +kernel
theorem dX13_isField_36 : decode cX13_isField 36 = .ok (.iload_n 1, 1) := dk_27 (dk_at dksX13_isField_2 0 rfl rfl)
theorem dX13_isField_37 : decode cX13_isField 37 = .ok (.invokestatic 112, 3) := dk_184 0 112 (dk_at dksX13_isField_2 1 rfl rfl)
theorem dX13_isField_40 : decode cX13_isField 40 = .ok (.ireturn, 1) := dk_172 (dk_at dksX13_isField_2 4 rfl rfl)
theorem dX13_isField_41 : decode cX13_isField 41 = .ok (.iload_n 1, 1) := dk_27 (dk_at dksX13_isField_2 5 rfl rfl)
theorem dX13_isField_42 : decode cX13_isField 42 = .ok (.iconst 0, 1) := dk_3 (dk_at dksX13_isField_2 6 rfl rfl)
theorem dX13_isField_43 : decode cX13_isField 43 = .ok (.bipush 99, 2) := dk_16 99 (dk_at dksX13_isField_2 7 rfl rfl)
theorem dX13_isField_45 : decode cX13_isField 45 = .ok (.invokestatic 76, 3) := dk_184 0 76 (dk_at dksX13_isField_2 9 rfl rfl)
theorem dX13_isField_48 : decode cX13_isField 48 = .ok (.ireturn, 1) := dk_172 (dk_at dksX13_isField_2 12 rfl rfl)
theorem dX13_isField_49 : decode cX13_isField 49 = .ok (.iload_n 1, 1) := dk_27 (dk_at dksX13_isField_2 13 rfl rfl)
theorem dX13_isField_50 : decode cX13_isField 50 = .ok (.iconst 0, 1) := dk_3 (dk_at dksX13_isField_2 14 rfl rfl)
theorem dX13_isField_51 : decode cX13_isField 51 = .ok (.sipush 9999, 3) := dk_17 39 15 (dk_at dksX13_isField_2 15 rfl rfl)
theorem dX13_isField_54 : decode cX13_isField 54 = .ok (.invokestatic 76, 3) := dk_184 0 76 (dk_at dksX13_isField_2 18 rfl rfl)
theorem dX13_isField_57 : decode cX13_isField 57 = .ok (.ireturn, 1) := dk_172 (dk_at dksX13_isField_2 21 rfl rfl)
theorem dX13_isField_58 : decode cX13_isField 58 = .ok (.iconst 0, 1) := dk_3 (dk_at dksX13_isField_2 22 rfl rfl)
theorem dX13_isField_59 : decode cX13_isField 59 = .ok (.ireturn, 1) := dk_172 (dk_at dksX13_isField_2 23 rfl rfl)
abbrev cX13_gains : ByteArray := prog_16_method_35_code
def yX13_gains : MethodName := ⟨RX13, "gains", "(II)I"⟩
def dkwX13_gains_1 : List UInt8 := [42, 18, 66, 182, 0, 72, 172]
abbrev dktX13_gains_1 : List UInt8 := dkwX13_gains_1 ++ []
def dkwX13_gains_0 : List UInt8 := [42, 27, 182, 0, 87, 153, 0, 19, 28, 184, 0, 83, 153, 0, 12, 42, 27, 28, 182, 0, 137, 167, 0, 9]
abbrev dktX13_gains_0 : List UInt8 := dkwX13_gains_0 ++ dktX13_gains_1
theorem dksX13_gains_0 : cX13_gains.data.toList.drop 0 = dktX13_gains_0 := by decide +kernel
theorem dksX13_gains_1 : cX13_gains.data.toList.drop 24 = dktX13_gains_1 := dk_seg dksX13_gains_0 24 rfl rfl
theorem dX13_gains_0 : decode cX13_gains 0 = .ok (.aload_n 0, 1) := dk_42 (dk_at dksX13_gains_0 0 rfl rfl)
theorem dX13_gains_1 : decode cX13_gains 1 = .ok (.iload_n 1, 1) := dk_27 (dk_at dksX13_gains_0 1 rfl rfl)
theorem dX13_gains_2 : decode cX13_gains 2 = .ok (.invokevirtual 87, 3) := dk_182 0 87 (dk_at dksX13_gains_0 2 rfl rfl)
theorem dX13_gains_5 : decode cX13_gains 5 = .ok (.ifCond .eq 19, 3) := dk_153 0 19 (dk_at dksX13_gains_0 5 rfl rfl)
theorem dX13_gains_8 : decode cX13_gains 8 = .ok (.iload_n 2, 1) := dk_28 (dk_at dksX13_gains_0 8 rfl rfl)
theorem dX13_gains_9 : decode cX13_gains 9 = .ok (.invokestatic 83, 3) := dk_184 0 83 (dk_at dksX13_gains_0 9 rfl rfl)
theorem dX13_gains_12 : decode cX13_gains 12 = .ok (.ifCond .eq 12, 3) := dk_153 0 12 (dk_at dksX13_gains_0 12 rfl rfl)
theorem dX13_gains_15 : decode cX13_gains 15 = .ok (.aload_n 0, 1) := dk_42 (dk_at dksX13_gains_0 15 rfl rfl)
theorem dX13_gains_16 : decode cX13_gains 16 = .ok (.iload_n 1, 1) := dk_27 (dk_at dksX13_gains_0 16 rfl rfl)
theorem dX13_gains_17 : decode cX13_gains 17 = .ok (.iload_n 2, 1) := dk_28 (dk_at dksX13_gains_0 17 rfl rfl)
theorem dX13_gains_18 : decode cX13_gains 18 = .ok (.invokevirtual 137, 3) := dk_182 0 137 (dk_at dksX13_gains_0 18 rfl rfl)
theorem dX13_gains_21 : decode cX13_gains 21 = .ok (.goto 9, 3) := dk_167 0 9 (dk_at dksX13_gains_0 21 rfl rfl)
theorem dX13_gains_24 : decode cX13_gains 24 = .ok (.aload_n 0, 1) := dk_42 (dk_at dksX13_gains_1 0 rfl rfl)
theorem dX13_gains_25 : decode cX13_gains 25 = .ok (.ldc 66, 2) := dk_18 66 (dk_at dksX13_gains_1 1 rfl rfl)
theorem dX13_gains_27 : decode cX13_gains 27 = .ok (.invokevirtual 72, 3) := dk_182 0 72 (dk_at dksX13_gains_1 3 rfl rfl)
theorem dX13_gains_30 : decode cX13_gains 30 = .ok (.ireturn, 1) := dk_172 (dk_at dksX13_gains_1 6 rfl rfl)
abbrev cX13_gainsIn : ByteArray := prog_16_method_30_code
def yX13_gainsIn : MethodName := ⟨RX13, "gainsIn", "(II)I"⟩
def dkwX13_gainsIn_3 : List UInt8 := [184, 0, 122, 172, 28, 172]
abbrev dktX13_gainsIn_3 : List UInt8 := dkwX13_gainsIn_3 ++ []
def dkwX13_gainsIn_2 : List UInt8 := [4, 172, 4, 5, 28, 104, 96, 172, 28, 5, 96, 172, 3, 28, 5, 96, 42, 180, 0, 9, 7, 46, 100]
abbrev dktX13_gainsIn_2 : List UInt8 := dkwX13_gainsIn_2 ++ dktX13_gainsIn_3
def dkwX13_gainsIn_1 : List UInt8 := [170, 0, 0, 0, 0, 65, 0, 0, 0, 1, 0, 0, 0, 6, 0, 0, 0, 38, 0, 0, 0, 46, 0, 0, 0, 46, 0, 0, 0, 50, 0, 0, 0, 65, 0, 0, 0, 40]
abbrev dktX13_gainsIn_1 : List UInt8 := dkwX13_gainsIn_1 ++ dktX13_gainsIn_2
def dkwX13_gainsIn_0 : List UInt8 := [42, 27, 3, 182, 0, 119]
abbrev dktX13_gainsIn_0 : List UInt8 := dkwX13_gainsIn_0 ++ dktX13_gainsIn_1
theorem dksX13_gainsIn_0 : cX13_gainsIn.data.toList.drop 0 = dktX13_gainsIn_0 := by decide +kernel
theorem dksX13_gainsIn_1 : cX13_gainsIn.data.toList.drop 6 = dktX13_gainsIn_1 := dk_seg dksX13_gainsIn_0 6 rfl rfl
theorem dksX13_gainsIn_2 : cX13_gainsIn.data.toList.drop 44 = dktX13_gainsIn_2 := dk_seg dksX13_gainsIn_1 38 rfl rfl
theorem dksX13_gainsIn_3 : cX13_gainsIn.data.toList.drop 67 = dktX13_gainsIn_3 := dk_seg dksX13_gainsIn_2 23 rfl rfl
theorem dX13_gainsIn_0 : decode cX13_gainsIn 0 = .ok (.aload_n 0, 1) := dk_42 (dk_at dksX13_gainsIn_0 0 rfl rfl)
theorem dX13_gainsIn_1 : decode cX13_gainsIn 1 = .ok (.iload_n 1, 1) := dk_27 (dk_at dksX13_gainsIn_0 1 rfl rfl)
theorem dX13_gainsIn_2 : decode cX13_gainsIn 2 = .ok (.iconst 0, 1) := dk_3 (dk_at dksX13_gainsIn_0 2 rfl rfl)
theorem dX13_gainsIn_3 : decode cX13_gainsIn 3 = .ok (.invokevirtual 119, 3) := dk_182 0 119 (dk_at dksX13_gainsIn_0 3 rfl rfl)
theorem dX13_gainsIn_6 : decode cX13_gainsIn 6 = .ok (.tableswitch 65 1 6 #[38, 46, 46, 50, 65, 40], 38) := by decide +kernel
theorem dX13_gainsIn_44 : decode cX13_gainsIn 44 = .ok (.iconst 1, 1) := dk_4 (dk_at dksX13_gainsIn_2 0 rfl rfl)
theorem dX13_gainsIn_45 : decode cX13_gainsIn 45 = .ok (.ireturn, 1) := dk_172 (dk_at dksX13_gainsIn_2 1 rfl rfl)
theorem dX13_gainsIn_46 : decode cX13_gainsIn 46 = .ok (.iconst 1, 1) := dk_4 (dk_at dksX13_gainsIn_2 2 rfl rfl)
theorem dX13_gainsIn_47 : decode cX13_gainsIn 47 = .ok (.iconst 2, 1) := dk_5 (dk_at dksX13_gainsIn_2 3 rfl rfl)
theorem dX13_gainsIn_48 : decode cX13_gainsIn 48 = .ok (.iload_n 2, 1) := dk_28 (dk_at dksX13_gainsIn_2 4 rfl rfl)
theorem dX13_gainsIn_49 : decode cX13_gainsIn 49 = .ok (.imul, 1) := dk_104 (dk_at dksX13_gainsIn_2 5 rfl rfl)
theorem dX13_gainsIn_50 : decode cX13_gainsIn 50 = .ok (.iadd, 1) := dk_96 (dk_at dksX13_gainsIn_2 6 rfl rfl)
theorem dX13_gainsIn_51 : decode cX13_gainsIn 51 = .ok (.ireturn, 1) := dk_172 (dk_at dksX13_gainsIn_2 7 rfl rfl)
theorem dX13_gainsIn_52 : decode cX13_gainsIn 52 = .ok (.iload_n 2, 1) := dk_28 (dk_at dksX13_gainsIn_2 8 rfl rfl)
theorem dX13_gainsIn_53 : decode cX13_gainsIn 53 = .ok (.iconst 2, 1) := dk_5 (dk_at dksX13_gainsIn_2 9 rfl rfl)
theorem dX13_gainsIn_54 : decode cX13_gainsIn 54 = .ok (.iadd, 1) := dk_96 (dk_at dksX13_gainsIn_2 10 rfl rfl)
theorem dX13_gainsIn_55 : decode cX13_gainsIn 55 = .ok (.ireturn, 1) := dk_172 (dk_at dksX13_gainsIn_2 11 rfl rfl)
theorem dX13_gainsIn_56 : decode cX13_gainsIn 56 = .ok (.iconst 0, 1) := dk_3 (dk_at dksX13_gainsIn_2 12 rfl rfl)
theorem dX13_gainsIn_57 : decode cX13_gainsIn 57 = .ok (.iload_n 2, 1) := dk_28 (dk_at dksX13_gainsIn_2 13 rfl rfl)
theorem dX13_gainsIn_58 : decode cX13_gainsIn 58 = .ok (.iconst 2, 1) := dk_5 (dk_at dksX13_gainsIn_2 14 rfl rfl)
theorem dX13_gainsIn_59 : decode cX13_gainsIn 59 = .ok (.iadd, 1) := dk_96 (dk_at dksX13_gainsIn_2 15 rfl rfl)
theorem dX13_gainsIn_60 : decode cX13_gainsIn 60 = .ok (.aload_n 0, 1) := dk_42 (dk_at dksX13_gainsIn_2 16 rfl rfl)
theorem dX13_gainsIn_61 : decode cX13_gainsIn 61 = .ok (.getfield 9, 3) := dk_180 0 9 (dk_at dksX13_gainsIn_2 17 rfl rfl)
theorem dX13_gainsIn_64 : decode cX13_gainsIn 64 = .ok (.iconst 4, 1) := dk_7 (dk_at dksX13_gainsIn_2 20 rfl rfl)
theorem dX13_gainsIn_65 : decode cX13_gainsIn 65 = .ok (.iaload, 1) := dk_46 (dk_at dksX13_gainsIn_2 21 rfl rfl)
theorem dX13_gainsIn_66 : decode cX13_gainsIn 66 = .ok (.isub, 1) := dk_100 (dk_at dksX13_gainsIn_2 22 rfl rfl)
theorem dX13_gainsIn_67 : decode cX13_gainsIn 67 = .ok (.invokestatic 122, 3) := dk_184 0 122 (dk_at dksX13_gainsIn_3 0 rfl rfl)
theorem dX13_gainsIn_70 : decode cX13_gainsIn 70 = .ok (.ireturn, 1) := dk_172 (dk_at dksX13_gainsIn_3 3 rfl rfl)
theorem dX13_gainsIn_71 : decode cX13_gainsIn 71 = .ok (.iload_n 2, 1) := dk_28 (dk_at dksX13_gainsIn_3 4 rfl rfl)
theorem dX13_gainsIn_72 : decode cX13_gainsIn 72 = .ok (.ireturn, 1) := dk_172 (dk_at dksX13_gainsIn_3 5 rfl rfl)
abbrev cX13_go : ByteArray := prog_16_method_41_code
def yX13_go : MethodName := ⟨RX13, "go", "(I)I"⟩
def dkwX13_go_2 : List UInt8 := [172]
abbrev dktX13_go_2 : List UInt8 := dkwX13_go_2 ++ []
def dkwX13_go_1 : List UInt8 := [96, 18, 143, 164, 0, 10, 42, 18, 158, 182, 0, 72, 172, 42, 27, 182, 0, 159, 42, 180, 0, 9, 6, 46]
abbrev dktX13_go_1 : List UInt8 := dkwX13_go_1 ++ dktX13_go_2
def dkwX13_go_0 : List UInt8 := [27, 4, 16, 60, 184, 0, 76, 154, 0, 10, 42, 18, 66, 182, 0, 72, 172, 42, 180, 0, 9, 3, 46, 27]
abbrev dktX13_go_0 : List UInt8 := dkwX13_go_0 ++ dktX13_go_1
theorem dksX13_go_0 : cX13_go.data.toList.drop 0 = dktX13_go_0 := by decide +kernel
theorem dksX13_go_1 : cX13_go.data.toList.drop 24 = dktX13_go_1 := dk_seg dksX13_go_0 24 rfl rfl
theorem dksX13_go_2 : cX13_go.data.toList.drop 48 = dktX13_go_2 := dk_seg dksX13_go_1 24 rfl rfl
theorem dX13_go_0 : decode cX13_go 0 = .ok (.iload_n 1, 1) := dk_27 (dk_at dksX13_go_0 0 rfl rfl)
theorem dX13_go_1 : decode cX13_go 1 = .ok (.iconst 1, 1) := dk_4 (dk_at dksX13_go_0 1 rfl rfl)
theorem dX13_go_2 : decode cX13_go 2 = .ok (.bipush 60, 2) := dk_16 60 (dk_at dksX13_go_0 2 rfl rfl)
theorem dX13_go_4 : decode cX13_go 4 = .ok (.invokestatic 76, 3) := dk_184 0 76 (dk_at dksX13_go_0 4 rfl rfl)
theorem dX13_go_7 : decode cX13_go 7 = .ok (.ifCond .ne 10, 3) := dk_154 0 10 (dk_at dksX13_go_0 7 rfl rfl)
theorem dX13_go_10 : decode cX13_go 10 = .ok (.aload_n 0, 1) := dk_42 (dk_at dksX13_go_0 10 rfl rfl)
theorem dX13_go_11 : decode cX13_go 11 = .ok (.ldc 66, 2) := dk_18 66 (dk_at dksX13_go_0 11 rfl rfl)
theorem dX13_go_13 : decode cX13_go 13 = .ok (.invokevirtual 72, 3) := dk_182 0 72 (dk_at dksX13_go_0 13 rfl rfl)
theorem dX13_go_16 : decode cX13_go 16 = .ok (.ireturn, 1) := dk_172 (dk_at dksX13_go_0 16 rfl rfl)
theorem dX13_go_17 : decode cX13_go 17 = .ok (.aload_n 0, 1) := dk_42 (dk_at dksX13_go_0 17 rfl rfl)
theorem dX13_go_18 : decode cX13_go 18 = .ok (.getfield 9, 3) := dk_180 0 9 (dk_at dksX13_go_0 18 rfl rfl)
theorem dX13_go_21 : decode cX13_go 21 = .ok (.iconst 0, 1) := dk_3 (dk_at dksX13_go_0 21 rfl rfl)
theorem dX13_go_22 : decode cX13_go 22 = .ok (.iaload, 1) := dk_46 (dk_at dksX13_go_0 22 rfl rfl)
theorem dX13_go_23 : decode cX13_go 23 = .ok (.iload_n 1, 1) := dk_27 (dk_at dksX13_go_0 23 rfl rfl)
theorem dX13_go_24 : decode cX13_go 24 = .ok (.iadd, 1) := dk_96 (dk_at dksX13_go_1 0 rfl rfl)
theorem dX13_go_25 : decode cX13_go 25 = .ok (.ldc 143, 2) := dk_18 143 (dk_at dksX13_go_1 1 rfl rfl)
theorem dX13_go_27 : decode cX13_go 27 = .ok (.if_icmp .le 10, 3) := dk_164 0 10 (dk_at dksX13_go_1 3 rfl rfl)
theorem dX13_go_30 : decode cX13_go 30 = .ok (.aload_n 0, 1) := dk_42 (dk_at dksX13_go_1 6 rfl rfl)
theorem dX13_go_31 : decode cX13_go 31 = .ok (.ldc 158, 2) := dk_18 158 (dk_at dksX13_go_1 7 rfl rfl)
theorem dX13_go_33 : decode cX13_go 33 = .ok (.invokevirtual 72, 3) := dk_182 0 72 (dk_at dksX13_go_1 9 rfl rfl)
theorem dX13_go_36 : decode cX13_go 36 = .ok (.ireturn, 1) := dk_172 (dk_at dksX13_go_1 12 rfl rfl)
theorem dX13_go_37 : decode cX13_go 37 = .ok (.aload_n 0, 1) := dk_42 (dk_at dksX13_go_1 13 rfl rfl)
theorem dX13_go_38 : decode cX13_go 38 = .ok (.iload_n 1, 1) := dk_27 (dk_at dksX13_go_1 14 rfl rfl)
theorem dX13_go_39 : decode cX13_go 39 = .ok (.invokevirtual 159, 3) := dk_182 0 159 (dk_at dksX13_go_1 15 rfl rfl)
theorem dX13_go_42 : decode cX13_go 42 = .ok (.aload_n 0, 1) := dk_42 (dk_at dksX13_go_1 18 rfl rfl)
theorem dX13_go_43 : decode cX13_go 43 = .ok (.getfield 9, 3) := dk_180 0 9 (dk_at dksX13_go_1 19 rfl rfl)
theorem dX13_go_46 : decode cX13_go 46 = .ok (.iconst 3, 1) := dk_6 (dk_at dksX13_go_1 22 rfl rfl)
theorem dX13_go_47 : decode cX13_go 47 = .ok (.iaload, 1) := dk_46 (dk_at dksX13_go_1 23 rfl rfl)
theorem dX13_go_48 : decode cX13_go 48 = .ok (.ireturn, 1) := dk_172 (dk_at dksX13_go_2 0 rfl rfl)
abbrev cX13_throwsGo : ByteArray := prog_16_method_40_code
def yX13_throwsGo : MethodName := ⟨RX13, "throwsGo", "(I)V"⟩
def dkwX13_throwsGo_0 : List UInt8 := [3, 61, 28, 27, 162, 0, 13, 42, 182, 0, 155, 132, 2, 1, 167, 255, 244, 177]
abbrev dktX13_throwsGo_0 : List UInt8 := dkwX13_throwsGo_0 ++ []
theorem dksX13_throwsGo_0 : cX13_throwsGo.data.toList.drop 0 = dktX13_throwsGo_0 := by decide +kernel
theorem dX13_throwsGo_0 : decode cX13_throwsGo 0 = .ok (.iconst 0, 1) := dk_3 (dk_at dksX13_throwsGo_0 0 rfl rfl)
theorem dX13_throwsGo_1 : decode cX13_throwsGo 1 = .ok (.istore_n 2, 1) := dk_61 (dk_at dksX13_throwsGo_0 1 rfl rfl)
theorem dX13_throwsGo_2 : decode cX13_throwsGo 2 = .ok (.iload_n 2, 1) := dk_28 (dk_at dksX13_throwsGo_0 2 rfl rfl)
theorem dX13_throwsGo_3 : decode cX13_throwsGo 3 = .ok (.iload_n 1, 1) := dk_27 (dk_at dksX13_throwsGo_0 3 rfl rfl)
theorem dX13_throwsGo_4 : decode cX13_throwsGo 4 = .ok (.if_icmp .ge 13, 3) := dk_162 0 13 (dk_at dksX13_throwsGo_0 4 rfl rfl)
theorem dX13_throwsGo_7 : decode cX13_throwsGo 7 = .ok (.aload_n 0, 1) := dk_42 (dk_at dksX13_throwsGo_0 7 rfl rfl)
theorem dX13_throwsGo_8 : decode cX13_throwsGo 8 = .ok (.invokevirtual 155, 3) := dk_182 0 155 (dk_at dksX13_throwsGo_0 8 rfl rfl)
theorem dX13_throwsGo_11 : decode cX13_throwsGo 11 = .ok (.iinc 2 1, 3) := dk_132 2 1 (dk_at dksX13_throwsGo_0 11 rfl rfl)
theorem dX13_throwsGo_14 : decode cX13_throwsGo 14 = .ok (.goto (-12), 3) := dk_167 255 244 (dk_at dksX13_throwsGo_0 14 rfl rfl)
theorem dX13_throwsGo_17 : decode cX13_throwsGo 17 = .ok (.return_, 1) := dk_177 (dk_at dksX13_throwsGo_0 17 rfl rfl)
abbrev cX13_oneThrow : ByteArray := prog_16_method_39_code
def yX13_oneThrow : MethodName := ⟨RX13, "oneThrow", "()V"⟩
def dkwX13_oneThrow_7 : List UInt8 := [96, 79, 177]
abbrev dktX13_oneThrow_7 : List UInt8 := dkwX13_oneThrow_7 ++ []
def dkwX13_oneThrow_6 : List UInt8 := [21, 4, 96, 184, 0, 144, 184, 0, 122, 79, 132, 3, 1, 167, 255, 204, 42, 180, 0, 9, 3, 92, 46, 4]
abbrev dktX13_oneThrow_6 : List UInt8 := dkwX13_oneThrow_6 ++ dktX13_oneThrow_7
def dkwX13_oneThrow_5 : List UInt8 := [2, 54, 4, 42, 180, 0, 9, 16, 31, 29, 96, 3, 16, 99, 42, 180, 0, 9, 16, 31, 29, 96, 46]
abbrev dktX13_oneThrow_5 : List UInt8 := dkwX13_oneThrow_5 ++ dktX13_oneThrow_6
def dkwX13_oneThrow_4 : List UInt8 := [132, 3, 1, 167, 255, 208, 3, 62, 29, 16, 7, 162, 0, 52, 29, 27, 160, 0, 8, 16, 6, 167, 0, 4]
abbrev dktX13_oneThrow_4 : List UInt8 := dkwX13_oneThrow_4 ++ dktX13_oneThrow_5
def dkwX13_oneThrow_3 : List UInt8 := [42, 180, 0, 9, 29, 5, 184, 0, 109, 3, 42, 29, 5, 182, 0, 119, 21, 4, 100, 184, 0, 122, 79]
abbrev dktX13_oneThrow_3 : List UInt8 := dkwX13_oneThrow_3 ++ dktX13_oneThrow_4
def dkwX13_oneThrow_2 : List UInt8 := [3, 62, 29, 42, 180, 0, 9, 4, 46, 162, 0, 44, 29, 28, 160, 0, 7, 3, 167, 0, 4, 5, 54, 4]
abbrev dktX13_oneThrow_2 : List UInt8 := dkwX13_oneThrow_2 ++ dktX13_oneThrow_3
def dkwX13_oneThrow_1 : List UInt8 := [182, 0, 151, 167, 0, 21, 42, 180, 0, 9, 6, 3, 42, 180, 0, 9, 6, 46, 8, 100, 184, 0, 122, 79]
abbrev dktX13_oneThrow_1 : List UInt8 := dkwX13_oneThrow_1 ++ dktX13_oneThrow_2
def dkwX13_oneThrow_0 : List UInt8 := [42, 182, 0, 147, 60, 42, 180, 0, 9, 16, 17, 27, 96, 46, 61, 28, 155, 0, 12, 42, 28, 27]
abbrev dktX13_oneThrow_0 : List UInt8 := dkwX13_oneThrow_0 ++ dktX13_oneThrow_1
theorem dksX13_oneThrow_0 : cX13_oneThrow.data.toList.drop 0 = dktX13_oneThrow_0 := by decide +kernel
theorem dksX13_oneThrow_1 : cX13_oneThrow.data.toList.drop 22 = dktX13_oneThrow_1 := dk_seg dksX13_oneThrow_0 22 rfl rfl
theorem dksX13_oneThrow_2 : cX13_oneThrow.data.toList.drop 46 = dktX13_oneThrow_2 := dk_seg dksX13_oneThrow_1 24 rfl rfl
theorem dksX13_oneThrow_3 : cX13_oneThrow.data.toList.drop 70 = dktX13_oneThrow_3 := dk_seg dksX13_oneThrow_2 24 rfl rfl
theorem dksX13_oneThrow_4 : cX13_oneThrow.data.toList.drop 93 = dktX13_oneThrow_4 := dk_seg dksX13_oneThrow_3 23 rfl rfl
theorem dksX13_oneThrow_5 : cX13_oneThrow.data.toList.drop 117 = dktX13_oneThrow_5 := dk_seg dksX13_oneThrow_4 24 rfl rfl
theorem dksX13_oneThrow_6 : cX13_oneThrow.data.toList.drop 140 = dktX13_oneThrow_6 := dk_seg dksX13_oneThrow_5 23 rfl rfl
theorem dksX13_oneThrow_7 : cX13_oneThrow.data.toList.drop 164 = dktX13_oneThrow_7 := dk_seg dksX13_oneThrow_6 24 rfl rfl
theorem dX13_oneThrow_0 : decode cX13_oneThrow 0 = .ok (.aload_n 0, 1) := dk_42 (dk_at dksX13_oneThrow_0 0 rfl rfl)
theorem dX13_oneThrow_1 : decode cX13_oneThrow 1 = .ok (.invokevirtual 147, 3) := dk_182 0 147 (dk_at dksX13_oneThrow_0 1 rfl rfl)
theorem dX13_oneThrow_4 : decode cX13_oneThrow 4 = .ok (.istore_n 1, 1) := dk_60 (dk_at dksX13_oneThrow_0 4 rfl rfl)
theorem dX13_oneThrow_5 : decode cX13_oneThrow 5 = .ok (.aload_n 0, 1) := dk_42 (dk_at dksX13_oneThrow_0 5 rfl rfl)
theorem dX13_oneThrow_6 : decode cX13_oneThrow 6 = .ok (.getfield 9, 3) := dk_180 0 9 (dk_at dksX13_oneThrow_0 6 rfl rfl)
theorem dX13_oneThrow_9 : decode cX13_oneThrow 9 = .ok (.bipush 17, 2) := dk_16 17 (dk_at dksX13_oneThrow_0 9 rfl rfl)
theorem dX13_oneThrow_11 : decode cX13_oneThrow 11 = .ok (.iload_n 1, 1) := dk_27 (dk_at dksX13_oneThrow_0 11 rfl rfl)
theorem dX13_oneThrow_12 : decode cX13_oneThrow 12 = .ok (.iadd, 1) := dk_96 (dk_at dksX13_oneThrow_0 12 rfl rfl)
theorem dX13_oneThrow_13 : decode cX13_oneThrow 13 = .ok (.iaload, 1) := dk_46 (dk_at dksX13_oneThrow_0 13 rfl rfl)
theorem dX13_oneThrow_14 : decode cX13_oneThrow 14 = .ok (.istore_n 2, 1) := dk_61 (dk_at dksX13_oneThrow_0 14 rfl rfl)
theorem dX13_oneThrow_15 : decode cX13_oneThrow 15 = .ok (.iload_n 2, 1) := dk_28 (dk_at dksX13_oneThrow_0 15 rfl rfl)
theorem dX13_oneThrow_16 : decode cX13_oneThrow 16 = .ok (.ifCond .lt 12, 3) := dk_155 0 12 (dk_at dksX13_oneThrow_0 16 rfl rfl)
theorem dX13_oneThrow_19 : decode cX13_oneThrow 19 = .ok (.aload_n 0, 1) := dk_42 (dk_at dksX13_oneThrow_0 19 rfl rfl)
theorem dX13_oneThrow_20 : decode cX13_oneThrow 20 = .ok (.iload_n 2, 1) := dk_28 (dk_at dksX13_oneThrow_0 20 rfl rfl)
theorem dX13_oneThrow_21 : decode cX13_oneThrow 21 = .ok (.iload_n 1, 1) := dk_27 (dk_at dksX13_oneThrow_0 21 rfl rfl)
theorem dX13_oneThrow_22 : decode cX13_oneThrow 22 = .ok (.invokevirtual 151, 3) := dk_182 0 151 (dk_at dksX13_oneThrow_1 0 rfl rfl)
theorem dX13_oneThrow_25 : decode cX13_oneThrow 25 = .ok (.goto 21, 3) := dk_167 0 21 (dk_at dksX13_oneThrow_1 3 rfl rfl)
theorem dX13_oneThrow_28 : decode cX13_oneThrow 28 = .ok (.aload_n 0, 1) := dk_42 (dk_at dksX13_oneThrow_1 6 rfl rfl)
theorem dX13_oneThrow_29 : decode cX13_oneThrow 29 = .ok (.getfield 9, 3) := dk_180 0 9 (dk_at dksX13_oneThrow_1 7 rfl rfl)
theorem dX13_oneThrow_32 : decode cX13_oneThrow 32 = .ok (.iconst 3, 1) := dk_6 (dk_at dksX13_oneThrow_1 10 rfl rfl)
theorem dX13_oneThrow_33 : decode cX13_oneThrow 33 = .ok (.iconst 0, 1) := dk_3 (dk_at dksX13_oneThrow_1 11 rfl rfl)
theorem dX13_oneThrow_34 : decode cX13_oneThrow 34 = .ok (.aload_n 0, 1) := dk_42 (dk_at dksX13_oneThrow_1 12 rfl rfl)
theorem dX13_oneThrow_35 : decode cX13_oneThrow 35 = .ok (.getfield 9, 3) := dk_180 0 9 (dk_at dksX13_oneThrow_1 13 rfl rfl)
theorem dX13_oneThrow_38 : decode cX13_oneThrow 38 = .ok (.iconst 3, 1) := dk_6 (dk_at dksX13_oneThrow_1 16 rfl rfl)
theorem dX13_oneThrow_39 : decode cX13_oneThrow 39 = .ok (.iaload, 1) := dk_46 (dk_at dksX13_oneThrow_1 17 rfl rfl)
theorem dX13_oneThrow_40 : decode cX13_oneThrow 40 = .ok (.iconst 5, 1) := dk_8 (dk_at dksX13_oneThrow_1 18 rfl rfl)
theorem dX13_oneThrow_41 : decode cX13_oneThrow 41 = .ok (.isub, 1) := dk_100 (dk_at dksX13_oneThrow_1 19 rfl rfl)
theorem dX13_oneThrow_42 : decode cX13_oneThrow 42 = .ok (.invokestatic 122, 3) := dk_184 0 122 (dk_at dksX13_oneThrow_1 20 rfl rfl)
theorem dX13_oneThrow_45 : decode cX13_oneThrow 45 = .ok (.iastore, 1) := dk_79 (dk_at dksX13_oneThrow_1 23 rfl rfl)
theorem dX13_oneThrow_46 : decode cX13_oneThrow 46 = .ok (.iconst 0, 1) := dk_3 (dk_at dksX13_oneThrow_2 0 rfl rfl)
theorem dX13_oneThrow_47 : decode cX13_oneThrow 47 = .ok (.istore_n 3, 1) := dk_62 (dk_at dksX13_oneThrow_2 1 rfl rfl)
theorem dX13_oneThrow_48 : decode cX13_oneThrow 48 = .ok (.iload_n 3, 1) := dk_29 (dk_at dksX13_oneThrow_2 2 rfl rfl)
theorem dX13_oneThrow_49 : decode cX13_oneThrow 49 = .ok (.aload_n 0, 1) := dk_42 (dk_at dksX13_oneThrow_2 3 rfl rfl)
theorem dX13_oneThrow_50 : decode cX13_oneThrow 50 = .ok (.getfield 9, 3) := dk_180 0 9 (dk_at dksX13_oneThrow_2 4 rfl rfl)
theorem dX13_oneThrow_53 : decode cX13_oneThrow 53 = .ok (.iconst 1, 1) := dk_4 (dk_at dksX13_oneThrow_2 7 rfl rfl)
theorem dX13_oneThrow_54 : decode cX13_oneThrow 54 = .ok (.iaload, 1) := dk_46 (dk_at dksX13_oneThrow_2 8 rfl rfl)
theorem dX13_oneThrow_55 : decode cX13_oneThrow 55 = .ok (.if_icmp .ge 44, 3) := dk_162 0 44 (dk_at dksX13_oneThrow_2 9 rfl rfl)
theorem dX13_oneThrow_58 : decode cX13_oneThrow 58 = .ok (.iload_n 3, 1) := dk_29 (dk_at dksX13_oneThrow_2 12 rfl rfl)
theorem dX13_oneThrow_59 : decode cX13_oneThrow 59 = .ok (.iload_n 2, 1) := dk_28 (dk_at dksX13_oneThrow_2 13 rfl rfl)
theorem dX13_oneThrow_60 : decode cX13_oneThrow 60 = .ok (.if_icmp .ne 7, 3) := dk_160 0 7 (dk_at dksX13_oneThrow_2 14 rfl rfl)
theorem dX13_oneThrow_63 : decode cX13_oneThrow 63 = .ok (.iconst 0, 1) := dk_3 (dk_at dksX13_oneThrow_2 17 rfl rfl)
theorem dX13_oneThrow_64 : decode cX13_oneThrow 64 = .ok (.goto 4, 3) := dk_167 0 4 (dk_at dksX13_oneThrow_2 18 rfl rfl)
theorem dX13_oneThrow_67 : decode cX13_oneThrow 67 = .ok (.iconst 2, 1) := dk_5 (dk_at dksX13_oneThrow_2 21 rfl rfl)
theorem dX13_oneThrow_68 : decode cX13_oneThrow 68 = .ok (.istore 4, 2) := dk_54 4 (dk_at dksX13_oneThrow_2 22 rfl rfl)
theorem dX13_oneThrow_70 : decode cX13_oneThrow 70 = .ok (.aload_n 0, 1) := dk_42 (dk_at dksX13_oneThrow_3 0 rfl rfl)
theorem dX13_oneThrow_71 : decode cX13_oneThrow 71 = .ok (.getfield 9, 3) := dk_180 0 9 (dk_at dksX13_oneThrow_3 1 rfl rfl)
theorem dX13_oneThrow_74 : decode cX13_oneThrow 74 = .ok (.iload_n 3, 1) := dk_29 (dk_at dksX13_oneThrow_3 4 rfl rfl)
theorem dX13_oneThrow_75 : decode cX13_oneThrow 75 = .ok (.iconst 2, 1) := dk_5 (dk_at dksX13_oneThrow_3 5 rfl rfl)
theorem dX13_oneThrow_76 : decode cX13_oneThrow 76 = .ok (.invokestatic 109, 3) := dk_184 0 109 (dk_at dksX13_oneThrow_3 6 rfl rfl)
theorem dX13_oneThrow_79 : decode cX13_oneThrow 79 = .ok (.iconst 0, 1) := dk_3 (dk_at dksX13_oneThrow_3 9 rfl rfl)
theorem dX13_oneThrow_80 : decode cX13_oneThrow 80 = .ok (.aload_n 0, 1) := dk_42 (dk_at dksX13_oneThrow_3 10 rfl rfl)
theorem dX13_oneThrow_81 : decode cX13_oneThrow 81 = .ok (.iload_n 3, 1) := dk_29 (dk_at dksX13_oneThrow_3 11 rfl rfl)
theorem dX13_oneThrow_82 : decode cX13_oneThrow 82 = .ok (.iconst 2, 1) := dk_5 (dk_at dksX13_oneThrow_3 12 rfl rfl)
theorem dX13_oneThrow_83 : decode cX13_oneThrow 83 = .ok (.invokevirtual 119, 3) := dk_182 0 119 (dk_at dksX13_oneThrow_3 13 rfl rfl)
theorem dX13_oneThrow_86 : decode cX13_oneThrow 86 = .ok (.iload 4, 2) := dk_21 4 (dk_at dksX13_oneThrow_3 16 rfl rfl)
theorem dX13_oneThrow_88 : decode cX13_oneThrow 88 = .ok (.isub, 1) := dk_100 (dk_at dksX13_oneThrow_3 18 rfl rfl)
theorem dX13_oneThrow_89 : decode cX13_oneThrow 89 = .ok (.invokestatic 122, 3) := dk_184 0 122 (dk_at dksX13_oneThrow_3 19 rfl rfl)
theorem dX13_oneThrow_92 : decode cX13_oneThrow 92 = .ok (.iastore, 1) := dk_79 (dk_at dksX13_oneThrow_3 22 rfl rfl)
theorem dX13_oneThrow_93 : decode cX13_oneThrow 93 = .ok (.iinc 3 1, 3) := dk_132 3 1 (dk_at dksX13_oneThrow_4 0 rfl rfl)
theorem dX13_oneThrow_96 : decode cX13_oneThrow 96 = .ok (.goto (-48), 3) := dk_167 255 208 (dk_at dksX13_oneThrow_4 3 rfl rfl)
theorem dX13_oneThrow_99 : decode cX13_oneThrow 99 = .ok (.iconst 0, 1) := dk_3 (dk_at dksX13_oneThrow_4 6 rfl rfl)
theorem dX13_oneThrow_100 : decode cX13_oneThrow 100 = .ok (.istore_n 3, 1) := dk_62 (dk_at dksX13_oneThrow_4 7 rfl rfl)
theorem dX13_oneThrow_101 : decode cX13_oneThrow 101 = .ok (.iload_n 3, 1) := dk_29 (dk_at dksX13_oneThrow_4 8 rfl rfl)
theorem dX13_oneThrow_102 : decode cX13_oneThrow 102 = .ok (.bipush 7, 2) := dk_16 7 (dk_at dksX13_oneThrow_4 9 rfl rfl)
theorem dX13_oneThrow_104 : decode cX13_oneThrow 104 = .ok (.if_icmp .ge 52, 3) := dk_162 0 52 (dk_at dksX13_oneThrow_4 11 rfl rfl)
theorem dX13_oneThrow_107 : decode cX13_oneThrow 107 = .ok (.iload_n 3, 1) := dk_29 (dk_at dksX13_oneThrow_4 14 rfl rfl)
theorem dX13_oneThrow_108 : decode cX13_oneThrow 108 = .ok (.iload_n 1, 1) := dk_27 (dk_at dksX13_oneThrow_4 15 rfl rfl)
theorem dX13_oneThrow_109 : decode cX13_oneThrow 109 = .ok (.if_icmp .ne 8, 3) := dk_160 0 8 (dk_at dksX13_oneThrow_4 16 rfl rfl)
theorem dX13_oneThrow_112 : decode cX13_oneThrow 112 = .ok (.bipush 6, 2) := dk_16 6 (dk_at dksX13_oneThrow_4 19 rfl rfl)
theorem dX13_oneThrow_114 : decode cX13_oneThrow 114 = .ok (.goto 4, 3) := dk_167 0 4 (dk_at dksX13_oneThrow_4 21 rfl rfl)
theorem dX13_oneThrow_117 : decode cX13_oneThrow 117 = .ok (.iconst (-1), 1) := dk_2 (dk_at dksX13_oneThrow_5 0 rfl rfl)
theorem dX13_oneThrow_118 : decode cX13_oneThrow 118 = .ok (.istore 4, 2) := dk_54 4 (dk_at dksX13_oneThrow_5 1 rfl rfl)
theorem dX13_oneThrow_120 : decode cX13_oneThrow 120 = .ok (.aload_n 0, 1) := dk_42 (dk_at dksX13_oneThrow_5 3 rfl rfl)
theorem dX13_oneThrow_121 : decode cX13_oneThrow 121 = .ok (.getfield 9, 3) := dk_180 0 9 (dk_at dksX13_oneThrow_5 4 rfl rfl)
theorem dX13_oneThrow_124 : decode cX13_oneThrow 124 = .ok (.bipush 31, 2) := dk_16 31 (dk_at dksX13_oneThrow_5 7 rfl rfl)
theorem dX13_oneThrow_126 : decode cX13_oneThrow 126 = .ok (.iload_n 3, 1) := dk_29 (dk_at dksX13_oneThrow_5 9 rfl rfl)
theorem dX13_oneThrow_127 : decode cX13_oneThrow 127 = .ok (.iadd, 1) := dk_96 (dk_at dksX13_oneThrow_5 10 rfl rfl)
theorem dX13_oneThrow_128 : decode cX13_oneThrow 128 = .ok (.iconst 0, 1) := dk_3 (dk_at dksX13_oneThrow_5 11 rfl rfl)
theorem dX13_oneThrow_129 : decode cX13_oneThrow 129 = .ok (.bipush 99, 2) := dk_16 99 (dk_at dksX13_oneThrow_5 12 rfl rfl)
theorem dX13_oneThrow_131 : decode cX13_oneThrow 131 = .ok (.aload_n 0, 1) := dk_42 (dk_at dksX13_oneThrow_5 14 rfl rfl)
theorem dX13_oneThrow_132 : decode cX13_oneThrow 132 = .ok (.getfield 9, 3) := dk_180 0 9 (dk_at dksX13_oneThrow_5 15 rfl rfl)
theorem dX13_oneThrow_135 : decode cX13_oneThrow 135 = .ok (.bipush 31, 2) := dk_16 31 (dk_at dksX13_oneThrow_5 18 rfl rfl)
theorem dX13_oneThrow_137 : decode cX13_oneThrow 137 = .ok (.iload_n 3, 1) := dk_29 (dk_at dksX13_oneThrow_5 20 rfl rfl)
theorem dX13_oneThrow_138 : decode cX13_oneThrow 138 = .ok (.iadd, 1) := dk_96 (dk_at dksX13_oneThrow_5 21 rfl rfl)
theorem dX13_oneThrow_139 : decode cX13_oneThrow 139 = .ok (.iaload, 1) := dk_46 (dk_at dksX13_oneThrow_5 22 rfl rfl)
theorem dX13_oneThrow_140 : decode cX13_oneThrow 140 = .ok (.iload 4, 2) := dk_21 4 (dk_at dksX13_oneThrow_6 0 rfl rfl)
theorem dX13_oneThrow_142 : decode cX13_oneThrow 142 = .ok (.iadd, 1) := dk_96 (dk_at dksX13_oneThrow_6 2 rfl rfl)
theorem dX13_oneThrow_143 : decode cX13_oneThrow 143 = .ok (.invokestatic 144, 3) := dk_184 0 144 (dk_at dksX13_oneThrow_6 3 rfl rfl)
theorem dX13_oneThrow_146 : decode cX13_oneThrow 146 = .ok (.invokestatic 122, 3) := dk_184 0 122 (dk_at dksX13_oneThrow_6 6 rfl rfl)
theorem dX13_oneThrow_149 : decode cX13_oneThrow 149 = .ok (.iastore, 1) := dk_79 (dk_at dksX13_oneThrow_6 9 rfl rfl)
theorem dX13_oneThrow_150 : decode cX13_oneThrow 150 = .ok (.iinc 3 1, 3) := dk_132 3 1 (dk_at dksX13_oneThrow_6 10 rfl rfl)
theorem dX13_oneThrow_153 : decode cX13_oneThrow 153 = .ok (.goto (-52), 3) := dk_167 255 204 (dk_at dksX13_oneThrow_6 13 rfl rfl)
theorem dX13_oneThrow_156 : decode cX13_oneThrow 156 = .ok (.aload_n 0, 1) := dk_42 (dk_at dksX13_oneThrow_6 16 rfl rfl)
theorem dX13_oneThrow_157 : decode cX13_oneThrow 157 = .ok (.getfield 9, 3) := dk_180 0 9 (dk_at dksX13_oneThrow_6 17 rfl rfl)
theorem dX13_oneThrow_160 : decode cX13_oneThrow 160 = .ok (.iconst 0, 1) := dk_3 (dk_at dksX13_oneThrow_6 20 rfl rfl)
theorem dX13_oneThrow_161 : decode cX13_oneThrow 161 = .ok (.dup2, 1) := dk_92 (dk_at dksX13_oneThrow_6 21 rfl rfl)
theorem dX13_oneThrow_162 : decode cX13_oneThrow 162 = .ok (.iaload, 1) := dk_46 (dk_at dksX13_oneThrow_6 22 rfl rfl)
theorem dX13_oneThrow_163 : decode cX13_oneThrow 163 = .ok (.iconst 1, 1) := dk_4 (dk_at dksX13_oneThrow_6 23 rfl rfl)
theorem dX13_oneThrow_164 : decode cX13_oneThrow 164 = .ok (.iadd, 1) := dk_96 (dk_at dksX13_oneThrow_7 0 rfl rfl)
theorem dX13_oneThrow_165 : decode cX13_oneThrow 165 = .ok (.iastore, 1) := dk_79 (dk_at dksX13_oneThrow_7 1 rfl rfl)
theorem dX13_oneThrow_166 : decode cX13_oneThrow 166 = .ok (.return_, 1) := dk_177 (dk_at dksX13_oneThrow_7 2 rfl rfl)
abbrev cX13_placeNext : ByteArray := prog_16_method_36_code
def yX13_placeNext : MethodName := ⟨RX13, "placeNext", "()I"⟩
def dkwX13_placeNext_1 : List UInt8 := [184, 0, 106, 172]
abbrev dktX13_placeNext_1 : List UInt8 := dkwX13_placeNext_1 ++ []
def dkwX13_placeNext_0 : List UInt8 := [42, 180, 0, 9, 16, 38, 42, 180, 0, 9, 3, 46, 16, 6, 112, 96, 46, 42, 180, 0, 9, 16, 6, 46]
abbrev dktX13_placeNext_0 : List UInt8 := dkwX13_placeNext_0 ++ dktX13_placeNext_1
theorem dksX13_placeNext_0 : cX13_placeNext.data.toList.drop 0 = dktX13_placeNext_0 := by decide +kernel
theorem dksX13_placeNext_1 : cX13_placeNext.data.toList.drop 24 = dktX13_placeNext_1 := dk_seg dksX13_placeNext_0 24 rfl rfl
theorem dX13_placeNext_0 : decode cX13_placeNext 0 = .ok (.aload_n 0, 1) := dk_42 (dk_at dksX13_placeNext_0 0 rfl rfl)
theorem dX13_placeNext_1 : decode cX13_placeNext 1 = .ok (.getfield 9, 3) := dk_180 0 9 (dk_at dksX13_placeNext_0 1 rfl rfl)
theorem dX13_placeNext_4 : decode cX13_placeNext 4 = .ok (.bipush 38, 2) := dk_16 38 (dk_at dksX13_placeNext_0 4 rfl rfl)
theorem dX13_placeNext_6 : decode cX13_placeNext 6 = .ok (.aload_n 0, 1) := dk_42 (dk_at dksX13_placeNext_0 6 rfl rfl)
theorem dX13_placeNext_7 : decode cX13_placeNext 7 = .ok (.getfield 9, 3) := dk_180 0 9 (dk_at dksX13_placeNext_0 7 rfl rfl)
theorem dX13_placeNext_10 : decode cX13_placeNext 10 = .ok (.iconst 0, 1) := dk_3 (dk_at dksX13_placeNext_0 10 rfl rfl)
theorem dX13_placeNext_11 : decode cX13_placeNext 11 = .ok (.iaload, 1) := dk_46 (dk_at dksX13_placeNext_0 11 rfl rfl)
theorem dX13_placeNext_12 : decode cX13_placeNext 12 = .ok (.bipush 6, 2) := dk_16 6 (dk_at dksX13_placeNext_0 12 rfl rfl)
theorem dX13_placeNext_14 : decode cX13_placeNext 14 = .ok (.irem, 1) := dk_112 (dk_at dksX13_placeNext_0 14 rfl rfl)
theorem dX13_placeNext_15 : decode cX13_placeNext 15 = .ok (.iadd, 1) := dk_96 (dk_at dksX13_placeNext_0 15 rfl rfl)
theorem dX13_placeNext_16 : decode cX13_placeNext 16 = .ok (.iaload, 1) := dk_46 (dk_at dksX13_placeNext_0 16 rfl rfl)
theorem dX13_placeNext_17 : decode cX13_placeNext 17 = .ok (.aload_n 0, 1) := dk_42 (dk_at dksX13_placeNext_0 17 rfl rfl)
theorem dX13_placeNext_18 : decode cX13_placeNext 18 = .ok (.getfield 9, 3) := dk_180 0 9 (dk_at dksX13_placeNext_0 18 rfl rfl)
theorem dX13_placeNext_21 : decode cX13_placeNext 21 = .ok (.bipush 6, 2) := dk_16 6 (dk_at dksX13_placeNext_0 21 rfl rfl)
theorem dX13_placeNext_23 : decode cX13_placeNext 23 = .ok (.iaload, 1) := dk_46 (dk_at dksX13_placeNext_0 23 rfl rfl)
theorem dX13_placeNext_24 : decode cX13_placeNext 24 = .ok (.invokestatic 106, 3) := dk_184 0 106 (dk_at dksX13_placeNext_1 0 rfl rfl)
theorem dX13_placeNext_27 : decode cX13_placeNext 27 = .ok (.ireturn, 1) := dk_172 (dk_at dksX13_placeNext_1 3 rfl rfl)
abbrev cX13_thrownTo : ByteArray := prog_16_method_38_code
def yX13_thrownTo : MethodName := ⟨RX13, "thrownTo", "(II)V"⟩
def dkwX13_thrownTo_5 : List UInt8 := [184, 0, 144, 79, 177]
abbrev dktX13_thrownTo_5 : List UInt8 := dkwX13_thrownTo_5 ++ []
def dkwX13_thrownTo_4 : List UInt8 := [180, 0, 9, 27, 5, 184, 0, 109, 16, 99, 42, 27, 5, 182, 0, 119, 42, 27, 182, 0, 130, 96]
abbrev dktX13_thrownTo_4 : List UInt8 := dkwX13_thrownTo_4 ++ dktX13_thrownTo_5
def dkwX13_thrownTo_3 : List UInt8 := [180, 0, 9, 21, 5, 17, 39, 15, 42, 180, 0, 9, 21, 5, 46, 4, 96, 184, 0, 144, 79, 42]
abbrev dktX13_thrownTo_3 : List UInt8 := dkwX13_thrownTo_3 ++ dktX13_thrownTo_4
def dkwX13_thrownTo_2 : List UInt8 := [184, 0, 144, 184, 0, 122, 79, 27, 29, 153, 0, 7, 6, 167, 0, 4, 7, 184, 0, 109, 54, 5, 42]
abbrev dktX13_thrownTo_2 : List UInt8 := dkwX13_thrownTo_2 ++ dktX13_thrownTo_3
def dkwX13_thrownTo_1 : List UInt8 := [167, 0, 11, 42, 180, 0, 9, 6, 46, 6, 100, 54, 4, 42, 180, 0, 9, 6, 3, 18, 143, 21, 4]
abbrev dktX13_thrownTo_1 : List UInt8 := dkwX13_thrownTo_1 ++ dktX13_thrownTo_2
def dkwX13_thrownTo_0 : List UInt8 := [42, 28, 182, 0, 140, 62, 29, 153, 0, 19, 42, 180, 0, 9, 6, 46, 42, 27, 28, 182, 0, 137, 96]
abbrev dktX13_thrownTo_0 : List UInt8 := dkwX13_thrownTo_0 ++ dktX13_thrownTo_1
theorem dksX13_thrownTo_0 : cX13_thrownTo.data.toList.drop 0 = dktX13_thrownTo_0 := by decide +kernel
theorem dksX13_thrownTo_1 : cX13_thrownTo.data.toList.drop 23 = dktX13_thrownTo_1 := dk_seg dksX13_thrownTo_0 23 rfl rfl
theorem dksX13_thrownTo_2 : cX13_thrownTo.data.toList.drop 46 = dktX13_thrownTo_2 := dk_seg dksX13_thrownTo_1 23 rfl rfl
theorem dksX13_thrownTo_3 : cX13_thrownTo.data.toList.drop 69 = dktX13_thrownTo_3 := dk_seg dksX13_thrownTo_2 23 rfl rfl
theorem dksX13_thrownTo_4 : cX13_thrownTo.data.toList.drop 91 = dktX13_thrownTo_4 := dk_seg dksX13_thrownTo_3 22 rfl rfl
theorem dksX13_thrownTo_5 : cX13_thrownTo.data.toList.drop 113 = dktX13_thrownTo_5 := dk_seg dksX13_thrownTo_4 22 rfl rfl
theorem dX13_thrownTo_0 : decode cX13_thrownTo 0 = .ok (.aload_n 0, 1) := dk_42 (dk_at dksX13_thrownTo_0 0 rfl rfl)
theorem dX13_thrownTo_1 : decode cX13_thrownTo 1 = .ok (.iload_n 2, 1) := dk_28 (dk_at dksX13_thrownTo_0 1 rfl rfl)
theorem dX13_thrownTo_2 : decode cX13_thrownTo 2 = .ok (.invokevirtual 140, 3) := dk_182 0 140 (dk_at dksX13_thrownTo_0 2 rfl rfl)
theorem dX13_thrownTo_5 : decode cX13_thrownTo 5 = .ok (.istore_n 3, 1) := dk_62 (dk_at dksX13_thrownTo_0 5 rfl rfl)
theorem dX13_thrownTo_6 : decode cX13_thrownTo 6 = .ok (.iload_n 3, 1) := dk_29 (dk_at dksX13_thrownTo_0 6 rfl rfl)
theorem dX13_thrownTo_7 : decode cX13_thrownTo 7 = .ok (.ifCond .eq 19, 3) := dk_153 0 19 (dk_at dksX13_thrownTo_0 7 rfl rfl)
theorem dX13_thrownTo_10 : decode cX13_thrownTo 10 = .ok (.aload_n 0, 1) := dk_42 (dk_at dksX13_thrownTo_0 10 rfl rfl)
theorem dX13_thrownTo_11 : decode cX13_thrownTo 11 = .ok (.getfield 9, 3) := dk_180 0 9 (dk_at dksX13_thrownTo_0 11 rfl rfl)
theorem dX13_thrownTo_14 : decode cX13_thrownTo 14 = .ok (.iconst 3, 1) := dk_6 (dk_at dksX13_thrownTo_0 14 rfl rfl)
theorem dX13_thrownTo_15 : decode cX13_thrownTo 15 = .ok (.iaload, 1) := dk_46 (dk_at dksX13_thrownTo_0 15 rfl rfl)
theorem dX13_thrownTo_16 : decode cX13_thrownTo 16 = .ok (.aload_n 0, 1) := dk_42 (dk_at dksX13_thrownTo_0 16 rfl rfl)
theorem dX13_thrownTo_17 : decode cX13_thrownTo 17 = .ok (.iload_n 1, 1) := dk_27 (dk_at dksX13_thrownTo_0 17 rfl rfl)
theorem dX13_thrownTo_18 : decode cX13_thrownTo 18 = .ok (.iload_n 2, 1) := dk_28 (dk_at dksX13_thrownTo_0 18 rfl rfl)
theorem dX13_thrownTo_19 : decode cX13_thrownTo 19 = .ok (.invokevirtual 137, 3) := dk_182 0 137 (dk_at dksX13_thrownTo_0 19 rfl rfl)
theorem dX13_thrownTo_22 : decode cX13_thrownTo 22 = .ok (.iadd, 1) := dk_96 (dk_at dksX13_thrownTo_0 22 rfl rfl)
theorem dX13_thrownTo_23 : decode cX13_thrownTo 23 = .ok (.goto 11, 3) := dk_167 0 11 (dk_at dksX13_thrownTo_1 0 rfl rfl)
theorem dX13_thrownTo_26 : decode cX13_thrownTo 26 = .ok (.aload_n 0, 1) := dk_42 (dk_at dksX13_thrownTo_1 3 rfl rfl)
theorem dX13_thrownTo_27 : decode cX13_thrownTo 27 = .ok (.getfield 9, 3) := dk_180 0 9 (dk_at dksX13_thrownTo_1 4 rfl rfl)
theorem dX13_thrownTo_30 : decode cX13_thrownTo 30 = .ok (.iconst 3, 1) := dk_6 (dk_at dksX13_thrownTo_1 7 rfl rfl)
theorem dX13_thrownTo_31 : decode cX13_thrownTo 31 = .ok (.iaload, 1) := dk_46 (dk_at dksX13_thrownTo_1 8 rfl rfl)
theorem dX13_thrownTo_32 : decode cX13_thrownTo 32 = .ok (.iconst 3, 1) := dk_6 (dk_at dksX13_thrownTo_1 9 rfl rfl)
theorem dX13_thrownTo_33 : decode cX13_thrownTo 33 = .ok (.isub, 1) := dk_100 (dk_at dksX13_thrownTo_1 10 rfl rfl)
theorem dX13_thrownTo_34 : decode cX13_thrownTo 34 = .ok (.istore 4, 2) := dk_54 4 (dk_at dksX13_thrownTo_1 11 rfl rfl)
theorem dX13_thrownTo_36 : decode cX13_thrownTo 36 = .ok (.aload_n 0, 1) := dk_42 (dk_at dksX13_thrownTo_1 13 rfl rfl)
theorem dX13_thrownTo_37 : decode cX13_thrownTo 37 = .ok (.getfield 9, 3) := dk_180 0 9 (dk_at dksX13_thrownTo_1 14 rfl rfl)
theorem dX13_thrownTo_40 : decode cX13_thrownTo 40 = .ok (.iconst 3, 1) := dk_6 (dk_at dksX13_thrownTo_1 17 rfl rfl)
theorem dX13_thrownTo_41 : decode cX13_thrownTo 41 = .ok (.iconst 0, 1) := dk_3 (dk_at dksX13_thrownTo_1 18 rfl rfl)
theorem dX13_thrownTo_42 : decode cX13_thrownTo 42 = .ok (.ldc 143, 2) := dk_18 143 (dk_at dksX13_thrownTo_1 19 rfl rfl)
theorem dX13_thrownTo_44 : decode cX13_thrownTo 44 = .ok (.iload 4, 2) := dk_21 4 (dk_at dksX13_thrownTo_1 21 rfl rfl)
theorem dX13_thrownTo_46 : decode cX13_thrownTo 46 = .ok (.invokestatic 144, 3) := dk_184 0 144 (dk_at dksX13_thrownTo_2 0 rfl rfl)
theorem dX13_thrownTo_49 : decode cX13_thrownTo 49 = .ok (.invokestatic 122, 3) := dk_184 0 122 (dk_at dksX13_thrownTo_2 3 rfl rfl)
theorem dX13_thrownTo_52 : decode cX13_thrownTo 52 = .ok (.iastore, 1) := dk_79 (dk_at dksX13_thrownTo_2 6 rfl rfl)
theorem dX13_thrownTo_53 : decode cX13_thrownTo 53 = .ok (.iload_n 1, 1) := dk_27 (dk_at dksX13_thrownTo_2 7 rfl rfl)
theorem dX13_thrownTo_54 : decode cX13_thrownTo 54 = .ok (.iload_n 3, 1) := dk_29 (dk_at dksX13_thrownTo_2 8 rfl rfl)
theorem dX13_thrownTo_55 : decode cX13_thrownTo 55 = .ok (.ifCond .eq 7, 3) := dk_153 0 7 (dk_at dksX13_thrownTo_2 9 rfl rfl)
theorem dX13_thrownTo_58 : decode cX13_thrownTo 58 = .ok (.iconst 3, 1) := dk_6 (dk_at dksX13_thrownTo_2 12 rfl rfl)
theorem dX13_thrownTo_59 : decode cX13_thrownTo 59 = .ok (.goto 4, 3) := dk_167 0 4 (dk_at dksX13_thrownTo_2 13 rfl rfl)
theorem dX13_thrownTo_62 : decode cX13_thrownTo 62 = .ok (.iconst 4, 1) := dk_7 (dk_at dksX13_thrownTo_2 16 rfl rfl)
theorem dX13_thrownTo_63 : decode cX13_thrownTo 63 = .ok (.invokestatic 109, 3) := dk_184 0 109 (dk_at dksX13_thrownTo_2 17 rfl rfl)
theorem dX13_thrownTo_66 : decode cX13_thrownTo 66 = .ok (.istore 5, 2) := dk_54 5 (dk_at dksX13_thrownTo_2 20 rfl rfl)
theorem dX13_thrownTo_68 : decode cX13_thrownTo 68 = .ok (.aload_n 0, 1) := dk_42 (dk_at dksX13_thrownTo_2 22 rfl rfl)
theorem dX13_thrownTo_69 : decode cX13_thrownTo 69 = .ok (.getfield 9, 3) := dk_180 0 9 (dk_at dksX13_thrownTo_3 0 rfl rfl)
theorem dX13_thrownTo_72 : decode cX13_thrownTo 72 = .ok (.iload 5, 2) := dk_21 5 (dk_at dksX13_thrownTo_3 3 rfl rfl)
theorem dX13_thrownTo_74 : decode cX13_thrownTo 74 = .ok (.sipush 9999, 3) := dk_17 39 15 (dk_at dksX13_thrownTo_3 5 rfl rfl)
theorem dX13_thrownTo_77 : decode cX13_thrownTo 77 = .ok (.aload_n 0, 1) := dk_42 (dk_at dksX13_thrownTo_3 8 rfl rfl)
theorem dX13_thrownTo_78 : decode cX13_thrownTo 78 = .ok (.getfield 9, 3) := dk_180 0 9 (dk_at dksX13_thrownTo_3 9 rfl rfl)
theorem dX13_thrownTo_81 : decode cX13_thrownTo 81 = .ok (.iload 5, 2) := dk_21 5 (dk_at dksX13_thrownTo_3 12 rfl rfl)
theorem dX13_thrownTo_83 : decode cX13_thrownTo 83 = .ok (.iaload, 1) := dk_46 (dk_at dksX13_thrownTo_3 14 rfl rfl)
theorem dX13_thrownTo_84 : decode cX13_thrownTo 84 = .ok (.iconst 1, 1) := dk_4 (dk_at dksX13_thrownTo_3 15 rfl rfl)
theorem dX13_thrownTo_85 : decode cX13_thrownTo 85 = .ok (.iadd, 1) := dk_96 (dk_at dksX13_thrownTo_3 16 rfl rfl)
theorem dX13_thrownTo_86 : decode cX13_thrownTo 86 = .ok (.invokestatic 144, 3) := dk_184 0 144 (dk_at dksX13_thrownTo_3 17 rfl rfl)
theorem dX13_thrownTo_89 : decode cX13_thrownTo 89 = .ok (.iastore, 1) := dk_79 (dk_at dksX13_thrownTo_3 20 rfl rfl)
theorem dX13_thrownTo_90 : decode cX13_thrownTo 90 = .ok (.aload_n 0, 1) := dk_42 (dk_at dksX13_thrownTo_3 21 rfl rfl)
theorem dX13_thrownTo_91 : decode cX13_thrownTo 91 = .ok (.getfield 9, 3) := dk_180 0 9 (dk_at dksX13_thrownTo_4 0 rfl rfl)
theorem dX13_thrownTo_94 : decode cX13_thrownTo 94 = .ok (.iload_n 1, 1) := dk_27 (dk_at dksX13_thrownTo_4 3 rfl rfl)
theorem dX13_thrownTo_95 : decode cX13_thrownTo 95 = .ok (.iconst 2, 1) := dk_5 (dk_at dksX13_thrownTo_4 4 rfl rfl)
theorem dX13_thrownTo_96 : decode cX13_thrownTo 96 = .ok (.invokestatic 109, 3) := dk_184 0 109 (dk_at dksX13_thrownTo_4 5 rfl rfl)
theorem dX13_thrownTo_99 : decode cX13_thrownTo 99 = .ok (.bipush 99, 2) := dk_16 99 (dk_at dksX13_thrownTo_4 8 rfl rfl)
theorem dX13_thrownTo_101 : decode cX13_thrownTo 101 = .ok (.aload_n 0, 1) := dk_42 (dk_at dksX13_thrownTo_4 10 rfl rfl)
theorem dX13_thrownTo_102 : decode cX13_thrownTo 102 = .ok (.iload_n 1, 1) := dk_27 (dk_at dksX13_thrownTo_4 11 rfl rfl)
theorem dX13_thrownTo_103 : decode cX13_thrownTo 103 = .ok (.iconst 2, 1) := dk_5 (dk_at dksX13_thrownTo_4 12 rfl rfl)
theorem dX13_thrownTo_104 : decode cX13_thrownTo 104 = .ok (.invokevirtual 119, 3) := dk_182 0 119 (dk_at dksX13_thrownTo_4 13 rfl rfl)
theorem dX13_thrownTo_107 : decode cX13_thrownTo 107 = .ok (.aload_n 0, 1) := dk_42 (dk_at dksX13_thrownTo_4 16 rfl rfl)
theorem dX13_thrownTo_108 : decode cX13_thrownTo 108 = .ok (.iload_n 1, 1) := dk_27 (dk_at dksX13_thrownTo_4 17 rfl rfl)
theorem dX13_thrownTo_109 : decode cX13_thrownTo 109 = .ok (.invokevirtual 130, 3) := dk_182 0 130 (dk_at dksX13_thrownTo_4 18 rfl rfl)
theorem dX13_thrownTo_112 : decode cX13_thrownTo 112 = .ok (.iadd, 1) := dk_96 (dk_at dksX13_thrownTo_4 21 rfl rfl)
theorem dX13_thrownTo_113 : decode cX13_thrownTo 113 = .ok (.invokestatic 144, 3) := dk_184 0 144 (dk_at dksX13_thrownTo_5 0 rfl rfl)
theorem dX13_thrownTo_116 : decode cX13_thrownTo 116 = .ok (.iastore, 1) := dk_79 (dk_at dksX13_thrownTo_5 3 rfl rfl)
theorem dX13_thrownTo_117 : decode cX13_thrownTo 117 = .ok (.return_, 1) := dk_177 (dk_at dksX13_thrownTo_5 4 rfl rfl)
abbrev cX13_isWonIn : ByteArray := prog_16_method_37_code
def yX13_isWonIn : MethodName := ⟨RX13, "isWonIn", "(I)Z"⟩
def dkwX13_isWonIn_1 : List UInt8 := [182, 0, 127, 42, 27, 182, 0, 94, 164, 0, 7, 4, 167, 0, 4, 3, 172]
abbrev dktX13_isWonIn_1 : List UInt8 := dkwX13_isWonIn_1 ++ []
def dkwX13_isWonIn_0 : List UInt8 := [42, 180, 0, 9, 16, 17, 27, 96, 46, 155, 0, 28, 42, 42, 180, 0, 9, 16, 17, 27, 96, 46]
abbrev dktX13_isWonIn_0 : List UInt8 := dkwX13_isWonIn_0 ++ dktX13_isWonIn_1
theorem dksX13_isWonIn_0 : cX13_isWonIn.data.toList.drop 0 = dktX13_isWonIn_0 := by decide +kernel
theorem dksX13_isWonIn_1 : cX13_isWonIn.data.toList.drop 22 = dktX13_isWonIn_1 := dk_seg dksX13_isWonIn_0 22 rfl rfl
theorem dX13_isWonIn_0 : decode cX13_isWonIn 0 = .ok (.aload_n 0, 1) := dk_42 (dk_at dksX13_isWonIn_0 0 rfl rfl)
theorem dX13_isWonIn_1 : decode cX13_isWonIn 1 = .ok (.getfield 9, 3) := dk_180 0 9 (dk_at dksX13_isWonIn_0 1 rfl rfl)
theorem dX13_isWonIn_4 : decode cX13_isWonIn 4 = .ok (.bipush 17, 2) := dk_16 17 (dk_at dksX13_isWonIn_0 4 rfl rfl)
theorem dX13_isWonIn_6 : decode cX13_isWonIn 6 = .ok (.iload_n 1, 1) := dk_27 (dk_at dksX13_isWonIn_0 6 rfl rfl)
theorem dX13_isWonIn_7 : decode cX13_isWonIn 7 = .ok (.iadd, 1) := dk_96 (dk_at dksX13_isWonIn_0 7 rfl rfl)
theorem dX13_isWonIn_8 : decode cX13_isWonIn 8 = .ok (.iaload, 1) := dk_46 (dk_at dksX13_isWonIn_0 8 rfl rfl)
theorem dX13_isWonIn_9 : decode cX13_isWonIn 9 = .ok (.ifCond .lt 28, 3) := dk_155 0 28 (dk_at dksX13_isWonIn_0 9 rfl rfl)
theorem dX13_isWonIn_12 : decode cX13_isWonIn 12 = .ok (.aload_n 0, 1) := dk_42 (dk_at dksX13_isWonIn_0 12 rfl rfl)
theorem dX13_isWonIn_13 : decode cX13_isWonIn 13 = .ok (.aload_n 0, 1) := dk_42 (dk_at dksX13_isWonIn_0 13 rfl rfl)
theorem dX13_isWonIn_14 : decode cX13_isWonIn 14 = .ok (.getfield 9, 3) := dk_180 0 9 (dk_at dksX13_isWonIn_0 14 rfl rfl)
theorem dX13_isWonIn_17 : decode cX13_isWonIn 17 = .ok (.bipush 17, 2) := dk_16 17 (dk_at dksX13_isWonIn_0 17 rfl rfl)
theorem dX13_isWonIn_19 : decode cX13_isWonIn 19 = .ok (.iload_n 1, 1) := dk_27 (dk_at dksX13_isWonIn_0 19 rfl rfl)
theorem dX13_isWonIn_20 : decode cX13_isWonIn 20 = .ok (.iadd, 1) := dk_96 (dk_at dksX13_isWonIn_0 20 rfl rfl)
theorem dX13_isWonIn_21 : decode cX13_isWonIn 21 = .ok (.iaload, 1) := dk_46 (dk_at dksX13_isWonIn_0 21 rfl rfl)
theorem dX13_isWonIn_22 : decode cX13_isWonIn 22 = .ok (.invokevirtual 127, 3) := dk_182 0 127 (dk_at dksX13_isWonIn_1 0 rfl rfl)
theorem dX13_isWonIn_25 : decode cX13_isWonIn 25 = .ok (.aload_n 0, 1) := dk_42 (dk_at dksX13_isWonIn_1 3 rfl rfl)
theorem dX13_isWonIn_26 : decode cX13_isWonIn 26 = .ok (.iload_n 1, 1) := dk_27 (dk_at dksX13_isWonIn_1 4 rfl rfl)
theorem dX13_isWonIn_27 : decode cX13_isWonIn 27 = .ok (.invokevirtual 94, 3) := dk_182 0 94 (dk_at dksX13_isWonIn_1 5 rfl rfl)
theorem dX13_isWonIn_30 : decode cX13_isWonIn 30 = .ok (.if_icmp .le 7, 3) := dk_164 0 7 (dk_at dksX13_isWonIn_1 8 rfl rfl)
theorem dX13_isWonIn_33 : decode cX13_isWonIn 33 = .ok (.iconst 1, 1) := dk_4 (dk_at dksX13_isWonIn_1 11 rfl rfl)
theorem dX13_isWonIn_34 : decode cX13_isWonIn 34 = .ok (.goto 4, 3) := dk_167 0 4 (dk_at dksX13_isWonIn_1 12 rfl rfl)
theorem dX13_isWonIn_37 : decode cX13_isWonIn 37 = .ok (.iconst 0, 1) := dk_3 (dk_at dksX13_isWonIn_1 15 rfl rfl)
theorem dX13_isWonIn_38 : decode cX13_isWonIn 38 = .ok (.ireturn, 1) := dk_172 (dk_at dksX13_isWonIn_1 16 rfl rfl)
abbrev cX13_now : ByteArray := prog_16_method_45_code
def yX13_now : MethodName := ⟨RX13, "now", "(I)I"⟩
def dkwX13_now_4 : List UInt8 := [182, 0, 72, 172]
abbrev dktX13_now_4 : List UInt8 := dkwX13_now_4 ++ []
def dkwX13_now_3 : List UInt8 := [182, 0, 166, 172, 42, 182, 0, 147, 172, 42, 182, 0, 169, 172, 42, 16, 63, 182, 0, 172, 172, 42, 18, 66]
abbrev dktX13_now_3 : List UInt8 := dkwX13_now_3 ++ dktX13_now_4
def dkwX13_now_2 : List UInt8 := [42, 180, 0, 9, 3, 46, 172, 42, 180, 0, 9, 6, 46, 172, 42, 6, 182, 0, 166, 172, 42, 7]
abbrev dktX13_now_2 : List UInt8 := dkwX13_now_2 ++ dktX13_now_3
def dkwX13_now_1 : List UInt8 := [170, 0, 0, 0, 0, 0, 86, 0, 0, 0, 0, 0, 0, 0, 6, 0, 0, 0, 43, 0, 0, 0, 50, 0, 0, 0, 57, 0, 0, 0, 63, 0, 0, 0, 69, 0, 0, 0, 74, 0, 0, 0, 79]
abbrev dktX13_now_1 : List UInt8 := dkwX13_now_1 ++ dktX13_now_2
def dkwX13_now_0 : List UInt8 := [27]
abbrev dktX13_now_0 : List UInt8 := dkwX13_now_0 ++ dktX13_now_1
theorem dksX13_now_0 : cX13_now.data.toList.drop 0 = dktX13_now_0 := by decide +kernel
theorem dksX13_now_1 : cX13_now.data.toList.drop 1 = dktX13_now_1 := dk_seg dksX13_now_0 1 rfl rfl
theorem dksX13_now_2 : cX13_now.data.toList.drop 44 = dktX13_now_2 := dk_seg dksX13_now_1 43 rfl rfl
theorem dksX13_now_3 : cX13_now.data.toList.drop 66 = dktX13_now_3 := dk_seg dksX13_now_2 22 rfl rfl
theorem dksX13_now_4 : cX13_now.data.toList.drop 90 = dktX13_now_4 := dk_seg dksX13_now_3 24 rfl rfl
theorem dX13_now_0 : decode cX13_now 0 = .ok (.iload_n 1, 1) := dk_27 (dk_at dksX13_now_0 0 rfl rfl)
theorem dX13_now_1 : decode cX13_now 1 = .ok (.tableswitch 86 0 6 #[43, 50, 57, 63, 69, 74, 79], 43) := by decide +kernel
theorem dX13_now_44 : decode cX13_now 44 = .ok (.aload_n 0, 1) := dk_42 (dk_at dksX13_now_2 0 rfl rfl)
theorem dX13_now_45 : decode cX13_now 45 = .ok (.getfield 9, 3) := dk_180 0 9 (dk_at dksX13_now_2 1 rfl rfl)
theorem dX13_now_48 : decode cX13_now 48 = .ok (.iconst 0, 1) := dk_3 (dk_at dksX13_now_2 4 rfl rfl)
theorem dX13_now_49 : decode cX13_now 49 = .ok (.iaload, 1) := dk_46 (dk_at dksX13_now_2 5 rfl rfl)
theorem dX13_now_50 : decode cX13_now 50 = .ok (.ireturn, 1) := dk_172 (dk_at dksX13_now_2 6 rfl rfl)
theorem dX13_now_51 : decode cX13_now 51 = .ok (.aload_n 0, 1) := dk_42 (dk_at dksX13_now_2 7 rfl rfl)
theorem dX13_now_52 : decode cX13_now 52 = .ok (.getfield 9, 3) := dk_180 0 9 (dk_at dksX13_now_2 8 rfl rfl)
theorem dX13_now_55 : decode cX13_now 55 = .ok (.iconst 3, 1) := dk_6 (dk_at dksX13_now_2 11 rfl rfl)
theorem dX13_now_56 : decode cX13_now 56 = .ok (.iaload, 1) := dk_46 (dk_at dksX13_now_2 12 rfl rfl)
theorem dX13_now_57 : decode cX13_now 57 = .ok (.ireturn, 1) := dk_172 (dk_at dksX13_now_2 13 rfl rfl)
theorem dX13_now_58 : decode cX13_now 58 = .ok (.aload_n 0, 1) := dk_42 (dk_at dksX13_now_2 14 rfl rfl)
theorem dX13_now_59 : decode cX13_now 59 = .ok (.iconst 3, 1) := dk_6 (dk_at dksX13_now_2 15 rfl rfl)
theorem dX13_now_60 : decode cX13_now 60 = .ok (.invokevirtual 166, 3) := dk_182 0 166 (dk_at dksX13_now_2 16 rfl rfl)
theorem dX13_now_63 : decode cX13_now 63 = .ok (.ireturn, 1) := dk_172 (dk_at dksX13_now_2 19 rfl rfl)
theorem dX13_now_64 : decode cX13_now 64 = .ok (.aload_n 0, 1) := dk_42 (dk_at dksX13_now_2 20 rfl rfl)
theorem dX13_now_65 : decode cX13_now 65 = .ok (.iconst 4, 1) := dk_7 (dk_at dksX13_now_2 21 rfl rfl)
theorem dX13_now_66 : decode cX13_now 66 = .ok (.invokevirtual 166, 3) := dk_182 0 166 (dk_at dksX13_now_3 0 rfl rfl)
theorem dX13_now_69 : decode cX13_now 69 = .ok (.ireturn, 1) := dk_172 (dk_at dksX13_now_3 3 rfl rfl)
theorem dX13_now_70 : decode cX13_now 70 = .ok (.aload_n 0, 1) := dk_42 (dk_at dksX13_now_3 4 rfl rfl)
theorem dX13_now_71 : decode cX13_now 71 = .ok (.invokevirtual 147, 3) := dk_182 0 147 (dk_at dksX13_now_3 5 rfl rfl)
theorem dX13_now_74 : decode cX13_now 74 = .ok (.ireturn, 1) := dk_172 (dk_at dksX13_now_3 8 rfl rfl)
theorem dX13_now_75 : decode cX13_now 75 = .ok (.aload_n 0, 1) := dk_42 (dk_at dksX13_now_3 9 rfl rfl)
theorem dX13_now_76 : decode cX13_now 76 = .ok (.invokevirtual 169, 3) := dk_182 0 169 (dk_at dksX13_now_3 10 rfl rfl)
theorem dX13_now_79 : decode cX13_now 79 = .ok (.ireturn, 1) := dk_172 (dk_at dksX13_now_3 13 rfl rfl)
theorem dX13_now_80 : decode cX13_now 80 = .ok (.aload_n 0, 1) := dk_42 (dk_at dksX13_now_3 14 rfl rfl)
theorem dX13_now_81 : decode cX13_now 81 = .ok (.bipush 63, 2) := dk_16 63 (dk_at dksX13_now_3 15 rfl rfl)
theorem dX13_now_83 : decode cX13_now 83 = .ok (.invokevirtual 172, 3) := dk_182 0 172 (dk_at dksX13_now_3 17 rfl rfl)
theorem dX13_now_86 : decode cX13_now 86 = .ok (.ireturn, 1) := dk_172 (dk_at dksX13_now_3 20 rfl rfl)
theorem dX13_now_87 : decode cX13_now 87 = .ok (.aload_n 0, 1) := dk_42 (dk_at dksX13_now_3 21 rfl rfl)
theorem dX13_now_88 : decode cX13_now 88 = .ok (.ldc 66, 2) := dk_18 66 (dk_at dksX13_now_3 22 rfl rfl)
theorem dX13_now_90 : decode cX13_now 90 = .ok (.invokevirtual 72, 3) := dk_182 0 72 (dk_at dksX13_now_4 0 rfl rfl)
theorem dX13_now_93 : decode cX13_now 93 = .ok (.ireturn, 1) := dk_172 (dk_at dksX13_now_4 3 rfl rfl)
abbrev cX13_sumOf : ByteArray := prog_16_method_42_code
def yX13_sumOf : MethodName := ⟨RX13, "sumOf", "(I)I"⟩
def dkwX13_sumOf_1 : List UInt8 := [132, 3, 1, 167, 255, 234, 28, 172]
abbrev dktX13_sumOf_1 : List UInt8 := dkwX13_sumOf_1 ++ []
def dkwX13_sumOf_0 : List UInt8 := [3, 61, 3, 62, 29, 42, 180, 0, 9, 4, 46, 162, 0, 18, 28, 42, 29, 27, 182, 0, 119, 96, 61]
abbrev dktX13_sumOf_0 : List UInt8 := dkwX13_sumOf_0 ++ dktX13_sumOf_1
theorem dksX13_sumOf_0 : cX13_sumOf.data.toList.drop 0 = dktX13_sumOf_0 := by decide +kernel
theorem dksX13_sumOf_1 : cX13_sumOf.data.toList.drop 23 = dktX13_sumOf_1 := dk_seg dksX13_sumOf_0 23 rfl rfl
theorem dX13_sumOf_0 : decode cX13_sumOf 0 = .ok (.iconst 0, 1) := dk_3 (dk_at dksX13_sumOf_0 0 rfl rfl)
theorem dX13_sumOf_1 : decode cX13_sumOf 1 = .ok (.istore_n 2, 1) := dk_61 (dk_at dksX13_sumOf_0 1 rfl rfl)
theorem dX13_sumOf_2 : decode cX13_sumOf 2 = .ok (.iconst 0, 1) := dk_3 (dk_at dksX13_sumOf_0 2 rfl rfl)
theorem dX13_sumOf_3 : decode cX13_sumOf 3 = .ok (.istore_n 3, 1) := dk_62 (dk_at dksX13_sumOf_0 3 rfl rfl)
theorem dX13_sumOf_4 : decode cX13_sumOf 4 = .ok (.iload_n 3, 1) := dk_29 (dk_at dksX13_sumOf_0 4 rfl rfl)
theorem dX13_sumOf_5 : decode cX13_sumOf 5 = .ok (.aload_n 0, 1) := dk_42 (dk_at dksX13_sumOf_0 5 rfl rfl)
theorem dX13_sumOf_6 : decode cX13_sumOf 6 = .ok (.getfield 9, 3) := dk_180 0 9 (dk_at dksX13_sumOf_0 6 rfl rfl)
theorem dX13_sumOf_9 : decode cX13_sumOf 9 = .ok (.iconst 1, 1) := dk_4 (dk_at dksX13_sumOf_0 9 rfl rfl)
theorem dX13_sumOf_10 : decode cX13_sumOf 10 = .ok (.iaload, 1) := dk_46 (dk_at dksX13_sumOf_0 10 rfl rfl)
theorem dX13_sumOf_11 : decode cX13_sumOf 11 = .ok (.if_icmp .ge 18, 3) := dk_162 0 18 (dk_at dksX13_sumOf_0 11 rfl rfl)
theorem dX13_sumOf_14 : decode cX13_sumOf 14 = .ok (.iload_n 2, 1) := dk_28 (dk_at dksX13_sumOf_0 14 rfl rfl)
theorem dX13_sumOf_15 : decode cX13_sumOf 15 = .ok (.aload_n 0, 1) := dk_42 (dk_at dksX13_sumOf_0 15 rfl rfl)
theorem dX13_sumOf_16 : decode cX13_sumOf 16 = .ok (.iload_n 3, 1) := dk_29 (dk_at dksX13_sumOf_0 16 rfl rfl)
theorem dX13_sumOf_17 : decode cX13_sumOf 17 = .ok (.iload_n 1, 1) := dk_27 (dk_at dksX13_sumOf_0 17 rfl rfl)
theorem dX13_sumOf_18 : decode cX13_sumOf 18 = .ok (.invokevirtual 119, 3) := dk_182 0 119 (dk_at dksX13_sumOf_0 18 rfl rfl)
theorem dX13_sumOf_21 : decode cX13_sumOf 21 = .ok (.iadd, 1) := dk_96 (dk_at dksX13_sumOf_0 21 rfl rfl)
theorem dX13_sumOf_22 : decode cX13_sumOf 22 = .ok (.istore_n 2, 1) := dk_61 (dk_at dksX13_sumOf_0 22 rfl rfl)
theorem dX13_sumOf_23 : decode cX13_sumOf 23 = .ok (.iinc 3 1, 3) := dk_132 3 1 (dk_at dksX13_sumOf_1 0 rfl rfl)
theorem dX13_sumOf_26 : decode cX13_sumOf 26 = .ok (.goto (-22), 3) := dk_167 255 234 (dk_at dksX13_sumOf_1 3 rfl rfl)
theorem dX13_sumOf_29 : decode cX13_sumOf 29 = .ok (.iload_n 2, 1) := dk_28 (dk_at dksX13_sumOf_1 6 rfl rfl)
theorem dX13_sumOf_30 : decode cX13_sumOf 30 = .ok (.ireturn, 1) := dk_172 (dk_at dksX13_sumOf_1 7 rfl rfl)
abbrev cX13_placesWon : ByteArray := prog_16_method_43_code
def yX13_placesWon : MethodName := ⟨RX13, "placesWon", "()I"⟩
def dkwX13_placesWon_1 : List UInt8 := [167, 0, 4, 3, 128, 60, 132, 2, 1, 167, 255, 229, 27, 172]
abbrev dktX13_placesWon_1 : List UInt8 := dkwX13_placesWon_1 ++ []
def dkwX13_placesWon_0 : List UInt8 := [3, 60, 3, 61, 28, 16, 7, 162, 0, 27, 27, 42, 28, 182, 0, 140, 153, 0, 9, 4, 28, 120]
abbrev dktX13_placesWon_0 : List UInt8 := dkwX13_placesWon_0 ++ dktX13_placesWon_1
theorem dksX13_placesWon_0 : cX13_placesWon.data.toList.drop 0 = dktX13_placesWon_0 := by decide +kernel
theorem dksX13_placesWon_1 : cX13_placesWon.data.toList.drop 22 = dktX13_placesWon_1 := dk_seg dksX13_placesWon_0 22 rfl rfl
theorem dX13_placesWon_0 : decode cX13_placesWon 0 = .ok (.iconst 0, 1) := dk_3 (dk_at dksX13_placesWon_0 0 rfl rfl)
theorem dX13_placesWon_1 : decode cX13_placesWon 1 = .ok (.istore_n 1, 1) := dk_60 (dk_at dksX13_placesWon_0 1 rfl rfl)
theorem dX13_placesWon_2 : decode cX13_placesWon 2 = .ok (.iconst 0, 1) := dk_3 (dk_at dksX13_placesWon_0 2 rfl rfl)
theorem dX13_placesWon_3 : decode cX13_placesWon 3 = .ok (.istore_n 2, 1) := dk_61 (dk_at dksX13_placesWon_0 3 rfl rfl)
theorem dX13_placesWon_4 : decode cX13_placesWon 4 = .ok (.iload_n 2, 1) := dk_28 (dk_at dksX13_placesWon_0 4 rfl rfl)
theorem dX13_placesWon_5 : decode cX13_placesWon 5 = .ok (.bipush 7, 2) := dk_16 7 (dk_at dksX13_placesWon_0 5 rfl rfl)
theorem dX13_placesWon_7 : decode cX13_placesWon 7 = .ok (.if_icmp .ge 27, 3) := dk_162 0 27 (dk_at dksX13_placesWon_0 7 rfl rfl)
theorem dX13_placesWon_10 : decode cX13_placesWon 10 = .ok (.iload_n 1, 1) := dk_27 (dk_at dksX13_placesWon_0 10 rfl rfl)
theorem dX13_placesWon_11 : decode cX13_placesWon 11 = .ok (.aload_n 0, 1) := dk_42 (dk_at dksX13_placesWon_0 11 rfl rfl)
theorem dX13_placesWon_12 : decode cX13_placesWon 12 = .ok (.iload_n 2, 1) := dk_28 (dk_at dksX13_placesWon_0 12 rfl rfl)
theorem dX13_placesWon_13 : decode cX13_placesWon 13 = .ok (.invokevirtual 140, 3) := dk_182 0 140 (dk_at dksX13_placesWon_0 13 rfl rfl)
theorem dX13_placesWon_16 : decode cX13_placesWon 16 = .ok (.ifCond .eq 9, 3) := dk_153 0 9 (dk_at dksX13_placesWon_0 16 rfl rfl)
theorem dX13_placesWon_19 : decode cX13_placesWon 19 = .ok (.iconst 1, 1) := dk_4 (dk_at dksX13_placesWon_0 19 rfl rfl)
theorem dX13_placesWon_20 : decode cX13_placesWon 20 = .ok (.iload_n 2, 1) := dk_28 (dk_at dksX13_placesWon_0 20 rfl rfl)
theorem dX13_placesWon_21 : decode cX13_placesWon 21 = .ok (.ishl, 1) := dk_120 (dk_at dksX13_placesWon_0 21 rfl rfl)
theorem dX13_placesWon_22 : decode cX13_placesWon 22 = .ok (.goto 4, 3) := dk_167 0 4 (dk_at dksX13_placesWon_1 0 rfl rfl)
theorem dX13_placesWon_25 : decode cX13_placesWon 25 = .ok (.iconst 0, 1) := dk_3 (dk_at dksX13_placesWon_1 3 rfl rfl)
theorem dX13_placesWon_26 : decode cX13_placesWon 26 = .ok (.ior, 1) := dk_128 (dk_at dksX13_placesWon_1 4 rfl rfl)
theorem dX13_placesWon_27 : decode cX13_placesWon 27 = .ok (.istore_n 1, 1) := dk_60 (dk_at dksX13_placesWon_1 5 rfl rfl)
theorem dX13_placesWon_28 : decode cX13_placesWon 28 = .ok (.iinc 2 1, 3) := dk_132 2 1 (dk_at dksX13_placesWon_1 6 rfl rfl)
theorem dX13_placesWon_31 : decode cX13_placesWon 31 = .ok (.goto (-27), 3) := dk_167 255 229 (dk_at dksX13_placesWon_1 9 rfl rfl)
theorem dX13_placesWon_34 : decode cX13_placesWon 34 = .ok (.iload_n 1, 1) := dk_27 (dk_at dksX13_placesWon_1 12 rfl rfl)
theorem dX13_placesWon_35 : decode cX13_placesWon 35 = .ok (.ireturn, 1) := dk_172 (dk_at dksX13_placesWon_1 13 rfl rfl)
abbrev cX13_placesSaid : ByteArray := prog_16_method_44_code
def yX13_placesSaid : MethodName := ⟨RX13, "placesSaid", "(I)I"⟩
def dkwX13_placesSaid_2 : List UInt8 := [132, 3, 1, 167, 255, 211, 28, 172]
abbrev dktX13_placesSaid_2 : List UInt8 := dkwX13_placesSaid_2 ++ []
def dkwX13_placesSaid_1 : List UInt8 := [16, 38, 29, 96, 46, 42, 180, 0, 9, 16, 6, 46, 184, 0, 106, 120, 167, 0, 4, 3, 128, 61]
abbrev dktX13_placesSaid_1 : List UInt8 := dkwX13_placesSaid_1 ++ dktX13_placesSaid_2
def dkwX13_placesSaid_0 : List UInt8 := [3, 61, 3, 62, 29, 16, 6, 162, 0, 45, 28, 27, 29, 184, 0, 163, 153, 0, 27, 4, 42, 180, 0, 9]
abbrev dktX13_placesSaid_0 : List UInt8 := dkwX13_placesSaid_0 ++ dktX13_placesSaid_1
theorem dksX13_placesSaid_0 : cX13_placesSaid.data.toList.drop 0 = dktX13_placesSaid_0 := by decide +kernel
theorem dksX13_placesSaid_1 : cX13_placesSaid.data.toList.drop 24 = dktX13_placesSaid_1 := dk_seg dksX13_placesSaid_0 24 rfl rfl
theorem dksX13_placesSaid_2 : cX13_placesSaid.data.toList.drop 46 = dktX13_placesSaid_2 := dk_seg dksX13_placesSaid_1 22 rfl rfl
theorem dX13_placesSaid_0 : decode cX13_placesSaid 0 = .ok (.iconst 0, 1) := dk_3 (dk_at dksX13_placesSaid_0 0 rfl rfl)
theorem dX13_placesSaid_1 : decode cX13_placesSaid 1 = .ok (.istore_n 2, 1) := dk_61 (dk_at dksX13_placesSaid_0 1 rfl rfl)
theorem dX13_placesSaid_2 : decode cX13_placesSaid 2 = .ok (.iconst 0, 1) := dk_3 (dk_at dksX13_placesSaid_0 2 rfl rfl)
theorem dX13_placesSaid_3 : decode cX13_placesSaid 3 = .ok (.istore_n 3, 1) := dk_62 (dk_at dksX13_placesSaid_0 3 rfl rfl)
theorem dX13_placesSaid_4 : decode cX13_placesSaid 4 = .ok (.iload_n 3, 1) := dk_29 (dk_at dksX13_placesSaid_0 4 rfl rfl)
theorem dX13_placesSaid_5 : decode cX13_placesSaid 5 = .ok (.bipush 6, 2) := dk_16 6 (dk_at dksX13_placesSaid_0 5 rfl rfl)
theorem dX13_placesSaid_7 : decode cX13_placesSaid 7 = .ok (.if_icmp .ge 45, 3) := dk_162 0 45 (dk_at dksX13_placesSaid_0 7 rfl rfl)
theorem dX13_placesSaid_10 : decode cX13_placesSaid 10 = .ok (.iload_n 2, 1) := dk_28 (dk_at dksX13_placesSaid_0 10 rfl rfl)
theorem dX13_placesSaid_11 : decode cX13_placesSaid 11 = .ok (.iload_n 1, 1) := dk_27 (dk_at dksX13_placesSaid_0 11 rfl rfl)
theorem dX13_placesSaid_12 : decode cX13_placesSaid 12 = .ok (.iload_n 3, 1) := dk_29 (dk_at dksX13_placesSaid_0 12 rfl rfl)
theorem dX13_placesSaid_13 : decode cX13_placesSaid 13 = .ok (.invokestatic 163, 3) := dk_184 0 163 (dk_at dksX13_placesSaid_0 13 rfl rfl)
theorem dX13_placesSaid_16 : decode cX13_placesSaid 16 = .ok (.ifCond .eq 27, 3) := dk_153 0 27 (dk_at dksX13_placesSaid_0 16 rfl rfl)
theorem dX13_placesSaid_19 : decode cX13_placesSaid 19 = .ok (.iconst 1, 1) := dk_4 (dk_at dksX13_placesSaid_0 19 rfl rfl)
theorem dX13_placesSaid_20 : decode cX13_placesSaid 20 = .ok (.aload_n 0, 1) := dk_42 (dk_at dksX13_placesSaid_0 20 rfl rfl)
theorem dX13_placesSaid_21 : decode cX13_placesSaid 21 = .ok (.getfield 9, 3) := dk_180 0 9 (dk_at dksX13_placesSaid_0 21 rfl rfl)
theorem dX13_placesSaid_24 : decode cX13_placesSaid 24 = .ok (.bipush 38, 2) := dk_16 38 (dk_at dksX13_placesSaid_1 0 rfl rfl)
theorem dX13_placesSaid_26 : decode cX13_placesSaid 26 = .ok (.iload_n 3, 1) := dk_29 (dk_at dksX13_placesSaid_1 2 rfl rfl)
theorem dX13_placesSaid_27 : decode cX13_placesSaid 27 = .ok (.iadd, 1) := dk_96 (dk_at dksX13_placesSaid_1 3 rfl rfl)
theorem dX13_placesSaid_28 : decode cX13_placesSaid 28 = .ok (.iaload, 1) := dk_46 (dk_at dksX13_placesSaid_1 4 rfl rfl)
theorem dX13_placesSaid_29 : decode cX13_placesSaid 29 = .ok (.aload_n 0, 1) := dk_42 (dk_at dksX13_placesSaid_1 5 rfl rfl)
theorem dX13_placesSaid_30 : decode cX13_placesSaid 30 = .ok (.getfield 9, 3) := dk_180 0 9 (dk_at dksX13_placesSaid_1 6 rfl rfl)
theorem dX13_placesSaid_33 : decode cX13_placesSaid 33 = .ok (.bipush 6, 2) := dk_16 6 (dk_at dksX13_placesSaid_1 9 rfl rfl)
theorem dX13_placesSaid_35 : decode cX13_placesSaid 35 = .ok (.iaload, 1) := dk_46 (dk_at dksX13_placesSaid_1 11 rfl rfl)
theorem dX13_placesSaid_36 : decode cX13_placesSaid 36 = .ok (.invokestatic 106, 3) := dk_184 0 106 (dk_at dksX13_placesSaid_1 12 rfl rfl)
theorem dX13_placesSaid_39 : decode cX13_placesSaid 39 = .ok (.ishl, 1) := dk_120 (dk_at dksX13_placesSaid_1 15 rfl rfl)
theorem dX13_placesSaid_40 : decode cX13_placesSaid 40 = .ok (.goto 4, 3) := dk_167 0 4 (dk_at dksX13_placesSaid_1 16 rfl rfl)
theorem dX13_placesSaid_43 : decode cX13_placesSaid 43 = .ok (.iconst 0, 1) := dk_3 (dk_at dksX13_placesSaid_1 19 rfl rfl)
theorem dX13_placesSaid_44 : decode cX13_placesSaid 44 = .ok (.ior, 1) := dk_128 (dk_at dksX13_placesSaid_1 20 rfl rfl)
theorem dX13_placesSaid_45 : decode cX13_placesSaid 45 = .ok (.istore_n 2, 1) := dk_61 (dk_at dksX13_placesSaid_1 21 rfl rfl)
theorem dX13_placesSaid_46 : decode cX13_placesSaid 46 = .ok (.iinc 3 1, 3) := dk_132 3 1 (dk_at dksX13_placesSaid_2 0 rfl rfl)
theorem dX13_placesSaid_49 : decode cX13_placesSaid 49 = .ok (.goto (-45), 3) := dk_167 255 211 (dk_at dksX13_placesSaid_2 3 rfl rfl)
theorem dX13_placesSaid_52 : decode cX13_placesSaid 52 = .ok (.iload_n 2, 1) := dk_28 (dk_at dksX13_placesSaid_2 6 rfl rfl)
theorem dX13_placesSaid_53 : decode cX13_placesSaid 53 = .ok (.ireturn, 1) := dk_172 (dk_at dksX13_placesSaid_2 7 rfl rfl)
abbrev cX13_hasBit : ByteArray := prog_16_method_9_code
def yX13_hasBit : MethodName := ⟨RX13, "hasBit", "(II)Z"⟩
def dkwX13_hasBit_0 : List UInt8 := [26, 27, 122, 4, 126, 4, 160, 0, 7, 4, 167, 0, 4, 3, 172]
abbrev dktX13_hasBit_0 : List UInt8 := dkwX13_hasBit_0 ++ []
theorem dksX13_hasBit_0 : cX13_hasBit.data.toList.drop 0 = dktX13_hasBit_0 := by decide +kernel
theorem dX13_hasBit_0 : decode cX13_hasBit 0 = .ok (.iload_n 0, 1) := dk_26 (dk_at dksX13_hasBit_0 0 rfl rfl)
theorem dX13_hasBit_1 : decode cX13_hasBit 1 = .ok (.iload_n 1, 1) := dk_27 (dk_at dksX13_hasBit_0 1 rfl rfl)
theorem dX13_hasBit_2 : decode cX13_hasBit 2 = .ok (.ishr, 1) := dk_122 (dk_at dksX13_hasBit_0 2 rfl rfl)
theorem dX13_hasBit_3 : decode cX13_hasBit 3 = .ok (.iconst 1, 1) := dk_4 (dk_at dksX13_hasBit_0 3 rfl rfl)
theorem dX13_hasBit_4 : decode cX13_hasBit 4 = .ok (.iand, 1) := dk_126 (dk_at dksX13_hasBit_0 4 rfl rfl)
theorem dX13_hasBit_5 : decode cX13_hasBit 5 = .ok (.iconst 1, 1) := dk_4 (dk_at dksX13_hasBit_0 5 rfl rfl)
theorem dX13_hasBit_6 : decode cX13_hasBit 6 = .ok (.if_icmp .ne 7, 3) := dk_160 0 7 (dk_at dksX13_hasBit_0 6 rfl rfl)
theorem dX13_hasBit_9 : decode cX13_hasBit 9 = .ok (.iconst 1, 1) := dk_4 (dk_at dksX13_hasBit_0 9 rfl rfl)
theorem dX13_hasBit_10 : decode cX13_hasBit 10 = .ok (.goto 4, 3) := dk_167 0 4 (dk_at dksX13_hasBit_0 10 rfl rfl)
theorem dX13_hasBit_13 : decode cX13_hasBit 13 = .ok (.iconst 0, 1) := dk_3 (dk_at dksX13_hasBit_0 13 rfl rfl)
theorem dX13_hasBit_14 : decode cX13_hasBit 14 = .ok (.ireturn, 1) := dk_172 (dk_at dksX13_hasBit_0 14 rfl rfl)
abbrev cX13_ahead : ByteArray := prog_16_method_47_code
def yX13_ahead : MethodName := ⟨RX13, "ahead", "(III)I"⟩
def dkwX13_ahead_3 : List UInt8 := [182, 0, 175, 172]
abbrev dktX13_ahead_3 : List UInt8 := dkwX13_ahead_3 ++ []
def dkwX13_ahead_2 : List UInt8 := [182, 0, 159, 42, 28, 8, 160, 0, 11, 42, 27, 182, 0, 127, 167, 0, 9, 42, 27, 28, 182, 0, 119]
abbrev dktX13_ahead_2 : List UInt8 := dkwX13_ahead_2 ++ dktX13_ahead_3
def dkwX13_ahead_1 : List UInt8 := [154, 0, 10, 42, 18, 66, 182, 0, 72, 172, 42, 180, 0, 9, 42, 180, 0, 16, 184, 0, 67, 42, 29]
abbrev dktX13_ahead_1 : List UInt8 := dkwX13_ahead_1 ++ dktX13_ahead_2
def dkwX13_ahead_0 : List UInt8 := [42, 27, 182, 0, 87, 153, 0, 22, 28, 5, 8, 184, 0, 76, 153, 0, 13, 29, 3, 16, 100, 184, 0, 76]
abbrev dktX13_ahead_0 : List UInt8 := dkwX13_ahead_0 ++ dktX13_ahead_1
theorem dksX13_ahead_0 : cX13_ahead.data.toList.drop 0 = dktX13_ahead_0 := by decide +kernel
theorem dksX13_ahead_1 : cX13_ahead.data.toList.drop 24 = dktX13_ahead_1 := dk_seg dksX13_ahead_0 24 rfl rfl
theorem dksX13_ahead_2 : cX13_ahead.data.toList.drop 47 = dktX13_ahead_2 := dk_seg dksX13_ahead_1 23 rfl rfl
theorem dksX13_ahead_3 : cX13_ahead.data.toList.drop 70 = dktX13_ahead_3 := dk_seg dksX13_ahead_2 23 rfl rfl
theorem dX13_ahead_0 : decode cX13_ahead 0 = .ok (.aload_n 0, 1) := dk_42 (dk_at dksX13_ahead_0 0 rfl rfl)
theorem dX13_ahead_1 : decode cX13_ahead 1 = .ok (.iload_n 1, 1) := dk_27 (dk_at dksX13_ahead_0 1 rfl rfl)
theorem dX13_ahead_2 : decode cX13_ahead 2 = .ok (.invokevirtual 87, 3) := dk_182 0 87 (dk_at dksX13_ahead_0 2 rfl rfl)
theorem dX13_ahead_5 : decode cX13_ahead 5 = .ok (.ifCond .eq 22, 3) := dk_153 0 22 (dk_at dksX13_ahead_0 5 rfl rfl)
theorem dX13_ahead_8 : decode cX13_ahead 8 = .ok (.iload_n 2, 1) := dk_28 (dk_at dksX13_ahead_0 8 rfl rfl)
theorem dX13_ahead_9 : decode cX13_ahead 9 = .ok (.iconst 2, 1) := dk_5 (dk_at dksX13_ahead_0 9 rfl rfl)
theorem dX13_ahead_10 : decode cX13_ahead 10 = .ok (.iconst 5, 1) := dk_8 (dk_at dksX13_ahead_0 10 rfl rfl)
theorem dX13_ahead_11 : decode cX13_ahead 11 = .ok (.invokestatic 76, 3) := dk_184 0 76 (dk_at dksX13_ahead_0 11 rfl rfl)
theorem dX13_ahead_14 : decode cX13_ahead 14 = .ok (.ifCond .eq 13, 3) := dk_153 0 13 (dk_at dksX13_ahead_0 14 rfl rfl)
theorem dX13_ahead_17 : decode cX13_ahead 17 = .ok (.iload_n 3, 1) := dk_29 (dk_at dksX13_ahead_0 17 rfl rfl)
theorem dX13_ahead_18 : decode cX13_ahead 18 = .ok (.iconst 0, 1) := dk_3 (dk_at dksX13_ahead_0 18 rfl rfl)
theorem dX13_ahead_19 : decode cX13_ahead 19 = .ok (.bipush 100, 2) := dk_16 100 (dk_at dksX13_ahead_0 19 rfl rfl)
theorem dX13_ahead_21 : decode cX13_ahead 21 = .ok (.invokestatic 76, 3) := dk_184 0 76 (dk_at dksX13_ahead_0 21 rfl rfl)
theorem dX13_ahead_24 : decode cX13_ahead 24 = .ok (.ifCond .ne 10, 3) := dk_154 0 10 (dk_at dksX13_ahead_1 0 rfl rfl)
theorem dX13_ahead_27 : decode cX13_ahead 27 = .ok (.aload_n 0, 1) := dk_42 (dk_at dksX13_ahead_1 3 rfl rfl)
theorem dX13_ahead_28 : decode cX13_ahead 28 = .ok (.ldc 66, 2) := dk_18 66 (dk_at dksX13_ahead_1 4 rfl rfl)
theorem dX13_ahead_30 : decode cX13_ahead 30 = .ok (.invokevirtual 72, 3) := dk_182 0 72 (dk_at dksX13_ahead_1 6 rfl rfl)
theorem dX13_ahead_33 : decode cX13_ahead 33 = .ok (.ireturn, 1) := dk_172 (dk_at dksX13_ahead_1 9 rfl rfl)
theorem dX13_ahead_34 : decode cX13_ahead 34 = .ok (.aload_n 0, 1) := dk_42 (dk_at dksX13_ahead_1 10 rfl rfl)
theorem dX13_ahead_35 : decode cX13_ahead 35 = .ok (.getfield 9, 3) := dk_180 0 9 (dk_at dksX13_ahead_1 11 rfl rfl)
theorem dX13_ahead_38 : decode cX13_ahead 38 = .ok (.aload_n 0, 1) := dk_42 (dk_at dksX13_ahead_1 14 rfl rfl)
theorem dX13_ahead_39 : decode cX13_ahead 39 = .ok (.getfield 16, 3) := dk_180 0 16 (dk_at dksX13_ahead_1 15 rfl rfl)
theorem dX13_ahead_42 : decode cX13_ahead 42 = .ok (.invokestatic 67, 3) := dk_184 0 67 (dk_at dksX13_ahead_1 18 rfl rfl)
theorem dX13_ahead_45 : decode cX13_ahead 45 = .ok (.aload_n 0, 1) := dk_42 (dk_at dksX13_ahead_1 21 rfl rfl)
theorem dX13_ahead_46 : decode cX13_ahead 46 = .ok (.iload_n 3, 1) := dk_29 (dk_at dksX13_ahead_1 22 rfl rfl)
theorem dX13_ahead_47 : decode cX13_ahead 47 = .ok (.invokevirtual 159, 3) := dk_182 0 159 (dk_at dksX13_ahead_2 0 rfl rfl)
theorem dX13_ahead_50 : decode cX13_ahead 50 = .ok (.aload_n 0, 1) := dk_42 (dk_at dksX13_ahead_2 3 rfl rfl)
theorem dX13_ahead_51 : decode cX13_ahead 51 = .ok (.iload_n 2, 1) := dk_28 (dk_at dksX13_ahead_2 4 rfl rfl)
theorem dX13_ahead_52 : decode cX13_ahead 52 = .ok (.iconst 5, 1) := dk_8 (dk_at dksX13_ahead_2 5 rfl rfl)
theorem dX13_ahead_53 : decode cX13_ahead 53 = .ok (.if_icmp .ne 11, 3) := dk_160 0 11 (dk_at dksX13_ahead_2 6 rfl rfl)
theorem dX13_ahead_56 : decode cX13_ahead 56 = .ok (.aload_n 0, 1) := dk_42 (dk_at dksX13_ahead_2 9 rfl rfl)
theorem dX13_ahead_57 : decode cX13_ahead 57 = .ok (.iload_n 1, 1) := dk_27 (dk_at dksX13_ahead_2 10 rfl rfl)
theorem dX13_ahead_58 : decode cX13_ahead 58 = .ok (.invokevirtual 127, 3) := dk_182 0 127 (dk_at dksX13_ahead_2 11 rfl rfl)
theorem dX13_ahead_61 : decode cX13_ahead 61 = .ok (.goto 9, 3) := dk_167 0 9 (dk_at dksX13_ahead_2 14 rfl rfl)
theorem dX13_ahead_64 : decode cX13_ahead 64 = .ok (.aload_n 0, 1) := dk_42 (dk_at dksX13_ahead_2 17 rfl rfl)
theorem dX13_ahead_65 : decode cX13_ahead 65 = .ok (.iload_n 1, 1) := dk_27 (dk_at dksX13_ahead_2 18 rfl rfl)
theorem dX13_ahead_66 : decode cX13_ahead 66 = .ok (.iload_n 2, 1) := dk_28 (dk_at dksX13_ahead_2 19 rfl rfl)
theorem dX13_ahead_67 : decode cX13_ahead 67 = .ok (.invokevirtual 119, 3) := dk_182 0 119 (dk_at dksX13_ahead_2 20 rfl rfl)
theorem dX13_ahead_70 : decode cX13_ahead 70 = .ok (.invokevirtual 175, 3) := dk_182 0 175 (dk_at dksX13_ahead_3 0 rfl rfl)
theorem dX13_ahead_73 : decode cX13_ahead 73 = .ok (.ireturn, 1) := dk_172 (dk_at dksX13_ahead_3 3 rfl rfl)
abbrev cX13_copyRow : ByteArray := prog_16_method_5_code
def yX13_copyRow : MethodName := ⟨RX13, "copyRow", "([I[I)V"⟩
def dkwX13_copyRow_0 : List UInt8 := [3, 61, 28, 16, 84, 162, 0, 15, 43, 28, 42, 28, 46, 79, 132, 2, 1, 167, 255, 241, 177]
abbrev dktX13_copyRow_0 : List UInt8 := dkwX13_copyRow_0 ++ []
theorem dksX13_copyRow_0 : cX13_copyRow.data.toList.drop 0 = dktX13_copyRow_0 := by decide +kernel
theorem dX13_copyRow_0 : decode cX13_copyRow 0 = .ok (.iconst 0, 1) := dk_3 (dk_at dksX13_copyRow_0 0 rfl rfl)
theorem dX13_copyRow_1 : decode cX13_copyRow 1 = .ok (.istore_n 2, 1) := dk_61 (dk_at dksX13_copyRow_0 1 rfl rfl)
theorem dX13_copyRow_2 : decode cX13_copyRow 2 = .ok (.iload_n 2, 1) := dk_28 (dk_at dksX13_copyRow_0 2 rfl rfl)
theorem dX13_copyRow_3 : decode cX13_copyRow 3 = .ok (.bipush 84, 2) := dk_16 84 (dk_at dksX13_copyRow_0 3 rfl rfl)
theorem dX13_copyRow_5 : decode cX13_copyRow 5 = .ok (.if_icmp .ge 15, 3) := dk_162 0 15 (dk_at dksX13_copyRow_0 5 rfl rfl)
theorem dX13_copyRow_8 : decode cX13_copyRow 8 = .ok (.aload_n 1, 1) := dk_43 (dk_at dksX13_copyRow_0 8 rfl rfl)
theorem dX13_copyRow_9 : decode cX13_copyRow 9 = .ok (.iload_n 2, 1) := dk_28 (dk_at dksX13_copyRow_0 9 rfl rfl)
theorem dX13_copyRow_10 : decode cX13_copyRow 10 = .ok (.aload_n 0, 1) := dk_42 (dk_at dksX13_copyRow_0 10 rfl rfl)
theorem dX13_copyRow_11 : decode cX13_copyRow 11 = .ok (.iload_n 2, 1) := dk_28 (dk_at dksX13_copyRow_0 11 rfl rfl)
theorem dX13_copyRow_12 : decode cX13_copyRow 12 = .ok (.iaload, 1) := dk_46 (dk_at dksX13_copyRow_0 12 rfl rfl)
theorem dX13_copyRow_13 : decode cX13_copyRow 13 = .ok (.iastore, 1) := dk_79 (dk_at dksX13_copyRow_0 13 rfl rfl)
theorem dX13_copyRow_14 : decode cX13_copyRow 14 = .ok (.iinc 2 1, 3) := dk_132 2 1 (dk_at dksX13_copyRow_0 14 rfl rfl)
theorem dX13_copyRow_17 : decode cX13_copyRow 17 = .ok (.goto (-15), 3) := dk_167 255 241 (dk_at dksX13_copyRow_0 17 rfl rfl)
theorem dX13_copyRow_20 : decode cX13_copyRow 20 = .ok (.return_, 1) := dk_177 (dk_at dksX13_copyRow_0 20 rfl rfl)
abbrev cX13_putBack : ByteArray := prog_16_method_6_code
def yX13_putBack : MethodName := ⟨RX13, "putBack", "(I)I"⟩
def dkwX13_putBack_0 : List UInt8 := [42, 180, 0, 16, 42, 180, 0, 9, 184, 0, 67, 27, 172]
abbrev dktX13_putBack_0 : List UInt8 := dkwX13_putBack_0 ++ []
theorem dksX13_putBack_0 : cX13_putBack.data.toList.drop 0 = dktX13_putBack_0 := by decide +kernel
theorem dX13_putBack_0 : decode cX13_putBack 0 = .ok (.aload_n 0, 1) := dk_42 (dk_at dksX13_putBack_0 0 rfl rfl)
theorem dX13_putBack_1 : decode cX13_putBack 1 = .ok (.getfield 16, 3) := dk_180 0 16 (dk_at dksX13_putBack_0 1 rfl rfl)
theorem dX13_putBack_4 : decode cX13_putBack 4 = .ok (.aload_n 0, 1) := dk_42 (dk_at dksX13_putBack_0 4 rfl rfl)
theorem dX13_putBack_5 : decode cX13_putBack 5 = .ok (.getfield 9, 3) := dk_180 0 9 (dk_at dksX13_putBack_0 5 rfl rfl)
theorem dX13_putBack_8 : decode cX13_putBack 8 = .ok (.invokestatic 67, 3) := dk_184 0 67 (dk_at dksX13_putBack_0 8 rfl rfl)
theorem dX13_putBack_11 : decode cX13_putBack 11 = .ok (.iload_n 1, 1) := dk_27 (dk_at dksX13_putBack_0 11 rfl rfl)
theorem dX13_putBack_12 : decode cX13_putBack 12 = .ok (.ireturn, 1) := dk_172 (dk_at dksX13_putBack_0 12 rfl rfl)
abbrev cX13_metres : ByteArray := prog_16_method_48_code
def yX13_metres : MethodName := ⟨RX13, "metres", "(I)I"⟩
def dkwX13_metres_1 : List UInt8 := [182, 0, 72, 172]
abbrev dktX13_metres_1 : List UInt8 := dkwX13_metres_1 ++ []
def dkwX13_metres_0 : List UInt8 := [27, 3, 16, 100, 184, 0, 76, 153, 0, 12, 42, 6, 27, 182, 0, 178, 167, 0, 9, 42, 18, 66]
abbrev dktX13_metres_0 : List UInt8 := dkwX13_metres_0 ++ dktX13_metres_1
theorem dksX13_metres_0 : cX13_metres.data.toList.drop 0 = dktX13_metres_0 := by decide +kernel
theorem dksX13_metres_1 : cX13_metres.data.toList.drop 22 = dktX13_metres_1 := dk_seg dksX13_metres_0 22 rfl rfl
theorem dX13_metres_0 : decode cX13_metres 0 = .ok (.iload_n 1, 1) := dk_27 (dk_at dksX13_metres_0 0 rfl rfl)
theorem dX13_metres_1 : decode cX13_metres 1 = .ok (.iconst 0, 1) := dk_3 (dk_at dksX13_metres_0 1 rfl rfl)
theorem dX13_metres_2 : decode cX13_metres 2 = .ok (.bipush 100, 2) := dk_16 100 (dk_at dksX13_metres_0 2 rfl rfl)
theorem dX13_metres_4 : decode cX13_metres 4 = .ok (.invokestatic 76, 3) := dk_184 0 76 (dk_at dksX13_metres_0 4 rfl rfl)
theorem dX13_metres_7 : decode cX13_metres 7 = .ok (.ifCond .eq 12, 3) := dk_153 0 12 (dk_at dksX13_metres_0 7 rfl rfl)
theorem dX13_metres_10 : decode cX13_metres 10 = .ok (.aload_n 0, 1) := dk_42 (dk_at dksX13_metres_0 10 rfl rfl)
theorem dX13_metres_11 : decode cX13_metres 11 = .ok (.iconst 3, 1) := dk_6 (dk_at dksX13_metres_0 11 rfl rfl)
theorem dX13_metres_12 : decode cX13_metres 12 = .ok (.iload_n 1, 1) := dk_27 (dk_at dksX13_metres_0 12 rfl rfl)
theorem dX13_metres_13 : decode cX13_metres 13 = .ok (.invokevirtual 178, 3) := dk_182 0 178 (dk_at dksX13_metres_0 13 rfl rfl)
theorem dX13_metres_16 : decode cX13_metres 16 = .ok (.goto 9, 3) := dk_167 0 9 (dk_at dksX13_metres_0 16 rfl rfl)
theorem dX13_metres_19 : decode cX13_metres 19 = .ok (.aload_n 0, 1) := dk_42 (dk_at dksX13_metres_0 19 rfl rfl)
theorem dX13_metres_20 : decode cX13_metres 20 = .ok (.ldc 66, 2) := dk_18 66 (dk_at dksX13_metres_0 20 rfl rfl)
theorem dX13_metres_22 : decode cX13_metres 22 = .ok (.invokevirtual 72, 3) := dk_182 0 72 (dk_at dksX13_metres_1 0 rfl rfl)
theorem dX13_metres_25 : decode cX13_metres 25 = .ok (.ireturn, 1) := dk_172 (dk_at dksX13_metres_1 3 rfl rfl)
abbrev cX13_behind : ByteArray := prog_16_method_46_code
def yX13_behind : MethodName := ⟨RX13, "behind", "(II)I"⟩
def dkwX13_behind_1 : List UInt8 := [182, 0, 175, 172]
abbrev dktX13_behind_1 : List UInt8 := dkwX13_behind_1 ++ []
def dkwX13_behind_0 : List UInt8 := [42, 180, 0, 9, 42, 180, 0, 16, 184, 0, 67, 42, 28, 182, 0, 159, 42, 42, 180, 0, 9, 27, 46]
abbrev dktX13_behind_0 : List UInt8 := dkwX13_behind_0 ++ dktX13_behind_1
theorem dksX13_behind_0 : cX13_behind.data.toList.drop 0 = dktX13_behind_0 := by decide +kernel
theorem dksX13_behind_1 : cX13_behind.data.toList.drop 23 = dktX13_behind_1 := dk_seg dksX13_behind_0 23 rfl rfl
theorem dX13_behind_0 : decode cX13_behind 0 = .ok (.aload_n 0, 1) := dk_42 (dk_at dksX13_behind_0 0 rfl rfl)
theorem dX13_behind_1 : decode cX13_behind 1 = .ok (.getfield 9, 3) := dk_180 0 9 (dk_at dksX13_behind_0 1 rfl rfl)
theorem dX13_behind_4 : decode cX13_behind 4 = .ok (.aload_n 0, 1) := dk_42 (dk_at dksX13_behind_0 4 rfl rfl)
theorem dX13_behind_5 : decode cX13_behind 5 = .ok (.getfield 16, 3) := dk_180 0 16 (dk_at dksX13_behind_0 5 rfl rfl)
theorem dX13_behind_8 : decode cX13_behind 8 = .ok (.invokestatic 67, 3) := dk_184 0 67 (dk_at dksX13_behind_0 8 rfl rfl)
theorem dX13_behind_11 : decode cX13_behind 11 = .ok (.aload_n 0, 1) := dk_42 (dk_at dksX13_behind_0 11 rfl rfl)
theorem dX13_behind_12 : decode cX13_behind 12 = .ok (.iload_n 2, 1) := dk_28 (dk_at dksX13_behind_0 12 rfl rfl)
theorem dX13_behind_13 : decode cX13_behind 13 = .ok (.invokevirtual 159, 3) := dk_182 0 159 (dk_at dksX13_behind_0 13 rfl rfl)
theorem dX13_behind_16 : decode cX13_behind 16 = .ok (.aload_n 0, 1) := dk_42 (dk_at dksX13_behind_0 16 rfl rfl)
theorem dX13_behind_17 : decode cX13_behind 17 = .ok (.aload_n 0, 1) := dk_42 (dk_at dksX13_behind_0 17 rfl rfl)
theorem dX13_behind_18 : decode cX13_behind 18 = .ok (.getfield 9, 3) := dk_180 0 9 (dk_at dksX13_behind_0 18 rfl rfl)
theorem dX13_behind_21 : decode cX13_behind 21 = .ok (.iload_n 1, 1) := dk_27 (dk_at dksX13_behind_0 21 rfl rfl)
theorem dX13_behind_22 : decode cX13_behind 22 = .ok (.iaload, 1) := dk_46 (dk_at dksX13_behind_0 22 rfl rfl)
theorem dX13_behind_23 : decode cX13_behind 23 = .ok (.invokevirtual 175, 3) := dk_182 0 175 (dk_at dksX13_behind_1 0 rfl rfl)
theorem dX13_behind_26 : decode cX13_behind 26 = .ok (.ireturn, 1) := dk_172 (dk_at dksX13_behind_1 3 rfl rfl)
abbrev cX13_when : ByteArray := prog_16_method_49_code
def yX13_when : MethodName := ⟨RX13, "when", "(II)I"⟩
def dkwX13_when_3 : List UInt8 := [182, 0, 119, 28, 162, 0, 7, 2, 167, 0, 4, 29, 182, 0, 175, 182, 0, 181, 172]
abbrev dktX13_when_3 : List UInt8 := dkwX13_when_3 ++ []
def dkwX13_when_2 : List UInt8 := [27, 6, 182, 0, 119, 28, 162, 0, 13, 42, 182, 0, 155, 132, 3, 1, 167, 255, 233, 42, 42, 42, 27, 6]
abbrev dktX13_when_2 : List UInt8 := dkwX13_when_2 ++ dktX13_when_3
def dkwX13_when_1 : List UInt8 := [182, 0, 72, 172, 42, 180, 0, 9, 42, 180, 0, 16, 184, 0, 67, 3, 62, 29, 16, 100, 162, 0, 23, 42]
abbrev dktX13_when_1 : List UInt8 := dkwX13_when_1 ++ dktX13_when_2
def dkwX13_when_0 : List UInt8 := [42, 27, 182, 0, 87, 153, 0, 14, 28, 3, 17, 39, 15, 184, 0, 76, 154, 0, 10, 42, 18, 66]
abbrev dktX13_when_0 : List UInt8 := dkwX13_when_0 ++ dktX13_when_1
theorem dksX13_when_0 : cX13_when.data.toList.drop 0 = dktX13_when_0 := by decide +kernel
theorem dksX13_when_1 : cX13_when.data.toList.drop 22 = dktX13_when_1 := dk_seg dksX13_when_0 22 rfl rfl
theorem dksX13_when_2 : cX13_when.data.toList.drop 46 = dktX13_when_2 := dk_seg dksX13_when_1 24 rfl rfl
theorem dksX13_when_3 : cX13_when.data.toList.drop 70 = dktX13_when_3 := dk_seg dksX13_when_2 24 rfl rfl
theorem dX13_when_0 : decode cX13_when 0 = .ok (.aload_n 0, 1) := dk_42 (dk_at dksX13_when_0 0 rfl rfl)
theorem dX13_when_1 : decode cX13_when 1 = .ok (.iload_n 1, 1) := dk_27 (dk_at dksX13_when_0 1 rfl rfl)
theorem dX13_when_2 : decode cX13_when 2 = .ok (.invokevirtual 87, 3) := dk_182 0 87 (dk_at dksX13_when_0 2 rfl rfl)
theorem dX13_when_5 : decode cX13_when 5 = .ok (.ifCond .eq 14, 3) := dk_153 0 14 (dk_at dksX13_when_0 5 rfl rfl)
theorem dX13_when_8 : decode cX13_when 8 = .ok (.iload_n 2, 1) := dk_28 (dk_at dksX13_when_0 8 rfl rfl)
theorem dX13_when_9 : decode cX13_when 9 = .ok (.iconst 0, 1) := dk_3 (dk_at dksX13_when_0 9 rfl rfl)
theorem dX13_when_10 : decode cX13_when 10 = .ok (.sipush 9999, 3) := dk_17 39 15 (dk_at dksX13_when_0 10 rfl rfl)
theorem dX13_when_13 : decode cX13_when 13 = .ok (.invokestatic 76, 3) := dk_184 0 76 (dk_at dksX13_when_0 13 rfl rfl)
theorem dX13_when_16 : decode cX13_when 16 = .ok (.ifCond .ne 10, 3) := dk_154 0 10 (dk_at dksX13_when_0 16 rfl rfl)
theorem dX13_when_19 : decode cX13_when 19 = .ok (.aload_n 0, 1) := dk_42 (dk_at dksX13_when_0 19 rfl rfl)
theorem dX13_when_20 : decode cX13_when 20 = .ok (.ldc 66, 2) := dk_18 66 (dk_at dksX13_when_0 20 rfl rfl)
theorem dX13_when_22 : decode cX13_when 22 = .ok (.invokevirtual 72, 3) := dk_182 0 72 (dk_at dksX13_when_1 0 rfl rfl)
theorem dX13_when_25 : decode cX13_when 25 = .ok (.ireturn, 1) := dk_172 (dk_at dksX13_when_1 3 rfl rfl)
theorem dX13_when_26 : decode cX13_when 26 = .ok (.aload_n 0, 1) := dk_42 (dk_at dksX13_when_1 4 rfl rfl)
theorem dX13_when_27 : decode cX13_when 27 = .ok (.getfield 9, 3) := dk_180 0 9 (dk_at dksX13_when_1 5 rfl rfl)
theorem dX13_when_30 : decode cX13_when 30 = .ok (.aload_n 0, 1) := dk_42 (dk_at dksX13_when_1 8 rfl rfl)
theorem dX13_when_31 : decode cX13_when 31 = .ok (.getfield 16, 3) := dk_180 0 16 (dk_at dksX13_when_1 9 rfl rfl)
theorem dX13_when_34 : decode cX13_when 34 = .ok (.invokestatic 67, 3) := dk_184 0 67 (dk_at dksX13_when_1 12 rfl rfl)
theorem dX13_when_37 : decode cX13_when 37 = .ok (.iconst 0, 1) := dk_3 (dk_at dksX13_when_1 15 rfl rfl)
theorem dX13_when_38 : decode cX13_when 38 = .ok (.istore_n 3, 1) := dk_62 (dk_at dksX13_when_1 16 rfl rfl)
theorem dX13_when_39 : decode cX13_when 39 = .ok (.iload_n 3, 1) := dk_29 (dk_at dksX13_when_1 17 rfl rfl)
theorem dX13_when_40 : decode cX13_when 40 = .ok (.bipush 100, 2) := dk_16 100 (dk_at dksX13_when_1 18 rfl rfl)
theorem dX13_when_42 : decode cX13_when 42 = .ok (.if_icmp .ge 23, 3) := dk_162 0 23 (dk_at dksX13_when_1 20 rfl rfl)
theorem dX13_when_45 : decode cX13_when 45 = .ok (.aload_n 0, 1) := dk_42 (dk_at dksX13_when_1 23 rfl rfl)
theorem dX13_when_46 : decode cX13_when 46 = .ok (.iload_n 1, 1) := dk_27 (dk_at dksX13_when_2 0 rfl rfl)
theorem dX13_when_47 : decode cX13_when 47 = .ok (.iconst 3, 1) := dk_6 (dk_at dksX13_when_2 1 rfl rfl)
theorem dX13_when_48 : decode cX13_when 48 = .ok (.invokevirtual 119, 3) := dk_182 0 119 (dk_at dksX13_when_2 2 rfl rfl)
theorem dX13_when_51 : decode cX13_when 51 = .ok (.iload_n 2, 1) := dk_28 (dk_at dksX13_when_2 5 rfl rfl)
theorem dX13_when_52 : decode cX13_when 52 = .ok (.if_icmp .ge 13, 3) := dk_162 0 13 (dk_at dksX13_when_2 6 rfl rfl)
theorem dX13_when_55 : decode cX13_when 55 = .ok (.aload_n 0, 1) := dk_42 (dk_at dksX13_when_2 9 rfl rfl)
theorem dX13_when_56 : decode cX13_when 56 = .ok (.invokevirtual 155, 3) := dk_182 0 155 (dk_at dksX13_when_2 10 rfl rfl)
theorem dX13_when_59 : decode cX13_when 59 = .ok (.iinc 3 1, 3) := dk_132 3 1 (dk_at dksX13_when_2 13 rfl rfl)
theorem dX13_when_62 : decode cX13_when 62 = .ok (.goto (-23), 3) := dk_167 255 233 (dk_at dksX13_when_2 16 rfl rfl)
theorem dX13_when_65 : decode cX13_when 65 = .ok (.aload_n 0, 1) := dk_42 (dk_at dksX13_when_2 19 rfl rfl)
theorem dX13_when_66 : decode cX13_when 66 = .ok (.aload_n 0, 1) := dk_42 (dk_at dksX13_when_2 20 rfl rfl)
theorem dX13_when_67 : decode cX13_when 67 = .ok (.aload_n 0, 1) := dk_42 (dk_at dksX13_when_2 21 rfl rfl)
theorem dX13_when_68 : decode cX13_when 68 = .ok (.iload_n 1, 1) := dk_27 (dk_at dksX13_when_2 22 rfl rfl)
theorem dX13_when_69 : decode cX13_when 69 = .ok (.iconst 3, 1) := dk_6 (dk_at dksX13_when_2 23 rfl rfl)
theorem dX13_when_70 : decode cX13_when 70 = .ok (.invokevirtual 119, 3) := dk_182 0 119 (dk_at dksX13_when_3 0 rfl rfl)
theorem dX13_when_73 : decode cX13_when 73 = .ok (.iload_n 2, 1) := dk_28 (dk_at dksX13_when_3 3 rfl rfl)
theorem dX13_when_74 : decode cX13_when 74 = .ok (.if_icmp .ge 7, 3) := dk_162 0 7 (dk_at dksX13_when_3 4 rfl rfl)
theorem dX13_when_77 : decode cX13_when 77 = .ok (.iconst (-1), 1) := dk_2 (dk_at dksX13_when_3 7 rfl rfl)
theorem dX13_when_78 : decode cX13_when 78 = .ok (.goto 4, 3) := dk_167 0 4 (dk_at dksX13_when_3 8 rfl rfl)
theorem dX13_when_81 : decode cX13_when 81 = .ok (.iload_n 3, 1) := dk_29 (dk_at dksX13_when_3 11 rfl rfl)
theorem dX13_when_82 : decode cX13_when 82 = .ok (.invokevirtual 175, 3) := dk_182 0 175 (dk_at dksX13_when_3 12 rfl rfl)
theorem dX13_when_85 : decode cX13_when 85 = .ok (.invokevirtual 181, 3) := dk_182 0 181 (dk_at dksX13_when_3 15 rfl rfl)
theorem dX13_when_88 : decode cX13_when 88 = .ok (.ireturn, 1) := dk_172 (dk_at dksX13_when_3 18 rfl rfl)
abbrev cX13_orNone : ByteArray := prog_16_method_7_code
def yX13_orNone : MethodName := ⟨RX13, "orNone", "(I)I"⟩
def dkwX13_orNone_0 : List UInt8 := [27, 156, 0, 12, 42, 18, 71, 182, 0, 72, 167, 0, 4, 27, 172]
abbrev dktX13_orNone_0 : List UInt8 := dkwX13_orNone_0 ++ []
theorem dksX13_orNone_0 : cX13_orNone.data.toList.drop 0 = dktX13_orNone_0 := by decide +kernel
theorem dX13_orNone_0 : decode cX13_orNone 0 = .ok (.iload_n 1, 1) := dk_27 (dk_at dksX13_orNone_0 0 rfl rfl)
theorem dX13_orNone_1 : decode cX13_orNone 1 = .ok (.ifCond .ge 12, 3) := dk_156 0 12 (dk_at dksX13_orNone_0 1 rfl rfl)
theorem dX13_orNone_4 : decode cX13_orNone 4 = .ok (.aload_n 0, 1) := dk_42 (dk_at dksX13_orNone_0 4 rfl rfl)
theorem dX13_orNone_5 : decode cX13_orNone 5 = .ok (.ldc 71, 2) := dk_18 71 (dk_at dksX13_orNone_0 5 rfl rfl)
theorem dX13_orNone_7 : decode cX13_orNone 7 = .ok (.invokevirtual 72, 3) := dk_182 0 72 (dk_at dksX13_orNone_0 7 rfl rfl)
theorem dX13_orNone_10 : decode cX13_orNone 10 = .ok (.goto 4, 3) := dk_167 0 4 (dk_at dksX13_orNone_0 10 rfl rfl)
theorem dX13_orNone_13 : decode cX13_orNone 13 = .ok (.iload_n 1, 1) := dk_27 (dk_at dksX13_orNone_0 13 rfl rfl)
theorem dX13_orNone_14 : decode cX13_orNone 14 = .ok (.ireturn, 1) := dk_172 (dk_at dksX13_orNone_0 14 rfl rfl)
abbrev cX13_known : ByteArray := prog_16_method_50_code
def yX13_known : MethodName := ⟨RX13, "known", "()I"⟩
def dkwX13_known_2 : List UInt8 := [167, 0, 4, 27, 182, 0, 175, 182, 0, 181, 172]
abbrev dktX13_known_2 : List UInt8 := dkwX13_known_2 ++ []
def dkwX13_known_1 : List UInt8 := [153, 0, 13, 42, 182, 0, 155, 132, 1, 1, 167, 255, 236, 42, 42, 42, 182, 0, 169, 153, 0, 7, 2]
abbrev dktX13_known_1 : List UInt8 := dkwX13_known_1 ++ dktX13_known_2
def dkwX13_known_0 : List UInt8 := [42, 180, 0, 9, 42, 180, 0, 16, 184, 0, 67, 3, 60, 27, 16, 100, 162, 0, 20, 42, 182, 0, 169]
abbrev dktX13_known_0 : List UInt8 := dkwX13_known_0 ++ dktX13_known_1
theorem dksX13_known_0 : cX13_known.data.toList.drop 0 = dktX13_known_0 := by decide +kernel
theorem dksX13_known_1 : cX13_known.data.toList.drop 23 = dktX13_known_1 := dk_seg dksX13_known_0 23 rfl rfl
theorem dksX13_known_2 : cX13_known.data.toList.drop 46 = dktX13_known_2 := dk_seg dksX13_known_1 23 rfl rfl
theorem dX13_known_0 : decode cX13_known 0 = .ok (.aload_n 0, 1) := dk_42 (dk_at dksX13_known_0 0 rfl rfl)
theorem dX13_known_1 : decode cX13_known 1 = .ok (.getfield 9, 3) := dk_180 0 9 (dk_at dksX13_known_0 1 rfl rfl)
theorem dX13_known_4 : decode cX13_known 4 = .ok (.aload_n 0, 1) := dk_42 (dk_at dksX13_known_0 4 rfl rfl)
theorem dX13_known_5 : decode cX13_known 5 = .ok (.getfield 16, 3) := dk_180 0 16 (dk_at dksX13_known_0 5 rfl rfl)
theorem dX13_known_8 : decode cX13_known 8 = .ok (.invokestatic 67, 3) := dk_184 0 67 (dk_at dksX13_known_0 8 rfl rfl)
theorem dX13_known_11 : decode cX13_known 11 = .ok (.iconst 0, 1) := dk_3 (dk_at dksX13_known_0 11 rfl rfl)
theorem dX13_known_12 : decode cX13_known 12 = .ok (.istore_n 1, 1) := dk_60 (dk_at dksX13_known_0 12 rfl rfl)
theorem dX13_known_13 : decode cX13_known 13 = .ok (.iload_n 1, 1) := dk_27 (dk_at dksX13_known_0 13 rfl rfl)
theorem dX13_known_14 : decode cX13_known 14 = .ok (.bipush 100, 2) := dk_16 100 (dk_at dksX13_known_0 14 rfl rfl)
theorem dX13_known_16 : decode cX13_known 16 = .ok (.if_icmp .ge 20, 3) := dk_162 0 20 (dk_at dksX13_known_0 16 rfl rfl)
theorem dX13_known_19 : decode cX13_known 19 = .ok (.aload_n 0, 1) := dk_42 (dk_at dksX13_known_0 19 rfl rfl)
theorem dX13_known_20 : decode cX13_known 20 = .ok (.invokevirtual 169, 3) := dk_182 0 169 (dk_at dksX13_known_0 20 rfl rfl)
theorem dX13_known_23 : decode cX13_known 23 = .ok (.ifCond .eq 13, 3) := dk_153 0 13 (dk_at dksX13_known_1 0 rfl rfl)
theorem dX13_known_26 : decode cX13_known 26 = .ok (.aload_n 0, 1) := dk_42 (dk_at dksX13_known_1 3 rfl rfl)
theorem dX13_known_27 : decode cX13_known 27 = .ok (.invokevirtual 155, 3) := dk_182 0 155 (dk_at dksX13_known_1 4 rfl rfl)
theorem dX13_known_30 : decode cX13_known 30 = .ok (.iinc 1 1, 3) := dk_132 1 1 (dk_at dksX13_known_1 7 rfl rfl)
theorem dX13_known_33 : decode cX13_known 33 = .ok (.goto (-20), 3) := dk_167 255 236 (dk_at dksX13_known_1 10 rfl rfl)
theorem dX13_known_36 : decode cX13_known 36 = .ok (.aload_n 0, 1) := dk_42 (dk_at dksX13_known_1 13 rfl rfl)
theorem dX13_known_37 : decode cX13_known 37 = .ok (.aload_n 0, 1) := dk_42 (dk_at dksX13_known_1 14 rfl rfl)
theorem dX13_known_38 : decode cX13_known 38 = .ok (.aload_n 0, 1) := dk_42 (dk_at dksX13_known_1 15 rfl rfl)
theorem dX13_known_39 : decode cX13_known 39 = .ok (.invokevirtual 169, 3) := dk_182 0 169 (dk_at dksX13_known_1 16 rfl rfl)
theorem dX13_known_42 : decode cX13_known 42 = .ok (.ifCond .eq 7, 3) := dk_153 0 7 (dk_at dksX13_known_1 19 rfl rfl)
theorem dX13_known_45 : decode cX13_known 45 = .ok (.iconst (-1), 1) := dk_2 (dk_at dksX13_known_1 22 rfl rfl)
theorem dX13_known_46 : decode cX13_known 46 = .ok (.goto 4, 3) := dk_167 0 4 (dk_at dksX13_known_2 0 rfl rfl)
theorem dX13_known_49 : decode cX13_known 49 = .ok (.iload_n 1, 1) := dk_27 (dk_at dksX13_known_2 3 rfl rfl)
theorem dX13_known_50 : decode cX13_known 50 = .ok (.invokevirtual 175, 3) := dk_182 0 175 (dk_at dksX13_known_2 4 rfl rfl)
theorem dX13_known_53 : decode cX13_known 53 = .ok (.invokevirtual 181, 3) := dk_182 0 181 (dk_at dksX13_known_2 7 rfl rfl)
theorem dX13_known_56 : decode cX13_known 56 = .ok (.ireturn, 1) := dk_172 (dk_at dksX13_known_2 10 rfl rfl)
abbrev cX13_codeFor : ByteArray := prog_16_method_53_code
def yX13_codeFor : MethodName := ⟨RX13, "codeFor", "(I)I"⟩
def dkwX13_codeFor_1 : List UInt8 := [182, 0, 72, 172]
abbrev dktX13_codeFor_1 : List UInt8 := dkwX13_codeFor_1 ++ []
def dkwX13_codeFor_0 : List UInt8 := [27, 184, 0, 184, 153, 0, 15, 42, 16, 6, 7, 6, 27, 182, 0, 187, 167, 0, 9, 42, 18, 66]
abbrev dktX13_codeFor_0 : List UInt8 := dkwX13_codeFor_0 ++ dktX13_codeFor_1
theorem dksX13_codeFor_0 : cX13_codeFor.data.toList.drop 0 = dktX13_codeFor_0 := by decide +kernel
theorem dksX13_codeFor_1 : cX13_codeFor.data.toList.drop 22 = dktX13_codeFor_1 := dk_seg dksX13_codeFor_0 22 rfl rfl
theorem dX13_codeFor_0 : decode cX13_codeFor 0 = .ok (.iload_n 1, 1) := dk_27 (dk_at dksX13_codeFor_0 0 rfl rfl)
theorem dX13_codeFor_1 : decode cX13_codeFor 1 = .ok (.invokestatic 184, 3) := dk_184 0 184 (dk_at dksX13_codeFor_0 1 rfl rfl)
theorem dX13_codeFor_4 : decode cX13_codeFor 4 = .ok (.ifCond .eq 15, 3) := dk_153 0 15 (dk_at dksX13_codeFor_0 4 rfl rfl)
theorem dX13_codeFor_7 : decode cX13_codeFor 7 = .ok (.aload_n 0, 1) := dk_42 (dk_at dksX13_codeFor_0 7 rfl rfl)
theorem dX13_codeFor_8 : decode cX13_codeFor 8 = .ok (.bipush 6, 2) := dk_16 6 (dk_at dksX13_codeFor_0 8 rfl rfl)
theorem dX13_codeFor_10 : decode cX13_codeFor 10 = .ok (.iconst 4, 1) := dk_7 (dk_at dksX13_codeFor_0 10 rfl rfl)
theorem dX13_codeFor_11 : decode cX13_codeFor 11 = .ok (.iconst 3, 1) := dk_6 (dk_at dksX13_codeFor_0 11 rfl rfl)
theorem dX13_codeFor_12 : decode cX13_codeFor 12 = .ok (.iload_n 1, 1) := dk_27 (dk_at dksX13_codeFor_0 12 rfl rfl)
theorem dX13_codeFor_13 : decode cX13_codeFor 13 = .ok (.invokevirtual 187, 3) := dk_182 0 187 (dk_at dksX13_codeFor_0 13 rfl rfl)
theorem dX13_codeFor_16 : decode cX13_codeFor 16 = .ok (.goto 9, 3) := dk_167 0 9 (dk_at dksX13_codeFor_0 16 rfl rfl)
theorem dX13_codeFor_19 : decode cX13_codeFor 19 = .ok (.aload_n 0, 1) := dk_42 (dk_at dksX13_codeFor_0 19 rfl rfl)
theorem dX13_codeFor_20 : decode cX13_codeFor 20 = .ok (.ldc 66, 2) := dk_18 66 (dk_at dksX13_codeFor_0 20 rfl rfl)
theorem dX13_codeFor_22 : decode cX13_codeFor 22 = .ok (.invokevirtual 72, 3) := dk_182 0 72 (dk_at dksX13_codeFor_1 0 rfl rfl)
theorem dX13_codeFor_25 : decode cX13_codeFor 25 = .ok (.ireturn, 1) := dk_172 (dk_at dksX13_codeFor_1 3 rfl rfl)
abbrev cX13_isThought : ByteArray := prog_16_method_51_code
def yX13_isThought : MethodName := ⟨RX13, "isThought", "(I)Z"⟩
def dkwX13_isThought_0 : List UInt8 := [26, 3, 16, 40, 184, 0, 76, 172]
abbrev dktX13_isThought_0 : List UInt8 := dkwX13_isThought_0 ++ []
theorem dksX13_isThought_0 : cX13_isThought.data.toList.drop 0 = dktX13_isThought_0 := by decide +kernel
theorem dX13_isThought_0 : decode cX13_isThought 0 = .ok (.iload_n 0, 1) := dk_26 (dk_at dksX13_isThought_0 0 rfl rfl)
theorem dX13_isThought_1 : decode cX13_isThought 1 = .ok (.iconst 0, 1) := dk_3 (dk_at dksX13_isThought_0 1 rfl rfl)
theorem dX13_isThought_2 : decode cX13_isThought 2 = .ok (.bipush 40, 2) := dk_16 40 (dk_at dksX13_isThought_0 2 rfl rfl)
theorem dX13_isThought_4 : decode cX13_isThought 4 = .ok (.invokestatic 76, 3) := dk_184 0 76 (dk_at dksX13_isThought_0 4 rfl rfl)
theorem dX13_isThought_7 : decode cX13_isThought 7 = .ok (.ireturn, 1) := dk_172 (dk_at dksX13_isThought_0 7 rfl rfl)
abbrev cX13_bestFor : ByteArray := prog_16_method_52_code
def yX13_bestFor : MethodName := ⟨RX13, "bestFor", "(IIII)I"⟩
def dkwX13_bestFor_3 : List UInt8 := [42, 180, 0, 9, 27, 21, 5, 79, 21, 6, 172]
abbrev dktX13_bestFor_3 : List UInt8 := dkwX13_bestFor_3 ++ []
def dkwX13_bestFor_2 : List UInt8 := [21, 8, 167, 0, 5, 21, 6, 54, 6, 21, 7, 21, 9, 184, 0, 122, 54, 7, 132, 8, 1, 167, 255, 205]
abbrev dktX13_bestFor_2 : List UInt8 := dkwX13_bestFor_2 ++ dktX13_bestFor_3
def dkwX13_bestFor_1 : List UInt8 := [180, 0, 9, 27, 21, 8, 79, 42, 29, 21, 4, 182, 0, 178, 54, 9, 21, 9, 21, 7, 164, 0, 8]
abbrev dktX13_bestFor_1 : List UInt8 := dkwX13_bestFor_1 ++ dktX13_bestFor_2
def dkwX13_bestFor_0 : List UInt8 := [42, 180, 0, 9, 27, 46, 54, 5, 3, 54, 6, 2, 54, 7, 3, 54, 8, 21, 8, 28, 163, 0, 51, 42]
abbrev dktX13_bestFor_0 : List UInt8 := dkwX13_bestFor_0 ++ dktX13_bestFor_1
theorem dksX13_bestFor_0 : cX13_bestFor.data.toList.drop 0 = dktX13_bestFor_0 := by decide +kernel
theorem dksX13_bestFor_1 : cX13_bestFor.data.toList.drop 24 = dktX13_bestFor_1 := dk_seg dksX13_bestFor_0 24 rfl rfl
theorem dksX13_bestFor_2 : cX13_bestFor.data.toList.drop 47 = dktX13_bestFor_2 := dk_seg dksX13_bestFor_1 23 rfl rfl
theorem dksX13_bestFor_3 : cX13_bestFor.data.toList.drop 71 = dktX13_bestFor_3 := dk_seg dksX13_bestFor_2 24 rfl rfl
theorem dX13_bestFor_0 : decode cX13_bestFor 0 = .ok (.aload_n 0, 1) := dk_42 (dk_at dksX13_bestFor_0 0 rfl rfl)
theorem dX13_bestFor_1 : decode cX13_bestFor 1 = .ok (.getfield 9, 3) := dk_180 0 9 (dk_at dksX13_bestFor_0 1 rfl rfl)
theorem dX13_bestFor_4 : decode cX13_bestFor 4 = .ok (.iload_n 1, 1) := dk_27 (dk_at dksX13_bestFor_0 4 rfl rfl)
theorem dX13_bestFor_5 : decode cX13_bestFor 5 = .ok (.iaload, 1) := dk_46 (dk_at dksX13_bestFor_0 5 rfl rfl)
theorem dX13_bestFor_6 : decode cX13_bestFor 6 = .ok (.istore 5, 2) := dk_54 5 (dk_at dksX13_bestFor_0 6 rfl rfl)
theorem dX13_bestFor_8 : decode cX13_bestFor 8 = .ok (.iconst 0, 1) := dk_3 (dk_at dksX13_bestFor_0 8 rfl rfl)
theorem dX13_bestFor_9 : decode cX13_bestFor 9 = .ok (.istore 6, 2) := dk_54 6 (dk_at dksX13_bestFor_0 9 rfl rfl)
theorem dX13_bestFor_11 : decode cX13_bestFor 11 = .ok (.iconst (-1), 1) := dk_2 (dk_at dksX13_bestFor_0 11 rfl rfl)
theorem dX13_bestFor_12 : decode cX13_bestFor 12 = .ok (.istore 7, 2) := dk_54 7 (dk_at dksX13_bestFor_0 12 rfl rfl)
theorem dX13_bestFor_14 : decode cX13_bestFor 14 = .ok (.iconst 0, 1) := dk_3 (dk_at dksX13_bestFor_0 14 rfl rfl)
theorem dX13_bestFor_15 : decode cX13_bestFor 15 = .ok (.istore 8, 2) := dk_54 8 (dk_at dksX13_bestFor_0 15 rfl rfl)
theorem dX13_bestFor_17 : decode cX13_bestFor 17 = .ok (.iload 8, 2) := dk_21 8 (dk_at dksX13_bestFor_0 17 rfl rfl)
theorem dX13_bestFor_19 : decode cX13_bestFor 19 = .ok (.iload_n 2, 1) := dk_28 (dk_at dksX13_bestFor_0 19 rfl rfl)
theorem dX13_bestFor_20 : decode cX13_bestFor 20 = .ok (.if_icmp .gt 51, 3) := dk_163 0 51 (dk_at dksX13_bestFor_0 20 rfl rfl)
theorem dX13_bestFor_23 : decode cX13_bestFor 23 = .ok (.aload_n 0, 1) := dk_42 (dk_at dksX13_bestFor_0 23 rfl rfl)
theorem dX13_bestFor_24 : decode cX13_bestFor 24 = .ok (.getfield 9, 3) := dk_180 0 9 (dk_at dksX13_bestFor_1 0 rfl rfl)
theorem dX13_bestFor_27 : decode cX13_bestFor 27 = .ok (.iload_n 1, 1) := dk_27 (dk_at dksX13_bestFor_1 3 rfl rfl)
theorem dX13_bestFor_28 : decode cX13_bestFor 28 = .ok (.iload 8, 2) := dk_21 8 (dk_at dksX13_bestFor_1 4 rfl rfl)
theorem dX13_bestFor_30 : decode cX13_bestFor 30 = .ok (.iastore, 1) := dk_79 (dk_at dksX13_bestFor_1 6 rfl rfl)
theorem dX13_bestFor_31 : decode cX13_bestFor 31 = .ok (.aload_n 0, 1) := dk_42 (dk_at dksX13_bestFor_1 7 rfl rfl)
theorem dX13_bestFor_32 : decode cX13_bestFor 32 = .ok (.iload_n 3, 1) := dk_29 (dk_at dksX13_bestFor_1 8 rfl rfl)
theorem dX13_bestFor_33 : decode cX13_bestFor 33 = .ok (.iload 4, 2) := dk_21 4 (dk_at dksX13_bestFor_1 9 rfl rfl)
theorem dX13_bestFor_35 : decode cX13_bestFor 35 = .ok (.invokevirtual 178, 3) := dk_182 0 178 (dk_at dksX13_bestFor_1 11 rfl rfl)
theorem dX13_bestFor_38 : decode cX13_bestFor 38 = .ok (.istore 9, 2) := dk_54 9 (dk_at dksX13_bestFor_1 14 rfl rfl)
theorem dX13_bestFor_40 : decode cX13_bestFor 40 = .ok (.iload 9, 2) := dk_21 9 (dk_at dksX13_bestFor_1 16 rfl rfl)
theorem dX13_bestFor_42 : decode cX13_bestFor 42 = .ok (.iload 7, 2) := dk_21 7 (dk_at dksX13_bestFor_1 18 rfl rfl)
theorem dX13_bestFor_44 : decode cX13_bestFor 44 = .ok (.if_icmp .le 8, 3) := dk_164 0 8 (dk_at dksX13_bestFor_1 20 rfl rfl)
theorem dX13_bestFor_47 : decode cX13_bestFor 47 = .ok (.iload 8, 2) := dk_21 8 (dk_at dksX13_bestFor_2 0 rfl rfl)
theorem dX13_bestFor_49 : decode cX13_bestFor 49 = .ok (.goto 5, 3) := dk_167 0 5 (dk_at dksX13_bestFor_2 2 rfl rfl)
theorem dX13_bestFor_52 : decode cX13_bestFor 52 = .ok (.iload 6, 2) := dk_21 6 (dk_at dksX13_bestFor_2 5 rfl rfl)
theorem dX13_bestFor_54 : decode cX13_bestFor 54 = .ok (.istore 6, 2) := dk_54 6 (dk_at dksX13_bestFor_2 7 rfl rfl)
theorem dX13_bestFor_56 : decode cX13_bestFor 56 = .ok (.iload 7, 2) := dk_21 7 (dk_at dksX13_bestFor_2 9 rfl rfl)
theorem dX13_bestFor_58 : decode cX13_bestFor 58 = .ok (.iload 9, 2) := dk_21 9 (dk_at dksX13_bestFor_2 11 rfl rfl)
theorem dX13_bestFor_60 : decode cX13_bestFor 60 = .ok (.invokestatic 122, 3) := dk_184 0 122 (dk_at dksX13_bestFor_2 13 rfl rfl)
theorem dX13_bestFor_63 : decode cX13_bestFor 63 = .ok (.istore 7, 2) := dk_54 7 (dk_at dksX13_bestFor_2 16 rfl rfl)
theorem dX13_bestFor_65 : decode cX13_bestFor 65 = .ok (.iinc 8 1, 3) := dk_132 8 1 (dk_at dksX13_bestFor_2 18 rfl rfl)
theorem dX13_bestFor_68 : decode cX13_bestFor 68 = .ok (.goto (-51), 3) := dk_167 255 205 (dk_at dksX13_bestFor_2 21 rfl rfl)
theorem dX13_bestFor_71 : decode cX13_bestFor 71 = .ok (.aload_n 0, 1) := dk_42 (dk_at dksX13_bestFor_3 0 rfl rfl)
theorem dX13_bestFor_72 : decode cX13_bestFor 72 = .ok (.getfield 9, 3) := dk_180 0 9 (dk_at dksX13_bestFor_3 1 rfl rfl)
theorem dX13_bestFor_75 : decode cX13_bestFor 75 = .ok (.iload_n 1, 1) := dk_27 (dk_at dksX13_bestFor_3 4 rfl rfl)
theorem dX13_bestFor_76 : decode cX13_bestFor 76 = .ok (.iload 5, 2) := dk_21 5 (dk_at dksX13_bestFor_3 5 rfl rfl)
theorem dX13_bestFor_78 : decode cX13_bestFor 78 = .ok (.iastore, 1) := dk_79 (dk_at dksX13_bestFor_3 7 rfl rfl)
theorem dX13_bestFor_79 : decode cX13_bestFor 79 = .ok (.iload 6, 2) := dk_21 6 (dk_at dksX13_bestFor_3 8 rfl rfl)
theorem dX13_bestFor_81 : decode cX13_bestFor 81 = .ok (.ireturn, 1) := dk_172 (dk_at dksX13_bestFor_3 10 rfl rfl)
abbrev cX13_callFor : ByteArray := prog_16_method_54_code
def yX13_callFor : MethodName := ⟨RX13, "callFor", "(I)I"⟩
def dkwX13_callFor_1 : List UInt8 := [17, 3, 231, 6, 27, 182, 0, 187, 167, 0, 9, 42, 18, 66, 182, 0, 72, 172]
abbrev dktX13_callFor_1 : List UInt8 := dkwX13_callFor_1 ++ []
def dkwX13_callFor_0 : List UInt8 := [27, 3, 16, 10, 184, 0, 76, 153, 0, 27, 42, 16, 38, 42, 180, 0, 9, 3, 46, 16, 6, 112, 96]
abbrev dktX13_callFor_0 : List UInt8 := dkwX13_callFor_0 ++ dktX13_callFor_1
theorem dksX13_callFor_0 : cX13_callFor.data.toList.drop 0 = dktX13_callFor_0 := by decide +kernel
theorem dksX13_callFor_1 : cX13_callFor.data.toList.drop 23 = dktX13_callFor_1 := dk_seg dksX13_callFor_0 23 rfl rfl
theorem dX13_callFor_0 : decode cX13_callFor 0 = .ok (.iload_n 1, 1) := dk_27 (dk_at dksX13_callFor_0 0 rfl rfl)
theorem dX13_callFor_1 : decode cX13_callFor 1 = .ok (.iconst 0, 1) := dk_3 (dk_at dksX13_callFor_0 1 rfl rfl)
theorem dX13_callFor_2 : decode cX13_callFor 2 = .ok (.bipush 10, 2) := dk_16 10 (dk_at dksX13_callFor_0 2 rfl rfl)
theorem dX13_callFor_4 : decode cX13_callFor 4 = .ok (.invokestatic 76, 3) := dk_184 0 76 (dk_at dksX13_callFor_0 4 rfl rfl)
theorem dX13_callFor_7 : decode cX13_callFor 7 = .ok (.ifCond .eq 27, 3) := dk_153 0 27 (dk_at dksX13_callFor_0 7 rfl rfl)
theorem dX13_callFor_10 : decode cX13_callFor 10 = .ok (.aload_n 0, 1) := dk_42 (dk_at dksX13_callFor_0 10 rfl rfl)
theorem dX13_callFor_11 : decode cX13_callFor 11 = .ok (.bipush 38, 2) := dk_16 38 (dk_at dksX13_callFor_0 11 rfl rfl)
theorem dX13_callFor_13 : decode cX13_callFor 13 = .ok (.aload_n 0, 1) := dk_42 (dk_at dksX13_callFor_0 13 rfl rfl)
theorem dX13_callFor_14 : decode cX13_callFor 14 = .ok (.getfield 9, 3) := dk_180 0 9 (dk_at dksX13_callFor_0 14 rfl rfl)
theorem dX13_callFor_17 : decode cX13_callFor 17 = .ok (.iconst 0, 1) := dk_3 (dk_at dksX13_callFor_0 17 rfl rfl)
theorem dX13_callFor_18 : decode cX13_callFor 18 = .ok (.iaload, 1) := dk_46 (dk_at dksX13_callFor_0 18 rfl rfl)
theorem dX13_callFor_19 : decode cX13_callFor 19 = .ok (.bipush 6, 2) := dk_16 6 (dk_at dksX13_callFor_0 19 rfl rfl)
theorem dX13_callFor_21 : decode cX13_callFor 21 = .ok (.irem, 1) := dk_112 (dk_at dksX13_callFor_0 21 rfl rfl)
theorem dX13_callFor_22 : decode cX13_callFor 22 = .ok (.iadd, 1) := dk_96 (dk_at dksX13_callFor_0 22 rfl rfl)
theorem dX13_callFor_23 : decode cX13_callFor 23 = .ok (.sipush 999, 3) := dk_17 3 231 (dk_at dksX13_callFor_1 0 rfl rfl)
theorem dX13_callFor_26 : decode cX13_callFor 26 = .ok (.iconst 3, 1) := dk_6 (dk_at dksX13_callFor_1 3 rfl rfl)
theorem dX13_callFor_27 : decode cX13_callFor 27 = .ok (.iload_n 1, 1) := dk_27 (dk_at dksX13_callFor_1 4 rfl rfl)
theorem dX13_callFor_28 : decode cX13_callFor 28 = .ok (.invokevirtual 187, 3) := dk_182 0 187 (dk_at dksX13_callFor_1 5 rfl rfl)
theorem dX13_callFor_31 : decode cX13_callFor 31 = .ok (.goto 9, 3) := dk_167 0 9 (dk_at dksX13_callFor_1 8 rfl rfl)
theorem dX13_callFor_34 : decode cX13_callFor 34 = .ok (.aload_n 0, 1) := dk_42 (dk_at dksX13_callFor_1 11 rfl rfl)
theorem dX13_callFor_35 : decode cX13_callFor 35 = .ok (.ldc 66, 2) := dk_18 66 (dk_at dksX13_callFor_1 12 rfl rfl)
theorem dX13_callFor_37 : decode cX13_callFor 37 = .ok (.invokevirtual 72, 3) := dk_182 0 72 (dk_at dksX13_callFor_1 14 rfl rfl)
theorem dX13_callFor_40 : decode cX13_callFor 40 = .ok (.ireturn, 1) := dk_172 (dk_at dksX13_callFor_1 17 rfl rfl)
abbrev cX13_standFor : ByteArray := prog_16_method_56_code
def yX13_standFor : MethodName := ⟨RX13, "standFor", "(II)I"⟩
def dkwX13_standFor_3 : List UInt8 := [132, 5, 1, 167, 255, 213, 29, 172]
abbrev dktX13_standFor_3 : List UInt8 := dkwX13_standFor_3 ++ []
def dkwX13_standFor_2 : List UInt8 := [21, 6, 21, 4, 164, 0, 8, 21, 5, 167, 0, 4, 29, 62, 21, 4, 21, 6, 184, 0, 122, 54, 4]
abbrev dktX13_standFor_2 : List UInt8 := dkwX13_standFor_2 ++ dktX13_standFor_3
def dkwX13_standFor_1 : List UInt8 := [2, 54, 4, 3, 54, 5, 21, 5, 16, 7, 162, 0, 42, 42, 27, 21, 5, 28, 182, 0, 191, 54, 6]
abbrev dktX13_standFor_1 : List UInt8 := dkwX13_standFor_1 ++ dktX13_standFor_2
def dkwX13_standFor_0 : List UInt8 := [42, 27, 182, 0, 87, 153, 0, 10, 28, 184, 0, 184, 154, 0, 10, 42, 18, 66, 182, 0, 72, 172, 3, 62]
abbrev dktX13_standFor_0 : List UInt8 := dkwX13_standFor_0 ++ dktX13_standFor_1
theorem dksX13_standFor_0 : cX13_standFor.data.toList.drop 0 = dktX13_standFor_0 := by decide +kernel
theorem dksX13_standFor_1 : cX13_standFor.data.toList.drop 24 = dktX13_standFor_1 := dk_seg dksX13_standFor_0 24 rfl rfl
theorem dksX13_standFor_2 : cX13_standFor.data.toList.drop 47 = dktX13_standFor_2 := dk_seg dksX13_standFor_1 23 rfl rfl
theorem dksX13_standFor_3 : cX13_standFor.data.toList.drop 70 = dktX13_standFor_3 := dk_seg dksX13_standFor_2 23 rfl rfl
theorem dX13_standFor_0 : decode cX13_standFor 0 = .ok (.aload_n 0, 1) := dk_42 (dk_at dksX13_standFor_0 0 rfl rfl)
theorem dX13_standFor_1 : decode cX13_standFor 1 = .ok (.iload_n 1, 1) := dk_27 (dk_at dksX13_standFor_0 1 rfl rfl)
theorem dX13_standFor_2 : decode cX13_standFor 2 = .ok (.invokevirtual 87, 3) := dk_182 0 87 (dk_at dksX13_standFor_0 2 rfl rfl)
theorem dX13_standFor_5 : decode cX13_standFor 5 = .ok (.ifCond .eq 10, 3) := dk_153 0 10 (dk_at dksX13_standFor_0 5 rfl rfl)
theorem dX13_standFor_8 : decode cX13_standFor 8 = .ok (.iload_n 2, 1) := dk_28 (dk_at dksX13_standFor_0 8 rfl rfl)
theorem dX13_standFor_9 : decode cX13_standFor 9 = .ok (.invokestatic 184, 3) := dk_184 0 184 (dk_at dksX13_standFor_0 9 rfl rfl)
theorem dX13_standFor_12 : decode cX13_standFor 12 = .ok (.ifCond .ne 10, 3) := dk_154 0 10 (dk_at dksX13_standFor_0 12 rfl rfl)
theorem dX13_standFor_15 : decode cX13_standFor 15 = .ok (.aload_n 0, 1) := dk_42 (dk_at dksX13_standFor_0 15 rfl rfl)
theorem dX13_standFor_16 : decode cX13_standFor 16 = .ok (.ldc 66, 2) := dk_18 66 (dk_at dksX13_standFor_0 16 rfl rfl)
theorem dX13_standFor_18 : decode cX13_standFor 18 = .ok (.invokevirtual 72, 3) := dk_182 0 72 (dk_at dksX13_standFor_0 18 rfl rfl)
theorem dX13_standFor_21 : decode cX13_standFor 21 = .ok (.ireturn, 1) := dk_172 (dk_at dksX13_standFor_0 21 rfl rfl)
theorem dX13_standFor_22 : decode cX13_standFor 22 = .ok (.iconst 0, 1) := dk_3 (dk_at dksX13_standFor_0 22 rfl rfl)
theorem dX13_standFor_23 : decode cX13_standFor 23 = .ok (.istore_n 3, 1) := dk_62 (dk_at dksX13_standFor_0 23 rfl rfl)
theorem dX13_standFor_24 : decode cX13_standFor 24 = .ok (.iconst (-1), 1) := dk_2 (dk_at dksX13_standFor_1 0 rfl rfl)
theorem dX13_standFor_25 : decode cX13_standFor 25 = .ok (.istore 4, 2) := dk_54 4 (dk_at dksX13_standFor_1 1 rfl rfl)
theorem dX13_standFor_27 : decode cX13_standFor 27 = .ok (.iconst 0, 1) := dk_3 (dk_at dksX13_standFor_1 3 rfl rfl)
theorem dX13_standFor_28 : decode cX13_standFor 28 = .ok (.istore 5, 2) := dk_54 5 (dk_at dksX13_standFor_1 4 rfl rfl)
theorem dX13_standFor_30 : decode cX13_standFor 30 = .ok (.iload 5, 2) := dk_21 5 (dk_at dksX13_standFor_1 6 rfl rfl)
theorem dX13_standFor_32 : decode cX13_standFor 32 = .ok (.bipush 7, 2) := dk_16 7 (dk_at dksX13_standFor_1 8 rfl rfl)
theorem dX13_standFor_34 : decode cX13_standFor 34 = .ok (.if_icmp .ge 42, 3) := dk_162 0 42 (dk_at dksX13_standFor_1 10 rfl rfl)
theorem dX13_standFor_37 : decode cX13_standFor 37 = .ok (.aload_n 0, 1) := dk_42 (dk_at dksX13_standFor_1 13 rfl rfl)
theorem dX13_standFor_38 : decode cX13_standFor 38 = .ok (.iload_n 1, 1) := dk_27 (dk_at dksX13_standFor_1 14 rfl rfl)
theorem dX13_standFor_39 : decode cX13_standFor 39 = .ok (.iload 5, 2) := dk_21 5 (dk_at dksX13_standFor_1 15 rfl rfl)
theorem dX13_standFor_41 : decode cX13_standFor 41 = .ok (.iload_n 2, 1) := dk_28 (dk_at dksX13_standFor_1 17 rfl rfl)
theorem dX13_standFor_42 : decode cX13_standFor 42 = .ok (.invokevirtual 191, 3) := dk_182 0 191 (dk_at dksX13_standFor_1 18 rfl rfl)
theorem dX13_standFor_45 : decode cX13_standFor 45 = .ok (.istore 6, 2) := dk_54 6 (dk_at dksX13_standFor_1 21 rfl rfl)
theorem dX13_standFor_47 : decode cX13_standFor 47 = .ok (.iload 6, 2) := dk_21 6 (dk_at dksX13_standFor_2 0 rfl rfl)
theorem dX13_standFor_49 : decode cX13_standFor 49 = .ok (.iload 4, 2) := dk_21 4 (dk_at dksX13_standFor_2 2 rfl rfl)
theorem dX13_standFor_51 : decode cX13_standFor 51 = .ok (.if_icmp .le 8, 3) := dk_164 0 8 (dk_at dksX13_standFor_2 4 rfl rfl)
theorem dX13_standFor_54 : decode cX13_standFor 54 = .ok (.iload 5, 2) := dk_21 5 (dk_at dksX13_standFor_2 7 rfl rfl)
theorem dX13_standFor_56 : decode cX13_standFor 56 = .ok (.goto 4, 3) := dk_167 0 4 (dk_at dksX13_standFor_2 9 rfl rfl)
theorem dX13_standFor_59 : decode cX13_standFor 59 = .ok (.iload_n 3, 1) := dk_29 (dk_at dksX13_standFor_2 12 rfl rfl)
theorem dX13_standFor_60 : decode cX13_standFor 60 = .ok (.istore_n 3, 1) := dk_62 (dk_at dksX13_standFor_2 13 rfl rfl)
theorem dX13_standFor_61 : decode cX13_standFor 61 = .ok (.iload 4, 2) := dk_21 4 (dk_at dksX13_standFor_2 14 rfl rfl)
theorem dX13_standFor_63 : decode cX13_standFor 63 = .ok (.iload 6, 2) := dk_21 6 (dk_at dksX13_standFor_2 16 rfl rfl)
theorem dX13_standFor_65 : decode cX13_standFor 65 = .ok (.invokestatic 122, 3) := dk_184 0 122 (dk_at dksX13_standFor_2 18 rfl rfl)
theorem dX13_standFor_68 : decode cX13_standFor 68 = .ok (.istore 4, 2) := dk_54 4 (dk_at dksX13_standFor_2 21 rfl rfl)
theorem dX13_standFor_70 : decode cX13_standFor 70 = .ok (.iinc 5 1, 3) := dk_132 5 1 (dk_at dksX13_standFor_3 0 rfl rfl)
theorem dX13_standFor_73 : decode cX13_standFor 73 = .ok (.goto (-43), 3) := dk_167 255 213 (dk_at dksX13_standFor_3 3 rfl rfl)
theorem dX13_standFor_76 : decode cX13_standFor 76 = .ok (.iload_n 3, 1) := dk_29 (dk_at dksX13_standFor_3 6 rfl rfl)
theorem dX13_standFor_77 : decode cX13_standFor 77 = .ok (.ireturn, 1) := dk_172 (dk_at dksX13_standFor_3 7 rfl rfl)
abbrev cX13_metresStanding : ByteArray := prog_16_method_55_code
def yX13_metresStanding : MethodName := ⟨RX13, "metresStanding", "(III)I"⟩
def dkwX13_metresStanding_2 : List UInt8 := [79, 42, 29, 182, 0, 159, 42, 42, 180, 0, 9, 6, 46, 182, 0, 175, 172]
abbrev dktX13_metresStanding_2 : List UInt8 := dkwX13_metresStanding_2 ++ []
def dkwX13_metresStanding_1 : List UInt8 := [54, 5, 21, 4, 155, 0, 21, 21, 4, 28, 159, 0, 15, 42, 180, 0, 9, 16, 17, 21, 4, 96, 21, 5]
abbrev dktX13_metresStanding_1 : List UInt8 := dkwX13_metresStanding_1 ++ dktX13_metresStanding_2
def dkwX13_metresStanding_0 : List UInt8 := [42, 180, 0, 9, 42, 180, 0, 16, 184, 0, 67, 42, 27, 182, 0, 80, 54, 4, 42, 28, 27, 182, 0, 90]
abbrev dktX13_metresStanding_0 : List UInt8 := dkwX13_metresStanding_0 ++ dktX13_metresStanding_1
theorem dksX13_metresStanding_0 : cX13_metresStanding.data.toList.drop 0 = dktX13_metresStanding_0 := by decide +kernel
theorem dksX13_metresStanding_1 : cX13_metresStanding.data.toList.drop 24 = dktX13_metresStanding_1 := dk_seg dksX13_metresStanding_0 24 rfl rfl
theorem dksX13_metresStanding_2 : cX13_metresStanding.data.toList.drop 48 = dktX13_metresStanding_2 := dk_seg dksX13_metresStanding_1 24 rfl rfl
theorem dX13_metresStanding_0 : decode cX13_metresStanding 0 = .ok (.aload_n 0, 1) := dk_42 (dk_at dksX13_metresStanding_0 0 rfl rfl)
theorem dX13_metresStanding_1 : decode cX13_metresStanding 1 = .ok (.getfield 9, 3) := dk_180 0 9 (dk_at dksX13_metresStanding_0 1 rfl rfl)
theorem dX13_metresStanding_4 : decode cX13_metresStanding 4 = .ok (.aload_n 0, 1) := dk_42 (dk_at dksX13_metresStanding_0 4 rfl rfl)
theorem dX13_metresStanding_5 : decode cX13_metresStanding 5 = .ok (.getfield 16, 3) := dk_180 0 16 (dk_at dksX13_metresStanding_0 5 rfl rfl)
theorem dX13_metresStanding_8 : decode cX13_metresStanding 8 = .ok (.invokestatic 67, 3) := dk_184 0 67 (dk_at dksX13_metresStanding_0 8 rfl rfl)
theorem dX13_metresStanding_11 : decode cX13_metresStanding 11 = .ok (.aload_n 0, 1) := dk_42 (dk_at dksX13_metresStanding_0 11 rfl rfl)
theorem dX13_metresStanding_12 : decode cX13_metresStanding 12 = .ok (.iload_n 1, 1) := dk_27 (dk_at dksX13_metresStanding_0 12 rfl rfl)
theorem dX13_metresStanding_13 : decode cX13_metresStanding 13 = .ok (.invokevirtual 80, 3) := dk_182 0 80 (dk_at dksX13_metresStanding_0 13 rfl rfl)
theorem dX13_metresStanding_16 : decode cX13_metresStanding 16 = .ok (.istore 4, 2) := dk_54 4 (dk_at dksX13_metresStanding_0 16 rfl rfl)
theorem dX13_metresStanding_18 : decode cX13_metresStanding 18 = .ok (.aload_n 0, 1) := dk_42 (dk_at dksX13_metresStanding_0 18 rfl rfl)
theorem dX13_metresStanding_19 : decode cX13_metresStanding 19 = .ok (.iload_n 2, 1) := dk_28 (dk_at dksX13_metresStanding_0 19 rfl rfl)
theorem dX13_metresStanding_20 : decode cX13_metresStanding 20 = .ok (.iload_n 1, 1) := dk_27 (dk_at dksX13_metresStanding_0 20 rfl rfl)
theorem dX13_metresStanding_21 : decode cX13_metresStanding 21 = .ok (.invokevirtual 90, 3) := dk_182 0 90 (dk_at dksX13_metresStanding_0 21 rfl rfl)
theorem dX13_metresStanding_24 : decode cX13_metresStanding 24 = .ok (.istore 5, 2) := dk_54 5 (dk_at dksX13_metresStanding_1 0 rfl rfl)
theorem dX13_metresStanding_26 : decode cX13_metresStanding 26 = .ok (.iload 4, 2) := dk_21 4 (dk_at dksX13_metresStanding_1 2 rfl rfl)
theorem dX13_metresStanding_28 : decode cX13_metresStanding 28 = .ok (.ifCond .lt 21, 3) := dk_155 0 21 (dk_at dksX13_metresStanding_1 4 rfl rfl)
theorem dX13_metresStanding_31 : decode cX13_metresStanding 31 = .ok (.iload 4, 2) := dk_21 4 (dk_at dksX13_metresStanding_1 7 rfl rfl)
theorem dX13_metresStanding_33 : decode cX13_metresStanding 33 = .ok (.iload_n 2, 1) := dk_28 (dk_at dksX13_metresStanding_1 9 rfl rfl)
theorem dX13_metresStanding_34 : decode cX13_metresStanding 34 = .ok (.if_icmp .eq 15, 3) := dk_159 0 15 (dk_at dksX13_metresStanding_1 10 rfl rfl)
theorem dX13_metresStanding_37 : decode cX13_metresStanding 37 = .ok (.aload_n 0, 1) := dk_42 (dk_at dksX13_metresStanding_1 13 rfl rfl)
theorem dX13_metresStanding_38 : decode cX13_metresStanding 38 = .ok (.getfield 9, 3) := dk_180 0 9 (dk_at dksX13_metresStanding_1 14 rfl rfl)
theorem dX13_metresStanding_41 : decode cX13_metresStanding 41 = .ok (.bipush 17, 2) := dk_16 17 (dk_at dksX13_metresStanding_1 17 rfl rfl)
theorem dX13_metresStanding_43 : decode cX13_metresStanding 43 = .ok (.iload 4, 2) := dk_21 4 (dk_at dksX13_metresStanding_1 19 rfl rfl)
theorem dX13_metresStanding_45 : decode cX13_metresStanding 45 = .ok (.iadd, 1) := dk_96 (dk_at dksX13_metresStanding_1 21 rfl rfl)
theorem dX13_metresStanding_46 : decode cX13_metresStanding 46 = .ok (.iload 5, 2) := dk_21 5 (dk_at dksX13_metresStanding_1 22 rfl rfl)
theorem dX13_metresStanding_48 : decode cX13_metresStanding 48 = .ok (.iastore, 1) := dk_79 (dk_at dksX13_metresStanding_2 0 rfl rfl)
theorem dX13_metresStanding_49 : decode cX13_metresStanding 49 = .ok (.aload_n 0, 1) := dk_42 (dk_at dksX13_metresStanding_2 1 rfl rfl)
theorem dX13_metresStanding_50 : decode cX13_metresStanding 50 = .ok (.iload_n 3, 1) := dk_29 (dk_at dksX13_metresStanding_2 2 rfl rfl)
theorem dX13_metresStanding_51 : decode cX13_metresStanding 51 = .ok (.invokevirtual 159, 3) := dk_182 0 159 (dk_at dksX13_metresStanding_2 3 rfl rfl)
theorem dX13_metresStanding_54 : decode cX13_metresStanding 54 = .ok (.aload_n 0, 1) := dk_42 (dk_at dksX13_metresStanding_2 6 rfl rfl)
theorem dX13_metresStanding_55 : decode cX13_metresStanding 55 = .ok (.aload_n 0, 1) := dk_42 (dk_at dksX13_metresStanding_2 7 rfl rfl)
theorem dX13_metresStanding_56 : decode cX13_metresStanding 56 = .ok (.getfield 9, 3) := dk_180 0 9 (dk_at dksX13_metresStanding_2 8 rfl rfl)
theorem dX13_metresStanding_59 : decode cX13_metresStanding 59 = .ok (.iconst 3, 1) := dk_6 (dk_at dksX13_metresStanding_2 11 rfl rfl)
theorem dX13_metresStanding_60 : decode cX13_metresStanding 60 = .ok (.iaload, 1) := dk_46 (dk_at dksX13_metresStanding_2 12 rfl rfl)
theorem dX13_metresStanding_61 : decode cX13_metresStanding 61 = .ok (.invokevirtual 175, 3) := dk_182 0 175 (dk_at dksX13_metresStanding_2 13 rfl rfl)
theorem dX13_metresStanding_64 : decode cX13_metresStanding 64 = .ok (.ireturn, 1) := dk_172 (dk_at dksX13_metresStanding_2 16 rfl rfl)
abbrev cX13_kindFor : ByteArray := prog_16_method_57_code
def yX13_kindFor : MethodName := ⟨RX13, "kindFor", "(II)I"⟩
def dkwX13_kindFor_1 : List UInt8 := [6, 184, 0, 109, 28, 182, 0, 187, 167, 0, 9, 42, 18, 66, 182, 0, 72, 172]
abbrev dktX13_kindFor_1 : List UInt8 := dkwX13_kindFor_1 ++ []
def dkwX13_kindFor_0 : List UInt8 := [42, 27, 182, 0, 87, 153, 0, 30, 28, 184, 0, 184, 153, 0, 23, 42, 27, 3, 184, 0, 109, 16, 6, 27]
abbrev dktX13_kindFor_0 : List UInt8 := dkwX13_kindFor_0 ++ dktX13_kindFor_1
theorem dksX13_kindFor_0 : cX13_kindFor.data.toList.drop 0 = dktX13_kindFor_0 := by decide +kernel
theorem dksX13_kindFor_1 : cX13_kindFor.data.toList.drop 24 = dktX13_kindFor_1 := dk_seg dksX13_kindFor_0 24 rfl rfl
theorem dX13_kindFor_0 : decode cX13_kindFor 0 = .ok (.aload_n 0, 1) := dk_42 (dk_at dksX13_kindFor_0 0 rfl rfl)
theorem dX13_kindFor_1 : decode cX13_kindFor 1 = .ok (.iload_n 1, 1) := dk_27 (dk_at dksX13_kindFor_0 1 rfl rfl)
theorem dX13_kindFor_2 : decode cX13_kindFor 2 = .ok (.invokevirtual 87, 3) := dk_182 0 87 (dk_at dksX13_kindFor_0 2 rfl rfl)
theorem dX13_kindFor_5 : decode cX13_kindFor 5 = .ok (.ifCond .eq 30, 3) := dk_153 0 30 (dk_at dksX13_kindFor_0 5 rfl rfl)
theorem dX13_kindFor_8 : decode cX13_kindFor 8 = .ok (.iload_n 2, 1) := dk_28 (dk_at dksX13_kindFor_0 8 rfl rfl)
theorem dX13_kindFor_9 : decode cX13_kindFor 9 = .ok (.invokestatic 184, 3) := dk_184 0 184 (dk_at dksX13_kindFor_0 9 rfl rfl)
theorem dX13_kindFor_12 : decode cX13_kindFor 12 = .ok (.ifCond .eq 23, 3) := dk_153 0 23 (dk_at dksX13_kindFor_0 12 rfl rfl)
theorem dX13_kindFor_15 : decode cX13_kindFor 15 = .ok (.aload_n 0, 1) := dk_42 (dk_at dksX13_kindFor_0 15 rfl rfl)
theorem dX13_kindFor_16 : decode cX13_kindFor 16 = .ok (.iload_n 1, 1) := dk_27 (dk_at dksX13_kindFor_0 16 rfl rfl)
theorem dX13_kindFor_17 : decode cX13_kindFor 17 = .ok (.iconst 0, 1) := dk_3 (dk_at dksX13_kindFor_0 17 rfl rfl)
theorem dX13_kindFor_18 : decode cX13_kindFor 18 = .ok (.invokestatic 109, 3) := dk_184 0 109 (dk_at dksX13_kindFor_0 18 rfl rfl)
theorem dX13_kindFor_21 : decode cX13_kindFor 21 = .ok (.bipush 6, 2) := dk_16 6 (dk_at dksX13_kindFor_0 21 rfl rfl)
theorem dX13_kindFor_23 : decode cX13_kindFor 23 = .ok (.iload_n 1, 1) := dk_27 (dk_at dksX13_kindFor_0 23 rfl rfl)
theorem dX13_kindFor_24 : decode cX13_kindFor 24 = .ok (.iconst 3, 1) := dk_6 (dk_at dksX13_kindFor_1 0 rfl rfl)
theorem dX13_kindFor_25 : decode cX13_kindFor 25 = .ok (.invokestatic 109, 3) := dk_184 0 109 (dk_at dksX13_kindFor_1 1 rfl rfl)
theorem dX13_kindFor_28 : decode cX13_kindFor 28 = .ok (.iload_n 2, 1) := dk_28 (dk_at dksX13_kindFor_1 4 rfl rfl)
theorem dX13_kindFor_29 : decode cX13_kindFor 29 = .ok (.invokevirtual 187, 3) := dk_182 0 187 (dk_at dksX13_kindFor_1 5 rfl rfl)
theorem dX13_kindFor_32 : decode cX13_kindFor 32 = .ok (.goto 9, 3) := dk_167 0 9 (dk_at dksX13_kindFor_1 8 rfl rfl)
theorem dX13_kindFor_35 : decode cX13_kindFor 35 = .ok (.aload_n 0, 1) := dk_42 (dk_at dksX13_kindFor_1 11 rfl rfl)
theorem dX13_kindFor_36 : decode cX13_kindFor 36 = .ok (.ldc 66, 2) := dk_18 66 (dk_at dksX13_kindFor_1 12 rfl rfl)
theorem dX13_kindFor_38 : decode cX13_kindFor 38 = .ok (.invokevirtual 72, 3) := dk_182 0 72 (dk_at dksX13_kindFor_1 14 rfl rfl)
theorem dX13_kindFor_41 : decode cX13_kindFor 41 = .ok (.ireturn, 1) := dk_172 (dk_at dksX13_kindFor_1 17 rfl rfl)
abbrev cX13_tallFor : ByteArray := prog_16_method_58_code
def yX13_tallFor : MethodName := ⟨RX13, "tallFor", "(III)I"⟩
def dkwX13_tallFor_4 : List UInt8 := [132, 7, 255, 167, 255, 216, 42, 180, 0, 9, 21, 4, 21, 5, 79, 42, 21, 6, 182, 0, 181, 172]
abbrev dktX13_tallFor_4 : List UInt8 := dkwX13_tallFor_4 ++ []
def dkwX13_tallFor_3 : List UInt8 := [27, 6, 184, 0, 109, 29, 182, 0, 178, 28, 161, 0, 8, 21, 7, 167, 0, 5, 21, 6, 54, 6]
abbrev dktX13_tallFor_3 : List UInt8 := dkwX13_tallFor_3 ++ dktX13_tallFor_4
def dkwX13_tallFor_2 : List UInt8 := [54, 5, 2, 54, 6, 16, 99, 54, 7, 21, 7, 155, 0, 41, 42, 180, 0, 9, 21, 4, 21, 7, 79, 42]
abbrev dktX13_tallFor_2 : List UInt8 := dkwX13_tallFor_2 ++ dktX13_tallFor_3
def dkwX13_tallFor_1 : List UInt8 := [154, 0, 10, 42, 18, 66, 182, 0, 72, 172, 27, 4, 184, 0, 109, 54, 4, 42, 180, 0, 9, 21, 4, 46]
abbrev dktX13_tallFor_1 : List UInt8 := dkwX13_tallFor_1 ++ dktX13_tallFor_2
def dkwX13_tallFor_0 : List UInt8 := [42, 27, 182, 0, 87, 153, 0, 21, 28, 3, 17, 39, 15, 184, 0, 76, 153, 0, 10, 29, 184, 0, 184]
abbrev dktX13_tallFor_0 : List UInt8 := dkwX13_tallFor_0 ++ dktX13_tallFor_1
theorem dksX13_tallFor_0 : cX13_tallFor.data.toList.drop 0 = dktX13_tallFor_0 := by decide +kernel
theorem dksX13_tallFor_1 : cX13_tallFor.data.toList.drop 23 = dktX13_tallFor_1 := dk_seg dksX13_tallFor_0 23 rfl rfl
theorem dksX13_tallFor_2 : cX13_tallFor.data.toList.drop 47 = dktX13_tallFor_2 := dk_seg dksX13_tallFor_1 24 rfl rfl
theorem dksX13_tallFor_3 : cX13_tallFor.data.toList.drop 71 = dktX13_tallFor_3 := dk_seg dksX13_tallFor_2 24 rfl rfl
theorem dksX13_tallFor_4 : cX13_tallFor.data.toList.drop 93 = dktX13_tallFor_4 := dk_seg dksX13_tallFor_3 22 rfl rfl
theorem dX13_tallFor_0 : decode cX13_tallFor 0 = .ok (.aload_n 0, 1) := dk_42 (dk_at dksX13_tallFor_0 0 rfl rfl)
theorem dX13_tallFor_1 : decode cX13_tallFor 1 = .ok (.iload_n 1, 1) := dk_27 (dk_at dksX13_tallFor_0 1 rfl rfl)
theorem dX13_tallFor_2 : decode cX13_tallFor 2 = .ok (.invokevirtual 87, 3) := dk_182 0 87 (dk_at dksX13_tallFor_0 2 rfl rfl)
theorem dX13_tallFor_5 : decode cX13_tallFor 5 = .ok (.ifCond .eq 21, 3) := dk_153 0 21 (dk_at dksX13_tallFor_0 5 rfl rfl)
theorem dX13_tallFor_8 : decode cX13_tallFor 8 = .ok (.iload_n 2, 1) := dk_28 (dk_at dksX13_tallFor_0 8 rfl rfl)
theorem dX13_tallFor_9 : decode cX13_tallFor 9 = .ok (.iconst 0, 1) := dk_3 (dk_at dksX13_tallFor_0 9 rfl rfl)
theorem dX13_tallFor_10 : decode cX13_tallFor 10 = .ok (.sipush 9999, 3) := dk_17 39 15 (dk_at dksX13_tallFor_0 10 rfl rfl)
theorem dX13_tallFor_13 : decode cX13_tallFor 13 = .ok (.invokestatic 76, 3) := dk_184 0 76 (dk_at dksX13_tallFor_0 13 rfl rfl)
theorem dX13_tallFor_16 : decode cX13_tallFor 16 = .ok (.ifCond .eq 10, 3) := dk_153 0 10 (dk_at dksX13_tallFor_0 16 rfl rfl)
theorem dX13_tallFor_19 : decode cX13_tallFor 19 = .ok (.iload_n 3, 1) := dk_29 (dk_at dksX13_tallFor_0 19 rfl rfl)
theorem dX13_tallFor_20 : decode cX13_tallFor 20 = .ok (.invokestatic 184, 3) := dk_184 0 184 (dk_at dksX13_tallFor_0 20 rfl rfl)
theorem dX13_tallFor_23 : decode cX13_tallFor 23 = .ok (.ifCond .ne 10, 3) := dk_154 0 10 (dk_at dksX13_tallFor_1 0 rfl rfl)
theorem dX13_tallFor_26 : decode cX13_tallFor 26 = .ok (.aload_n 0, 1) := dk_42 (dk_at dksX13_tallFor_1 3 rfl rfl)
theorem dX13_tallFor_27 : decode cX13_tallFor 27 = .ok (.ldc 66, 2) := dk_18 66 (dk_at dksX13_tallFor_1 4 rfl rfl)
theorem dX13_tallFor_29 : decode cX13_tallFor 29 = .ok (.invokevirtual 72, 3) := dk_182 0 72 (dk_at dksX13_tallFor_1 6 rfl rfl)
theorem dX13_tallFor_32 : decode cX13_tallFor 32 = .ok (.ireturn, 1) := dk_172 (dk_at dksX13_tallFor_1 9 rfl rfl)
theorem dX13_tallFor_33 : decode cX13_tallFor 33 = .ok (.iload_n 1, 1) := dk_27 (dk_at dksX13_tallFor_1 10 rfl rfl)
theorem dX13_tallFor_34 : decode cX13_tallFor 34 = .ok (.iconst 1, 1) := dk_4 (dk_at dksX13_tallFor_1 11 rfl rfl)
theorem dX13_tallFor_35 : decode cX13_tallFor 35 = .ok (.invokestatic 109, 3) := dk_184 0 109 (dk_at dksX13_tallFor_1 12 rfl rfl)
theorem dX13_tallFor_38 : decode cX13_tallFor 38 = .ok (.istore 4, 2) := dk_54 4 (dk_at dksX13_tallFor_1 15 rfl rfl)
theorem dX13_tallFor_40 : decode cX13_tallFor 40 = .ok (.aload_n 0, 1) := dk_42 (dk_at dksX13_tallFor_1 17 rfl rfl)
theorem dX13_tallFor_41 : decode cX13_tallFor 41 = .ok (.getfield 9, 3) := dk_180 0 9 (dk_at dksX13_tallFor_1 18 rfl rfl)
theorem dX13_tallFor_44 : decode cX13_tallFor 44 = .ok (.iload 4, 2) := dk_21 4 (dk_at dksX13_tallFor_1 21 rfl rfl)
theorem dX13_tallFor_46 : decode cX13_tallFor 46 = .ok (.iaload, 1) := dk_46 (dk_at dksX13_tallFor_1 23 rfl rfl)
theorem dX13_tallFor_47 : decode cX13_tallFor 47 = .ok (.istore 5, 2) := dk_54 5 (dk_at dksX13_tallFor_2 0 rfl rfl)
theorem dX13_tallFor_49 : decode cX13_tallFor 49 = .ok (.iconst (-1), 1) := dk_2 (dk_at dksX13_tallFor_2 2 rfl rfl)
theorem dX13_tallFor_50 : decode cX13_tallFor 50 = .ok (.istore 6, 2) := dk_54 6 (dk_at dksX13_tallFor_2 3 rfl rfl)
theorem dX13_tallFor_52 : decode cX13_tallFor 52 = .ok (.bipush 99, 2) := dk_16 99 (dk_at dksX13_tallFor_2 5 rfl rfl)
theorem dX13_tallFor_54 : decode cX13_tallFor 54 = .ok (.istore 7, 2) := dk_54 7 (dk_at dksX13_tallFor_2 7 rfl rfl)
theorem dX13_tallFor_56 : decode cX13_tallFor 56 = .ok (.iload 7, 2) := dk_21 7 (dk_at dksX13_tallFor_2 9 rfl rfl)
theorem dX13_tallFor_58 : decode cX13_tallFor 58 = .ok (.ifCond .lt 41, 3) := dk_155 0 41 (dk_at dksX13_tallFor_2 11 rfl rfl)
theorem dX13_tallFor_61 : decode cX13_tallFor 61 = .ok (.aload_n 0, 1) := dk_42 (dk_at dksX13_tallFor_2 14 rfl rfl)
theorem dX13_tallFor_62 : decode cX13_tallFor 62 = .ok (.getfield 9, 3) := dk_180 0 9 (dk_at dksX13_tallFor_2 15 rfl rfl)
theorem dX13_tallFor_65 : decode cX13_tallFor 65 = .ok (.iload 4, 2) := dk_21 4 (dk_at dksX13_tallFor_2 18 rfl rfl)
theorem dX13_tallFor_67 : decode cX13_tallFor 67 = .ok (.iload 7, 2) := dk_21 7 (dk_at dksX13_tallFor_2 20 rfl rfl)
theorem dX13_tallFor_69 : decode cX13_tallFor 69 = .ok (.iastore, 1) := dk_79 (dk_at dksX13_tallFor_2 22 rfl rfl)
theorem dX13_tallFor_70 : decode cX13_tallFor 70 = .ok (.aload_n 0, 1) := dk_42 (dk_at dksX13_tallFor_2 23 rfl rfl)
theorem dX13_tallFor_71 : decode cX13_tallFor 71 = .ok (.iload_n 1, 1) := dk_27 (dk_at dksX13_tallFor_3 0 rfl rfl)
theorem dX13_tallFor_72 : decode cX13_tallFor 72 = .ok (.iconst 3, 1) := dk_6 (dk_at dksX13_tallFor_3 1 rfl rfl)
theorem dX13_tallFor_73 : decode cX13_tallFor 73 = .ok (.invokestatic 109, 3) := dk_184 0 109 (dk_at dksX13_tallFor_3 2 rfl rfl)
theorem dX13_tallFor_76 : decode cX13_tallFor 76 = .ok (.iload_n 3, 1) := dk_29 (dk_at dksX13_tallFor_3 5 rfl rfl)
theorem dX13_tallFor_77 : decode cX13_tallFor 77 = .ok (.invokevirtual 178, 3) := dk_182 0 178 (dk_at dksX13_tallFor_3 6 rfl rfl)
theorem dX13_tallFor_80 : decode cX13_tallFor 80 = .ok (.iload_n 2, 1) := dk_28 (dk_at dksX13_tallFor_3 9 rfl rfl)
theorem dX13_tallFor_81 : decode cX13_tallFor 81 = .ok (.if_icmp .lt 8, 3) := dk_161 0 8 (dk_at dksX13_tallFor_3 10 rfl rfl)
theorem dX13_tallFor_84 : decode cX13_tallFor 84 = .ok (.iload 7, 2) := dk_21 7 (dk_at dksX13_tallFor_3 13 rfl rfl)
theorem dX13_tallFor_86 : decode cX13_tallFor 86 = .ok (.goto 5, 3) := dk_167 0 5 (dk_at dksX13_tallFor_3 15 rfl rfl)
theorem dX13_tallFor_89 : decode cX13_tallFor 89 = .ok (.iload 6, 2) := dk_21 6 (dk_at dksX13_tallFor_3 18 rfl rfl)
theorem dX13_tallFor_91 : decode cX13_tallFor 91 = .ok (.istore 6, 2) := dk_54 6 (dk_at dksX13_tallFor_3 20 rfl rfl)
theorem dX13_tallFor_93 : decode cX13_tallFor 93 = .ok (.iinc 7 (-1), 3) := dk_132 7 255 (dk_at dksX13_tallFor_4 0 rfl rfl)
theorem dX13_tallFor_96 : decode cX13_tallFor 96 = .ok (.goto (-40), 3) := dk_167 255 216 (dk_at dksX13_tallFor_4 3 rfl rfl)
theorem dX13_tallFor_99 : decode cX13_tallFor 99 = .ok (.aload_n 0, 1) := dk_42 (dk_at dksX13_tallFor_4 6 rfl rfl)
theorem dX13_tallFor_100 : decode cX13_tallFor 100 = .ok (.getfield 9, 3) := dk_180 0 9 (dk_at dksX13_tallFor_4 7 rfl rfl)
theorem dX13_tallFor_103 : decode cX13_tallFor 103 = .ok (.iload 4, 2) := dk_21 4 (dk_at dksX13_tallFor_4 10 rfl rfl)
theorem dX13_tallFor_105 : decode cX13_tallFor 105 = .ok (.iload 5, 2) := dk_21 5 (dk_at dksX13_tallFor_4 12 rfl rfl)
theorem dX13_tallFor_107 : decode cX13_tallFor 107 = .ok (.iastore, 1) := dk_79 (dk_at dksX13_tallFor_4 14 rfl rfl)
theorem dX13_tallFor_108 : decode cX13_tallFor 108 = .ok (.aload_n 0, 1) := dk_42 (dk_at dksX13_tallFor_4 15 rfl rfl)
theorem dX13_tallFor_109 : decode cX13_tallFor 109 = .ok (.iload 6, 2) := dk_21 6 (dk_at dksX13_tallFor_4 16 rfl rfl)
theorem dX13_tallFor_111 : decode cX13_tallFor 111 = .ok (.invokevirtual 181, 3) := dk_182 0 181 (dk_at dksX13_tallFor_4 18 rfl rfl)
theorem dX13_tallFor_114 : decode cX13_tallFor 114 = .ok (.ireturn, 1) := dk_172 (dk_at dksX13_tallFor_4 21 rfl rfl)
abbrev cX13_cover : ByteArray := prog_16_method_59_code
def yX13_cover : MethodName := ⟨RX13, "cover", "()I"⟩
def dkwX13_cover_2 : List UInt8 := [167, 255, 223, 28, 172]
abbrev dktX13_cover_2 : List UInt8 := dkwX13_cover_2 ++ []
def dkwX13_cover_1 : List UInt8 := [160, 0, 18, 29, 184, 0, 103, 28, 184, 0, 103, 163, 0, 7, 29, 167, 0, 4, 28, 61, 132, 3, 255]
abbrev dktX13_cover_1 : List UInt8 := dkwX13_cover_1 ++ dktX13_cover_2
def dkwX13_cover_0 : List UInt8 := [42, 16, 63, 182, 0, 172, 60, 16, 63, 61, 16, 63, 62, 29, 155, 0, 35, 42, 29, 182, 0, 172, 27]
abbrev dktX13_cover_0 : List UInt8 := dkwX13_cover_0 ++ dktX13_cover_1
theorem dksX13_cover_0 : cX13_cover.data.toList.drop 0 = dktX13_cover_0 := by decide +kernel
theorem dksX13_cover_1 : cX13_cover.data.toList.drop 23 = dktX13_cover_1 := dk_seg dksX13_cover_0 23 rfl rfl
theorem dksX13_cover_2 : cX13_cover.data.toList.drop 46 = dktX13_cover_2 := dk_seg dksX13_cover_1 23 rfl rfl
theorem dX13_cover_0 : decode cX13_cover 0 = .ok (.aload_n 0, 1) := dk_42 (dk_at dksX13_cover_0 0 rfl rfl)
theorem dX13_cover_1 : decode cX13_cover 1 = .ok (.bipush 63, 2) := dk_16 63 (dk_at dksX13_cover_0 1 rfl rfl)
theorem dX13_cover_3 : decode cX13_cover 3 = .ok (.invokevirtual 172, 3) := dk_182 0 172 (dk_at dksX13_cover_0 3 rfl rfl)
theorem dX13_cover_6 : decode cX13_cover 6 = .ok (.istore_n 1, 1) := dk_60 (dk_at dksX13_cover_0 6 rfl rfl)
theorem dX13_cover_7 : decode cX13_cover 7 = .ok (.bipush 63, 2) := dk_16 63 (dk_at dksX13_cover_0 7 rfl rfl)
theorem dX13_cover_9 : decode cX13_cover 9 = .ok (.istore_n 2, 1) := dk_61 (dk_at dksX13_cover_0 9 rfl rfl)
theorem dX13_cover_10 : decode cX13_cover 10 = .ok (.bipush 63, 2) := dk_16 63 (dk_at dksX13_cover_0 10 rfl rfl)
theorem dX13_cover_12 : decode cX13_cover 12 = .ok (.istore_n 3, 1) := dk_62 (dk_at dksX13_cover_0 12 rfl rfl)
theorem dX13_cover_13 : decode cX13_cover 13 = .ok (.iload_n 3, 1) := dk_29 (dk_at dksX13_cover_0 13 rfl rfl)
theorem dX13_cover_14 : decode cX13_cover 14 = .ok (.ifCond .lt 35, 3) := dk_155 0 35 (dk_at dksX13_cover_0 14 rfl rfl)
theorem dX13_cover_17 : decode cX13_cover 17 = .ok (.aload_n 0, 1) := dk_42 (dk_at dksX13_cover_0 17 rfl rfl)
theorem dX13_cover_18 : decode cX13_cover 18 = .ok (.iload_n 3, 1) := dk_29 (dk_at dksX13_cover_0 18 rfl rfl)
theorem dX13_cover_19 : decode cX13_cover 19 = .ok (.invokevirtual 172, 3) := dk_182 0 172 (dk_at dksX13_cover_0 19 rfl rfl)
theorem dX13_cover_22 : decode cX13_cover 22 = .ok (.iload_n 1, 1) := dk_27 (dk_at dksX13_cover_0 22 rfl rfl)
theorem dX13_cover_23 : decode cX13_cover 23 = .ok (.if_icmp .ne 18, 3) := dk_160 0 18 (dk_at dksX13_cover_1 0 rfl rfl)
theorem dX13_cover_26 : decode cX13_cover 26 = .ok (.iload_n 3, 1) := dk_29 (dk_at dksX13_cover_1 3 rfl rfl)
theorem dX13_cover_27 : decode cX13_cover 27 = .ok (.invokestatic 103, 3) := dk_184 0 103 (dk_at dksX13_cover_1 4 rfl rfl)
theorem dX13_cover_30 : decode cX13_cover 30 = .ok (.iload_n 2, 1) := dk_28 (dk_at dksX13_cover_1 7 rfl rfl)
theorem dX13_cover_31 : decode cX13_cover 31 = .ok (.invokestatic 103, 3) := dk_184 0 103 (dk_at dksX13_cover_1 8 rfl rfl)
theorem dX13_cover_34 : decode cX13_cover 34 = .ok (.if_icmp .gt 7, 3) := dk_163 0 7 (dk_at dksX13_cover_1 11 rfl rfl)
theorem dX13_cover_37 : decode cX13_cover 37 = .ok (.iload_n 3, 1) := dk_29 (dk_at dksX13_cover_1 14 rfl rfl)
theorem dX13_cover_38 : decode cX13_cover 38 = .ok (.goto 4, 3) := dk_167 0 4 (dk_at dksX13_cover_1 15 rfl rfl)
theorem dX13_cover_41 : decode cX13_cover 41 = .ok (.iload_n 2, 1) := dk_28 (dk_at dksX13_cover_1 18 rfl rfl)
theorem dX13_cover_42 : decode cX13_cover 42 = .ok (.istore_n 2, 1) := dk_61 (dk_at dksX13_cover_1 19 rfl rfl)
theorem dX13_cover_43 : decode cX13_cover 43 = .ok (.iinc 3 (-1), 3) := dk_132 3 255 (dk_at dksX13_cover_1 20 rfl rfl)
theorem dX13_cover_46 : decode cX13_cover 46 = .ok (.goto (-33), 3) := dk_167 255 223 (dk_at dksX13_cover_2 0 rfl rfl)
theorem dX13_cover_49 : decode cX13_cover 49 = .ok (.iload_n 2, 1) := dk_28 (dk_at dksX13_cover_2 3 rfl rfl)
theorem dX13_cover_50 : decode cX13_cover 50 = .ok (.ireturn, 1) := dk_172 (dk_at dksX13_cover_2 4 rfl rfl)
abbrev cX13_codes : ByteArray := prog_16_method_62_code
def yX13_codes : MethodName := ⟨RX13, "codes", "(I)I"⟩
def dkwX13_codes_3 : List UInt8 := [167, 255, 217, 42, 180, 0, 9, 16, 6, 29, 79, 21, 4, 172]
abbrev dktX13_codes_3 : List UInt8 := dkwX13_codes_3 ++ []
def dkwX13_codes_2 : List UInt8 := [42, 27, 182, 0, 203, 153, 0, 10, 4, 21, 5, 120, 167, 0, 4, 3, 128, 54, 4, 132, 5, 1]
abbrev dktX13_codes_2 : List UInt8 := dkwX13_codes_2 ++ dktX13_codes_3
def dkwX13_codes_1 : List UInt8 := [62, 3, 54, 4, 3, 54, 5, 21, 5, 8, 162, 0, 39, 42, 180, 0, 9, 16, 6, 21, 5, 79, 21, 4]
abbrev dktX13_codes_1 : List UInt8 := dkwX13_codes_1 ++ dktX13_codes_2
def dkwX13_codes_0 : List UInt8 := [42, 27, 4, 182, 0, 199, 61, 28, 153, 0, 9, 42, 28, 182, 0, 72, 172, 42, 180, 0, 9, 16, 6, 46]
abbrev dktX13_codes_0 : List UInt8 := dkwX13_codes_0 ++ dktX13_codes_1
theorem dksX13_codes_0 : cX13_codes.data.toList.drop 0 = dktX13_codes_0 := by decide +kernel
theorem dksX13_codes_1 : cX13_codes.data.toList.drop 24 = dktX13_codes_1 := dk_seg dksX13_codes_0 24 rfl rfl
theorem dksX13_codes_2 : cX13_codes.data.toList.drop 48 = dktX13_codes_2 := dk_seg dksX13_codes_1 24 rfl rfl
theorem dksX13_codes_3 : cX13_codes.data.toList.drop 70 = dktX13_codes_3 := dk_seg dksX13_codes_2 22 rfl rfl
theorem dX13_codes_0 : decode cX13_codes 0 = .ok (.aload_n 0, 1) := dk_42 (dk_at dksX13_codes_0 0 rfl rfl)
theorem dX13_codes_1 : decode cX13_codes 1 = .ok (.iload_n 1, 1) := dk_27 (dk_at dksX13_codes_0 1 rfl rfl)
theorem dX13_codes_2 : decode cX13_codes 2 = .ok (.iconst 1, 1) := dk_4 (dk_at dksX13_codes_0 2 rfl rfl)
theorem dX13_codes_3 : decode cX13_codes 3 = .ok (.invokevirtual 199, 3) := dk_182 0 199 (dk_at dksX13_codes_0 3 rfl rfl)
theorem dX13_codes_6 : decode cX13_codes 6 = .ok (.istore_n 2, 1) := dk_61 (dk_at dksX13_codes_0 6 rfl rfl)
theorem dX13_codes_7 : decode cX13_codes 7 = .ok (.iload_n 2, 1) := dk_28 (dk_at dksX13_codes_0 7 rfl rfl)
theorem dX13_codes_8 : decode cX13_codes 8 = .ok (.ifCond .eq 9, 3) := dk_153 0 9 (dk_at dksX13_codes_0 8 rfl rfl)
theorem dX13_codes_11 : decode cX13_codes 11 = .ok (.aload_n 0, 1) := dk_42 (dk_at dksX13_codes_0 11 rfl rfl)
theorem dX13_codes_12 : decode cX13_codes 12 = .ok (.iload_n 2, 1) := dk_28 (dk_at dksX13_codes_0 12 rfl rfl)
theorem dX13_codes_13 : decode cX13_codes 13 = .ok (.invokevirtual 72, 3) := dk_182 0 72 (dk_at dksX13_codes_0 13 rfl rfl)
theorem dX13_codes_16 : decode cX13_codes 16 = .ok (.ireturn, 1) := dk_172 (dk_at dksX13_codes_0 16 rfl rfl)
theorem dX13_codes_17 : decode cX13_codes 17 = .ok (.aload_n 0, 1) := dk_42 (dk_at dksX13_codes_0 17 rfl rfl)
theorem dX13_codes_18 : decode cX13_codes 18 = .ok (.getfield 9, 3) := dk_180 0 9 (dk_at dksX13_codes_0 18 rfl rfl)
theorem dX13_codes_21 : decode cX13_codes 21 = .ok (.bipush 6, 2) := dk_16 6 (dk_at dksX13_codes_0 21 rfl rfl)
theorem dX13_codes_23 : decode cX13_codes 23 = .ok (.iaload, 1) := dk_46 (dk_at dksX13_codes_0 23 rfl rfl)
theorem dX13_codes_24 : decode cX13_codes 24 = .ok (.istore_n 3, 1) := dk_62 (dk_at dksX13_codes_1 0 rfl rfl)
theorem dX13_codes_25 : decode cX13_codes 25 = .ok (.iconst 0, 1) := dk_3 (dk_at dksX13_codes_1 1 rfl rfl)
theorem dX13_codes_26 : decode cX13_codes 26 = .ok (.istore 4, 2) := dk_54 4 (dk_at dksX13_codes_1 2 rfl rfl)
theorem dX13_codes_28 : decode cX13_codes 28 = .ok (.iconst 0, 1) := dk_3 (dk_at dksX13_codes_1 4 rfl rfl)
theorem dX13_codes_29 : decode cX13_codes 29 = .ok (.istore 5, 2) := dk_54 5 (dk_at dksX13_codes_1 5 rfl rfl)
theorem dX13_codes_31 : decode cX13_codes 31 = .ok (.iload 5, 2) := dk_21 5 (dk_at dksX13_codes_1 7 rfl rfl)
theorem dX13_codes_33 : decode cX13_codes 33 = .ok (.iconst 5, 1) := dk_8 (dk_at dksX13_codes_1 9 rfl rfl)
theorem dX13_codes_34 : decode cX13_codes 34 = .ok (.if_icmp .ge 39, 3) := dk_162 0 39 (dk_at dksX13_codes_1 10 rfl rfl)
theorem dX13_codes_37 : decode cX13_codes 37 = .ok (.aload_n 0, 1) := dk_42 (dk_at dksX13_codes_1 13 rfl rfl)
theorem dX13_codes_38 : decode cX13_codes 38 = .ok (.getfield 9, 3) := dk_180 0 9 (dk_at dksX13_codes_1 14 rfl rfl)
theorem dX13_codes_41 : decode cX13_codes 41 = .ok (.bipush 6, 2) := dk_16 6 (dk_at dksX13_codes_1 17 rfl rfl)
theorem dX13_codes_43 : decode cX13_codes 43 = .ok (.iload 5, 2) := dk_21 5 (dk_at dksX13_codes_1 19 rfl rfl)
theorem dX13_codes_45 : decode cX13_codes 45 = .ok (.iastore, 1) := dk_79 (dk_at dksX13_codes_1 21 rfl rfl)
theorem dX13_codes_46 : decode cX13_codes 46 = .ok (.iload 4, 2) := dk_21 4 (dk_at dksX13_codes_1 22 rfl rfl)
theorem dX13_codes_48 : decode cX13_codes 48 = .ok (.aload_n 0, 1) := dk_42 (dk_at dksX13_codes_2 0 rfl rfl)
theorem dX13_codes_49 : decode cX13_codes 49 = .ok (.iload_n 1, 1) := dk_27 (dk_at dksX13_codes_2 1 rfl rfl)
theorem dX13_codes_50 : decode cX13_codes 50 = .ok (.invokevirtual 203, 3) := dk_182 0 203 (dk_at dksX13_codes_2 2 rfl rfl)
theorem dX13_codes_53 : decode cX13_codes 53 = .ok (.ifCond .eq 10, 3) := dk_153 0 10 (dk_at dksX13_codes_2 5 rfl rfl)
theorem dX13_codes_56 : decode cX13_codes 56 = .ok (.iconst 1, 1) := dk_4 (dk_at dksX13_codes_2 8 rfl rfl)
theorem dX13_codes_57 : decode cX13_codes 57 = .ok (.iload 5, 2) := dk_21 5 (dk_at dksX13_codes_2 9 rfl rfl)
theorem dX13_codes_59 : decode cX13_codes 59 = .ok (.ishl, 1) := dk_120 (dk_at dksX13_codes_2 11 rfl rfl)
theorem dX13_codes_60 : decode cX13_codes 60 = .ok (.goto 4, 3) := dk_167 0 4 (dk_at dksX13_codes_2 12 rfl rfl)
theorem dX13_codes_63 : decode cX13_codes 63 = .ok (.iconst 0, 1) := dk_3 (dk_at dksX13_codes_2 15 rfl rfl)
theorem dX13_codes_64 : decode cX13_codes 64 = .ok (.ior, 1) := dk_128 (dk_at dksX13_codes_2 16 rfl rfl)
theorem dX13_codes_65 : decode cX13_codes 65 = .ok (.istore 4, 2) := dk_54 4 (dk_at dksX13_codes_2 17 rfl rfl)
theorem dX13_codes_67 : decode cX13_codes 67 = .ok (.iinc 5 1, 3) := dk_132 5 1 (dk_at dksX13_codes_2 19 rfl rfl)
theorem dX13_codes_70 : decode cX13_codes 70 = .ok (.goto (-39), 3) := dk_167 255 217 (dk_at dksX13_codes_3 0 rfl rfl)
theorem dX13_codes_73 : decode cX13_codes 73 = .ok (.aload_n 0, 1) := dk_42 (dk_at dksX13_codes_3 3 rfl rfl)
theorem dX13_codes_74 : decode cX13_codes 74 = .ok (.getfield 9, 3) := dk_180 0 9 (dk_at dksX13_codes_3 4 rfl rfl)
theorem dX13_codes_77 : decode cX13_codes 77 = .ok (.bipush 6, 2) := dk_16 6 (dk_at dksX13_codes_3 7 rfl rfl)
theorem dX13_codes_79 : decode cX13_codes 79 = .ok (.iload_n 3, 1) := dk_29 (dk_at dksX13_codes_3 9 rfl rfl)
theorem dX13_codes_80 : decode cX13_codes 80 = .ok (.iastore, 1) := dk_79 (dk_at dksX13_codes_3 10 rfl rfl)
theorem dX13_codes_81 : decode cX13_codes 81 = .ok (.iload 4, 2) := dk_21 4 (dk_at dksX13_codes_3 11 rfl rfl)
theorem dX13_codes_83 : decode cX13_codes 83 = .ok (.ireturn, 1) := dk_172 (dk_at dksX13_codes_3 13 rfl rfl)
abbrev cX13_lacks : ByteArray := prog_16_method_60_code
def yX13_lacks : MethodName := ⟨RX13, "lacks", "(IZ)I"⟩
def dkwX13_lacks_1 : List UInt8 := [167, 0, 13, 28, 153, 0, 7, 3, 167, 0, 5, 18, 66, 172]
abbrev dktX13_lacks_1 : List UInt8 := dkwX13_lacks_1 ++ []
def dkwX13_lacks_0 : List UInt8 := [27, 184, 0, 195, 154, 0, 8, 18, 66, 167, 0, 27, 42, 180, 0, 54, 27, 46, 154, 0, 8, 18, 198]
abbrev dktX13_lacks_0 : List UInt8 := dkwX13_lacks_0 ++ dktX13_lacks_1
theorem dksX13_lacks_0 : cX13_lacks.data.toList.drop 0 = dktX13_lacks_0 := by decide +kernel
theorem dksX13_lacks_1 : cX13_lacks.data.toList.drop 23 = dktX13_lacks_1 := dk_seg dksX13_lacks_0 23 rfl rfl
theorem dX13_lacks_0 : decode cX13_lacks 0 = .ok (.iload_n 1, 1) := dk_27 (dk_at dksX13_lacks_0 0 rfl rfl)
theorem dX13_lacks_1 : decode cX13_lacks 1 = .ok (.invokestatic 195, 3) := dk_184 0 195 (dk_at dksX13_lacks_0 1 rfl rfl)
theorem dX13_lacks_4 : decode cX13_lacks 4 = .ok (.ifCond .ne 8, 3) := dk_154 0 8 (dk_at dksX13_lacks_0 4 rfl rfl)
theorem dX13_lacks_7 : decode cX13_lacks 7 = .ok (.ldc 66, 2) := dk_18 66 (dk_at dksX13_lacks_0 7 rfl rfl)
theorem dX13_lacks_9 : decode cX13_lacks 9 = .ok (.goto 27, 3) := dk_167 0 27 (dk_at dksX13_lacks_0 9 rfl rfl)
theorem dX13_lacks_12 : decode cX13_lacks 12 = .ok (.aload_n 0, 1) := dk_42 (dk_at dksX13_lacks_0 12 rfl rfl)
theorem dX13_lacks_13 : decode cX13_lacks 13 = .ok (.getfield 54, 3) := dk_180 0 54 (dk_at dksX13_lacks_0 13 rfl rfl)
theorem dX13_lacks_16 : decode cX13_lacks 16 = .ok (.iload_n 1, 1) := dk_27 (dk_at dksX13_lacks_0 16 rfl rfl)
theorem dX13_lacks_17 : decode cX13_lacks 17 = .ok (.iaload, 1) := dk_46 (dk_at dksX13_lacks_0 17 rfl rfl)
theorem dX13_lacks_18 : decode cX13_lacks 18 = .ok (.ifCond .ne 8, 3) := dk_154 0 8 (dk_at dksX13_lacks_0 18 rfl rfl)
theorem dX13_lacks_21 : decode cX13_lacks 21 = .ok (.ldc 198, 2) := dk_18 198 (dk_at dksX13_lacks_0 21 rfl rfl)
theorem dX13_lacks_23 : decode cX13_lacks 23 = .ok (.goto 13, 3) := dk_167 0 13 (dk_at dksX13_lacks_1 0 rfl rfl)
theorem dX13_lacks_26 : decode cX13_lacks 26 = .ok (.iload_n 2, 1) := dk_28 (dk_at dksX13_lacks_1 3 rfl rfl)
theorem dX13_lacks_27 : decode cX13_lacks 27 = .ok (.ifCond .eq 7, 3) := dk_153 0 7 (dk_at dksX13_lacks_1 4 rfl rfl)
theorem dX13_lacks_30 : decode cX13_lacks 30 = .ok (.iconst 0, 1) := dk_3 (dk_at dksX13_lacks_1 7 rfl rfl)
theorem dX13_lacks_31 : decode cX13_lacks 31 = .ok (.goto 5, 3) := dk_167 0 5 (dk_at dksX13_lacks_1 8 rfl rfl)
theorem dX13_lacks_34 : decode cX13_lacks 34 = .ok (.ldc 66, 2) := dk_18 66 (dk_at dksX13_lacks_1 11 rfl rfl)
theorem dX13_lacks_36 : decode cX13_lacks 36 = .ok (.ireturn, 1) := dk_172 (dk_at dksX13_lacks_1 13 rfl rfl)
abbrev cX13_isSheet : ByteArray := prog_16_method_88_code
def yX13_isSheet : MethodName := ⟨RX13, "isSheet", "(I)Z"⟩
def dkwX13_isSheet_0 : List UInt8 := [26, 3, 6, 184, 0, 76, 172]
abbrev dktX13_isSheet_0 : List UInt8 := dkwX13_isSheet_0 ++ []
theorem dksX13_isSheet_0 : cX13_isSheet.data.toList.drop 0 = dktX13_isSheet_0 := by decide +kernel
theorem dX13_isSheet_0 : decode cX13_isSheet 0 = .ok (.iload_n 0, 1) := dk_26 (dk_at dksX13_isSheet_0 0 rfl rfl)
theorem dX13_isSheet_1 : decode cX13_isSheet 1 = .ok (.iconst 0, 1) := dk_3 (dk_at dksX13_isSheet_0 1 rfl rfl)
theorem dX13_isSheet_2 : decode cX13_isSheet 2 = .ok (.iconst 3, 1) := dk_6 (dk_at dksX13_isSheet_0 2 rfl rfl)
theorem dX13_isSheet_3 : decode cX13_isSheet 3 = .ok (.invokestatic 76, 3) := dk_184 0 76 (dk_at dksX13_isSheet_0 3 rfl rfl)
theorem dX13_isSheet_6 : decode cX13_isSheet 6 = .ok (.ireturn, 1) := dk_172 (dk_at dksX13_isSheet_0 6 rfl rfl)
abbrev cX13_areMetresSo : ByteArray := prog_16_method_61_code
def yX13_areMetresSo : MethodName := ⟨RX13, "areMetresSo", "(I)Z"⟩
def dkwX13_areMetresSo_3 : List UInt8 := [132, 3, 1, 167, 255, 199, 42, 180, 0, 16, 42, 180, 0, 9, 184, 0, 67, 28, 172]
abbrev dktX13_areMetresSo_3 : List UInt8 := dkwX13_areMetresSo_3 ++ []
def dkwX13_areMetresSo_2 : List UInt8 := [159, 0, 14, 21, 4, 42, 180, 0, 9, 6, 46, 160, 0, 7, 4, 167, 0, 4, 3, 61, 42, 182, 0, 155]
abbrev dktX13_areMetresSo_2 : List UInt8 := dkwX13_areMetresSo_2 ++ dktX13_areMetresSo_3
def dkwX13_areMetresSo_1 : List UInt8 := [162, 0, 53, 28, 153, 0, 49, 42, 180, 0, 60, 16, 40, 27, 104, 29, 96, 46, 54, 4, 21, 4, 2]
abbrev dktX13_areMetresSo_1 : List UInt8 := dkwX13_areMetresSo_1 ++ dktX13_areMetresSo_2
def dkwX13_areMetresSo_0 : List UInt8 := [42, 180, 0, 9, 42, 180, 0, 16, 184, 0, 67, 4, 61, 3, 62, 29, 42, 180, 0, 57, 27, 46]
abbrev dktX13_areMetresSo_0 : List UInt8 := dkwX13_areMetresSo_0 ++ dktX13_areMetresSo_1
theorem dksX13_areMetresSo_0 : cX13_areMetresSo.data.toList.drop 0 = dktX13_areMetresSo_0 := by decide +kernel
theorem dksX13_areMetresSo_1 : cX13_areMetresSo.data.toList.drop 22 = dktX13_areMetresSo_1 := dk_seg dksX13_areMetresSo_0 22 rfl rfl
theorem dksX13_areMetresSo_2 : cX13_areMetresSo.data.toList.drop 45 = dktX13_areMetresSo_2 := dk_seg dksX13_areMetresSo_1 23 rfl rfl
theorem dksX13_areMetresSo_3 : cX13_areMetresSo.data.toList.drop 69 = dktX13_areMetresSo_3 := dk_seg dksX13_areMetresSo_2 24 rfl rfl
theorem dX13_areMetresSo_0 : decode cX13_areMetresSo 0 = .ok (.aload_n 0, 1) := dk_42 (dk_at dksX13_areMetresSo_0 0 rfl rfl)
theorem dX13_areMetresSo_1 : decode cX13_areMetresSo 1 = .ok (.getfield 9, 3) := dk_180 0 9 (dk_at dksX13_areMetresSo_0 1 rfl rfl)
theorem dX13_areMetresSo_4 : decode cX13_areMetresSo 4 = .ok (.aload_n 0, 1) := dk_42 (dk_at dksX13_areMetresSo_0 4 rfl rfl)
theorem dX13_areMetresSo_5 : decode cX13_areMetresSo 5 = .ok (.getfield 16, 3) := dk_180 0 16 (dk_at dksX13_areMetresSo_0 5 rfl rfl)
theorem dX13_areMetresSo_8 : decode cX13_areMetresSo 8 = .ok (.invokestatic 67, 3) := dk_184 0 67 (dk_at dksX13_areMetresSo_0 8 rfl rfl)
theorem dX13_areMetresSo_11 : decode cX13_areMetresSo 11 = .ok (.iconst 1, 1) := dk_4 (dk_at dksX13_areMetresSo_0 11 rfl rfl)
theorem dX13_areMetresSo_12 : decode cX13_areMetresSo 12 = .ok (.istore_n 2, 1) := dk_61 (dk_at dksX13_areMetresSo_0 12 rfl rfl)
theorem dX13_areMetresSo_13 : decode cX13_areMetresSo 13 = .ok (.iconst 0, 1) := dk_3 (dk_at dksX13_areMetresSo_0 13 rfl rfl)
theorem dX13_areMetresSo_14 : decode cX13_areMetresSo 14 = .ok (.istore_n 3, 1) := dk_62 (dk_at dksX13_areMetresSo_0 14 rfl rfl)
theorem dX13_areMetresSo_15 : decode cX13_areMetresSo 15 = .ok (.iload_n 3, 1) := dk_29 (dk_at dksX13_areMetresSo_0 15 rfl rfl)
theorem dX13_areMetresSo_16 : decode cX13_areMetresSo 16 = .ok (.aload_n 0, 1) := dk_42 (dk_at dksX13_areMetresSo_0 16 rfl rfl)
theorem dX13_areMetresSo_17 : decode cX13_areMetresSo 17 = .ok (.getfield 57, 3) := dk_180 0 57 (dk_at dksX13_areMetresSo_0 17 rfl rfl)
theorem dX13_areMetresSo_20 : decode cX13_areMetresSo 20 = .ok (.iload_n 1, 1) := dk_27 (dk_at dksX13_areMetresSo_0 20 rfl rfl)
theorem dX13_areMetresSo_21 : decode cX13_areMetresSo 21 = .ok (.iaload, 1) := dk_46 (dk_at dksX13_areMetresSo_0 21 rfl rfl)
theorem dX13_areMetresSo_22 : decode cX13_areMetresSo 22 = .ok (.if_icmp .ge 53, 3) := dk_162 0 53 (dk_at dksX13_areMetresSo_1 0 rfl rfl)
theorem dX13_areMetresSo_25 : decode cX13_areMetresSo 25 = .ok (.iload_n 2, 1) := dk_28 (dk_at dksX13_areMetresSo_1 3 rfl rfl)
theorem dX13_areMetresSo_26 : decode cX13_areMetresSo 26 = .ok (.ifCond .eq 49, 3) := dk_153 0 49 (dk_at dksX13_areMetresSo_1 4 rfl rfl)
theorem dX13_areMetresSo_29 : decode cX13_areMetresSo 29 = .ok (.aload_n 0, 1) := dk_42 (dk_at dksX13_areMetresSo_1 7 rfl rfl)
theorem dX13_areMetresSo_30 : decode cX13_areMetresSo 30 = .ok (.getfield 60, 3) := dk_180 0 60 (dk_at dksX13_areMetresSo_1 8 rfl rfl)
theorem dX13_areMetresSo_33 : decode cX13_areMetresSo 33 = .ok (.bipush 40, 2) := dk_16 40 (dk_at dksX13_areMetresSo_1 11 rfl rfl)
theorem dX13_areMetresSo_35 : decode cX13_areMetresSo 35 = .ok (.iload_n 1, 1) := dk_27 (dk_at dksX13_areMetresSo_1 13 rfl rfl)
theorem dX13_areMetresSo_36 : decode cX13_areMetresSo 36 = .ok (.imul, 1) := dk_104 (dk_at dksX13_areMetresSo_1 14 rfl rfl)
theorem dX13_areMetresSo_37 : decode cX13_areMetresSo 37 = .ok (.iload_n 3, 1) := dk_29 (dk_at dksX13_areMetresSo_1 15 rfl rfl)
theorem dX13_areMetresSo_38 : decode cX13_areMetresSo 38 = .ok (.iadd, 1) := dk_96 (dk_at dksX13_areMetresSo_1 16 rfl rfl)
theorem dX13_areMetresSo_39 : decode cX13_areMetresSo 39 = .ok (.iaload, 1) := dk_46 (dk_at dksX13_areMetresSo_1 17 rfl rfl)
theorem dX13_areMetresSo_40 : decode cX13_areMetresSo 40 = .ok (.istore 4, 2) := dk_54 4 (dk_at dksX13_areMetresSo_1 18 rfl rfl)
theorem dX13_areMetresSo_42 : decode cX13_areMetresSo 42 = .ok (.iload 4, 2) := dk_21 4 (dk_at dksX13_areMetresSo_1 20 rfl rfl)
theorem dX13_areMetresSo_44 : decode cX13_areMetresSo 44 = .ok (.iconst (-1), 1) := dk_2 (dk_at dksX13_areMetresSo_1 22 rfl rfl)
theorem dX13_areMetresSo_45 : decode cX13_areMetresSo 45 = .ok (.if_icmp .eq 14, 3) := dk_159 0 14 (dk_at dksX13_areMetresSo_2 0 rfl rfl)
theorem dX13_areMetresSo_48 : decode cX13_areMetresSo 48 = .ok (.iload 4, 2) := dk_21 4 (dk_at dksX13_areMetresSo_2 3 rfl rfl)
theorem dX13_areMetresSo_50 : decode cX13_areMetresSo 50 = .ok (.aload_n 0, 1) := dk_42 (dk_at dksX13_areMetresSo_2 5 rfl rfl)
theorem dX13_areMetresSo_51 : decode cX13_areMetresSo 51 = .ok (.getfield 9, 3) := dk_180 0 9 (dk_at dksX13_areMetresSo_2 6 rfl rfl)
theorem dX13_areMetresSo_54 : decode cX13_areMetresSo 54 = .ok (.iconst 3, 1) := dk_6 (dk_at dksX13_areMetresSo_2 9 rfl rfl)
theorem dX13_areMetresSo_55 : decode cX13_areMetresSo 55 = .ok (.iaload, 1) := dk_46 (dk_at dksX13_areMetresSo_2 10 rfl rfl)
theorem dX13_areMetresSo_56 : decode cX13_areMetresSo 56 = .ok (.if_icmp .ne 7, 3) := dk_160 0 7 (dk_at dksX13_areMetresSo_2 11 rfl rfl)
theorem dX13_areMetresSo_59 : decode cX13_areMetresSo 59 = .ok (.iconst 1, 1) := dk_4 (dk_at dksX13_areMetresSo_2 14 rfl rfl)
theorem dX13_areMetresSo_60 : decode cX13_areMetresSo 60 = .ok (.goto 4, 3) := dk_167 0 4 (dk_at dksX13_areMetresSo_2 15 rfl rfl)
theorem dX13_areMetresSo_63 : decode cX13_areMetresSo 63 = .ok (.iconst 0, 1) := dk_3 (dk_at dksX13_areMetresSo_2 18 rfl rfl)
theorem dX13_areMetresSo_64 : decode cX13_areMetresSo 64 = .ok (.istore_n 2, 1) := dk_61 (dk_at dksX13_areMetresSo_2 19 rfl rfl)
theorem dX13_areMetresSo_65 : decode cX13_areMetresSo 65 = .ok (.aload_n 0, 1) := dk_42 (dk_at dksX13_areMetresSo_2 20 rfl rfl)
theorem dX13_areMetresSo_66 : decode cX13_areMetresSo 66 = .ok (.invokevirtual 155, 3) := dk_182 0 155 (dk_at dksX13_areMetresSo_2 21 rfl rfl)
theorem dX13_areMetresSo_69 : decode cX13_areMetresSo 69 = .ok (.iinc 3 1, 3) := dk_132 3 1 (dk_at dksX13_areMetresSo_3 0 rfl rfl)
theorem dX13_areMetresSo_72 : decode cX13_areMetresSo 72 = .ok (.goto (-57), 3) := dk_167 255 199 (dk_at dksX13_areMetresSo_3 3 rfl rfl)
theorem dX13_areMetresSo_75 : decode cX13_areMetresSo 75 = .ok (.aload_n 0, 1) := dk_42 (dk_at dksX13_areMetresSo_3 6 rfl rfl)
theorem dX13_areMetresSo_76 : decode cX13_areMetresSo 76 = .ok (.getfield 16, 3) := dk_180 0 16 (dk_at dksX13_areMetresSo_3 7 rfl rfl)
theorem dX13_areMetresSo_79 : decode cX13_areMetresSo 79 = .ok (.aload_n 0, 1) := dk_42 (dk_at dksX13_areMetresSo_3 10 rfl rfl)
theorem dX13_areMetresSo_80 : decode cX13_areMetresSo 80 = .ok (.getfield 9, 3) := dk_180 0 9 (dk_at dksX13_areMetresSo_3 11 rfl rfl)
theorem dX13_areMetresSo_83 : decode cX13_areMetresSo 83 = .ok (.invokestatic 67, 3) := dk_184 0 67 (dk_at dksX13_areMetresSo_3 14 rfl rfl)
theorem dX13_areMetresSo_86 : decode cX13_areMetresSo 86 = .ok (.iload_n 2, 1) := dk_28 (dk_at dksX13_areMetresSo_3 17 rfl rfl)
theorem dX13_areMetresSo_87 : decode cX13_areMetresSo 87 = .ok (.ireturn, 1) := dk_172 (dk_at dksX13_areMetresSo_3 18 rfl rfl)
abbrev cX13_fits : ByteArray := prog_16_method_64_code
def yX13_fits : MethodName := ⟨RX13, "fits", "(II)I"⟩
def dkwX13_fits_1 : List UInt8 := [182, 0, 213, 42, 180, 0, 206, 172]
abbrev dktX13_fits_1 : List UInt8 := dkwX13_fits_1 ++ []
def dkwX13_fits_0 : List UInt8 := [42, 27, 42, 28, 182, 0, 87, 182, 0, 199, 62, 29, 153, 0, 9, 42, 29, 182, 0, 72, 172, 42, 27, 28]
abbrev dktX13_fits_0 : List UInt8 := dkwX13_fits_0 ++ dktX13_fits_1
theorem dksX13_fits_0 : cX13_fits.data.toList.drop 0 = dktX13_fits_0 := by decide +kernel
theorem dksX13_fits_1 : cX13_fits.data.toList.drop 24 = dktX13_fits_1 := dk_seg dksX13_fits_0 24 rfl rfl
theorem dX13_fits_0 : decode cX13_fits 0 = .ok (.aload_n 0, 1) := dk_42 (dk_at dksX13_fits_0 0 rfl rfl)
theorem dX13_fits_1 : decode cX13_fits 1 = .ok (.iload_n 1, 1) := dk_27 (dk_at dksX13_fits_0 1 rfl rfl)
theorem dX13_fits_2 : decode cX13_fits 2 = .ok (.aload_n 0, 1) := dk_42 (dk_at dksX13_fits_0 2 rfl rfl)
theorem dX13_fits_3 : decode cX13_fits 3 = .ok (.iload_n 2, 1) := dk_28 (dk_at dksX13_fits_0 3 rfl rfl)
theorem dX13_fits_4 : decode cX13_fits 4 = .ok (.invokevirtual 87, 3) := dk_182 0 87 (dk_at dksX13_fits_0 4 rfl rfl)
theorem dX13_fits_7 : decode cX13_fits 7 = .ok (.invokevirtual 199, 3) := dk_182 0 199 (dk_at dksX13_fits_0 7 rfl rfl)
theorem dX13_fits_10 : decode cX13_fits 10 = .ok (.istore_n 3, 1) := dk_62 (dk_at dksX13_fits_0 10 rfl rfl)
theorem dX13_fits_11 : decode cX13_fits 11 = .ok (.iload_n 3, 1) := dk_29 (dk_at dksX13_fits_0 11 rfl rfl)
theorem dX13_fits_12 : decode cX13_fits 12 = .ok (.ifCond .eq 9, 3) := dk_153 0 9 (dk_at dksX13_fits_0 12 rfl rfl)
theorem dX13_fits_15 : decode cX13_fits 15 = .ok (.aload_n 0, 1) := dk_42 (dk_at dksX13_fits_0 15 rfl rfl)
theorem dX13_fits_16 : decode cX13_fits 16 = .ok (.iload_n 3, 1) := dk_29 (dk_at dksX13_fits_0 16 rfl rfl)
theorem dX13_fits_17 : decode cX13_fits 17 = .ok (.invokevirtual 72, 3) := dk_182 0 72 (dk_at dksX13_fits_0 17 rfl rfl)
theorem dX13_fits_20 : decode cX13_fits 20 = .ok (.ireturn, 1) := dk_172 (dk_at dksX13_fits_0 20 rfl rfl)
theorem dX13_fits_21 : decode cX13_fits 21 = .ok (.aload_n 0, 1) := dk_42 (dk_at dksX13_fits_0 21 rfl rfl)
theorem dX13_fits_22 : decode cX13_fits 22 = .ok (.iload_n 1, 1) := dk_27 (dk_at dksX13_fits_0 22 rfl rfl)
theorem dX13_fits_23 : decode cX13_fits 23 = .ok (.iload_n 2, 1) := dk_28 (dk_at dksX13_fits_0 23 rfl rfl)
theorem dX13_fits_24 : decode cX13_fits 24 = .ok (.invokevirtual 213, 3) := dk_182 0 213 (dk_at dksX13_fits_1 0 rfl rfl)
theorem dX13_fits_27 : decode cX13_fits 27 = .ok (.aload_n 0, 1) := dk_42 (dk_at dksX13_fits_1 3 rfl rfl)
theorem dX13_fits_28 : decode cX13_fits 28 = .ok (.getfield 206, 3) := dk_180 0 206 (dk_at dksX13_fits_1 4 rfl rfl)
theorem dX13_fits_31 : decode cX13_fits 31 = .ok (.ireturn, 1) := dk_172 (dk_at dksX13_fits_1 7 rfl rfl)
abbrev cX13_fitTall : ByteArray := prog_16_method_63_code
def yX13_fitTall : MethodName := ⟨RX13, "fitTall", "(II)V"⟩
def dkwX13_fitTall_4 : List UInt8 := [180, 0, 9, 29, 21, 4, 79, 177]
abbrev dktX13_fitTall_4 : List UInt8 := dkwX13_fitTall_4 ++ []
def dkwX13_fitTall_3 : List UInt8 := [153, 0, 8, 21, 5, 167, 0, 7, 42, 180, 0, 210, 181, 0, 210, 132, 5, 255, 167, 255, 196, 42]
abbrev dktX13_fitTall_3 : List UInt8 := dkwX13_fitTall_3 ++ dktX13_fitTall_4
def dkwX13_fitTall_2 : List UInt8 := [42, 89, 180, 0, 206, 21, 6, 153, 0, 7, 4, 167, 0, 4, 3, 96, 181, 0, 206, 42, 21, 6]
abbrev dktX13_fitTall_2 : List UInt8 := dkwX13_fitTall_2 ++ dktX13_fitTall_3
def dkwX13_fitTall_1 : List UInt8 := [16, 99, 54, 5, 21, 5, 155, 0, 61, 42, 180, 0, 9, 29, 21, 5, 79, 42, 27, 182, 0, 203, 54, 6]
abbrev dktX13_fitTall_1 : List UInt8 := dkwX13_fitTall_1 ++ dktX13_fitTall_2
def dkwX13_fitTall_0 : List UInt8 := [28, 4, 184, 0, 109, 62, 42, 180, 0, 9, 29, 46, 54, 4, 42, 3, 181, 0, 206, 42, 2, 181, 0, 210]
abbrev dktX13_fitTall_0 : List UInt8 := dkwX13_fitTall_0 ++ dktX13_fitTall_1
theorem dksX13_fitTall_0 : cX13_fitTall.data.toList.drop 0 = dktX13_fitTall_0 := by decide +kernel
theorem dksX13_fitTall_1 : cX13_fitTall.data.toList.drop 24 = dktX13_fitTall_1 := dk_seg dksX13_fitTall_0 24 rfl rfl
theorem dksX13_fitTall_2 : cX13_fitTall.data.toList.drop 48 = dktX13_fitTall_2 := dk_seg dksX13_fitTall_1 24 rfl rfl
theorem dksX13_fitTall_3 : cX13_fitTall.data.toList.drop 70 = dktX13_fitTall_3 := dk_seg dksX13_fitTall_2 22 rfl rfl
theorem dksX13_fitTall_4 : cX13_fitTall.data.toList.drop 92 = dktX13_fitTall_4 := dk_seg dksX13_fitTall_3 22 rfl rfl
theorem dX13_fitTall_0 : decode cX13_fitTall 0 = .ok (.iload_n 2, 1) := dk_28 (dk_at dksX13_fitTall_0 0 rfl rfl)
theorem dX13_fitTall_1 : decode cX13_fitTall 1 = .ok (.iconst 1, 1) := dk_4 (dk_at dksX13_fitTall_0 1 rfl rfl)
theorem dX13_fitTall_2 : decode cX13_fitTall 2 = .ok (.invokestatic 109, 3) := dk_184 0 109 (dk_at dksX13_fitTall_0 2 rfl rfl)
theorem dX13_fitTall_5 : decode cX13_fitTall 5 = .ok (.istore_n 3, 1) := dk_62 (dk_at dksX13_fitTall_0 5 rfl rfl)
theorem dX13_fitTall_6 : decode cX13_fitTall 6 = .ok (.aload_n 0, 1) := dk_42 (dk_at dksX13_fitTall_0 6 rfl rfl)
theorem dX13_fitTall_7 : decode cX13_fitTall 7 = .ok (.getfield 9, 3) := dk_180 0 9 (dk_at dksX13_fitTall_0 7 rfl rfl)
theorem dX13_fitTall_10 : decode cX13_fitTall 10 = .ok (.iload_n 3, 1) := dk_29 (dk_at dksX13_fitTall_0 10 rfl rfl)
theorem dX13_fitTall_11 : decode cX13_fitTall 11 = .ok (.iaload, 1) := dk_46 (dk_at dksX13_fitTall_0 11 rfl rfl)
theorem dX13_fitTall_12 : decode cX13_fitTall 12 = .ok (.istore 4, 2) := dk_54 4 (dk_at dksX13_fitTall_0 12 rfl rfl)
theorem dX13_fitTall_14 : decode cX13_fitTall 14 = .ok (.aload_n 0, 1) := dk_42 (dk_at dksX13_fitTall_0 14 rfl rfl)
theorem dX13_fitTall_15 : decode cX13_fitTall 15 = .ok (.iconst 0, 1) := dk_3 (dk_at dksX13_fitTall_0 15 rfl rfl)
theorem dX13_fitTall_16 : decode cX13_fitTall 16 = .ok (.putfield 206, 3) := dk_181 0 206 (dk_at dksX13_fitTall_0 16 rfl rfl)
theorem dX13_fitTall_19 : decode cX13_fitTall 19 = .ok (.aload_n 0, 1) := dk_42 (dk_at dksX13_fitTall_0 19 rfl rfl)
theorem dX13_fitTall_20 : decode cX13_fitTall 20 = .ok (.iconst (-1), 1) := dk_2 (dk_at dksX13_fitTall_0 20 rfl rfl)
theorem dX13_fitTall_21 : decode cX13_fitTall 21 = .ok (.putfield 210, 3) := dk_181 0 210 (dk_at dksX13_fitTall_0 21 rfl rfl)
theorem dX13_fitTall_24 : decode cX13_fitTall 24 = .ok (.bipush 99, 2) := dk_16 99 (dk_at dksX13_fitTall_1 0 rfl rfl)
theorem dX13_fitTall_26 : decode cX13_fitTall 26 = .ok (.istore 5, 2) := dk_54 5 (dk_at dksX13_fitTall_1 2 rfl rfl)
theorem dX13_fitTall_28 : decode cX13_fitTall 28 = .ok (.iload 5, 2) := dk_21 5 (dk_at dksX13_fitTall_1 4 rfl rfl)
theorem dX13_fitTall_30 : decode cX13_fitTall 30 = .ok (.ifCond .lt 61, 3) := dk_155 0 61 (dk_at dksX13_fitTall_1 6 rfl rfl)
theorem dX13_fitTall_33 : decode cX13_fitTall 33 = .ok (.aload_n 0, 1) := dk_42 (dk_at dksX13_fitTall_1 9 rfl rfl)
theorem dX13_fitTall_34 : decode cX13_fitTall 34 = .ok (.getfield 9, 3) := dk_180 0 9 (dk_at dksX13_fitTall_1 10 rfl rfl)
theorem dX13_fitTall_37 : decode cX13_fitTall 37 = .ok (.iload_n 3, 1) := dk_29 (dk_at dksX13_fitTall_1 13 rfl rfl)
theorem dX13_fitTall_38 : decode cX13_fitTall 38 = .ok (.iload 5, 2) := dk_21 5 (dk_at dksX13_fitTall_1 14 rfl rfl)
theorem dX13_fitTall_40 : decode cX13_fitTall 40 = .ok (.iastore, 1) := dk_79 (dk_at dksX13_fitTall_1 16 rfl rfl)
theorem dX13_fitTall_41 : decode cX13_fitTall 41 = .ok (.aload_n 0, 1) := dk_42 (dk_at dksX13_fitTall_1 17 rfl rfl)
theorem dX13_fitTall_42 : decode cX13_fitTall 42 = .ok (.iload_n 1, 1) := dk_27 (dk_at dksX13_fitTall_1 18 rfl rfl)
theorem dX13_fitTall_43 : decode cX13_fitTall 43 = .ok (.invokevirtual 203, 3) := dk_182 0 203 (dk_at dksX13_fitTall_1 19 rfl rfl)
theorem dX13_fitTall_46 : decode cX13_fitTall 46 = .ok (.istore 6, 2) := dk_54 6 (dk_at dksX13_fitTall_1 22 rfl rfl)
theorem dX13_fitTall_48 : decode cX13_fitTall 48 = .ok (.aload_n 0, 1) := dk_42 (dk_at dksX13_fitTall_2 0 rfl rfl)
theorem dX13_fitTall_49 : decode cX13_fitTall 49 = .ok (.dup, 1) := dk_89 (dk_at dksX13_fitTall_2 1 rfl rfl)
theorem dX13_fitTall_50 : decode cX13_fitTall 50 = .ok (.getfield 206, 3) := dk_180 0 206 (dk_at dksX13_fitTall_2 2 rfl rfl)
theorem dX13_fitTall_53 : decode cX13_fitTall 53 = .ok (.iload 6, 2) := dk_21 6 (dk_at dksX13_fitTall_2 5 rfl rfl)
theorem dX13_fitTall_55 : decode cX13_fitTall 55 = .ok (.ifCond .eq 7, 3) := dk_153 0 7 (dk_at dksX13_fitTall_2 7 rfl rfl)
theorem dX13_fitTall_58 : decode cX13_fitTall 58 = .ok (.iconst 1, 1) := dk_4 (dk_at dksX13_fitTall_2 10 rfl rfl)
theorem dX13_fitTall_59 : decode cX13_fitTall 59 = .ok (.goto 4, 3) := dk_167 0 4 (dk_at dksX13_fitTall_2 11 rfl rfl)
theorem dX13_fitTall_62 : decode cX13_fitTall 62 = .ok (.iconst 0, 1) := dk_3 (dk_at dksX13_fitTall_2 14 rfl rfl)
theorem dX13_fitTall_63 : decode cX13_fitTall 63 = .ok (.iadd, 1) := dk_96 (dk_at dksX13_fitTall_2 15 rfl rfl)
theorem dX13_fitTall_64 : decode cX13_fitTall 64 = .ok (.putfield 206, 3) := dk_181 0 206 (dk_at dksX13_fitTall_2 16 rfl rfl)
theorem dX13_fitTall_67 : decode cX13_fitTall 67 = .ok (.aload_n 0, 1) := dk_42 (dk_at dksX13_fitTall_2 19 rfl rfl)
theorem dX13_fitTall_68 : decode cX13_fitTall 68 = .ok (.iload 6, 2) := dk_21 6 (dk_at dksX13_fitTall_2 20 rfl rfl)
theorem dX13_fitTall_70 : decode cX13_fitTall 70 = .ok (.ifCond .eq 8, 3) := dk_153 0 8 (dk_at dksX13_fitTall_3 0 rfl rfl)
theorem dX13_fitTall_73 : decode cX13_fitTall 73 = .ok (.iload 5, 2) := dk_21 5 (dk_at dksX13_fitTall_3 3 rfl rfl)
theorem dX13_fitTall_75 : decode cX13_fitTall 75 = .ok (.goto 7, 3) := dk_167 0 7 (dk_at dksX13_fitTall_3 5 rfl rfl)
theorem dX13_fitTall_78 : decode cX13_fitTall 78 = .ok (.aload_n 0, 1) := dk_42 (dk_at dksX13_fitTall_3 8 rfl rfl)
theorem dX13_fitTall_79 : decode cX13_fitTall 79 = .ok (.getfield 210, 3) := dk_180 0 210 (dk_at dksX13_fitTall_3 9 rfl rfl)
theorem dX13_fitTall_82 : decode cX13_fitTall 82 = .ok (.putfield 210, 3) := dk_181 0 210 (dk_at dksX13_fitTall_3 12 rfl rfl)
theorem dX13_fitTall_85 : decode cX13_fitTall 85 = .ok (.iinc 5 (-1), 3) := dk_132 5 255 (dk_at dksX13_fitTall_3 15 rfl rfl)
theorem dX13_fitTall_88 : decode cX13_fitTall 88 = .ok (.goto (-60), 3) := dk_167 255 196 (dk_at dksX13_fitTall_3 18 rfl rfl)
theorem dX13_fitTall_91 : decode cX13_fitTall 91 = .ok (.aload_n 0, 1) := dk_42 (dk_at dksX13_fitTall_3 21 rfl rfl)
theorem dX13_fitTall_92 : decode cX13_fitTall 92 = .ok (.getfield 9, 3) := dk_180 0 9 (dk_at dksX13_fitTall_4 0 rfl rfl)
theorem dX13_fitTall_95 : decode cX13_fitTall 95 = .ok (.iload_n 3, 1) := dk_29 (dk_at dksX13_fitTall_4 3 rfl rfl)
theorem dX13_fitTall_96 : decode cX13_fitTall 96 = .ok (.iload 4, 2) := dk_21 4 (dk_at dksX13_fitTall_4 4 rfl rfl)
theorem dX13_fitTall_98 : decode cX13_fitTall 98 = .ok (.iastore, 1) := dk_79 (dk_at dksX13_fitTall_4 6 rfl rfl)
theorem dX13_fitTall_99 : decode cX13_fitTall 99 = .ok (.return_, 1) := dk_177 (dk_at dksX13_fitTall_4 7 rfl rfl)
abbrev cX13_tall : ByteArray := prog_16_method_65_code
def yX13_tall : MethodName := ⟨RX13, "tall", "(II)I"⟩
def dkwX13_tall_1 : List UInt8 := [182, 0, 213, 42, 42, 180, 0, 210, 182, 0, 181, 172]
abbrev dktX13_tall_1 : List UInt8 := dkwX13_tall_1 ++ []
def dkwX13_tall_0 : List UInt8 := [42, 27, 42, 28, 182, 0, 87, 182, 0, 199, 62, 29, 153, 0, 9, 42, 29, 182, 0, 72, 172, 42, 27, 28]
abbrev dktX13_tall_0 : List UInt8 := dkwX13_tall_0 ++ dktX13_tall_1
theorem dksX13_tall_0 : cX13_tall.data.toList.drop 0 = dktX13_tall_0 := by decide +kernel
theorem dksX13_tall_1 : cX13_tall.data.toList.drop 24 = dktX13_tall_1 := dk_seg dksX13_tall_0 24 rfl rfl
theorem dX13_tall_0 : decode cX13_tall 0 = .ok (.aload_n 0, 1) := dk_42 (dk_at dksX13_tall_0 0 rfl rfl)
theorem dX13_tall_1 : decode cX13_tall 1 = .ok (.iload_n 1, 1) := dk_27 (dk_at dksX13_tall_0 1 rfl rfl)
theorem dX13_tall_2 : decode cX13_tall 2 = .ok (.aload_n 0, 1) := dk_42 (dk_at dksX13_tall_0 2 rfl rfl)
theorem dX13_tall_3 : decode cX13_tall 3 = .ok (.iload_n 2, 1) := dk_28 (dk_at dksX13_tall_0 3 rfl rfl)
theorem dX13_tall_4 : decode cX13_tall 4 = .ok (.invokevirtual 87, 3) := dk_182 0 87 (dk_at dksX13_tall_0 4 rfl rfl)
theorem dX13_tall_7 : decode cX13_tall 7 = .ok (.invokevirtual 199, 3) := dk_182 0 199 (dk_at dksX13_tall_0 7 rfl rfl)
theorem dX13_tall_10 : decode cX13_tall 10 = .ok (.istore_n 3, 1) := dk_62 (dk_at dksX13_tall_0 10 rfl rfl)
theorem dX13_tall_11 : decode cX13_tall 11 = .ok (.iload_n 3, 1) := dk_29 (dk_at dksX13_tall_0 11 rfl rfl)
theorem dX13_tall_12 : decode cX13_tall 12 = .ok (.ifCond .eq 9, 3) := dk_153 0 9 (dk_at dksX13_tall_0 12 rfl rfl)
theorem dX13_tall_15 : decode cX13_tall 15 = .ok (.aload_n 0, 1) := dk_42 (dk_at dksX13_tall_0 15 rfl rfl)
theorem dX13_tall_16 : decode cX13_tall 16 = .ok (.iload_n 3, 1) := dk_29 (dk_at dksX13_tall_0 16 rfl rfl)
theorem dX13_tall_17 : decode cX13_tall 17 = .ok (.invokevirtual 72, 3) := dk_182 0 72 (dk_at dksX13_tall_0 17 rfl rfl)
theorem dX13_tall_20 : decode cX13_tall 20 = .ok (.ireturn, 1) := dk_172 (dk_at dksX13_tall_0 20 rfl rfl)
theorem dX13_tall_21 : decode cX13_tall 21 = .ok (.aload_n 0, 1) := dk_42 (dk_at dksX13_tall_0 21 rfl rfl)
theorem dX13_tall_22 : decode cX13_tall 22 = .ok (.iload_n 1, 1) := dk_27 (dk_at dksX13_tall_0 22 rfl rfl)
theorem dX13_tall_23 : decode cX13_tall 23 = .ok (.iload_n 2, 1) := dk_28 (dk_at dksX13_tall_0 23 rfl rfl)
theorem dX13_tall_24 : decode cX13_tall 24 = .ok (.invokevirtual 213, 3) := dk_182 0 213 (dk_at dksX13_tall_1 0 rfl rfl)
theorem dX13_tall_27 : decode cX13_tall 27 = .ok (.aload_n 0, 1) := dk_42 (dk_at dksX13_tall_1 3 rfl rfl)
theorem dX13_tall_28 : decode cX13_tall 28 = .ok (.aload_n 0, 1) := dk_42 (dk_at dksX13_tall_1 4 rfl rfl)
theorem dX13_tall_29 : decode cX13_tall 29 = .ok (.getfield 210, 3) := dk_180 0 210 (dk_at dksX13_tall_1 5 rfl rfl)
theorem dX13_tall_32 : decode cX13_tall 32 = .ok (.invokevirtual 181, 3) := dk_182 0 181 (dk_at dksX13_tall_1 8 rfl rfl)
theorem dX13_tall_35 : decode cX13_tall 35 = .ok (.ireturn, 1) := dk_172 (dk_at dksX13_tall_1 11 rfl rfl)
abbrev cX13_kinds : ByteArray := prog_16_method_66_code
def yX13_kinds : MethodName := ⟨RX13, "kinds", "(II)I"⟩
def dkwX13_kinds_4 : List UInt8 := [79, 21, 6, 172]
abbrev dktX13_kinds_4 : List UInt8 := dkwX13_kinds_4 ++ []
def dkwX13_kinds_3 : List UInt8 := [21, 7, 120, 167, 0, 4, 3, 128, 54, 6, 132, 7, 1, 167, 255, 216, 42, 180, 0, 9, 21, 4, 21, 5]
abbrev dktX13_kinds_3 : List UInt8 := dkwX13_kinds_3 ++ dktX13_kinds_4
def dkwX13_kinds_2 : List UInt8 := [163, 0, 39, 42, 180, 0, 9, 21, 4, 21, 7, 79, 21, 6, 42, 27, 182, 0, 203, 153, 0, 10, 4]
abbrev dktX13_kinds_2 : List UInt8 := dkwX13_kinds_2 ++ dktX13_kinds_3
def dkwX13_kinds_1 : List UInt8 := [184, 0, 109, 54, 4, 42, 180, 0, 9, 21, 4, 46, 54, 5, 3, 54, 6, 3, 54, 7, 21, 7, 16, 6]
abbrev dktX13_kinds_1 : List UInt8 := dkwX13_kinds_1 ++ dktX13_kinds_2
def dkwX13_kinds_0 : List UInt8 := [42, 27, 42, 28, 182, 0, 87, 182, 0, 199, 62, 29, 153, 0, 9, 42, 29, 182, 0, 72, 172, 28, 3]
abbrev dktX13_kinds_0 : List UInt8 := dkwX13_kinds_0 ++ dktX13_kinds_1
theorem dksX13_kinds_0 : cX13_kinds.data.toList.drop 0 = dktX13_kinds_0 := by decide +kernel
theorem dksX13_kinds_1 : cX13_kinds.data.toList.drop 23 = dktX13_kinds_1 := dk_seg dksX13_kinds_0 23 rfl rfl
theorem dksX13_kinds_2 : cX13_kinds.data.toList.drop 47 = dktX13_kinds_2 := dk_seg dksX13_kinds_1 24 rfl rfl
theorem dksX13_kinds_3 : cX13_kinds.data.toList.drop 70 = dktX13_kinds_3 := dk_seg dksX13_kinds_2 23 rfl rfl
theorem dksX13_kinds_4 : cX13_kinds.data.toList.drop 94 = dktX13_kinds_4 := dk_seg dksX13_kinds_3 24 rfl rfl
theorem dX13_kinds_0 : decode cX13_kinds 0 = .ok (.aload_n 0, 1) := dk_42 (dk_at dksX13_kinds_0 0 rfl rfl)
theorem dX13_kinds_1 : decode cX13_kinds 1 = .ok (.iload_n 1, 1) := dk_27 (dk_at dksX13_kinds_0 1 rfl rfl)
theorem dX13_kinds_2 : decode cX13_kinds 2 = .ok (.aload_n 0, 1) := dk_42 (dk_at dksX13_kinds_0 2 rfl rfl)
theorem dX13_kinds_3 : decode cX13_kinds 3 = .ok (.iload_n 2, 1) := dk_28 (dk_at dksX13_kinds_0 3 rfl rfl)
theorem dX13_kinds_4 : decode cX13_kinds 4 = .ok (.invokevirtual 87, 3) := dk_182 0 87 (dk_at dksX13_kinds_0 4 rfl rfl)
theorem dX13_kinds_7 : decode cX13_kinds 7 = .ok (.invokevirtual 199, 3) := dk_182 0 199 (dk_at dksX13_kinds_0 7 rfl rfl)
theorem dX13_kinds_10 : decode cX13_kinds 10 = .ok (.istore_n 3, 1) := dk_62 (dk_at dksX13_kinds_0 10 rfl rfl)
theorem dX13_kinds_11 : decode cX13_kinds 11 = .ok (.iload_n 3, 1) := dk_29 (dk_at dksX13_kinds_0 11 rfl rfl)
theorem dX13_kinds_12 : decode cX13_kinds 12 = .ok (.ifCond .eq 9, 3) := dk_153 0 9 (dk_at dksX13_kinds_0 12 rfl rfl)
theorem dX13_kinds_15 : decode cX13_kinds 15 = .ok (.aload_n 0, 1) := dk_42 (dk_at dksX13_kinds_0 15 rfl rfl)
theorem dX13_kinds_16 : decode cX13_kinds 16 = .ok (.iload_n 3, 1) := dk_29 (dk_at dksX13_kinds_0 16 rfl rfl)
theorem dX13_kinds_17 : decode cX13_kinds 17 = .ok (.invokevirtual 72, 3) := dk_182 0 72 (dk_at dksX13_kinds_0 17 rfl rfl)
theorem dX13_kinds_20 : decode cX13_kinds 20 = .ok (.ireturn, 1) := dk_172 (dk_at dksX13_kinds_0 20 rfl rfl)
theorem dX13_kinds_21 : decode cX13_kinds 21 = .ok (.iload_n 2, 1) := dk_28 (dk_at dksX13_kinds_0 21 rfl rfl)
theorem dX13_kinds_22 : decode cX13_kinds 22 = .ok (.iconst 0, 1) := dk_3 (dk_at dksX13_kinds_0 22 rfl rfl)
theorem dX13_kinds_23 : decode cX13_kinds 23 = .ok (.invokestatic 109, 3) := dk_184 0 109 (dk_at dksX13_kinds_1 0 rfl rfl)
theorem dX13_kinds_26 : decode cX13_kinds 26 = .ok (.istore 4, 2) := dk_54 4 (dk_at dksX13_kinds_1 3 rfl rfl)
theorem dX13_kinds_28 : decode cX13_kinds 28 = .ok (.aload_n 0, 1) := dk_42 (dk_at dksX13_kinds_1 5 rfl rfl)
theorem dX13_kinds_29 : decode cX13_kinds 29 = .ok (.getfield 9, 3) := dk_180 0 9 (dk_at dksX13_kinds_1 6 rfl rfl)
theorem dX13_kinds_32 : decode cX13_kinds 32 = .ok (.iload 4, 2) := dk_21 4 (dk_at dksX13_kinds_1 9 rfl rfl)
theorem dX13_kinds_34 : decode cX13_kinds 34 = .ok (.iaload, 1) := dk_46 (dk_at dksX13_kinds_1 11 rfl rfl)
theorem dX13_kinds_35 : decode cX13_kinds 35 = .ok (.istore 5, 2) := dk_54 5 (dk_at dksX13_kinds_1 12 rfl rfl)
theorem dX13_kinds_37 : decode cX13_kinds 37 = .ok (.iconst 0, 1) := dk_3 (dk_at dksX13_kinds_1 14 rfl rfl)
theorem dX13_kinds_38 : decode cX13_kinds 38 = .ok (.istore 6, 2) := dk_54 6 (dk_at dksX13_kinds_1 15 rfl rfl)
theorem dX13_kinds_40 : decode cX13_kinds 40 = .ok (.iconst 0, 1) := dk_3 (dk_at dksX13_kinds_1 17 rfl rfl)
theorem dX13_kinds_41 : decode cX13_kinds 41 = .ok (.istore 7, 2) := dk_54 7 (dk_at dksX13_kinds_1 18 rfl rfl)
theorem dX13_kinds_43 : decode cX13_kinds 43 = .ok (.iload 7, 2) := dk_21 7 (dk_at dksX13_kinds_1 20 rfl rfl)
theorem dX13_kinds_45 : decode cX13_kinds 45 = .ok (.bipush 6, 2) := dk_16 6 (dk_at dksX13_kinds_1 22 rfl rfl)
theorem dX13_kinds_47 : decode cX13_kinds 47 = .ok (.if_icmp .gt 39, 3) := dk_163 0 39 (dk_at dksX13_kinds_2 0 rfl rfl)
theorem dX13_kinds_50 : decode cX13_kinds 50 = .ok (.aload_n 0, 1) := dk_42 (dk_at dksX13_kinds_2 3 rfl rfl)
theorem dX13_kinds_51 : decode cX13_kinds 51 = .ok (.getfield 9, 3) := dk_180 0 9 (dk_at dksX13_kinds_2 4 rfl rfl)
theorem dX13_kinds_54 : decode cX13_kinds 54 = .ok (.iload 4, 2) := dk_21 4 (dk_at dksX13_kinds_2 7 rfl rfl)
theorem dX13_kinds_56 : decode cX13_kinds 56 = .ok (.iload 7, 2) := dk_21 7 (dk_at dksX13_kinds_2 9 rfl rfl)
theorem dX13_kinds_58 : decode cX13_kinds 58 = .ok (.iastore, 1) := dk_79 (dk_at dksX13_kinds_2 11 rfl rfl)
theorem dX13_kinds_59 : decode cX13_kinds 59 = .ok (.iload 6, 2) := dk_21 6 (dk_at dksX13_kinds_2 12 rfl rfl)
theorem dX13_kinds_61 : decode cX13_kinds 61 = .ok (.aload_n 0, 1) := dk_42 (dk_at dksX13_kinds_2 14 rfl rfl)
theorem dX13_kinds_62 : decode cX13_kinds 62 = .ok (.iload_n 1, 1) := dk_27 (dk_at dksX13_kinds_2 15 rfl rfl)
theorem dX13_kinds_63 : decode cX13_kinds 63 = .ok (.invokevirtual 203, 3) := dk_182 0 203 (dk_at dksX13_kinds_2 16 rfl rfl)
theorem dX13_kinds_66 : decode cX13_kinds 66 = .ok (.ifCond .eq 10, 3) := dk_153 0 10 (dk_at dksX13_kinds_2 19 rfl rfl)
theorem dX13_kinds_69 : decode cX13_kinds 69 = .ok (.iconst 1, 1) := dk_4 (dk_at dksX13_kinds_2 22 rfl rfl)
theorem dX13_kinds_70 : decode cX13_kinds 70 = .ok (.iload 7, 2) := dk_21 7 (dk_at dksX13_kinds_3 0 rfl rfl)
theorem dX13_kinds_72 : decode cX13_kinds 72 = .ok (.ishl, 1) := dk_120 (dk_at dksX13_kinds_3 2 rfl rfl)
theorem dX13_kinds_73 : decode cX13_kinds 73 = .ok (.goto 4, 3) := dk_167 0 4 (dk_at dksX13_kinds_3 3 rfl rfl)
theorem dX13_kinds_76 : decode cX13_kinds 76 = .ok (.iconst 0, 1) := dk_3 (dk_at dksX13_kinds_3 6 rfl rfl)
theorem dX13_kinds_77 : decode cX13_kinds 77 = .ok (.ior, 1) := dk_128 (dk_at dksX13_kinds_3 7 rfl rfl)
theorem dX13_kinds_78 : decode cX13_kinds 78 = .ok (.istore 6, 2) := dk_54 6 (dk_at dksX13_kinds_3 8 rfl rfl)
theorem dX13_kinds_80 : decode cX13_kinds 80 = .ok (.iinc 7 1, 3) := dk_132 7 1 (dk_at dksX13_kinds_3 10 rfl rfl)
theorem dX13_kinds_83 : decode cX13_kinds 83 = .ok (.goto (-40), 3) := dk_167 255 216 (dk_at dksX13_kinds_3 13 rfl rfl)
theorem dX13_kinds_86 : decode cX13_kinds 86 = .ok (.aload_n 0, 1) := dk_42 (dk_at dksX13_kinds_3 16 rfl rfl)
theorem dX13_kinds_87 : decode cX13_kinds 87 = .ok (.getfield 9, 3) := dk_180 0 9 (dk_at dksX13_kinds_3 17 rfl rfl)
theorem dX13_kinds_90 : decode cX13_kinds 90 = .ok (.iload 4, 2) := dk_21 4 (dk_at dksX13_kinds_3 20 rfl rfl)
theorem dX13_kinds_92 : decode cX13_kinds 92 = .ok (.iload 5, 2) := dk_21 5 (dk_at dksX13_kinds_3 22 rfl rfl)
theorem dX13_kinds_94 : decode cX13_kinds 94 = .ok (.iastore, 1) := dk_79 (dk_at dksX13_kinds_4 0 rfl rfl)
theorem dX13_kinds_95 : decode cX13_kinds 95 = .ok (.iload 6, 2) := dk_21 6 (dk_at dksX13_kinds_4 1 rfl rfl)
theorem dX13_kinds_97 : decode cX13_kinds 97 = .ok (.ireturn, 1) := dk_172 (dk_at dksX13_kinds_4 3 rfl rfl)
abbrev cX13_mix : ByteArray := prog_16_method_68_code
def yX13_mix : MethodName := ⟨RX13, "mix", "(I)I"⟩
def dkwX13_mix_4 : List UInt8 := [180, 0, 9, 6, 46, 172]
abbrev dktX13_mix_4 : List UInt8 := dkwX13_mix_4 ++ []
def dkwX13_mix_3 : List UInt8 := [180, 0, 9, 7, 42, 182, 0, 217, 16, 10, 112, 79, 42, 182, 0, 155, 132, 2, 1, 167, 255, 206, 42]
abbrev dktX13_mix_3 : List UInt8 := dkwX13_mix_3 ++ dktX13_mix_4
def dkwX13_mix_2 : List UInt8 := [16, 38, 42, 180, 0, 9, 3, 46, 16, 6, 112, 96, 42, 182, 0, 217, 17, 3, 232, 112, 79, 42]
abbrev dktX13_mix_2 : List UInt8 := dkwX13_mix_2 ++ dktX13_mix_3
def dkwX13_mix_1 : List UInt8 := [96, 18, 143, 164, 0, 10, 42, 18, 158, 182, 0, 72, 172, 3, 61, 28, 27, 162, 0, 51, 42, 180, 0, 9]
abbrev dktX13_mix_1 : List UInt8 := dkwX13_mix_1 ++ dktX13_mix_2
def dkwX13_mix_0 : List UInt8 := [27, 4, 16, 20, 184, 0, 76, 154, 0, 10, 42, 18, 66, 182, 0, 72, 172, 42, 180, 0, 9, 3, 46, 27]
abbrev dktX13_mix_0 : List UInt8 := dkwX13_mix_0 ++ dktX13_mix_1
theorem dksX13_mix_0 : cX13_mix.data.toList.drop 0 = dktX13_mix_0 := by decide +kernel
theorem dksX13_mix_1 : cX13_mix.data.toList.drop 24 = dktX13_mix_1 := dk_seg dksX13_mix_0 24 rfl rfl
theorem dksX13_mix_2 : cX13_mix.data.toList.drop 48 = dktX13_mix_2 := dk_seg dksX13_mix_1 24 rfl rfl
theorem dksX13_mix_3 : cX13_mix.data.toList.drop 70 = dktX13_mix_3 := dk_seg dksX13_mix_2 22 rfl rfl
theorem dksX13_mix_4 : cX13_mix.data.toList.drop 93 = dktX13_mix_4 := dk_seg dksX13_mix_3 23 rfl rfl
theorem dX13_mix_0 : decode cX13_mix 0 = .ok (.iload_n 1, 1) := dk_27 (dk_at dksX13_mix_0 0 rfl rfl)
theorem dX13_mix_1 : decode cX13_mix 1 = .ok (.iconst 1, 1) := dk_4 (dk_at dksX13_mix_0 1 rfl rfl)
theorem dX13_mix_2 : decode cX13_mix 2 = .ok (.bipush 20, 2) := dk_16 20 (dk_at dksX13_mix_0 2 rfl rfl)
theorem dX13_mix_4 : decode cX13_mix 4 = .ok (.invokestatic 76, 3) := dk_184 0 76 (dk_at dksX13_mix_0 4 rfl rfl)
theorem dX13_mix_7 : decode cX13_mix 7 = .ok (.ifCond .ne 10, 3) := dk_154 0 10 (dk_at dksX13_mix_0 7 rfl rfl)
theorem dX13_mix_10 : decode cX13_mix 10 = .ok (.aload_n 0, 1) := dk_42 (dk_at dksX13_mix_0 10 rfl rfl)
theorem dX13_mix_11 : decode cX13_mix 11 = .ok (.ldc 66, 2) := dk_18 66 (dk_at dksX13_mix_0 11 rfl rfl)
theorem dX13_mix_13 : decode cX13_mix 13 = .ok (.invokevirtual 72, 3) := dk_182 0 72 (dk_at dksX13_mix_0 13 rfl rfl)
theorem dX13_mix_16 : decode cX13_mix 16 = .ok (.ireturn, 1) := dk_172 (dk_at dksX13_mix_0 16 rfl rfl)
theorem dX13_mix_17 : decode cX13_mix 17 = .ok (.aload_n 0, 1) := dk_42 (dk_at dksX13_mix_0 17 rfl rfl)
theorem dX13_mix_18 : decode cX13_mix 18 = .ok (.getfield 9, 3) := dk_180 0 9 (dk_at dksX13_mix_0 18 rfl rfl)
theorem dX13_mix_21 : decode cX13_mix 21 = .ok (.iconst 0, 1) := dk_3 (dk_at dksX13_mix_0 21 rfl rfl)
theorem dX13_mix_22 : decode cX13_mix 22 = .ok (.iaload, 1) := dk_46 (dk_at dksX13_mix_0 22 rfl rfl)
theorem dX13_mix_23 : decode cX13_mix 23 = .ok (.iload_n 1, 1) := dk_27 (dk_at dksX13_mix_0 23 rfl rfl)
theorem dX13_mix_24 : decode cX13_mix 24 = .ok (.iadd, 1) := dk_96 (dk_at dksX13_mix_1 0 rfl rfl)
theorem dX13_mix_25 : decode cX13_mix 25 = .ok (.ldc 143, 2) := dk_18 143 (dk_at dksX13_mix_1 1 rfl rfl)
theorem dX13_mix_27 : decode cX13_mix 27 = .ok (.if_icmp .le 10, 3) := dk_164 0 10 (dk_at dksX13_mix_1 3 rfl rfl)
theorem dX13_mix_30 : decode cX13_mix 30 = .ok (.aload_n 0, 1) := dk_42 (dk_at dksX13_mix_1 6 rfl rfl)
theorem dX13_mix_31 : decode cX13_mix 31 = .ok (.ldc 158, 2) := dk_18 158 (dk_at dksX13_mix_1 7 rfl rfl)
theorem dX13_mix_33 : decode cX13_mix 33 = .ok (.invokevirtual 72, 3) := dk_182 0 72 (dk_at dksX13_mix_1 9 rfl rfl)
theorem dX13_mix_36 : decode cX13_mix 36 = .ok (.ireturn, 1) := dk_172 (dk_at dksX13_mix_1 12 rfl rfl)
theorem dX13_mix_37 : decode cX13_mix 37 = .ok (.iconst 0, 1) := dk_3 (dk_at dksX13_mix_1 13 rfl rfl)
theorem dX13_mix_38 : decode cX13_mix 38 = .ok (.istore_n 2, 1) := dk_61 (dk_at dksX13_mix_1 14 rfl rfl)
theorem dX13_mix_39 : decode cX13_mix 39 = .ok (.iload_n 2, 1) := dk_28 (dk_at dksX13_mix_1 15 rfl rfl)
theorem dX13_mix_40 : decode cX13_mix 40 = .ok (.iload_n 1, 1) := dk_27 (dk_at dksX13_mix_1 16 rfl rfl)
theorem dX13_mix_41 : decode cX13_mix 41 = .ok (.if_icmp .ge 51, 3) := dk_162 0 51 (dk_at dksX13_mix_1 17 rfl rfl)
theorem dX13_mix_44 : decode cX13_mix 44 = .ok (.aload_n 0, 1) := dk_42 (dk_at dksX13_mix_1 20 rfl rfl)
theorem dX13_mix_45 : decode cX13_mix 45 = .ok (.getfield 9, 3) := dk_180 0 9 (dk_at dksX13_mix_1 21 rfl rfl)
theorem dX13_mix_48 : decode cX13_mix 48 = .ok (.bipush 38, 2) := dk_16 38 (dk_at dksX13_mix_2 0 rfl rfl)
theorem dX13_mix_50 : decode cX13_mix 50 = .ok (.aload_n 0, 1) := dk_42 (dk_at dksX13_mix_2 2 rfl rfl)
theorem dX13_mix_51 : decode cX13_mix 51 = .ok (.getfield 9, 3) := dk_180 0 9 (dk_at dksX13_mix_2 3 rfl rfl)
theorem dX13_mix_54 : decode cX13_mix 54 = .ok (.iconst 0, 1) := dk_3 (dk_at dksX13_mix_2 6 rfl rfl)
theorem dX13_mix_55 : decode cX13_mix 55 = .ok (.iaload, 1) := dk_46 (dk_at dksX13_mix_2 7 rfl rfl)
theorem dX13_mix_56 : decode cX13_mix 56 = .ok (.bipush 6, 2) := dk_16 6 (dk_at dksX13_mix_2 8 rfl rfl)
theorem dX13_mix_58 : decode cX13_mix 58 = .ok (.irem, 1) := dk_112 (dk_at dksX13_mix_2 10 rfl rfl)
theorem dX13_mix_59 : decode cX13_mix 59 = .ok (.iadd, 1) := dk_96 (dk_at dksX13_mix_2 11 rfl rfl)
theorem dX13_mix_60 : decode cX13_mix 60 = .ok (.aload_n 0, 1) := dk_42 (dk_at dksX13_mix_2 12 rfl rfl)
theorem dX13_mix_61 : decode cX13_mix 61 = .ok (.invokevirtual 217, 3) := dk_182 0 217 (dk_at dksX13_mix_2 13 rfl rfl)
theorem dX13_mix_64 : decode cX13_mix 64 = .ok (.sipush 1000, 3) := dk_17 3 232 (dk_at dksX13_mix_2 16 rfl rfl)
theorem dX13_mix_67 : decode cX13_mix 67 = .ok (.irem, 1) := dk_112 (dk_at dksX13_mix_2 19 rfl rfl)
theorem dX13_mix_68 : decode cX13_mix 68 = .ok (.iastore, 1) := dk_79 (dk_at dksX13_mix_2 20 rfl rfl)
theorem dX13_mix_69 : decode cX13_mix 69 = .ok (.aload_n 0, 1) := dk_42 (dk_at dksX13_mix_2 21 rfl rfl)
theorem dX13_mix_70 : decode cX13_mix 70 = .ok (.getfield 9, 3) := dk_180 0 9 (dk_at dksX13_mix_3 0 rfl rfl)
theorem dX13_mix_73 : decode cX13_mix 73 = .ok (.iconst 4, 1) := dk_7 (dk_at dksX13_mix_3 3 rfl rfl)
theorem dX13_mix_74 : decode cX13_mix 74 = .ok (.aload_n 0, 1) := dk_42 (dk_at dksX13_mix_3 4 rfl rfl)
theorem dX13_mix_75 : decode cX13_mix 75 = .ok (.invokevirtual 217, 3) := dk_182 0 217 (dk_at dksX13_mix_3 5 rfl rfl)
theorem dX13_mix_78 : decode cX13_mix 78 = .ok (.bipush 10, 2) := dk_16 10 (dk_at dksX13_mix_3 8 rfl rfl)
theorem dX13_mix_80 : decode cX13_mix 80 = .ok (.irem, 1) := dk_112 (dk_at dksX13_mix_3 10 rfl rfl)
theorem dX13_mix_81 : decode cX13_mix 81 = .ok (.iastore, 1) := dk_79 (dk_at dksX13_mix_3 11 rfl rfl)
theorem dX13_mix_82 : decode cX13_mix 82 = .ok (.aload_n 0, 1) := dk_42 (dk_at dksX13_mix_3 12 rfl rfl)
theorem dX13_mix_83 : decode cX13_mix 83 = .ok (.invokevirtual 155, 3) := dk_182 0 155 (dk_at dksX13_mix_3 13 rfl rfl)
theorem dX13_mix_86 : decode cX13_mix 86 = .ok (.iinc 2 1, 3) := dk_132 2 1 (dk_at dksX13_mix_3 16 rfl rfl)
theorem dX13_mix_89 : decode cX13_mix 89 = .ok (.goto (-50), 3) := dk_167 255 206 (dk_at dksX13_mix_3 19 rfl rfl)
theorem dX13_mix_92 : decode cX13_mix 92 = .ok (.aload_n 0, 1) := dk_42 (dk_at dksX13_mix_3 22 rfl rfl)
theorem dX13_mix_93 : decode cX13_mix 93 = .ok (.getfield 9, 3) := dk_180 0 9 (dk_at dksX13_mix_4 0 rfl rfl)
theorem dX13_mix_96 : decode cX13_mix 96 = .ok (.iconst 3, 1) := dk_6 (dk_at dksX13_mix_4 3 rfl rfl)
theorem dX13_mix_97 : decode cX13_mix 97 = .ok (.iaload, 1) := dk_46 (dk_at dksX13_mix_4 4 rfl rfl)
theorem dX13_mix_98 : decode cX13_mix 98 = .ok (.ireturn, 1) := dk_172 (dk_at dksX13_mix_4 5 rfl rfl)
abbrev cX13_drawn : ByteArray := prog_16_method_67_code
def yX13_drawn : MethodName := ⟨RX13, "drawn", "()I"⟩
def dkwX13_drawn_1 : List UInt8 := [46, 16, 8, 124, 172]
abbrev dktX13_drawn_1 : List UInt8 := dkwX13_drawn_1 ++ []
def dkwX13_drawn_0 : List UInt8 := [42, 180, 0, 9, 5, 42, 180, 0, 9, 5, 46, 18, 216, 104, 17, 48, 57, 96, 79, 42, 180, 0, 9, 5]
abbrev dktX13_drawn_0 : List UInt8 := dkwX13_drawn_0 ++ dktX13_drawn_1
theorem dksX13_drawn_0 : cX13_drawn.data.toList.drop 0 = dktX13_drawn_0 := by decide +kernel
theorem dksX13_drawn_1 : cX13_drawn.data.toList.drop 24 = dktX13_drawn_1 := dk_seg dksX13_drawn_0 24 rfl rfl
theorem dX13_drawn_0 : decode cX13_drawn 0 = .ok (.aload_n 0, 1) := dk_42 (dk_at dksX13_drawn_0 0 rfl rfl)
theorem dX13_drawn_1 : decode cX13_drawn 1 = .ok (.getfield 9, 3) := dk_180 0 9 (dk_at dksX13_drawn_0 1 rfl rfl)
theorem dX13_drawn_4 : decode cX13_drawn 4 = .ok (.iconst 2, 1) := dk_5 (dk_at dksX13_drawn_0 4 rfl rfl)
theorem dX13_drawn_5 : decode cX13_drawn 5 = .ok (.aload_n 0, 1) := dk_42 (dk_at dksX13_drawn_0 5 rfl rfl)
theorem dX13_drawn_6 : decode cX13_drawn 6 = .ok (.getfield 9, 3) := dk_180 0 9 (dk_at dksX13_drawn_0 6 rfl rfl)
theorem dX13_drawn_9 : decode cX13_drawn 9 = .ok (.iconst 2, 1) := dk_5 (dk_at dksX13_drawn_0 9 rfl rfl)
theorem dX13_drawn_10 : decode cX13_drawn 10 = .ok (.iaload, 1) := dk_46 (dk_at dksX13_drawn_0 10 rfl rfl)
theorem dX13_drawn_11 : decode cX13_drawn 11 = .ok (.ldc 216, 2) := dk_18 216 (dk_at dksX13_drawn_0 11 rfl rfl)
theorem dX13_drawn_13 : decode cX13_drawn 13 = .ok (.imul, 1) := dk_104 (dk_at dksX13_drawn_0 13 rfl rfl)
theorem dX13_drawn_14 : decode cX13_drawn 14 = .ok (.sipush 12345, 3) := dk_17 48 57 (dk_at dksX13_drawn_0 14 rfl rfl)
theorem dX13_drawn_17 : decode cX13_drawn 17 = .ok (.iadd, 1) := dk_96 (dk_at dksX13_drawn_0 17 rfl rfl)
theorem dX13_drawn_18 : decode cX13_drawn 18 = .ok (.iastore, 1) := dk_79 (dk_at dksX13_drawn_0 18 rfl rfl)
theorem dX13_drawn_19 : decode cX13_drawn 19 = .ok (.aload_n 0, 1) := dk_42 (dk_at dksX13_drawn_0 19 rfl rfl)
theorem dX13_drawn_20 : decode cX13_drawn 20 = .ok (.getfield 9, 3) := dk_180 0 9 (dk_at dksX13_drawn_0 20 rfl rfl)
theorem dX13_drawn_23 : decode cX13_drawn 23 = .ok (.iconst 2, 1) := dk_5 (dk_at dksX13_drawn_0 23 rfl rfl)
theorem dX13_drawn_24 : decode cX13_drawn 24 = .ok (.iaload, 1) := dk_46 (dk_at dksX13_drawn_1 0 rfl rfl)
theorem dX13_drawn_25 : decode cX13_drawn 25 = .ok (.bipush 8, 2) := dk_16 8 (dk_at dksX13_drawn_1 1 rfl rfl)
theorem dX13_drawn_27 : decode cX13_drawn 27 = .ok (.iushr, 1) := dk_124 (dk_at dksX13_drawn_1 3 rfl rfl)
theorem dX13_drawn_28 : decode cX13_drawn 28 = .ok (.ireturn, 1) := dk_172 (dk_at dksX13_drawn_1 4 rfl rfl)
abbrev cX13_odds : ByteArray := prog_16_method_69_code
def yX13_odds : MethodName := ⟨RX13, "odds", "(III)J"⟩
def dkwX13_odds_6 : List UInt8 := [21, 5, 108, 133, 105, 55, 7, 132, 9, 1, 167, 255, 226, 22, 7, 173]
abbrev dktX13_odds_6 : List UInt8 := dkwX13_odds_6 ++ []
def dkwX13_odds_5 : List UInt8 := [3, 54, 9, 21, 9, 28, 162, 0, 30, 22, 7, 29, 154, 0, 8, 21, 4, 167, 0, 6, 17, 3, 232]
abbrev dktX13_odds_5 : List UInt8 := dkwX13_odds_5 ++ dktX13_odds_6
def dkwX13_odds_4 : List UInt8 := [153, 0, 21, 21, 5, 21, 6, 112, 54, 7, 21, 6, 54, 5, 21, 7, 54, 6, 167, 255, 236, 10, 55, 7]
abbrev dktX13_odds_4 : List UInt8 := dkwX13_odds_4 ++ dktX13_odds_5
def dkwX13_odds_3 : List UInt8 := [167, 0, 4, 3, 96, 54, 4, 132, 5, 1, 167, 255, 219, 17, 3, 232, 54, 5, 21, 4, 54, 6, 21, 6]
abbrev dktX13_odds_3 : List UInt8 := dkwX13_odds_3 ++ dktX13_odds_4
def dkwX13_odds_2 : List UInt8 := [163, 0, 35, 21, 4, 21, 5, 42, 180, 0, 9, 16, 6, 46, 184, 0, 106, 27, 160, 0, 7, 4]
abbrev dktX13_odds_2 : List UInt8 := dkwX13_odds_2 ++ dktX13_odds_3
def dkwX13_odds_1 : List UInt8 := [154, 0, 11, 42, 18, 66, 182, 0, 72, 133, 173, 3, 54, 4, 3, 54, 5, 21, 5, 17, 3, 231]
abbrev dktX13_odds_1 : List UInt8 := dkwX13_odds_1 ++ dktX13_odds_2
def dkwX13_odds_0 : List UInt8 := [27, 184, 0, 83, 153, 0, 22, 28, 3, 16, 6, 184, 0, 76, 153, 0, 12, 29, 3, 4, 184, 0, 76]
abbrev dktX13_odds_0 : List UInt8 := dkwX13_odds_0 ++ dktX13_odds_1
theorem dksX13_odds_0 : cX13_odds.data.toList.drop 0 = dktX13_odds_0 := by decide +kernel
theorem dksX13_odds_1 : cX13_odds.data.toList.drop 23 = dktX13_odds_1 := dk_seg dksX13_odds_0 23 rfl rfl
theorem dksX13_odds_2 : cX13_odds.data.toList.drop 45 = dktX13_odds_2 := dk_seg dksX13_odds_1 22 rfl rfl
theorem dksX13_odds_3 : cX13_odds.data.toList.drop 67 = dktX13_odds_3 := dk_seg dksX13_odds_2 22 rfl rfl
theorem dksX13_odds_4 : cX13_odds.data.toList.drop 91 = dktX13_odds_4 := dk_seg dksX13_odds_3 24 rfl rfl
theorem dksX13_odds_5 : cX13_odds.data.toList.drop 115 = dktX13_odds_5 := dk_seg dksX13_odds_4 24 rfl rfl
theorem dksX13_odds_6 : cX13_odds.data.toList.drop 138 = dktX13_odds_6 := dk_seg dksX13_odds_5 23 rfl rfl
theorem dX13_odds_0 : decode cX13_odds 0 = .ok (.iload_n 1, 1) := dk_27 (dk_at dksX13_odds_0 0 rfl rfl)
theorem dX13_odds_1 : decode cX13_odds 1 = .ok (.invokestatic 83, 3) := dk_184 0 83 (dk_at dksX13_odds_0 1 rfl rfl)
theorem dX13_odds_4 : decode cX13_odds 4 = .ok (.ifCond .eq 22, 3) := dk_153 0 22 (dk_at dksX13_odds_0 4 rfl rfl)
theorem dX13_odds_7 : decode cX13_odds 7 = .ok (.iload_n 2, 1) := dk_28 (dk_at dksX13_odds_0 7 rfl rfl)
theorem dX13_odds_8 : decode cX13_odds 8 = .ok (.iconst 0, 1) := dk_3 (dk_at dksX13_odds_0 8 rfl rfl)
theorem dX13_odds_9 : decode cX13_odds 9 = .ok (.bipush 6, 2) := dk_16 6 (dk_at dksX13_odds_0 9 rfl rfl)
theorem dX13_odds_11 : decode cX13_odds 11 = .ok (.invokestatic 76, 3) := dk_184 0 76 (dk_at dksX13_odds_0 11 rfl rfl)
theorem dX13_odds_14 : decode cX13_odds 14 = .ok (.ifCond .eq 12, 3) := dk_153 0 12 (dk_at dksX13_odds_0 14 rfl rfl)
theorem dX13_odds_17 : decode cX13_odds 17 = .ok (.iload_n 3, 1) := dk_29 (dk_at dksX13_odds_0 17 rfl rfl)
theorem dX13_odds_18 : decode cX13_odds 18 = .ok (.iconst 0, 1) := dk_3 (dk_at dksX13_odds_0 18 rfl rfl)
theorem dX13_odds_19 : decode cX13_odds 19 = .ok (.iconst 1, 1) := dk_4 (dk_at dksX13_odds_0 19 rfl rfl)
theorem dX13_odds_20 : decode cX13_odds 20 = .ok (.invokestatic 76, 3) := dk_184 0 76 (dk_at dksX13_odds_0 20 rfl rfl)
theorem dX13_odds_23 : decode cX13_odds 23 = .ok (.ifCond .ne 11, 3) := dk_154 0 11 (dk_at dksX13_odds_1 0 rfl rfl)
theorem dX13_odds_26 : decode cX13_odds 26 = .ok (.aload_n 0, 1) := dk_42 (dk_at dksX13_odds_1 3 rfl rfl)
theorem dX13_odds_27 : decode cX13_odds 27 = .ok (.ldc 66, 2) := dk_18 66 (dk_at dksX13_odds_1 4 rfl rfl)
theorem dX13_odds_29 : decode cX13_odds 29 = .ok (.invokevirtual 72, 3) := dk_182 0 72 (dk_at dksX13_odds_1 6 rfl rfl)
theorem dX13_odds_32 : decode cX13_odds 32 = .ok (.i2l, 1) := dk_133 (dk_at dksX13_odds_1 9 rfl rfl)
theorem dX13_odds_33 : decode cX13_odds 33 = .ok (.lreturn, 1) := dk_173 (dk_at dksX13_odds_1 10 rfl rfl)
theorem dX13_odds_34 : decode cX13_odds 34 = .ok (.iconst 0, 1) := dk_3 (dk_at dksX13_odds_1 11 rfl rfl)
theorem dX13_odds_35 : decode cX13_odds 35 = .ok (.istore 4, 2) := dk_54 4 (dk_at dksX13_odds_1 12 rfl rfl)
theorem dX13_odds_37 : decode cX13_odds 37 = .ok (.iconst 0, 1) := dk_3 (dk_at dksX13_odds_1 14 rfl rfl)
theorem dX13_odds_38 : decode cX13_odds 38 = .ok (.istore 5, 2) := dk_54 5 (dk_at dksX13_odds_1 15 rfl rfl)
theorem dX13_odds_40 : decode cX13_odds 40 = .ok (.iload 5, 2) := dk_21 5 (dk_at dksX13_odds_1 17 rfl rfl)
theorem dX13_odds_42 : decode cX13_odds 42 = .ok (.sipush 999, 3) := dk_17 3 231 (dk_at dksX13_odds_1 19 rfl rfl)
theorem dX13_odds_45 : decode cX13_odds 45 = .ok (.if_icmp .gt 35, 3) := dk_163 0 35 (dk_at dksX13_odds_2 0 rfl rfl)
theorem dX13_odds_48 : decode cX13_odds 48 = .ok (.iload 4, 2) := dk_21 4 (dk_at dksX13_odds_2 3 rfl rfl)
theorem dX13_odds_50 : decode cX13_odds 50 = .ok (.iload 5, 2) := dk_21 5 (dk_at dksX13_odds_2 5 rfl rfl)
theorem dX13_odds_52 : decode cX13_odds 52 = .ok (.aload_n 0, 1) := dk_42 (dk_at dksX13_odds_2 7 rfl rfl)
theorem dX13_odds_53 : decode cX13_odds 53 = .ok (.getfield 9, 3) := dk_180 0 9 (dk_at dksX13_odds_2 8 rfl rfl)
theorem dX13_odds_56 : decode cX13_odds 56 = .ok (.bipush 6, 2) := dk_16 6 (dk_at dksX13_odds_2 11 rfl rfl)
theorem dX13_odds_58 : decode cX13_odds 58 = .ok (.iaload, 1) := dk_46 (dk_at dksX13_odds_2 13 rfl rfl)
theorem dX13_odds_59 : decode cX13_odds 59 = .ok (.invokestatic 106, 3) := dk_184 0 106 (dk_at dksX13_odds_2 14 rfl rfl)
theorem dX13_odds_62 : decode cX13_odds 62 = .ok (.iload_n 1, 1) := dk_27 (dk_at dksX13_odds_2 17 rfl rfl)
theorem dX13_odds_63 : decode cX13_odds 63 = .ok (.if_icmp .ne 7, 3) := dk_160 0 7 (dk_at dksX13_odds_2 18 rfl rfl)
theorem dX13_odds_66 : decode cX13_odds 66 = .ok (.iconst 1, 1) := dk_4 (dk_at dksX13_odds_2 21 rfl rfl)
theorem dX13_odds_67 : decode cX13_odds 67 = .ok (.goto 4, 3) := dk_167 0 4 (dk_at dksX13_odds_3 0 rfl rfl)
theorem dX13_odds_70 : decode cX13_odds 70 = .ok (.iconst 0, 1) := dk_3 (dk_at dksX13_odds_3 3 rfl rfl)
theorem dX13_odds_71 : decode cX13_odds 71 = .ok (.iadd, 1) := dk_96 (dk_at dksX13_odds_3 4 rfl rfl)
theorem dX13_odds_72 : decode cX13_odds 72 = .ok (.istore 4, 2) := dk_54 4 (dk_at dksX13_odds_3 5 rfl rfl)
theorem dX13_odds_74 : decode cX13_odds 74 = .ok (.iinc 5 1, 3) := dk_132 5 1 (dk_at dksX13_odds_3 7 rfl rfl)
theorem dX13_odds_77 : decode cX13_odds 77 = .ok (.goto (-37), 3) := dk_167 255 219 (dk_at dksX13_odds_3 10 rfl rfl)
theorem dX13_odds_80 : decode cX13_odds 80 = .ok (.sipush 1000, 3) := dk_17 3 232 (dk_at dksX13_odds_3 13 rfl rfl)
theorem dX13_odds_83 : decode cX13_odds 83 = .ok (.istore 5, 2) := dk_54 5 (dk_at dksX13_odds_3 16 rfl rfl)
theorem dX13_odds_85 : decode cX13_odds 85 = .ok (.iload 4, 2) := dk_21 4 (dk_at dksX13_odds_3 18 rfl rfl)
theorem dX13_odds_87 : decode cX13_odds 87 = .ok (.istore 6, 2) := dk_54 6 (dk_at dksX13_odds_3 20 rfl rfl)
theorem dX13_odds_89 : decode cX13_odds 89 = .ok (.iload 6, 2) := dk_21 6 (dk_at dksX13_odds_3 22 rfl rfl)
theorem dX13_odds_91 : decode cX13_odds 91 = .ok (.ifCond .eq 21, 3) := dk_153 0 21 (dk_at dksX13_odds_4 0 rfl rfl)
theorem dX13_odds_94 : decode cX13_odds 94 = .ok (.iload 5, 2) := dk_21 5 (dk_at dksX13_odds_4 3 rfl rfl)
theorem dX13_odds_96 : decode cX13_odds 96 = .ok (.iload 6, 2) := dk_21 6 (dk_at dksX13_odds_4 5 rfl rfl)
theorem dX13_odds_98 : decode cX13_odds 98 = .ok (.irem, 1) := dk_112 (dk_at dksX13_odds_4 7 rfl rfl)
theorem dX13_odds_99 : decode cX13_odds 99 = .ok (.istore 7, 2) := dk_54 7 (dk_at dksX13_odds_4 8 rfl rfl)
theorem dX13_odds_101 : decode cX13_odds 101 = .ok (.iload 6, 2) := dk_21 6 (dk_at dksX13_odds_4 10 rfl rfl)
theorem dX13_odds_103 : decode cX13_odds 103 = .ok (.istore 5, 2) := dk_54 5 (dk_at dksX13_odds_4 12 rfl rfl)
theorem dX13_odds_105 : decode cX13_odds 105 = .ok (.iload 7, 2) := dk_21 7 (dk_at dksX13_odds_4 14 rfl rfl)
theorem dX13_odds_107 : decode cX13_odds 107 = .ok (.istore 6, 2) := dk_54 6 (dk_at dksX13_odds_4 16 rfl rfl)
theorem dX13_odds_109 : decode cX13_odds 109 = .ok (.goto (-20), 3) := dk_167 255 236 (dk_at dksX13_odds_4 18 rfl rfl)
theorem dX13_odds_112 : decode cX13_odds 112 = .ok (.lconst 1, 1) := dk_10 (dk_at dksX13_odds_4 21 rfl rfl)
theorem dX13_odds_113 : decode cX13_odds 113 = .ok (.lstore 7, 2) := dk_55 7 (dk_at dksX13_odds_4 22 rfl rfl)
theorem dX13_odds_115 : decode cX13_odds 115 = .ok (.iconst 0, 1) := dk_3 (dk_at dksX13_odds_5 0 rfl rfl)
theorem dX13_odds_116 : decode cX13_odds 116 = .ok (.istore 9, 2) := dk_54 9 (dk_at dksX13_odds_5 1 rfl rfl)
theorem dX13_odds_118 : decode cX13_odds 118 = .ok (.iload 9, 2) := dk_21 9 (dk_at dksX13_odds_5 3 rfl rfl)
theorem dX13_odds_120 : decode cX13_odds 120 = .ok (.iload_n 2, 1) := dk_28 (dk_at dksX13_odds_5 5 rfl rfl)
theorem dX13_odds_121 : decode cX13_odds 121 = .ok (.if_icmp .ge 30, 3) := dk_162 0 30 (dk_at dksX13_odds_5 6 rfl rfl)
theorem dX13_odds_124 : decode cX13_odds 124 = .ok (.lload 7, 2) := dk_22 7 (dk_at dksX13_odds_5 9 rfl rfl)
theorem dX13_odds_126 : decode cX13_odds 126 = .ok (.iload_n 3, 1) := dk_29 (dk_at dksX13_odds_5 11 rfl rfl)
theorem dX13_odds_127 : decode cX13_odds 127 = .ok (.ifCond .ne 8, 3) := dk_154 0 8 (dk_at dksX13_odds_5 12 rfl rfl)
theorem dX13_odds_130 : decode cX13_odds 130 = .ok (.iload 4, 2) := dk_21 4 (dk_at dksX13_odds_5 15 rfl rfl)
theorem dX13_odds_132 : decode cX13_odds 132 = .ok (.goto 6, 3) := dk_167 0 6 (dk_at dksX13_odds_5 17 rfl rfl)
theorem dX13_odds_135 : decode cX13_odds 135 = .ok (.sipush 1000, 3) := dk_17 3 232 (dk_at dksX13_odds_5 20 rfl rfl)
theorem dX13_odds_138 : decode cX13_odds 138 = .ok (.iload 5, 2) := dk_21 5 (dk_at dksX13_odds_6 0 rfl rfl)
theorem dX13_odds_140 : decode cX13_odds 140 = .ok (.idiv, 1) := dk_108 (dk_at dksX13_odds_6 2 rfl rfl)
theorem dX13_odds_141 : decode cX13_odds 141 = .ok (.i2l, 1) := dk_133 (dk_at dksX13_odds_6 3 rfl rfl)
theorem dX13_odds_142 : decode cX13_odds 142 = .ok (.lmul, 1) := dk_105 (dk_at dksX13_odds_6 4 rfl rfl)
theorem dX13_odds_143 : decode cX13_odds 143 = .ok (.lstore 7, 2) := dk_55 7 (dk_at dksX13_odds_6 5 rfl rfl)
theorem dX13_odds_145 : decode cX13_odds 145 = .ok (.iinc 9 1, 3) := dk_132 9 1 (dk_at dksX13_odds_6 7 rfl rfl)
theorem dX13_odds_148 : decode cX13_odds 148 = .ok (.goto (-30), 3) := dk_167 255 226 (dk_at dksX13_odds_6 10 rfl rfl)
theorem dX13_odds_151 : decode cX13_odds 151 = .ok (.lload 7, 2) := dk_22 7 (dk_at dksX13_odds_6 13 rfl rfl)
theorem dX13_odds_153 : decode cX13_odds 153 = .ok (.lreturn, 1) := dk_173 (dk_at dksX13_odds_6 15 rfl rfl)
abbrev cX13_seed : ByteArray := prog_16_method_70_code
def yX13_seed : MethodName := ⟨RX13, "seed", "(I)I"⟩
def dkwX13_seed_0 : List UInt8 := [42, 5, 27, 182, 0, 97, 172]
abbrev dktX13_seed_0 : List UInt8 := dkwX13_seed_0 ++ []
theorem dksX13_seed_0 : cX13_seed.data.toList.drop 0 = dktX13_seed_0 := by decide +kernel
theorem dX13_seed_0 : decode cX13_seed 0 = .ok (.aload_n 0, 1) := dk_42 (dk_at dksX13_seed_0 0 rfl rfl)
theorem dX13_seed_1 : decode cX13_seed 1 = .ok (.iconst 2, 1) := dk_5 (dk_at dksX13_seed_0 1 rfl rfl)
theorem dX13_seed_2 : decode cX13_seed 2 = .ok (.iload_n 1, 1) := dk_27 (dk_at dksX13_seed_0 2 rfl rfl)
theorem dX13_seed_3 : decode cX13_seed 3 = .ok (.invokevirtual 97, 3) := dk_182 0 97 (dk_at dksX13_seed_0 3 rfl rfl)
theorem dX13_seed_6 : decode cX13_seed 6 = .ok (.ireturn, 1) := dk_172 (dk_at dksX13_seed_0 6 rfl rfl)
abbrev cX13_feed : ByteArray := prog_16_method_71_code
def yX13_feed : MethodName := ⟨RX13, "feed", "(II)I"⟩
def dkwX13_feed_3 : List UInt8 := [132, 3, 255, 167, 255, 220, 42, 180, 0, 220, 172]
abbrev dktX13_feed_3 : List UInt8 := dkwX13_feed_3 ++ []
def dkwX13_feed_2 : List UInt8 := [180, 0, 220, 27, 16, 8, 29, 104, 122, 17, 0, 255, 126, 79, 42, 89, 180, 0, 220, 4, 96, 181, 0, 220]
abbrev dktX13_feed_2 : List UInt8 := dkwX13_feed_2 ++ dktX13_feed_3
def dkwX13_feed_1 : List UInt8 := [164, 0, 10, 42, 18, 115, 182, 0, 72, 172, 28, 4, 100, 62, 29, 155, 0, 38, 42, 180, 0, 22, 42]
abbrev dktX13_feed_1 : List UInt8 := dkwX13_feed_1 ++ dktX13_feed_2
def dkwX13_feed_0 : List UInt8 := [28, 4, 7, 184, 0, 76, 154, 0, 10, 42, 18, 66, 182, 0, 72, 172, 42, 180, 0, 220, 28, 96, 16, 120]
abbrev dktX13_feed_0 : List UInt8 := dkwX13_feed_0 ++ dktX13_feed_1
theorem dksX13_feed_0 : cX13_feed.data.toList.drop 0 = dktX13_feed_0 := by decide +kernel
theorem dksX13_feed_1 : cX13_feed.data.toList.drop 24 = dktX13_feed_1 := dk_seg dksX13_feed_0 24 rfl rfl
theorem dksX13_feed_2 : cX13_feed.data.toList.drop 47 = dktX13_feed_2 := dk_seg dksX13_feed_1 23 rfl rfl
theorem dksX13_feed_3 : cX13_feed.data.toList.drop 71 = dktX13_feed_3 := dk_seg dksX13_feed_2 24 rfl rfl
theorem dX13_feed_0 : decode cX13_feed 0 = .ok (.iload_n 2, 1) := dk_28 (dk_at dksX13_feed_0 0 rfl rfl)
theorem dX13_feed_1 : decode cX13_feed 1 = .ok (.iconst 1, 1) := dk_4 (dk_at dksX13_feed_0 1 rfl rfl)
theorem dX13_feed_2 : decode cX13_feed 2 = .ok (.iconst 4, 1) := dk_7 (dk_at dksX13_feed_0 2 rfl rfl)
theorem dX13_feed_3 : decode cX13_feed 3 = .ok (.invokestatic 76, 3) := dk_184 0 76 (dk_at dksX13_feed_0 3 rfl rfl)
theorem dX13_feed_6 : decode cX13_feed 6 = .ok (.ifCond .ne 10, 3) := dk_154 0 10 (dk_at dksX13_feed_0 6 rfl rfl)
theorem dX13_feed_9 : decode cX13_feed 9 = .ok (.aload_n 0, 1) := dk_42 (dk_at dksX13_feed_0 9 rfl rfl)
theorem dX13_feed_10 : decode cX13_feed 10 = .ok (.ldc 66, 2) := dk_18 66 (dk_at dksX13_feed_0 10 rfl rfl)
theorem dX13_feed_12 : decode cX13_feed 12 = .ok (.invokevirtual 72, 3) := dk_182 0 72 (dk_at dksX13_feed_0 12 rfl rfl)
theorem dX13_feed_15 : decode cX13_feed 15 = .ok (.ireturn, 1) := dk_172 (dk_at dksX13_feed_0 15 rfl rfl)
theorem dX13_feed_16 : decode cX13_feed 16 = .ok (.aload_n 0, 1) := dk_42 (dk_at dksX13_feed_0 16 rfl rfl)
theorem dX13_feed_17 : decode cX13_feed 17 = .ok (.getfield 220, 3) := dk_180 0 220 (dk_at dksX13_feed_0 17 rfl rfl)
theorem dX13_feed_20 : decode cX13_feed 20 = .ok (.iload_n 2, 1) := dk_28 (dk_at dksX13_feed_0 20 rfl rfl)
theorem dX13_feed_21 : decode cX13_feed 21 = .ok (.iadd, 1) := dk_96 (dk_at dksX13_feed_0 21 rfl rfl)
theorem dX13_feed_22 : decode cX13_feed 22 = .ok (.bipush 120, 2) := dk_16 120 (dk_at dksX13_feed_0 22 rfl rfl)
theorem dX13_feed_24 : decode cX13_feed 24 = .ok (.if_icmp .le 10, 3) := dk_164 0 10 (dk_at dksX13_feed_1 0 rfl rfl)
theorem dX13_feed_27 : decode cX13_feed 27 = .ok (.aload_n 0, 1) := dk_42 (dk_at dksX13_feed_1 3 rfl rfl)
theorem dX13_feed_28 : decode cX13_feed 28 = .ok (.ldc 115, 2) := dk_18 115 (dk_at dksX13_feed_1 4 rfl rfl)
theorem dX13_feed_30 : decode cX13_feed 30 = .ok (.invokevirtual 72, 3) := dk_182 0 72 (dk_at dksX13_feed_1 6 rfl rfl)
theorem dX13_feed_33 : decode cX13_feed 33 = .ok (.ireturn, 1) := dk_172 (dk_at dksX13_feed_1 9 rfl rfl)
theorem dX13_feed_34 : decode cX13_feed 34 = .ok (.iload_n 2, 1) := dk_28 (dk_at dksX13_feed_1 10 rfl rfl)
theorem dX13_feed_35 : decode cX13_feed 35 = .ok (.iconst 1, 1) := dk_4 (dk_at dksX13_feed_1 11 rfl rfl)
theorem dX13_feed_36 : decode cX13_feed 36 = .ok (.isub, 1) := dk_100 (dk_at dksX13_feed_1 12 rfl rfl)
theorem dX13_feed_37 : decode cX13_feed 37 = .ok (.istore_n 3, 1) := dk_62 (dk_at dksX13_feed_1 13 rfl rfl)
theorem dX13_feed_38 : decode cX13_feed 38 = .ok (.iload_n 3, 1) := dk_29 (dk_at dksX13_feed_1 14 rfl rfl)
theorem dX13_feed_39 : decode cX13_feed 39 = .ok (.ifCond .lt 38, 3) := dk_155 0 38 (dk_at dksX13_feed_1 15 rfl rfl)
theorem dX13_feed_42 : decode cX13_feed 42 = .ok (.aload_n 0, 1) := dk_42 (dk_at dksX13_feed_1 18 rfl rfl)
theorem dX13_feed_43 : decode cX13_feed 43 = .ok (.getfield 22, 3) := dk_180 0 22 (dk_at dksX13_feed_1 19 rfl rfl)
theorem dX13_feed_46 : decode cX13_feed 46 = .ok (.aload_n 0, 1) := dk_42 (dk_at dksX13_feed_1 22 rfl rfl)
theorem dX13_feed_47 : decode cX13_feed 47 = .ok (.getfield 220, 3) := dk_180 0 220 (dk_at dksX13_feed_2 0 rfl rfl)
theorem dX13_feed_50 : decode cX13_feed 50 = .ok (.iload_n 1, 1) := dk_27 (dk_at dksX13_feed_2 3 rfl rfl)
theorem dX13_feed_51 : decode cX13_feed 51 = .ok (.bipush 8, 2) := dk_16 8 (dk_at dksX13_feed_2 4 rfl rfl)
theorem dX13_feed_53 : decode cX13_feed 53 = .ok (.iload_n 3, 1) := dk_29 (dk_at dksX13_feed_2 6 rfl rfl)
theorem dX13_feed_54 : decode cX13_feed 54 = .ok (.imul, 1) := dk_104 (dk_at dksX13_feed_2 7 rfl rfl)
theorem dX13_feed_55 : decode cX13_feed 55 = .ok (.ishr, 1) := dk_122 (dk_at dksX13_feed_2 8 rfl rfl)
theorem dX13_feed_56 : decode cX13_feed 56 = .ok (.sipush 255, 3) := dk_17 0 255 (dk_at dksX13_feed_2 9 rfl rfl)
theorem dX13_feed_59 : decode cX13_feed 59 = .ok (.iand, 1) := dk_126 (dk_at dksX13_feed_2 12 rfl rfl)
theorem dX13_feed_60 : decode cX13_feed 60 = .ok (.iastore, 1) := dk_79 (dk_at dksX13_feed_2 13 rfl rfl)
theorem dX13_feed_61 : decode cX13_feed 61 = .ok (.aload_n 0, 1) := dk_42 (dk_at dksX13_feed_2 14 rfl rfl)
theorem dX13_feed_62 : decode cX13_feed 62 = .ok (.dup, 1) := dk_89 (dk_at dksX13_feed_2 15 rfl rfl)
theorem dX13_feed_63 : decode cX13_feed 63 = .ok (.getfield 220, 3) := dk_180 0 220 (dk_at dksX13_feed_2 16 rfl rfl)
theorem dX13_feed_66 : decode cX13_feed 66 = .ok (.iconst 1, 1) := dk_4 (dk_at dksX13_feed_2 19 rfl rfl)
theorem dX13_feed_67 : decode cX13_feed 67 = .ok (.iadd, 1) := dk_96 (dk_at dksX13_feed_2 20 rfl rfl)
theorem dX13_feed_68 : decode cX13_feed 68 = .ok (.putfield 220, 3) := dk_181 0 220 (dk_at dksX13_feed_2 21 rfl rfl)
theorem dX13_feed_71 : decode cX13_feed 71 = .ok (.iinc 3 (-1), 3) := dk_132 3 255 (dk_at dksX13_feed_3 0 rfl rfl)
theorem dX13_feed_74 : decode cX13_feed 74 = .ok (.goto (-36), 3) := dk_167 255 220 (dk_at dksX13_feed_3 3 rfl rfl)
theorem dX13_feed_77 : decode cX13_feed 77 = .ok (.aload_n 0, 1) := dk_42 (dk_at dksX13_feed_3 6 rfl rfl)
theorem dX13_feed_78 : decode cX13_feed 78 = .ok (.getfield 220, 3) := dk_180 0 220 (dk_at dksX13_feed_3 7 rfl rfl)
theorem dX13_feed_81 : decode cX13_feed 81 = .ok (.ireturn, 1) := dk_172 (dk_at dksX13_feed_3 10 rfl rfl)
abbrev cX13_wipe : ByteArray := prog_16_method_72_code
def yX13_wipe : MethodName := ⟨RX13, "wipe", "()I"⟩
def dkwX13_wipe_0 : List UInt8 := [42, 180, 0, 220, 60, 42, 3, 181, 0, 220, 27, 172]
abbrev dktX13_wipe_0 : List UInt8 := dkwX13_wipe_0 ++ []
theorem dksX13_wipe_0 : cX13_wipe.data.toList.drop 0 = dktX13_wipe_0 := by decide +kernel
theorem dX13_wipe_0 : decode cX13_wipe 0 = .ok (.aload_n 0, 1) := dk_42 (dk_at dksX13_wipe_0 0 rfl rfl)
theorem dX13_wipe_1 : decode cX13_wipe 1 = .ok (.getfield 220, 3) := dk_180 0 220 (dk_at dksX13_wipe_0 1 rfl rfl)
theorem dX13_wipe_4 : decode cX13_wipe 4 = .ok (.istore_n 1, 1) := dk_60 (dk_at dksX13_wipe_0 4 rfl rfl)
theorem dX13_wipe_5 : decode cX13_wipe 5 = .ok (.aload_n 0, 1) := dk_42 (dk_at dksX13_wipe_0 5 rfl rfl)
theorem dX13_wipe_6 : decode cX13_wipe 6 = .ok (.iconst 0, 1) := dk_3 (dk_at dksX13_wipe_0 6 rfl rfl)
theorem dX13_wipe_7 : decode cX13_wipe 7 = .ok (.putfield 220, 3) := dk_181 0 220 (dk_at dksX13_wipe_0 7 rfl rfl)
theorem dX13_wipe_10 : decode cX13_wipe 10 = .ok (.iload_n 1, 1) := dk_27 (dk_at dksX13_wipe_0 10 rfl rfl)
theorem dX13_wipe_11 : decode cX13_wipe 11 = .ok (.ireturn, 1) := dk_172 (dk_at dksX13_wipe_0 11 rfl rfl)
abbrev cX13_text : ByteArray := prog_16_method_84_code
def yX13_text : MethodName := ⟨RX13, "text", "()I"⟩
def dkwX13_text_7 : List UInt8 := [27, 42, 180, 1, 0, 162, 0, 14, 42, 27, 182, 1, 46, 132, 1, 1, 167, 255, 240, 42, 180, 1, 0, 172]
abbrev dktX13_text_7 : List UInt8 := dkwX13_text_7 ++ []
def dkwX13_text_6 : List UInt8 := [182, 0, 252, 42, 3, 181, 0, 220, 42, 180, 0, 245, 153, 0, 10, 2, 42, 180, 0, 226, 100, 172, 3, 60]
abbrev dktX13_text_6 : List UInt8 := dkwX13_text_6 ++ dktX13_text_7
def dkwX13_text_5 : List UInt8 := [182, 0, 252, 42, 182, 1, 43, 167, 255, 218, 42, 42, 180, 0, 235, 154, 0, 7, 4, 167, 0, 4, 3]
abbrev dktX13_text_5 : List UInt8 := dkwX13_text_5 ++ dktX13_text_6
def dkwX13_text_4 : List UInt8 := [180, 0, 235, 6, 160, 0, 29, 42, 180, 0, 22, 42, 180, 0, 226, 46, 16, 59, 160, 0, 15, 42, 4]
abbrev dktX13_text_4 : List UInt8 := dkwX13_text_4 ++ dktX13_text_5
def dkwX13_text_3 : List UInt8 := [132, 1, 1, 167, 255, 219, 42, 182, 0, 249, 42, 182, 1, 43, 42, 180, 0, 245, 154, 0, 37, 42]
abbrev dktX13_text_3 : List UInt8 := dkwX13_text_3 ++ dktX13_text_4
def dkwX13_text_2 : List UInt8 := [180, 0, 9, 16, 17, 27, 96, 46, 155, 0, 9, 4, 27, 120, 167, 0, 4, 3, 128, 181, 1, 7]
abbrev dktX13_text_2 : List UInt8 := dkwX13_text_2 ++ dktX13_text_3
def dkwX13_text_1 : List UInt8 := [181, 1, 10, 42, 3, 181, 1, 7, 3, 60, 27, 16, 7, 162, 0, 37, 42, 89, 180, 1, 7, 42]
abbrev dktX13_text_1 : List UInt8 := dkwX13_text_1 ++ dktX13_text_2
def dkwX13_text_0 : List UInt8 := [42, 3, 181, 0, 223, 42, 3, 181, 0, 245, 42, 3, 181, 1, 0, 42, 42, 180, 0, 9, 4, 46]
abbrev dktX13_text_0 : List UInt8 := dkwX13_text_0 ++ dktX13_text_1
theorem dksX13_text_0 : cX13_text.data.toList.drop 0 = dktX13_text_0 := by decide +kernel
theorem dksX13_text_1 : cX13_text.data.toList.drop 22 = dktX13_text_1 := dk_seg dksX13_text_0 22 rfl rfl
theorem dksX13_text_2 : cX13_text.data.toList.drop 44 = dktX13_text_2 := dk_seg dksX13_text_1 22 rfl rfl
theorem dksX13_text_3 : cX13_text.data.toList.drop 66 = dktX13_text_3 := dk_seg dksX13_text_2 22 rfl rfl
theorem dksX13_text_4 : cX13_text.data.toList.drop 88 = dktX13_text_4 := dk_seg dksX13_text_3 22 rfl rfl
theorem dksX13_text_5 : cX13_text.data.toList.drop 111 = dktX13_text_5 := dk_seg dksX13_text_4 23 rfl rfl
theorem dksX13_text_6 : cX13_text.data.toList.drop 134 = dktX13_text_6 := dk_seg dksX13_text_5 23 rfl rfl
theorem dksX13_text_7 : cX13_text.data.toList.drop 158 = dktX13_text_7 := dk_seg dksX13_text_6 24 rfl rfl
theorem dX13_text_0 : decode cX13_text 0 = .ok (.aload_n 0, 1) := dk_42 (dk_at dksX13_text_0 0 rfl rfl)
theorem dX13_text_1 : decode cX13_text 1 = .ok (.iconst 0, 1) := dk_3 (dk_at dksX13_text_0 1 rfl rfl)
theorem dX13_text_2 : decode cX13_text 2 = .ok (.putfield 223, 3) := dk_181 0 223 (dk_at dksX13_text_0 2 rfl rfl)
theorem dX13_text_5 : decode cX13_text 5 = .ok (.aload_n 0, 1) := dk_42 (dk_at dksX13_text_0 5 rfl rfl)
theorem dX13_text_6 : decode cX13_text 6 = .ok (.iconst 0, 1) := dk_3 (dk_at dksX13_text_0 6 rfl rfl)
theorem dX13_text_7 : decode cX13_text 7 = .ok (.putfield 245, 3) := dk_181 0 245 (dk_at dksX13_text_0 7 rfl rfl)
theorem dX13_text_10 : decode cX13_text 10 = .ok (.aload_n 0, 1) := dk_42 (dk_at dksX13_text_0 10 rfl rfl)
theorem dX13_text_11 : decode cX13_text 11 = .ok (.iconst 0, 1) := dk_3 (dk_at dksX13_text_0 11 rfl rfl)
theorem dX13_text_12 : decode cX13_text 12 = .ok (.putfield 256, 3) := dk_181 1 0 (dk_at dksX13_text_0 12 rfl rfl)
theorem dX13_text_15 : decode cX13_text 15 = .ok (.aload_n 0, 1) := dk_42 (dk_at dksX13_text_0 15 rfl rfl)
theorem dX13_text_16 : decode cX13_text 16 = .ok (.aload_n 0, 1) := dk_42 (dk_at dksX13_text_0 16 rfl rfl)
theorem dX13_text_17 : decode cX13_text 17 = .ok (.getfield 9, 3) := dk_180 0 9 (dk_at dksX13_text_0 17 rfl rfl)
theorem dX13_text_20 : decode cX13_text 20 = .ok (.iconst 1, 1) := dk_4 (dk_at dksX13_text_0 20 rfl rfl)
theorem dX13_text_21 : decode cX13_text 21 = .ok (.iaload, 1) := dk_46 (dk_at dksX13_text_0 21 rfl rfl)
theorem dX13_text_22 : decode cX13_text 22 = .ok (.putfield 266, 3) := dk_181 1 10 (dk_at dksX13_text_1 0 rfl rfl)
theorem dX13_text_25 : decode cX13_text 25 = .ok (.aload_n 0, 1) := dk_42 (dk_at dksX13_text_1 3 rfl rfl)
theorem dX13_text_26 : decode cX13_text 26 = .ok (.iconst 0, 1) := dk_3 (dk_at dksX13_text_1 4 rfl rfl)
theorem dX13_text_27 : decode cX13_text 27 = .ok (.putfield 263, 3) := dk_181 1 7 (dk_at dksX13_text_1 5 rfl rfl)
theorem dX13_text_30 : decode cX13_text 30 = .ok (.iconst 0, 1) := dk_3 (dk_at dksX13_text_1 8 rfl rfl)
theorem dX13_text_31 : decode cX13_text 31 = .ok (.istore_n 1, 1) := dk_60 (dk_at dksX13_text_1 9 rfl rfl)
theorem dX13_text_32 : decode cX13_text 32 = .ok (.iload_n 1, 1) := dk_27 (dk_at dksX13_text_1 10 rfl rfl)
theorem dX13_text_33 : decode cX13_text 33 = .ok (.bipush 7, 2) := dk_16 7 (dk_at dksX13_text_1 11 rfl rfl)
theorem dX13_text_35 : decode cX13_text 35 = .ok (.if_icmp .ge 37, 3) := dk_162 0 37 (dk_at dksX13_text_1 13 rfl rfl)
theorem dX13_text_38 : decode cX13_text 38 = .ok (.aload_n 0, 1) := dk_42 (dk_at dksX13_text_1 16 rfl rfl)
theorem dX13_text_39 : decode cX13_text 39 = .ok (.dup, 1) := dk_89 (dk_at dksX13_text_1 17 rfl rfl)
theorem dX13_text_40 : decode cX13_text 40 = .ok (.getfield 263, 3) := dk_180 1 7 (dk_at dksX13_text_1 18 rfl rfl)
theorem dX13_text_43 : decode cX13_text 43 = .ok (.aload_n 0, 1) := dk_42 (dk_at dksX13_text_1 21 rfl rfl)
theorem dX13_text_44 : decode cX13_text 44 = .ok (.getfield 9, 3) := dk_180 0 9 (dk_at dksX13_text_2 0 rfl rfl)
theorem dX13_text_47 : decode cX13_text 47 = .ok (.bipush 17, 2) := dk_16 17 (dk_at dksX13_text_2 3 rfl rfl)
theorem dX13_text_49 : decode cX13_text 49 = .ok (.iload_n 1, 1) := dk_27 (dk_at dksX13_text_2 5 rfl rfl)
theorem dX13_text_50 : decode cX13_text 50 = .ok (.iadd, 1) := dk_96 (dk_at dksX13_text_2 6 rfl rfl)
theorem dX13_text_51 : decode cX13_text 51 = .ok (.iaload, 1) := dk_46 (dk_at dksX13_text_2 7 rfl rfl)
theorem dX13_text_52 : decode cX13_text 52 = .ok (.ifCond .lt 9, 3) := dk_155 0 9 (dk_at dksX13_text_2 8 rfl rfl)
theorem dX13_text_55 : decode cX13_text 55 = .ok (.iconst 1, 1) := dk_4 (dk_at dksX13_text_2 11 rfl rfl)
theorem dX13_text_56 : decode cX13_text 56 = .ok (.iload_n 1, 1) := dk_27 (dk_at dksX13_text_2 12 rfl rfl)
theorem dX13_text_57 : decode cX13_text 57 = .ok (.ishl, 1) := dk_120 (dk_at dksX13_text_2 13 rfl rfl)
theorem dX13_text_58 : decode cX13_text 58 = .ok (.goto 4, 3) := dk_167 0 4 (dk_at dksX13_text_2 14 rfl rfl)
theorem dX13_text_61 : decode cX13_text 61 = .ok (.iconst 0, 1) := dk_3 (dk_at dksX13_text_2 17 rfl rfl)
theorem dX13_text_62 : decode cX13_text 62 = .ok (.ior, 1) := dk_128 (dk_at dksX13_text_2 18 rfl rfl)
theorem dX13_text_63 : decode cX13_text 63 = .ok (.putfield 263, 3) := dk_181 1 7 (dk_at dksX13_text_2 19 rfl rfl)
theorem dX13_text_66 : decode cX13_text 66 = .ok (.iinc 1 1, 3) := dk_132 1 1 (dk_at dksX13_text_3 0 rfl rfl)
theorem dX13_text_69 : decode cX13_text 69 = .ok (.goto (-37), 3) := dk_167 255 219 (dk_at dksX13_text_3 3 rfl rfl)
theorem dX13_text_72 : decode cX13_text 72 = .ok (.aload_n 0, 1) := dk_42 (dk_at dksX13_text_3 6 rfl rfl)
theorem dX13_text_73 : decode cX13_text 73 = .ok (.invokevirtual 249, 3) := dk_182 0 249 (dk_at dksX13_text_3 7 rfl rfl)
theorem dX13_text_76 : decode cX13_text 76 = .ok (.aload_n 0, 1) := dk_42 (dk_at dksX13_text_3 10 rfl rfl)
theorem dX13_text_77 : decode cX13_text 77 = .ok (.invokevirtual 299, 3) := dk_182 1 43 (dk_at dksX13_text_3 11 rfl rfl)
theorem dX13_text_80 : decode cX13_text 80 = .ok (.aload_n 0, 1) := dk_42 (dk_at dksX13_text_3 14 rfl rfl)
theorem dX13_text_81 : decode cX13_text 81 = .ok (.getfield 245, 3) := dk_180 0 245 (dk_at dksX13_text_3 15 rfl rfl)
theorem dX13_text_84 : decode cX13_text 84 = .ok (.ifCond .ne 37, 3) := dk_154 0 37 (dk_at dksX13_text_3 18 rfl rfl)
theorem dX13_text_87 : decode cX13_text 87 = .ok (.aload_n 0, 1) := dk_42 (dk_at dksX13_text_3 21 rfl rfl)
theorem dX13_text_88 : decode cX13_text 88 = .ok (.getfield 235, 3) := dk_180 0 235 (dk_at dksX13_text_4 0 rfl rfl)
theorem dX13_text_91 : decode cX13_text 91 = .ok (.iconst 3, 1) := dk_6 (dk_at dksX13_text_4 3 rfl rfl)
theorem dX13_text_92 : decode cX13_text 92 = .ok (.if_icmp .ne 29, 3) := dk_160 0 29 (dk_at dksX13_text_4 4 rfl rfl)
theorem dX13_text_95 : decode cX13_text 95 = .ok (.aload_n 0, 1) := dk_42 (dk_at dksX13_text_4 7 rfl rfl)
theorem dX13_text_96 : decode cX13_text 96 = .ok (.getfield 22, 3) := dk_180 0 22 (dk_at dksX13_text_4 8 rfl rfl)
theorem dX13_text_99 : decode cX13_text 99 = .ok (.aload_n 0, 1) := dk_42 (dk_at dksX13_text_4 11 rfl rfl)
theorem dX13_text_100 : decode cX13_text 100 = .ok (.getfield 226, 3) := dk_180 0 226 (dk_at dksX13_text_4 12 rfl rfl)
theorem dX13_text_103 : decode cX13_text 103 = .ok (.iaload, 1) := dk_46 (dk_at dksX13_text_4 15 rfl rfl)
theorem dX13_text_104 : decode cX13_text 104 = .ok (.bipush 59, 2) := dk_16 59 (dk_at dksX13_text_4 16 rfl rfl)
theorem dX13_text_106 : decode cX13_text 106 = .ok (.if_icmp .ne 15, 3) := dk_160 0 15 (dk_at dksX13_text_4 18 rfl rfl)
theorem dX13_text_109 : decode cX13_text 109 = .ok (.aload_n 0, 1) := dk_42 (dk_at dksX13_text_4 21 rfl rfl)
theorem dX13_text_110 : decode cX13_text 110 = .ok (.iconst 1, 1) := dk_4 (dk_at dksX13_text_4 22 rfl rfl)
theorem dX13_text_111 : decode cX13_text 111 = .ok (.invokevirtual 252, 3) := dk_182 0 252 (dk_at dksX13_text_5 0 rfl rfl)
theorem dX13_text_114 : decode cX13_text 114 = .ok (.aload_n 0, 1) := dk_42 (dk_at dksX13_text_5 3 rfl rfl)
theorem dX13_text_115 : decode cX13_text 115 = .ok (.invokevirtual 299, 3) := dk_182 1 43 (dk_at dksX13_text_5 4 rfl rfl)
theorem dX13_text_118 : decode cX13_text 118 = .ok (.goto (-38), 3) := dk_167 255 218 (dk_at dksX13_text_5 7 rfl rfl)
theorem dX13_text_121 : decode cX13_text 121 = .ok (.aload_n 0, 1) := dk_42 (dk_at dksX13_text_5 10 rfl rfl)
theorem dX13_text_122 : decode cX13_text 122 = .ok (.aload_n 0, 1) := dk_42 (dk_at dksX13_text_5 11 rfl rfl)
theorem dX13_text_123 : decode cX13_text 123 = .ok (.getfield 235, 3) := dk_180 0 235 (dk_at dksX13_text_5 12 rfl rfl)
theorem dX13_text_126 : decode cX13_text 126 = .ok (.ifCond .ne 7, 3) := dk_154 0 7 (dk_at dksX13_text_5 15 rfl rfl)
theorem dX13_text_129 : decode cX13_text 129 = .ok (.iconst 1, 1) := dk_4 (dk_at dksX13_text_5 18 rfl rfl)
theorem dX13_text_130 : decode cX13_text 130 = .ok (.goto 4, 3) := dk_167 0 4 (dk_at dksX13_text_5 19 rfl rfl)
theorem dX13_text_133 : decode cX13_text 133 = .ok (.iconst 0, 1) := dk_3 (dk_at dksX13_text_5 22 rfl rfl)
theorem dX13_text_134 : decode cX13_text 134 = .ok (.invokevirtual 252, 3) := dk_182 0 252 (dk_at dksX13_text_6 0 rfl rfl)
theorem dX13_text_137 : decode cX13_text 137 = .ok (.aload_n 0, 1) := dk_42 (dk_at dksX13_text_6 3 rfl rfl)
theorem dX13_text_138 : decode cX13_text 138 = .ok (.iconst 0, 1) := dk_3 (dk_at dksX13_text_6 4 rfl rfl)
theorem dX13_text_139 : decode cX13_text 139 = .ok (.putfield 220, 3) := dk_181 0 220 (dk_at dksX13_text_6 5 rfl rfl)
theorem dX13_text_142 : decode cX13_text 142 = .ok (.aload_n 0, 1) := dk_42 (dk_at dksX13_text_6 8 rfl rfl)
theorem dX13_text_143 : decode cX13_text 143 = .ok (.getfield 245, 3) := dk_180 0 245 (dk_at dksX13_text_6 9 rfl rfl)
theorem dX13_text_146 : decode cX13_text 146 = .ok (.ifCond .eq 10, 3) := dk_153 0 10 (dk_at dksX13_text_6 12 rfl rfl)
theorem dX13_text_149 : decode cX13_text 149 = .ok (.iconst (-1), 1) := dk_2 (dk_at dksX13_text_6 15 rfl rfl)
theorem dX13_text_150 : decode cX13_text 150 = .ok (.aload_n 0, 1) := dk_42 (dk_at dksX13_text_6 16 rfl rfl)
theorem dX13_text_151 : decode cX13_text 151 = .ok (.getfield 226, 3) := dk_180 0 226 (dk_at dksX13_text_6 17 rfl rfl)
theorem dX13_text_154 : decode cX13_text 154 = .ok (.isub, 1) := dk_100 (dk_at dksX13_text_6 20 rfl rfl)
theorem dX13_text_155 : decode cX13_text 155 = .ok (.ireturn, 1) := dk_172 (dk_at dksX13_text_6 21 rfl rfl)
theorem dX13_text_156 : decode cX13_text 156 = .ok (.iconst 0, 1) := dk_3 (dk_at dksX13_text_6 22 rfl rfl)
theorem dX13_text_157 : decode cX13_text 157 = .ok (.istore_n 1, 1) := dk_60 (dk_at dksX13_text_6 23 rfl rfl)
theorem dX13_text_158 : decode cX13_text 158 = .ok (.iload_n 1, 1) := dk_27 (dk_at dksX13_text_7 0 rfl rfl)
theorem dX13_text_159 : decode cX13_text 159 = .ok (.aload_n 0, 1) := dk_42 (dk_at dksX13_text_7 1 rfl rfl)
theorem dX13_text_160 : decode cX13_text 160 = .ok (.getfield 256, 3) := dk_180 1 0 (dk_at dksX13_text_7 2 rfl rfl)
theorem dX13_text_163 : decode cX13_text 163 = .ok (.if_icmp .ge 14, 3) := dk_162 0 14 (dk_at dksX13_text_7 5 rfl rfl)
theorem dX13_text_166 : decode cX13_text 166 = .ok (.aload_n 0, 1) := dk_42 (dk_at dksX13_text_7 8 rfl rfl)
theorem dX13_text_167 : decode cX13_text 167 = .ok (.iload_n 1, 1) := dk_27 (dk_at dksX13_text_7 9 rfl rfl)
theorem dX13_text_168 : decode cX13_text 168 = .ok (.invokevirtual 302, 3) := dk_182 1 46 (dk_at dksX13_text_7 10 rfl rfl)
theorem dX13_text_171 : decode cX13_text 171 = .ok (.iinc 1 1, 3) := dk_132 1 1 (dk_at dksX13_text_7 13 rfl rfl)
theorem dX13_text_174 : decode cX13_text 174 = .ok (.goto (-16), 3) := dk_167 255 240 (dk_at dksX13_text_7 16 rfl rfl)
theorem dX13_text_177 : decode cX13_text 177 = .ok (.aload_n 0, 1) := dk_42 (dk_at dksX13_text_7 19 rfl rfl)
theorem dX13_text_178 : decode cX13_text 178 = .ok (.getfield 256, 3) := dk_180 1 0 (dk_at dksX13_text_7 20 rfl rfl)
theorem dX13_text_181 : decode cX13_text 181 = .ok (.ireturn, 1) := dk_172 (dk_at dksX13_text_7 23 rfl rfl)
abbrev cX13_token : ByteArray := prog_16_method_74_code
def yX13_token : MethodName := ⟨RX13, "token", "()V"⟩
def dkwX13_token_8 : List UInt8 := [181, 0, 223, 167, 255, 199, 42, 6, 181, 0, 235, 42, 89, 180, 0, 223, 4, 96, 181, 0, 223, 177]
abbrev dktX13_token_8 : List UInt8 := dkwX13_token_8 ++ []
def dkwX13_token_7 : List UInt8 := [180, 0, 223, 182, 0, 229, 96, 16, 48, 100, 184, 0, 144, 181, 0, 232, 42, 89, 180, 0, 223, 4, 96]
abbrev dktX13_token_7 : List UInt8 := dkwX13_token_7 ++ dktX13_token_8
def dkwX13_token_6 : List UInt8 := [16, 48, 16, 57, 184, 0, 76, 153, 0, 60, 42, 17, 3, 232, 16, 10, 42, 180, 0, 232, 104, 42, 42]
abbrev dktX13_token_6 : List UInt8 := dkwX13_token_6 ++ dktX13_token_7
def dkwX13_token_5 : List UInt8 := [16, 48, 16, 57, 184, 0, 76, 153, 0, 68, 42, 5, 181, 0, 235, 42, 42, 180, 0, 223, 182, 0, 229]
abbrev dktX13_token_5 : List UInt8 := dkwX13_token_5 ++ dktX13_token_6
def dkwX13_token_4 : List UInt8 := [16, 97, 16, 122, 184, 0, 76, 153, 0, 107, 42, 89, 180, 0, 223, 4, 96, 181, 0, 223, 167, 255, 228, 27]
abbrev dktX13_token_4 : List UInt8 := dkwX13_token_4 ++ dktX13_token_5
def dkwX13_token_3 : List UInt8 := [16, 97, 16, 122, 184, 0, 76, 153, 0, 39, 42, 4, 181, 0, 235, 42, 42, 180, 0, 223, 182, 0, 229]
abbrev dktX13_token_3 : List UInt8 := dkwX13_token_3 ++ dktX13_token_4
def dkwX13_token_2 : List UInt8 := [180, 0, 226, 181, 0, 223, 42, 3, 181, 0, 232, 27, 156, 0, 11, 42, 3, 181, 0, 235, 167, 0, 141, 27]
abbrev dktX13_token_2 : List UInt8 := dkwX13_token_2 ++ dktX13_token_3
def dkwX13_token_1 : List UInt8 := [180, 0, 226, 4, 96, 181, 0, 226, 167, 255, 233, 42, 42, 180, 0, 226, 182, 0, 229, 60, 42, 42]
abbrev dktX13_token_1 : List UInt8 := dkwX13_token_1 ++ dktX13_token_2
def dkwX13_token_0 : List UInt8 := [42, 42, 180, 0, 223, 181, 0, 226, 42, 42, 180, 0, 226, 182, 0, 229, 16, 32, 160, 0, 16, 42, 89]
abbrev dktX13_token_0 : List UInt8 := dkwX13_token_0 ++ dktX13_token_1
theorem dksX13_token_0 : cX13_token.data.toList.drop 0 = dktX13_token_0 := by decide +kernel
theorem dksX13_token_1 : cX13_token.data.toList.drop 23 = dktX13_token_1 := dk_seg dksX13_token_0 23 rfl rfl
theorem dksX13_token_2 : cX13_token.data.toList.drop 45 = dktX13_token_2 := dk_seg dksX13_token_1 22 rfl rfl
theorem dksX13_token_3 : cX13_token.data.toList.drop 69 = dktX13_token_3 := dk_seg dksX13_token_2 24 rfl rfl
theorem dksX13_token_4 : cX13_token.data.toList.drop 92 = dktX13_token_4 := dk_seg dksX13_token_3 23 rfl rfl
theorem dksX13_token_5 : cX13_token.data.toList.drop 116 = dktX13_token_5 := dk_seg dksX13_token_4 24 rfl rfl
theorem dksX13_token_6 : cX13_token.data.toList.drop 139 = dktX13_token_6 := dk_seg dksX13_token_5 23 rfl rfl
theorem dksX13_token_7 : cX13_token.data.toList.drop 162 = dktX13_token_7 := dk_seg dksX13_token_6 23 rfl rfl
theorem dksX13_token_8 : cX13_token.data.toList.drop 185 = dktX13_token_8 := dk_seg dksX13_token_7 23 rfl rfl
theorem dX13_token_0 : decode cX13_token 0 = .ok (.aload_n 0, 1) := dk_42 (dk_at dksX13_token_0 0 rfl rfl)
theorem dX13_token_1 : decode cX13_token 1 = .ok (.aload_n 0, 1) := dk_42 (dk_at dksX13_token_0 1 rfl rfl)
theorem dX13_token_2 : decode cX13_token 2 = .ok (.getfield 223, 3) := dk_180 0 223 (dk_at dksX13_token_0 2 rfl rfl)
theorem dX13_token_5 : decode cX13_token 5 = .ok (.putfield 226, 3) := dk_181 0 226 (dk_at dksX13_token_0 5 rfl rfl)
theorem dX13_token_8 : decode cX13_token 8 = .ok (.aload_n 0, 1) := dk_42 (dk_at dksX13_token_0 8 rfl rfl)
theorem dX13_token_9 : decode cX13_token 9 = .ok (.aload_n 0, 1) := dk_42 (dk_at dksX13_token_0 9 rfl rfl)
theorem dX13_token_10 : decode cX13_token 10 = .ok (.getfield 226, 3) := dk_180 0 226 (dk_at dksX13_token_0 10 rfl rfl)
theorem dX13_token_13 : decode cX13_token 13 = .ok (.invokevirtual 229, 3) := dk_182 0 229 (dk_at dksX13_token_0 13 rfl rfl)
theorem dX13_token_16 : decode cX13_token 16 = .ok (.bipush 32, 2) := dk_16 32 (dk_at dksX13_token_0 16 rfl rfl)
theorem dX13_token_18 : decode cX13_token 18 = .ok (.if_icmp .ne 16, 3) := dk_160 0 16 (dk_at dksX13_token_0 18 rfl rfl)
theorem dX13_token_21 : decode cX13_token 21 = .ok (.aload_n 0, 1) := dk_42 (dk_at dksX13_token_0 21 rfl rfl)
theorem dX13_token_22 : decode cX13_token 22 = .ok (.dup, 1) := dk_89 (dk_at dksX13_token_0 22 rfl rfl)
theorem dX13_token_23 : decode cX13_token 23 = .ok (.getfield 226, 3) := dk_180 0 226 (dk_at dksX13_token_1 0 rfl rfl)
theorem dX13_token_26 : decode cX13_token 26 = .ok (.iconst 1, 1) := dk_4 (dk_at dksX13_token_1 3 rfl rfl)
theorem dX13_token_27 : decode cX13_token 27 = .ok (.iadd, 1) := dk_96 (dk_at dksX13_token_1 4 rfl rfl)
theorem dX13_token_28 : decode cX13_token 28 = .ok (.putfield 226, 3) := dk_181 0 226 (dk_at dksX13_token_1 5 rfl rfl)
theorem dX13_token_31 : decode cX13_token 31 = .ok (.goto (-23), 3) := dk_167 255 233 (dk_at dksX13_token_1 8 rfl rfl)
theorem dX13_token_34 : decode cX13_token 34 = .ok (.aload_n 0, 1) := dk_42 (dk_at dksX13_token_1 11 rfl rfl)
theorem dX13_token_35 : decode cX13_token 35 = .ok (.aload_n 0, 1) := dk_42 (dk_at dksX13_token_1 12 rfl rfl)
theorem dX13_token_36 : decode cX13_token 36 = .ok (.getfield 226, 3) := dk_180 0 226 (dk_at dksX13_token_1 13 rfl rfl)
theorem dX13_token_39 : decode cX13_token 39 = .ok (.invokevirtual 229, 3) := dk_182 0 229 (dk_at dksX13_token_1 16 rfl rfl)
theorem dX13_token_42 : decode cX13_token 42 = .ok (.istore_n 1, 1) := dk_60 (dk_at dksX13_token_1 19 rfl rfl)
theorem dX13_token_43 : decode cX13_token 43 = .ok (.aload_n 0, 1) := dk_42 (dk_at dksX13_token_1 20 rfl rfl)
theorem dX13_token_44 : decode cX13_token 44 = .ok (.aload_n 0, 1) := dk_42 (dk_at dksX13_token_1 21 rfl rfl)
theorem dX13_token_45 : decode cX13_token 45 = .ok (.getfield 226, 3) := dk_180 0 226 (dk_at dksX13_token_2 0 rfl rfl)
theorem dX13_token_48 : decode cX13_token 48 = .ok (.putfield 223, 3) := dk_181 0 223 (dk_at dksX13_token_2 3 rfl rfl)
theorem dX13_token_51 : decode cX13_token 51 = .ok (.aload_n 0, 1) := dk_42 (dk_at dksX13_token_2 6 rfl rfl)
theorem dX13_token_52 : decode cX13_token 52 = .ok (.iconst 0, 1) := dk_3 (dk_at dksX13_token_2 7 rfl rfl)
theorem dX13_token_53 : decode cX13_token 53 = .ok (.putfield 232, 3) := dk_181 0 232 (dk_at dksX13_token_2 8 rfl rfl)
theorem dX13_token_56 : decode cX13_token 56 = .ok (.iload_n 1, 1) := dk_27 (dk_at dksX13_token_2 11 rfl rfl)
theorem dX13_token_57 : decode cX13_token 57 = .ok (.ifCond .ge 11, 3) := dk_156 0 11 (dk_at dksX13_token_2 12 rfl rfl)
theorem dX13_token_60 : decode cX13_token 60 = .ok (.aload_n 0, 1) := dk_42 (dk_at dksX13_token_2 15 rfl rfl)
theorem dX13_token_61 : decode cX13_token 61 = .ok (.iconst 0, 1) := dk_3 (dk_at dksX13_token_2 16 rfl rfl)
theorem dX13_token_62 : decode cX13_token 62 = .ok (.putfield 235, 3) := dk_181 0 235 (dk_at dksX13_token_2 17 rfl rfl)
theorem dX13_token_65 : decode cX13_token 65 = .ok (.goto 141, 3) := dk_167 0 141 (dk_at dksX13_token_2 20 rfl rfl)
theorem dX13_token_68 : decode cX13_token 68 = .ok (.iload_n 1, 1) := dk_27 (dk_at dksX13_token_2 23 rfl rfl)
theorem dX13_token_69 : decode cX13_token 69 = .ok (.bipush 97, 2) := dk_16 97 (dk_at dksX13_token_3 0 rfl rfl)
theorem dX13_token_71 : decode cX13_token 71 = .ok (.bipush 122, 2) := dk_16 122 (dk_at dksX13_token_3 2 rfl rfl)
theorem dX13_token_73 : decode cX13_token 73 = .ok (.invokestatic 76, 3) := dk_184 0 76 (dk_at dksX13_token_3 4 rfl rfl)
theorem dX13_token_76 : decode cX13_token 76 = .ok (.ifCond .eq 39, 3) := dk_153 0 39 (dk_at dksX13_token_3 7 rfl rfl)
theorem dX13_token_79 : decode cX13_token 79 = .ok (.aload_n 0, 1) := dk_42 (dk_at dksX13_token_3 10 rfl rfl)
theorem dX13_token_80 : decode cX13_token 80 = .ok (.iconst 1, 1) := dk_4 (dk_at dksX13_token_3 11 rfl rfl)
theorem dX13_token_81 : decode cX13_token 81 = .ok (.putfield 235, 3) := dk_181 0 235 (dk_at dksX13_token_3 12 rfl rfl)
theorem dX13_token_84 : decode cX13_token 84 = .ok (.aload_n 0, 1) := dk_42 (dk_at dksX13_token_3 15 rfl rfl)
theorem dX13_token_85 : decode cX13_token 85 = .ok (.aload_n 0, 1) := dk_42 (dk_at dksX13_token_3 16 rfl rfl)
theorem dX13_token_86 : decode cX13_token 86 = .ok (.getfield 223, 3) := dk_180 0 223 (dk_at dksX13_token_3 17 rfl rfl)
theorem dX13_token_89 : decode cX13_token 89 = .ok (.invokevirtual 229, 3) := dk_182 0 229 (dk_at dksX13_token_3 20 rfl rfl)
theorem dX13_token_92 : decode cX13_token 92 = .ok (.bipush 97, 2) := dk_16 97 (dk_at dksX13_token_4 0 rfl rfl)
theorem dX13_token_94 : decode cX13_token 94 = .ok (.bipush 122, 2) := dk_16 122 (dk_at dksX13_token_4 2 rfl rfl)
theorem dX13_token_96 : decode cX13_token 96 = .ok (.invokestatic 76, 3) := dk_184 0 76 (dk_at dksX13_token_4 4 rfl rfl)
theorem dX13_token_99 : decode cX13_token 99 = .ok (.ifCond .eq 107, 3) := dk_153 0 107 (dk_at dksX13_token_4 7 rfl rfl)
theorem dX13_token_102 : decode cX13_token 102 = .ok (.aload_n 0, 1) := dk_42 (dk_at dksX13_token_4 10 rfl rfl)
theorem dX13_token_103 : decode cX13_token 103 = .ok (.dup, 1) := dk_89 (dk_at dksX13_token_4 11 rfl rfl)
theorem dX13_token_104 : decode cX13_token 104 = .ok (.getfield 223, 3) := dk_180 0 223 (dk_at dksX13_token_4 12 rfl rfl)
theorem dX13_token_107 : decode cX13_token 107 = .ok (.iconst 1, 1) := dk_4 (dk_at dksX13_token_4 15 rfl rfl)
theorem dX13_token_108 : decode cX13_token 108 = .ok (.iadd, 1) := dk_96 (dk_at dksX13_token_4 16 rfl rfl)
theorem dX13_token_109 : decode cX13_token 109 = .ok (.putfield 223, 3) := dk_181 0 223 (dk_at dksX13_token_4 17 rfl rfl)
theorem dX13_token_112 : decode cX13_token 112 = .ok (.goto (-28), 3) := dk_167 255 228 (dk_at dksX13_token_4 20 rfl rfl)
theorem dX13_token_115 : decode cX13_token 115 = .ok (.iload_n 1, 1) := dk_27 (dk_at dksX13_token_4 23 rfl rfl)
theorem dX13_token_116 : decode cX13_token 116 = .ok (.bipush 48, 2) := dk_16 48 (dk_at dksX13_token_5 0 rfl rfl)
theorem dX13_token_118 : decode cX13_token 118 = .ok (.bipush 57, 2) := dk_16 57 (dk_at dksX13_token_5 2 rfl rfl)
theorem dX13_token_120 : decode cX13_token 120 = .ok (.invokestatic 76, 3) := dk_184 0 76 (dk_at dksX13_token_5 4 rfl rfl)
theorem dX13_token_123 : decode cX13_token 123 = .ok (.ifCond .eq 68, 3) := dk_153 0 68 (dk_at dksX13_token_5 7 rfl rfl)
theorem dX13_token_126 : decode cX13_token 126 = .ok (.aload_n 0, 1) := dk_42 (dk_at dksX13_token_5 10 rfl rfl)
theorem dX13_token_127 : decode cX13_token 127 = .ok (.iconst 2, 1) := dk_5 (dk_at dksX13_token_5 11 rfl rfl)
theorem dX13_token_128 : decode cX13_token 128 = .ok (.putfield 235, 3) := dk_181 0 235 (dk_at dksX13_token_5 12 rfl rfl)
theorem dX13_token_131 : decode cX13_token 131 = .ok (.aload_n 0, 1) := dk_42 (dk_at dksX13_token_5 15 rfl rfl)
theorem dX13_token_132 : decode cX13_token 132 = .ok (.aload_n 0, 1) := dk_42 (dk_at dksX13_token_5 16 rfl rfl)
theorem dX13_token_133 : decode cX13_token 133 = .ok (.getfield 223, 3) := dk_180 0 223 (dk_at dksX13_token_5 17 rfl rfl)
theorem dX13_token_136 : decode cX13_token 136 = .ok (.invokevirtual 229, 3) := dk_182 0 229 (dk_at dksX13_token_5 20 rfl rfl)
theorem dX13_token_139 : decode cX13_token 139 = .ok (.bipush 48, 2) := dk_16 48 (dk_at dksX13_token_6 0 rfl rfl)
theorem dX13_token_141 : decode cX13_token 141 = .ok (.bipush 57, 2) := dk_16 57 (dk_at dksX13_token_6 2 rfl rfl)
theorem dX13_token_143 : decode cX13_token 143 = .ok (.invokestatic 76, 3) := dk_184 0 76 (dk_at dksX13_token_6 4 rfl rfl)
theorem dX13_token_146 : decode cX13_token 146 = .ok (.ifCond .eq 60, 3) := dk_153 0 60 (dk_at dksX13_token_6 7 rfl rfl)
theorem dX13_token_149 : decode cX13_token 149 = .ok (.aload_n 0, 1) := dk_42 (dk_at dksX13_token_6 10 rfl rfl)
theorem dX13_token_150 : decode cX13_token 150 = .ok (.sipush 1000, 3) := dk_17 3 232 (dk_at dksX13_token_6 11 rfl rfl)
theorem dX13_token_153 : decode cX13_token 153 = .ok (.bipush 10, 2) := dk_16 10 (dk_at dksX13_token_6 14 rfl rfl)
theorem dX13_token_155 : decode cX13_token 155 = .ok (.aload_n 0, 1) := dk_42 (dk_at dksX13_token_6 16 rfl rfl)
theorem dX13_token_156 : decode cX13_token 156 = .ok (.getfield 232, 3) := dk_180 0 232 (dk_at dksX13_token_6 17 rfl rfl)
theorem dX13_token_159 : decode cX13_token 159 = .ok (.imul, 1) := dk_104 (dk_at dksX13_token_6 20 rfl rfl)
theorem dX13_token_160 : decode cX13_token 160 = .ok (.aload_n 0, 1) := dk_42 (dk_at dksX13_token_6 21 rfl rfl)
theorem dX13_token_161 : decode cX13_token 161 = .ok (.aload_n 0, 1) := dk_42 (dk_at dksX13_token_6 22 rfl rfl)
theorem dX13_token_162 : decode cX13_token 162 = .ok (.getfield 223, 3) := dk_180 0 223 (dk_at dksX13_token_7 0 rfl rfl)
theorem dX13_token_165 : decode cX13_token 165 = .ok (.invokevirtual 229, 3) := dk_182 0 229 (dk_at dksX13_token_7 3 rfl rfl)
theorem dX13_token_168 : decode cX13_token 168 = .ok (.iadd, 1) := dk_96 (dk_at dksX13_token_7 6 rfl rfl)
theorem dX13_token_169 : decode cX13_token 169 = .ok (.bipush 48, 2) := dk_16 48 (dk_at dksX13_token_7 7 rfl rfl)
theorem dX13_token_171 : decode cX13_token 171 = .ok (.isub, 1) := dk_100 (dk_at dksX13_token_7 9 rfl rfl)
theorem dX13_token_172 : decode cX13_token 172 = .ok (.invokestatic 144, 3) := dk_184 0 144 (dk_at dksX13_token_7 10 rfl rfl)
theorem dX13_token_175 : decode cX13_token 175 = .ok (.putfield 232, 3) := dk_181 0 232 (dk_at dksX13_token_7 13 rfl rfl)
theorem dX13_token_178 : decode cX13_token 178 = .ok (.aload_n 0, 1) := dk_42 (dk_at dksX13_token_7 16 rfl rfl)
theorem dX13_token_179 : decode cX13_token 179 = .ok (.dup, 1) := dk_89 (dk_at dksX13_token_7 17 rfl rfl)
theorem dX13_token_180 : decode cX13_token 180 = .ok (.getfield 223, 3) := dk_180 0 223 (dk_at dksX13_token_7 18 rfl rfl)
theorem dX13_token_183 : decode cX13_token 183 = .ok (.iconst 1, 1) := dk_4 (dk_at dksX13_token_7 21 rfl rfl)
theorem dX13_token_184 : decode cX13_token 184 = .ok (.iadd, 1) := dk_96 (dk_at dksX13_token_7 22 rfl rfl)
theorem dX13_token_185 : decode cX13_token 185 = .ok (.putfield 223, 3) := dk_181 0 223 (dk_at dksX13_token_8 0 rfl rfl)
theorem dX13_token_188 : decode cX13_token 188 = .ok (.goto (-57), 3) := dk_167 255 199 (dk_at dksX13_token_8 3 rfl rfl)
theorem dX13_token_191 : decode cX13_token 191 = .ok (.aload_n 0, 1) := dk_42 (dk_at dksX13_token_8 6 rfl rfl)
theorem dX13_token_192 : decode cX13_token 192 = .ok (.iconst 3, 1) := dk_6 (dk_at dksX13_token_8 7 rfl rfl)
theorem dX13_token_193 : decode cX13_token 193 = .ok (.putfield 235, 3) := dk_181 0 235 (dk_at dksX13_token_8 8 rfl rfl)
theorem dX13_token_196 : decode cX13_token 196 = .ok (.aload_n 0, 1) := dk_42 (dk_at dksX13_token_8 11 rfl rfl)
theorem dX13_token_197 : decode cX13_token 197 = .ok (.dup, 1) := dk_89 (dk_at dksX13_token_8 12 rfl rfl)
theorem dX13_token_198 : decode cX13_token 198 = .ok (.getfield 223, 3) := dk_180 0 223 (dk_at dksX13_token_8 13 rfl rfl)
theorem dX13_token_201 : decode cX13_token 201 = .ok (.iconst 1, 1) := dk_4 (dk_at dksX13_token_8 16 rfl rfl)
theorem dX13_token_202 : decode cX13_token 202 = .ok (.iadd, 1) := dk_96 (dk_at dksX13_token_8 17 rfl rfl)
theorem dX13_token_203 : decode cX13_token 203 = .ok (.putfield 223, 3) := dk_181 0 223 (dk_at dksX13_token_8 18 rfl rfl)
theorem dX13_token_206 : decode cX13_token 206 = .ok (.return_, 1) := dk_177 (dk_at dksX13_token_8 21 rfl rfl)
abbrev cX13_byteAt : ByteArray := prog_16_method_73_code
def yX13_byteAt : MethodName := ⟨RX13, "byteAt", "(I)I"⟩
def dkwX13_byteAt_0 : List UInt8 := [27, 42, 180, 0, 220, 162, 0, 12, 42, 180, 0, 22, 27, 46, 167, 0, 4, 2, 172]
abbrev dktX13_byteAt_0 : List UInt8 := dkwX13_byteAt_0 ++ []
theorem dksX13_byteAt_0 : cX13_byteAt.data.toList.drop 0 = dktX13_byteAt_0 := by decide +kernel
theorem dX13_byteAt_0 : decode cX13_byteAt 0 = .ok (.iload_n 1, 1) := dk_27 (dk_at dksX13_byteAt_0 0 rfl rfl)
theorem dX13_byteAt_1 : decode cX13_byteAt 1 = .ok (.aload_n 0, 1) := dk_42 (dk_at dksX13_byteAt_0 1 rfl rfl)
theorem dX13_byteAt_2 : decode cX13_byteAt 2 = .ok (.getfield 220, 3) := dk_180 0 220 (dk_at dksX13_byteAt_0 2 rfl rfl)
theorem dX13_byteAt_5 : decode cX13_byteAt 5 = .ok (.if_icmp .ge 12, 3) := dk_162 0 12 (dk_at dksX13_byteAt_0 5 rfl rfl)
theorem dX13_byteAt_8 : decode cX13_byteAt 8 = .ok (.aload_n 0, 1) := dk_42 (dk_at dksX13_byteAt_0 8 rfl rfl)
theorem dX13_byteAt_9 : decode cX13_byteAt 9 = .ok (.getfield 22, 3) := dk_180 0 22 (dk_at dksX13_byteAt_0 9 rfl rfl)
theorem dX13_byteAt_12 : decode cX13_byteAt 12 = .ok (.iload_n 1, 1) := dk_27 (dk_at dksX13_byteAt_0 12 rfl rfl)
theorem dX13_byteAt_13 : decode cX13_byteAt 13 = .ok (.iaload, 1) := dk_46 (dk_at dksX13_byteAt_0 13 rfl rfl)
theorem dX13_byteAt_14 : decode cX13_byteAt 14 = .ok (.goto 4, 3) := dk_167 0 4 (dk_at dksX13_byteAt_0 14 rfl rfl)
theorem dX13_byteAt_17 : decode cX13_byteAt 17 = .ok (.iconst (-1), 1) := dk_2 (dk_at dksX13_byteAt_0 17 rfl rfl)
theorem dX13_byteAt_18 : decode cX13_byteAt 18 = .ok (.ireturn, 1) := dk_172 (dk_at dksX13_byteAt_0 18 rfl rfl)
abbrev cX13_readItem : ByteArray := prog_16_method_82_code
def yX13_readItem : MethodName := ⟨RX13, "readItem", "()V"⟩
def dkwX13_readItem_8 : List UInt8 := [3, 16, 9, 182, 1, 23, 3, 182, 1, 26, 167, 0, 8, 42, 3, 182, 0, 252, 177]
abbrev dktX13_readItem_8 : List UInt8 := dkwX13_readItem_8 ++ []
def dkwX13_readItem_7 : List UInt8 := [182, 1, 23, 3, 182, 1, 26, 167, 0, 35, 42, 19, 1, 41, 182, 1, 15, 153, 0, 20, 42, 16, 14, 42]
abbrev dktX13_readItem_7 : List UInt8 := dkwX13_readItem_7 ++ dktX13_readItem_8
def dkwX13_readItem_6 : List UInt8 := [182, 1, 26, 167, 0, 62, 42, 19, 1, 39, 182, 1, 15, 153, 0, 20, 42, 16, 13, 42, 3, 16, 9]
abbrev dktX13_readItem_6 : List UInt8 := dkwX13_readItem_6 ++ dktX13_readItem_7
def dkwX13_readItem_5 : List UInt8 := [167, 0, 88, 42, 19, 1, 37, 182, 1, 15, 153, 0, 19, 42, 16, 12, 42, 3, 7, 182, 1, 23, 3]
abbrev dktX13_readItem_5 : List UInt8 := dkwX13_readItem_5 ++ dktX13_readItem_6
def dkwX13_readItem_4 : List UInt8 := [42, 3, 8, 182, 1, 23, 61, 42, 16, 11, 28, 42, 3, 17, 3, 231, 182, 1, 23, 182, 1, 26]
abbrev dktX13_readItem_4 : List UInt8 := dkwX13_readItem_4 ++ dktX13_readItem_5
def dkwX13_readItem_3 : List UInt8 := [28, 42, 3, 16, 99, 182, 1, 23, 182, 1, 26, 167, 0, 123, 42, 19, 1, 35, 182, 1, 15, 153, 0, 28]
abbrev dktX13_readItem_3 : List UInt8 := dkwX13_readItem_3 ++ dktX13_readItem_4
def dkwX13_readItem_2 : List UInt8 := [167, 0, 158, 42, 19, 1, 33, 182, 1, 15, 153, 0, 28, 42, 3, 16, 6, 182, 1, 23, 61, 42, 16, 10]
abbrev dktX13_readItem_2 : List UInt8 := dkwX13_readItem_2 ++ dktX13_readItem_3
def dkwX13_readItem_1 : List UInt8 := [153, 0, 7, 28, 167, 0, 4, 27, 60, 132, 2, 1, 167, 255, 225, 27, 155, 0, 11, 42, 27, 182, 1, 30]
abbrev dktX13_readItem_1 : List UInt8 := dkwX13_readItem_1 ++ dktX13_readItem_2
def dkwX13_readItem_0 : List UInt8 := [2, 60, 3, 61, 28, 42, 180, 0, 41, 190, 162, 0, 28, 42, 42, 180, 0, 41, 28, 50, 182, 1, 3]
abbrev dktX13_readItem_0 : List UInt8 := dkwX13_readItem_0 ++ dktX13_readItem_1
theorem dksX13_readItem_0 : cX13_readItem.data.toList.drop 0 = dktX13_readItem_0 := by decide +kernel
theorem dksX13_readItem_1 : cX13_readItem.data.toList.drop 23 = dktX13_readItem_1 := dk_seg dksX13_readItem_0 23 rfl rfl
theorem dksX13_readItem_2 : cX13_readItem.data.toList.drop 47 = dktX13_readItem_2 := dk_seg dksX13_readItem_1 24 rfl rfl
theorem dksX13_readItem_3 : cX13_readItem.data.toList.drop 71 = dktX13_readItem_3 := dk_seg dksX13_readItem_2 24 rfl rfl
theorem dksX13_readItem_4 : cX13_readItem.data.toList.drop 95 = dktX13_readItem_4 := dk_seg dksX13_readItem_3 24 rfl rfl
theorem dksX13_readItem_5 : cX13_readItem.data.toList.drop 117 = dktX13_readItem_5 := dk_seg dksX13_readItem_4 22 rfl rfl
theorem dksX13_readItem_6 : cX13_readItem.data.toList.drop 140 = dktX13_readItem_6 := dk_seg dksX13_readItem_5 23 rfl rfl
theorem dksX13_readItem_7 : cX13_readItem.data.toList.drop 163 = dktX13_readItem_7 := dk_seg dksX13_readItem_6 23 rfl rfl
theorem dksX13_readItem_8 : cX13_readItem.data.toList.drop 187 = dktX13_readItem_8 := dk_seg dksX13_readItem_7 24 rfl rfl
theorem dX13_readItem_0 : decode cX13_readItem 0 = .ok (.iconst (-1), 1) := dk_2 (dk_at dksX13_readItem_0 0 rfl rfl)
theorem dX13_readItem_1 : decode cX13_readItem 1 = .ok (.istore_n 1, 1) := dk_60 (dk_at dksX13_readItem_0 1 rfl rfl)
theorem dX13_readItem_2 : decode cX13_readItem 2 = .ok (.iconst 0, 1) := dk_3 (dk_at dksX13_readItem_0 2 rfl rfl)
theorem dX13_readItem_3 : decode cX13_readItem 3 = .ok (.istore_n 2, 1) := dk_61 (dk_at dksX13_readItem_0 3 rfl rfl)
theorem dX13_readItem_4 : decode cX13_readItem 4 = .ok (.iload_n 2, 1) := dk_28 (dk_at dksX13_readItem_0 4 rfl rfl)
theorem dX13_readItem_5 : decode cX13_readItem 5 = .ok (.aload_n 0, 1) := dk_42 (dk_at dksX13_readItem_0 5 rfl rfl)
theorem dX13_readItem_6 : decode cX13_readItem 6 = .ok (.getfield 41, 3) := dk_180 0 41 (dk_at dksX13_readItem_0 6 rfl rfl)
theorem dX13_readItem_9 : decode cX13_readItem 9 = .ok (.arraylength, 1) := dk_190 (dk_at dksX13_readItem_0 9 rfl rfl)
theorem dX13_readItem_10 : decode cX13_readItem 10 = .ok (.if_icmp .ge 28, 3) := dk_162 0 28 (dk_at dksX13_readItem_0 10 rfl rfl)
theorem dX13_readItem_13 : decode cX13_readItem 13 = .ok (.aload_n 0, 1) := dk_42 (dk_at dksX13_readItem_0 13 rfl rfl)
theorem dX13_readItem_14 : decode cX13_readItem 14 = .ok (.aload_n 0, 1) := dk_42 (dk_at dksX13_readItem_0 14 rfl rfl)
theorem dX13_readItem_15 : decode cX13_readItem 15 = .ok (.getfield 41, 3) := dk_180 0 41 (dk_at dksX13_readItem_0 15 rfl rfl)
theorem dX13_readItem_18 : decode cX13_readItem 18 = .ok (.iload_n 2, 1) := dk_28 (dk_at dksX13_readItem_0 18 rfl rfl)
theorem dX13_readItem_19 : decode cX13_readItem 19 = .ok (.aaload, 1) := dk_50 (dk_at dksX13_readItem_0 19 rfl rfl)
theorem dX13_readItem_20 : decode cX13_readItem 20 = .ok (.invokevirtual 259, 3) := dk_182 1 3 (dk_at dksX13_readItem_0 20 rfl rfl)
theorem dX13_readItem_23 : decode cX13_readItem 23 = .ok (.ifCond .eq 7, 3) := dk_153 0 7 (dk_at dksX13_readItem_1 0 rfl rfl)
theorem dX13_readItem_26 : decode cX13_readItem 26 = .ok (.iload_n 2, 1) := dk_28 (dk_at dksX13_readItem_1 3 rfl rfl)
theorem dX13_readItem_27 : decode cX13_readItem 27 = .ok (.goto 4, 3) := dk_167 0 4 (dk_at dksX13_readItem_1 4 rfl rfl)
theorem dX13_readItem_30 : decode cX13_readItem 30 = .ok (.iload_n 1, 1) := dk_27 (dk_at dksX13_readItem_1 7 rfl rfl)
theorem dX13_readItem_31 : decode cX13_readItem 31 = .ok (.istore_n 1, 1) := dk_60 (dk_at dksX13_readItem_1 8 rfl rfl)
theorem dX13_readItem_32 : decode cX13_readItem 32 = .ok (.iinc 2 1, 3) := dk_132 2 1 (dk_at dksX13_readItem_1 9 rfl rfl)
theorem dX13_readItem_35 : decode cX13_readItem 35 = .ok (.goto (-31), 3) := dk_167 255 225 (dk_at dksX13_readItem_1 12 rfl rfl)
theorem dX13_readItem_38 : decode cX13_readItem 38 = .ok (.iload_n 1, 1) := dk_27 (dk_at dksX13_readItem_1 15 rfl rfl)
theorem dX13_readItem_39 : decode cX13_readItem 39 = .ok (.ifCond .lt 11, 3) := dk_155 0 11 (dk_at dksX13_readItem_1 16 rfl rfl)
theorem dX13_readItem_42 : decode cX13_readItem 42 = .ok (.aload_n 0, 1) := dk_42 (dk_at dksX13_readItem_1 19 rfl rfl)
theorem dX13_readItem_43 : decode cX13_readItem 43 = .ok (.iload_n 1, 1) := dk_27 (dk_at dksX13_readItem_1 20 rfl rfl)
theorem dX13_readItem_44 : decode cX13_readItem 44 = .ok (.invokevirtual 286, 3) := dk_182 1 30 (dk_at dksX13_readItem_1 21 rfl rfl)
theorem dX13_readItem_47 : decode cX13_readItem 47 = .ok (.goto 158, 3) := dk_167 0 158 (dk_at dksX13_readItem_2 0 rfl rfl)
theorem dX13_readItem_50 : decode cX13_readItem 50 = .ok (.aload_n 0, 1) := dk_42 (dk_at dksX13_readItem_2 3 rfl rfl)
theorem dX13_readItem_51 : decode cX13_readItem 51 = .ok (.ldc_w 289, 3) := dk_19 1 33 (dk_at dksX13_readItem_2 4 rfl rfl)
theorem dX13_readItem_54 : decode cX13_readItem 54 = .ok (.invokevirtual 271, 3) := dk_182 1 15 (dk_at dksX13_readItem_2 7 rfl rfl)
theorem dX13_readItem_57 : decode cX13_readItem 57 = .ok (.ifCond .eq 28, 3) := dk_153 0 28 (dk_at dksX13_readItem_2 10 rfl rfl)
theorem dX13_readItem_60 : decode cX13_readItem 60 = .ok (.aload_n 0, 1) := dk_42 (dk_at dksX13_readItem_2 13 rfl rfl)
theorem dX13_readItem_61 : decode cX13_readItem 61 = .ok (.iconst 0, 1) := dk_3 (dk_at dksX13_readItem_2 14 rfl rfl)
theorem dX13_readItem_62 : decode cX13_readItem 62 = .ok (.bipush 6, 2) := dk_16 6 (dk_at dksX13_readItem_2 15 rfl rfl)
theorem dX13_readItem_64 : decode cX13_readItem 64 = .ok (.invokevirtual 279, 3) := dk_182 1 23 (dk_at dksX13_readItem_2 17 rfl rfl)
theorem dX13_readItem_67 : decode cX13_readItem 67 = .ok (.istore_n 2, 1) := dk_61 (dk_at dksX13_readItem_2 20 rfl rfl)
theorem dX13_readItem_68 : decode cX13_readItem 68 = .ok (.aload_n 0, 1) := dk_42 (dk_at dksX13_readItem_2 21 rfl rfl)
theorem dX13_readItem_69 : decode cX13_readItem 69 = .ok (.bipush 10, 2) := dk_16 10 (dk_at dksX13_readItem_2 22 rfl rfl)
theorem dX13_readItem_71 : decode cX13_readItem 71 = .ok (.iload_n 2, 1) := dk_28 (dk_at dksX13_readItem_3 0 rfl rfl)
theorem dX13_readItem_72 : decode cX13_readItem 72 = .ok (.aload_n 0, 1) := dk_42 (dk_at dksX13_readItem_3 1 rfl rfl)
theorem dX13_readItem_73 : decode cX13_readItem 73 = .ok (.iconst 0, 1) := dk_3 (dk_at dksX13_readItem_3 2 rfl rfl)
theorem dX13_readItem_74 : decode cX13_readItem 74 = .ok (.bipush 99, 2) := dk_16 99 (dk_at dksX13_readItem_3 3 rfl rfl)
theorem dX13_readItem_76 : decode cX13_readItem 76 = .ok (.invokevirtual 279, 3) := dk_182 1 23 (dk_at dksX13_readItem_3 5 rfl rfl)
theorem dX13_readItem_79 : decode cX13_readItem 79 = .ok (.invokevirtual 282, 3) := dk_182 1 26 (dk_at dksX13_readItem_3 8 rfl rfl)
theorem dX13_readItem_82 : decode cX13_readItem 82 = .ok (.goto 123, 3) := dk_167 0 123 (dk_at dksX13_readItem_3 11 rfl rfl)
theorem dX13_readItem_85 : decode cX13_readItem 85 = .ok (.aload_n 0, 1) := dk_42 (dk_at dksX13_readItem_3 14 rfl rfl)
theorem dX13_readItem_86 : decode cX13_readItem 86 = .ok (.ldc_w 291, 3) := dk_19 1 35 (dk_at dksX13_readItem_3 15 rfl rfl)
theorem dX13_readItem_89 : decode cX13_readItem 89 = .ok (.invokevirtual 271, 3) := dk_182 1 15 (dk_at dksX13_readItem_3 18 rfl rfl)
theorem dX13_readItem_92 : decode cX13_readItem 92 = .ok (.ifCond .eq 28, 3) := dk_153 0 28 (dk_at dksX13_readItem_3 21 rfl rfl)
theorem dX13_readItem_95 : decode cX13_readItem 95 = .ok (.aload_n 0, 1) := dk_42 (dk_at dksX13_readItem_4 0 rfl rfl)
theorem dX13_readItem_96 : decode cX13_readItem 96 = .ok (.iconst 0, 1) := dk_3 (dk_at dksX13_readItem_4 1 rfl rfl)
theorem dX13_readItem_97 : decode cX13_readItem 97 = .ok (.iconst 5, 1) := dk_8 (dk_at dksX13_readItem_4 2 rfl rfl)
theorem dX13_readItem_98 : decode cX13_readItem 98 = .ok (.invokevirtual 279, 3) := dk_182 1 23 (dk_at dksX13_readItem_4 3 rfl rfl)
theorem dX13_readItem_101 : decode cX13_readItem 101 = .ok (.istore_n 2, 1) := dk_61 (dk_at dksX13_readItem_4 6 rfl rfl)
theorem dX13_readItem_102 : decode cX13_readItem 102 = .ok (.aload_n 0, 1) := dk_42 (dk_at dksX13_readItem_4 7 rfl rfl)
theorem dX13_readItem_103 : decode cX13_readItem 103 = .ok (.bipush 11, 2) := dk_16 11 (dk_at dksX13_readItem_4 8 rfl rfl)
theorem dX13_readItem_105 : decode cX13_readItem 105 = .ok (.iload_n 2, 1) := dk_28 (dk_at dksX13_readItem_4 10 rfl rfl)
theorem dX13_readItem_106 : decode cX13_readItem 106 = .ok (.aload_n 0, 1) := dk_42 (dk_at dksX13_readItem_4 11 rfl rfl)
theorem dX13_readItem_107 : decode cX13_readItem 107 = .ok (.iconst 0, 1) := dk_3 (dk_at dksX13_readItem_4 12 rfl rfl)
theorem dX13_readItem_108 : decode cX13_readItem 108 = .ok (.sipush 999, 3) := dk_17 3 231 (dk_at dksX13_readItem_4 13 rfl rfl)
theorem dX13_readItem_111 : decode cX13_readItem 111 = .ok (.invokevirtual 279, 3) := dk_182 1 23 (dk_at dksX13_readItem_4 16 rfl rfl)
theorem dX13_readItem_114 : decode cX13_readItem 114 = .ok (.invokevirtual 282, 3) := dk_182 1 26 (dk_at dksX13_readItem_4 19 rfl rfl)
theorem dX13_readItem_117 : decode cX13_readItem 117 = .ok (.goto 88, 3) := dk_167 0 88 (dk_at dksX13_readItem_5 0 rfl rfl)
theorem dX13_readItem_120 : decode cX13_readItem 120 = .ok (.aload_n 0, 1) := dk_42 (dk_at dksX13_readItem_5 3 rfl rfl)
theorem dX13_readItem_121 : decode cX13_readItem 121 = .ok (.ldc_w 293, 3) := dk_19 1 37 (dk_at dksX13_readItem_5 4 rfl rfl)
theorem dX13_readItem_124 : decode cX13_readItem 124 = .ok (.invokevirtual 271, 3) := dk_182 1 15 (dk_at dksX13_readItem_5 7 rfl rfl)
theorem dX13_readItem_127 : decode cX13_readItem 127 = .ok (.ifCond .eq 19, 3) := dk_153 0 19 (dk_at dksX13_readItem_5 10 rfl rfl)
theorem dX13_readItem_130 : decode cX13_readItem 130 = .ok (.aload_n 0, 1) := dk_42 (dk_at dksX13_readItem_5 13 rfl rfl)
theorem dX13_readItem_131 : decode cX13_readItem 131 = .ok (.bipush 12, 2) := dk_16 12 (dk_at dksX13_readItem_5 14 rfl rfl)
theorem dX13_readItem_133 : decode cX13_readItem 133 = .ok (.aload_n 0, 1) := dk_42 (dk_at dksX13_readItem_5 16 rfl rfl)
theorem dX13_readItem_134 : decode cX13_readItem 134 = .ok (.iconst 0, 1) := dk_3 (dk_at dksX13_readItem_5 17 rfl rfl)
theorem dX13_readItem_135 : decode cX13_readItem 135 = .ok (.iconst 4, 1) := dk_7 (dk_at dksX13_readItem_5 18 rfl rfl)
theorem dX13_readItem_136 : decode cX13_readItem 136 = .ok (.invokevirtual 279, 3) := dk_182 1 23 (dk_at dksX13_readItem_5 19 rfl rfl)
theorem dX13_readItem_139 : decode cX13_readItem 139 = .ok (.iconst 0, 1) := dk_3 (dk_at dksX13_readItem_5 22 rfl rfl)
theorem dX13_readItem_140 : decode cX13_readItem 140 = .ok (.invokevirtual 282, 3) := dk_182 1 26 (dk_at dksX13_readItem_6 0 rfl rfl)
theorem dX13_readItem_143 : decode cX13_readItem 143 = .ok (.goto 62, 3) := dk_167 0 62 (dk_at dksX13_readItem_6 3 rfl rfl)
theorem dX13_readItem_146 : decode cX13_readItem 146 = .ok (.aload_n 0, 1) := dk_42 (dk_at dksX13_readItem_6 6 rfl rfl)
theorem dX13_readItem_147 : decode cX13_readItem 147 = .ok (.ldc_w 295, 3) := dk_19 1 39 (dk_at dksX13_readItem_6 7 rfl rfl)
theorem dX13_readItem_150 : decode cX13_readItem 150 = .ok (.invokevirtual 271, 3) := dk_182 1 15 (dk_at dksX13_readItem_6 10 rfl rfl)
theorem dX13_readItem_153 : decode cX13_readItem 153 = .ok (.ifCond .eq 20, 3) := dk_153 0 20 (dk_at dksX13_readItem_6 13 rfl rfl)
theorem dX13_readItem_156 : decode cX13_readItem 156 = .ok (.aload_n 0, 1) := dk_42 (dk_at dksX13_readItem_6 16 rfl rfl)
theorem dX13_readItem_157 : decode cX13_readItem 157 = .ok (.bipush 13, 2) := dk_16 13 (dk_at dksX13_readItem_6 17 rfl rfl)
theorem dX13_readItem_159 : decode cX13_readItem 159 = .ok (.aload_n 0, 1) := dk_42 (dk_at dksX13_readItem_6 19 rfl rfl)
theorem dX13_readItem_160 : decode cX13_readItem 160 = .ok (.iconst 0, 1) := dk_3 (dk_at dksX13_readItem_6 20 rfl rfl)
theorem dX13_readItem_161 : decode cX13_readItem 161 = .ok (.bipush 9, 2) := dk_16 9 (dk_at dksX13_readItem_6 21 rfl rfl)
theorem dX13_readItem_163 : decode cX13_readItem 163 = .ok (.invokevirtual 279, 3) := dk_182 1 23 (dk_at dksX13_readItem_7 0 rfl rfl)
theorem dX13_readItem_166 : decode cX13_readItem 166 = .ok (.iconst 0, 1) := dk_3 (dk_at dksX13_readItem_7 3 rfl rfl)
theorem dX13_readItem_167 : decode cX13_readItem 167 = .ok (.invokevirtual 282, 3) := dk_182 1 26 (dk_at dksX13_readItem_7 4 rfl rfl)
theorem dX13_readItem_170 : decode cX13_readItem 170 = .ok (.goto 35, 3) := dk_167 0 35 (dk_at dksX13_readItem_7 7 rfl rfl)
theorem dX13_readItem_173 : decode cX13_readItem 173 = .ok (.aload_n 0, 1) := dk_42 (dk_at dksX13_readItem_7 10 rfl rfl)
theorem dX13_readItem_174 : decode cX13_readItem 174 = .ok (.ldc_w 297, 3) := dk_19 1 41 (dk_at dksX13_readItem_7 11 rfl rfl)
theorem dX13_readItem_177 : decode cX13_readItem 177 = .ok (.invokevirtual 271, 3) := dk_182 1 15 (dk_at dksX13_readItem_7 14 rfl rfl)
theorem dX13_readItem_180 : decode cX13_readItem 180 = .ok (.ifCond .eq 20, 3) := dk_153 0 20 (dk_at dksX13_readItem_7 17 rfl rfl)
theorem dX13_readItem_183 : decode cX13_readItem 183 = .ok (.aload_n 0, 1) := dk_42 (dk_at dksX13_readItem_7 20 rfl rfl)
theorem dX13_readItem_184 : decode cX13_readItem 184 = .ok (.bipush 14, 2) := dk_16 14 (dk_at dksX13_readItem_7 21 rfl rfl)
theorem dX13_readItem_186 : decode cX13_readItem 186 = .ok (.aload_n 0, 1) := dk_42 (dk_at dksX13_readItem_7 23 rfl rfl)
theorem dX13_readItem_187 : decode cX13_readItem 187 = .ok (.iconst 0, 1) := dk_3 (dk_at dksX13_readItem_8 0 rfl rfl)
theorem dX13_readItem_188 : decode cX13_readItem 188 = .ok (.bipush 9, 2) := dk_16 9 (dk_at dksX13_readItem_8 1 rfl rfl)
theorem dX13_readItem_190 : decode cX13_readItem 190 = .ok (.invokevirtual 279, 3) := dk_182 1 23 (dk_at dksX13_readItem_8 3 rfl rfl)
theorem dX13_readItem_193 : decode cX13_readItem 193 = .ok (.iconst 0, 1) := dk_3 (dk_at dksX13_readItem_8 6 rfl rfl)
theorem dX13_readItem_194 : decode cX13_readItem 194 = .ok (.invokevirtual 282, 3) := dk_182 1 26 (dk_at dksX13_readItem_8 7 rfl rfl)
theorem dX13_readItem_197 : decode cX13_readItem 197 = .ok (.goto 8, 3) := dk_167 0 8 (dk_at dksX13_readItem_8 10 rfl rfl)
theorem dX13_readItem_200 : decode cX13_readItem 200 = .ok (.aload_n 0, 1) := dk_42 (dk_at dksX13_readItem_8 13 rfl rfl)
theorem dX13_readItem_201 : decode cX13_readItem 201 = .ok (.iconst 0, 1) := dk_3 (dk_at dksX13_readItem_8 14 rfl rfl)
theorem dX13_readItem_202 : decode cX13_readItem 202 = .ok (.invokevirtual 252, 3) := dk_182 0 252 (dk_at dksX13_readItem_8 15 rfl rfl)
theorem dX13_readItem_205 : decode cX13_readItem 205 = .ok (.return_, 1) := dk_177 (dk_at dksX13_readItem_8 18 rfl rfl)
abbrev cX13_isWord : ByteArray := prog_16_method_75_code
def yX13_isWord : MethodName := ⟨RX13, "isWord", "(Ljava/lang/String;)Z"⟩
def dkwX13_isWord_3 : List UInt8 := [167, 255, 216, 28, 172]
abbrev dktX13_isWord_3 : List UInt8 := dkwX13_isWord_3 ++ []
def dkwX13_isWord_2 : List UInt8 := [42, 180, 0, 226, 29, 96, 46, 43, 29, 182, 0, 241, 160, 0, 7, 4, 167, 0, 4, 3, 61, 132, 3, 1]
abbrev dktX13_isWord_2 : List UInt8 := dkwX13_isWord_2 ++ dktX13_isWord_3
def dkwX13_isWord_1 : List UInt8 := [4, 167, 0, 4, 3, 61, 3, 62, 29, 43, 182, 0, 238, 162, 0, 38, 28, 153, 0, 34, 42, 180, 0, 22]
abbrev dktX13_isWord_1 : List UInt8 := dkwX13_isWord_1 ++ dktX13_isWord_2
def dkwX13_isWord_0 : List UInt8 := [42, 180, 0, 235, 4, 160, 0, 23, 42, 180, 0, 223, 42, 180, 0, 226, 100, 43, 182, 0, 238, 160, 0, 7]
abbrev dktX13_isWord_0 : List UInt8 := dkwX13_isWord_0 ++ dktX13_isWord_1
theorem dksX13_isWord_0 : cX13_isWord.data.toList.drop 0 = dktX13_isWord_0 := by decide +kernel
theorem dksX13_isWord_1 : cX13_isWord.data.toList.drop 24 = dktX13_isWord_1 := dk_seg dksX13_isWord_0 24 rfl rfl
theorem dksX13_isWord_2 : cX13_isWord.data.toList.drop 48 = dktX13_isWord_2 := dk_seg dksX13_isWord_1 24 rfl rfl
theorem dksX13_isWord_3 : cX13_isWord.data.toList.drop 72 = dktX13_isWord_3 := dk_seg dksX13_isWord_2 24 rfl rfl
theorem dX13_isWord_0 : decode cX13_isWord 0 = .ok (.aload_n 0, 1) := dk_42 (dk_at dksX13_isWord_0 0 rfl rfl)
theorem dX13_isWord_1 : decode cX13_isWord 1 = .ok (.getfield 235, 3) := dk_180 0 235 (dk_at dksX13_isWord_0 1 rfl rfl)
theorem dX13_isWord_4 : decode cX13_isWord 4 = .ok (.iconst 1, 1) := dk_4 (dk_at dksX13_isWord_0 4 rfl rfl)
theorem dX13_isWord_5 : decode cX13_isWord 5 = .ok (.if_icmp .ne 23, 3) := dk_160 0 23 (dk_at dksX13_isWord_0 5 rfl rfl)
theorem dX13_isWord_8 : decode cX13_isWord 8 = .ok (.aload_n 0, 1) := dk_42 (dk_at dksX13_isWord_0 8 rfl rfl)
theorem dX13_isWord_9 : decode cX13_isWord 9 = .ok (.getfield 223, 3) := dk_180 0 223 (dk_at dksX13_isWord_0 9 rfl rfl)
theorem dX13_isWord_12 : decode cX13_isWord 12 = .ok (.aload_n 0, 1) := dk_42 (dk_at dksX13_isWord_0 12 rfl rfl)
theorem dX13_isWord_13 : decode cX13_isWord 13 = .ok (.getfield 226, 3) := dk_180 0 226 (dk_at dksX13_isWord_0 13 rfl rfl)
theorem dX13_isWord_16 : decode cX13_isWord 16 = .ok (.isub, 1) := dk_100 (dk_at dksX13_isWord_0 16 rfl rfl)
theorem dX13_isWord_17 : decode cX13_isWord 17 = .ok (.aload_n 1, 1) := dk_43 (dk_at dksX13_isWord_0 17 rfl rfl)
theorem dX13_isWord_18 : decode cX13_isWord 18 = .ok (.invokevirtual 238, 3) := dk_182 0 238 (dk_at dksX13_isWord_0 18 rfl rfl)
theorem dX13_isWord_21 : decode cX13_isWord 21 = .ok (.if_icmp .ne 7, 3) := dk_160 0 7 (dk_at dksX13_isWord_0 21 rfl rfl)
theorem dX13_isWord_24 : decode cX13_isWord 24 = .ok (.iconst 1, 1) := dk_4 (dk_at dksX13_isWord_1 0 rfl rfl)
theorem dX13_isWord_25 : decode cX13_isWord 25 = .ok (.goto 4, 3) := dk_167 0 4 (dk_at dksX13_isWord_1 1 rfl rfl)
theorem dX13_isWord_28 : decode cX13_isWord 28 = .ok (.iconst 0, 1) := dk_3 (dk_at dksX13_isWord_1 4 rfl rfl)
theorem dX13_isWord_29 : decode cX13_isWord 29 = .ok (.istore_n 2, 1) := dk_61 (dk_at dksX13_isWord_1 5 rfl rfl)
theorem dX13_isWord_30 : decode cX13_isWord 30 = .ok (.iconst 0, 1) := dk_3 (dk_at dksX13_isWord_1 6 rfl rfl)
theorem dX13_isWord_31 : decode cX13_isWord 31 = .ok (.istore_n 3, 1) := dk_62 (dk_at dksX13_isWord_1 7 rfl rfl)
theorem dX13_isWord_32 : decode cX13_isWord 32 = .ok (.iload_n 3, 1) := dk_29 (dk_at dksX13_isWord_1 8 rfl rfl)
theorem dX13_isWord_33 : decode cX13_isWord 33 = .ok (.aload_n 1, 1) := dk_43 (dk_at dksX13_isWord_1 9 rfl rfl)
theorem dX13_isWord_34 : decode cX13_isWord 34 = .ok (.invokevirtual 238, 3) := dk_182 0 238 (dk_at dksX13_isWord_1 10 rfl rfl)
theorem dX13_isWord_37 : decode cX13_isWord 37 = .ok (.if_icmp .ge 38, 3) := dk_162 0 38 (dk_at dksX13_isWord_1 13 rfl rfl)
theorem dX13_isWord_40 : decode cX13_isWord 40 = .ok (.iload_n 2, 1) := dk_28 (dk_at dksX13_isWord_1 16 rfl rfl)
theorem dX13_isWord_41 : decode cX13_isWord 41 = .ok (.ifCond .eq 34, 3) := dk_153 0 34 (dk_at dksX13_isWord_1 17 rfl rfl)
theorem dX13_isWord_44 : decode cX13_isWord 44 = .ok (.aload_n 0, 1) := dk_42 (dk_at dksX13_isWord_1 20 rfl rfl)
theorem dX13_isWord_45 : decode cX13_isWord 45 = .ok (.getfield 22, 3) := dk_180 0 22 (dk_at dksX13_isWord_1 21 rfl rfl)
theorem dX13_isWord_48 : decode cX13_isWord 48 = .ok (.aload_n 0, 1) := dk_42 (dk_at dksX13_isWord_2 0 rfl rfl)
theorem dX13_isWord_49 : decode cX13_isWord 49 = .ok (.getfield 226, 3) := dk_180 0 226 (dk_at dksX13_isWord_2 1 rfl rfl)
theorem dX13_isWord_52 : decode cX13_isWord 52 = .ok (.iload_n 3, 1) := dk_29 (dk_at dksX13_isWord_2 4 rfl rfl)
theorem dX13_isWord_53 : decode cX13_isWord 53 = .ok (.iadd, 1) := dk_96 (dk_at dksX13_isWord_2 5 rfl rfl)
theorem dX13_isWord_54 : decode cX13_isWord 54 = .ok (.iaload, 1) := dk_46 (dk_at dksX13_isWord_2 6 rfl rfl)
theorem dX13_isWord_55 : decode cX13_isWord 55 = .ok (.aload_n 1, 1) := dk_43 (dk_at dksX13_isWord_2 7 rfl rfl)
theorem dX13_isWord_56 : decode cX13_isWord 56 = .ok (.iload_n 3, 1) := dk_29 (dk_at dksX13_isWord_2 8 rfl rfl)
theorem dX13_isWord_57 : decode cX13_isWord 57 = .ok (.invokevirtual 241, 3) := dk_182 0 241 (dk_at dksX13_isWord_2 9 rfl rfl)
theorem dX13_isWord_60 : decode cX13_isWord 60 = .ok (.if_icmp .ne 7, 3) := dk_160 0 7 (dk_at dksX13_isWord_2 12 rfl rfl)
theorem dX13_isWord_63 : decode cX13_isWord 63 = .ok (.iconst 1, 1) := dk_4 (dk_at dksX13_isWord_2 15 rfl rfl)
theorem dX13_isWord_64 : decode cX13_isWord 64 = .ok (.goto 4, 3) := dk_167 0 4 (dk_at dksX13_isWord_2 16 rfl rfl)
theorem dX13_isWord_67 : decode cX13_isWord 67 = .ok (.iconst 0, 1) := dk_3 (dk_at dksX13_isWord_2 19 rfl rfl)
theorem dX13_isWord_68 : decode cX13_isWord 68 = .ok (.istore_n 2, 1) := dk_61 (dk_at dksX13_isWord_2 20 rfl rfl)
theorem dX13_isWord_69 : decode cX13_isWord 69 = .ok (.iinc 3 1, 3) := dk_132 3 1 (dk_at dksX13_isWord_2 21 rfl rfl)
theorem dX13_isWord_72 : decode cX13_isWord 72 = .ok (.goto (-40), 3) := dk_167 255 216 (dk_at dksX13_isWord_3 0 rfl rfl)
theorem dX13_isWord_75 : decode cX13_isWord 75 = .ok (.iload_n 2, 1) := dk_28 (dk_at dksX13_isWord_3 3 rfl rfl)
theorem dX13_isWord_76 : decode cX13_isWord 76 = .ok (.ireturn, 1) := dk_172 (dk_at dksX13_isWord_3 4 rfl rfl)
abbrev cX13_readJumper : ByteArray := prog_16_method_81_code
def yX13_readJumper : MethodName := ⟨RX13, "readJumper", "(I)V"⟩
def dkwX13_readJumper_4 : List UInt8 := [180, 1, 10, 4, 96, 181, 1, 10, 177]
abbrev dktX13_readJumper_4 : List UInt8 := dkwX13_readJumper_4 ++ []
def dkwX13_readJumper_3 : List UInt8 := [42, 3, 16, 99, 182, 1, 23, 167, 0, 5, 16, 50, 62, 42, 27, 28, 29, 182, 1, 26, 42, 89]
abbrev dktX13_readJumper_3 : List UInt8 := dkwX13_readJumper_3 ++ dktX13_readJumper_4
def dkwX13_readJumper_2 : List UInt8 := [153, 0, 9, 4, 28, 120, 167, 0, 4, 3, 128, 181, 1, 7, 42, 19, 1, 21, 182, 1, 15, 153, 0, 13]
abbrev dktX13_readJumper_2 : List UInt8 := dkwX13_readJumper_2 ++ dktX13_readJumper_3
def dkwX13_readJumper_1 : List UInt8 := [182, 1, 15, 153, 0, 10, 42, 182, 1, 18, 167, 0, 4, 2, 61, 42, 89, 180, 1, 7, 28, 184, 0, 83]
abbrev dktX13_readJumper_1 : List UInt8 := dkwX13_readJumper_1 ++ dktX13_readJumper_2
def dkwX13_readJumper_0 : List UInt8 := [42, 42, 180, 1, 10, 16, 8, 162, 0, 7, 4, 167, 0, 4, 3, 182, 0, 252, 42, 19, 1, 13]
abbrev dktX13_readJumper_0 : List UInt8 := dkwX13_readJumper_0 ++ dktX13_readJumper_1
theorem dksX13_readJumper_0 : cX13_readJumper.data.toList.drop 0 = dktX13_readJumper_0 := by decide +kernel
theorem dksX13_readJumper_1 : cX13_readJumper.data.toList.drop 22 = dktX13_readJumper_1 := dk_seg dksX13_readJumper_0 22 rfl rfl
theorem dksX13_readJumper_2 : cX13_readJumper.data.toList.drop 46 = dktX13_readJumper_2 := dk_seg dksX13_readJumper_1 24 rfl rfl
theorem dksX13_readJumper_3 : cX13_readJumper.data.toList.drop 70 = dktX13_readJumper_3 := dk_seg dksX13_readJumper_2 24 rfl rfl
theorem dksX13_readJumper_4 : cX13_readJumper.data.toList.drop 92 = dktX13_readJumper_4 := dk_seg dksX13_readJumper_3 22 rfl rfl
theorem dX13_readJumper_0 : decode cX13_readJumper 0 = .ok (.aload_n 0, 1) := dk_42 (dk_at dksX13_readJumper_0 0 rfl rfl)
theorem dX13_readJumper_1 : decode cX13_readJumper 1 = .ok (.aload_n 0, 1) := dk_42 (dk_at dksX13_readJumper_0 1 rfl rfl)
theorem dX13_readJumper_2 : decode cX13_readJumper 2 = .ok (.getfield 266, 3) := dk_180 1 10 (dk_at dksX13_readJumper_0 2 rfl rfl)
theorem dX13_readJumper_5 : decode cX13_readJumper 5 = .ok (.bipush 8, 2) := dk_16 8 (dk_at dksX13_readJumper_0 5 rfl rfl)
theorem dX13_readJumper_7 : decode cX13_readJumper 7 = .ok (.if_icmp .ge 7, 3) := dk_162 0 7 (dk_at dksX13_readJumper_0 7 rfl rfl)
theorem dX13_readJumper_10 : decode cX13_readJumper 10 = .ok (.iconst 1, 1) := dk_4 (dk_at dksX13_readJumper_0 10 rfl rfl)
theorem dX13_readJumper_11 : decode cX13_readJumper 11 = .ok (.goto 4, 3) := dk_167 0 4 (dk_at dksX13_readJumper_0 11 rfl rfl)
theorem dX13_readJumper_14 : decode cX13_readJumper 14 = .ok (.iconst 0, 1) := dk_3 (dk_at dksX13_readJumper_0 14 rfl rfl)
theorem dX13_readJumper_15 : decode cX13_readJumper 15 = .ok (.invokevirtual 252, 3) := dk_182 0 252 (dk_at dksX13_readJumper_0 15 rfl rfl)
theorem dX13_readJumper_18 : decode cX13_readJumper 18 = .ok (.aload_n 0, 1) := dk_42 (dk_at dksX13_readJumper_0 18 rfl rfl)
theorem dX13_readJumper_19 : decode cX13_readJumper 19 = .ok (.ldc_w 269, 3) := dk_19 1 13 (dk_at dksX13_readJumper_0 19 rfl rfl)
theorem dX13_readJumper_22 : decode cX13_readJumper 22 = .ok (.invokevirtual 271, 3) := dk_182 1 15 (dk_at dksX13_readJumper_1 0 rfl rfl)
theorem dX13_readJumper_25 : decode cX13_readJumper 25 = .ok (.ifCond .eq 10, 3) := dk_153 0 10 (dk_at dksX13_readJumper_1 3 rfl rfl)
theorem dX13_readJumper_28 : decode cX13_readJumper 28 = .ok (.aload_n 0, 1) := dk_42 (dk_at dksX13_readJumper_1 6 rfl rfl)
theorem dX13_readJumper_29 : decode cX13_readJumper 29 = .ok (.invokevirtual 274, 3) := dk_182 1 18 (dk_at dksX13_readJumper_1 7 rfl rfl)
theorem dX13_readJumper_32 : decode cX13_readJumper 32 = .ok (.goto 4, 3) := dk_167 0 4 (dk_at dksX13_readJumper_1 10 rfl rfl)
theorem dX13_readJumper_35 : decode cX13_readJumper 35 = .ok (.iconst (-1), 1) := dk_2 (dk_at dksX13_readJumper_1 13 rfl rfl)
theorem dX13_readJumper_36 : decode cX13_readJumper 36 = .ok (.istore_n 2, 1) := dk_61 (dk_at dksX13_readJumper_1 14 rfl rfl)
theorem dX13_readJumper_37 : decode cX13_readJumper 37 = .ok (.aload_n 0, 1) := dk_42 (dk_at dksX13_readJumper_1 15 rfl rfl)
theorem dX13_readJumper_38 : decode cX13_readJumper 38 = .ok (.dup, 1) := dk_89 (dk_at dksX13_readJumper_1 16 rfl rfl)
theorem dX13_readJumper_39 : decode cX13_readJumper 39 = .ok (.getfield 263, 3) := dk_180 1 7 (dk_at dksX13_readJumper_1 17 rfl rfl)
theorem dX13_readJumper_42 : decode cX13_readJumper 42 = .ok (.iload_n 2, 1) := dk_28 (dk_at dksX13_readJumper_1 20 rfl rfl)
theorem dX13_readJumper_43 : decode cX13_readJumper 43 = .ok (.invokestatic 83, 3) := dk_184 0 83 (dk_at dksX13_readJumper_1 21 rfl rfl)
theorem dX13_readJumper_46 : decode cX13_readJumper 46 = .ok (.ifCond .eq 9, 3) := dk_153 0 9 (dk_at dksX13_readJumper_2 0 rfl rfl)
theorem dX13_readJumper_49 : decode cX13_readJumper 49 = .ok (.iconst 1, 1) := dk_4 (dk_at dksX13_readJumper_2 3 rfl rfl)
theorem dX13_readJumper_50 : decode cX13_readJumper 50 = .ok (.iload_n 2, 1) := dk_28 (dk_at dksX13_readJumper_2 4 rfl rfl)
theorem dX13_readJumper_51 : decode cX13_readJumper 51 = .ok (.ishl, 1) := dk_120 (dk_at dksX13_readJumper_2 5 rfl rfl)
theorem dX13_readJumper_52 : decode cX13_readJumper 52 = .ok (.goto 4, 3) := dk_167 0 4 (dk_at dksX13_readJumper_2 6 rfl rfl)
theorem dX13_readJumper_55 : decode cX13_readJumper 55 = .ok (.iconst 0, 1) := dk_3 (dk_at dksX13_readJumper_2 9 rfl rfl)
theorem dX13_readJumper_56 : decode cX13_readJumper 56 = .ok (.ior, 1) := dk_128 (dk_at dksX13_readJumper_2 10 rfl rfl)
theorem dX13_readJumper_57 : decode cX13_readJumper 57 = .ok (.putfield 263, 3) := dk_181 1 7 (dk_at dksX13_readJumper_2 11 rfl rfl)
theorem dX13_readJumper_60 : decode cX13_readJumper 60 = .ok (.aload_n 0, 1) := dk_42 (dk_at dksX13_readJumper_2 14 rfl rfl)
theorem dX13_readJumper_61 : decode cX13_readJumper 61 = .ok (.ldc_w 277, 3) := dk_19 1 21 (dk_at dksX13_readJumper_2 15 rfl rfl)
theorem dX13_readJumper_64 : decode cX13_readJumper 64 = .ok (.invokevirtual 271, 3) := dk_182 1 15 (dk_at dksX13_readJumper_2 18 rfl rfl)
theorem dX13_readJumper_67 : decode cX13_readJumper 67 = .ok (.ifCond .eq 13, 3) := dk_153 0 13 (dk_at dksX13_readJumper_2 21 rfl rfl)
theorem dX13_readJumper_70 : decode cX13_readJumper 70 = .ok (.aload_n 0, 1) := dk_42 (dk_at dksX13_readJumper_3 0 rfl rfl)
theorem dX13_readJumper_71 : decode cX13_readJumper 71 = .ok (.iconst 0, 1) := dk_3 (dk_at dksX13_readJumper_3 1 rfl rfl)
theorem dX13_readJumper_72 : decode cX13_readJumper 72 = .ok (.bipush 99, 2) := dk_16 99 (dk_at dksX13_readJumper_3 2 rfl rfl)
theorem dX13_readJumper_74 : decode cX13_readJumper 74 = .ok (.invokevirtual 279, 3) := dk_182 1 23 (dk_at dksX13_readJumper_3 4 rfl rfl)
theorem dX13_readJumper_77 : decode cX13_readJumper 77 = .ok (.goto 5, 3) := dk_167 0 5 (dk_at dksX13_readJumper_3 7 rfl rfl)
theorem dX13_readJumper_80 : decode cX13_readJumper 80 = .ok (.bipush 50, 2) := dk_16 50 (dk_at dksX13_readJumper_3 10 rfl rfl)
theorem dX13_readJumper_82 : decode cX13_readJumper 82 = .ok (.istore_n 3, 1) := dk_62 (dk_at dksX13_readJumper_3 12 rfl rfl)
theorem dX13_readJumper_83 : decode cX13_readJumper 83 = .ok (.aload_n 0, 1) := dk_42 (dk_at dksX13_readJumper_3 13 rfl rfl)
theorem dX13_readJumper_84 : decode cX13_readJumper 84 = .ok (.iload_n 1, 1) := dk_27 (dk_at dksX13_readJumper_3 14 rfl rfl)
theorem dX13_readJumper_85 : decode cX13_readJumper 85 = .ok (.iload_n 2, 1) := dk_28 (dk_at dksX13_readJumper_3 15 rfl rfl)
theorem dX13_readJumper_86 : decode cX13_readJumper 86 = .ok (.iload_n 3, 1) := dk_29 (dk_at dksX13_readJumper_3 16 rfl rfl)
theorem dX13_readJumper_87 : decode cX13_readJumper 87 = .ok (.invokevirtual 282, 3) := dk_182 1 26 (dk_at dksX13_readJumper_3 17 rfl rfl)
theorem dX13_readJumper_90 : decode cX13_readJumper 90 = .ok (.aload_n 0, 1) := dk_42 (dk_at dksX13_readJumper_3 20 rfl rfl)
theorem dX13_readJumper_91 : decode cX13_readJumper 91 = .ok (.dup, 1) := dk_89 (dk_at dksX13_readJumper_3 21 rfl rfl)
theorem dX13_readJumper_92 : decode cX13_readJumper 92 = .ok (.getfield 266, 3) := dk_180 1 10 (dk_at dksX13_readJumper_4 0 rfl rfl)
theorem dX13_readJumper_95 : decode cX13_readJumper 95 = .ok (.iconst 1, 1) := dk_4 (dk_at dksX13_readJumper_4 3 rfl rfl)
theorem dX13_readJumper_96 : decode cX13_readJumper 96 = .ok (.iadd, 1) := dk_96 (dk_at dksX13_readJumper_4 4 rfl rfl)
theorem dX13_readJumper_97 : decode cX13_readJumper 97 = .ok (.putfield 266, 3) := dk_181 1 10 (dk_at dksX13_readJumper_4 5 rfl rfl)
theorem dX13_readJumper_100 : decode cX13_readJumper 100 = .ok (.return_, 1) := dk_177 (dk_at dksX13_readJumper_4 8 rfl rfl)
abbrev cX13_must : ByteArray := prog_16_method_76_code
def yX13_must : MethodName := ⟨RX13, "must", "(Z)V"⟩
def dkwX13_must_1 : List UInt8 := [154, 0, 7, 42, 182, 0, 249, 177]
abbrev dktX13_must_1 : List UInt8 := dkwX13_must_1 ++ []
def dkwX13_must_0 : List UInt8 := [42, 42, 180, 0, 245, 154, 0, 7, 27, 154, 0, 7, 4, 167, 0, 4, 3, 181, 0, 245, 42, 180, 0, 245]
abbrev dktX13_must_0 : List UInt8 := dkwX13_must_0 ++ dktX13_must_1
theorem dksX13_must_0 : cX13_must.data.toList.drop 0 = dktX13_must_0 := by decide +kernel
theorem dksX13_must_1 : cX13_must.data.toList.drop 24 = dktX13_must_1 := dk_seg dksX13_must_0 24 rfl rfl
theorem dX13_must_0 : decode cX13_must 0 = .ok (.aload_n 0, 1) := dk_42 (dk_at dksX13_must_0 0 rfl rfl)
theorem dX13_must_1 : decode cX13_must 1 = .ok (.aload_n 0, 1) := dk_42 (dk_at dksX13_must_0 1 rfl rfl)
theorem dX13_must_2 : decode cX13_must 2 = .ok (.getfield 245, 3) := dk_180 0 245 (dk_at dksX13_must_0 2 rfl rfl)
theorem dX13_must_5 : decode cX13_must 5 = .ok (.ifCond .ne 7, 3) := dk_154 0 7 (dk_at dksX13_must_0 5 rfl rfl)
theorem dX13_must_8 : decode cX13_must 8 = .ok (.iload_n 1, 1) := dk_27 (dk_at dksX13_must_0 8 rfl rfl)
theorem dX13_must_9 : decode cX13_must 9 = .ok (.ifCond .ne 7, 3) := dk_154 0 7 (dk_at dksX13_must_0 9 rfl rfl)
theorem dX13_must_12 : decode cX13_must 12 = .ok (.iconst 1, 1) := dk_4 (dk_at dksX13_must_0 12 rfl rfl)
theorem dX13_must_13 : decode cX13_must 13 = .ok (.goto 4, 3) := dk_167 0 4 (dk_at dksX13_must_0 13 rfl rfl)
theorem dX13_must_16 : decode cX13_must 16 = .ok (.iconst 0, 1) := dk_3 (dk_at dksX13_must_0 16 rfl rfl)
theorem dX13_must_17 : decode cX13_must 17 = .ok (.putfield 245, 3) := dk_181 0 245 (dk_at dksX13_must_0 17 rfl rfl)
theorem dX13_must_20 : decode cX13_must 20 = .ok (.aload_n 0, 1) := dk_42 (dk_at dksX13_must_0 20 rfl rfl)
theorem dX13_must_21 : decode cX13_must 21 = .ok (.getfield 245, 3) := dk_180 0 245 (dk_at dksX13_must_0 21 rfl rfl)
theorem dX13_must_24 : decode cX13_must 24 = .ok (.ifCond .ne 7, 3) := dk_154 0 7 (dk_at dksX13_must_1 0 rfl rfl)
theorem dX13_must_27 : decode cX13_must 27 = .ok (.aload_n 0, 1) := dk_42 (dk_at dksX13_must_1 3 rfl rfl)
theorem dX13_must_28 : decode cX13_must 28 = .ok (.invokevirtual 249, 3) := dk_182 0 249 (dk_at dksX13_must_1 4 rfl rfl)
theorem dX13_must_31 : decode cX13_must 31 = .ok (.return_, 1) := dk_177 (dk_at dksX13_must_1 7 rfl rfl)
abbrev cX13_takesWord : ByteArray := prog_16_method_79_code
def yX13_takesWord : MethodName := ⟨RX13, "takesWord", "(Ljava/lang/String;)Z"⟩
def dkwX13_takesWord_1 : List UInt8 := [153, 0, 8, 42, 4, 182, 0, 252, 28, 172]
abbrev dktX13_takesWord_1 : List UInt8 := dkwX13_takesWord_1 ++ []
def dkwX13_takesWord_0 : List UInt8 := [42, 180, 0, 245, 154, 0, 15, 42, 43, 182, 1, 3, 153, 0, 7, 4, 167, 0, 4, 3, 61, 28]
abbrev dktX13_takesWord_0 : List UInt8 := dkwX13_takesWord_0 ++ dktX13_takesWord_1
theorem dksX13_takesWord_0 : cX13_takesWord.data.toList.drop 0 = dktX13_takesWord_0 := by decide +kernel
theorem dksX13_takesWord_1 : cX13_takesWord.data.toList.drop 22 = dktX13_takesWord_1 := dk_seg dksX13_takesWord_0 22 rfl rfl
theorem dX13_takesWord_0 : decode cX13_takesWord 0 = .ok (.aload_n 0, 1) := dk_42 (dk_at dksX13_takesWord_0 0 rfl rfl)
theorem dX13_takesWord_1 : decode cX13_takesWord 1 = .ok (.getfield 245, 3) := dk_180 0 245 (dk_at dksX13_takesWord_0 1 rfl rfl)
theorem dX13_takesWord_4 : decode cX13_takesWord 4 = .ok (.ifCond .ne 15, 3) := dk_154 0 15 (dk_at dksX13_takesWord_0 4 rfl rfl)
theorem dX13_takesWord_7 : decode cX13_takesWord 7 = .ok (.aload_n 0, 1) := dk_42 (dk_at dksX13_takesWord_0 7 rfl rfl)
theorem dX13_takesWord_8 : decode cX13_takesWord 8 = .ok (.aload_n 1, 1) := dk_43 (dk_at dksX13_takesWord_0 8 rfl rfl)
theorem dX13_takesWord_9 : decode cX13_takesWord 9 = .ok (.invokevirtual 259, 3) := dk_182 1 3 (dk_at dksX13_takesWord_0 9 rfl rfl)
theorem dX13_takesWord_12 : decode cX13_takesWord 12 = .ok (.ifCond .eq 7, 3) := dk_153 0 7 (dk_at dksX13_takesWord_0 12 rfl rfl)
theorem dX13_takesWord_15 : decode cX13_takesWord 15 = .ok (.iconst 1, 1) := dk_4 (dk_at dksX13_takesWord_0 15 rfl rfl)
theorem dX13_takesWord_16 : decode cX13_takesWord 16 = .ok (.goto 4, 3) := dk_167 0 4 (dk_at dksX13_takesWord_0 16 rfl rfl)
theorem dX13_takesWord_19 : decode cX13_takesWord 19 = .ok (.iconst 0, 1) := dk_3 (dk_at dksX13_takesWord_0 19 rfl rfl)
theorem dX13_takesWord_20 : decode cX13_takesWord 20 = .ok (.istore_n 2, 1) := dk_61 (dk_at dksX13_takesWord_0 20 rfl rfl)
theorem dX13_takesWord_21 : decode cX13_takesWord 21 = .ok (.iload_n 2, 1) := dk_28 (dk_at dksX13_takesWord_0 21 rfl rfl)
theorem dX13_takesWord_22 : decode cX13_takesWord 22 = .ok (.ifCond .eq 8, 3) := dk_153 0 8 (dk_at dksX13_takesWord_1 0 rfl rfl)
theorem dX13_takesWord_25 : decode cX13_takesWord 25 = .ok (.aload_n 0, 1) := dk_42 (dk_at dksX13_takesWord_1 3 rfl rfl)
theorem dX13_takesWord_26 : decode cX13_takesWord 26 = .ok (.iconst 1, 1) := dk_4 (dk_at dksX13_takesWord_1 4 rfl rfl)
theorem dX13_takesWord_27 : decode cX13_takesWord 27 = .ok (.invokevirtual 252, 3) := dk_182 0 252 (dk_at dksX13_takesWord_1 5 rfl rfl)
theorem dX13_takesWord_30 : decode cX13_takesWord 30 = .ok (.iload_n 2, 1) := dk_28 (dk_at dksX13_takesWord_1 8 rfl rfl)
theorem dX13_takesWord_31 : decode cX13_takesWord 31 = .ok (.ireturn, 1) := dk_172 (dk_at dksX13_takesWord_1 9 rfl rfl)
abbrev cX13_freePlace : ByteArray := prog_16_method_80_code
def yX13_freePlace : MethodName := ⟨RX13, "freePlace", "()I"⟩
def dkwX13_freePlace_1 : List UInt8 := [180, 1, 7, 27, 184, 0, 163, 154, 0, 7, 4, 167, 0, 4, 3, 182, 0, 252, 27, 172]
abbrev dktX13_freePlace_1 : List UInt8 := dkwX13_freePlace_1 ++ []
def dkwX13_freePlace_0 : List UInt8 := [42, 180, 0, 232, 60, 42, 42, 180, 0, 235, 5, 160, 0, 25, 27, 184, 0, 83, 153, 0, 18, 42]
abbrev dktX13_freePlace_0 : List UInt8 := dkwX13_freePlace_0 ++ dktX13_freePlace_1
theorem dksX13_freePlace_0 : cX13_freePlace.data.toList.drop 0 = dktX13_freePlace_0 := by decide +kernel
theorem dksX13_freePlace_1 : cX13_freePlace.data.toList.drop 22 = dktX13_freePlace_1 := dk_seg dksX13_freePlace_0 22 rfl rfl
theorem dX13_freePlace_0 : decode cX13_freePlace 0 = .ok (.aload_n 0, 1) := dk_42 (dk_at dksX13_freePlace_0 0 rfl rfl)
theorem dX13_freePlace_1 : decode cX13_freePlace 1 = .ok (.getfield 232, 3) := dk_180 0 232 (dk_at dksX13_freePlace_0 1 rfl rfl)
theorem dX13_freePlace_4 : decode cX13_freePlace 4 = .ok (.istore_n 1, 1) := dk_60 (dk_at dksX13_freePlace_0 4 rfl rfl)
theorem dX13_freePlace_5 : decode cX13_freePlace 5 = .ok (.aload_n 0, 1) := dk_42 (dk_at dksX13_freePlace_0 5 rfl rfl)
theorem dX13_freePlace_6 : decode cX13_freePlace 6 = .ok (.aload_n 0, 1) := dk_42 (dk_at dksX13_freePlace_0 6 rfl rfl)
theorem dX13_freePlace_7 : decode cX13_freePlace 7 = .ok (.getfield 235, 3) := dk_180 0 235 (dk_at dksX13_freePlace_0 7 rfl rfl)
theorem dX13_freePlace_10 : decode cX13_freePlace 10 = .ok (.iconst 2, 1) := dk_5 (dk_at dksX13_freePlace_0 10 rfl rfl)
theorem dX13_freePlace_11 : decode cX13_freePlace 11 = .ok (.if_icmp .ne 25, 3) := dk_160 0 25 (dk_at dksX13_freePlace_0 11 rfl rfl)
theorem dX13_freePlace_14 : decode cX13_freePlace 14 = .ok (.iload_n 1, 1) := dk_27 (dk_at dksX13_freePlace_0 14 rfl rfl)
theorem dX13_freePlace_15 : decode cX13_freePlace 15 = .ok (.invokestatic 83, 3) := dk_184 0 83 (dk_at dksX13_freePlace_0 15 rfl rfl)
theorem dX13_freePlace_18 : decode cX13_freePlace 18 = .ok (.ifCond .eq 18, 3) := dk_153 0 18 (dk_at dksX13_freePlace_0 18 rfl rfl)
theorem dX13_freePlace_21 : decode cX13_freePlace 21 = .ok (.aload_n 0, 1) := dk_42 (dk_at dksX13_freePlace_0 21 rfl rfl)
theorem dX13_freePlace_22 : decode cX13_freePlace 22 = .ok (.getfield 263, 3) := dk_180 1 7 (dk_at dksX13_freePlace_1 0 rfl rfl)
theorem dX13_freePlace_25 : decode cX13_freePlace 25 = .ok (.iload_n 1, 1) := dk_27 (dk_at dksX13_freePlace_1 3 rfl rfl)
theorem dX13_freePlace_26 : decode cX13_freePlace 26 = .ok (.invokestatic 163, 3) := dk_184 0 163 (dk_at dksX13_freePlace_1 4 rfl rfl)
theorem dX13_freePlace_29 : decode cX13_freePlace 29 = .ok (.ifCond .ne 7, 3) := dk_154 0 7 (dk_at dksX13_freePlace_1 7 rfl rfl)
theorem dX13_freePlace_32 : decode cX13_freePlace 32 = .ok (.iconst 1, 1) := dk_4 (dk_at dksX13_freePlace_1 10 rfl rfl)
theorem dX13_freePlace_33 : decode cX13_freePlace 33 = .ok (.goto 4, 3) := dk_167 0 4 (dk_at dksX13_freePlace_1 11 rfl rfl)
theorem dX13_freePlace_36 : decode cX13_freePlace 36 = .ok (.iconst 0, 1) := dk_3 (dk_at dksX13_freePlace_1 14 rfl rfl)
theorem dX13_freePlace_37 : decode cX13_freePlace 37 = .ok (.invokevirtual 252, 3) := dk_182 0 252 (dk_at dksX13_freePlace_1 15 rfl rfl)
theorem dX13_freePlace_40 : decode cX13_freePlace 40 = .ok (.iload_n 1, 1) := dk_27 (dk_at dksX13_freePlace_1 18 rfl rfl)
theorem dX13_freePlace_41 : decode cX13_freePlace 41 = .ok (.ireturn, 1) := dk_172 (dk_at dksX13_freePlace_1 19 rfl rfl)
abbrev cX13_number : ByteArray := prog_16_method_77_code
def yX13_number : MethodName := ⟨RX13, "number", "(II)I"⟩
def dkwX13_number_1 : List UInt8 := [167, 0, 4, 3, 182, 0, 252, 29, 172]
abbrev dktX13_number_1 : List UInt8 := dkwX13_number_1 ++ []
def dkwX13_number_0 : List UInt8 := [42, 180, 0, 232, 62, 42, 42, 180, 0, 235, 5, 160, 0, 16, 29, 27, 28, 184, 0, 76, 153, 0, 7, 4]
abbrev dktX13_number_0 : List UInt8 := dkwX13_number_0 ++ dktX13_number_1
theorem dksX13_number_0 : cX13_number.data.toList.drop 0 = dktX13_number_0 := by decide +kernel
theorem dksX13_number_1 : cX13_number.data.toList.drop 24 = dktX13_number_1 := dk_seg dksX13_number_0 24 rfl rfl
theorem dX13_number_0 : decode cX13_number 0 = .ok (.aload_n 0, 1) := dk_42 (dk_at dksX13_number_0 0 rfl rfl)
theorem dX13_number_1 : decode cX13_number 1 = .ok (.getfield 232, 3) := dk_180 0 232 (dk_at dksX13_number_0 1 rfl rfl)
theorem dX13_number_4 : decode cX13_number 4 = .ok (.istore_n 3, 1) := dk_62 (dk_at dksX13_number_0 4 rfl rfl)
theorem dX13_number_5 : decode cX13_number 5 = .ok (.aload_n 0, 1) := dk_42 (dk_at dksX13_number_0 5 rfl rfl)
theorem dX13_number_6 : decode cX13_number 6 = .ok (.aload_n 0, 1) := dk_42 (dk_at dksX13_number_0 6 rfl rfl)
theorem dX13_number_7 : decode cX13_number 7 = .ok (.getfield 235, 3) := dk_180 0 235 (dk_at dksX13_number_0 7 rfl rfl)
theorem dX13_number_10 : decode cX13_number 10 = .ok (.iconst 2, 1) := dk_5 (dk_at dksX13_number_0 10 rfl rfl)
theorem dX13_number_11 : decode cX13_number 11 = .ok (.if_icmp .ne 16, 3) := dk_160 0 16 (dk_at dksX13_number_0 11 rfl rfl)
theorem dX13_number_14 : decode cX13_number 14 = .ok (.iload_n 3, 1) := dk_29 (dk_at dksX13_number_0 14 rfl rfl)
theorem dX13_number_15 : decode cX13_number 15 = .ok (.iload_n 1, 1) := dk_27 (dk_at dksX13_number_0 15 rfl rfl)
theorem dX13_number_16 : decode cX13_number 16 = .ok (.iload_n 2, 1) := dk_28 (dk_at dksX13_number_0 16 rfl rfl)
theorem dX13_number_17 : decode cX13_number 17 = .ok (.invokestatic 76, 3) := dk_184 0 76 (dk_at dksX13_number_0 17 rfl rfl)
theorem dX13_number_20 : decode cX13_number 20 = .ok (.ifCond .eq 7, 3) := dk_153 0 7 (dk_at dksX13_number_0 20 rfl rfl)
theorem dX13_number_23 : decode cX13_number 23 = .ok (.iconst 1, 1) := dk_4 (dk_at dksX13_number_0 23 rfl rfl)
theorem dX13_number_24 : decode cX13_number 24 = .ok (.goto 4, 3) := dk_167 0 4 (dk_at dksX13_number_1 0 rfl rfl)
theorem dX13_number_27 : decode cX13_number 27 = .ok (.iconst 0, 1) := dk_3 (dk_at dksX13_number_1 3 rfl rfl)
theorem dX13_number_28 : decode cX13_number 28 = .ok (.invokevirtual 252, 3) := dk_182 0 252 (dk_at dksX13_number_1 4 rfl rfl)
theorem dX13_number_31 : decode cX13_number 31 = .ok (.iload_n 3, 1) := dk_29 (dk_at dksX13_number_1 7 rfl rfl)
theorem dX13_number_32 : decode cX13_number 32 = .ok (.ireturn, 1) := dk_172 (dk_at dksX13_number_1 8 rfl rfl)
abbrev cX13_addItem : ByteArray := prog_16_method_78_code
def yX13_addItem : MethodName := ⟨RX13, "addItem", "(III)V"⟩
def dkwX13_addItem_1 : List UInt8 := [42, 180, 1, 0, 29, 79, 42, 89, 180, 1, 0, 4, 96, 181, 1, 0, 177]
abbrev dktX13_addItem_1 : List UInt8 := dkwX13_addItem_1 ++ []
def dkwX13_addItem_0 : List UInt8 := [42, 180, 0, 45, 42, 180, 1, 0, 27, 79, 42, 180, 0, 48, 42, 180, 1, 0, 28, 79, 42, 180, 0, 51]
abbrev dktX13_addItem_0 : List UInt8 := dkwX13_addItem_0 ++ dktX13_addItem_1
theorem dksX13_addItem_0 : cX13_addItem.data.toList.drop 0 = dktX13_addItem_0 := by decide +kernel
theorem dksX13_addItem_1 : cX13_addItem.data.toList.drop 24 = dktX13_addItem_1 := dk_seg dksX13_addItem_0 24 rfl rfl
theorem dX13_addItem_0 : decode cX13_addItem 0 = .ok (.aload_n 0, 1) := dk_42 (dk_at dksX13_addItem_0 0 rfl rfl)
theorem dX13_addItem_1 : decode cX13_addItem 1 = .ok (.getfield 45, 3) := dk_180 0 45 (dk_at dksX13_addItem_0 1 rfl rfl)
theorem dX13_addItem_4 : decode cX13_addItem 4 = .ok (.aload_n 0, 1) := dk_42 (dk_at dksX13_addItem_0 4 rfl rfl)
theorem dX13_addItem_5 : decode cX13_addItem 5 = .ok (.getfield 256, 3) := dk_180 1 0 (dk_at dksX13_addItem_0 5 rfl rfl)
theorem dX13_addItem_8 : decode cX13_addItem 8 = .ok (.iload_n 1, 1) := dk_27 (dk_at dksX13_addItem_0 8 rfl rfl)
theorem dX13_addItem_9 : decode cX13_addItem 9 = .ok (.iastore, 1) := dk_79 (dk_at dksX13_addItem_0 9 rfl rfl)
theorem dX13_addItem_10 : decode cX13_addItem 10 = .ok (.aload_n 0, 1) := dk_42 (dk_at dksX13_addItem_0 10 rfl rfl)
theorem dX13_addItem_11 : decode cX13_addItem 11 = .ok (.getfield 48, 3) := dk_180 0 48 (dk_at dksX13_addItem_0 11 rfl rfl)
theorem dX13_addItem_14 : decode cX13_addItem 14 = .ok (.aload_n 0, 1) := dk_42 (dk_at dksX13_addItem_0 14 rfl rfl)
theorem dX13_addItem_15 : decode cX13_addItem 15 = .ok (.getfield 256, 3) := dk_180 1 0 (dk_at dksX13_addItem_0 15 rfl rfl)
theorem dX13_addItem_18 : decode cX13_addItem 18 = .ok (.iload_n 2, 1) := dk_28 (dk_at dksX13_addItem_0 18 rfl rfl)
theorem dX13_addItem_19 : decode cX13_addItem 19 = .ok (.iastore, 1) := dk_79 (dk_at dksX13_addItem_0 19 rfl rfl)
theorem dX13_addItem_20 : decode cX13_addItem 20 = .ok (.aload_n 0, 1) := dk_42 (dk_at dksX13_addItem_0 20 rfl rfl)
theorem dX13_addItem_21 : decode cX13_addItem 21 = .ok (.getfield 51, 3) := dk_180 0 51 (dk_at dksX13_addItem_0 21 rfl rfl)
theorem dX13_addItem_24 : decode cX13_addItem 24 = .ok (.aload_n 0, 1) := dk_42 (dk_at dksX13_addItem_1 0 rfl rfl)
theorem dX13_addItem_25 : decode cX13_addItem 25 = .ok (.getfield 256, 3) := dk_180 1 0 (dk_at dksX13_addItem_1 1 rfl rfl)
theorem dX13_addItem_28 : decode cX13_addItem 28 = .ok (.iload_n 3, 1) := dk_29 (dk_at dksX13_addItem_1 4 rfl rfl)
theorem dX13_addItem_29 : decode cX13_addItem 29 = .ok (.iastore, 1) := dk_79 (dk_at dksX13_addItem_1 5 rfl rfl)
theorem dX13_addItem_30 : decode cX13_addItem 30 = .ok (.aload_n 0, 1) := dk_42 (dk_at dksX13_addItem_1 6 rfl rfl)
theorem dX13_addItem_31 : decode cX13_addItem 31 = .ok (.dup, 1) := dk_89 (dk_at dksX13_addItem_1 7 rfl rfl)
theorem dX13_addItem_32 : decode cX13_addItem 32 = .ok (.getfield 256, 3) := dk_180 1 0 (dk_at dksX13_addItem_1 8 rfl rfl)
theorem dX13_addItem_35 : decode cX13_addItem 35 = .ok (.iconst 1, 1) := dk_4 (dk_at dksX13_addItem_1 11 rfl rfl)
theorem dX13_addItem_36 : decode cX13_addItem 36 = .ok (.iadd, 1) := dk_96 (dk_at dksX13_addItem_1 12 rfl rfl)
theorem dX13_addItem_37 : decode cX13_addItem 37 = .ok (.putfield 256, 3) := dk_181 1 0 (dk_at dksX13_addItem_1 13 rfl rfl)
theorem dX13_addItem_40 : decode cX13_addItem 40 = .ok (.return_, 1) := dk_177 (dk_at dksX13_addItem_1 16 rfl rfl)
abbrev cX13_isToldSo : ByteArray := prog_16_method_83_code
def yX13_isToldSo : MethodName := ⟨RX13, "isToldSo", "(I)V"⟩
def dkwX13_isToldSo_5 : List UInt8 := [155, 0, 14, 42, 180, 0, 9, 16, 17, 28, 96, 21, 4, 79, 177]
abbrev dktX13_isToldSo_5 : List UInt8 := dkwX13_isToldSo_5 ++ []
def dkwX13_isToldSo_4 : List UInt8 := [42, 180, 0, 9, 8, 28, 79, 167, 0, 31, 42, 42, 180, 0, 45, 27, 46, 29, 182, 0, 116, 54, 4, 28]
abbrev dktX13_isToldSo_4 : List UInt8 := dkwX13_isToldSo_4 ++ dktX13_isToldSo_5
def dkwX13_isToldSo_3 : List UInt8 := [167, 0, 62, 42, 180, 0, 9, 16, 6, 28, 79, 167, 0, 51, 42, 180, 0, 9, 7, 28, 79, 167, 0, 41]
abbrev dktX13_isToldSo_3 : List UInt8 := dkwX13_isToldSo_3 ++ dktX13_isToldSo_4
def dkwX13_isToldSo_2 : List UInt8 := [42, 180, 0, 9, 16, 24, 28, 96, 29, 79, 167, 0, 75, 42, 180, 0, 9, 16, 38, 28, 96, 29, 79]
abbrev dktX13_isToldSo_2 : List UInt8 := dkwX13_isToldSo_2 ++ dktX13_isToldSo_3
def dkwX13_isToldSo_1 : List UInt8 := [170, 0, 0, 0, 0, 0, 0, 93, 0, 0, 0, 10, 0, 0, 0, 14, 0, 0, 0, 36, 0, 0, 0, 49, 0, 0, 0, 62, 0, 0, 0, 73, 0, 0, 0, 83]
abbrev dktX13_isToldSo_1 : List UInt8 := dkwX13_isToldSo_1 ++ dktX13_isToldSo_2
def dkwX13_isToldSo_0 : List UInt8 := [42, 180, 0, 48, 27, 46, 61, 42, 180, 0, 51, 27, 46, 62, 42, 180, 0, 45, 27, 46]
abbrev dktX13_isToldSo_0 : List UInt8 := dkwX13_isToldSo_0 ++ dktX13_isToldSo_1
theorem dksX13_isToldSo_0 : cX13_isToldSo.data.toList.drop 0 = dktX13_isToldSo_0 := by decide +kernel
theorem dksX13_isToldSo_1 : cX13_isToldSo.data.toList.drop 20 = dktX13_isToldSo_1 := dk_seg dksX13_isToldSo_0 20 rfl rfl
theorem dksX13_isToldSo_2 : cX13_isToldSo.data.toList.drop 56 = dktX13_isToldSo_2 := dk_seg dksX13_isToldSo_1 36 rfl rfl
theorem dksX13_isToldSo_3 : cX13_isToldSo.data.toList.drop 79 = dktX13_isToldSo_3 := dk_seg dksX13_isToldSo_2 23 rfl rfl
theorem dksX13_isToldSo_4 : cX13_isToldSo.data.toList.drop 103 = dktX13_isToldSo_4 := dk_seg dksX13_isToldSo_3 24 rfl rfl
theorem dksX13_isToldSo_5 : cX13_isToldSo.data.toList.drop 127 = dktX13_isToldSo_5 := dk_seg dksX13_isToldSo_4 24 rfl rfl
theorem dX13_isToldSo_0 : decode cX13_isToldSo 0 = .ok (.aload_n 0, 1) := dk_42 (dk_at dksX13_isToldSo_0 0 rfl rfl)
theorem dX13_isToldSo_1 : decode cX13_isToldSo 1 = .ok (.getfield 48, 3) := dk_180 0 48 (dk_at dksX13_isToldSo_0 1 rfl rfl)
theorem dX13_isToldSo_4 : decode cX13_isToldSo 4 = .ok (.iload_n 1, 1) := dk_27 (dk_at dksX13_isToldSo_0 4 rfl rfl)
theorem dX13_isToldSo_5 : decode cX13_isToldSo 5 = .ok (.iaload, 1) := dk_46 (dk_at dksX13_isToldSo_0 5 rfl rfl)
theorem dX13_isToldSo_6 : decode cX13_isToldSo 6 = .ok (.istore_n 2, 1) := dk_61 (dk_at dksX13_isToldSo_0 6 rfl rfl)
theorem dX13_isToldSo_7 : decode cX13_isToldSo 7 = .ok (.aload_n 0, 1) := dk_42 (dk_at dksX13_isToldSo_0 7 rfl rfl)
theorem dX13_isToldSo_8 : decode cX13_isToldSo 8 = .ok (.getfield 51, 3) := dk_180 0 51 (dk_at dksX13_isToldSo_0 8 rfl rfl)
theorem dX13_isToldSo_11 : decode cX13_isToldSo 11 = .ok (.iload_n 1, 1) := dk_27 (dk_at dksX13_isToldSo_0 11 rfl rfl)
theorem dX13_isToldSo_12 : decode cX13_isToldSo 12 = .ok (.iaload, 1) := dk_46 (dk_at dksX13_isToldSo_0 12 rfl rfl)
theorem dX13_isToldSo_13 : decode cX13_isToldSo 13 = .ok (.istore_n 3, 1) := dk_62 (dk_at dksX13_isToldSo_0 13 rfl rfl)
theorem dX13_isToldSo_14 : decode cX13_isToldSo 14 = .ok (.aload_n 0, 1) := dk_42 (dk_at dksX13_isToldSo_0 14 rfl rfl)
theorem dX13_isToldSo_15 : decode cX13_isToldSo 15 = .ok (.getfield 45, 3) := dk_180 0 45 (dk_at dksX13_isToldSo_0 15 rfl rfl)
theorem dX13_isToldSo_18 : decode cX13_isToldSo 18 = .ok (.iload_n 1, 1) := dk_27 (dk_at dksX13_isToldSo_0 18 rfl rfl)
theorem dX13_isToldSo_19 : decode cX13_isToldSo 19 = .ok (.iaload, 1) := dk_46 (dk_at dksX13_isToldSo_0 19 rfl rfl)
theorem dX13_isToldSo_20 : decode cX13_isToldSo 20 = .ok (.tableswitch 93 10 14 #[36, 49, 62, 73, 83], 36) := by decide +kernel
theorem dX13_isToldSo_56 : decode cX13_isToldSo 56 = .ok (.aload_n 0, 1) := dk_42 (dk_at dksX13_isToldSo_2 0 rfl rfl)
theorem dX13_isToldSo_57 : decode cX13_isToldSo 57 = .ok (.getfield 9, 3) := dk_180 0 9 (dk_at dksX13_isToldSo_2 1 rfl rfl)
theorem dX13_isToldSo_60 : decode cX13_isToldSo 60 = .ok (.bipush 24, 2) := dk_16 24 (dk_at dksX13_isToldSo_2 4 rfl rfl)
theorem dX13_isToldSo_62 : decode cX13_isToldSo 62 = .ok (.iload_n 2, 1) := dk_28 (dk_at dksX13_isToldSo_2 6 rfl rfl)
theorem dX13_isToldSo_63 : decode cX13_isToldSo 63 = .ok (.iadd, 1) := dk_96 (dk_at dksX13_isToldSo_2 7 rfl rfl)
theorem dX13_isToldSo_64 : decode cX13_isToldSo 64 = .ok (.iload_n 3, 1) := dk_29 (dk_at dksX13_isToldSo_2 8 rfl rfl)
theorem dX13_isToldSo_65 : decode cX13_isToldSo 65 = .ok (.iastore, 1) := dk_79 (dk_at dksX13_isToldSo_2 9 rfl rfl)
theorem dX13_isToldSo_66 : decode cX13_isToldSo 66 = .ok (.goto 75, 3) := dk_167 0 75 (dk_at dksX13_isToldSo_2 10 rfl rfl)
theorem dX13_isToldSo_69 : decode cX13_isToldSo 69 = .ok (.aload_n 0, 1) := dk_42 (dk_at dksX13_isToldSo_2 13 rfl rfl)
theorem dX13_isToldSo_70 : decode cX13_isToldSo 70 = .ok (.getfield 9, 3) := dk_180 0 9 (dk_at dksX13_isToldSo_2 14 rfl rfl)
theorem dX13_isToldSo_73 : decode cX13_isToldSo 73 = .ok (.bipush 38, 2) := dk_16 38 (dk_at dksX13_isToldSo_2 17 rfl rfl)
theorem dX13_isToldSo_75 : decode cX13_isToldSo 75 = .ok (.iload_n 2, 1) := dk_28 (dk_at dksX13_isToldSo_2 19 rfl rfl)
theorem dX13_isToldSo_76 : decode cX13_isToldSo 76 = .ok (.iadd, 1) := dk_96 (dk_at dksX13_isToldSo_2 20 rfl rfl)
theorem dX13_isToldSo_77 : decode cX13_isToldSo 77 = .ok (.iload_n 3, 1) := dk_29 (dk_at dksX13_isToldSo_2 21 rfl rfl)
theorem dX13_isToldSo_78 : decode cX13_isToldSo 78 = .ok (.iastore, 1) := dk_79 (dk_at dksX13_isToldSo_2 22 rfl rfl)
theorem dX13_isToldSo_79 : decode cX13_isToldSo 79 = .ok (.goto 62, 3) := dk_167 0 62 (dk_at dksX13_isToldSo_3 0 rfl rfl)
theorem dX13_isToldSo_82 : decode cX13_isToldSo 82 = .ok (.aload_n 0, 1) := dk_42 (dk_at dksX13_isToldSo_3 3 rfl rfl)
theorem dX13_isToldSo_83 : decode cX13_isToldSo 83 = .ok (.getfield 9, 3) := dk_180 0 9 (dk_at dksX13_isToldSo_3 4 rfl rfl)
theorem dX13_isToldSo_86 : decode cX13_isToldSo 86 = .ok (.bipush 6, 2) := dk_16 6 (dk_at dksX13_isToldSo_3 7 rfl rfl)
theorem dX13_isToldSo_88 : decode cX13_isToldSo 88 = .ok (.iload_n 2, 1) := dk_28 (dk_at dksX13_isToldSo_3 9 rfl rfl)
theorem dX13_isToldSo_89 : decode cX13_isToldSo 89 = .ok (.iastore, 1) := dk_79 (dk_at dksX13_isToldSo_3 10 rfl rfl)
theorem dX13_isToldSo_90 : decode cX13_isToldSo 90 = .ok (.goto 51, 3) := dk_167 0 51 (dk_at dksX13_isToldSo_3 11 rfl rfl)
theorem dX13_isToldSo_93 : decode cX13_isToldSo 93 = .ok (.aload_n 0, 1) := dk_42 (dk_at dksX13_isToldSo_3 14 rfl rfl)
theorem dX13_isToldSo_94 : decode cX13_isToldSo 94 = .ok (.getfield 9, 3) := dk_180 0 9 (dk_at dksX13_isToldSo_3 15 rfl rfl)
theorem dX13_isToldSo_97 : decode cX13_isToldSo 97 = .ok (.iconst 4, 1) := dk_7 (dk_at dksX13_isToldSo_3 18 rfl rfl)
theorem dX13_isToldSo_98 : decode cX13_isToldSo 98 = .ok (.iload_n 2, 1) := dk_28 (dk_at dksX13_isToldSo_3 19 rfl rfl)
theorem dX13_isToldSo_99 : decode cX13_isToldSo 99 = .ok (.iastore, 1) := dk_79 (dk_at dksX13_isToldSo_3 20 rfl rfl)
theorem dX13_isToldSo_100 : decode cX13_isToldSo 100 = .ok (.goto 41, 3) := dk_167 0 41 (dk_at dksX13_isToldSo_3 21 rfl rfl)
theorem dX13_isToldSo_103 : decode cX13_isToldSo 103 = .ok (.aload_n 0, 1) := dk_42 (dk_at dksX13_isToldSo_4 0 rfl rfl)
theorem dX13_isToldSo_104 : decode cX13_isToldSo 104 = .ok (.getfield 9, 3) := dk_180 0 9 (dk_at dksX13_isToldSo_4 1 rfl rfl)
theorem dX13_isToldSo_107 : decode cX13_isToldSo 107 = .ok (.iconst 5, 1) := dk_8 (dk_at dksX13_isToldSo_4 4 rfl rfl)
theorem dX13_isToldSo_108 : decode cX13_isToldSo 108 = .ok (.iload_n 2, 1) := dk_28 (dk_at dksX13_isToldSo_4 5 rfl rfl)
theorem dX13_isToldSo_109 : decode cX13_isToldSo 109 = .ok (.iastore, 1) := dk_79 (dk_at dksX13_isToldSo_4 6 rfl rfl)
theorem dX13_isToldSo_110 : decode cX13_isToldSo 110 = .ok (.goto 31, 3) := dk_167 0 31 (dk_at dksX13_isToldSo_4 7 rfl rfl)
theorem dX13_isToldSo_113 : decode cX13_isToldSo 113 = .ok (.aload_n 0, 1) := dk_42 (dk_at dksX13_isToldSo_4 10 rfl rfl)
theorem dX13_isToldSo_114 : decode cX13_isToldSo 114 = .ok (.aload_n 0, 1) := dk_42 (dk_at dksX13_isToldSo_4 11 rfl rfl)
theorem dX13_isToldSo_115 : decode cX13_isToldSo 115 = .ok (.getfield 45, 3) := dk_180 0 45 (dk_at dksX13_isToldSo_4 12 rfl rfl)
theorem dX13_isToldSo_118 : decode cX13_isToldSo 118 = .ok (.iload_n 1, 1) := dk_27 (dk_at dksX13_isToldSo_4 15 rfl rfl)
theorem dX13_isToldSo_119 : decode cX13_isToldSo 119 = .ok (.iaload, 1) := dk_46 (dk_at dksX13_isToldSo_4 16 rfl rfl)
theorem dX13_isToldSo_120 : decode cX13_isToldSo 120 = .ok (.iload_n 3, 1) := dk_29 (dk_at dksX13_isToldSo_4 17 rfl rfl)
theorem dX13_isToldSo_121 : decode cX13_isToldSo 121 = .ok (.invokevirtual 116, 3) := dk_182 0 116 (dk_at dksX13_isToldSo_4 18 rfl rfl)
theorem dX13_isToldSo_124 : decode cX13_isToldSo 124 = .ok (.istore 4, 2) := dk_54 4 (dk_at dksX13_isToldSo_4 21 rfl rfl)
theorem dX13_isToldSo_126 : decode cX13_isToldSo 126 = .ok (.iload_n 2, 1) := dk_28 (dk_at dksX13_isToldSo_4 23 rfl rfl)
theorem dX13_isToldSo_127 : decode cX13_isToldSo 127 = .ok (.ifCond .lt 14, 3) := dk_155 0 14 (dk_at dksX13_isToldSo_5 0 rfl rfl)
theorem dX13_isToldSo_130 : decode cX13_isToldSo 130 = .ok (.aload_n 0, 1) := dk_42 (dk_at dksX13_isToldSo_5 3 rfl rfl)
theorem dX13_isToldSo_131 : decode cX13_isToldSo 131 = .ok (.getfield 9, 3) := dk_180 0 9 (dk_at dksX13_isToldSo_5 4 rfl rfl)
theorem dX13_isToldSo_134 : decode cX13_isToldSo 134 = .ok (.bipush 17, 2) := dk_16 17 (dk_at dksX13_isToldSo_5 7 rfl rfl)
theorem dX13_isToldSo_136 : decode cX13_isToldSo 136 = .ok (.iload_n 2, 1) := dk_28 (dk_at dksX13_isToldSo_5 9 rfl rfl)
theorem dX13_isToldSo_137 : decode cX13_isToldSo 137 = .ok (.iadd, 1) := dk_96 (dk_at dksX13_isToldSo_5 10 rfl rfl)
theorem dX13_isToldSo_138 : decode cX13_isToldSo 138 = .ok (.iload 4, 2) := dk_21 4 (dk_at dksX13_isToldSo_5 11 rfl rfl)
theorem dX13_isToldSo_140 : decode cX13_isToldSo 140 = .ok (.iastore, 1) := dk_79 (dk_at dksX13_isToldSo_5 13 rfl rfl)
theorem dX13_isToldSo_141 : decode cX13_isToldSo 141 = .ok (.return_, 1) := dk_177 (dk_at dksX13_isToldSo_5 14 rfl rfl)
abbrev cX13_hold : ByteArray := prog_16_method_86_code
def yX13_hold : MethodName := ⟨RX13, "hold", "(II)I"⟩
def dkwX13_hold_1 : List UInt8 := [182, 0, 72, 172, 42, 180, 0, 9, 16, 7, 27, 96, 28, 79, 4, 172]
abbrev dktX13_hold_1 : List UInt8 := dkwX13_hold_1 ++ []
def dkwX13_hold_0 : List UInt8 := [27, 184, 1, 49, 153, 0, 16, 28, 2, 159, 0, 18, 42, 28, 182, 0, 87, 154, 0, 10, 42, 18, 66]
abbrev dktX13_hold_0 : List UInt8 := dkwX13_hold_0 ++ dktX13_hold_1
theorem dksX13_hold_0 : cX13_hold.data.toList.drop 0 = dktX13_hold_0 := by decide +kernel
theorem dksX13_hold_1 : cX13_hold.data.toList.drop 23 = dktX13_hold_1 := dk_seg dksX13_hold_0 23 rfl rfl
theorem dX13_hold_0 : decode cX13_hold 0 = .ok (.iload_n 1, 1) := dk_27 (dk_at dksX13_hold_0 0 rfl rfl)
theorem dX13_hold_1 : decode cX13_hold 1 = .ok (.invokestatic 305, 3) := dk_184 1 49 (dk_at dksX13_hold_0 1 rfl rfl)
theorem dX13_hold_4 : decode cX13_hold 4 = .ok (.ifCond .eq 16, 3) := dk_153 0 16 (dk_at dksX13_hold_0 4 rfl rfl)
theorem dX13_hold_7 : decode cX13_hold 7 = .ok (.iload_n 2, 1) := dk_28 (dk_at dksX13_hold_0 7 rfl rfl)
theorem dX13_hold_8 : decode cX13_hold 8 = .ok (.iconst (-1), 1) := dk_2 (dk_at dksX13_hold_0 8 rfl rfl)
theorem dX13_hold_9 : decode cX13_hold 9 = .ok (.if_icmp .eq 18, 3) := dk_159 0 18 (dk_at dksX13_hold_0 9 rfl rfl)
theorem dX13_hold_12 : decode cX13_hold 12 = .ok (.aload_n 0, 1) := dk_42 (dk_at dksX13_hold_0 12 rfl rfl)
theorem dX13_hold_13 : decode cX13_hold 13 = .ok (.iload_n 2, 1) := dk_28 (dk_at dksX13_hold_0 13 rfl rfl)
theorem dX13_hold_14 : decode cX13_hold 14 = .ok (.invokevirtual 87, 3) := dk_182 0 87 (dk_at dksX13_hold_0 14 rfl rfl)
theorem dX13_hold_17 : decode cX13_hold 17 = .ok (.ifCond .ne 10, 3) := dk_154 0 10 (dk_at dksX13_hold_0 17 rfl rfl)
theorem dX13_hold_20 : decode cX13_hold 20 = .ok (.aload_n 0, 1) := dk_42 (dk_at dksX13_hold_0 20 rfl rfl)
theorem dX13_hold_21 : decode cX13_hold 21 = .ok (.ldc 66, 2) := dk_18 66 (dk_at dksX13_hold_0 21 rfl rfl)
theorem dX13_hold_23 : decode cX13_hold 23 = .ok (.invokevirtual 72, 3) := dk_182 0 72 (dk_at dksX13_hold_1 0 rfl rfl)
theorem dX13_hold_26 : decode cX13_hold 26 = .ok (.ireturn, 1) := dk_172 (dk_at dksX13_hold_1 3 rfl rfl)
theorem dX13_hold_27 : decode cX13_hold 27 = .ok (.aload_n 0, 1) := dk_42 (dk_at dksX13_hold_1 4 rfl rfl)
theorem dX13_hold_28 : decode cX13_hold 28 = .ok (.getfield 9, 3) := dk_180 0 9 (dk_at dksX13_hold_1 5 rfl rfl)
theorem dX13_hold_31 : decode cX13_hold 31 = .ok (.bipush 7, 2) := dk_16 7 (dk_at dksX13_hold_1 8 rfl rfl)
theorem dX13_hold_33 : decode cX13_hold 33 = .ok (.iload_n 1, 1) := dk_27 (dk_at dksX13_hold_1 10 rfl rfl)
theorem dX13_hold_34 : decode cX13_hold 34 = .ok (.iadd, 1) := dk_96 (dk_at dksX13_hold_1 11 rfl rfl)
theorem dX13_hold_35 : decode cX13_hold 35 = .ok (.iload_n 2, 1) := dk_28 (dk_at dksX13_hold_1 12 rfl rfl)
theorem dX13_hold_36 : decode cX13_hold 36 = .ok (.iastore, 1) := dk_79 (dk_at dksX13_hold_1 13 rfl rfl)
theorem dX13_hold_37 : decode cX13_hold 37 = .ok (.iconst 1, 1) := dk_4 (dk_at dksX13_hold_1 14 rfl rfl)
theorem dX13_hold_38 : decode cX13_hold 38 = .ok (.ireturn, 1) := dk_172 (dk_at dksX13_hold_1 15 rfl rfl)
abbrev cX13_isSpot : ByteArray := prog_16_method_85_code
def yX13_isSpot : MethodName := ⟨RX13, "isSpot", "(I)Z"⟩
def dkwX13_isSpot_0 : List UInt8 := [26, 3, 16, 9, 184, 0, 76, 172]
abbrev dktX13_isSpot_0 : List UInt8 := dkwX13_isSpot_0 ++ []
theorem dksX13_isSpot_0 : cX13_isSpot.data.toList.drop 0 = dktX13_isSpot_0 := by decide +kernel
theorem dX13_isSpot_0 : decode cX13_isSpot 0 = .ok (.iload_n 0, 1) := dk_26 (dk_at dksX13_isSpot_0 0 rfl rfl)
theorem dX13_isSpot_1 : decode cX13_isSpot 1 = .ok (.iconst 0, 1) := dk_3 (dk_at dksX13_isSpot_0 1 rfl rfl)
theorem dX13_isSpot_2 : decode cX13_isSpot 2 = .ok (.bipush 9, 2) := dk_16 9 (dk_at dksX13_isSpot_0 2 rfl rfl)
theorem dX13_isSpot_4 : decode cX13_isSpot 4 = .ok (.invokestatic 76, 3) := dk_184 0 76 (dk_at dksX13_isSpot_0 4 rfl rfl)
theorem dX13_isSpot_7 : decode cX13_isSpot 7 = .ok (.ireturn, 1) := dk_172 (dk_at dksX13_isSpot_0 7 rfl rfl)
abbrev cX13_as : ByteArray := prog_16_method_87_code
def yX13_as : MethodName := ⟨RX13, "as", "(II)I"⟩
def dkwX13_as_2 : List UInt8 := [182, 0, 119, 28, 184, 1, 52, 153, 0, 7, 29, 167, 0, 10, 42, 19, 1, 55, 182, 0, 72, 172]
abbrev dktX13_as_2 : List UInt8 := dkwX13_as_2 ++ []
def dkwX13_as_1 : List UInt8 := [180, 0, 9, 16, 7, 27, 96, 46, 62, 29, 156, 0, 10, 42, 18, 198, 182, 0, 72, 172, 42, 29, 3]
abbrev dktX13_as_1 : List UInt8 := dkwX13_as_1 ++ dktX13_as_2
def dkwX13_as_0 : List UInt8 := [27, 184, 1, 49, 153, 0, 10, 28, 184, 0, 112, 154, 0, 10, 42, 18, 66, 182, 0, 72, 172, 42]
abbrev dktX13_as_0 : List UInt8 := dkwX13_as_0 ++ dktX13_as_1
theorem dksX13_as_0 : cX13_as.data.toList.drop 0 = dktX13_as_0 := by decide +kernel
theorem dksX13_as_1 : cX13_as.data.toList.drop 22 = dktX13_as_1 := dk_seg dksX13_as_0 22 rfl rfl
theorem dksX13_as_2 : cX13_as.data.toList.drop 45 = dktX13_as_2 := dk_seg dksX13_as_1 23 rfl rfl
theorem dX13_as_0 : decode cX13_as 0 = .ok (.iload_n 1, 1) := dk_27 (dk_at dksX13_as_0 0 rfl rfl)
theorem dX13_as_1 : decode cX13_as 1 = .ok (.invokestatic 305, 3) := dk_184 1 49 (dk_at dksX13_as_0 1 rfl rfl)
theorem dX13_as_4 : decode cX13_as 4 = .ok (.ifCond .eq 10, 3) := dk_153 0 10 (dk_at dksX13_as_0 4 rfl rfl)
theorem dX13_as_7 : decode cX13_as 7 = .ok (.iload_n 2, 1) := dk_28 (dk_at dksX13_as_0 7 rfl rfl)
theorem dX13_as_8 : decode cX13_as 8 = .ok (.invokestatic 112, 3) := dk_184 0 112 (dk_at dksX13_as_0 8 rfl rfl)
theorem dX13_as_11 : decode cX13_as 11 = .ok (.ifCond .ne 10, 3) := dk_154 0 10 (dk_at dksX13_as_0 11 rfl rfl)
theorem dX13_as_14 : decode cX13_as 14 = .ok (.aload_n 0, 1) := dk_42 (dk_at dksX13_as_0 14 rfl rfl)
theorem dX13_as_15 : decode cX13_as 15 = .ok (.ldc 66, 2) := dk_18 66 (dk_at dksX13_as_0 15 rfl rfl)
theorem dX13_as_17 : decode cX13_as 17 = .ok (.invokevirtual 72, 3) := dk_182 0 72 (dk_at dksX13_as_0 17 rfl rfl)
theorem dX13_as_20 : decode cX13_as 20 = .ok (.ireturn, 1) := dk_172 (dk_at dksX13_as_0 20 rfl rfl)
theorem dX13_as_21 : decode cX13_as 21 = .ok (.aload_n 0, 1) := dk_42 (dk_at dksX13_as_0 21 rfl rfl)
theorem dX13_as_22 : decode cX13_as 22 = .ok (.getfield 9, 3) := dk_180 0 9 (dk_at dksX13_as_1 0 rfl rfl)
theorem dX13_as_25 : decode cX13_as 25 = .ok (.bipush 7, 2) := dk_16 7 (dk_at dksX13_as_1 3 rfl rfl)
theorem dX13_as_27 : decode cX13_as 27 = .ok (.iload_n 1, 1) := dk_27 (dk_at dksX13_as_1 5 rfl rfl)
theorem dX13_as_28 : decode cX13_as 28 = .ok (.iadd, 1) := dk_96 (dk_at dksX13_as_1 6 rfl rfl)
theorem dX13_as_29 : decode cX13_as 29 = .ok (.iaload, 1) := dk_46 (dk_at dksX13_as_1 7 rfl rfl)
theorem dX13_as_30 : decode cX13_as 30 = .ok (.istore_n 3, 1) := dk_62 (dk_at dksX13_as_1 8 rfl rfl)
theorem dX13_as_31 : decode cX13_as 31 = .ok (.iload_n 3, 1) := dk_29 (dk_at dksX13_as_1 9 rfl rfl)
theorem dX13_as_32 : decode cX13_as 32 = .ok (.ifCond .ge 10, 3) := dk_156 0 10 (dk_at dksX13_as_1 10 rfl rfl)
theorem dX13_as_35 : decode cX13_as 35 = .ok (.aload_n 0, 1) := dk_42 (dk_at dksX13_as_1 13 rfl rfl)
theorem dX13_as_36 : decode cX13_as 36 = .ok (.ldc 198, 2) := dk_18 198 (dk_at dksX13_as_1 14 rfl rfl)
theorem dX13_as_38 : decode cX13_as 38 = .ok (.invokevirtual 72, 3) := dk_182 0 72 (dk_at dksX13_as_1 16 rfl rfl)
theorem dX13_as_41 : decode cX13_as 41 = .ok (.ireturn, 1) := dk_172 (dk_at dksX13_as_1 19 rfl rfl)
theorem dX13_as_42 : decode cX13_as 42 = .ok (.aload_n 0, 1) := dk_42 (dk_at dksX13_as_1 20 rfl rfl)
theorem dX13_as_43 : decode cX13_as 43 = .ok (.iload_n 3, 1) := dk_29 (dk_at dksX13_as_1 21 rfl rfl)
theorem dX13_as_44 : decode cX13_as 44 = .ok (.iconst 0, 1) := dk_3 (dk_at dksX13_as_1 22 rfl rfl)
theorem dX13_as_45 : decode cX13_as 45 = .ok (.invokevirtual 119, 3) := dk_182 0 119 (dk_at dksX13_as_2 0 rfl rfl)
theorem dX13_as_48 : decode cX13_as 48 = .ok (.iload_n 2, 1) := dk_28 (dk_at dksX13_as_2 3 rfl rfl)
theorem dX13_as_49 : decode cX13_as 49 = .ok (.invokestatic 308, 3) := dk_184 1 52 (dk_at dksX13_as_2 4 rfl rfl)
theorem dX13_as_52 : decode cX13_as 52 = .ok (.ifCond .eq 7, 3) := dk_153 0 7 (dk_at dksX13_as_2 7 rfl rfl)
theorem dX13_as_55 : decode cX13_as 55 = .ok (.iload_n 3, 1) := dk_29 (dk_at dksX13_as_2 10 rfl rfl)
theorem dX13_as_56 : decode cX13_as 56 = .ok (.goto 10, 3) := dk_167 0 10 (dk_at dksX13_as_2 11 rfl rfl)
theorem dX13_as_59 : decode cX13_as 59 = .ok (.aload_n 0, 1) := dk_42 (dk_at dksX13_as_2 14 rfl rfl)
theorem dX13_as_60 : decode cX13_as 60 = .ok (.ldc_w 311, 3) := dk_19 1 55 (dk_at dksX13_as_2 15 rfl rfl)
theorem dX13_as_63 : decode cX13_as 63 = .ok (.invokevirtual 72, 3) := dk_182 0 72 (dk_at dksX13_as_2 18 rfl rfl)
theorem dX13_as_66 : decode cX13_as 66 = .ok (.ireturn, 1) := dk_172 (dk_at dksX13_as_2 21 rfl rfl)
abbrev cX13_isUnder : ByteArray := prog_16_method_94_code
def yX13_isUnder : MethodName := ⟨RX13, "isUnder", "(II)Z"⟩
def dkwX13_isUnder_1 : List UInt8 := [167, 0, 4, 3, 172]
abbrev dktX13_isUnder_1 : List UInt8 := dkwX13_isUnder_1 ++ []
def dkwX13_isUnder_0 : List UInt8 := [26, 61, 28, 155, 0, 16, 28, 27, 159, 0, 11, 28, 184, 1, 60, 61, 167, 255, 242, 28, 155, 0, 7, 4]
abbrev dktX13_isUnder_0 : List UInt8 := dkwX13_isUnder_0 ++ dktX13_isUnder_1
theorem dksX13_isUnder_0 : cX13_isUnder.data.toList.drop 0 = dktX13_isUnder_0 := by decide +kernel
theorem dksX13_isUnder_1 : cX13_isUnder.data.toList.drop 24 = dktX13_isUnder_1 := dk_seg dksX13_isUnder_0 24 rfl rfl
theorem dX13_isUnder_0 : decode cX13_isUnder 0 = .ok (.iload_n 0, 1) := dk_26 (dk_at dksX13_isUnder_0 0 rfl rfl)
theorem dX13_isUnder_1 : decode cX13_isUnder 1 = .ok (.istore_n 2, 1) := dk_61 (dk_at dksX13_isUnder_0 1 rfl rfl)
theorem dX13_isUnder_2 : decode cX13_isUnder 2 = .ok (.iload_n 2, 1) := dk_28 (dk_at dksX13_isUnder_0 2 rfl rfl)
theorem dX13_isUnder_3 : decode cX13_isUnder 3 = .ok (.ifCond .lt 16, 3) := dk_155 0 16 (dk_at dksX13_isUnder_0 3 rfl rfl)
theorem dX13_isUnder_6 : decode cX13_isUnder 6 = .ok (.iload_n 2, 1) := dk_28 (dk_at dksX13_isUnder_0 6 rfl rfl)
theorem dX13_isUnder_7 : decode cX13_isUnder 7 = .ok (.iload_n 1, 1) := dk_27 (dk_at dksX13_isUnder_0 7 rfl rfl)
theorem dX13_isUnder_8 : decode cX13_isUnder 8 = .ok (.if_icmp .eq 11, 3) := dk_159 0 11 (dk_at dksX13_isUnder_0 8 rfl rfl)
theorem dX13_isUnder_11 : decode cX13_isUnder 11 = .ok (.iload_n 2, 1) := dk_28 (dk_at dksX13_isUnder_0 11 rfl rfl)
theorem dX13_isUnder_12 : decode cX13_isUnder 12 = .ok (.invokestatic 316, 3) := dk_184 1 60 (dk_at dksX13_isUnder_0 12 rfl rfl)
theorem dX13_isUnder_15 : decode cX13_isUnder 15 = .ok (.istore_n 2, 1) := dk_61 (dk_at dksX13_isUnder_0 15 rfl rfl)
theorem dX13_isUnder_16 : decode cX13_isUnder 16 = .ok (.goto (-14), 3) := dk_167 255 242 (dk_at dksX13_isUnder_0 16 rfl rfl)
theorem dX13_isUnder_19 : decode cX13_isUnder 19 = .ok (.iload_n 2, 1) := dk_28 (dk_at dksX13_isUnder_0 19 rfl rfl)
theorem dX13_isUnder_20 : decode cX13_isUnder 20 = .ok (.ifCond .lt 7, 3) := dk_155 0 7 (dk_at dksX13_isUnder_0 20 rfl rfl)
theorem dX13_isUnder_23 : decode cX13_isUnder 23 = .ok (.iconst 1, 1) := dk_4 (dk_at dksX13_isUnder_0 23 rfl rfl)
theorem dX13_isUnder_24 : decode cX13_isUnder 24 = .ok (.goto 4, 3) := dk_167 0 4 (dk_at dksX13_isUnder_1 0 rfl rfl)
theorem dX13_isUnder_27 : decode cX13_isUnder 27 = .ok (.iconst 0, 1) := dk_3 (dk_at dksX13_isUnder_1 3 rfl rfl)
theorem dX13_isUnder_28 : decode cX13_isUnder 28 = .ok (.ireturn, 1) := dk_172 (dk_at dksX13_isUnder_1 4 rfl rfl)
abbrev cX13_above : ByteArray := prog_16_method_93_code
def yX13_above : MethodName := ⟨RX13, "above", "(I)I"⟩
def dkwX13_above_1 : List UInt8 := [167, 0, 14, 26, 16, 6, 160, 0, 7, 4, 167, 0, 4, 3, 172]
abbrev dktX13_above_1 : List UInt8 := dkwX13_above_1 ++ []
def dkwX13_above_0 : List UInt8 := [26, 154, 0, 7, 2, 167, 0, 32, 26, 6, 160, 0, 7, 5, 167, 0, 23, 26, 7, 160, 0, 7, 6]
abbrev dktX13_above_0 : List UInt8 := dkwX13_above_0 ++ dktX13_above_1
theorem dksX13_above_0 : cX13_above.data.toList.drop 0 = dktX13_above_0 := by decide +kernel
theorem dksX13_above_1 : cX13_above.data.toList.drop 23 = dktX13_above_1 := dk_seg dksX13_above_0 23 rfl rfl
theorem dX13_above_0 : decode cX13_above 0 = .ok (.iload_n 0, 1) := dk_26 (dk_at dksX13_above_0 0 rfl rfl)
theorem dX13_above_1 : decode cX13_above 1 = .ok (.ifCond .ne 7, 3) := dk_154 0 7 (dk_at dksX13_above_0 1 rfl rfl)
theorem dX13_above_4 : decode cX13_above 4 = .ok (.iconst (-1), 1) := dk_2 (dk_at dksX13_above_0 4 rfl rfl)
theorem dX13_above_5 : decode cX13_above 5 = .ok (.goto 32, 3) := dk_167 0 32 (dk_at dksX13_above_0 5 rfl rfl)
theorem dX13_above_8 : decode cX13_above 8 = .ok (.iload_n 0, 1) := dk_26 (dk_at dksX13_above_0 8 rfl rfl)
theorem dX13_above_9 : decode cX13_above 9 = .ok (.iconst 3, 1) := dk_6 (dk_at dksX13_above_0 9 rfl rfl)
theorem dX13_above_10 : decode cX13_above 10 = .ok (.if_icmp .ne 7, 3) := dk_160 0 7 (dk_at dksX13_above_0 10 rfl rfl)
theorem dX13_above_13 : decode cX13_above 13 = .ok (.iconst 2, 1) := dk_5 (dk_at dksX13_above_0 13 rfl rfl)
theorem dX13_above_14 : decode cX13_above 14 = .ok (.goto 23, 3) := dk_167 0 23 (dk_at dksX13_above_0 14 rfl rfl)
theorem dX13_above_17 : decode cX13_above 17 = .ok (.iload_n 0, 1) := dk_26 (dk_at dksX13_above_0 17 rfl rfl)
theorem dX13_above_18 : decode cX13_above 18 = .ok (.iconst 4, 1) := dk_7 (dk_at dksX13_above_0 18 rfl rfl)
theorem dX13_above_19 : decode cX13_above 19 = .ok (.if_icmp .ne 7, 3) := dk_160 0 7 (dk_at dksX13_above_0 19 rfl rfl)
theorem dX13_above_22 : decode cX13_above 22 = .ok (.iconst 3, 1) := dk_6 (dk_at dksX13_above_0 22 rfl rfl)
theorem dX13_above_23 : decode cX13_above 23 = .ok (.goto 14, 3) := dk_167 0 14 (dk_at dksX13_above_1 0 rfl rfl)
theorem dX13_above_26 : decode cX13_above 26 = .ok (.iload_n 0, 1) := dk_26 (dk_at dksX13_above_1 3 rfl rfl)
theorem dX13_above_27 : decode cX13_above 27 = .ok (.bipush 6, 2) := dk_16 6 (dk_at dksX13_above_1 4 rfl rfl)
theorem dX13_above_29 : decode cX13_above 29 = .ok (.if_icmp .ne 7, 3) := dk_160 0 7 (dk_at dksX13_above_1 6 rfl rfl)
theorem dX13_above_32 : decode cX13_above 32 = .ok (.iconst 1, 1) := dk_4 (dk_at dksX13_above_1 9 rfl rfl)
theorem dX13_above_33 : decode cX13_above 33 = .ok (.goto 4, 3) := dk_167 0 4 (dk_at dksX13_above_1 10 rfl rfl)
theorem dX13_above_36 : decode cX13_above 36 = .ok (.iconst 0, 1) := dk_3 (dk_at dksX13_above_1 13 rfl rfl)
theorem dX13_above_37 : decode cX13_above 37 = .ok (.ireturn, 1) := dk_172 (dk_at dksX13_above_1 14 rfl rfl)
abbrev cX13_sheet : ByteArray := prog_16_method_90_code
def yX13_sheet : MethodName := ⟨RX13, "sheet", "(III)I"⟩
def dkwX13_sheet_5 : List UInt8 := [172]
abbrev dktX13_sheet_5 : List UInt8 := dkwX13_sheet_5 ++ []
def dkwX13_sheet_4 : List UInt8 := [180, 0, 60, 16, 40, 27, 104, 21, 4, 96, 3, 79, 132, 4, 1, 167, 255, 233, 42, 180, 0, 57, 27, 46]
abbrev dktX13_sheet_4 : List UInt8 := dkwX13_sheet_4 ++ dktX13_sheet_5
def dkwX13_sheet_3 : List UInt8 := [27, 28, 154, 0, 7, 3, 167, 0, 4, 29, 79, 3, 54, 4, 21, 4, 16, 40, 162, 0, 22, 42]
abbrev dktX13_sheet_3 : List UInt8 := dkwX13_sheet_3 ++ dktX13_sheet_4
def dkwX13_sheet_2 : List UInt8 := [29, 16, 40, 164, 0, 10, 42, 18, 66, 182, 0, 72, 172, 42, 180, 0, 54, 27, 28, 79, 42, 180, 0, 57]
abbrev dktX13_sheet_2 : List UInt8 := dkwX13_sheet_2 ++ dktX13_sheet_3
def dkwX13_sheet_1 : List UInt8 := [16, 32, 159, 0, 10, 42, 18, 66, 182, 0, 72, 172, 29, 156, 0, 11, 42, 19, 1, 56, 182, 0, 72, 172]
abbrev dktX13_sheet_1 : List UInt8 := dkwX13_sheet_1 ++ dktX13_sheet_2
def dkwX13_sheet_0 : List UInt8 := [27, 184, 0, 195, 153, 0, 25, 28, 153, 0, 28, 28, 16, 8, 159, 0, 22, 28, 16, 16, 159, 0, 16, 28]
abbrev dktX13_sheet_0 : List UInt8 := dkwX13_sheet_0 ++ dktX13_sheet_1
theorem dksX13_sheet_0 : cX13_sheet.data.toList.drop 0 = dktX13_sheet_0 := by decide +kernel
theorem dksX13_sheet_1 : cX13_sheet.data.toList.drop 24 = dktX13_sheet_1 := dk_seg dksX13_sheet_0 24 rfl rfl
theorem dksX13_sheet_2 : cX13_sheet.data.toList.drop 48 = dktX13_sheet_2 := dk_seg dksX13_sheet_1 24 rfl rfl
theorem dksX13_sheet_3 : cX13_sheet.data.toList.drop 72 = dktX13_sheet_3 := dk_seg dksX13_sheet_2 24 rfl rfl
theorem dksX13_sheet_4 : cX13_sheet.data.toList.drop 94 = dktX13_sheet_4 := dk_seg dksX13_sheet_3 22 rfl rfl
theorem dksX13_sheet_5 : cX13_sheet.data.toList.drop 118 = dktX13_sheet_5 := dk_seg dksX13_sheet_4 24 rfl rfl
theorem dX13_sheet_0 : decode cX13_sheet 0 = .ok (.iload_n 1, 1) := dk_27 (dk_at dksX13_sheet_0 0 rfl rfl)
theorem dX13_sheet_1 : decode cX13_sheet 1 = .ok (.invokestatic 195, 3) := dk_184 0 195 (dk_at dksX13_sheet_0 1 rfl rfl)
theorem dX13_sheet_4 : decode cX13_sheet 4 = .ok (.ifCond .eq 25, 3) := dk_153 0 25 (dk_at dksX13_sheet_0 4 rfl rfl)
theorem dX13_sheet_7 : decode cX13_sheet 7 = .ok (.iload_n 2, 1) := dk_28 (dk_at dksX13_sheet_0 7 rfl rfl)
theorem dX13_sheet_8 : decode cX13_sheet 8 = .ok (.ifCond .eq 28, 3) := dk_153 0 28 (dk_at dksX13_sheet_0 8 rfl rfl)
theorem dX13_sheet_11 : decode cX13_sheet 11 = .ok (.iload_n 2, 1) := dk_28 (dk_at dksX13_sheet_0 11 rfl rfl)
theorem dX13_sheet_12 : decode cX13_sheet 12 = .ok (.bipush 8, 2) := dk_16 8 (dk_at dksX13_sheet_0 12 rfl rfl)
theorem dX13_sheet_14 : decode cX13_sheet 14 = .ok (.if_icmp .eq 22, 3) := dk_159 0 22 (dk_at dksX13_sheet_0 14 rfl rfl)
theorem dX13_sheet_17 : decode cX13_sheet 17 = .ok (.iload_n 2, 1) := dk_28 (dk_at dksX13_sheet_0 17 rfl rfl)
theorem dX13_sheet_18 : decode cX13_sheet 18 = .ok (.bipush 16, 2) := dk_16 16 (dk_at dksX13_sheet_0 18 rfl rfl)
theorem dX13_sheet_20 : decode cX13_sheet 20 = .ok (.if_icmp .eq 16, 3) := dk_159 0 16 (dk_at dksX13_sheet_0 20 rfl rfl)
theorem dX13_sheet_23 : decode cX13_sheet 23 = .ok (.iload_n 2, 1) := dk_28 (dk_at dksX13_sheet_0 23 rfl rfl)
theorem dX13_sheet_24 : decode cX13_sheet 24 = .ok (.bipush 32, 2) := dk_16 32 (dk_at dksX13_sheet_1 0 rfl rfl)
theorem dX13_sheet_26 : decode cX13_sheet 26 = .ok (.if_icmp .eq 10, 3) := dk_159 0 10 (dk_at dksX13_sheet_1 2 rfl rfl)
theorem dX13_sheet_29 : decode cX13_sheet 29 = .ok (.aload_n 0, 1) := dk_42 (dk_at dksX13_sheet_1 5 rfl rfl)
theorem dX13_sheet_30 : decode cX13_sheet 30 = .ok (.ldc 66, 2) := dk_18 66 (dk_at dksX13_sheet_1 6 rfl rfl)
theorem dX13_sheet_32 : decode cX13_sheet 32 = .ok (.invokevirtual 72, 3) := dk_182 0 72 (dk_at dksX13_sheet_1 8 rfl rfl)
theorem dX13_sheet_35 : decode cX13_sheet 35 = .ok (.ireturn, 1) := dk_172 (dk_at dksX13_sheet_1 11 rfl rfl)
theorem dX13_sheet_36 : decode cX13_sheet 36 = .ok (.iload_n 3, 1) := dk_29 (dk_at dksX13_sheet_1 12 rfl rfl)
theorem dX13_sheet_37 : decode cX13_sheet 37 = .ok (.ifCond .ge 11, 3) := dk_156 0 11 (dk_at dksX13_sheet_1 13 rfl rfl)
theorem dX13_sheet_40 : decode cX13_sheet 40 = .ok (.aload_n 0, 1) := dk_42 (dk_at dksX13_sheet_1 16 rfl rfl)
theorem dX13_sheet_41 : decode cX13_sheet 41 = .ok (.ldc_w 312, 3) := dk_19 1 56 (dk_at dksX13_sheet_1 17 rfl rfl)
theorem dX13_sheet_44 : decode cX13_sheet 44 = .ok (.invokevirtual 72, 3) := dk_182 0 72 (dk_at dksX13_sheet_1 20 rfl rfl)
theorem dX13_sheet_47 : decode cX13_sheet 47 = .ok (.ireturn, 1) := dk_172 (dk_at dksX13_sheet_1 23 rfl rfl)
theorem dX13_sheet_48 : decode cX13_sheet 48 = .ok (.iload_n 3, 1) := dk_29 (dk_at dksX13_sheet_2 0 rfl rfl)
theorem dX13_sheet_49 : decode cX13_sheet 49 = .ok (.bipush 40, 2) := dk_16 40 (dk_at dksX13_sheet_2 1 rfl rfl)
theorem dX13_sheet_51 : decode cX13_sheet 51 = .ok (.if_icmp .le 10, 3) := dk_164 0 10 (dk_at dksX13_sheet_2 3 rfl rfl)
theorem dX13_sheet_54 : decode cX13_sheet 54 = .ok (.aload_n 0, 1) := dk_42 (dk_at dksX13_sheet_2 6 rfl rfl)
theorem dX13_sheet_55 : decode cX13_sheet 55 = .ok (.ldc 66, 2) := dk_18 66 (dk_at dksX13_sheet_2 7 rfl rfl)
theorem dX13_sheet_57 : decode cX13_sheet 57 = .ok (.invokevirtual 72, 3) := dk_182 0 72 (dk_at dksX13_sheet_2 9 rfl rfl)
theorem dX13_sheet_60 : decode cX13_sheet 60 = .ok (.ireturn, 1) := dk_172 (dk_at dksX13_sheet_2 12 rfl rfl)
theorem dX13_sheet_61 : decode cX13_sheet 61 = .ok (.aload_n 0, 1) := dk_42 (dk_at dksX13_sheet_2 13 rfl rfl)
theorem dX13_sheet_62 : decode cX13_sheet 62 = .ok (.getfield 54, 3) := dk_180 0 54 (dk_at dksX13_sheet_2 14 rfl rfl)
theorem dX13_sheet_65 : decode cX13_sheet 65 = .ok (.iload_n 1, 1) := dk_27 (dk_at dksX13_sheet_2 17 rfl rfl)
theorem dX13_sheet_66 : decode cX13_sheet 66 = .ok (.iload_n 2, 1) := dk_28 (dk_at dksX13_sheet_2 18 rfl rfl)
theorem dX13_sheet_67 : decode cX13_sheet 67 = .ok (.iastore, 1) := dk_79 (dk_at dksX13_sheet_2 19 rfl rfl)
theorem dX13_sheet_68 : decode cX13_sheet 68 = .ok (.aload_n 0, 1) := dk_42 (dk_at dksX13_sheet_2 20 rfl rfl)
theorem dX13_sheet_69 : decode cX13_sheet 69 = .ok (.getfield 57, 3) := dk_180 0 57 (dk_at dksX13_sheet_2 21 rfl rfl)
theorem dX13_sheet_72 : decode cX13_sheet 72 = .ok (.iload_n 1, 1) := dk_27 (dk_at dksX13_sheet_3 0 rfl rfl)
theorem dX13_sheet_73 : decode cX13_sheet 73 = .ok (.iload_n 2, 1) := dk_28 (dk_at dksX13_sheet_3 1 rfl rfl)
theorem dX13_sheet_74 : decode cX13_sheet 74 = .ok (.ifCond .ne 7, 3) := dk_154 0 7 (dk_at dksX13_sheet_3 2 rfl rfl)
theorem dX13_sheet_77 : decode cX13_sheet 77 = .ok (.iconst 0, 1) := dk_3 (dk_at dksX13_sheet_3 5 rfl rfl)
theorem dX13_sheet_78 : decode cX13_sheet 78 = .ok (.goto 4, 3) := dk_167 0 4 (dk_at dksX13_sheet_3 6 rfl rfl)
theorem dX13_sheet_81 : decode cX13_sheet 81 = .ok (.iload_n 3, 1) := dk_29 (dk_at dksX13_sheet_3 9 rfl rfl)
theorem dX13_sheet_82 : decode cX13_sheet 82 = .ok (.iastore, 1) := dk_79 (dk_at dksX13_sheet_3 10 rfl rfl)
theorem dX13_sheet_83 : decode cX13_sheet 83 = .ok (.iconst 0, 1) := dk_3 (dk_at dksX13_sheet_3 11 rfl rfl)
theorem dX13_sheet_84 : decode cX13_sheet 84 = .ok (.istore 4, 2) := dk_54 4 (dk_at dksX13_sheet_3 12 rfl rfl)
theorem dX13_sheet_86 : decode cX13_sheet 86 = .ok (.iload 4, 2) := dk_21 4 (dk_at dksX13_sheet_3 14 rfl rfl)
theorem dX13_sheet_88 : decode cX13_sheet 88 = .ok (.bipush 40, 2) := dk_16 40 (dk_at dksX13_sheet_3 16 rfl rfl)
theorem dX13_sheet_90 : decode cX13_sheet 90 = .ok (.if_icmp .ge 22, 3) := dk_162 0 22 (dk_at dksX13_sheet_3 18 rfl rfl)
theorem dX13_sheet_93 : decode cX13_sheet 93 = .ok (.aload_n 0, 1) := dk_42 (dk_at dksX13_sheet_3 21 rfl rfl)
theorem dX13_sheet_94 : decode cX13_sheet 94 = .ok (.getfield 60, 3) := dk_180 0 60 (dk_at dksX13_sheet_4 0 rfl rfl)
theorem dX13_sheet_97 : decode cX13_sheet 97 = .ok (.bipush 40, 2) := dk_16 40 (dk_at dksX13_sheet_4 3 rfl rfl)
theorem dX13_sheet_99 : decode cX13_sheet 99 = .ok (.iload_n 1, 1) := dk_27 (dk_at dksX13_sheet_4 5 rfl rfl)
theorem dX13_sheet_100 : decode cX13_sheet 100 = .ok (.imul, 1) := dk_104 (dk_at dksX13_sheet_4 6 rfl rfl)
theorem dX13_sheet_101 : decode cX13_sheet 101 = .ok (.iload 4, 2) := dk_21 4 (dk_at dksX13_sheet_4 7 rfl rfl)
theorem dX13_sheet_103 : decode cX13_sheet 103 = .ok (.iadd, 1) := dk_96 (dk_at dksX13_sheet_4 9 rfl rfl)
theorem dX13_sheet_104 : decode cX13_sheet 104 = .ok (.iconst 0, 1) := dk_3 (dk_at dksX13_sheet_4 10 rfl rfl)
theorem dX13_sheet_105 : decode cX13_sheet 105 = .ok (.iastore, 1) := dk_79 (dk_at dksX13_sheet_4 11 rfl rfl)
theorem dX13_sheet_106 : decode cX13_sheet 106 = .ok (.iinc 4 1, 3) := dk_132 4 1 (dk_at dksX13_sheet_4 12 rfl rfl)
theorem dX13_sheet_109 : decode cX13_sheet 109 = .ok (.goto (-23), 3) := dk_167 255 233 (dk_at dksX13_sheet_4 15 rfl rfl)
theorem dX13_sheet_112 : decode cX13_sheet 112 = .ok (.aload_n 0, 1) := dk_42 (dk_at dksX13_sheet_4 18 rfl rfl)
theorem dX13_sheet_113 : decode cX13_sheet 113 = .ok (.getfield 57, 3) := dk_180 0 57 (dk_at dksX13_sheet_4 19 rfl rfl)
theorem dX13_sheet_116 : decode cX13_sheet 116 = .ok (.iload_n 1, 1) := dk_27 (dk_at dksX13_sheet_4 22 rfl rfl)
theorem dX13_sheet_117 : decode cX13_sheet 117 = .ok (.iaload, 1) := dk_46 (dk_at dksX13_sheet_4 23 rfl rfl)
theorem dX13_sheet_118 : decode cX13_sheet 118 = .ok (.ireturn, 1) := dk_172 (dk_at dksX13_sheet_5 0 rfl rfl)
abbrev cX13_write : ByteArray := prog_16_method_91_code
def yX13_write : MethodName := ⟨RX13, "write", "(III)I"⟩
def dkwX13_write_3 : List UInt8 := [184, 1, 57, 79, 4, 172]
abbrev dktX13_write_3 : List UInt8 := dkwX13_write_3 ++ []
def dkwX13_write_2 : List UInt8 := [18, 66, 182, 0, 72, 172, 42, 180, 0, 60, 16, 40, 27, 104, 28, 96, 29, 42, 180, 0, 54, 27, 46]
abbrev dktX13_write_2 : List UInt8 := dkwX13_write_2 ++ dktX13_write_3
def dkwX13_write_1 : List UInt8 := [18, 198, 182, 0, 72, 172, 28, 3, 42, 180, 0, 57, 27, 46, 4, 100, 184, 0, 76, 154, 0, 10, 42]
abbrev dktX13_write_1 : List UInt8 := dkwX13_write_1 ++ dktX13_write_2
def dkwX13_write_0 : List UInt8 := [27, 184, 0, 195, 154, 0, 10, 42, 18, 66, 182, 0, 72, 172, 42, 180, 0, 54, 27, 46, 154, 0, 10, 42]
abbrev dktX13_write_0 : List UInt8 := dkwX13_write_0 ++ dktX13_write_1
theorem dksX13_write_0 : cX13_write.data.toList.drop 0 = dktX13_write_0 := by decide +kernel
theorem dksX13_write_1 : cX13_write.data.toList.drop 24 = dktX13_write_1 := dk_seg dksX13_write_0 24 rfl rfl
theorem dksX13_write_2 : cX13_write.data.toList.drop 47 = dktX13_write_2 := dk_seg dksX13_write_1 23 rfl rfl
theorem dksX13_write_3 : cX13_write.data.toList.drop 70 = dktX13_write_3 := dk_seg dksX13_write_2 23 rfl rfl
theorem dX13_write_0 : decode cX13_write 0 = .ok (.iload_n 1, 1) := dk_27 (dk_at dksX13_write_0 0 rfl rfl)
theorem dX13_write_1 : decode cX13_write 1 = .ok (.invokestatic 195, 3) := dk_184 0 195 (dk_at dksX13_write_0 1 rfl rfl)
theorem dX13_write_4 : decode cX13_write 4 = .ok (.ifCond .ne 10, 3) := dk_154 0 10 (dk_at dksX13_write_0 4 rfl rfl)
theorem dX13_write_7 : decode cX13_write 7 = .ok (.aload_n 0, 1) := dk_42 (dk_at dksX13_write_0 7 rfl rfl)
theorem dX13_write_8 : decode cX13_write 8 = .ok (.ldc 66, 2) := dk_18 66 (dk_at dksX13_write_0 8 rfl rfl)
theorem dX13_write_10 : decode cX13_write 10 = .ok (.invokevirtual 72, 3) := dk_182 0 72 (dk_at dksX13_write_0 10 rfl rfl)
theorem dX13_write_13 : decode cX13_write 13 = .ok (.ireturn, 1) := dk_172 (dk_at dksX13_write_0 13 rfl rfl)
theorem dX13_write_14 : decode cX13_write 14 = .ok (.aload_n 0, 1) := dk_42 (dk_at dksX13_write_0 14 rfl rfl)
theorem dX13_write_15 : decode cX13_write 15 = .ok (.getfield 54, 3) := dk_180 0 54 (dk_at dksX13_write_0 15 rfl rfl)
theorem dX13_write_18 : decode cX13_write 18 = .ok (.iload_n 1, 1) := dk_27 (dk_at dksX13_write_0 18 rfl rfl)
theorem dX13_write_19 : decode cX13_write 19 = .ok (.iaload, 1) := dk_46 (dk_at dksX13_write_0 19 rfl rfl)
theorem dX13_write_20 : decode cX13_write 20 = .ok (.ifCond .ne 10, 3) := dk_154 0 10 (dk_at dksX13_write_0 20 rfl rfl)
theorem dX13_write_23 : decode cX13_write 23 = .ok (.aload_n 0, 1) := dk_42 (dk_at dksX13_write_0 23 rfl rfl)
theorem dX13_write_24 : decode cX13_write 24 = .ok (.ldc 198, 2) := dk_18 198 (dk_at dksX13_write_1 0 rfl rfl)
theorem dX13_write_26 : decode cX13_write 26 = .ok (.invokevirtual 72, 3) := dk_182 0 72 (dk_at dksX13_write_1 2 rfl rfl)
theorem dX13_write_29 : decode cX13_write 29 = .ok (.ireturn, 1) := dk_172 (dk_at dksX13_write_1 5 rfl rfl)
theorem dX13_write_30 : decode cX13_write 30 = .ok (.iload_n 2, 1) := dk_28 (dk_at dksX13_write_1 6 rfl rfl)
theorem dX13_write_31 : decode cX13_write 31 = .ok (.iconst 0, 1) := dk_3 (dk_at dksX13_write_1 7 rfl rfl)
theorem dX13_write_32 : decode cX13_write 32 = .ok (.aload_n 0, 1) := dk_42 (dk_at dksX13_write_1 8 rfl rfl)
theorem dX13_write_33 : decode cX13_write 33 = .ok (.getfield 57, 3) := dk_180 0 57 (dk_at dksX13_write_1 9 rfl rfl)
theorem dX13_write_36 : decode cX13_write 36 = .ok (.iload_n 1, 1) := dk_27 (dk_at dksX13_write_1 12 rfl rfl)
theorem dX13_write_37 : decode cX13_write 37 = .ok (.iaload, 1) := dk_46 (dk_at dksX13_write_1 13 rfl rfl)
theorem dX13_write_38 : decode cX13_write 38 = .ok (.iconst 1, 1) := dk_4 (dk_at dksX13_write_1 14 rfl rfl)
theorem dX13_write_39 : decode cX13_write 39 = .ok (.isub, 1) := dk_100 (dk_at dksX13_write_1 15 rfl rfl)
theorem dX13_write_40 : decode cX13_write 40 = .ok (.invokestatic 76, 3) := dk_184 0 76 (dk_at dksX13_write_1 16 rfl rfl)
theorem dX13_write_43 : decode cX13_write 43 = .ok (.ifCond .ne 10, 3) := dk_154 0 10 (dk_at dksX13_write_1 19 rfl rfl)
theorem dX13_write_46 : decode cX13_write 46 = .ok (.aload_n 0, 1) := dk_42 (dk_at dksX13_write_1 22 rfl rfl)
theorem dX13_write_47 : decode cX13_write 47 = .ok (.ldc 66, 2) := dk_18 66 (dk_at dksX13_write_2 0 rfl rfl)
theorem dX13_write_49 : decode cX13_write 49 = .ok (.invokevirtual 72, 3) := dk_182 0 72 (dk_at dksX13_write_2 2 rfl rfl)
theorem dX13_write_52 : decode cX13_write 52 = .ok (.ireturn, 1) := dk_172 (dk_at dksX13_write_2 5 rfl rfl)
theorem dX13_write_53 : decode cX13_write 53 = .ok (.aload_n 0, 1) := dk_42 (dk_at dksX13_write_2 6 rfl rfl)
theorem dX13_write_54 : decode cX13_write 54 = .ok (.getfield 60, 3) := dk_180 0 60 (dk_at dksX13_write_2 7 rfl rfl)
theorem dX13_write_57 : decode cX13_write 57 = .ok (.bipush 40, 2) := dk_16 40 (dk_at dksX13_write_2 10 rfl rfl)
theorem dX13_write_59 : decode cX13_write 59 = .ok (.iload_n 1, 1) := dk_27 (dk_at dksX13_write_2 12 rfl rfl)
theorem dX13_write_60 : decode cX13_write 60 = .ok (.imul, 1) := dk_104 (dk_at dksX13_write_2 13 rfl rfl)
theorem dX13_write_61 : decode cX13_write 61 = .ok (.iload_n 2, 1) := dk_28 (dk_at dksX13_write_2 14 rfl rfl)
theorem dX13_write_62 : decode cX13_write 62 = .ok (.iadd, 1) := dk_96 (dk_at dksX13_write_2 15 rfl rfl)
theorem dX13_write_63 : decode cX13_write 63 = .ok (.iload_n 3, 1) := dk_29 (dk_at dksX13_write_2 16 rfl rfl)
theorem dX13_write_64 : decode cX13_write 64 = .ok (.aload_n 0, 1) := dk_42 (dk_at dksX13_write_2 17 rfl rfl)
theorem dX13_write_65 : decode cX13_write 65 = .ok (.getfield 54, 3) := dk_180 0 54 (dk_at dksX13_write_2 18 rfl rfl)
theorem dX13_write_68 : decode cX13_write 68 = .ok (.iload_n 1, 1) := dk_27 (dk_at dksX13_write_2 21 rfl rfl)
theorem dX13_write_69 : decode cX13_write 69 = .ok (.iaload, 1) := dk_46 (dk_at dksX13_write_2 22 rfl rfl)
theorem dX13_write_70 : decode cX13_write 70 = .ok (.invokestatic 313, 3) := dk_184 1 57 (dk_at dksX13_write_3 0 rfl rfl)
theorem dX13_write_73 : decode cX13_write 73 = .ok (.iastore, 1) := dk_79 (dk_at dksX13_write_3 3 rfl rfl)
theorem dX13_write_74 : decode cX13_write 74 = .ok (.iconst 1, 1) := dk_4 (dk_at dksX13_write_3 4 rfl rfl)
theorem dX13_write_75 : decode cX13_write 75 = .ok (.ireturn, 1) := dk_172 (dk_at dksX13_write_3 5 rfl rfl)
abbrev cX13_cutTo : ByteArray := prog_16_method_89_code
def yX13_cutTo : MethodName := ⟨RX13, "cutTo", "(II)I"⟩
def dkwX13_cutTo_0 : List UInt8 := [27, 16, 8, 160, 0, 8, 26, 145, 167, 0, 15, 27, 16, 16, 160, 0, 8, 26, 147, 167, 0, 4, 26, 172]
abbrev dktX13_cutTo_0 : List UInt8 := dkwX13_cutTo_0 ++ []
theorem dksX13_cutTo_0 : cX13_cutTo.data.toList.drop 0 = dktX13_cutTo_0 := by decide +kernel
theorem dX13_cutTo_0 : decode cX13_cutTo 0 = .ok (.iload_n 1, 1) := dk_27 (dk_at dksX13_cutTo_0 0 rfl rfl)
theorem dX13_cutTo_1 : decode cX13_cutTo 1 = .ok (.bipush 8, 2) := dk_16 8 (dk_at dksX13_cutTo_0 1 rfl rfl)
theorem dX13_cutTo_3 : decode cX13_cutTo 3 = .ok (.if_icmp .ne 8, 3) := dk_160 0 8 (dk_at dksX13_cutTo_0 3 rfl rfl)
theorem dX13_cutTo_6 : decode cX13_cutTo 6 = .ok (.iload_n 0, 1) := dk_26 (dk_at dksX13_cutTo_0 6 rfl rfl)
theorem dX13_cutTo_7 : decode cX13_cutTo 7 = .ok (.i2b, 1) := dk_145 (dk_at dksX13_cutTo_0 7 rfl rfl)
theorem dX13_cutTo_8 : decode cX13_cutTo 8 = .ok (.goto 15, 3) := dk_167 0 15 (dk_at dksX13_cutTo_0 8 rfl rfl)
theorem dX13_cutTo_11 : decode cX13_cutTo 11 = .ok (.iload_n 1, 1) := dk_27 (dk_at dksX13_cutTo_0 11 rfl rfl)
theorem dX13_cutTo_12 : decode cX13_cutTo 12 = .ok (.bipush 16, 2) := dk_16 16 (dk_at dksX13_cutTo_0 12 rfl rfl)
theorem dX13_cutTo_14 : decode cX13_cutTo 14 = .ok (.if_icmp .ne 8, 3) := dk_160 0 8 (dk_at dksX13_cutTo_0 14 rfl rfl)
theorem dX13_cutTo_17 : decode cX13_cutTo 17 = .ok (.iload_n 0, 1) := dk_26 (dk_at dksX13_cutTo_0 17 rfl rfl)
theorem dX13_cutTo_18 : decode cX13_cutTo 18 = .ok (.i2s, 1) := dk_147 (dk_at dksX13_cutTo_0 18 rfl rfl)
theorem dX13_cutTo_19 : decode cX13_cutTo 19 = .ok (.goto 4, 3) := dk_167 0 4 (dk_at dksX13_cutTo_0 19 rfl rfl)
theorem dX13_cutTo_22 : decode cX13_cutTo 22 = .ok (.iload_n 0, 1) := dk_26 (dk_at dksX13_cutTo_0 22 rfl rfl)
theorem dX13_cutTo_23 : decode cX13_cutTo 23 = .ok (.ireturn, 1) := dk_172 (dk_at dksX13_cutTo_0 23 rfl rfl)
abbrev cX13_copy : ByteArray := prog_16_method_92_code
def yX13_copy : MethodName := ⟨RX13, "copy", "(IIIII)I"⟩
def dkwX13_copy_8 : List UInt8 := [180, 0, 63, 21, 6, 46, 79, 132, 6, 1, 167, 255, 224, 21, 5, 172]
abbrev dktX13_copy_8 : List UInt8 := dkwX13_copy_8 ++ []
def dkwX13_copy_7 : List UInt8 := [21, 6, 21, 5, 162, 0, 31, 42, 180, 0, 60, 16, 40, 29, 104, 21, 4, 96, 21, 6, 96, 42]
abbrev dktX13_copy_7 : List UInt8 := dkwX13_copy_7 ++ dktX13_copy_8
def dkwX13_copy_6 : List UInt8 := [180, 0, 60, 16, 40, 27, 104, 28, 96, 21, 6, 96, 46, 79, 132, 6, 1, 167, 255, 225, 3, 54, 6]
abbrev dktX13_copy_6 : List UInt8 := dkwX13_copy_6 ++ dktX13_copy_7
def dkwX13_copy_5 : List UInt8 := [42, 18, 66, 182, 0, 72, 172, 3, 54, 6, 21, 6, 21, 5, 162, 0, 30, 42, 180, 0, 63, 21, 6, 42]
abbrev dktX13_copy_5 : List UInt8 := dkwX13_copy_5 ++ dktX13_copy_6
def dkwX13_copy_4 : List UInt8 := [46, 133, 148, 157, 0, 21, 21, 4, 133, 21, 5, 133, 97, 42, 180, 0, 57, 29, 46, 133, 148, 158, 0, 10]
abbrev dktX13_copy_4 : List UInt8 := dkwX13_copy_4 ++ dktX13_copy_5
def dkwX13_copy_3 : List UInt8 := [155, 0, 48, 21, 4, 155, 0, 43, 21, 5, 155, 0, 38, 28, 133, 21, 5, 133, 97, 42, 180, 0, 57, 27]
abbrev dktX13_copy_3 : List UInt8 := dkwX13_copy_3 ++ dktX13_copy_4
def dkwX13_copy_2 : List UInt8 := [42, 180, 0, 54, 27, 46, 42, 180, 0, 54, 29, 46, 159, 0, 11, 42, 19, 1, 55, 182, 0, 72, 172, 28]
abbrev dktX13_copy_2 : List UInt8 := dkwX13_copy_2 ++ dktX13_copy_3
def dkwX13_copy_1 : List UInt8 := [180, 0, 54, 27, 46, 153, 0, 12, 42, 180, 0, 54, 29, 46, 154, 0, 10, 42, 18, 198, 182, 0, 72, 172]
abbrev dktX13_copy_1 : List UInt8 := dkwX13_copy_1 ++ dktX13_copy_2
def dkwX13_copy_0 : List UInt8 := [27, 184, 0, 195, 153, 0, 10, 29, 184, 0, 195, 154, 0, 10, 42, 18, 66, 182, 0, 72, 172, 42]
abbrev dktX13_copy_0 : List UInt8 := dkwX13_copy_0 ++ dktX13_copy_1
theorem dksX13_copy_0 : cX13_copy.data.toList.drop 0 = dktX13_copy_0 := by decide +kernel
theorem dksX13_copy_1 : cX13_copy.data.toList.drop 22 = dktX13_copy_1 := dk_seg dksX13_copy_0 22 rfl rfl
theorem dksX13_copy_2 : cX13_copy.data.toList.drop 46 = dktX13_copy_2 := dk_seg dksX13_copy_1 24 rfl rfl
theorem dksX13_copy_3 : cX13_copy.data.toList.drop 70 = dktX13_copy_3 := dk_seg dksX13_copy_2 24 rfl rfl
theorem dksX13_copy_4 : cX13_copy.data.toList.drop 94 = dktX13_copy_4 := dk_seg dksX13_copy_3 24 rfl rfl
theorem dksX13_copy_5 : cX13_copy.data.toList.drop 118 = dktX13_copy_5 := dk_seg dksX13_copy_4 24 rfl rfl
theorem dksX13_copy_6 : cX13_copy.data.toList.drop 142 = dktX13_copy_6 := dk_seg dksX13_copy_5 24 rfl rfl
theorem dksX13_copy_7 : cX13_copy.data.toList.drop 165 = dktX13_copy_7 := dk_seg dksX13_copy_6 23 rfl rfl
theorem dksX13_copy_8 : cX13_copy.data.toList.drop 187 = dktX13_copy_8 := dk_seg dksX13_copy_7 22 rfl rfl
theorem dX13_copy_0 : decode cX13_copy 0 = .ok (.iload_n 1, 1) := dk_27 (dk_at dksX13_copy_0 0 rfl rfl)
theorem dX13_copy_1 : decode cX13_copy 1 = .ok (.invokestatic 195, 3) := dk_184 0 195 (dk_at dksX13_copy_0 1 rfl rfl)
theorem dX13_copy_4 : decode cX13_copy 4 = .ok (.ifCond .eq 10, 3) := dk_153 0 10 (dk_at dksX13_copy_0 4 rfl rfl)
theorem dX13_copy_7 : decode cX13_copy 7 = .ok (.iload_n 3, 1) := dk_29 (dk_at dksX13_copy_0 7 rfl rfl)
theorem dX13_copy_8 : decode cX13_copy 8 = .ok (.invokestatic 195, 3) := dk_184 0 195 (dk_at dksX13_copy_0 8 rfl rfl)
theorem dX13_copy_11 : decode cX13_copy 11 = .ok (.ifCond .ne 10, 3) := dk_154 0 10 (dk_at dksX13_copy_0 11 rfl rfl)
theorem dX13_copy_14 : decode cX13_copy 14 = .ok (.aload_n 0, 1) := dk_42 (dk_at dksX13_copy_0 14 rfl rfl)
theorem dX13_copy_15 : decode cX13_copy 15 = .ok (.ldc 66, 2) := dk_18 66 (dk_at dksX13_copy_0 15 rfl rfl)
theorem dX13_copy_17 : decode cX13_copy 17 = .ok (.invokevirtual 72, 3) := dk_182 0 72 (dk_at dksX13_copy_0 17 rfl rfl)
theorem dX13_copy_20 : decode cX13_copy 20 = .ok (.ireturn, 1) := dk_172 (dk_at dksX13_copy_0 20 rfl rfl)
theorem dX13_copy_21 : decode cX13_copy 21 = .ok (.aload_n 0, 1) := dk_42 (dk_at dksX13_copy_0 21 rfl rfl)
theorem dX13_copy_22 : decode cX13_copy 22 = .ok (.getfield 54, 3) := dk_180 0 54 (dk_at dksX13_copy_1 0 rfl rfl)
theorem dX13_copy_25 : decode cX13_copy 25 = .ok (.iload_n 1, 1) := dk_27 (dk_at dksX13_copy_1 3 rfl rfl)
theorem dX13_copy_26 : decode cX13_copy 26 = .ok (.iaload, 1) := dk_46 (dk_at dksX13_copy_1 4 rfl rfl)
theorem dX13_copy_27 : decode cX13_copy 27 = .ok (.ifCond .eq 12, 3) := dk_153 0 12 (dk_at dksX13_copy_1 5 rfl rfl)
theorem dX13_copy_30 : decode cX13_copy 30 = .ok (.aload_n 0, 1) := dk_42 (dk_at dksX13_copy_1 8 rfl rfl)
theorem dX13_copy_31 : decode cX13_copy 31 = .ok (.getfield 54, 3) := dk_180 0 54 (dk_at dksX13_copy_1 9 rfl rfl)
theorem dX13_copy_34 : decode cX13_copy 34 = .ok (.iload_n 3, 1) := dk_29 (dk_at dksX13_copy_1 12 rfl rfl)
theorem dX13_copy_35 : decode cX13_copy 35 = .ok (.iaload, 1) := dk_46 (dk_at dksX13_copy_1 13 rfl rfl)
theorem dX13_copy_36 : decode cX13_copy 36 = .ok (.ifCond .ne 10, 3) := dk_154 0 10 (dk_at dksX13_copy_1 14 rfl rfl)
theorem dX13_copy_39 : decode cX13_copy 39 = .ok (.aload_n 0, 1) := dk_42 (dk_at dksX13_copy_1 17 rfl rfl)
theorem dX13_copy_40 : decode cX13_copy 40 = .ok (.ldc 198, 2) := dk_18 198 (dk_at dksX13_copy_1 18 rfl rfl)
theorem dX13_copy_42 : decode cX13_copy 42 = .ok (.invokevirtual 72, 3) := dk_182 0 72 (dk_at dksX13_copy_1 20 rfl rfl)
theorem dX13_copy_45 : decode cX13_copy 45 = .ok (.ireturn, 1) := dk_172 (dk_at dksX13_copy_1 23 rfl rfl)
theorem dX13_copy_46 : decode cX13_copy 46 = .ok (.aload_n 0, 1) := dk_42 (dk_at dksX13_copy_2 0 rfl rfl)
theorem dX13_copy_47 : decode cX13_copy 47 = .ok (.getfield 54, 3) := dk_180 0 54 (dk_at dksX13_copy_2 1 rfl rfl)
theorem dX13_copy_50 : decode cX13_copy 50 = .ok (.iload_n 1, 1) := dk_27 (dk_at dksX13_copy_2 4 rfl rfl)
theorem dX13_copy_51 : decode cX13_copy 51 = .ok (.iaload, 1) := dk_46 (dk_at dksX13_copy_2 5 rfl rfl)
theorem dX13_copy_52 : decode cX13_copy 52 = .ok (.aload_n 0, 1) := dk_42 (dk_at dksX13_copy_2 6 rfl rfl)
theorem dX13_copy_53 : decode cX13_copy 53 = .ok (.getfield 54, 3) := dk_180 0 54 (dk_at dksX13_copy_2 7 rfl rfl)
theorem dX13_copy_56 : decode cX13_copy 56 = .ok (.iload_n 3, 1) := dk_29 (dk_at dksX13_copy_2 10 rfl rfl)
theorem dX13_copy_57 : decode cX13_copy 57 = .ok (.iaload, 1) := dk_46 (dk_at dksX13_copy_2 11 rfl rfl)
theorem dX13_copy_58 : decode cX13_copy 58 = .ok (.if_icmp .eq 11, 3) := dk_159 0 11 (dk_at dksX13_copy_2 12 rfl rfl)
theorem dX13_copy_61 : decode cX13_copy 61 = .ok (.aload_n 0, 1) := dk_42 (dk_at dksX13_copy_2 15 rfl rfl)
theorem dX13_copy_62 : decode cX13_copy 62 = .ok (.ldc_w 311, 3) := dk_19 1 55 (dk_at dksX13_copy_2 16 rfl rfl)
theorem dX13_copy_65 : decode cX13_copy 65 = .ok (.invokevirtual 72, 3) := dk_182 0 72 (dk_at dksX13_copy_2 19 rfl rfl)
theorem dX13_copy_68 : decode cX13_copy 68 = .ok (.ireturn, 1) := dk_172 (dk_at dksX13_copy_2 22 rfl rfl)
theorem dX13_copy_69 : decode cX13_copy 69 = .ok (.iload_n 2, 1) := dk_28 (dk_at dksX13_copy_2 23 rfl rfl)
theorem dX13_copy_70 : decode cX13_copy 70 = .ok (.ifCond .lt 48, 3) := dk_155 0 48 (dk_at dksX13_copy_3 0 rfl rfl)
theorem dX13_copy_73 : decode cX13_copy 73 = .ok (.iload 4, 2) := dk_21 4 (dk_at dksX13_copy_3 3 rfl rfl)
theorem dX13_copy_75 : decode cX13_copy 75 = .ok (.ifCond .lt 43, 3) := dk_155 0 43 (dk_at dksX13_copy_3 5 rfl rfl)
theorem dX13_copy_78 : decode cX13_copy 78 = .ok (.iload 5, 2) := dk_21 5 (dk_at dksX13_copy_3 8 rfl rfl)
theorem dX13_copy_80 : decode cX13_copy 80 = .ok (.ifCond .lt 38, 3) := dk_155 0 38 (dk_at dksX13_copy_3 10 rfl rfl)
theorem dX13_copy_83 : decode cX13_copy 83 = .ok (.iload_n 2, 1) := dk_28 (dk_at dksX13_copy_3 13 rfl rfl)
theorem dX13_copy_84 : decode cX13_copy 84 = .ok (.i2l, 1) := dk_133 (dk_at dksX13_copy_3 14 rfl rfl)
theorem dX13_copy_85 : decode cX13_copy 85 = .ok (.iload 5, 2) := dk_21 5 (dk_at dksX13_copy_3 15 rfl rfl)
theorem dX13_copy_87 : decode cX13_copy 87 = .ok (.i2l, 1) := dk_133 (dk_at dksX13_copy_3 17 rfl rfl)
theorem dX13_copy_88 : decode cX13_copy 88 = .ok (.ladd, 1) := dk_97 (dk_at dksX13_copy_3 18 rfl rfl)
theorem dX13_copy_89 : decode cX13_copy 89 = .ok (.aload_n 0, 1) := dk_42 (dk_at dksX13_copy_3 19 rfl rfl)
theorem dX13_copy_90 : decode cX13_copy 90 = .ok (.getfield 57, 3) := dk_180 0 57 (dk_at dksX13_copy_3 20 rfl rfl)
theorem dX13_copy_93 : decode cX13_copy 93 = .ok (.iload_n 1, 1) := dk_27 (dk_at dksX13_copy_3 23 rfl rfl)
theorem dX13_copy_94 : decode cX13_copy 94 = .ok (.iaload, 1) := dk_46 (dk_at dksX13_copy_4 0 rfl rfl)
theorem dX13_copy_95 : decode cX13_copy 95 = .ok (.i2l, 1) := dk_133 (dk_at dksX13_copy_4 1 rfl rfl)
theorem dX13_copy_96 : decode cX13_copy 96 = .ok (.lcmp, 1) := dk_148 (dk_at dksX13_copy_4 2 rfl rfl)
theorem dX13_copy_97 : decode cX13_copy 97 = .ok (.ifCond .gt 21, 3) := dk_157 0 21 (dk_at dksX13_copy_4 3 rfl rfl)
theorem dX13_copy_100 : decode cX13_copy 100 = .ok (.iload 4, 2) := dk_21 4 (dk_at dksX13_copy_4 6 rfl rfl)
theorem dX13_copy_102 : decode cX13_copy 102 = .ok (.i2l, 1) := dk_133 (dk_at dksX13_copy_4 8 rfl rfl)
theorem dX13_copy_103 : decode cX13_copy 103 = .ok (.iload 5, 2) := dk_21 5 (dk_at dksX13_copy_4 9 rfl rfl)
theorem dX13_copy_105 : decode cX13_copy 105 = .ok (.i2l, 1) := dk_133 (dk_at dksX13_copy_4 11 rfl rfl)
theorem dX13_copy_106 : decode cX13_copy 106 = .ok (.ladd, 1) := dk_97 (dk_at dksX13_copy_4 12 rfl rfl)
theorem dX13_copy_107 : decode cX13_copy 107 = .ok (.aload_n 0, 1) := dk_42 (dk_at dksX13_copy_4 13 rfl rfl)
theorem dX13_copy_108 : decode cX13_copy 108 = .ok (.getfield 57, 3) := dk_180 0 57 (dk_at dksX13_copy_4 14 rfl rfl)
theorem dX13_copy_111 : decode cX13_copy 111 = .ok (.iload_n 3, 1) := dk_29 (dk_at dksX13_copy_4 17 rfl rfl)
theorem dX13_copy_112 : decode cX13_copy 112 = .ok (.iaload, 1) := dk_46 (dk_at dksX13_copy_4 18 rfl rfl)
theorem dX13_copy_113 : decode cX13_copy 113 = .ok (.i2l, 1) := dk_133 (dk_at dksX13_copy_4 19 rfl rfl)
theorem dX13_copy_114 : decode cX13_copy 114 = .ok (.lcmp, 1) := dk_148 (dk_at dksX13_copy_4 20 rfl rfl)
theorem dX13_copy_115 : decode cX13_copy 115 = .ok (.ifCond .le 10, 3) := dk_158 0 10 (dk_at dksX13_copy_4 21 rfl rfl)
theorem dX13_copy_118 : decode cX13_copy 118 = .ok (.aload_n 0, 1) := dk_42 (dk_at dksX13_copy_5 0 rfl rfl)
theorem dX13_copy_119 : decode cX13_copy 119 = .ok (.ldc 66, 2) := dk_18 66 (dk_at dksX13_copy_5 1 rfl rfl)
theorem dX13_copy_121 : decode cX13_copy 121 = .ok (.invokevirtual 72, 3) := dk_182 0 72 (dk_at dksX13_copy_5 3 rfl rfl)
theorem dX13_copy_124 : decode cX13_copy 124 = .ok (.ireturn, 1) := dk_172 (dk_at dksX13_copy_5 6 rfl rfl)
theorem dX13_copy_125 : decode cX13_copy 125 = .ok (.iconst 0, 1) := dk_3 (dk_at dksX13_copy_5 7 rfl rfl)
theorem dX13_copy_126 : decode cX13_copy 126 = .ok (.istore 6, 2) := dk_54 6 (dk_at dksX13_copy_5 8 rfl rfl)
theorem dX13_copy_128 : decode cX13_copy 128 = .ok (.iload 6, 2) := dk_21 6 (dk_at dksX13_copy_5 10 rfl rfl)
theorem dX13_copy_130 : decode cX13_copy 130 = .ok (.iload 5, 2) := dk_21 5 (dk_at dksX13_copy_5 12 rfl rfl)
theorem dX13_copy_132 : decode cX13_copy 132 = .ok (.if_icmp .ge 30, 3) := dk_162 0 30 (dk_at dksX13_copy_5 14 rfl rfl)
theorem dX13_copy_135 : decode cX13_copy 135 = .ok (.aload_n 0, 1) := dk_42 (dk_at dksX13_copy_5 17 rfl rfl)
theorem dX13_copy_136 : decode cX13_copy 136 = .ok (.getfield 63, 3) := dk_180 0 63 (dk_at dksX13_copy_5 18 rfl rfl)
theorem dX13_copy_139 : decode cX13_copy 139 = .ok (.iload 6, 2) := dk_21 6 (dk_at dksX13_copy_5 21 rfl rfl)
theorem dX13_copy_141 : decode cX13_copy 141 = .ok (.aload_n 0, 1) := dk_42 (dk_at dksX13_copy_5 23 rfl rfl)
theorem dX13_copy_142 : decode cX13_copy 142 = .ok (.getfield 60, 3) := dk_180 0 60 (dk_at dksX13_copy_6 0 rfl rfl)
theorem dX13_copy_145 : decode cX13_copy 145 = .ok (.bipush 40, 2) := dk_16 40 (dk_at dksX13_copy_6 3 rfl rfl)
theorem dX13_copy_147 : decode cX13_copy 147 = .ok (.iload_n 1, 1) := dk_27 (dk_at dksX13_copy_6 5 rfl rfl)
theorem dX13_copy_148 : decode cX13_copy 148 = .ok (.imul, 1) := dk_104 (dk_at dksX13_copy_6 6 rfl rfl)
theorem dX13_copy_149 : decode cX13_copy 149 = .ok (.iload_n 2, 1) := dk_28 (dk_at dksX13_copy_6 7 rfl rfl)
theorem dX13_copy_150 : decode cX13_copy 150 = .ok (.iadd, 1) := dk_96 (dk_at dksX13_copy_6 8 rfl rfl)
theorem dX13_copy_151 : decode cX13_copy 151 = .ok (.iload 6, 2) := dk_21 6 (dk_at dksX13_copy_6 9 rfl rfl)
theorem dX13_copy_153 : decode cX13_copy 153 = .ok (.iadd, 1) := dk_96 (dk_at dksX13_copy_6 11 rfl rfl)
theorem dX13_copy_154 : decode cX13_copy 154 = .ok (.iaload, 1) := dk_46 (dk_at dksX13_copy_6 12 rfl rfl)
theorem dX13_copy_155 : decode cX13_copy 155 = .ok (.iastore, 1) := dk_79 (dk_at dksX13_copy_6 13 rfl rfl)
theorem dX13_copy_156 : decode cX13_copy 156 = .ok (.iinc 6 1, 3) := dk_132 6 1 (dk_at dksX13_copy_6 14 rfl rfl)
theorem dX13_copy_159 : decode cX13_copy 159 = .ok (.goto (-31), 3) := dk_167 255 225 (dk_at dksX13_copy_6 17 rfl rfl)
theorem dX13_copy_162 : decode cX13_copy 162 = .ok (.iconst 0, 1) := dk_3 (dk_at dksX13_copy_6 20 rfl rfl)
theorem dX13_copy_163 : decode cX13_copy 163 = .ok (.istore 6, 2) := dk_54 6 (dk_at dksX13_copy_6 21 rfl rfl)
theorem dX13_copy_165 : decode cX13_copy 165 = .ok (.iload 6, 2) := dk_21 6 (dk_at dksX13_copy_7 0 rfl rfl)
theorem dX13_copy_167 : decode cX13_copy 167 = .ok (.iload 5, 2) := dk_21 5 (dk_at dksX13_copy_7 2 rfl rfl)
theorem dX13_copy_169 : decode cX13_copy 169 = .ok (.if_icmp .ge 31, 3) := dk_162 0 31 (dk_at dksX13_copy_7 4 rfl rfl)
theorem dX13_copy_172 : decode cX13_copy 172 = .ok (.aload_n 0, 1) := dk_42 (dk_at dksX13_copy_7 7 rfl rfl)
theorem dX13_copy_173 : decode cX13_copy 173 = .ok (.getfield 60, 3) := dk_180 0 60 (dk_at dksX13_copy_7 8 rfl rfl)
theorem dX13_copy_176 : decode cX13_copy 176 = .ok (.bipush 40, 2) := dk_16 40 (dk_at dksX13_copy_7 11 rfl rfl)
theorem dX13_copy_178 : decode cX13_copy 178 = .ok (.iload_n 3, 1) := dk_29 (dk_at dksX13_copy_7 13 rfl rfl)
theorem dX13_copy_179 : decode cX13_copy 179 = .ok (.imul, 1) := dk_104 (dk_at dksX13_copy_7 14 rfl rfl)
theorem dX13_copy_180 : decode cX13_copy 180 = .ok (.iload 4, 2) := dk_21 4 (dk_at dksX13_copy_7 15 rfl rfl)
theorem dX13_copy_182 : decode cX13_copy 182 = .ok (.iadd, 1) := dk_96 (dk_at dksX13_copy_7 17 rfl rfl)
theorem dX13_copy_183 : decode cX13_copy 183 = .ok (.iload 6, 2) := dk_21 6 (dk_at dksX13_copy_7 18 rfl rfl)
theorem dX13_copy_185 : decode cX13_copy 185 = .ok (.iadd, 1) := dk_96 (dk_at dksX13_copy_7 20 rfl rfl)
theorem dX13_copy_186 : decode cX13_copy 186 = .ok (.aload_n 0, 1) := dk_42 (dk_at dksX13_copy_7 21 rfl rfl)
theorem dX13_copy_187 : decode cX13_copy 187 = .ok (.getfield 63, 3) := dk_180 0 63 (dk_at dksX13_copy_8 0 rfl rfl)
theorem dX13_copy_190 : decode cX13_copy 190 = .ok (.iload 6, 2) := dk_21 6 (dk_at dksX13_copy_8 3 rfl rfl)
theorem dX13_copy_192 : decode cX13_copy 192 = .ok (.iaload, 1) := dk_46 (dk_at dksX13_copy_8 5 rfl rfl)
theorem dX13_copy_193 : decode cX13_copy 193 = .ok (.iastore, 1) := dk_79 (dk_at dksX13_copy_8 6 rfl rfl)
theorem dX13_copy_194 : decode cX13_copy 194 = .ok (.iinc 6 1, 3) := dk_132 6 1 (dk_at dksX13_copy_8 7 rfl rfl)
theorem dX13_copy_197 : decode cX13_copy 197 = .ok (.goto (-32), 3) := dk_167 255 224 (dk_at dksX13_copy_8 10 rfl rfl)
theorem dX13_copy_200 : decode cX13_copy 200 = .ok (.iload 5, 2) := dk_21 5 (dk_at dksX13_copy_8 13 rfl rfl)
theorem dX13_copy_202 : decode cX13_copy 202 = .ok (.ireturn, 1) := dk_172 (dk_at dksX13_copy_8 15 rfl rfl)
abbrev cX13_load : ByteArray := prog_16_method_95_code
def yX13_load : MethodName := ⟨RX13, "load", "(I)I"⟩
def dkwX13_load_3 : List UInt8 := [96, 46, 79, 132, 2, 1, 167, 255, 200, 28, 172]
abbrev dktX13_load_3 : List UInt8 := dkwX13_load_3 ++ []
def dkwX13_load_2 : List UInt8 := [46, 184, 0, 100, 153, 0, 29, 42, 180, 0, 9, 16, 38, 28, 96, 42, 180, 0, 60, 16, 40, 27, 104, 28]
abbrev dktX13_load_2 : List UInt8 := dkwX13_load_2 ++ dktX13_load_3
def dkwX13_load_1 : List UInt8 := [180, 0, 57, 27, 46, 162, 0, 52, 28, 16, 6, 162, 0, 46, 42, 180, 0, 60, 16, 40, 27, 104, 28, 96]
abbrev dktX13_load_1 : List UInt8 := dkwX13_load_1 ++ dktX13_load_2
def dkwX13_load_0 : List UInt8 := [42, 27, 4, 182, 0, 199, 153, 0, 14, 42, 42, 27, 4, 182, 0, 199, 182, 0, 72, 172, 3, 61, 28, 42]
abbrev dktX13_load_0 : List UInt8 := dkwX13_load_0 ++ dktX13_load_1
theorem dksX13_load_0 : cX13_load.data.toList.drop 0 = dktX13_load_0 := by decide +kernel
theorem dksX13_load_1 : cX13_load.data.toList.drop 24 = dktX13_load_1 := dk_seg dksX13_load_0 24 rfl rfl
theorem dksX13_load_2 : cX13_load.data.toList.drop 48 = dktX13_load_2 := dk_seg dksX13_load_1 24 rfl rfl
theorem dksX13_load_3 : cX13_load.data.toList.drop 72 = dktX13_load_3 := dk_seg dksX13_load_2 24 rfl rfl
theorem dX13_load_0 : decode cX13_load 0 = .ok (.aload_n 0, 1) := dk_42 (dk_at dksX13_load_0 0 rfl rfl)
theorem dX13_load_1 : decode cX13_load 1 = .ok (.iload_n 1, 1) := dk_27 (dk_at dksX13_load_0 1 rfl rfl)
theorem dX13_load_2 : decode cX13_load 2 = .ok (.iconst 1, 1) := dk_4 (dk_at dksX13_load_0 2 rfl rfl)
theorem dX13_load_3 : decode cX13_load 3 = .ok (.invokevirtual 199, 3) := dk_182 0 199 (dk_at dksX13_load_0 3 rfl rfl)
theorem dX13_load_6 : decode cX13_load 6 = .ok (.ifCond .eq 14, 3) := dk_153 0 14 (dk_at dksX13_load_0 6 rfl rfl)
theorem dX13_load_9 : decode cX13_load 9 = .ok (.aload_n 0, 1) := dk_42 (dk_at dksX13_load_0 9 rfl rfl)
theorem dX13_load_10 : decode cX13_load 10 = .ok (.aload_n 0, 1) := dk_42 (dk_at dksX13_load_0 10 rfl rfl)
theorem dX13_load_11 : decode cX13_load 11 = .ok (.iload_n 1, 1) := dk_27 (dk_at dksX13_load_0 11 rfl rfl)
theorem dX13_load_12 : decode cX13_load 12 = .ok (.iconst 1, 1) := dk_4 (dk_at dksX13_load_0 12 rfl rfl)
theorem dX13_load_13 : decode cX13_load 13 = .ok (.invokevirtual 199, 3) := dk_182 0 199 (dk_at dksX13_load_0 13 rfl rfl)
theorem dX13_load_16 : decode cX13_load 16 = .ok (.invokevirtual 72, 3) := dk_182 0 72 (dk_at dksX13_load_0 16 rfl rfl)
theorem dX13_load_19 : decode cX13_load 19 = .ok (.ireturn, 1) := dk_172 (dk_at dksX13_load_0 19 rfl rfl)
theorem dX13_load_20 : decode cX13_load 20 = .ok (.iconst 0, 1) := dk_3 (dk_at dksX13_load_0 20 rfl rfl)
theorem dX13_load_21 : decode cX13_load 21 = .ok (.istore_n 2, 1) := dk_61 (dk_at dksX13_load_0 21 rfl rfl)
theorem dX13_load_22 : decode cX13_load 22 = .ok (.iload_n 2, 1) := dk_28 (dk_at dksX13_load_0 22 rfl rfl)
theorem dX13_load_23 : decode cX13_load 23 = .ok (.aload_n 0, 1) := dk_42 (dk_at dksX13_load_0 23 rfl rfl)
theorem dX13_load_24 : decode cX13_load 24 = .ok (.getfield 57, 3) := dk_180 0 57 (dk_at dksX13_load_1 0 rfl rfl)
theorem dX13_load_27 : decode cX13_load 27 = .ok (.iload_n 1, 1) := dk_27 (dk_at dksX13_load_1 3 rfl rfl)
theorem dX13_load_28 : decode cX13_load 28 = .ok (.iaload, 1) := dk_46 (dk_at dksX13_load_1 4 rfl rfl)
theorem dX13_load_29 : decode cX13_load 29 = .ok (.if_icmp .ge 52, 3) := dk_162 0 52 (dk_at dksX13_load_1 5 rfl rfl)
theorem dX13_load_32 : decode cX13_load 32 = .ok (.iload_n 2, 1) := dk_28 (dk_at dksX13_load_1 8 rfl rfl)
theorem dX13_load_33 : decode cX13_load 33 = .ok (.bipush 6, 2) := dk_16 6 (dk_at dksX13_load_1 9 rfl rfl)
theorem dX13_load_35 : decode cX13_load 35 = .ok (.if_icmp .ge 46, 3) := dk_162 0 46 (dk_at dksX13_load_1 11 rfl rfl)
theorem dX13_load_38 : decode cX13_load 38 = .ok (.aload_n 0, 1) := dk_42 (dk_at dksX13_load_1 14 rfl rfl)
theorem dX13_load_39 : decode cX13_load 39 = .ok (.getfield 60, 3) := dk_180 0 60 (dk_at dksX13_load_1 15 rfl rfl)
theorem dX13_load_42 : decode cX13_load 42 = .ok (.bipush 40, 2) := dk_16 40 (dk_at dksX13_load_1 18 rfl rfl)
theorem dX13_load_44 : decode cX13_load 44 = .ok (.iload_n 1, 1) := dk_27 (dk_at dksX13_load_1 20 rfl rfl)
theorem dX13_load_45 : decode cX13_load 45 = .ok (.imul, 1) := dk_104 (dk_at dksX13_load_1 21 rfl rfl)
theorem dX13_load_46 : decode cX13_load 46 = .ok (.iload_n 2, 1) := dk_28 (dk_at dksX13_load_1 22 rfl rfl)
theorem dX13_load_47 : decode cX13_load 47 = .ok (.iadd, 1) := dk_96 (dk_at dksX13_load_1 23 rfl rfl)
theorem dX13_load_48 : decode cX13_load 48 = .ok (.iaload, 1) := dk_46 (dk_at dksX13_load_2 0 rfl rfl)
theorem dX13_load_49 : decode cX13_load 49 = .ok (.invokestatic 100, 3) := dk_184 0 100 (dk_at dksX13_load_2 1 rfl rfl)
theorem dX13_load_52 : decode cX13_load 52 = .ok (.ifCond .eq 29, 3) := dk_153 0 29 (dk_at dksX13_load_2 4 rfl rfl)
theorem dX13_load_55 : decode cX13_load 55 = .ok (.aload_n 0, 1) := dk_42 (dk_at dksX13_load_2 7 rfl rfl)
theorem dX13_load_56 : decode cX13_load 56 = .ok (.getfield 9, 3) := dk_180 0 9 (dk_at dksX13_load_2 8 rfl rfl)
theorem dX13_load_59 : decode cX13_load 59 = .ok (.bipush 38, 2) := dk_16 38 (dk_at dksX13_load_2 11 rfl rfl)
theorem dX13_load_61 : decode cX13_load 61 = .ok (.iload_n 2, 1) := dk_28 (dk_at dksX13_load_2 13 rfl rfl)
theorem dX13_load_62 : decode cX13_load 62 = .ok (.iadd, 1) := dk_96 (dk_at dksX13_load_2 14 rfl rfl)
theorem dX13_load_63 : decode cX13_load 63 = .ok (.aload_n 0, 1) := dk_42 (dk_at dksX13_load_2 15 rfl rfl)
theorem dX13_load_64 : decode cX13_load 64 = .ok (.getfield 60, 3) := dk_180 0 60 (dk_at dksX13_load_2 16 rfl rfl)
theorem dX13_load_67 : decode cX13_load 67 = .ok (.bipush 40, 2) := dk_16 40 (dk_at dksX13_load_2 19 rfl rfl)
theorem dX13_load_69 : decode cX13_load 69 = .ok (.iload_n 1, 1) := dk_27 (dk_at dksX13_load_2 21 rfl rfl)
theorem dX13_load_70 : decode cX13_load 70 = .ok (.imul, 1) := dk_104 (dk_at dksX13_load_2 22 rfl rfl)
theorem dX13_load_71 : decode cX13_load 71 = .ok (.iload_n 2, 1) := dk_28 (dk_at dksX13_load_2 23 rfl rfl)
theorem dX13_load_72 : decode cX13_load 72 = .ok (.iadd, 1) := dk_96 (dk_at dksX13_load_3 0 rfl rfl)
theorem dX13_load_73 : decode cX13_load 73 = .ok (.iaload, 1) := dk_46 (dk_at dksX13_load_3 1 rfl rfl)
theorem dX13_load_74 : decode cX13_load 74 = .ok (.iastore, 1) := dk_79 (dk_at dksX13_load_3 2 rfl rfl)
theorem dX13_load_75 : decode cX13_load 75 = .ok (.iinc 2 1, 3) := dk_132 2 1 (dk_at dksX13_load_3 3 rfl rfl)
theorem dX13_load_78 : decode cX13_load 78 = .ok (.goto (-56), 3) := dk_167 255 200 (dk_at dksX13_load_3 6 rfl rfl)
theorem dX13_load_81 : decode cX13_load 81 = .ok (.iload_n 2, 1) := dk_28 (dk_at dksX13_load_3 9 rfl rfl)
theorem dX13_load_82 : decode cX13_load 82 = .ok (.ireturn, 1) := dk_172 (dk_at dksX13_load_3 10 rfl rfl)
abbrev cX13_judge : ByteArray := prog_16_method_96_code
def yX13_judge : MethodName := ⟨RX13, "judge", "(I)I"⟩
def dkwX13_judge_3 : List UInt8 := [46, 160, 0, 7, 3, 167, 0, 6, 4, 28, 96, 172]
abbrev dktX13_judge_3 : List UInt8 := dkwX13_judge_3 ++ []
def dkwX13_judge_2 : List UInt8 := [28, 96, 46, 42, 28, 6, 182, 0, 119, 160, 0, 9, 132, 2, 1, 167, 255, 215, 28, 42, 180, 0, 57, 27]
abbrev dktX13_judge_2 : List UInt8 := dkwX13_judge_2 ++ dktX13_judge_3
def dkwX13_judge_1 : List UInt8 := [180, 0, 57, 27, 46, 162, 0, 37, 42, 28, 182, 0, 87, 153, 0, 29, 42, 180, 0, 60, 16, 40, 27, 104]
abbrev dktX13_judge_1 : List UInt8 := dkwX13_judge_1 ++ dktX13_judge_2
def dkwX13_judge_0 : List UInt8 := [42, 27, 4, 182, 0, 199, 153, 0, 14, 42, 42, 27, 4, 182, 0, 199, 182, 0, 72, 172, 3, 61, 28, 42]
abbrev dktX13_judge_0 : List UInt8 := dkwX13_judge_0 ++ dktX13_judge_1
theorem dksX13_judge_0 : cX13_judge.data.toList.drop 0 = dktX13_judge_0 := by decide +kernel
theorem dksX13_judge_1 : cX13_judge.data.toList.drop 24 = dktX13_judge_1 := dk_seg dksX13_judge_0 24 rfl rfl
theorem dksX13_judge_2 : cX13_judge.data.toList.drop 48 = dktX13_judge_2 := dk_seg dksX13_judge_1 24 rfl rfl
theorem dksX13_judge_3 : cX13_judge.data.toList.drop 72 = dktX13_judge_3 := dk_seg dksX13_judge_2 24 rfl rfl
theorem dX13_judge_0 : decode cX13_judge 0 = .ok (.aload_n 0, 1) := dk_42 (dk_at dksX13_judge_0 0 rfl rfl)
theorem dX13_judge_1 : decode cX13_judge 1 = .ok (.iload_n 1, 1) := dk_27 (dk_at dksX13_judge_0 1 rfl rfl)
theorem dX13_judge_2 : decode cX13_judge 2 = .ok (.iconst 1, 1) := dk_4 (dk_at dksX13_judge_0 2 rfl rfl)
theorem dX13_judge_3 : decode cX13_judge 3 = .ok (.invokevirtual 199, 3) := dk_182 0 199 (dk_at dksX13_judge_0 3 rfl rfl)
theorem dX13_judge_6 : decode cX13_judge 6 = .ok (.ifCond .eq 14, 3) := dk_153 0 14 (dk_at dksX13_judge_0 6 rfl rfl)
theorem dX13_judge_9 : decode cX13_judge 9 = .ok (.aload_n 0, 1) := dk_42 (dk_at dksX13_judge_0 9 rfl rfl)
theorem dX13_judge_10 : decode cX13_judge 10 = .ok (.aload_n 0, 1) := dk_42 (dk_at dksX13_judge_0 10 rfl rfl)
theorem dX13_judge_11 : decode cX13_judge 11 = .ok (.iload_n 1, 1) := dk_27 (dk_at dksX13_judge_0 11 rfl rfl)
theorem dX13_judge_12 : decode cX13_judge 12 = .ok (.iconst 1, 1) := dk_4 (dk_at dksX13_judge_0 12 rfl rfl)
theorem dX13_judge_13 : decode cX13_judge 13 = .ok (.invokevirtual 199, 3) := dk_182 0 199 (dk_at dksX13_judge_0 13 rfl rfl)
theorem dX13_judge_16 : decode cX13_judge 16 = .ok (.invokevirtual 72, 3) := dk_182 0 72 (dk_at dksX13_judge_0 16 rfl rfl)
theorem dX13_judge_19 : decode cX13_judge 19 = .ok (.ireturn, 1) := dk_172 (dk_at dksX13_judge_0 19 rfl rfl)
theorem dX13_judge_20 : decode cX13_judge 20 = .ok (.iconst 0, 1) := dk_3 (dk_at dksX13_judge_0 20 rfl rfl)
theorem dX13_judge_21 : decode cX13_judge 21 = .ok (.istore_n 2, 1) := dk_61 (dk_at dksX13_judge_0 21 rfl rfl)
theorem dX13_judge_22 : decode cX13_judge 22 = .ok (.iload_n 2, 1) := dk_28 (dk_at dksX13_judge_0 22 rfl rfl)
theorem dX13_judge_23 : decode cX13_judge 23 = .ok (.aload_n 0, 1) := dk_42 (dk_at dksX13_judge_0 23 rfl rfl)
theorem dX13_judge_24 : decode cX13_judge 24 = .ok (.getfield 57, 3) := dk_180 0 57 (dk_at dksX13_judge_1 0 rfl rfl)
theorem dX13_judge_27 : decode cX13_judge 27 = .ok (.iload_n 1, 1) := dk_27 (dk_at dksX13_judge_1 3 rfl rfl)
theorem dX13_judge_28 : decode cX13_judge 28 = .ok (.iaload, 1) := dk_46 (dk_at dksX13_judge_1 4 rfl rfl)
theorem dX13_judge_29 : decode cX13_judge 29 = .ok (.if_icmp .ge 37, 3) := dk_162 0 37 (dk_at dksX13_judge_1 5 rfl rfl)
theorem dX13_judge_32 : decode cX13_judge 32 = .ok (.aload_n 0, 1) := dk_42 (dk_at dksX13_judge_1 8 rfl rfl)
theorem dX13_judge_33 : decode cX13_judge 33 = .ok (.iload_n 2, 1) := dk_28 (dk_at dksX13_judge_1 9 rfl rfl)
theorem dX13_judge_34 : decode cX13_judge 34 = .ok (.invokevirtual 87, 3) := dk_182 0 87 (dk_at dksX13_judge_1 10 rfl rfl)
theorem dX13_judge_37 : decode cX13_judge 37 = .ok (.ifCond .eq 29, 3) := dk_153 0 29 (dk_at dksX13_judge_1 13 rfl rfl)
theorem dX13_judge_40 : decode cX13_judge 40 = .ok (.aload_n 0, 1) := dk_42 (dk_at dksX13_judge_1 16 rfl rfl)
theorem dX13_judge_41 : decode cX13_judge 41 = .ok (.getfield 60, 3) := dk_180 0 60 (dk_at dksX13_judge_1 17 rfl rfl)
theorem dX13_judge_44 : decode cX13_judge 44 = .ok (.bipush 40, 2) := dk_16 40 (dk_at dksX13_judge_1 20 rfl rfl)
theorem dX13_judge_46 : decode cX13_judge 46 = .ok (.iload_n 1, 1) := dk_27 (dk_at dksX13_judge_1 22 rfl rfl)
theorem dX13_judge_47 : decode cX13_judge 47 = .ok (.imul, 1) := dk_104 (dk_at dksX13_judge_1 23 rfl rfl)
theorem dX13_judge_48 : decode cX13_judge 48 = .ok (.iload_n 2, 1) := dk_28 (dk_at dksX13_judge_2 0 rfl rfl)
theorem dX13_judge_49 : decode cX13_judge 49 = .ok (.iadd, 1) := dk_96 (dk_at dksX13_judge_2 1 rfl rfl)
theorem dX13_judge_50 : decode cX13_judge 50 = .ok (.iaload, 1) := dk_46 (dk_at dksX13_judge_2 2 rfl rfl)
theorem dX13_judge_51 : decode cX13_judge 51 = .ok (.aload_n 0, 1) := dk_42 (dk_at dksX13_judge_2 3 rfl rfl)
theorem dX13_judge_52 : decode cX13_judge 52 = .ok (.iload_n 2, 1) := dk_28 (dk_at dksX13_judge_2 4 rfl rfl)
theorem dX13_judge_53 : decode cX13_judge 53 = .ok (.iconst 3, 1) := dk_6 (dk_at dksX13_judge_2 5 rfl rfl)
theorem dX13_judge_54 : decode cX13_judge 54 = .ok (.invokevirtual 119, 3) := dk_182 0 119 (dk_at dksX13_judge_2 6 rfl rfl)
theorem dX13_judge_57 : decode cX13_judge 57 = .ok (.if_icmp .ne 9, 3) := dk_160 0 9 (dk_at dksX13_judge_2 9 rfl rfl)
theorem dX13_judge_60 : decode cX13_judge 60 = .ok (.iinc 2 1, 3) := dk_132 2 1 (dk_at dksX13_judge_2 12 rfl rfl)
theorem dX13_judge_63 : decode cX13_judge 63 = .ok (.goto (-41), 3) := dk_167 255 215 (dk_at dksX13_judge_2 15 rfl rfl)
theorem dX13_judge_66 : decode cX13_judge 66 = .ok (.iload_n 2, 1) := dk_28 (dk_at dksX13_judge_2 18 rfl rfl)
theorem dX13_judge_67 : decode cX13_judge 67 = .ok (.aload_n 0, 1) := dk_42 (dk_at dksX13_judge_2 19 rfl rfl)
theorem dX13_judge_68 : decode cX13_judge 68 = .ok (.getfield 57, 3) := dk_180 0 57 (dk_at dksX13_judge_2 20 rfl rfl)
theorem dX13_judge_71 : decode cX13_judge 71 = .ok (.iload_n 1, 1) := dk_27 (dk_at dksX13_judge_2 23 rfl rfl)
theorem dX13_judge_72 : decode cX13_judge 72 = .ok (.iaload, 1) := dk_46 (dk_at dksX13_judge_3 0 rfl rfl)
theorem dX13_judge_73 : decode cX13_judge 73 = .ok (.if_icmp .ne 7, 3) := dk_160 0 7 (dk_at dksX13_judge_3 1 rfl rfl)
theorem dX13_judge_76 : decode cX13_judge 76 = .ok (.iconst 0, 1) := dk_3 (dk_at dksX13_judge_3 4 rfl rfl)
theorem dX13_judge_77 : decode cX13_judge 77 = .ok (.goto 6, 3) := dk_167 0 6 (dk_at dksX13_judge_3 5 rfl rfl)
theorem dX13_judge_80 : decode cX13_judge 80 = .ok (.iconst 1, 1) := dk_4 (dk_at dksX13_judge_3 8 rfl rfl)
theorem dX13_judge_81 : decode cX13_judge 81 = .ok (.iload_n 2, 1) := dk_28 (dk_at dksX13_judge_3 9 rfl rfl)
theorem dX13_judge_82 : decode cX13_judge 82 = .ok (.iadd, 1) := dk_96 (dk_at dksX13_judge_3 10 rfl rfl)
theorem dX13_judge_83 : decode cX13_judge 83 = .ok (.ireturn, 1) := dk_172 (dk_at dksX13_judge_3 11 rfl rfl)
abbrev cX13_image : ByteArray := prog_16_method_97_code
def yX13_image : MethodName := ⟨RX13, "image", "()I"⟩
def dkwX13_image_0 : List UInt8 := [42, 180, 0, 9, 42, 180, 0, 13, 184, 0, 67, 42, 4, 181, 1, 63, 4, 172]
abbrev dktX13_image_0 : List UInt8 := dkwX13_image_0 ++ []
theorem dksX13_image_0 : cX13_image.data.toList.drop 0 = dktX13_image_0 := by decide +kernel
theorem dX13_image_0 : decode cX13_image 0 = .ok (.aload_n 0, 1) := dk_42 (dk_at dksX13_image_0 0 rfl rfl)
theorem dX13_image_1 : decode cX13_image 1 = .ok (.getfield 9, 3) := dk_180 0 9 (dk_at dksX13_image_0 1 rfl rfl)
theorem dX13_image_4 : decode cX13_image 4 = .ok (.aload_n 0, 1) := dk_42 (dk_at dksX13_image_0 4 rfl rfl)
theorem dX13_image_5 : decode cX13_image 5 = .ok (.getfield 13, 3) := dk_180 0 13 (dk_at dksX13_image_0 5 rfl rfl)
theorem dX13_image_8 : decode cX13_image 8 = .ok (.invokestatic 67, 3) := dk_184 0 67 (dk_at dksX13_image_0 8 rfl rfl)
theorem dX13_image_11 : decode cX13_image 11 = .ok (.aload_n 0, 1) := dk_42 (dk_at dksX13_image_0 11 rfl rfl)
theorem dX13_image_12 : decode cX13_image 12 = .ok (.iconst 1, 1) := dk_4 (dk_at dksX13_image_0 12 rfl rfl)
theorem dX13_image_13 : decode cX13_image 13 = .ok (.putfield 319, 3) := dk_181 1 63 (dk_at dksX13_image_0 13 rfl rfl)
theorem dX13_image_16 : decode cX13_image 16 = .ok (.iconst 1, 1) := dk_4 (dk_at dksX13_image_0 16 rfl rfl)
theorem dX13_image_17 : decode cX13_image 17 = .ok (.ireturn, 1) := dk_172 (dk_at dksX13_image_0 17 rfl rfl)
abbrev cX13_undo : ByteArray := prog_16_method_98_code
def yX13_undo : MethodName := ⟨RX13, "undo", "()I"⟩
def dkwX13_undo_1 : List UInt8 := [184, 0, 67, 42, 180, 0, 9, 3, 46, 172]
abbrev dktX13_undo_1 : List UInt8 := dkwX13_undo_1 ++ []
def dkwX13_undo_0 : List UInt8 := [42, 180, 1, 63, 154, 0, 10, 42, 18, 71, 182, 0, 72, 172, 42, 180, 0, 13, 42, 180, 0, 9]
abbrev dktX13_undo_0 : List UInt8 := dkwX13_undo_0 ++ dktX13_undo_1
theorem dksX13_undo_0 : cX13_undo.data.toList.drop 0 = dktX13_undo_0 := by decide +kernel
theorem dksX13_undo_1 : cX13_undo.data.toList.drop 22 = dktX13_undo_1 := dk_seg dksX13_undo_0 22 rfl rfl
theorem dX13_undo_0 : decode cX13_undo 0 = .ok (.aload_n 0, 1) := dk_42 (dk_at dksX13_undo_0 0 rfl rfl)
theorem dX13_undo_1 : decode cX13_undo 1 = .ok (.getfield 319, 3) := dk_180 1 63 (dk_at dksX13_undo_0 1 rfl rfl)
theorem dX13_undo_4 : decode cX13_undo 4 = .ok (.ifCond .ne 10, 3) := dk_154 0 10 (dk_at dksX13_undo_0 4 rfl rfl)
theorem dX13_undo_7 : decode cX13_undo 7 = .ok (.aload_n 0, 1) := dk_42 (dk_at dksX13_undo_0 7 rfl rfl)
theorem dX13_undo_8 : decode cX13_undo 8 = .ok (.ldc 71, 2) := dk_18 71 (dk_at dksX13_undo_0 8 rfl rfl)
theorem dX13_undo_10 : decode cX13_undo 10 = .ok (.invokevirtual 72, 3) := dk_182 0 72 (dk_at dksX13_undo_0 10 rfl rfl)
theorem dX13_undo_13 : decode cX13_undo 13 = .ok (.ireturn, 1) := dk_172 (dk_at dksX13_undo_0 13 rfl rfl)
theorem dX13_undo_14 : decode cX13_undo 14 = .ok (.aload_n 0, 1) := dk_42 (dk_at dksX13_undo_0 14 rfl rfl)
theorem dX13_undo_15 : decode cX13_undo 15 = .ok (.getfield 13, 3) := dk_180 0 13 (dk_at dksX13_undo_0 15 rfl rfl)
theorem dX13_undo_18 : decode cX13_undo 18 = .ok (.aload_n 0, 1) := dk_42 (dk_at dksX13_undo_0 18 rfl rfl)
theorem dX13_undo_19 : decode cX13_undo 19 = .ok (.getfield 9, 3) := dk_180 0 9 (dk_at dksX13_undo_0 19 rfl rfl)
theorem dX13_undo_22 : decode cX13_undo 22 = .ok (.invokestatic 67, 3) := dk_184 0 67 (dk_at dksX13_undo_1 0 rfl rfl)
theorem dX13_undo_25 : decode cX13_undo 25 = .ok (.aload_n 0, 1) := dk_42 (dk_at dksX13_undo_1 3 rfl rfl)
theorem dX13_undo_26 : decode cX13_undo 26 = .ok (.getfield 9, 3) := dk_180 0 9 (dk_at dksX13_undo_1 4 rfl rfl)
theorem dX13_undo_29 : decode cX13_undo 29 = .ok (.iconst 0, 1) := dk_3 (dk_at dksX13_undo_1 7 rfl rfl)
theorem dX13_undo_30 : decode cX13_undo 30 = .ok (.iaload, 1) := dk_46 (dk_at dksX13_undo_1 8 rfl rfl)
theorem dX13_undo_31 : decode cX13_undo 31 = .ok (.ireturn, 1) := dk_172 (dk_at dksX13_undo_1 9 rfl rfl)
abbrev cX13_tear : ByteArray := prog_16_method_99_code
def yX13_tear : MethodName := ⟨RX13, "tear", "()I"⟩
def dkwX13_tear_0 : List UInt8 := [42, 180, 1, 63, 153, 0, 7, 4, 167, 0, 4, 3, 60, 42, 3, 181, 1, 63, 27, 172]
abbrev dktX13_tear_0 : List UInt8 := dkwX13_tear_0 ++ []
theorem dksX13_tear_0 : cX13_tear.data.toList.drop 0 = dktX13_tear_0 := by decide +kernel
theorem dX13_tear_0 : decode cX13_tear 0 = .ok (.aload_n 0, 1) := dk_42 (dk_at dksX13_tear_0 0 rfl rfl)
theorem dX13_tear_1 : decode cX13_tear 1 = .ok (.getfield 319, 3) := dk_180 1 63 (dk_at dksX13_tear_0 1 rfl rfl)
theorem dX13_tear_4 : decode cX13_tear 4 = .ok (.ifCond .eq 7, 3) := dk_153 0 7 (dk_at dksX13_tear_0 4 rfl rfl)
theorem dX13_tear_7 : decode cX13_tear 7 = .ok (.iconst 1, 1) := dk_4 (dk_at dksX13_tear_0 7 rfl rfl)
theorem dX13_tear_8 : decode cX13_tear 8 = .ok (.goto 4, 3) := dk_167 0 4 (dk_at dksX13_tear_0 8 rfl rfl)
theorem dX13_tear_11 : decode cX13_tear 11 = .ok (.iconst 0, 1) := dk_3 (dk_at dksX13_tear_0 11 rfl rfl)
theorem dX13_tear_12 : decode cX13_tear 12 = .ok (.istore_n 1, 1) := dk_60 (dk_at dksX13_tear_0 12 rfl rfl)
theorem dX13_tear_13 : decode cX13_tear 13 = .ok (.aload_n 0, 1) := dk_42 (dk_at dksX13_tear_0 13 rfl rfl)
theorem dX13_tear_14 : decode cX13_tear 14 = .ok (.iconst 0, 1) := dk_3 (dk_at dksX13_tear_0 14 rfl rfl)
theorem dX13_tear_15 : decode cX13_tear 15 = .ok (.putfield 319, 3) := dk_181 1 63 (dk_at dksX13_tear_0 15 rfl rfl)
theorem dX13_tear_18 : decode cX13_tear 18 = .ok (.iload_n 1, 1) := dk_27 (dk_at dksX13_tear_0 18 rfl rfl)
theorem dX13_tear_19 : decode cX13_tear 19 = .ok (.ireturn, 1) := dk_172 (dk_at dksX13_tear_0 19 rfl rfl)
abbrev cX13_count : ByteArray := prog_16_method_100_code
def yX13_count : MethodName := ⟨RX13, "count", "(I)I"⟩
def dkwX13_count_5 : List UInt8 := [96, 61, 132, 3, 1, 167, 255, 227, 28, 172, 42, 18, 66, 182, 0, 72, 172]
abbrev dktX13_count_5 : List UInt8 := dkwX13_count_5 ++ []
def dkwX13_count_4 : List UInt8 := [29, 16, 10, 162, 0, 29, 28, 42, 180, 0, 9, 16, 7, 29, 96, 46, 156, 0, 7, 3, 167, 0, 4, 4]
abbrev dktX13_count_4 : List UInt8 := dkwX13_count_4 ++ dktX13_count_5
def dkwX13_count_3 : List UInt8 := [182, 0, 166, 172, 42, 7, 182, 0, 166, 172, 42, 180, 0, 220, 172, 42, 180, 0, 9, 5, 46, 172, 3, 62]
abbrev dktX13_count_3 : List UInt8 := dkwX13_count_3 ++ dktX13_count_4
def dkwX13_count_2 : List UInt8 := [42, 180, 0, 9, 3, 46, 172, 42, 180, 0, 9, 4, 46, 172, 42, 180, 0, 9, 6, 46, 172, 42, 6]
abbrev dktX13_count_2 : List UInt8 := dkwX13_count_2 ++ dktX13_count_3
def dkwX13_count_1 : List UInt8 := [170, 0, 0, 0, 126, 0, 0, 0, 0, 0, 0, 0, 7, 0, 0, 0, 45, 0, 0, 0, 52, 0, 0, 0, 59, 0, 0, 0, 66, 0, 0, 0, 72, 0, 0, 0, 78, 0, 0, 0, 83, 0, 0, 0, 90]
abbrev dktX13_count_1 : List UInt8 := dkwX13_count_1 ++ dktX13_count_2
def dkwX13_count_0 : List UInt8 := [3, 61, 27]
abbrev dktX13_count_0 : List UInt8 := dkwX13_count_0 ++ dktX13_count_1
theorem dksX13_count_0 : cX13_count.data.toList.drop 0 = dktX13_count_0 := by decide +kernel
theorem dksX13_count_1 : cX13_count.data.toList.drop 3 = dktX13_count_1 := dk_seg dksX13_count_0 3 rfl rfl
theorem dksX13_count_2 : cX13_count.data.toList.drop 48 = dktX13_count_2 := dk_seg dksX13_count_1 45 rfl rfl
theorem dksX13_count_3 : cX13_count.data.toList.drop 71 = dktX13_count_3 := dk_seg dksX13_count_2 23 rfl rfl
theorem dksX13_count_4 : cX13_count.data.toList.drop 95 = dktX13_count_4 := dk_seg dksX13_count_3 24 rfl rfl
theorem dksX13_count_5 : cX13_count.data.toList.drop 119 = dktX13_count_5 := dk_seg dksX13_count_4 24 rfl rfl
theorem dX13_count_0 : decode cX13_count 0 = .ok (.iconst 0, 1) := dk_3 (dk_at dksX13_count_0 0 rfl rfl)
theorem dX13_count_1 : decode cX13_count 1 = .ok (.istore_n 2, 1) := dk_61 (dk_at dksX13_count_0 1 rfl rfl)
theorem dX13_count_2 : decode cX13_count 2 = .ok (.iload_n 1, 1) := dk_27 (dk_at dksX13_count_0 2 rfl rfl)
theorem dX13_count_3 : decode cX13_count 3 = .ok (.tableswitch 126 0 7 #[45, 52, 59, 66, 72, 78, 83, 90], 45) := by decide +kernel
theorem dX13_count_48 : decode cX13_count 48 = .ok (.aload_n 0, 1) := dk_42 (dk_at dksX13_count_2 0 rfl rfl)
theorem dX13_count_49 : decode cX13_count 49 = .ok (.getfield 9, 3) := dk_180 0 9 (dk_at dksX13_count_2 1 rfl rfl)
theorem dX13_count_52 : decode cX13_count 52 = .ok (.iconst 0, 1) := dk_3 (dk_at dksX13_count_2 4 rfl rfl)
theorem dX13_count_53 : decode cX13_count 53 = .ok (.iaload, 1) := dk_46 (dk_at dksX13_count_2 5 rfl rfl)
theorem dX13_count_54 : decode cX13_count 54 = .ok (.ireturn, 1) := dk_172 (dk_at dksX13_count_2 6 rfl rfl)
theorem dX13_count_55 : decode cX13_count 55 = .ok (.aload_n 0, 1) := dk_42 (dk_at dksX13_count_2 7 rfl rfl)
theorem dX13_count_56 : decode cX13_count 56 = .ok (.getfield 9, 3) := dk_180 0 9 (dk_at dksX13_count_2 8 rfl rfl)
theorem dX13_count_59 : decode cX13_count 59 = .ok (.iconst 1, 1) := dk_4 (dk_at dksX13_count_2 11 rfl rfl)
theorem dX13_count_60 : decode cX13_count 60 = .ok (.iaload, 1) := dk_46 (dk_at dksX13_count_2 12 rfl rfl)
theorem dX13_count_61 : decode cX13_count 61 = .ok (.ireturn, 1) := dk_172 (dk_at dksX13_count_2 13 rfl rfl)
theorem dX13_count_62 : decode cX13_count 62 = .ok (.aload_n 0, 1) := dk_42 (dk_at dksX13_count_2 14 rfl rfl)
theorem dX13_count_63 : decode cX13_count 63 = .ok (.getfield 9, 3) := dk_180 0 9 (dk_at dksX13_count_2 15 rfl rfl)
theorem dX13_count_66 : decode cX13_count 66 = .ok (.iconst 3, 1) := dk_6 (dk_at dksX13_count_2 18 rfl rfl)
theorem dX13_count_67 : decode cX13_count 67 = .ok (.iaload, 1) := dk_46 (dk_at dksX13_count_2 19 rfl rfl)
theorem dX13_count_68 : decode cX13_count 68 = .ok (.ireturn, 1) := dk_172 (dk_at dksX13_count_2 20 rfl rfl)
theorem dX13_count_69 : decode cX13_count 69 = .ok (.aload_n 0, 1) := dk_42 (dk_at dksX13_count_2 21 rfl rfl)
theorem dX13_count_70 : decode cX13_count 70 = .ok (.iconst 3, 1) := dk_6 (dk_at dksX13_count_2 22 rfl rfl)
theorem dX13_count_71 : decode cX13_count 71 = .ok (.invokevirtual 166, 3) := dk_182 0 166 (dk_at dksX13_count_3 0 rfl rfl)
theorem dX13_count_74 : decode cX13_count 74 = .ok (.ireturn, 1) := dk_172 (dk_at dksX13_count_3 3 rfl rfl)
theorem dX13_count_75 : decode cX13_count 75 = .ok (.aload_n 0, 1) := dk_42 (dk_at dksX13_count_3 4 rfl rfl)
theorem dX13_count_76 : decode cX13_count 76 = .ok (.iconst 4, 1) := dk_7 (dk_at dksX13_count_3 5 rfl rfl)
theorem dX13_count_77 : decode cX13_count 77 = .ok (.invokevirtual 166, 3) := dk_182 0 166 (dk_at dksX13_count_3 6 rfl rfl)
theorem dX13_count_80 : decode cX13_count 80 = .ok (.ireturn, 1) := dk_172 (dk_at dksX13_count_3 9 rfl rfl)
theorem dX13_count_81 : decode cX13_count 81 = .ok (.aload_n 0, 1) := dk_42 (dk_at dksX13_count_3 10 rfl rfl)
theorem dX13_count_82 : decode cX13_count 82 = .ok (.getfield 220, 3) := dk_180 0 220 (dk_at dksX13_count_3 11 rfl rfl)
theorem dX13_count_85 : decode cX13_count 85 = .ok (.ireturn, 1) := dk_172 (dk_at dksX13_count_3 14 rfl rfl)
theorem dX13_count_86 : decode cX13_count 86 = .ok (.aload_n 0, 1) := dk_42 (dk_at dksX13_count_3 15 rfl rfl)
theorem dX13_count_87 : decode cX13_count 87 = .ok (.getfield 9, 3) := dk_180 0 9 (dk_at dksX13_count_3 16 rfl rfl)
theorem dX13_count_90 : decode cX13_count 90 = .ok (.iconst 2, 1) := dk_5 (dk_at dksX13_count_3 19 rfl rfl)
theorem dX13_count_91 : decode cX13_count 91 = .ok (.iaload, 1) := dk_46 (dk_at dksX13_count_3 20 rfl rfl)
theorem dX13_count_92 : decode cX13_count 92 = .ok (.ireturn, 1) := dk_172 (dk_at dksX13_count_3 21 rfl rfl)
theorem dX13_count_93 : decode cX13_count 93 = .ok (.iconst 0, 1) := dk_3 (dk_at dksX13_count_3 22 rfl rfl)
theorem dX13_count_94 : decode cX13_count 94 = .ok (.istore_n 3, 1) := dk_62 (dk_at dksX13_count_3 23 rfl rfl)
theorem dX13_count_95 : decode cX13_count 95 = .ok (.iload_n 3, 1) := dk_29 (dk_at dksX13_count_4 0 rfl rfl)
theorem dX13_count_96 : decode cX13_count 96 = .ok (.bipush 10, 2) := dk_16 10 (dk_at dksX13_count_4 1 rfl rfl)
theorem dX13_count_98 : decode cX13_count 98 = .ok (.if_icmp .ge 29, 3) := dk_162 0 29 (dk_at dksX13_count_4 3 rfl rfl)
theorem dX13_count_101 : decode cX13_count 101 = .ok (.iload_n 2, 1) := dk_28 (dk_at dksX13_count_4 6 rfl rfl)
theorem dX13_count_102 : decode cX13_count 102 = .ok (.aload_n 0, 1) := dk_42 (dk_at dksX13_count_4 7 rfl rfl)
theorem dX13_count_103 : decode cX13_count 103 = .ok (.getfield 9, 3) := dk_180 0 9 (dk_at dksX13_count_4 8 rfl rfl)
theorem dX13_count_106 : decode cX13_count 106 = .ok (.bipush 7, 2) := dk_16 7 (dk_at dksX13_count_4 11 rfl rfl)
theorem dX13_count_108 : decode cX13_count 108 = .ok (.iload_n 3, 1) := dk_29 (dk_at dksX13_count_4 13 rfl rfl)
theorem dX13_count_109 : decode cX13_count 109 = .ok (.iadd, 1) := dk_96 (dk_at dksX13_count_4 14 rfl rfl)
theorem dX13_count_110 : decode cX13_count 110 = .ok (.iaload, 1) := dk_46 (dk_at dksX13_count_4 15 rfl rfl)
theorem dX13_count_111 : decode cX13_count 111 = .ok (.ifCond .ge 7, 3) := dk_156 0 7 (dk_at dksX13_count_4 16 rfl rfl)
theorem dX13_count_114 : decode cX13_count 114 = .ok (.iconst 0, 1) := dk_3 (dk_at dksX13_count_4 19 rfl rfl)
theorem dX13_count_115 : decode cX13_count 115 = .ok (.goto 4, 3) := dk_167 0 4 (dk_at dksX13_count_4 20 rfl rfl)
theorem dX13_count_118 : decode cX13_count 118 = .ok (.iconst 1, 1) := dk_4 (dk_at dksX13_count_4 23 rfl rfl)
theorem dX13_count_119 : decode cX13_count 119 = .ok (.iadd, 1) := dk_96 (dk_at dksX13_count_5 0 rfl rfl)
theorem dX13_count_120 : decode cX13_count 120 = .ok (.istore_n 2, 1) := dk_61 (dk_at dksX13_count_5 1 rfl rfl)
theorem dX13_count_121 : decode cX13_count 121 = .ok (.iinc 3 1, 3) := dk_132 3 1 (dk_at dksX13_count_5 2 rfl rfl)
theorem dX13_count_124 : decode cX13_count 124 = .ok (.goto (-29), 3) := dk_167 255 227 (dk_at dksX13_count_5 5 rfl rfl)
theorem dX13_count_127 : decode cX13_count 127 = .ok (.iload_n 2, 1) := dk_28 (dk_at dksX13_count_5 8 rfl rfl)
theorem dX13_count_128 : decode cX13_count 128 = .ok (.ireturn, 1) := dk_172 (dk_at dksX13_count_5 9 rfl rfl)
theorem dX13_count_129 : decode cX13_count 129 = .ok (.aload_n 0, 1) := dk_42 (dk_at dksX13_count_5 10 rfl rfl)
theorem dX13_count_130 : decode cX13_count 130 = .ok (.ldc 66, 2) := dk_18 66 (dk_at dksX13_count_5 11 rfl rfl)
theorem dX13_count_132 : decode cX13_count 132 = .ok (.invokevirtual 72, 3) := dk_182 0 72 (dk_at dksX13_count_5 13 rfl rfl)
theorem dX13_count_135 : decode cX13_count 135 = .ok (.ireturn, 1) := dk_172 (dk_at dksX13_count_5 16 rfl rfl)
abbrev cX13_status : ByteArray := prog_16_method_101_code
def yX13_status : MethodName := ⟨RX13, "status", "(I)I"⟩
def dkwX13_status_1 : List UInt8 := [182, 0, 72, 172]
abbrev dktX13_status_1 : List UInt8 := dkwX13_status_1 ++ []
def dkwX13_status_0 : List UInt8 := [27, 2, 16, 6, 184, 0, 76, 153, 0, 14, 42, 180, 0, 19, 27, 4, 96, 46, 167, 0, 9, 42, 18, 66]
abbrev dktX13_status_0 : List UInt8 := dkwX13_status_0 ++ dktX13_status_1
theorem dksX13_status_0 : cX13_status.data.toList.drop 0 = dktX13_status_0 := by decide +kernel
theorem dksX13_status_1 : cX13_status.data.toList.drop 24 = dktX13_status_1 := dk_seg dksX13_status_0 24 rfl rfl
theorem dX13_status_0 : decode cX13_status 0 = .ok (.iload_n 1, 1) := dk_27 (dk_at dksX13_status_0 0 rfl rfl)
theorem dX13_status_1 : decode cX13_status 1 = .ok (.iconst (-1), 1) := dk_2 (dk_at dksX13_status_0 1 rfl rfl)
theorem dX13_status_2 : decode cX13_status 2 = .ok (.bipush 6, 2) := dk_16 6 (dk_at dksX13_status_0 2 rfl rfl)
theorem dX13_status_4 : decode cX13_status 4 = .ok (.invokestatic 76, 3) := dk_184 0 76 (dk_at dksX13_status_0 4 rfl rfl)
theorem dX13_status_7 : decode cX13_status 7 = .ok (.ifCond .eq 14, 3) := dk_153 0 14 (dk_at dksX13_status_0 7 rfl rfl)
theorem dX13_status_10 : decode cX13_status 10 = .ok (.aload_n 0, 1) := dk_42 (dk_at dksX13_status_0 10 rfl rfl)
theorem dX13_status_11 : decode cX13_status 11 = .ok (.getfield 19, 3) := dk_180 0 19 (dk_at dksX13_status_0 11 rfl rfl)
theorem dX13_status_14 : decode cX13_status 14 = .ok (.iload_n 1, 1) := dk_27 (dk_at dksX13_status_0 14 rfl rfl)
theorem dX13_status_15 : decode cX13_status 15 = .ok (.iconst 1, 1) := dk_4 (dk_at dksX13_status_0 15 rfl rfl)
theorem dX13_status_16 : decode cX13_status 16 = .ok (.iadd, 1) := dk_96 (dk_at dksX13_status_0 16 rfl rfl)
theorem dX13_status_17 : decode cX13_status 17 = .ok (.iaload, 1) := dk_46 (dk_at dksX13_status_0 17 rfl rfl)
theorem dX13_status_18 : decode cX13_status 18 = .ok (.goto 9, 3) := dk_167 0 9 (dk_at dksX13_status_0 18 rfl rfl)
theorem dX13_status_21 : decode cX13_status 21 = .ok (.aload_n 0, 1) := dk_42 (dk_at dksX13_status_0 21 rfl rfl)
theorem dX13_status_22 : decode cX13_status 22 = .ok (.ldc 66, 2) := dk_18 66 (dk_at dksX13_status_0 22 rfl rfl)
theorem dX13_status_24 : decode cX13_status 24 = .ok (.invokevirtual 72, 3) := dk_182 0 72 (dk_at dksX13_status_1 0 rfl rfl)
theorem dX13_status_27 : decode cX13_status 27 = .ok (.ireturn, 1) := dk_172 (dk_at dksX13_status_1 3 rfl rfl)
theorem q106 : (Jvm.Cond.initialized "LineCallsModel") ∈ lw_all := lw_g (lw_at lw_m1 17 rfl) rfl
theorem q1184 : (Jvm.Cond.instantiable "LineCallsModel" (25 : Nat)) ∈ lw_all := lw_g (lw_at lw_m5 135 rfl) rfl
theorem q1186 : (Jvm.Cond.instanceMethod ({ cls := "LineCallsModel", name := "<init>", desc := "()V" } : Jvm.MethodName)) ∈ lw_all := lw_g (lw_at lw_m5 137 rfl) rfl
theorem q1187 : (Jvm.Cond.code ({ cls := "LineCallsModel", name := "<init>", desc := "()V" } : Jvm.MethodName) prog_16_method_1_code (2 : Nat) (Option.none : Option Jvm.ClassFile.FieldType)) ∈ lw_all := lw_g (lw_at lw_m5 138 rfl) rfl
theorem q1188 : (Jvm.Cond.methodLink "LineCallsModel" (1 : Nat) ({ cls := "java/lang/Object", name := "<init>", desc := "()V" } : Jvm.MethodName)) ∈ lw_all := lw_g (lw_at lw_m5 139 rfl) rfl
theorem q1189 : (Jvm.Cond.classLink "LineCallsModel" (25 : Nat) "java/lang/String") ∈ lw_all := lw_g (lw_at lw_m5 140 rfl) rfl
theorem q1191 : (Jvm.Cond.stringRef "LineCallsModel" (27 : Nat) "jumper") ∈ lw_tbl := lw_at lw_m5 142 rfl
theorem q1192 : (Jvm.Cond.stringRef "LineCallsModel" (29 : Nat) "prop") ∈ lw_tbl := lw_at lw_m5 143 rfl
theorem q1193 : (Jvm.Cond.stringRef "LineCallsModel" (31 : Nat) "lock") ∈ lw_tbl := lw_at lw_m5 144 rfl
theorem q1194 : (Jvm.Cond.stringRef "LineCallsModel" (33 : Nat) "tower") ∈ lw_tbl := lw_at lw_m5 145 rfl
theorem q1195 : (Jvm.Cond.stringRef "LineCallsModel" (35 : Nat) "giant") ∈ lw_tbl := lw_at lw_m5 146 rfl
theorem q1196 : (Jvm.Cond.stringRef "LineCallsModel" (37 : Nat) "rookie") ∈ lw_tbl := lw_at lw_m5 147 rfl
theorem q1197 : (Jvm.Cond.stringRef "LineCallsModel" (39 : Nat) "flanker") ∈ lw_tbl := lw_at lw_m5 148 rfl
theorem q1198 : (Jvm.Cond.fieldLink "LineCallsModel" (9 : Nat) "LineCallsModel" "now" "[I") ∈ lw_all := lw_g (lw_at lw_m5 149 rfl) rfl
theorem q1199 : (Jvm.Cond.fieldLink "LineCallsModel" (13 : Nat) "LineCallsModel" "kept" "[I") ∈ lw_all := lw_g (lw_at lw_m5 150 rfl) rfl
theorem q1200 : (Jvm.Cond.fieldLink "LineCallsModel" (16 : Nat) "LineCallsModel" "aside" "[I") ∈ lw_all := lw_g (lw_at lw_m5 151 rfl) rfl
theorem q1201 : (Jvm.Cond.fieldLink "LineCallsModel" (319 : Nat) "LineCallsModel" "isKept" "Z") ∈ lw_all := lw_g (lw_at lw_m5 152 rfl) rfl
theorem q1202 : (Jvm.Cond.fieldLink "LineCallsModel" (19 : Nat) "LineCallsModel" "found" "[I") ∈ lw_all := lw_g (lw_at lw_m5 153 rfl) rfl
theorem q1203 : (Jvm.Cond.fieldLink "LineCallsModel" (206 : Nat) "LineCallsModel" "tallMany" "I") ∈ lw_all := lw_g (lw_at lw_m5 154 rfl) rfl
theorem q1204 : (Jvm.Cond.fieldLink "LineCallsModel" (210 : Nat) "LineCallsModel" "tallLeast" "I") ∈ lw_all := lw_g (lw_at lw_m5 155 rfl) rfl
theorem q1205 : (Jvm.Cond.fieldLink "LineCallsModel" (22 : Nat) "LineCallsModel" "tape" "[I") ∈ lw_all := lw_g (lw_at lw_m5 156 rfl) rfl
theorem q1206 : (Jvm.Cond.fieldLink "LineCallsModel" (220 : Nat) "LineCallsModel" "taped" "I") ∈ lw_all := lw_g (lw_at lw_m5 157 rfl) rfl
theorem q1207 : (Jvm.Cond.fieldLink "LineCallsModel" (226 : Nat) "LineCallsModel" "begins" "I") ∈ lw_all := lw_g (lw_at lw_m5 158 rfl) rfl
theorem q1208 : (Jvm.Cond.fieldLink "LineCallsModel" (223 : Nat) "LineCallsModel" "ends" "I") ∈ lw_all := lw_g (lw_at lw_m5 159 rfl) rfl
theorem q1209 : (Jvm.Cond.fieldLink "LineCallsModel" (235 : Nat) "LineCallsModel" "sort" "I") ∈ lw_all := lw_g (lw_at lw_m5 160 rfl) rfl
theorem q1210 : (Jvm.Cond.fieldLink "LineCallsModel" (232 : Nat) "LineCallsModel" "value" "I") ∈ lw_all := lw_g (lw_at lw_m5 161 rfl) rfl
theorem q1211 : (Jvm.Cond.fieldLink "LineCallsModel" (245 : Nat) "LineCallsModel" "isWrong" "Z") ∈ lw_all := lw_g (lw_at lw_m5 162 rfl) rfl
theorem q1212 : (Jvm.Cond.fieldLink "LineCallsModel" (41 : Nat) "LineCallsModel" "kindNames" "[Ljava/lang/String;") ∈ lw_all := lw_g (lw_at lw_m5 163 rfl) rfl
theorem q1213 : (Jvm.Cond.fieldLink "LineCallsModel" (45 : Nat) "LineCallsModel" "itemWhat" "[I") ∈ lw_all := lw_g (lw_at lw_m5 164 rfl) rfl
theorem q1214 : (Jvm.Cond.fieldLink "LineCallsModel" (48 : Nat) "LineCallsModel" "itemA" "[I") ∈ lw_all := lw_g (lw_at lw_m5 165 rfl) rfl
theorem q1215 : (Jvm.Cond.fieldLink "LineCallsModel" (51 : Nat) "LineCallsModel" "itemB" "[I") ∈ lw_all := lw_g (lw_at lw_m5 166 rfl) rfl
theorem q1216 : (Jvm.Cond.fieldLink "LineCallsModel" (256 : Nat) "LineCallsModel" "itemMany" "I") ∈ lw_all := lw_g (lw_at lw_m5 167 rfl) rfl
theorem q1217 : (Jvm.Cond.fieldLink "LineCallsModel" (266 : Nat) "LineCallsModel" "jumpersThen" "I") ∈ lw_all := lw_g (lw_at lw_m5 168 rfl) rfl
theorem q1218 : (Jvm.Cond.fieldLink "LineCallsModel" (263 : Nat) "LineCallsModel" "takenThen" "I") ∈ lw_all := lw_g (lw_at lw_m5 169 rfl) rfl
theorem q1219 : (Jvm.Cond.fieldLink "LineCallsModel" (54 : Nat) "LineCallsModel" "widths" "[I") ∈ lw_all := lw_g (lw_at lw_m5 170 rfl) rfl
theorem q1220 : (Jvm.Cond.fieldLink "LineCallsModel" (57 : Nat) "LineCallsModel" "sizes" "[I") ∈ lw_all := lw_g (lw_at lw_m5 171 rfl) rfl
theorem q1221 : (Jvm.Cond.fieldLink "LineCallsModel" (60 : Nat) "LineCallsModel" "numbers" "[I") ∈ lw_all := lw_g (lw_at lw_m5 172 rfl) rfl
theorem q1222 : (Jvm.Cond.fieldLink "LineCallsModel" (63 : Nat) "LineCallsModel" "moved" "[I") ∈ lw_all := lw_g (lw_at lw_m5 173 rfl) rfl
theorem q1223 : (Jvm.Cond.laysFinal "LineCallsModel" "LineCallsModel" "now" "[I") ∈ lw_all := lw_g (lw_at lw_m5 174 rfl) rfl
theorem q1224 : (Jvm.Cond.soleField "LineCallsModel" "now") ∈ lw_all := lw_g (lw_at lw_m5 175 rfl) rfl
theorem q1225 : (Jvm.Cond.laysFinal "LineCallsModel" "LineCallsModel" "kept" "[I") ∈ lw_all := lw_g (lw_at lw_m5 176 rfl) rfl
theorem q1226 : (Jvm.Cond.soleField "LineCallsModel" "kept") ∈ lw_all := lw_g (lw_at lw_m5 177 rfl) rfl
theorem q1227 : (Jvm.Cond.laysFinal "LineCallsModel" "LineCallsModel" "aside" "[I") ∈ lw_all := lw_g (lw_at lw_m5 178 rfl) rfl
theorem q1228 : (Jvm.Cond.soleField "LineCallsModel" "aside") ∈ lw_all := lw_g (lw_at lw_m5 179 rfl) rfl
theorem q1229 : (Jvm.Cond.lays "LineCallsModel" "LineCallsModel" "isKept" "Z") ∈ lw_all := lw_g (lw_at lw_m5 180 rfl) rfl
theorem q1230 : (Jvm.Cond.soleField "LineCallsModel" "isKept") ∈ lw_all := lw_g (lw_at lw_m5 181 rfl) rfl
theorem q1231 : (Jvm.Cond.laysFinal "LineCallsModel" "LineCallsModel" "found" "[I") ∈ lw_all := lw_g (lw_at lw_m5 182 rfl) rfl
theorem q1232 : (Jvm.Cond.soleField "LineCallsModel" "found") ∈ lw_all := lw_g (lw_at lw_m5 183 rfl) rfl
theorem q1233 : (Jvm.Cond.lays "LineCallsModel" "LineCallsModel" "tallMany" "I") ∈ lw_all := lw_g (lw_at lw_m5 184 rfl) rfl
theorem q1234 : (Jvm.Cond.soleField "LineCallsModel" "tallMany") ∈ lw_all := lw_g (lw_at lw_m5 185 rfl) rfl
theorem q1235 : (Jvm.Cond.lays "LineCallsModel" "LineCallsModel" "tallLeast" "I") ∈ lw_all := lw_g (lw_at lw_m5 186 rfl) rfl
theorem q1236 : (Jvm.Cond.soleField "LineCallsModel" "tallLeast") ∈ lw_all := lw_g (lw_at lw_m5 187 rfl) rfl
theorem q1237 : (Jvm.Cond.laysFinal "LineCallsModel" "LineCallsModel" "tape" "[I") ∈ lw_all := lw_g (lw_at lw_m5 188 rfl) rfl
theorem q1238 : (Jvm.Cond.soleField "LineCallsModel" "tape") ∈ lw_all := lw_g (lw_at lw_m5 189 rfl) rfl
theorem q1239 : (Jvm.Cond.lays "LineCallsModel" "LineCallsModel" "taped" "I") ∈ lw_all := lw_g (lw_at lw_m5 190 rfl) rfl
theorem q1240 : (Jvm.Cond.soleField "LineCallsModel" "taped") ∈ lw_all := lw_g (lw_at lw_m5 191 rfl) rfl
theorem q1241 : (Jvm.Cond.lays "LineCallsModel" "LineCallsModel" "begins" "I") ∈ lw_all := lw_g (lw_at lw_m5 192 rfl) rfl
theorem q1242 : (Jvm.Cond.soleField "LineCallsModel" "begins") ∈ lw_all := lw_g (lw_at lw_m5 193 rfl) rfl
theorem q1243 : (Jvm.Cond.lays "LineCallsModel" "LineCallsModel" "ends" "I") ∈ lw_all := lw_g (lw_at lw_m5 194 rfl) rfl
theorem q1244 : (Jvm.Cond.soleField "LineCallsModel" "ends") ∈ lw_all := lw_g (lw_at lw_m5 195 rfl) rfl
theorem q1245 : (Jvm.Cond.lays "LineCallsModel" "LineCallsModel" "sort" "I") ∈ lw_all := lw_g (lw_at lw_m5 196 rfl) rfl
theorem q1246 : (Jvm.Cond.soleField "LineCallsModel" "sort") ∈ lw_all := lw_g (lw_at lw_m5 197 rfl) rfl
theorem q1247 : (Jvm.Cond.lays "LineCallsModel" "LineCallsModel" "value" "I") ∈ lw_all := lw_g (lw_at lw_m5 198 rfl) rfl
theorem q1248 : (Jvm.Cond.soleField "LineCallsModel" "value") ∈ lw_all := lw_g (lw_at lw_m5 199 rfl) rfl
theorem q1249 : (Jvm.Cond.lays "LineCallsModel" "LineCallsModel" "isWrong" "Z") ∈ lw_all := lw_g (lw_at lw_m5 200 rfl) rfl
theorem q1250 : (Jvm.Cond.soleField "LineCallsModel" "isWrong") ∈ lw_all := lw_g (lw_at lw_m5 201 rfl) rfl
theorem q1251 : (Jvm.Cond.laysFinal "LineCallsModel" "LineCallsModel" "kindNames" "[Ljava/lang/String;") ∈ lw_all := lw_g (lw_at lw_m5 202 rfl) rfl
theorem q1252 : (Jvm.Cond.soleField "LineCallsModel" "kindNames") ∈ lw_all := lw_g (lw_at lw_m5 203 rfl) rfl
theorem q1253 : (Jvm.Cond.laysFinal "LineCallsModel" "LineCallsModel" "itemWhat" "[I") ∈ lw_all := lw_g (lw_at lw_m5 204 rfl) rfl
theorem q1254 : (Jvm.Cond.soleField "LineCallsModel" "itemWhat") ∈ lw_all := lw_g (lw_at lw_m5 205 rfl) rfl
theorem q1255 : (Jvm.Cond.laysFinal "LineCallsModel" "LineCallsModel" "itemA" "[I") ∈ lw_all := lw_g (lw_at lw_m5 206 rfl) rfl
theorem q1256 : (Jvm.Cond.soleField "LineCallsModel" "itemA") ∈ lw_all := lw_g (lw_at lw_m5 207 rfl) rfl
theorem q1257 : (Jvm.Cond.laysFinal "LineCallsModel" "LineCallsModel" "itemB" "[I") ∈ lw_all := lw_g (lw_at lw_m5 208 rfl) rfl
theorem q1258 : (Jvm.Cond.soleField "LineCallsModel" "itemB") ∈ lw_all := lw_g (lw_at lw_m5 209 rfl) rfl
theorem q1259 : (Jvm.Cond.lays "LineCallsModel" "LineCallsModel" "itemMany" "I") ∈ lw_all := lw_g (lw_at lw_m5 210 rfl) rfl
theorem q1260 : (Jvm.Cond.soleField "LineCallsModel" "itemMany") ∈ lw_all := lw_g (lw_at lw_m5 211 rfl) rfl
theorem q1261 : (Jvm.Cond.lays "LineCallsModel" "LineCallsModel" "jumpersThen" "I") ∈ lw_all := lw_g (lw_at lw_m5 212 rfl) rfl
theorem q1262 : (Jvm.Cond.soleField "LineCallsModel" "jumpersThen") ∈ lw_all := lw_g (lw_at lw_m5 213 rfl) rfl
theorem q1263 : (Jvm.Cond.lays "LineCallsModel" "LineCallsModel" "takenThen" "I") ∈ lw_all := lw_g (lw_at lw_m5 214 rfl) rfl
theorem q1264 : (Jvm.Cond.soleField "LineCallsModel" "takenThen") ∈ lw_all := lw_g (lw_at lw_m5 215 rfl) rfl
theorem q1265 : (Jvm.Cond.laysFinal "LineCallsModel" "LineCallsModel" "widths" "[I") ∈ lw_all := lw_g (lw_at lw_m5 216 rfl) rfl
theorem q1266 : (Jvm.Cond.soleField "LineCallsModel" "widths") ∈ lw_all := lw_g (lw_at lw_m5 217 rfl) rfl
theorem q1267 : (Jvm.Cond.laysFinal "LineCallsModel" "LineCallsModel" "sizes" "[I") ∈ lw_all := lw_g (lw_at lw_m5 218 rfl) rfl
theorem q1268 : (Jvm.Cond.soleField "LineCallsModel" "sizes") ∈ lw_all := lw_g (lw_at lw_m5 219 rfl) rfl
theorem q1269 : (Jvm.Cond.laysFinal "LineCallsModel" "LineCallsModel" "numbers" "[I") ∈ lw_all := lw_g (lw_at lw_m5 220 rfl) rfl
theorem q1270 : (Jvm.Cond.soleField "LineCallsModel" "numbers") ∈ lw_all := lw_g (lw_at lw_m5 221 rfl) rfl
theorem q1271 : (Jvm.Cond.laysFinal "LineCallsModel" "LineCallsModel" "moved" "[I") ∈ lw_all := lw_g (lw_at lw_m5 222 rfl) rfl
theorem q1272 : (Jvm.Cond.soleField "LineCallsModel" "moved") ∈ lw_all := lw_g (lw_at lw_m5 223 rfl) rfl
theorem q1273 : (Jvm.Cond.superclass "LineCallsModel" "java/lang/Object") ∈ lw_all := lw_g (lw_at lw_m5 224 rfl) rfl
theorem q1275 : (Jvm.Cond.instanceMethod ({ cls := "LineCallsModel", name := "stand", desc := "(II)I" } : Jvm.MethodName)) ∈ lw_all := lw_g (lw_at lw_m5 226 rfl) rfl
theorem q1276 : (Jvm.Cond.selects "LineCallsModel" ({ cls := "LineCallsModel", name := "stand", desc := "(II)I" } : Jvm.MethodName) ({ cls := "LineCallsModel", name := "stand", desc := "(II)I" } : Jvm.MethodName)) ∈ lw_all := lw_g (lw_at lw_m5 227 rfl) rfl
theorem q1277 : (Jvm.Cond.code ({ cls := "LineCallsModel", name := "stand", desc := "(II)I" } : Jvm.MethodName) prog_16_method_14_code (3 : Nat) (Option.some Jvm.ClassFile.FieldType.int)) ∈ lw_all := lw_g (lw_at lw_m5 228 rfl) rfl
theorem q1278 : (Jvm.Cond.methodLink "LineCallsModel" (83 : Nat) ({ cls := "LineCallsModel", name := "isPlace", desc := "(I)Z" } : Jvm.MethodName)) ∈ lw_all := lw_g (lw_at lw_m5 229 rfl) rfl
theorem q1279 : (Jvm.Cond.static ({ cls := "LineCallsModel", name := "isPlace", desc := "(I)Z" } : Jvm.MethodName)) ∈ lw_all := lw_g (lw_at lw_m5 230 rfl) rfl
theorem q1280 : (Jvm.Cond.code ({ cls := "LineCallsModel", name := "isPlace", desc := "(I)Z" } : Jvm.MethodName) prog_16_method_10_code (1 : Nat) (Option.some Jvm.ClassFile.FieldType.boolean)) ∈ lw_all := lw_g (lw_at lw_m5 231 rfl) rfl
theorem q1281 : (Jvm.Cond.methodLink "LineCallsModel" (76 : Nat) ({ cls := "LineCallsModel", name := "within", desc := "(III)Z" } : Jvm.MethodName)) ∈ lw_all := lw_g (lw_at lw_m5 232 rfl) rfl
theorem q1282 : (Jvm.Cond.static ({ cls := "LineCallsModel", name := "within", desc := "(III)Z" } : Jvm.MethodName)) ∈ lw_all := lw_g (lw_at lw_m5 233 rfl) rfl
theorem q1283 : (Jvm.Cond.code ({ cls := "LineCallsModel", name := "within", desc := "(III)Z" } : Jvm.MethodName) prog_16_method_3_code (3 : Nat) (Option.some Jvm.ClassFile.FieldType.boolean)) ∈ lw_all := lw_g (lw_at lw_m5 234 rfl) rfl
theorem q1284 : (Jvm.Cond.methodLink "LineCallsModel" (87 : Nat) ({ cls := "LineCallsModel", name := "isJumper", desc := "(I)Z" } : Jvm.MethodName)) ∈ lw_all := lw_g (lw_at lw_m5 235 rfl) rfl
theorem q1285 : (Jvm.Cond.privateMethod ({ cls := "LineCallsModel", name := "isJumper", desc := "(I)Z" } : Jvm.MethodName)) ∈ lw_tbl := lw_at lw_m5 236 rfl
theorem q1286 : (Jvm.Cond.instanceMethod ({ cls := "LineCallsModel", name := "isJumper", desc := "(I)Z" } : Jvm.MethodName)) ∈ lw_all := lw_g (lw_at lw_m5 237 rfl) rfl
theorem q1287 : (Jvm.Cond.code ({ cls := "LineCallsModel", name := "isJumper", desc := "(I)Z" } : Jvm.MethodName) prog_16_method_11_code (2 : Nat) (Option.some Jvm.ClassFile.FieldType.boolean)) ∈ lw_all := lw_g (lw_at lw_m5 238 rfl) rfl
theorem q1288 : (Jvm.Cond.methodLink "LineCallsModel" (90 : Nat) ({ cls := "LineCallsModel", name := "stands", desc := "(II)I" } : Jvm.MethodName)) ∈ lw_all := lw_g (lw_at lw_m5 239 rfl) rfl
theorem q1289 : (Jvm.Cond.privateMethod ({ cls := "LineCallsModel", name := "stands", desc := "(II)I" } : Jvm.MethodName)) ∈ lw_tbl := lw_at lw_m6 0 rfl
theorem q1290 : (Jvm.Cond.instanceMethod ({ cls := "LineCallsModel", name := "stands", desc := "(II)I" } : Jvm.MethodName)) ∈ lw_all := lw_g (lw_at lw_m6 1 rfl) rfl
theorem q1291 : (Jvm.Cond.code ({ cls := "LineCallsModel", name := "stands", desc := "(II)I" } : Jvm.MethodName) prog_16_method_13_code (5 : Nat) (Option.some Jvm.ClassFile.FieldType.int)) ∈ lw_all := lw_g (lw_at lw_m6 2 rfl) rfl
theorem q1292 : (Jvm.Cond.methodLink "LineCallsModel" (80 : Nat) ({ cls := "LineCallsModel", name := "placeOf", desc := "(I)I" } : Jvm.MethodName)) ∈ lw_all := lw_g (lw_at lw_m6 3 rfl) rfl
theorem q1293 : (Jvm.Cond.privateMethod ({ cls := "LineCallsModel", name := "placeOf", desc := "(I)I" } : Jvm.MethodName)) ∈ lw_tbl := lw_at lw_m6 4 rfl
theorem q1294 : (Jvm.Cond.instanceMethod ({ cls := "LineCallsModel", name := "placeOf", desc := "(I)I" } : Jvm.MethodName)) ∈ lw_all := lw_g (lw_at lw_m6 5 rfl) rfl
theorem q1295 : (Jvm.Cond.code ({ cls := "LineCallsModel", name := "placeOf", desc := "(I)I" } : Jvm.MethodName) prog_16_method_12_code (4 : Nat) (Option.some Jvm.ClassFile.FieldType.int)) ∈ lw_all := lw_g (lw_at lw_m6 6 rfl) rfl
theorem q1296 : (Jvm.Cond.constant "LineCallsModel" (66 : Nat) (-1000001 : Int32)) ∈ lw_all := lw_g (lw_at lw_m6 7 rfl) rfl
theorem q1297 : (Jvm.Cond.methodLink "LineCallsModel" (72 : Nat) ({ cls := "LineCallsModel", name := "finding", desc := "(I)I" } : Jvm.MethodName)) ∈ lw_all := lw_g (lw_at lw_m6 8 rfl) rfl
theorem q1298 : (Jvm.Cond.privateMethod ({ cls := "LineCallsModel", name := "finding", desc := "(I)I" } : Jvm.MethodName)) ∈ lw_tbl := lw_at lw_m6 9 rfl
theorem q1299 : (Jvm.Cond.instanceMethod ({ cls := "LineCallsModel", name := "finding", desc := "(I)I" } : Jvm.MethodName)) ∈ lw_all := lw_g (lw_at lw_m6 10 rfl) rfl
theorem q1300 : (Jvm.Cond.code ({ cls := "LineCallsModel", name := "finding", desc := "(I)I" } : Jvm.MethodName) prog_16_method_2_code (2 : Nat) (Option.some Jvm.ClassFile.FieldType.int)) ∈ lw_all := lw_g (lw_at lw_m6 11 rfl) rfl
theorem q1302 : (Jvm.Cond.instanceMethod ({ cls := "LineCallsModel", name := "place", desc := "(II)I" } : Jvm.MethodName)) ∈ lw_all := lw_g (lw_at lw_m6 13 rfl) rfl
theorem q1303 : (Jvm.Cond.selects "LineCallsModel" ({ cls := "LineCallsModel", name := "place", desc := "(II)I" } : Jvm.MethodName) ({ cls := "LineCallsModel", name := "place", desc := "(II)I" } : Jvm.MethodName)) ∈ lw_all := lw_g (lw_at lw_m6 14 rfl) rfl
theorem q1304 : (Jvm.Cond.code ({ cls := "LineCallsModel", name := "place", desc := "(II)I" } : Jvm.MethodName) prog_16_method_16_code (3 : Nat) (Option.some Jvm.ClassFile.FieldType.int)) ∈ lw_all := lw_g (lw_at lw_m6 15 rfl) rfl
theorem q1305 : (Jvm.Cond.methodLink "LineCallsModel" (94 : Nat) ({ cls := "LineCallsModel", name := "force", desc := "(I)I" } : Jvm.MethodName)) ∈ lw_all := lw_g (lw_at lw_m6 16 rfl) rfl
theorem q1306 : (Jvm.Cond.privateMethod ({ cls := "LineCallsModel", name := "force", desc := "(I)I" } : Jvm.MethodName)) ∈ lw_tbl := lw_at lw_m6 17 rfl
theorem q1307 : (Jvm.Cond.instanceMethod ({ cls := "LineCallsModel", name := "force", desc := "(I)I" } : Jvm.MethodName)) ∈ lw_all := lw_g (lw_at lw_m6 18 rfl) rfl
theorem q1308 : (Jvm.Cond.code ({ cls := "LineCallsModel", name := "force", desc := "(I)I" } : Jvm.MethodName) prog_16_method_15_code (2 : Nat) (Option.some Jvm.ClassFile.FieldType.int)) ∈ lw_all := lw_g (lw_at lw_m6 19 rfl) rfl
theorem q1310 : (Jvm.Cond.instanceMethod ({ cls := "LineCallsModel", name := "theirs", desc := "(III)I" } : Jvm.MethodName)) ∈ lw_all := lw_g (lw_at lw_m6 21 rfl) rfl
theorem q1311 : (Jvm.Cond.selects "LineCallsModel" ({ cls := "LineCallsModel", name := "theirs", desc := "(III)I" } : Jvm.MethodName) ({ cls := "LineCallsModel", name := "theirs", desc := "(III)I" } : Jvm.MethodName)) ∈ lw_all := lw_g (lw_at lw_m6 22 rfl) rfl
theorem q1312 : (Jvm.Cond.code ({ cls := "LineCallsModel", name := "theirs", desc := "(III)I" } : Jvm.MethodName) prog_16_method_17_code (4 : Nat) (Option.some Jvm.ClassFile.FieldType.int)) ∈ lw_all := lw_g (lw_at lw_m6 23 rfl) rfl
theorem q1313 : (Jvm.Cond.methodLink "LineCallsModel" (97 : Nat) ({ cls := "LineCallsModel", name := "become", desc := "(II)I" } : Jvm.MethodName)) ∈ lw_all := lw_g (lw_at lw_m6 24 rfl) rfl
theorem q1314 : (Jvm.Cond.privateMethod ({ cls := "LineCallsModel", name := "become", desc := "(II)I" } : Jvm.MethodName)) ∈ lw_tbl := lw_at lw_m6 25 rfl
theorem q1315 : (Jvm.Cond.instanceMethod ({ cls := "LineCallsModel", name := "become", desc := "(II)I" } : Jvm.MethodName)) ∈ lw_all := lw_g (lw_at lw_m6 26 rfl) rfl
theorem q1316 : (Jvm.Cond.code ({ cls := "LineCallsModel", name := "become", desc := "(II)I" } : Jvm.MethodName) prog_16_method_4_code (4 : Nat) (Option.some Jvm.ClassFile.FieldType.int)) ∈ lw_all := lw_g (lw_at lw_m6 27 rfl) rfl
theorem q1318 : (Jvm.Cond.instanceMethod ({ cls := "LineCallsModel", name := "set", desc := "(II)I" } : Jvm.MethodName)) ∈ lw_all := lw_g (lw_at lw_m6 29 rfl) rfl
theorem q1319 : (Jvm.Cond.selects "LineCallsModel" ({ cls := "LineCallsModel", name := "set", desc := "(II)I" } : Jvm.MethodName) ({ cls := "LineCallsModel", name := "set", desc := "(II)I" } : Jvm.MethodName)) ∈ lw_all := lw_g (lw_at lw_m6 30 rfl) rfl
theorem q1320 : (Jvm.Cond.code ({ cls := "LineCallsModel", name := "set", desc := "(II)I" } : Jvm.MethodName) prog_16_method_18_code (3 : Nat) (Option.some Jvm.ClassFile.FieldType.int)) ∈ lw_all := lw_g (lw_at lw_m6 31 rfl) rfl
theorem q1322 : (Jvm.Cond.instanceMethod ({ cls := "LineCallsModel", name := "call", desc := "(II)I" } : Jvm.MethodName)) ∈ lw_all := lw_g (lw_at lw_m6 33 rfl) rfl
theorem q1323 : (Jvm.Cond.selects "LineCallsModel" ({ cls := "LineCallsModel", name := "call", desc := "(II)I" } : Jvm.MethodName) ({ cls := "LineCallsModel", name := "call", desc := "(II)I" } : Jvm.MethodName)) ∈ lw_all := lw_g (lw_at lw_m6 34 rfl) rfl
theorem q1324 : (Jvm.Cond.code ({ cls := "LineCallsModel", name := "call", desc := "(II)I" } : Jvm.MethodName) prog_16_method_20_code (3 : Nat) (Option.some Jvm.ClassFile.FieldType.int)) ∈ lw_all := lw_g (lw_at lw_m6 35 rfl) rfl
theorem q1325 : (Jvm.Cond.methodLink "LineCallsModel" (100 : Nat) ({ cls := "LineCallsModel", name := "isCall", desc := "(I)Z" } : Jvm.MethodName)) ∈ lw_all := lw_g (lw_at lw_m6 36 rfl) rfl
theorem q1326 : (Jvm.Cond.static ({ cls := "LineCallsModel", name := "isCall", desc := "(I)Z" } : Jvm.MethodName)) ∈ lw_all := lw_g (lw_at lw_m6 37 rfl) rfl
theorem q1327 : (Jvm.Cond.code ({ cls := "LineCallsModel", name := "isCall", desc := "(I)Z" } : Jvm.MethodName) prog_16_method_19_code (1 : Nat) (Option.some Jvm.ClassFile.FieldType.boolean)) ∈ lw_all := lw_g (lw_at lw_m6 38 rfl) rfl
theorem q1329 : (Jvm.Cond.instanceMethod ({ cls := "LineCallsModel", name := "listed", desc := "(I)I" } : Jvm.MethodName)) ∈ lw_all := lw_g (lw_at lw_m6 40 rfl) rfl
theorem q1330 : (Jvm.Cond.selects "LineCallsModel" ({ cls := "LineCallsModel", name := "listed", desc := "(I)I" } : Jvm.MethodName) ({ cls := "LineCallsModel", name := "listed", desc := "(I)I" } : Jvm.MethodName)) ∈ lw_all := lw_g (lw_at lw_m6 41 rfl) rfl
theorem q1331 : (Jvm.Cond.code ({ cls := "LineCallsModel", name := "listed", desc := "(I)I" } : Jvm.MethodName) prog_16_method_21_code (2 : Nat) (Option.some Jvm.ClassFile.FieldType.int)) ∈ lw_all := lw_g (lw_at lw_m6 42 rfl) rfl
theorem q1333 : (Jvm.Cond.instanceMethod ({ cls := "LineCallsModel", name := "says", desc := "(II)I" } : Jvm.MethodName)) ∈ lw_all := lw_g (lw_at lw_m6 44 rfl) rfl
theorem q1334 : (Jvm.Cond.selects "LineCallsModel" ({ cls := "LineCallsModel", name := "says", desc := "(II)I" } : Jvm.MethodName) ({ cls := "LineCallsModel", name := "says", desc := "(II)I" } : Jvm.MethodName)) ∈ lw_all := lw_g (lw_at lw_m6 45 rfl) rfl
theorem q1335 : (Jvm.Cond.code ({ cls := "LineCallsModel", name := "says", desc := "(II)I" } : Jvm.MethodName) prog_16_method_23_code (3 : Nat) (Option.some Jvm.ClassFile.FieldType.int)) ∈ lw_all := lw_g (lw_at lw_m6 46 rfl) rfl
theorem q1336 : (Jvm.Cond.methodLink "LineCallsModel" (106 : Nat) ({ cls := "LineCallsModel", name := "saysBy", desc := "(II)I" } : Jvm.MethodName)) ∈ lw_all := lw_g (lw_at lw_m6 47 rfl) rfl
theorem q1337 : (Jvm.Cond.static ({ cls := "LineCallsModel", name := "saysBy", desc := "(II)I" } : Jvm.MethodName)) ∈ lw_all := lw_g (lw_at lw_m6 48 rfl) rfl
theorem q1338 : (Jvm.Cond.code ({ cls := "LineCallsModel", name := "saysBy", desc := "(II)I" } : Jvm.MethodName) prog_16_method_22_code (4 : Nat) (Option.some Jvm.ClassFile.FieldType.int)) ∈ lw_all := lw_g (lw_at lw_m6 49 rfl) rfl
theorem q1339 : (Jvm.Cond.methodLink "LineCallsModel" (103 : Nat) ({ cls := "LineCallsModel", name := "bits", desc := "(I)I" } : Jvm.MethodName)) ∈ lw_all := lw_g (lw_at lw_m6 50 rfl) rfl
theorem q1340 : (Jvm.Cond.static ({ cls := "LineCallsModel", name := "bits", desc := "(I)I" } : Jvm.MethodName)) ∈ lw_all := lw_g (lw_at lw_m6 51 rfl) rfl
theorem q1341 : (Jvm.Cond.code ({ cls := "LineCallsModel", name := "bits", desc := "(I)I" } : Jvm.MethodName) prog_16_method_8_code (3 : Nat) (Option.some Jvm.ClassFile.FieldType.int)) ∈ lw_all := lw_g (lw_at lw_m6 52 rfl) rfl
theorem q1343 : (Jvm.Cond.instanceMethod ({ cls := "LineCallsModel", name := "jumper", desc := "(II)I" } : Jvm.MethodName)) ∈ lw_all := lw_g (lw_at lw_m6 54 rfl) rfl
theorem q1344 : (Jvm.Cond.selects "LineCallsModel" ({ cls := "LineCallsModel", name := "jumper", desc := "(II)I" } : Jvm.MethodName) ({ cls := "LineCallsModel", name := "jumper", desc := "(II)I" } : Jvm.MethodName)) ∈ lw_all := lw_g (lw_at lw_m6 55 rfl) rfl
theorem q1345 : (Jvm.Cond.code ({ cls := "LineCallsModel", name := "jumper", desc := "(II)I" } : Jvm.MethodName) prog_16_method_28_code (3 : Nat) (Option.some Jvm.ClassFile.FieldType.int)) ∈ lw_all := lw_g (lw_at lw_m6 56 rfl) rfl
theorem q1346 : (Jvm.Cond.methodLink "LineCallsModel" (112 : Nat) ({ cls := "LineCallsModel", name := "isKind", desc := "(I)Z" } : Jvm.MethodName)) ∈ lw_all := lw_g (lw_at lw_m6 57 rfl) rfl
theorem q1347 : (Jvm.Cond.static ({ cls := "LineCallsModel", name := "isKind", desc := "(I)Z" } : Jvm.MethodName)) ∈ lw_all := lw_g (lw_at lw_m6 58 rfl) rfl
theorem q1348 : (Jvm.Cond.code ({ cls := "LineCallsModel", name := "isKind", desc := "(I)Z" } : Jvm.MethodName) prog_16_method_24_code (1 : Nat) (Option.some Jvm.ClassFile.FieldType.boolean)) ∈ lw_all := lw_g (lw_at lw_m6 59 rfl) rfl
theorem q1349 : (Jvm.Cond.constant "LineCallsModel" (115 : Nat) (-1000002 : Int32)) ∈ lw_all := lw_g (lw_at lw_m6 60 rfl) rfl
theorem q1350 : (Jvm.Cond.methodLink "LineCallsModel" (116 : Nat) ({ cls := "LineCallsModel", name := "comes", desc := "(II)I" } : Jvm.MethodName)) ∈ lw_all := lw_g (lw_at lw_m6 61 rfl) rfl
theorem q1351 : (Jvm.Cond.privateMethod ({ cls := "LineCallsModel", name := "comes", desc := "(II)I" } : Jvm.MethodName)) ∈ lw_tbl := lw_at lw_m6 62 rfl
theorem q1352 : (Jvm.Cond.instanceMethod ({ cls := "LineCallsModel", name := "comes", desc := "(II)I" } : Jvm.MethodName)) ∈ lw_all := lw_g (lw_at lw_m6 63 rfl) rfl
theorem q1353 : (Jvm.Cond.code ({ cls := "LineCallsModel", name := "comes", desc := "(II)I" } : Jvm.MethodName) prog_16_method_27_code (5 : Nat) (Option.some Jvm.ClassFile.FieldType.int)) ∈ lw_all := lw_g (lw_at lw_m6 64 rfl) rfl
theorem q1354 : (Jvm.Cond.methodLink "LineCallsModel" (109 : Nat) ({ cls := "LineCallsModel", name := "jumperAt", desc := "(II)I" } : Jvm.MethodName)) ∈ lw_all := lw_g (lw_at lw_m6 65 rfl) rfl
theorem q1355 : (Jvm.Cond.static ({ cls := "LineCallsModel", name := "jumperAt", desc := "(II)I" } : Jvm.MethodName)) ∈ lw_all := lw_g (lw_at lw_m6 66 rfl) rfl
theorem q1356 : (Jvm.Cond.code ({ cls := "LineCallsModel", name := "jumperAt", desc := "(II)I" } : Jvm.MethodName) prog_16_method_25_code (2 : Nat) (Option.some Jvm.ClassFile.FieldType.int)) ∈ lw_all := lw_g (lw_at lw_m6 67 rfl) rfl
theorem q1358 : (Jvm.Cond.instanceMethod ({ cls := "LineCallsModel", name := "of", desc := "(II)I" } : Jvm.MethodName)) ∈ lw_all := lw_g (lw_at lw_m6 69 rfl) rfl
theorem q1359 : (Jvm.Cond.selects "LineCallsModel" ({ cls := "LineCallsModel", name := "of", desc := "(II)I" } : Jvm.MethodName) ({ cls := "LineCallsModel", name := "of", desc := "(II)I" } : Jvm.MethodName)) ∈ lw_all := lw_g (lw_at lw_m6 70 rfl) rfl
theorem q1360 : (Jvm.Cond.code ({ cls := "LineCallsModel", name := "of", desc := "(II)I" } : Jvm.MethodName) prog_16_method_32_code (3 : Nat) (Option.some Jvm.ClassFile.FieldType.int)) ∈ lw_all := lw_g (lw_at lw_m6 71 rfl) rfl
theorem q1361 : (Jvm.Cond.methodLink "LineCallsModel" (119 : Nat) ({ cls := "LineCallsModel", name := "jumperIs", desc := "(II)I" } : Jvm.MethodName)) ∈ lw_all := lw_g (lw_at lw_m6 72 rfl) rfl
theorem q1362 : (Jvm.Cond.privateMethod ({ cls := "LineCallsModel", name := "jumperIs", desc := "(II)I" } : Jvm.MethodName)) ∈ lw_tbl := lw_at lw_m6 73 rfl
theorem q1363 : (Jvm.Cond.instanceMethod ({ cls := "LineCallsModel", name := "jumperIs", desc := "(II)I" } : Jvm.MethodName)) ∈ lw_all := lw_g (lw_at lw_m6 74 rfl) rfl
theorem q1364 : (Jvm.Cond.code ({ cls := "LineCallsModel", name := "jumperIs", desc := "(II)I" } : Jvm.MethodName) prog_16_method_26_code (3 : Nat) (Option.some Jvm.ClassFile.FieldType.int)) ∈ lw_all := lw_g (lw_at lw_m6 75 rfl) rfl
theorem q1365 : (Jvm.Cond.methodLink "LineCallsModel" (127 : Nat) ({ cls := "LineCallsModel", name := "high", desc := "(I)I" } : Jvm.MethodName)) ∈ lw_all := lw_g (lw_at lw_m6 76 rfl) rfl
theorem q1366 : (Jvm.Cond.privateMethod ({ cls := "LineCallsModel", name := "high", desc := "(I)I" } : Jvm.MethodName)) ∈ lw_tbl := lw_at lw_m6 77 rfl
theorem q1367 : (Jvm.Cond.instanceMethod ({ cls := "LineCallsModel", name := "high", desc := "(I)I" } : Jvm.MethodName)) ∈ lw_all := lw_g (lw_at lw_m6 78 rfl) rfl
theorem q1368 : (Jvm.Cond.code ({ cls := "LineCallsModel", name := "high", desc := "(I)I" } : Jvm.MethodName) prog_16_method_29_code (4 : Nat) (Option.some Jvm.ClassFile.FieldType.int)) ∈ lw_all := lw_g (lw_at lw_m6 79 rfl) rfl
theorem q1369 : (Jvm.Cond.methodLink "LineCallsModel" (122 : Nat) ({ cls := "java/lang/Math", name := "max", desc := "(II)I" } : Jvm.MethodName)) ∈ lw_all := lw_g (lw_at lw_m6 80 rfl) rfl
theorem q1370 : (Jvm.Cond.methodLink "LineCallsModel" (130 : Nat) ({ cls := "LineCallsModel", name := "tires", desc := "(I)I" } : Jvm.MethodName)) ∈ lw_all := lw_g (lw_at lw_m6 81 rfl) rfl
theorem q1371 : (Jvm.Cond.privateMethod ({ cls := "LineCallsModel", name := "tires", desc := "(I)I" } : Jvm.MethodName)) ∈ lw_tbl := lw_at lw_m6 82 rfl
theorem q1372 : (Jvm.Cond.instanceMethod ({ cls := "LineCallsModel", name := "tires", desc := "(I)I" } : Jvm.MethodName)) ∈ lw_all := lw_g (lw_at lw_m6 83 rfl) rfl
theorem q1373 : (Jvm.Cond.code ({ cls := "LineCallsModel", name := "tires", desc := "(I)I" } : Jvm.MethodName) prog_16_method_31_code (2 : Nat) (Option.some Jvm.ClassFile.FieldType.int)) ∈ lw_all := lw_g (lw_at lw_m6 84 rfl) rfl
theorem q1375 : (Jvm.Cond.instanceMethod ({ cls := "LineCallsModel", name := "change", desc := "(III)I" } : Jvm.MethodName)) ∈ lw_all := lw_g (lw_at lw_m6 86 rfl) rfl
theorem q1376 : (Jvm.Cond.selects "LineCallsModel" ({ cls := "LineCallsModel", name := "change", desc := "(III)I" } : Jvm.MethodName) ({ cls := "LineCallsModel", name := "change", desc := "(III)I" } : Jvm.MethodName)) ∈ lw_all := lw_g (lw_at lw_m6 87 rfl) rfl
theorem q1377 : (Jvm.Cond.code ({ cls := "LineCallsModel", name := "change", desc := "(III)I" } : Jvm.MethodName) prog_16_method_34_code (4 : Nat) (Option.some Jvm.ClassFile.FieldType.int)) ∈ lw_all := lw_g (lw_at lw_m6 88 rfl) rfl
theorem q1378 : (Jvm.Cond.methodLink "LineCallsModel" (133 : Nat) ({ cls := "LineCallsModel", name := "isField", desc := "(II)Z" } : Jvm.MethodName)) ∈ lw_all := lw_g (lw_at lw_m6 89 rfl) rfl
theorem q1379 : (Jvm.Cond.static ({ cls := "LineCallsModel", name := "isField", desc := "(II)Z" } : Jvm.MethodName)) ∈ lw_all := lw_g (lw_at lw_m6 90 rfl) rfl
theorem q1380 : (Jvm.Cond.code ({ cls := "LineCallsModel", name := "isField", desc := "(II)Z" } : Jvm.MethodName) prog_16_method_33_code (2 : Nat) (Option.some Jvm.ClassFile.FieldType.boolean)) ∈ lw_all := lw_g (lw_at lw_m6 91 rfl) rfl
theorem q1382 : (Jvm.Cond.instanceMethod ({ cls := "LineCallsModel", name := "gains", desc := "(II)I" } : Jvm.MethodName)) ∈ lw_all := lw_g (lw_at lw_m6 93 rfl) rfl
theorem q1383 : (Jvm.Cond.selects "LineCallsModel" ({ cls := "LineCallsModel", name := "gains", desc := "(II)I" } : Jvm.MethodName) ({ cls := "LineCallsModel", name := "gains", desc := "(II)I" } : Jvm.MethodName)) ∈ lw_all := lw_g (lw_at lw_m6 94 rfl) rfl
theorem q1384 : (Jvm.Cond.code ({ cls := "LineCallsModel", name := "gains", desc := "(II)I" } : Jvm.MethodName) prog_16_method_35_code (3 : Nat) (Option.some Jvm.ClassFile.FieldType.int)) ∈ lw_all := lw_g (lw_at lw_m6 95 rfl) rfl
theorem q1385 : (Jvm.Cond.methodLink "LineCallsModel" (137 : Nat) ({ cls := "LineCallsModel", name := "gainsIn", desc := "(II)I" } : Jvm.MethodName)) ∈ lw_all := lw_g (lw_at lw_m6 96 rfl) rfl
theorem q1386 : (Jvm.Cond.privateMethod ({ cls := "LineCallsModel", name := "gainsIn", desc := "(II)I" } : Jvm.MethodName)) ∈ lw_tbl := lw_at lw_m6 97 rfl
theorem q1387 : (Jvm.Cond.instanceMethod ({ cls := "LineCallsModel", name := "gainsIn", desc := "(II)I" } : Jvm.MethodName)) ∈ lw_all := lw_g (lw_at lw_m6 98 rfl) rfl
theorem q1388 : (Jvm.Cond.code ({ cls := "LineCallsModel", name := "gainsIn", desc := "(II)I" } : Jvm.MethodName) prog_16_method_30_code (3 : Nat) (Option.some Jvm.ClassFile.FieldType.int)) ∈ lw_all := lw_g (lw_at lw_m6 99 rfl) rfl
theorem q1390 : (Jvm.Cond.instanceMethod ({ cls := "LineCallsModel", name := "go", desc := "(I)I" } : Jvm.MethodName)) ∈ lw_all := lw_g (lw_at lw_m6 101 rfl) rfl
theorem q1391 : (Jvm.Cond.selects "LineCallsModel" ({ cls := "LineCallsModel", name := "go", desc := "(I)I" } : Jvm.MethodName) ({ cls := "LineCallsModel", name := "go", desc := "(I)I" } : Jvm.MethodName)) ∈ lw_all := lw_g (lw_at lw_m6 102 rfl) rfl
theorem q1392 : (Jvm.Cond.code ({ cls := "LineCallsModel", name := "go", desc := "(I)I" } : Jvm.MethodName) prog_16_method_41_code (2 : Nat) (Option.some Jvm.ClassFile.FieldType.int)) ∈ lw_all := lw_g (lw_at lw_m6 103 rfl) rfl
theorem q1393 : (Jvm.Cond.constant "LineCallsModel" (143 : Nat) (99999 : Int32)) ∈ lw_all := lw_g (lw_at lw_m6 104 rfl) rfl
theorem q1394 : (Jvm.Cond.constant "LineCallsModel" (158 : Nat) (-1000005 : Int32)) ∈ lw_all := lw_g (lw_at lw_m6 105 rfl) rfl
theorem q1395 : (Jvm.Cond.methodLink "LineCallsModel" (159 : Nat) ({ cls := "LineCallsModel", name := "throwsGo", desc := "(I)V" } : Jvm.MethodName)) ∈ lw_all := lw_g (lw_at lw_m6 106 rfl) rfl
theorem q1396 : (Jvm.Cond.privateMethod ({ cls := "LineCallsModel", name := "throwsGo", desc := "(I)V" } : Jvm.MethodName)) ∈ lw_tbl := lw_at lw_m6 107 rfl
theorem q1397 : (Jvm.Cond.instanceMethod ({ cls := "LineCallsModel", name := "throwsGo", desc := "(I)V" } : Jvm.MethodName)) ∈ lw_all := lw_g (lw_at lw_m6 108 rfl) rfl
theorem q1398 : (Jvm.Cond.code ({ cls := "LineCallsModel", name := "throwsGo", desc := "(I)V" } : Jvm.MethodName) prog_16_method_40_code (3 : Nat) (Option.none : Option Jvm.ClassFile.FieldType)) ∈ lw_all := lw_g (lw_at lw_m6 109 rfl) rfl
theorem q1399 : (Jvm.Cond.methodLink "LineCallsModel" (155 : Nat) ({ cls := "LineCallsModel", name := "oneThrow", desc := "()V" } : Jvm.MethodName)) ∈ lw_all := lw_g (lw_at lw_m6 110 rfl) rfl
theorem q1400 : (Jvm.Cond.privateMethod ({ cls := "LineCallsModel", name := "oneThrow", desc := "()V" } : Jvm.MethodName)) ∈ lw_tbl := lw_at lw_m6 111 rfl
theorem q1401 : (Jvm.Cond.instanceMethod ({ cls := "LineCallsModel", name := "oneThrow", desc := "()V" } : Jvm.MethodName)) ∈ lw_all := lw_g (lw_at lw_m6 112 rfl) rfl
theorem q1402 : (Jvm.Cond.code ({ cls := "LineCallsModel", name := "oneThrow", desc := "()V" } : Jvm.MethodName) prog_16_method_39_code (5 : Nat) (Option.none : Option Jvm.ClassFile.FieldType)) ∈ lw_all := lw_g (lw_at lw_m6 113 rfl) rfl
theorem q1403 : (Jvm.Cond.methodLink "LineCallsModel" (147 : Nat) ({ cls := "LineCallsModel", name := "placeNext", desc := "()I" } : Jvm.MethodName)) ∈ lw_all := lw_g (lw_at lw_m6 114 rfl) rfl
theorem q1404 : (Jvm.Cond.privateMethod ({ cls := "LineCallsModel", name := "placeNext", desc := "()I" } : Jvm.MethodName)) ∈ lw_tbl := lw_at lw_m6 115 rfl
theorem q1405 : (Jvm.Cond.instanceMethod ({ cls := "LineCallsModel", name := "placeNext", desc := "()I" } : Jvm.MethodName)) ∈ lw_all := lw_g (lw_at lw_m6 116 rfl) rfl
theorem q1406 : (Jvm.Cond.code ({ cls := "LineCallsModel", name := "placeNext", desc := "()I" } : Jvm.MethodName) prog_16_method_36_code (1 : Nat) (Option.some Jvm.ClassFile.FieldType.int)) ∈ lw_all := lw_g (lw_at lw_m6 117 rfl) rfl
theorem q1407 : (Jvm.Cond.methodLink "LineCallsModel" (151 : Nat) ({ cls := "LineCallsModel", name := "thrownTo", desc := "(II)V" } : Jvm.MethodName)) ∈ lw_all := lw_g (lw_at lw_m6 118 rfl) rfl
theorem q1408 : (Jvm.Cond.privateMethod ({ cls := "LineCallsModel", name := "thrownTo", desc := "(II)V" } : Jvm.MethodName)) ∈ lw_tbl := lw_at lw_m6 119 rfl
theorem q1409 : (Jvm.Cond.instanceMethod ({ cls := "LineCallsModel", name := "thrownTo", desc := "(II)V" } : Jvm.MethodName)) ∈ lw_all := lw_g (lw_at lw_m6 120 rfl) rfl
theorem q1410 : (Jvm.Cond.code ({ cls := "LineCallsModel", name := "thrownTo", desc := "(II)V" } : Jvm.MethodName) prog_16_method_38_code (6 : Nat) (Option.none : Option Jvm.ClassFile.FieldType)) ∈ lw_all := lw_g (lw_at lw_m6 121 rfl) rfl
theorem q1411 : (Jvm.Cond.methodLink "LineCallsModel" (140 : Nat) ({ cls := "LineCallsModel", name := "isWonIn", desc := "(I)Z" } : Jvm.MethodName)) ∈ lw_all := lw_g (lw_at lw_m6 122 rfl) rfl
theorem q1412 : (Jvm.Cond.privateMethod ({ cls := "LineCallsModel", name := "isWonIn", desc := "(I)Z" } : Jvm.MethodName)) ∈ lw_tbl := lw_at lw_m6 123 rfl
theorem q1413 : (Jvm.Cond.instanceMethod ({ cls := "LineCallsModel", name := "isWonIn", desc := "(I)Z" } : Jvm.MethodName)) ∈ lw_all := lw_g (lw_at lw_m6 124 rfl) rfl
theorem q1414 : (Jvm.Cond.code ({ cls := "LineCallsModel", name := "isWonIn", desc := "(I)Z" } : Jvm.MethodName) prog_16_method_37_code (2 : Nat) (Option.some Jvm.ClassFile.FieldType.boolean)) ∈ lw_all := lw_g (lw_at lw_m6 125 rfl) rfl
theorem q1415 : (Jvm.Cond.methodLink "LineCallsModel" (144 : Nat) ({ cls := "java/lang/Math", name := "min", desc := "(II)I" } : Jvm.MethodName)) ∈ lw_all := lw_g (lw_at lw_m6 126 rfl) rfl
theorem q1417 : (Jvm.Cond.instanceMethod ({ cls := "LineCallsModel", name := "now", desc := "(I)I" } : Jvm.MethodName)) ∈ lw_all := lw_g (lw_at lw_m6 128 rfl) rfl
theorem q1418 : (Jvm.Cond.selects "LineCallsModel" ({ cls := "LineCallsModel", name := "now", desc := "(I)I" } : Jvm.MethodName) ({ cls := "LineCallsModel", name := "now", desc := "(I)I" } : Jvm.MethodName)) ∈ lw_all := lw_g (lw_at lw_m6 129 rfl) rfl
theorem q1419 : (Jvm.Cond.code ({ cls := "LineCallsModel", name := "now", desc := "(I)I" } : Jvm.MethodName) prog_16_method_45_code (2 : Nat) (Option.some Jvm.ClassFile.FieldType.int)) ∈ lw_all := lw_g (lw_at lw_m6 130 rfl) rfl
theorem q1420 : (Jvm.Cond.methodLink "LineCallsModel" (166 : Nat) ({ cls := "LineCallsModel", name := "sumOf", desc := "(I)I" } : Jvm.MethodName)) ∈ lw_all := lw_g (lw_at lw_m6 131 rfl) rfl
theorem q1421 : (Jvm.Cond.privateMethod ({ cls := "LineCallsModel", name := "sumOf", desc := "(I)I" } : Jvm.MethodName)) ∈ lw_tbl := lw_at lw_m6 132 rfl
theorem q1422 : (Jvm.Cond.instanceMethod ({ cls := "LineCallsModel", name := "sumOf", desc := "(I)I" } : Jvm.MethodName)) ∈ lw_all := lw_g (lw_at lw_m6 133 rfl) rfl
theorem q1423 : (Jvm.Cond.code ({ cls := "LineCallsModel", name := "sumOf", desc := "(I)I" } : Jvm.MethodName) prog_16_method_42_code (4 : Nat) (Option.some Jvm.ClassFile.FieldType.int)) ∈ lw_all := lw_g (lw_at lw_m6 134 rfl) rfl
theorem q1424 : (Jvm.Cond.methodLink "LineCallsModel" (169 : Nat) ({ cls := "LineCallsModel", name := "placesWon", desc := "()I" } : Jvm.MethodName)) ∈ lw_all := lw_g (lw_at lw_m6 135 rfl) rfl
theorem q1425 : (Jvm.Cond.privateMethod ({ cls := "LineCallsModel", name := "placesWon", desc := "()I" } : Jvm.MethodName)) ∈ lw_tbl := lw_at lw_m6 136 rfl
theorem q1426 : (Jvm.Cond.instanceMethod ({ cls := "LineCallsModel", name := "placesWon", desc := "()I" } : Jvm.MethodName)) ∈ lw_all := lw_g (lw_at lw_m6 137 rfl) rfl
theorem q1427 : (Jvm.Cond.code ({ cls := "LineCallsModel", name := "placesWon", desc := "()I" } : Jvm.MethodName) prog_16_method_43_code (3 : Nat) (Option.some Jvm.ClassFile.FieldType.int)) ∈ lw_all := lw_g (lw_at lw_m6 138 rfl) rfl
theorem q1428 : (Jvm.Cond.methodLink "LineCallsModel" (172 : Nat) ({ cls := "LineCallsModel", name := "placesSaid", desc := "(I)I" } : Jvm.MethodName)) ∈ lw_all := lw_g (lw_at lw_m6 139 rfl) rfl
theorem q1429 : (Jvm.Cond.privateMethod ({ cls := "LineCallsModel", name := "placesSaid", desc := "(I)I" } : Jvm.MethodName)) ∈ lw_tbl := lw_at lw_m6 140 rfl
theorem q1430 : (Jvm.Cond.instanceMethod ({ cls := "LineCallsModel", name := "placesSaid", desc := "(I)I" } : Jvm.MethodName)) ∈ lw_all := lw_g (lw_at lw_m6 141 rfl) rfl
theorem q1431 : (Jvm.Cond.code ({ cls := "LineCallsModel", name := "placesSaid", desc := "(I)I" } : Jvm.MethodName) prog_16_method_44_code (4 : Nat) (Option.some Jvm.ClassFile.FieldType.int)) ∈ lw_all := lw_g (lw_at lw_m6 142 rfl) rfl
theorem q1432 : (Jvm.Cond.methodLink "LineCallsModel" (163 : Nat) ({ cls := "LineCallsModel", name := "hasBit", desc := "(II)Z" } : Jvm.MethodName)) ∈ lw_all := lw_g (lw_at lw_m6 143 rfl) rfl
theorem q1433 : (Jvm.Cond.static ({ cls := "LineCallsModel", name := "hasBit", desc := "(II)Z" } : Jvm.MethodName)) ∈ lw_all := lw_g (lw_at lw_m6 144 rfl) rfl
theorem q1434 : (Jvm.Cond.code ({ cls := "LineCallsModel", name := "hasBit", desc := "(II)Z" } : Jvm.MethodName) prog_16_method_9_code (2 : Nat) (Option.some Jvm.ClassFile.FieldType.boolean)) ∈ lw_all := lw_g (lw_at lw_m6 145 rfl) rfl
theorem q1436 : (Jvm.Cond.instanceMethod ({ cls := "LineCallsModel", name := "ahead", desc := "(III)I" } : Jvm.MethodName)) ∈ lw_all := lw_g (lw_at lw_m6 147 rfl) rfl
theorem q1437 : (Jvm.Cond.selects "LineCallsModel" ({ cls := "LineCallsModel", name := "ahead", desc := "(III)I" } : Jvm.MethodName) ({ cls := "LineCallsModel", name := "ahead", desc := "(III)I" } : Jvm.MethodName)) ∈ lw_all := lw_g (lw_at lw_m6 148 rfl) rfl
theorem q1438 : (Jvm.Cond.code ({ cls := "LineCallsModel", name := "ahead", desc := "(III)I" } : Jvm.MethodName) prog_16_method_47_code (4 : Nat) (Option.some Jvm.ClassFile.FieldType.int)) ∈ lw_all := lw_g (lw_at lw_m6 149 rfl) rfl
theorem q1439 : (Jvm.Cond.methodLink "LineCallsModel" (67 : Nat) ({ cls := "LineCallsModel", name := "copyRow", desc := "([I[I)V" } : Jvm.MethodName)) ∈ lw_all := lw_g (lw_at lw_m6 150 rfl) rfl
theorem q1440 : (Jvm.Cond.static ({ cls := "LineCallsModel", name := "copyRow", desc := "([I[I)V" } : Jvm.MethodName)) ∈ lw_all := lw_g (lw_at lw_m6 151 rfl) rfl
theorem q1441 : (Jvm.Cond.code ({ cls := "LineCallsModel", name := "copyRow", desc := "([I[I)V" } : Jvm.MethodName) prog_16_method_5_code (3 : Nat) (Option.none : Option Jvm.ClassFile.FieldType)) ∈ lw_all := lw_g (lw_at lw_m6 152 rfl) rfl
theorem q1442 : (Jvm.Cond.methodLink "LineCallsModel" (175 : Nat) ({ cls := "LineCallsModel", name := "putBack", desc := "(I)I" } : Jvm.MethodName)) ∈ lw_all := lw_g (lw_at lw_m6 153 rfl) rfl
theorem q1443 : (Jvm.Cond.privateMethod ({ cls := "LineCallsModel", name := "putBack", desc := "(I)I" } : Jvm.MethodName)) ∈ lw_tbl := lw_at lw_m6 154 rfl
theorem q1444 : (Jvm.Cond.instanceMethod ({ cls := "LineCallsModel", name := "putBack", desc := "(I)I" } : Jvm.MethodName)) ∈ lw_all := lw_g (lw_at lw_m6 155 rfl) rfl
theorem q1445 : (Jvm.Cond.code ({ cls := "LineCallsModel", name := "putBack", desc := "(I)I" } : Jvm.MethodName) prog_16_method_6_code (2 : Nat) (Option.some Jvm.ClassFile.FieldType.int)) ∈ lw_all := lw_g (lw_at lw_m6 156 rfl) rfl
theorem q1447 : (Jvm.Cond.instanceMethod ({ cls := "LineCallsModel", name := "metres", desc := "(I)I" } : Jvm.MethodName)) ∈ lw_all := lw_g (lw_at lw_m6 158 rfl) rfl
theorem q1448 : (Jvm.Cond.selects "LineCallsModel" ({ cls := "LineCallsModel", name := "metres", desc := "(I)I" } : Jvm.MethodName) ({ cls := "LineCallsModel", name := "metres", desc := "(I)I" } : Jvm.MethodName)) ∈ lw_all := lw_g (lw_at lw_m6 159 rfl) rfl
theorem q1449 : (Jvm.Cond.code ({ cls := "LineCallsModel", name := "metres", desc := "(I)I" } : Jvm.MethodName) prog_16_method_48_code (2 : Nat) (Option.some Jvm.ClassFile.FieldType.int)) ∈ lw_all := lw_g (lw_at lw_m6 160 rfl) rfl
theorem q1450 : (Jvm.Cond.methodLink "LineCallsModel" (178 : Nat) ({ cls := "LineCallsModel", name := "behind", desc := "(II)I" } : Jvm.MethodName)) ∈ lw_all := lw_g (lw_at lw_m6 161 rfl) rfl
theorem q1451 : (Jvm.Cond.privateMethod ({ cls := "LineCallsModel", name := "behind", desc := "(II)I" } : Jvm.MethodName)) ∈ lw_tbl := lw_at lw_m6 162 rfl
theorem q1452 : (Jvm.Cond.instanceMethod ({ cls := "LineCallsModel", name := "behind", desc := "(II)I" } : Jvm.MethodName)) ∈ lw_all := lw_g (lw_at lw_m6 163 rfl) rfl
theorem q1453 : (Jvm.Cond.code ({ cls := "LineCallsModel", name := "behind", desc := "(II)I" } : Jvm.MethodName) prog_16_method_46_code (3 : Nat) (Option.some Jvm.ClassFile.FieldType.int)) ∈ lw_all := lw_g (lw_at lw_m6 164 rfl) rfl
theorem q1455 : (Jvm.Cond.instanceMethod ({ cls := "LineCallsModel", name := "when", desc := "(II)I" } : Jvm.MethodName)) ∈ lw_all := lw_g (lw_at lw_m6 166 rfl) rfl
theorem q1456 : (Jvm.Cond.selects "LineCallsModel" ({ cls := "LineCallsModel", name := "when", desc := "(II)I" } : Jvm.MethodName) ({ cls := "LineCallsModel", name := "when", desc := "(II)I" } : Jvm.MethodName)) ∈ lw_all := lw_g (lw_at lw_m6 167 rfl) rfl
theorem q1457 : (Jvm.Cond.code ({ cls := "LineCallsModel", name := "when", desc := "(II)I" } : Jvm.MethodName) prog_16_method_49_code (4 : Nat) (Option.some Jvm.ClassFile.FieldType.int)) ∈ lw_all := lw_g (lw_at lw_m6 168 rfl) rfl
theorem q1458 : (Jvm.Cond.methodLink "LineCallsModel" (181 : Nat) ({ cls := "LineCallsModel", name := "orNone", desc := "(I)I" } : Jvm.MethodName)) ∈ lw_all := lw_g (lw_at lw_m6 169 rfl) rfl
theorem q1459 : (Jvm.Cond.privateMethod ({ cls := "LineCallsModel", name := "orNone", desc := "(I)I" } : Jvm.MethodName)) ∈ lw_tbl := lw_at lw_m6 170 rfl
theorem q1460 : (Jvm.Cond.instanceMethod ({ cls := "LineCallsModel", name := "orNone", desc := "(I)I" } : Jvm.MethodName)) ∈ lw_all := lw_g (lw_at lw_m6 171 rfl) rfl
theorem q1461 : (Jvm.Cond.code ({ cls := "LineCallsModel", name := "orNone", desc := "(I)I" } : Jvm.MethodName) prog_16_method_7_code (2 : Nat) (Option.some Jvm.ClassFile.FieldType.int)) ∈ lw_all := lw_g (lw_at lw_m6 172 rfl) rfl
theorem q1462 : (Jvm.Cond.constant "LineCallsModel" (71 : Nat) (-1000004 : Int32)) ∈ lw_all := lw_g (lw_at lw_m6 173 rfl) rfl
theorem q1464 : (Jvm.Cond.instanceMethod ({ cls := "LineCallsModel", name := "known", desc := "()I" } : Jvm.MethodName)) ∈ lw_all := lw_g (lw_at lw_m6 175 rfl) rfl
theorem q1465 : (Jvm.Cond.selects "LineCallsModel" ({ cls := "LineCallsModel", name := "known", desc := "()I" } : Jvm.MethodName) ({ cls := "LineCallsModel", name := "known", desc := "()I" } : Jvm.MethodName)) ∈ lw_all := lw_g (lw_at lw_m6 176 rfl) rfl
theorem q1466 : (Jvm.Cond.code ({ cls := "LineCallsModel", name := "known", desc := "()I" } : Jvm.MethodName) prog_16_method_50_code (2 : Nat) (Option.some Jvm.ClassFile.FieldType.int)) ∈ lw_all := lw_g (lw_at lw_m6 177 rfl) rfl
theorem q1468 : (Jvm.Cond.instanceMethod ({ cls := "LineCallsModel", name := "codeFor", desc := "(I)I" } : Jvm.MethodName)) ∈ lw_all := lw_g (lw_at lw_m6 179 rfl) rfl
theorem q1469 : (Jvm.Cond.selects "LineCallsModel" ({ cls := "LineCallsModel", name := "codeFor", desc := "(I)I" } : Jvm.MethodName) ({ cls := "LineCallsModel", name := "codeFor", desc := "(I)I" } : Jvm.MethodName)) ∈ lw_all := lw_g (lw_at lw_m6 180 rfl) rfl
theorem q1470 : (Jvm.Cond.code ({ cls := "LineCallsModel", name := "codeFor", desc := "(I)I" } : Jvm.MethodName) prog_16_method_53_code (2 : Nat) (Option.some Jvm.ClassFile.FieldType.int)) ∈ lw_all := lw_g (lw_at lw_m6 181 rfl) rfl
theorem q1471 : (Jvm.Cond.methodLink "LineCallsModel" (184 : Nat) ({ cls := "LineCallsModel", name := "isThought", desc := "(I)Z" } : Jvm.MethodName)) ∈ lw_all := lw_g (lw_at lw_m6 182 rfl) rfl
theorem q1472 : (Jvm.Cond.static ({ cls := "LineCallsModel", name := "isThought", desc := "(I)Z" } : Jvm.MethodName)) ∈ lw_all := lw_g (lw_at lw_m6 183 rfl) rfl
theorem q1473 : (Jvm.Cond.code ({ cls := "LineCallsModel", name := "isThought", desc := "(I)Z" } : Jvm.MethodName) prog_16_method_51_code (1 : Nat) (Option.some Jvm.ClassFile.FieldType.boolean)) ∈ lw_all := lw_g (lw_at lw_m6 184 rfl) rfl
theorem q1474 : (Jvm.Cond.methodLink "LineCallsModel" (187 : Nat) ({ cls := "LineCallsModel", name := "bestFor", desc := "(IIII)I" } : Jvm.MethodName)) ∈ lw_all := lw_g (lw_at lw_m6 185 rfl) rfl
theorem q1475 : (Jvm.Cond.privateMethod ({ cls := "LineCallsModel", name := "bestFor", desc := "(IIII)I" } : Jvm.MethodName)) ∈ lw_tbl := lw_at lw_m6 186 rfl
theorem q1476 : (Jvm.Cond.instanceMethod ({ cls := "LineCallsModel", name := "bestFor", desc := "(IIII)I" } : Jvm.MethodName)) ∈ lw_all := lw_g (lw_at lw_m6 187 rfl) rfl
theorem q1477 : (Jvm.Cond.code ({ cls := "LineCallsModel", name := "bestFor", desc := "(IIII)I" } : Jvm.MethodName) prog_16_method_52_code (10 : Nat) (Option.some Jvm.ClassFile.FieldType.int)) ∈ lw_all := lw_g (lw_at lw_m6 188 rfl) rfl
theorem q1479 : (Jvm.Cond.instanceMethod ({ cls := "LineCallsModel", name := "callFor", desc := "(I)I" } : Jvm.MethodName)) ∈ lw_all := lw_g (lw_at lw_m6 190 rfl) rfl
theorem q1480 : (Jvm.Cond.selects "LineCallsModel" ({ cls := "LineCallsModel", name := "callFor", desc := "(I)I" } : Jvm.MethodName) ({ cls := "LineCallsModel", name := "callFor", desc := "(I)I" } : Jvm.MethodName)) ∈ lw_all := lw_g (lw_at lw_m6 191 rfl) rfl
theorem q1481 : (Jvm.Cond.code ({ cls := "LineCallsModel", name := "callFor", desc := "(I)I" } : Jvm.MethodName) prog_16_method_54_code (2 : Nat) (Option.some Jvm.ClassFile.FieldType.int)) ∈ lw_all := lw_g (lw_at lw_m6 192 rfl) rfl
theorem q1483 : (Jvm.Cond.instanceMethod ({ cls := "LineCallsModel", name := "standFor", desc := "(II)I" } : Jvm.MethodName)) ∈ lw_all := lw_g (lw_at lw_m6 194 rfl) rfl
theorem q1484 : (Jvm.Cond.selects "LineCallsModel" ({ cls := "LineCallsModel", name := "standFor", desc := "(II)I" } : Jvm.MethodName) ({ cls := "LineCallsModel", name := "standFor", desc := "(II)I" } : Jvm.MethodName)) ∈ lw_all := lw_g (lw_at lw_m6 195 rfl) rfl
theorem q1485 : (Jvm.Cond.code ({ cls := "LineCallsModel", name := "standFor", desc := "(II)I" } : Jvm.MethodName) prog_16_method_56_code (7 : Nat) (Option.some Jvm.ClassFile.FieldType.int)) ∈ lw_all := lw_g (lw_at lw_m6 196 rfl) rfl
theorem q1486 : (Jvm.Cond.methodLink "LineCallsModel" (191 : Nat) ({ cls := "LineCallsModel", name := "metresStanding", desc := "(III)I" } : Jvm.MethodName)) ∈ lw_all := lw_g (lw_at lw_m6 197 rfl) rfl
theorem q1487 : (Jvm.Cond.privateMethod ({ cls := "LineCallsModel", name := "metresStanding", desc := "(III)I" } : Jvm.MethodName)) ∈ lw_tbl := lw_at lw_m6 198 rfl
theorem q1488 : (Jvm.Cond.instanceMethod ({ cls := "LineCallsModel", name := "metresStanding", desc := "(III)I" } : Jvm.MethodName)) ∈ lw_all := lw_g (lw_at lw_m6 199 rfl) rfl
theorem q1489 : (Jvm.Cond.code ({ cls := "LineCallsModel", name := "metresStanding", desc := "(III)I" } : Jvm.MethodName) prog_16_method_55_code (6 : Nat) (Option.some Jvm.ClassFile.FieldType.int)) ∈ lw_all := lw_g (lw_at lw_m6 200 rfl) rfl
theorem q1491 : (Jvm.Cond.instanceMethod ({ cls := "LineCallsModel", name := "kindFor", desc := "(II)I" } : Jvm.MethodName)) ∈ lw_all := lw_g (lw_at lw_m6 202 rfl) rfl
theorem q1492 : (Jvm.Cond.selects "LineCallsModel" ({ cls := "LineCallsModel", name := "kindFor", desc := "(II)I" } : Jvm.MethodName) ({ cls := "LineCallsModel", name := "kindFor", desc := "(II)I" } : Jvm.MethodName)) ∈ lw_all := lw_g (lw_at lw_m6 203 rfl) rfl
theorem q1493 : (Jvm.Cond.code ({ cls := "LineCallsModel", name := "kindFor", desc := "(II)I" } : Jvm.MethodName) prog_16_method_57_code (3 : Nat) (Option.some Jvm.ClassFile.FieldType.int)) ∈ lw_all := lw_g (lw_at lw_m6 204 rfl) rfl
theorem q1495 : (Jvm.Cond.instanceMethod ({ cls := "LineCallsModel", name := "tallFor", desc := "(III)I" } : Jvm.MethodName)) ∈ lw_all := lw_g (lw_at lw_m6 206 rfl) rfl
theorem q1496 : (Jvm.Cond.selects "LineCallsModel" ({ cls := "LineCallsModel", name := "tallFor", desc := "(III)I" } : Jvm.MethodName) ({ cls := "LineCallsModel", name := "tallFor", desc := "(III)I" } : Jvm.MethodName)) ∈ lw_all := lw_g (lw_at lw_m6 207 rfl) rfl
theorem q1497 : (Jvm.Cond.code ({ cls := "LineCallsModel", name := "tallFor", desc := "(III)I" } : Jvm.MethodName) prog_16_method_58_code (8 : Nat) (Option.some Jvm.ClassFile.FieldType.int)) ∈ lw_all := lw_g (lw_at lw_m6 208 rfl) rfl
theorem q1499 : (Jvm.Cond.instanceMethod ({ cls := "LineCallsModel", name := "cover", desc := "()I" } : Jvm.MethodName)) ∈ lw_all := lw_g (lw_at lw_m6 210 rfl) rfl
theorem q1500 : (Jvm.Cond.selects "LineCallsModel" ({ cls := "LineCallsModel", name := "cover", desc := "()I" } : Jvm.MethodName) ({ cls := "LineCallsModel", name := "cover", desc := "()I" } : Jvm.MethodName)) ∈ lw_all := lw_g (lw_at lw_m6 211 rfl) rfl
theorem q1501 : (Jvm.Cond.code ({ cls := "LineCallsModel", name := "cover", desc := "()I" } : Jvm.MethodName) prog_16_method_59_code (4 : Nat) (Option.some Jvm.ClassFile.FieldType.int)) ∈ lw_all := lw_g (lw_at lw_m6 212 rfl) rfl
theorem q1503 : (Jvm.Cond.instanceMethod ({ cls := "LineCallsModel", name := "codes", desc := "(I)I" } : Jvm.MethodName)) ∈ lw_all := lw_g (lw_at lw_m6 214 rfl) rfl
theorem q1504 : (Jvm.Cond.selects "LineCallsModel" ({ cls := "LineCallsModel", name := "codes", desc := "(I)I" } : Jvm.MethodName) ({ cls := "LineCallsModel", name := "codes", desc := "(I)I" } : Jvm.MethodName)) ∈ lw_all := lw_g (lw_at lw_m6 215 rfl) rfl
theorem q1505 : (Jvm.Cond.code ({ cls := "LineCallsModel", name := "codes", desc := "(I)I" } : Jvm.MethodName) prog_16_method_62_code (6 : Nat) (Option.some Jvm.ClassFile.FieldType.int)) ∈ lw_all := lw_g (lw_at lw_m6 216 rfl) rfl
theorem q1506 : (Jvm.Cond.methodLink "LineCallsModel" (199 : Nat) ({ cls := "LineCallsModel", name := "lacks", desc := "(IZ)I" } : Jvm.MethodName)) ∈ lw_all := lw_g (lw_at lw_m6 217 rfl) rfl
theorem q1507 : (Jvm.Cond.privateMethod ({ cls := "LineCallsModel", name := "lacks", desc := "(IZ)I" } : Jvm.MethodName)) ∈ lw_tbl := lw_at lw_m6 218 rfl
theorem q1508 : (Jvm.Cond.instanceMethod ({ cls := "LineCallsModel", name := "lacks", desc := "(IZ)I" } : Jvm.MethodName)) ∈ lw_all := lw_g (lw_at lw_m6 219 rfl) rfl
theorem q1509 : (Jvm.Cond.code ({ cls := "LineCallsModel", name := "lacks", desc := "(IZ)I" } : Jvm.MethodName) prog_16_method_60_code (3 : Nat) (Option.some Jvm.ClassFile.FieldType.int)) ∈ lw_all := lw_g (lw_at lw_m6 220 rfl) rfl
theorem q1510 : (Jvm.Cond.methodLink "LineCallsModel" (195 : Nat) ({ cls := "LineCallsModel", name := "isSheet", desc := "(I)Z" } : Jvm.MethodName)) ∈ lw_all := lw_g (lw_at lw_m6 221 rfl) rfl
theorem q1511 : (Jvm.Cond.static ({ cls := "LineCallsModel", name := "isSheet", desc := "(I)Z" } : Jvm.MethodName)) ∈ lw_all := lw_g (lw_at lw_m6 222 rfl) rfl
theorem q1512 : (Jvm.Cond.code ({ cls := "LineCallsModel", name := "isSheet", desc := "(I)Z" } : Jvm.MethodName) prog_16_method_88_code (1 : Nat) (Option.some Jvm.ClassFile.FieldType.boolean)) ∈ lw_all := lw_g (lw_at lw_m6 223 rfl) rfl
theorem q1513 : (Jvm.Cond.constant "LineCallsModel" (198 : Nat) (-1000006 : Int32)) ∈ lw_all := lw_g (lw_at lw_m6 224 rfl) rfl
theorem q1514 : (Jvm.Cond.methodLink "LineCallsModel" (203 : Nat) ({ cls := "LineCallsModel", name := "areMetresSo", desc := "(I)Z" } : Jvm.MethodName)) ∈ lw_all := lw_g (lw_at lw_m6 225 rfl) rfl
theorem q1515 : (Jvm.Cond.privateMethod ({ cls := "LineCallsModel", name := "areMetresSo", desc := "(I)Z" } : Jvm.MethodName)) ∈ lw_tbl := lw_at lw_m6 226 rfl
theorem q1516 : (Jvm.Cond.instanceMethod ({ cls := "LineCallsModel", name := "areMetresSo", desc := "(I)Z" } : Jvm.MethodName)) ∈ lw_all := lw_g (lw_at lw_m6 227 rfl) rfl
theorem q1517 : (Jvm.Cond.code ({ cls := "LineCallsModel", name := "areMetresSo", desc := "(I)Z" } : Jvm.MethodName) prog_16_method_61_code (5 : Nat) (Option.some Jvm.ClassFile.FieldType.boolean)) ∈ lw_all := lw_g (lw_at lw_m6 228 rfl) rfl
theorem q1519 : (Jvm.Cond.instanceMethod ({ cls := "LineCallsModel", name := "fits", desc := "(II)I" } : Jvm.MethodName)) ∈ lw_all := lw_g (lw_at lw_m6 230 rfl) rfl
theorem q1520 : (Jvm.Cond.selects "LineCallsModel" ({ cls := "LineCallsModel", name := "fits", desc := "(II)I" } : Jvm.MethodName) ({ cls := "LineCallsModel", name := "fits", desc := "(II)I" } : Jvm.MethodName)) ∈ lw_all := lw_g (lw_at lw_m6 231 rfl) rfl
theorem q1521 : (Jvm.Cond.code ({ cls := "LineCallsModel", name := "fits", desc := "(II)I" } : Jvm.MethodName) prog_16_method_64_code (4 : Nat) (Option.some Jvm.ClassFile.FieldType.int)) ∈ lw_all := lw_g (lw_at lw_m6 232 rfl) rfl
theorem q1522 : (Jvm.Cond.methodLink "LineCallsModel" (213 : Nat) ({ cls := "LineCallsModel", name := "fitTall", desc := "(II)V" } : Jvm.MethodName)) ∈ lw_all := lw_g (lw_at lw_m6 233 rfl) rfl
theorem q1523 : (Jvm.Cond.privateMethod ({ cls := "LineCallsModel", name := "fitTall", desc := "(II)V" } : Jvm.MethodName)) ∈ lw_tbl := lw_at lw_m6 234 rfl
theorem q1524 : (Jvm.Cond.instanceMethod ({ cls := "LineCallsModel", name := "fitTall", desc := "(II)V" } : Jvm.MethodName)) ∈ lw_all := lw_g (lw_at lw_m6 235 rfl) rfl
theorem q1525 : (Jvm.Cond.code ({ cls := "LineCallsModel", name := "fitTall", desc := "(II)V" } : Jvm.MethodName) prog_16_method_63_code (7 : Nat) (Option.none : Option Jvm.ClassFile.FieldType)) ∈ lw_all := lw_g (lw_at lw_m6 236 rfl) rfl
theorem q1527 : (Jvm.Cond.instanceMethod ({ cls := "LineCallsModel", name := "tall", desc := "(II)I" } : Jvm.MethodName)) ∈ lw_all := lw_g (lw_at lw_m6 238 rfl) rfl
theorem q1528 : (Jvm.Cond.selects "LineCallsModel" ({ cls := "LineCallsModel", name := "tall", desc := "(II)I" } : Jvm.MethodName) ({ cls := "LineCallsModel", name := "tall", desc := "(II)I" } : Jvm.MethodName)) ∈ lw_all := lw_g (lw_at lw_m6 239 rfl) rfl
theorem q1529 : (Jvm.Cond.code ({ cls := "LineCallsModel", name := "tall", desc := "(II)I" } : Jvm.MethodName) prog_16_method_65_code (4 : Nat) (Option.some Jvm.ClassFile.FieldType.int)) ∈ lw_all := lw_g (lw_at lw_m7 0 rfl) rfl
theorem q1531 : (Jvm.Cond.instanceMethod ({ cls := "LineCallsModel", name := "kinds", desc := "(II)I" } : Jvm.MethodName)) ∈ lw_all := lw_g (lw_at lw_m7 2 rfl) rfl
theorem q1532 : (Jvm.Cond.selects "LineCallsModel" ({ cls := "LineCallsModel", name := "kinds", desc := "(II)I" } : Jvm.MethodName) ({ cls := "LineCallsModel", name := "kinds", desc := "(II)I" } : Jvm.MethodName)) ∈ lw_all := lw_g (lw_at lw_m7 3 rfl) rfl
theorem q1533 : (Jvm.Cond.code ({ cls := "LineCallsModel", name := "kinds", desc := "(II)I" } : Jvm.MethodName) prog_16_method_66_code (8 : Nat) (Option.some Jvm.ClassFile.FieldType.int)) ∈ lw_all := lw_g (lw_at lw_m7 4 rfl) rfl
theorem q1535 : (Jvm.Cond.instanceMethod ({ cls := "LineCallsModel", name := "mix", desc := "(I)I" } : Jvm.MethodName)) ∈ lw_all := lw_g (lw_at lw_m7 6 rfl) rfl
theorem q1536 : (Jvm.Cond.selects "LineCallsModel" ({ cls := "LineCallsModel", name := "mix", desc := "(I)I" } : Jvm.MethodName) ({ cls := "LineCallsModel", name := "mix", desc := "(I)I" } : Jvm.MethodName)) ∈ lw_all := lw_g (lw_at lw_m7 7 rfl) rfl
theorem q1537 : (Jvm.Cond.code ({ cls := "LineCallsModel", name := "mix", desc := "(I)I" } : Jvm.MethodName) prog_16_method_68_code (3 : Nat) (Option.some Jvm.ClassFile.FieldType.int)) ∈ lw_all := lw_g (lw_at lw_m7 8 rfl) rfl
theorem q1538 : (Jvm.Cond.methodLink "LineCallsModel" (217 : Nat) ({ cls := "LineCallsModel", name := "drawn", desc := "()I" } : Jvm.MethodName)) ∈ lw_all := lw_g (lw_at lw_m7 9 rfl) rfl
theorem q1539 : (Jvm.Cond.privateMethod ({ cls := "LineCallsModel", name := "drawn", desc := "()I" } : Jvm.MethodName)) ∈ lw_tbl := lw_at lw_m7 10 rfl
theorem q1540 : (Jvm.Cond.instanceMethod ({ cls := "LineCallsModel", name := "drawn", desc := "()I" } : Jvm.MethodName)) ∈ lw_all := lw_g (lw_at lw_m7 11 rfl) rfl
theorem q1541 : (Jvm.Cond.code ({ cls := "LineCallsModel", name := "drawn", desc := "()I" } : Jvm.MethodName) prog_16_method_67_code (1 : Nat) (Option.some Jvm.ClassFile.FieldType.int)) ∈ lw_all := lw_g (lw_at lw_m7 12 rfl) rfl
theorem q1542 : (Jvm.Cond.constant "LineCallsModel" (216 : Nat) (1103515245 : Int32)) ∈ lw_all := lw_g (lw_at lw_m7 13 rfl) rfl
theorem q1544 : (Jvm.Cond.instanceMethod ({ cls := "LineCallsModel", name := "odds", desc := "(III)J" } : Jvm.MethodName)) ∈ lw_all := lw_g (lw_at lw_m7 15 rfl) rfl
theorem q1545 : (Jvm.Cond.selects "LineCallsModel" ({ cls := "LineCallsModel", name := "odds", desc := "(III)J" } : Jvm.MethodName) ({ cls := "LineCallsModel", name := "odds", desc := "(III)J" } : Jvm.MethodName)) ∈ lw_all := lw_g (lw_at lw_m7 16 rfl) rfl
theorem q1546 : (Jvm.Cond.code ({ cls := "LineCallsModel", name := "odds", desc := "(III)J" } : Jvm.MethodName) prog_16_method_69_code (10 : Nat) (Option.some Jvm.ClassFile.FieldType.long)) ∈ lw_all := lw_g (lw_at lw_m7 17 rfl) rfl
theorem q1548 : (Jvm.Cond.instanceMethod ({ cls := "LineCallsModel", name := "seed", desc := "(I)I" } : Jvm.MethodName)) ∈ lw_all := lw_g (lw_at lw_m7 19 rfl) rfl
theorem q1549 : (Jvm.Cond.selects "LineCallsModel" ({ cls := "LineCallsModel", name := "seed", desc := "(I)I" } : Jvm.MethodName) ({ cls := "LineCallsModel", name := "seed", desc := "(I)I" } : Jvm.MethodName)) ∈ lw_all := lw_g (lw_at lw_m7 20 rfl) rfl
theorem q1550 : (Jvm.Cond.code ({ cls := "LineCallsModel", name := "seed", desc := "(I)I" } : Jvm.MethodName) prog_16_method_70_code (2 : Nat) (Option.some Jvm.ClassFile.FieldType.int)) ∈ lw_all := lw_g (lw_at lw_m7 21 rfl) rfl
theorem q1552 : (Jvm.Cond.instanceMethod ({ cls := "LineCallsModel", name := "feed", desc := "(II)I" } : Jvm.MethodName)) ∈ lw_all := lw_g (lw_at lw_m7 23 rfl) rfl
theorem q1553 : (Jvm.Cond.selects "LineCallsModel" ({ cls := "LineCallsModel", name := "feed", desc := "(II)I" } : Jvm.MethodName) ({ cls := "LineCallsModel", name := "feed", desc := "(II)I" } : Jvm.MethodName)) ∈ lw_all := lw_g (lw_at lw_m7 24 rfl) rfl
theorem q1554 : (Jvm.Cond.code ({ cls := "LineCallsModel", name := "feed", desc := "(II)I" } : Jvm.MethodName) prog_16_method_71_code (4 : Nat) (Option.some Jvm.ClassFile.FieldType.int)) ∈ lw_all := lw_g (lw_at lw_m7 25 rfl) rfl
theorem q1556 : (Jvm.Cond.instanceMethod ({ cls := "LineCallsModel", name := "wipe", desc := "()I" } : Jvm.MethodName)) ∈ lw_all := lw_g (lw_at lw_m7 27 rfl) rfl
theorem q1557 : (Jvm.Cond.selects "LineCallsModel" ({ cls := "LineCallsModel", name := "wipe", desc := "()I" } : Jvm.MethodName) ({ cls := "LineCallsModel", name := "wipe", desc := "()I" } : Jvm.MethodName)) ∈ lw_all := lw_g (lw_at lw_m7 28 rfl) rfl
theorem q1558 : (Jvm.Cond.code ({ cls := "LineCallsModel", name := "wipe", desc := "()I" } : Jvm.MethodName) prog_16_method_72_code (2 : Nat) (Option.some Jvm.ClassFile.FieldType.int)) ∈ lw_all := lw_g (lw_at lw_m7 29 rfl) rfl
theorem q1560 : (Jvm.Cond.instanceMethod ({ cls := "LineCallsModel", name := "text", desc := "()I" } : Jvm.MethodName)) ∈ lw_all := lw_g (lw_at lw_m7 31 rfl) rfl
theorem q1561 : (Jvm.Cond.selects "LineCallsModel" ({ cls := "LineCallsModel", name := "text", desc := "()I" } : Jvm.MethodName) ({ cls := "LineCallsModel", name := "text", desc := "()I" } : Jvm.MethodName)) ∈ lw_all := lw_g (lw_at lw_m7 32 rfl) rfl
theorem q1562 : (Jvm.Cond.code ({ cls := "LineCallsModel", name := "text", desc := "()I" } : Jvm.MethodName) prog_16_method_84_code (2 : Nat) (Option.some Jvm.ClassFile.FieldType.int)) ∈ lw_all := lw_g (lw_at lw_m7 33 rfl) rfl
theorem q1563 : (Jvm.Cond.methodLink "LineCallsModel" (249 : Nat) ({ cls := "LineCallsModel", name := "token", desc := "()V" } : Jvm.MethodName)) ∈ lw_all := lw_g (lw_at lw_m7 34 rfl) rfl
theorem q1564 : (Jvm.Cond.privateMethod ({ cls := "LineCallsModel", name := "token", desc := "()V" } : Jvm.MethodName)) ∈ lw_tbl := lw_at lw_m7 35 rfl
theorem q1565 : (Jvm.Cond.instanceMethod ({ cls := "LineCallsModel", name := "token", desc := "()V" } : Jvm.MethodName)) ∈ lw_all := lw_g (lw_at lw_m7 36 rfl) rfl
theorem q1566 : (Jvm.Cond.code ({ cls := "LineCallsModel", name := "token", desc := "()V" } : Jvm.MethodName) prog_16_method_74_code (2 : Nat) (Option.none : Option Jvm.ClassFile.FieldType)) ∈ lw_all := lw_g (lw_at lw_m7 37 rfl) rfl
theorem q1567 : (Jvm.Cond.methodLink "LineCallsModel" (229 : Nat) ({ cls := "LineCallsModel", name := "byteAt", desc := "(I)I" } : Jvm.MethodName)) ∈ lw_all := lw_g (lw_at lw_m7 38 rfl) rfl
theorem q1568 : (Jvm.Cond.privateMethod ({ cls := "LineCallsModel", name := "byteAt", desc := "(I)I" } : Jvm.MethodName)) ∈ lw_tbl := lw_at lw_m7 39 rfl
theorem q1569 : (Jvm.Cond.instanceMethod ({ cls := "LineCallsModel", name := "byteAt", desc := "(I)I" } : Jvm.MethodName)) ∈ lw_all := lw_g (lw_at lw_m7 40 rfl) rfl
theorem q1570 : (Jvm.Cond.code ({ cls := "LineCallsModel", name := "byteAt", desc := "(I)I" } : Jvm.MethodName) prog_16_method_73_code (2 : Nat) (Option.some Jvm.ClassFile.FieldType.int)) ∈ lw_all := lw_g (lw_at lw_m7 41 rfl) rfl
theorem q1571 : (Jvm.Cond.methodLink "LineCallsModel" (299 : Nat) ({ cls := "LineCallsModel", name := "readItem", desc := "()V" } : Jvm.MethodName)) ∈ lw_all := lw_g (lw_at lw_m7 42 rfl) rfl
theorem q1572 : (Jvm.Cond.privateMethod ({ cls := "LineCallsModel", name := "readItem", desc := "()V" } : Jvm.MethodName)) ∈ lw_tbl := lw_at lw_m7 43 rfl
theorem q1573 : (Jvm.Cond.instanceMethod ({ cls := "LineCallsModel", name := "readItem", desc := "()V" } : Jvm.MethodName)) ∈ lw_all := lw_g (lw_at lw_m7 44 rfl) rfl
theorem q1574 : (Jvm.Cond.code ({ cls := "LineCallsModel", name := "readItem", desc := "()V" } : Jvm.MethodName) prog_16_method_82_code (3 : Nat) (Option.none : Option Jvm.ClassFile.FieldType)) ∈ lw_all := lw_g (lw_at lw_m7 45 rfl) rfl
theorem q1575 : (Jvm.Cond.methodLink "LineCallsModel" (259 : Nat) ({ cls := "LineCallsModel", name := "isWord", desc := "(Ljava/lang/String;)Z" } : Jvm.MethodName)) ∈ lw_all := lw_g (lw_at lw_m7 46 rfl) rfl
theorem q1576 : (Jvm.Cond.privateMethod ({ cls := "LineCallsModel", name := "isWord", desc := "(Ljava/lang/String;)Z" } : Jvm.MethodName)) ∈ lw_tbl := lw_at lw_m7 47 rfl
theorem q1577 : (Jvm.Cond.instanceMethod ({ cls := "LineCallsModel", name := "isWord", desc := "(Ljava/lang/String;)Z" } : Jvm.MethodName)) ∈ lw_all := lw_g (lw_at lw_m7 48 rfl) rfl
theorem q1578 : (Jvm.Cond.code ({ cls := "LineCallsModel", name := "isWord", desc := "(Ljava/lang/String;)Z" } : Jvm.MethodName) prog_16_method_75_code (4 : Nat) (Option.some Jvm.ClassFile.FieldType.boolean)) ∈ lw_all := lw_g (lw_at lw_m7 49 rfl) rfl
theorem q1579 : (Jvm.Cond.methodLink "LineCallsModel" (238 : Nat) ({ cls := "java/lang/String", name := "length", desc := "()I" } : Jvm.MethodName)) ∈ lw_all := lw_g (lw_at lw_m7 50 rfl) rfl
theorem q1587 : (Jvm.Cond.methodLink "LineCallsModel" (241 : Nat) ({ cls := "java/lang/String", name := "charAt", desc := "(I)C" } : Jvm.MethodName)) ∈ lw_all := lw_g (lw_at lw_m7 58 rfl) rfl
theorem q1588 : (Jvm.Cond.methodLink "LineCallsModel" (286 : Nat) ({ cls := "LineCallsModel", name := "readJumper", desc := "(I)V" } : Jvm.MethodName)) ∈ lw_all := lw_g (lw_at lw_m7 59 rfl) rfl
theorem q1589 : (Jvm.Cond.privateMethod ({ cls := "LineCallsModel", name := "readJumper", desc := "(I)V" } : Jvm.MethodName)) ∈ lw_tbl := lw_at lw_m7 60 rfl
theorem q1590 : (Jvm.Cond.instanceMethod ({ cls := "LineCallsModel", name := "readJumper", desc := "(I)V" } : Jvm.MethodName)) ∈ lw_all := lw_g (lw_at lw_m7 61 rfl) rfl
theorem q1591 : (Jvm.Cond.code ({ cls := "LineCallsModel", name := "readJumper", desc := "(I)V" } : Jvm.MethodName) prog_16_method_81_code (4 : Nat) (Option.none : Option Jvm.ClassFile.FieldType)) ∈ lw_all := lw_g (lw_at lw_m7 62 rfl) rfl
theorem q1592 : (Jvm.Cond.methodLink "LineCallsModel" (252 : Nat) ({ cls := "LineCallsModel", name := "must", desc := "(Z)V" } : Jvm.MethodName)) ∈ lw_all := lw_g (lw_at lw_m7 63 rfl) rfl
theorem q1593 : (Jvm.Cond.privateMethod ({ cls := "LineCallsModel", name := "must", desc := "(Z)V" } : Jvm.MethodName)) ∈ lw_tbl := lw_at lw_m7 64 rfl
theorem q1594 : (Jvm.Cond.instanceMethod ({ cls := "LineCallsModel", name := "must", desc := "(Z)V" } : Jvm.MethodName)) ∈ lw_all := lw_g (lw_at lw_m7 65 rfl) rfl
theorem q1595 : (Jvm.Cond.code ({ cls := "LineCallsModel", name := "must", desc := "(Z)V" } : Jvm.MethodName) prog_16_method_76_code (2 : Nat) (Option.none : Option Jvm.ClassFile.FieldType)) ∈ lw_all := lw_g (lw_at lw_m7 66 rfl) rfl
theorem q1596 : (Jvm.Cond.stringRef "LineCallsModel" (269 : Nat) "in") ∈ lw_tbl := lw_at lw_m7 67 rfl
theorem q1597 : (Jvm.Cond.methodLink "LineCallsModel" (271 : Nat) ({ cls := "LineCallsModel", name := "takesWord", desc := "(Ljava/lang/String;)Z" } : Jvm.MethodName)) ∈ lw_all := lw_g (lw_at lw_m7 68 rfl) rfl
theorem q1598 : (Jvm.Cond.privateMethod ({ cls := "LineCallsModel", name := "takesWord", desc := "(Ljava/lang/String;)Z" } : Jvm.MethodName)) ∈ lw_tbl := lw_at lw_m7 69 rfl
theorem q1599 : (Jvm.Cond.instanceMethod ({ cls := "LineCallsModel", name := "takesWord", desc := "(Ljava/lang/String;)Z" } : Jvm.MethodName)) ∈ lw_all := lw_g (lw_at lw_m7 70 rfl) rfl
theorem q1600 : (Jvm.Cond.code ({ cls := "LineCallsModel", name := "takesWord", desc := "(Ljava/lang/String;)Z" } : Jvm.MethodName) prog_16_method_79_code (3 : Nat) (Option.some Jvm.ClassFile.FieldType.boolean)) ∈ lw_all := lw_g (lw_at lw_m7 71 rfl) rfl
theorem q1601 : (Jvm.Cond.methodLink "LineCallsModel" (274 : Nat) ({ cls := "LineCallsModel", name := "freePlace", desc := "()I" } : Jvm.MethodName)) ∈ lw_all := lw_g (lw_at lw_m7 72 rfl) rfl
theorem q1602 : (Jvm.Cond.privateMethod ({ cls := "LineCallsModel", name := "freePlace", desc := "()I" } : Jvm.MethodName)) ∈ lw_tbl := lw_at lw_m7 73 rfl
theorem q1603 : (Jvm.Cond.instanceMethod ({ cls := "LineCallsModel", name := "freePlace", desc := "()I" } : Jvm.MethodName)) ∈ lw_all := lw_g (lw_at lw_m7 74 rfl) rfl
theorem q1604 : (Jvm.Cond.code ({ cls := "LineCallsModel", name := "freePlace", desc := "()I" } : Jvm.MethodName) prog_16_method_80_code (2 : Nat) (Option.some Jvm.ClassFile.FieldType.int)) ∈ lw_all := lw_g (lw_at lw_m7 75 rfl) rfl
theorem q1605 : (Jvm.Cond.stringRef "LineCallsModel" (277 : Nat) "tall") ∈ lw_tbl := lw_at lw_m7 76 rfl
theorem q1606 : (Jvm.Cond.methodLink "LineCallsModel" (279 : Nat) ({ cls := "LineCallsModel", name := "number", desc := "(II)I" } : Jvm.MethodName)) ∈ lw_all := lw_g (lw_at lw_m7 77 rfl) rfl
theorem q1607 : (Jvm.Cond.privateMethod ({ cls := "LineCallsModel", name := "number", desc := "(II)I" } : Jvm.MethodName)) ∈ lw_tbl := lw_at lw_m7 78 rfl
theorem q1608 : (Jvm.Cond.instanceMethod ({ cls := "LineCallsModel", name := "number", desc := "(II)I" } : Jvm.MethodName)) ∈ lw_all := lw_g (lw_at lw_m7 79 rfl) rfl
theorem q1609 : (Jvm.Cond.code ({ cls := "LineCallsModel", name := "number", desc := "(II)I" } : Jvm.MethodName) prog_16_method_77_code (4 : Nat) (Option.some Jvm.ClassFile.FieldType.int)) ∈ lw_all := lw_g (lw_at lw_m7 80 rfl) rfl
theorem q1610 : (Jvm.Cond.methodLink "LineCallsModel" (282 : Nat) ({ cls := "LineCallsModel", name := "addItem", desc := "(III)V" } : Jvm.MethodName)) ∈ lw_all := lw_g (lw_at lw_m7 81 rfl) rfl
theorem q1611 : (Jvm.Cond.privateMethod ({ cls := "LineCallsModel", name := "addItem", desc := "(III)V" } : Jvm.MethodName)) ∈ lw_tbl := lw_at lw_m7 82 rfl
theorem q1612 : (Jvm.Cond.instanceMethod ({ cls := "LineCallsModel", name := "addItem", desc := "(III)V" } : Jvm.MethodName)) ∈ lw_all := lw_g (lw_at lw_m7 83 rfl) rfl
theorem q1613 : (Jvm.Cond.code ({ cls := "LineCallsModel", name := "addItem", desc := "(III)V" } : Jvm.MethodName) prog_16_method_78_code (4 : Nat) (Option.none : Option Jvm.ClassFile.FieldType)) ∈ lw_all := lw_g (lw_at lw_m7 84 rfl) rfl
theorem q1614 : (Jvm.Cond.stringRef "LineCallsModel" (289 : Nat) "theirs") ∈ lw_tbl := lw_at lw_m7 85 rfl
theorem q1615 : (Jvm.Cond.stringRef "LineCallsModel" (291 : Nat) "call") ∈ lw_tbl := lw_at lw_m7 86 rfl
theorem q1616 : (Jvm.Cond.stringRef "LineCallsModel" (293 : Nat) "code") ∈ lw_tbl := lw_at lw_m7 87 rfl
theorem q1617 : (Jvm.Cond.stringRef "LineCallsModel" (295 : Nat) "wind") ∈ lw_tbl := lw_at lw_m7 88 rfl
theorem q1618 : (Jvm.Cond.stringRef "LineCallsModel" (297 : Nat) "wet") ∈ lw_tbl := lw_at lw_m7 89 rfl
theorem q1619 : (Jvm.Cond.methodLink "LineCallsModel" (302 : Nat) ({ cls := "LineCallsModel", name := "isToldSo", desc := "(I)V" } : Jvm.MethodName)) ∈ lw_all := lw_g (lw_at lw_m7 90 rfl) rfl
theorem q1620 : (Jvm.Cond.privateMethod ({ cls := "LineCallsModel", name := "isToldSo", desc := "(I)V" } : Jvm.MethodName)) ∈ lw_tbl := lw_at lw_m7 91 rfl
theorem q1621 : (Jvm.Cond.instanceMethod ({ cls := "LineCallsModel", name := "isToldSo", desc := "(I)V" } : Jvm.MethodName)) ∈ lw_all := lw_g (lw_at lw_m7 92 rfl) rfl
theorem q1622 : (Jvm.Cond.code ({ cls := "LineCallsModel", name := "isToldSo", desc := "(I)V" } : Jvm.MethodName) prog_16_method_83_code (5 : Nat) (Option.none : Option Jvm.ClassFile.FieldType)) ∈ lw_all := lw_g (lw_at lw_m7 93 rfl) rfl
theorem q1624 : (Jvm.Cond.instanceMethod ({ cls := "LineCallsModel", name := "hold", desc := "(II)I" } : Jvm.MethodName)) ∈ lw_all := lw_g (lw_at lw_m7 95 rfl) rfl
theorem q1625 : (Jvm.Cond.selects "LineCallsModel" ({ cls := "LineCallsModel", name := "hold", desc := "(II)I" } : Jvm.MethodName) ({ cls := "LineCallsModel", name := "hold", desc := "(II)I" } : Jvm.MethodName)) ∈ lw_all := lw_g (lw_at lw_m7 96 rfl) rfl
theorem q1626 : (Jvm.Cond.code ({ cls := "LineCallsModel", name := "hold", desc := "(II)I" } : Jvm.MethodName) prog_16_method_86_code (3 : Nat) (Option.some Jvm.ClassFile.FieldType.int)) ∈ lw_all := lw_g (lw_at lw_m7 97 rfl) rfl
theorem q1627 : (Jvm.Cond.methodLink "LineCallsModel" (305 : Nat) ({ cls := "LineCallsModel", name := "isSpot", desc := "(I)Z" } : Jvm.MethodName)) ∈ lw_all := lw_g (lw_at lw_m7 98 rfl) rfl
theorem q1628 : (Jvm.Cond.static ({ cls := "LineCallsModel", name := "isSpot", desc := "(I)Z" } : Jvm.MethodName)) ∈ lw_all := lw_g (lw_at lw_m7 99 rfl) rfl
theorem q1629 : (Jvm.Cond.code ({ cls := "LineCallsModel", name := "isSpot", desc := "(I)Z" } : Jvm.MethodName) prog_16_method_85_code (1 : Nat) (Option.some Jvm.ClassFile.FieldType.boolean)) ∈ lw_all := lw_g (lw_at lw_m7 100 rfl) rfl
theorem q1631 : (Jvm.Cond.instanceMethod ({ cls := "LineCallsModel", name := "as", desc := "(II)I" } : Jvm.MethodName)) ∈ lw_all := lw_g (lw_at lw_m7 102 rfl) rfl
theorem q1632 : (Jvm.Cond.selects "LineCallsModel" ({ cls := "LineCallsModel", name := "as", desc := "(II)I" } : Jvm.MethodName) ({ cls := "LineCallsModel", name := "as", desc := "(II)I" } : Jvm.MethodName)) ∈ lw_all := lw_g (lw_at lw_m7 103 rfl) rfl
theorem q1633 : (Jvm.Cond.code ({ cls := "LineCallsModel", name := "as", desc := "(II)I" } : Jvm.MethodName) prog_16_method_87_code (4 : Nat) (Option.some Jvm.ClassFile.FieldType.int)) ∈ lw_all := lw_g (lw_at lw_m7 104 rfl) rfl
theorem q1634 : (Jvm.Cond.methodLink "LineCallsModel" (308 : Nat) ({ cls := "LineCallsModel", name := "isUnder", desc := "(II)Z" } : Jvm.MethodName)) ∈ lw_all := lw_g (lw_at lw_m7 105 rfl) rfl
theorem q1635 : (Jvm.Cond.static ({ cls := "LineCallsModel", name := "isUnder", desc := "(II)Z" } : Jvm.MethodName)) ∈ lw_all := lw_g (lw_at lw_m7 106 rfl) rfl
theorem q1636 : (Jvm.Cond.code ({ cls := "LineCallsModel", name := "isUnder", desc := "(II)Z" } : Jvm.MethodName) prog_16_method_94_code (3 : Nat) (Option.some Jvm.ClassFile.FieldType.boolean)) ∈ lw_all := lw_g (lw_at lw_m7 107 rfl) rfl
theorem q1637 : (Jvm.Cond.methodLink "LineCallsModel" (316 : Nat) ({ cls := "LineCallsModel", name := "above", desc := "(I)I" } : Jvm.MethodName)) ∈ lw_all := lw_g (lw_at lw_m7 108 rfl) rfl
theorem q1638 : (Jvm.Cond.static ({ cls := "LineCallsModel", name := "above", desc := "(I)I" } : Jvm.MethodName)) ∈ lw_all := lw_g (lw_at lw_m7 109 rfl) rfl
theorem q1639 : (Jvm.Cond.code ({ cls := "LineCallsModel", name := "above", desc := "(I)I" } : Jvm.MethodName) prog_16_method_93_code (1 : Nat) (Option.some Jvm.ClassFile.FieldType.int)) ∈ lw_all := lw_g (lw_at lw_m7 110 rfl) rfl
theorem q1640 : (Jvm.Cond.constant "LineCallsModel" (311 : Nat) (-1000003 : Int32)) ∈ lw_all := lw_g (lw_at lw_m7 111 rfl) rfl
theorem q1642 : (Jvm.Cond.instanceMethod ({ cls := "LineCallsModel", name := "sheet", desc := "(III)I" } : Jvm.MethodName)) ∈ lw_all := lw_g (lw_at lw_m7 113 rfl) rfl
theorem q1643 : (Jvm.Cond.selects "LineCallsModel" ({ cls := "LineCallsModel", name := "sheet", desc := "(III)I" } : Jvm.MethodName) ({ cls := "LineCallsModel", name := "sheet", desc := "(III)I" } : Jvm.MethodName)) ∈ lw_all := lw_g (lw_at lw_m7 114 rfl) rfl
theorem q1644 : (Jvm.Cond.code ({ cls := "LineCallsModel", name := "sheet", desc := "(III)I" } : Jvm.MethodName) prog_16_method_90_code (5 : Nat) (Option.some Jvm.ClassFile.FieldType.int)) ∈ lw_all := lw_g (lw_at lw_m7 115 rfl) rfl
theorem q1645 : (Jvm.Cond.constant "LineCallsModel" (312 : Nat) (-1000007 : Int32)) ∈ lw_all := lw_g (lw_at lw_m7 116 rfl) rfl
theorem q1647 : (Jvm.Cond.instanceMethod ({ cls := "LineCallsModel", name := "write", desc := "(III)I" } : Jvm.MethodName)) ∈ lw_all := lw_g (lw_at lw_m7 118 rfl) rfl
theorem q1648 : (Jvm.Cond.selects "LineCallsModel" ({ cls := "LineCallsModel", name := "write", desc := "(III)I" } : Jvm.MethodName) ({ cls := "LineCallsModel", name := "write", desc := "(III)I" } : Jvm.MethodName)) ∈ lw_all := lw_g (lw_at lw_m7 119 rfl) rfl
theorem q1649 : (Jvm.Cond.code ({ cls := "LineCallsModel", name := "write", desc := "(III)I" } : Jvm.MethodName) prog_16_method_91_code (4 : Nat) (Option.some Jvm.ClassFile.FieldType.int)) ∈ lw_all := lw_g (lw_at lw_m7 120 rfl) rfl
theorem q1650 : (Jvm.Cond.methodLink "LineCallsModel" (313 : Nat) ({ cls := "LineCallsModel", name := "cutTo", desc := "(II)I" } : Jvm.MethodName)) ∈ lw_all := lw_g (lw_at lw_m7 121 rfl) rfl
theorem q1651 : (Jvm.Cond.static ({ cls := "LineCallsModel", name := "cutTo", desc := "(II)I" } : Jvm.MethodName)) ∈ lw_all := lw_g (lw_at lw_m7 122 rfl) rfl
theorem q1652 : (Jvm.Cond.code ({ cls := "LineCallsModel", name := "cutTo", desc := "(II)I" } : Jvm.MethodName) prog_16_method_89_code (2 : Nat) (Option.some Jvm.ClassFile.FieldType.int)) ∈ lw_all := lw_g (lw_at lw_m7 123 rfl) rfl
theorem q1654 : (Jvm.Cond.instanceMethod ({ cls := "LineCallsModel", name := "copy", desc := "(IIIII)I" } : Jvm.MethodName)) ∈ lw_all := lw_g (lw_at lw_m7 125 rfl) rfl
theorem q1655 : (Jvm.Cond.selects "LineCallsModel" ({ cls := "LineCallsModel", name := "copy", desc := "(IIIII)I" } : Jvm.MethodName) ({ cls := "LineCallsModel", name := "copy", desc := "(IIIII)I" } : Jvm.MethodName)) ∈ lw_all := lw_g (lw_at lw_m7 126 rfl) rfl
theorem q1656 : (Jvm.Cond.code ({ cls := "LineCallsModel", name := "copy", desc := "(IIIII)I" } : Jvm.MethodName) prog_16_method_92_code (7 : Nat) (Option.some Jvm.ClassFile.FieldType.int)) ∈ lw_all := lw_g (lw_at lw_m7 127 rfl) rfl
theorem q1658 : (Jvm.Cond.instanceMethod ({ cls := "LineCallsModel", name := "load", desc := "(I)I" } : Jvm.MethodName)) ∈ lw_all := lw_g (lw_at lw_m7 129 rfl) rfl
theorem q1659 : (Jvm.Cond.selects "LineCallsModel" ({ cls := "LineCallsModel", name := "load", desc := "(I)I" } : Jvm.MethodName) ({ cls := "LineCallsModel", name := "load", desc := "(I)I" } : Jvm.MethodName)) ∈ lw_all := lw_g (lw_at lw_m7 130 rfl) rfl
theorem q1660 : (Jvm.Cond.code ({ cls := "LineCallsModel", name := "load", desc := "(I)I" } : Jvm.MethodName) prog_16_method_95_code (3 : Nat) (Option.some Jvm.ClassFile.FieldType.int)) ∈ lw_all := lw_g (lw_at lw_m7 131 rfl) rfl
theorem q1662 : (Jvm.Cond.instanceMethod ({ cls := "LineCallsModel", name := "judge", desc := "(I)I" } : Jvm.MethodName)) ∈ lw_all := lw_g (lw_at lw_m7 133 rfl) rfl
theorem q1663 : (Jvm.Cond.selects "LineCallsModel" ({ cls := "LineCallsModel", name := "judge", desc := "(I)I" } : Jvm.MethodName) ({ cls := "LineCallsModel", name := "judge", desc := "(I)I" } : Jvm.MethodName)) ∈ lw_all := lw_g (lw_at lw_m7 134 rfl) rfl
theorem q1664 : (Jvm.Cond.code ({ cls := "LineCallsModel", name := "judge", desc := "(I)I" } : Jvm.MethodName) prog_16_method_96_code (3 : Nat) (Option.some Jvm.ClassFile.FieldType.int)) ∈ lw_all := lw_g (lw_at lw_m7 135 rfl) rfl
theorem q1666 : (Jvm.Cond.instanceMethod ({ cls := "LineCallsModel", name := "image", desc := "()I" } : Jvm.MethodName)) ∈ lw_all := lw_g (lw_at lw_m7 137 rfl) rfl
theorem q1667 : (Jvm.Cond.selects "LineCallsModel" ({ cls := "LineCallsModel", name := "image", desc := "()I" } : Jvm.MethodName) ({ cls := "LineCallsModel", name := "image", desc := "()I" } : Jvm.MethodName)) ∈ lw_all := lw_g (lw_at lw_m7 138 rfl) rfl
theorem q1668 : (Jvm.Cond.code ({ cls := "LineCallsModel", name := "image", desc := "()I" } : Jvm.MethodName) prog_16_method_97_code (1 : Nat) (Option.some Jvm.ClassFile.FieldType.int)) ∈ lw_all := lw_g (lw_at lw_m7 139 rfl) rfl
theorem q1670 : (Jvm.Cond.instanceMethod ({ cls := "LineCallsModel", name := "undo", desc := "()I" } : Jvm.MethodName)) ∈ lw_all := lw_g (lw_at lw_m7 141 rfl) rfl
theorem q1671 : (Jvm.Cond.selects "LineCallsModel" ({ cls := "LineCallsModel", name := "undo", desc := "()I" } : Jvm.MethodName) ({ cls := "LineCallsModel", name := "undo", desc := "()I" } : Jvm.MethodName)) ∈ lw_all := lw_g (lw_at lw_m7 142 rfl) rfl
theorem q1672 : (Jvm.Cond.code ({ cls := "LineCallsModel", name := "undo", desc := "()I" } : Jvm.MethodName) prog_16_method_98_code (1 : Nat) (Option.some Jvm.ClassFile.FieldType.int)) ∈ lw_all := lw_g (lw_at lw_m7 143 rfl) rfl
theorem q1674 : (Jvm.Cond.instanceMethod ({ cls := "LineCallsModel", name := "tear", desc := "()I" } : Jvm.MethodName)) ∈ lw_all := lw_g (lw_at lw_m7 145 rfl) rfl
theorem q1675 : (Jvm.Cond.selects "LineCallsModel" ({ cls := "LineCallsModel", name := "tear", desc := "()I" } : Jvm.MethodName) ({ cls := "LineCallsModel", name := "tear", desc := "()I" } : Jvm.MethodName)) ∈ lw_all := lw_g (lw_at lw_m7 146 rfl) rfl
theorem q1676 : (Jvm.Cond.code ({ cls := "LineCallsModel", name := "tear", desc := "()I" } : Jvm.MethodName) prog_16_method_99_code (2 : Nat) (Option.some Jvm.ClassFile.FieldType.int)) ∈ lw_all := lw_g (lw_at lw_m7 147 rfl) rfl
theorem q1678 : (Jvm.Cond.instanceMethod ({ cls := "LineCallsModel", name := "count", desc := "(I)I" } : Jvm.MethodName)) ∈ lw_all := lw_g (lw_at lw_m7 149 rfl) rfl
theorem q1679 : (Jvm.Cond.selects "LineCallsModel" ({ cls := "LineCallsModel", name := "count", desc := "(I)I" } : Jvm.MethodName) ({ cls := "LineCallsModel", name := "count", desc := "(I)I" } : Jvm.MethodName)) ∈ lw_all := lw_g (lw_at lw_m7 150 rfl) rfl
theorem q1680 : (Jvm.Cond.code ({ cls := "LineCallsModel", name := "count", desc := "(I)I" } : Jvm.MethodName) prog_16_method_100_code (4 : Nat) (Option.some Jvm.ClassFile.FieldType.int)) ∈ lw_all := lw_g (lw_at lw_m7 151 rfl) rfl
theorem q1682 : (Jvm.Cond.instanceMethod ({ cls := "LineCallsModel", name := "status", desc := "(I)I" } : Jvm.MethodName)) ∈ lw_all := lw_g (lw_at lw_m7 153 rfl) rfl
theorem q1683 : (Jvm.Cond.selects "LineCallsModel" ({ cls := "LineCallsModel", name := "status", desc := "(I)I" } : Jvm.MethodName) ({ cls := "LineCallsModel", name := "status", desc := "(I)I" } : Jvm.MethodName)) ∈ lw_all := lw_g (lw_at lw_m7 154 rfl) rfl
theorem q1684 : (Jvm.Cond.code ({ cls := "LineCallsModel", name := "status", desc := "(I)I" } : Jvm.MethodName) prog_16_method_101_code (2 : Nat) (Option.some Jvm.ClassFile.FieldType.int)) ∈ lw_all := lw_g (lw_at lw_m7 155 rfl) rfl
theorem in_X13 : ∀ w ∈ wsX130, w ∈ lw_all := lw_in wsX130 [1223, 1225, 1227, 1229, 1231, 1233, 1235, 1237, 1239, 1241, 1243, 1245, 1247, 1249, 1251, 1253, 1255, 1257, 1259, 1261, 1263, 1265, 1267, 1269, 1271] (by decide +kernel) (by decide +kernel)
