/-! LineCalls -/
set_option maxRecDepth 100000
def RX0 : String := "LineCalls"
def TX0 : u_T := fun k => match k with
  | 0 => ("LineCalls", "refusal", "LLineCalls$Refusal;", true)
  | 1 => ("LineCalls", "reader", "LLineCalls$Reader;", true)
  | 2 => ("LineCalls", "taped", "I", false)
  | 3 => ("LineCalls", "d", "LLineCalls$World;", true)
  | 4 => ("LineCalls", "kept", "LLineCalls$World;", true)
  | 5 => ("LineCalls", "aside", "LLineCalls$World;", true)
  | 6 => ("LineCalls", "isKept", "Z", false)
  | 7 => ("LineCalls", "jumpers", "[LLineCalls$Slot;", true)
  | 8 => ("LineCalls", "spots", "[LLineCalls$Slot;", true)
  | 9 => ("LineCalls", "sheets", "[LLineCalls$Slot;", true)
  | 10 => ("LineCalls", "findings", "[I", true)
  | _ => ("LineCalls", "firstFit", "I", false)
def tyX0 : Nat → FieldType := fun k => match k with
  | 0 => .object "LineCalls$Refusal"
  | 1 => .object "LineCalls$Reader"
  | 2 => .int
  | 3 => .object "LineCalls$World"
  | 4 => .object "LineCalls$World"
  | 5 => .object "LineCalls$World"
  | 6 => .boolean
  | 7 => .array (.object "LineCalls$Slot")
  | 8 => .array (.object "LineCalls$Slot")
  | 9 => .array (.object "LineCalls$Slot")
  | 10 => .array .int
  | _ => .int
abbrev wsX00 : List Cond := u_ws RX0 TX0 12
theorem nmX0 : ∀ a, a < 12 → ∀ b, b < 12 → a ≠ b → (TX0 a).2.1 ≠ (TX0 b).2.1 := by decide +kernel
theorem tyX0_ok : ∀ k, k < 12 → parseFieldDescriptor (TX0 k).2.2.1 = some (tyX0 k) := by decide +kernel
abbrev cX0_init : ByteArray := prog_1_method_17_code
def yX0_init : MethodName := ⟨RX0, "<init>", "()V"⟩
def dkwX0_init_8 : List UInt8 := [183, 0, 102, 83, 132, 1, 1, 167, 255, 235, 177]
abbrev dktX0_init_8 : List UInt8 := dkwX0_init_8 ++ []
def dkwX0_init_7 : List UInt8 := [132, 1, 1, 167, 255, 234, 3, 60, 27, 7, 162, 0, 22, 42, 180, 0, 95, 27, 187, 0, 86, 89]
abbrev dktX0_init_7 : List UInt8 := dkwX0_init_7 ++ dktX0_init_8
def dkwX0_init_6 : List UInt8 := [167, 255, 213, 3, 60, 27, 16, 10, 162, 0, 22, 42, 180, 0, 92, 27, 187, 0, 86, 89, 183, 0, 102, 83]
abbrev dktX0_init_6 : List UInt8 := dkwX0_init_6 ++ dktX0_init_7
def dkwX0_init_5 : List UInt8 := [180, 0, 88, 27, 50, 42, 27, 16, 8, 108, 27, 16, 8, 112, 182, 0, 103, 181, 0, 107, 132, 1, 1]
abbrev dktX0_init_5 : List UInt8 := dkwX0_init_5 ++ dktX0_init_6
def dkwX0_init_4 : List UInt8 := [3, 60, 27, 16, 56, 162, 0, 43, 42, 180, 0, 88, 27, 187, 0, 86, 89, 183, 0, 102, 83, 42]
abbrev dktX0_init_4 : List UInt8 := dkwX0_init_4 ++ dktX0_init_5
def dkwX0_init_3 : List UInt8 := [16, 10, 189, 0, 86, 181, 0, 92, 42, 7, 189, 0, 86, 181, 0, 95, 42, 16, 7, 188, 10, 181, 0, 98]
abbrev dktX0_init_3 : List UInt8 := dkwX0_init_3 ++ dktX0_init_4
def dkwX0_init_2 : List UInt8 := [181, 0, 80, 42, 187, 0, 73, 89, 183, 0, 75, 181, 0, 83, 42, 16, 56, 189, 0, 86, 181, 0, 88, 42]
abbrev dktX0_init_2 : List UInt8 := dkwX0_init_2 ++ dktX0_init_3
def dkwX0_init_1 : List UInt8 := [181, 0, 69, 42, 187, 0, 73, 89, 183, 0, 75, 181, 0, 76, 42, 187, 0, 73, 89, 183, 0, 75]
abbrev dktX0_init_1 : List UInt8 := dkwX0_init_1 ++ dktX0_init_2
def dkwX0_init_0 : List UInt8 := [42, 183, 0, 54, 42, 187, 0, 59, 89, 183, 0, 61, 181, 0, 62, 42, 187, 0, 66, 89, 183, 0, 68]
abbrev dktX0_init_0 : List UInt8 := dkwX0_init_0 ++ dktX0_init_1
theorem dksX0_init_0 : cX0_init.data.toList.drop 0 = dktX0_init_0 := by decide +kernel
theorem dksX0_init_1 : cX0_init.data.toList.drop 23 = dktX0_init_1 := dk_seg dksX0_init_0 23 rfl rfl
theorem dksX0_init_2 : cX0_init.data.toList.drop 45 = dktX0_init_2 := dk_seg dksX0_init_1 22 rfl rfl
theorem dksX0_init_3 : cX0_init.data.toList.drop 69 = dktX0_init_3 := dk_seg dksX0_init_2 24 rfl rfl
theorem dksX0_init_4 : cX0_init.data.toList.drop 93 = dktX0_init_4 := dk_seg dksX0_init_3 24 rfl rfl
theorem dksX0_init_5 : cX0_init.data.toList.drop 115 = dktX0_init_5 := dk_seg dksX0_init_4 22 rfl rfl
theorem dksX0_init_6 : cX0_init.data.toList.drop 138 = dktX0_init_6 := dk_seg dksX0_init_5 23 rfl rfl
theorem dksX0_init_7 : cX0_init.data.toList.drop 162 = dktX0_init_7 := dk_seg dksX0_init_6 24 rfl rfl
theorem dksX0_init_8 : cX0_init.data.toList.drop 184 = dktX0_init_8 := dk_seg dksX0_init_7 22 rfl rfl
theorem dX0_init_0 : decode cX0_init 0 = .ok (.aload_n 0, 1) := dk_42 (dk_at dksX0_init_0 0 rfl rfl)
theorem dX0_init_1 : decode cX0_init 1 = .ok (.invokespecial 54, 3) := dk_183 0 54 (dk_at dksX0_init_0 1 rfl rfl)
theorem dX0_init_4 : decode cX0_init 4 = .ok (.aload_n 0, 1) := dk_42 (dk_at dksX0_init_0 4 rfl rfl)
theorem dX0_init_5 : decode cX0_init 5 = .ok (.new 59, 3) := dk_187 0 59 (dk_at dksX0_init_0 5 rfl rfl)
theorem dX0_init_8 : decode cX0_init 8 = .ok (.dup, 1) := dk_89 (dk_at dksX0_init_0 8 rfl rfl)
theorem dX0_init_9 : decode cX0_init 9 = .ok (.invokespecial 61, 3) := dk_183 0 61 (dk_at dksX0_init_0 9 rfl rfl)
theorem dX0_init_12 : decode cX0_init 12 = .ok (.putfield 62, 3) := dk_181 0 62 (dk_at dksX0_init_0 12 rfl rfl)
theorem dX0_init_15 : decode cX0_init 15 = .ok (.aload_n 0, 1) := dk_42 (dk_at dksX0_init_0 15 rfl rfl)
theorem dX0_init_16 : decode cX0_init 16 = .ok (.new 66, 3) := dk_187 0 66 (dk_at dksX0_init_0 16 rfl rfl)
theorem dX0_init_19 : decode cX0_init 19 = .ok (.dup, 1) := dk_89 (dk_at dksX0_init_0 19 rfl rfl)
theorem dX0_init_20 : decode cX0_init 20 = .ok (.invokespecial 68, 3) := dk_183 0 68 (dk_at dksX0_init_0 20 rfl rfl)
theorem dX0_init_23 : decode cX0_init 23 = .ok (.putfield 69, 3) := dk_181 0 69 (dk_at dksX0_init_1 0 rfl rfl)
theorem dX0_init_26 : decode cX0_init 26 = .ok (.aload_n 0, 1) := dk_42 (dk_at dksX0_init_1 3 rfl rfl)
theorem dX0_init_27 : decode cX0_init 27 = .ok (.new 73, 3) := dk_187 0 73 (dk_at dksX0_init_1 4 rfl rfl)
theorem dX0_init_30 : decode cX0_init 30 = .ok (.dup, 1) := dk_89 (dk_at dksX0_init_1 7 rfl rfl)
theorem dX0_init_31 : decode cX0_init 31 = .ok (.invokespecial 75, 3) := dk_183 0 75 (dk_at dksX0_init_1 8 rfl rfl)
theorem dX0_init_34 : decode cX0_init 34 = .ok (.putfield 76, 3) := dk_181 0 76 (dk_at dksX0_init_1 11 rfl rfl)
theorem dX0_init_37 : decode cX0_init 37 = .ok (.aload_n 0, 1) := dk_42 (dk_at dksX0_init_1 14 rfl rfl)
theorem dX0_init_38 : decode cX0_init 38 = .ok (.new 73, 3) := dk_187 0 73 (dk_at dksX0_init_1 15 rfl rfl)
theorem dX0_init_41 : decode cX0_init 41 = .ok (.dup, 1) := dk_89 (dk_at dksX0_init_1 18 rfl rfl)
theorem dX0_init_42 : decode cX0_init 42 = .ok (.invokespecial 75, 3) := dk_183 0 75 (dk_at dksX0_init_1 19 rfl rfl)
theorem dX0_init_45 : decode cX0_init 45 = .ok (.putfield 80, 3) := dk_181 0 80 (dk_at dksX0_init_2 0 rfl rfl)
theorem dX0_init_48 : decode cX0_init 48 = .ok (.aload_n 0, 1) := dk_42 (dk_at dksX0_init_2 3 rfl rfl)
theorem dX0_init_49 : decode cX0_init 49 = .ok (.new 73, 3) := dk_187 0 73 (dk_at dksX0_init_2 4 rfl rfl)
theorem dX0_init_52 : decode cX0_init 52 = .ok (.dup, 1) := dk_89 (dk_at dksX0_init_2 7 rfl rfl)
theorem dX0_init_53 : decode cX0_init 53 = .ok (.invokespecial 75, 3) := dk_183 0 75 (dk_at dksX0_init_2 8 rfl rfl)
theorem dX0_init_56 : decode cX0_init 56 = .ok (.putfield 83, 3) := dk_181 0 83 (dk_at dksX0_init_2 11 rfl rfl)
theorem dX0_init_59 : decode cX0_init 59 = .ok (.aload_n 0, 1) := dk_42 (dk_at dksX0_init_2 14 rfl rfl)
theorem dX0_init_60 : decode cX0_init 60 = .ok (.bipush 56, 2) := dk_16 56 (dk_at dksX0_init_2 15 rfl rfl)
theorem dX0_init_62 : decode cX0_init 62 = .ok (.anewarray 86, 3) := dk_189 0 86 (dk_at dksX0_init_2 17 rfl rfl)
theorem dX0_init_65 : decode cX0_init 65 = .ok (.putfield 88, 3) := dk_181 0 88 (dk_at dksX0_init_2 20 rfl rfl)
theorem dX0_init_68 : decode cX0_init 68 = .ok (.aload_n 0, 1) := dk_42 (dk_at dksX0_init_2 23 rfl rfl)
theorem dX0_init_69 : decode cX0_init 69 = .ok (.bipush 10, 2) := dk_16 10 (dk_at dksX0_init_3 0 rfl rfl)
theorem dX0_init_71 : decode cX0_init 71 = .ok (.anewarray 86, 3) := dk_189 0 86 (dk_at dksX0_init_3 2 rfl rfl)
theorem dX0_init_74 : decode cX0_init 74 = .ok (.putfield 92, 3) := dk_181 0 92 (dk_at dksX0_init_3 5 rfl rfl)
theorem dX0_init_77 : decode cX0_init 77 = .ok (.aload_n 0, 1) := dk_42 (dk_at dksX0_init_3 8 rfl rfl)
theorem dX0_init_78 : decode cX0_init 78 = .ok (.iconst 4, 1) := dk_7 (dk_at dksX0_init_3 9 rfl rfl)
theorem dX0_init_79 : decode cX0_init 79 = .ok (.anewarray 86, 3) := dk_189 0 86 (dk_at dksX0_init_3 10 rfl rfl)
theorem dX0_init_82 : decode cX0_init 82 = .ok (.putfield 95, 3) := dk_181 0 95 (dk_at dksX0_init_3 13 rfl rfl)
theorem dX0_init_85 : decode cX0_init 85 = .ok (.aload_n 0, 1) := dk_42 (dk_at dksX0_init_3 16 rfl rfl)
theorem dX0_init_86 : decode cX0_init 86 = .ok (.bipush 7, 2) := dk_16 7 (dk_at dksX0_init_3 17 rfl rfl)
theorem dX0_init_88 : decode cX0_init 88 = .ok (.newarray .int, 2) := dk_188_10 (dk_at dksX0_init_3 19 rfl rfl)
theorem dX0_init_90 : decode cX0_init 90 = .ok (.putfield 98, 3) := dk_181 0 98 (dk_at dksX0_init_3 21 rfl rfl)
theorem dX0_init_93 : decode cX0_init 93 = .ok (.iconst 0, 1) := dk_3 (dk_at dksX0_init_4 0 rfl rfl)
theorem dX0_init_94 : decode cX0_init 94 = .ok (.istore_n 1, 1) := dk_60 (dk_at dksX0_init_4 1 rfl rfl)
theorem dX0_init_95 : decode cX0_init 95 = .ok (.iload_n 1, 1) := dk_27 (dk_at dksX0_init_4 2 rfl rfl)
theorem dX0_init_96 : decode cX0_init 96 = .ok (.bipush 56, 2) := dk_16 56 (dk_at dksX0_init_4 3 rfl rfl)
theorem dX0_init_98 : decode cX0_init 98 = .ok (.if_icmp .ge 43, 3) := dk_162 0 43 (dk_at dksX0_init_4 5 rfl rfl)
theorem dX0_init_101 : decode cX0_init 101 = .ok (.aload_n 0, 1) := dk_42 (dk_at dksX0_init_4 8 rfl rfl)
theorem dX0_init_102 : decode cX0_init 102 = .ok (.getfield 88, 3) := dk_180 0 88 (dk_at dksX0_init_4 9 rfl rfl)
theorem dX0_init_105 : decode cX0_init 105 = .ok (.iload_n 1, 1) := dk_27 (dk_at dksX0_init_4 12 rfl rfl)
theorem dX0_init_106 : decode cX0_init 106 = .ok (.new 86, 3) := dk_187 0 86 (dk_at dksX0_init_4 13 rfl rfl)
theorem dX0_init_109 : decode cX0_init 109 = .ok (.dup, 1) := dk_89 (dk_at dksX0_init_4 16 rfl rfl)
theorem dX0_init_110 : decode cX0_init 110 = .ok (.invokespecial 102, 3) := dk_183 0 102 (dk_at dksX0_init_4 17 rfl rfl)
theorem dX0_init_113 : decode cX0_init 113 = .ok (.aastore, 1) := dk_83 (dk_at dksX0_init_4 20 rfl rfl)
theorem dX0_init_114 : decode cX0_init 114 = .ok (.aload_n 0, 1) := dk_42 (dk_at dksX0_init_4 21 rfl rfl)
theorem dX0_init_115 : decode cX0_init 115 = .ok (.getfield 88, 3) := dk_180 0 88 (dk_at dksX0_init_5 0 rfl rfl)
theorem dX0_init_118 : decode cX0_init 118 = .ok (.iload_n 1, 1) := dk_27 (dk_at dksX0_init_5 3 rfl rfl)
theorem dX0_init_119 : decode cX0_init 119 = .ok (.aaload, 1) := dk_50 (dk_at dksX0_init_5 4 rfl rfl)
theorem dX0_init_120 : decode cX0_init 120 = .ok (.aload_n 0, 1) := dk_42 (dk_at dksX0_init_5 5 rfl rfl)
theorem dX0_init_121 : decode cX0_init 121 = .ok (.iload_n 1, 1) := dk_27 (dk_at dksX0_init_5 6 rfl rfl)
theorem dX0_init_122 : decode cX0_init 122 = .ok (.bipush 8, 2) := dk_16 8 (dk_at dksX0_init_5 7 rfl rfl)
theorem dX0_init_124 : decode cX0_init 124 = .ok (.idiv, 1) := dk_108 (dk_at dksX0_init_5 9 rfl rfl)
theorem dX0_init_125 : decode cX0_init 125 = .ok (.iload_n 1, 1) := dk_27 (dk_at dksX0_init_5 10 rfl rfl)
theorem dX0_init_126 : decode cX0_init 126 = .ok (.bipush 8, 2) := dk_16 8 (dk_at dksX0_init_5 11 rfl rfl)
theorem dX0_init_128 : decode cX0_init 128 = .ok (.irem, 1) := dk_112 (dk_at dksX0_init_5 13 rfl rfl)
theorem dX0_init_129 : decode cX0_init 129 = .ok (.invokevirtual 103, 3) := dk_182 0 103 (dk_at dksX0_init_5 14 rfl rfl)
theorem dX0_init_132 : decode cX0_init 132 = .ok (.putfield 107, 3) := dk_181 0 107 (dk_at dksX0_init_5 17 rfl rfl)
theorem dX0_init_135 : decode cX0_init 135 = .ok (.iinc 1 1, 3) := dk_132 1 1 (dk_at dksX0_init_5 20 rfl rfl)
theorem dX0_init_138 : decode cX0_init 138 = .ok (.goto (-43), 3) := dk_167 255 213 (dk_at dksX0_init_6 0 rfl rfl)
theorem dX0_init_141 : decode cX0_init 141 = .ok (.iconst 0, 1) := dk_3 (dk_at dksX0_init_6 3 rfl rfl)
theorem dX0_init_142 : decode cX0_init 142 = .ok (.istore_n 1, 1) := dk_60 (dk_at dksX0_init_6 4 rfl rfl)
theorem dX0_init_143 : decode cX0_init 143 = .ok (.iload_n 1, 1) := dk_27 (dk_at dksX0_init_6 5 rfl rfl)
theorem dX0_init_144 : decode cX0_init 144 = .ok (.bipush 10, 2) := dk_16 10 (dk_at dksX0_init_6 6 rfl rfl)
theorem dX0_init_146 : decode cX0_init 146 = .ok (.if_icmp .ge 22, 3) := dk_162 0 22 (dk_at dksX0_init_6 8 rfl rfl)
theorem dX0_init_149 : decode cX0_init 149 = .ok (.aload_n 0, 1) := dk_42 (dk_at dksX0_init_6 11 rfl rfl)
theorem dX0_init_150 : decode cX0_init 150 = .ok (.getfield 92, 3) := dk_180 0 92 (dk_at dksX0_init_6 12 rfl rfl)
theorem dX0_init_153 : decode cX0_init 153 = .ok (.iload_n 1, 1) := dk_27 (dk_at dksX0_init_6 15 rfl rfl)
theorem dX0_init_154 : decode cX0_init 154 = .ok (.new 86, 3) := dk_187 0 86 (dk_at dksX0_init_6 16 rfl rfl)
theorem dX0_init_157 : decode cX0_init 157 = .ok (.dup, 1) := dk_89 (dk_at dksX0_init_6 19 rfl rfl)
theorem dX0_init_158 : decode cX0_init 158 = .ok (.invokespecial 102, 3) := dk_183 0 102 (dk_at dksX0_init_6 20 rfl rfl)
theorem dX0_init_161 : decode cX0_init 161 = .ok (.aastore, 1) := dk_83 (dk_at dksX0_init_6 23 rfl rfl)
theorem dX0_init_162 : decode cX0_init 162 = .ok (.iinc 1 1, 3) := dk_132 1 1 (dk_at dksX0_init_7 0 rfl rfl)
theorem dX0_init_165 : decode cX0_init 165 = .ok (.goto (-22), 3) := dk_167 255 234 (dk_at dksX0_init_7 3 rfl rfl)
theorem dX0_init_168 : decode cX0_init 168 = .ok (.iconst 0, 1) := dk_3 (dk_at dksX0_init_7 6 rfl rfl)
theorem dX0_init_169 : decode cX0_init 169 = .ok (.istore_n 1, 1) := dk_60 (dk_at dksX0_init_7 7 rfl rfl)
theorem dX0_init_170 : decode cX0_init 170 = .ok (.iload_n 1, 1) := dk_27 (dk_at dksX0_init_7 8 rfl rfl)
theorem dX0_init_171 : decode cX0_init 171 = .ok (.iconst 4, 1) := dk_7 (dk_at dksX0_init_7 9 rfl rfl)
theorem dX0_init_172 : decode cX0_init 172 = .ok (.if_icmp .ge 22, 3) := dk_162 0 22 (dk_at dksX0_init_7 10 rfl rfl)
theorem dX0_init_175 : decode cX0_init 175 = .ok (.aload_n 0, 1) := dk_42 (dk_at dksX0_init_7 13 rfl rfl)
theorem dX0_init_176 : decode cX0_init 176 = .ok (.getfield 95, 3) := dk_180 0 95 (dk_at dksX0_init_7 14 rfl rfl)
theorem dX0_init_179 : decode cX0_init 179 = .ok (.iload_n 1, 1) := dk_27 (dk_at dksX0_init_7 17 rfl rfl)
theorem dX0_init_180 : decode cX0_init 180 = .ok (.new 86, 3) := dk_187 0 86 (dk_at dksX0_init_7 18 rfl rfl)
theorem dX0_init_183 : decode cX0_init 183 = .ok (.dup, 1) := dk_89 (dk_at dksX0_init_7 21 rfl rfl)
theorem dX0_init_184 : decode cX0_init 184 = .ok (.invokespecial 102, 3) := dk_183 0 102 (dk_at dksX0_init_8 0 rfl rfl)
theorem dX0_init_187 : decode cX0_init 187 = .ok (.aastore, 1) := dk_83 (dk_at dksX0_init_8 3 rfl rfl)
theorem dX0_init_188 : decode cX0_init 188 = .ok (.iinc 1 1, 3) := dk_132 1 1 (dk_at dksX0_init_8 4 rfl rfl)
theorem dX0_init_191 : decode cX0_init 191 = .ok (.goto (-21), 3) := dk_167 255 235 (dk_at dksX0_init_8 7 rfl rfl)
theorem dX0_init_194 : decode cX0_init 194 = .ok (.return_, 1) := dk_177 (dk_at dksX0_init_8 10 rfl rfl)
abbrev cX0_made : ByteArray := prog_1_method_16_code
def yX0_made : MethodName := ⟨RX0, "made", "(II)LLineCalls$Jumper;"⟩
def dkwX0_made_4 : List UInt8 := [183, 0, 47, 176, 187, 0, 48, 89, 42, 28, 183, 0, 50, 176, 187, 0, 51, 89, 42, 28, 183, 0, 53, 176]
abbrev dktX0_made_4 : List UInt8 := dkwX0_made_4 ++ []
def dkwX0_made_3 : List UInt8 := [42, 28, 183, 0, 41, 176, 187, 0, 42, 89, 42, 28, 183, 0, 44, 176, 187, 0, 45, 89, 42, 28]
abbrev dktX0_made_3 : List UInt8 := dkwX0_made_3 ++ dktX0_made_4
def dkwX0_made_2 : List UInt8 := [187, 0, 30, 89, 42, 28, 183, 0, 32, 176, 187, 0, 36, 89, 42, 28, 183, 0, 38, 176, 187, 0, 39, 89]
abbrev dktX0_made_2 : List UInt8 := dkwX0_made_2 ++ dktX0_made_3
def dkwX0_made_1 : List UInt8 := [170, 0, 0, 0, 0, 0, 99, 0, 0, 0, 1, 0, 0, 0, 6, 0, 0, 0, 39, 0, 0, 0, 49, 0, 0, 0, 59, 0, 0, 0, 69, 0, 0, 0, 79, 0, 0, 0, 89]
abbrev dktX0_made_1 : List UInt8 := dkwX0_made_1 ++ dktX0_made_2
def dkwX0_made_0 : List UInt8 := [27]
abbrev dktX0_made_0 : List UInt8 := dkwX0_made_0 ++ dktX0_made_1
theorem dksX0_made_0 : cX0_made.data.toList.drop 0 = dktX0_made_0 := by decide +kernel
theorem dksX0_made_1 : cX0_made.data.toList.drop 1 = dktX0_made_1 := dk_seg dksX0_made_0 1 rfl rfl
theorem dksX0_made_2 : cX0_made.data.toList.drop 40 = dktX0_made_2 := dk_seg dksX0_made_1 39 rfl rfl
theorem dksX0_made_3 : cX0_made.data.toList.drop 64 = dktX0_made_3 := dk_seg dksX0_made_2 24 rfl rfl
theorem dksX0_made_4 : cX0_made.data.toList.drop 86 = dktX0_made_4 := dk_seg dksX0_made_3 22 rfl rfl
theorem dX0_made_0 : decode cX0_made 0 = .ok (.iload_n 1, 1) := dk_27 (dk_at dksX0_made_0 0 rfl rfl)
theorem dX0_made_1 : decode cX0_made 1 = .ok (.tableswitch 99 1 6 #[39, 49, 59, 69, 79, 89], 39) := by decide +kernel
theorem dX0_made_40 : decode cX0_made 40 = .ok (.new 30, 3) := dk_187 0 30 (dk_at dksX0_made_2 0 rfl rfl)
theorem dX0_made_43 : decode cX0_made 43 = .ok (.dup, 1) := dk_89 (dk_at dksX0_made_2 3 rfl rfl)
theorem dX0_made_44 : decode cX0_made 44 = .ok (.aload_n 0, 1) := dk_42 (dk_at dksX0_made_2 4 rfl rfl)
theorem dX0_made_45 : decode cX0_made 45 = .ok (.iload_n 2, 1) := dk_28 (dk_at dksX0_made_2 5 rfl rfl)
theorem dX0_made_46 : decode cX0_made 46 = .ok (.invokespecial 32, 3) := dk_183 0 32 (dk_at dksX0_made_2 6 rfl rfl)
theorem dX0_made_49 : decode cX0_made 49 = .ok (.areturn, 1) := dk_176 (dk_at dksX0_made_2 9 rfl rfl)
theorem dX0_made_50 : decode cX0_made 50 = .ok (.new 36, 3) := dk_187 0 36 (dk_at dksX0_made_2 10 rfl rfl)
theorem dX0_made_53 : decode cX0_made 53 = .ok (.dup, 1) := dk_89 (dk_at dksX0_made_2 13 rfl rfl)
theorem dX0_made_54 : decode cX0_made 54 = .ok (.aload_n 0, 1) := dk_42 (dk_at dksX0_made_2 14 rfl rfl)
theorem dX0_made_55 : decode cX0_made 55 = .ok (.iload_n 2, 1) := dk_28 (dk_at dksX0_made_2 15 rfl rfl)
theorem dX0_made_56 : decode cX0_made 56 = .ok (.invokespecial 38, 3) := dk_183 0 38 (dk_at dksX0_made_2 16 rfl rfl)
theorem dX0_made_59 : decode cX0_made 59 = .ok (.areturn, 1) := dk_176 (dk_at dksX0_made_2 19 rfl rfl)
theorem dX0_made_60 : decode cX0_made 60 = .ok (.new 39, 3) := dk_187 0 39 (dk_at dksX0_made_2 20 rfl rfl)
theorem dX0_made_63 : decode cX0_made 63 = .ok (.dup, 1) := dk_89 (dk_at dksX0_made_2 23 rfl rfl)
theorem dX0_made_64 : decode cX0_made 64 = .ok (.aload_n 0, 1) := dk_42 (dk_at dksX0_made_3 0 rfl rfl)
theorem dX0_made_65 : decode cX0_made 65 = .ok (.iload_n 2, 1) := dk_28 (dk_at dksX0_made_3 1 rfl rfl)
theorem dX0_made_66 : decode cX0_made 66 = .ok (.invokespecial 41, 3) := dk_183 0 41 (dk_at dksX0_made_3 2 rfl rfl)
theorem dX0_made_69 : decode cX0_made 69 = .ok (.areturn, 1) := dk_176 (dk_at dksX0_made_3 5 rfl rfl)
theorem dX0_made_70 : decode cX0_made 70 = .ok (.new 42, 3) := dk_187 0 42 (dk_at dksX0_made_3 6 rfl rfl)
theorem dX0_made_73 : decode cX0_made 73 = .ok (.dup, 1) := dk_89 (dk_at dksX0_made_3 9 rfl rfl)
theorem dX0_made_74 : decode cX0_made 74 = .ok (.aload_n 0, 1) := dk_42 (dk_at dksX0_made_3 10 rfl rfl)
theorem dX0_made_75 : decode cX0_made 75 = .ok (.iload_n 2, 1) := dk_28 (dk_at dksX0_made_3 11 rfl rfl)
theorem dX0_made_76 : decode cX0_made 76 = .ok (.invokespecial 44, 3) := dk_183 0 44 (dk_at dksX0_made_3 12 rfl rfl)
theorem dX0_made_79 : decode cX0_made 79 = .ok (.areturn, 1) := dk_176 (dk_at dksX0_made_3 15 rfl rfl)
theorem dX0_made_80 : decode cX0_made 80 = .ok (.new 45, 3) := dk_187 0 45 (dk_at dksX0_made_3 16 rfl rfl)
theorem dX0_made_83 : decode cX0_made 83 = .ok (.dup, 1) := dk_89 (dk_at dksX0_made_3 19 rfl rfl)
theorem dX0_made_84 : decode cX0_made 84 = .ok (.aload_n 0, 1) := dk_42 (dk_at dksX0_made_3 20 rfl rfl)
theorem dX0_made_85 : decode cX0_made 85 = .ok (.iload_n 2, 1) := dk_28 (dk_at dksX0_made_3 21 rfl rfl)
theorem dX0_made_86 : decode cX0_made 86 = .ok (.invokespecial 47, 3) := dk_183 0 47 (dk_at dksX0_made_4 0 rfl rfl)
theorem dX0_made_89 : decode cX0_made 89 = .ok (.areturn, 1) := dk_176 (dk_at dksX0_made_4 3 rfl rfl)
theorem dX0_made_90 : decode cX0_made 90 = .ok (.new 48, 3) := dk_187 0 48 (dk_at dksX0_made_4 4 rfl rfl)
theorem dX0_made_93 : decode cX0_made 93 = .ok (.dup, 1) := dk_89 (dk_at dksX0_made_4 7 rfl rfl)
theorem dX0_made_94 : decode cX0_made 94 = .ok (.aload_n 0, 1) := dk_42 (dk_at dksX0_made_4 8 rfl rfl)
theorem dX0_made_95 : decode cX0_made 95 = .ok (.iload_n 2, 1) := dk_28 (dk_at dksX0_made_4 9 rfl rfl)
theorem dX0_made_96 : decode cX0_made 96 = .ok (.invokespecial 50, 3) := dk_183 0 50 (dk_at dksX0_made_4 10 rfl rfl)
theorem dX0_made_99 : decode cX0_made 99 = .ok (.areturn, 1) := dk_176 (dk_at dksX0_made_4 13 rfl rfl)
theorem dX0_made_100 : decode cX0_made 100 = .ok (.new 51, 3) := dk_187 0 51 (dk_at dksX0_made_4 14 rfl rfl)
theorem dX0_made_103 : decode cX0_made 103 = .ok (.dup, 1) := dk_89 (dk_at dksX0_made_4 17 rfl rfl)
theorem dX0_made_104 : decode cX0_made 104 = .ok (.aload_n 0, 1) := dk_42 (dk_at dksX0_made_4 18 rfl rfl)
theorem dX0_made_105 : decode cX0_made 105 = .ok (.iload_n 2, 1) := dk_28 (dk_at dksX0_made_4 19 rfl rfl)
theorem dX0_made_106 : decode cX0_made 106 = .ok (.invokespecial 53, 3) := dk_183 0 53 (dk_at dksX0_made_4 20 rfl rfl)
theorem dX0_made_109 : decode cX0_made 109 = .ok (.areturn, 1) := dk_176 (dk_at dksX0_made_4 23 rfl rfl)
abbrev cX0_stand : ByteArray := prog_1_method_27_code
def yX0_stand : MethodName := ⟨RX0, "stand", "(II)I"⟩
def dkwX0_stand_1 : List UInt8 := [182, 0, 126, 172, 42, 180, 0, 76, 27, 28, 182, 0, 178, 172]
abbrev dktX0_stand_1 : List UInt8 := dkwX0_stand_1 ++ []
def dkwX0_stand_0 : List UInt8 := [27, 184, 0, 172, 153, 0, 16, 28, 2, 159, 0, 17, 42, 28, 182, 0, 175, 154, 0, 9, 42, 3]
abbrev dktX0_stand_0 : List UInt8 := dkwX0_stand_0 ++ dktX0_stand_1
theorem dksX0_stand_0 : cX0_stand.data.toList.drop 0 = dktX0_stand_0 := by decide +kernel
theorem dksX0_stand_1 : cX0_stand.data.toList.drop 22 = dktX0_stand_1 := dk_seg dksX0_stand_0 22 rfl rfl
theorem dX0_stand_0 : decode cX0_stand 0 = .ok (.iload_n 1, 1) := dk_27 (dk_at dksX0_stand_0 0 rfl rfl)
theorem dX0_stand_1 : decode cX0_stand 1 = .ok (.invokestatic 172, 3) := dk_184 0 172 (dk_at dksX0_stand_0 1 rfl rfl)
theorem dX0_stand_4 : decode cX0_stand 4 = .ok (.ifCond .eq 16, 3) := dk_153 0 16 (dk_at dksX0_stand_0 4 rfl rfl)
theorem dX0_stand_7 : decode cX0_stand 7 = .ok (.iload_n 2, 1) := dk_28 (dk_at dksX0_stand_0 7 rfl rfl)
theorem dX0_stand_8 : decode cX0_stand 8 = .ok (.iconst (-1), 1) := dk_2 (dk_at dksX0_stand_0 8 rfl rfl)
theorem dX0_stand_9 : decode cX0_stand 9 = .ok (.if_icmp .eq 17, 3) := dk_159 0 17 (dk_at dksX0_stand_0 9 rfl rfl)
theorem dX0_stand_12 : decode cX0_stand 12 = .ok (.aload_n 0, 1) := dk_42 (dk_at dksX0_stand_0 12 rfl rfl)
theorem dX0_stand_13 : decode cX0_stand 13 = .ok (.iload_n 2, 1) := dk_28 (dk_at dksX0_stand_0 13 rfl rfl)
theorem dX0_stand_14 : decode cX0_stand 14 = .ok (.invokevirtual 175, 3) := dk_182 0 175 (dk_at dksX0_stand_0 14 rfl rfl)
theorem dX0_stand_17 : decode cX0_stand 17 = .ok (.ifCond .ne 9, 3) := dk_154 0 9 (dk_at dksX0_stand_0 17 rfl rfl)
theorem dX0_stand_20 : decode cX0_stand 20 = .ok (.aload_n 0, 1) := dk_42 (dk_at dksX0_stand_0 20 rfl rfl)
theorem dX0_stand_21 : decode cX0_stand 21 = .ok (.iconst 0, 1) := dk_3 (dk_at dksX0_stand_0 21 rfl rfl)
theorem dX0_stand_22 : decode cX0_stand 22 = .ok (.invokevirtual 126, 3) := dk_182 0 126 (dk_at dksX0_stand_1 0 rfl rfl)
theorem dX0_stand_25 : decode cX0_stand 25 = .ok (.ireturn, 1) := dk_172 (dk_at dksX0_stand_1 3 rfl rfl)
theorem dX0_stand_26 : decode cX0_stand 26 = .ok (.aload_n 0, 1) := dk_42 (dk_at dksX0_stand_1 4 rfl rfl)
theorem dX0_stand_27 : decode cX0_stand 27 = .ok (.getfield 76, 3) := dk_180 0 76 (dk_at dksX0_stand_1 5 rfl rfl)
theorem dX0_stand_30 : decode cX0_stand 30 = .ok (.iload_n 1, 1) := dk_27 (dk_at dksX0_stand_1 8 rfl rfl)
theorem dX0_stand_31 : decode cX0_stand 31 = .ok (.iload_n 2, 1) := dk_28 (dk_at dksX0_stand_1 9 rfl rfl)
theorem dX0_stand_32 : decode cX0_stand 32 = .ok (.invokevirtual 178, 3) := dk_182 0 178 (dk_at dksX0_stand_1 10 rfl rfl)
theorem dX0_stand_35 : decode cX0_stand 35 = .ok (.ireturn, 1) := dk_172 (dk_at dksX0_stand_1 13 rfl rfl)
abbrev cX0_isPlace : ByteArray := prog_1_method_7_code
def yX0_isPlace : MethodName := ⟨RX0, "isPlace", "(I)Z"⟩
def dkwX0_isPlace_0 : List UInt8 := [26, 3, 16, 6, 184, 0, 9, 172]
abbrev dktX0_isPlace_0 : List UInt8 := dkwX0_isPlace_0 ++ []
theorem dksX0_isPlace_0 : cX0_isPlace.data.toList.drop 0 = dktX0_isPlace_0 := by decide +kernel
theorem dX0_isPlace_0 : decode cX0_isPlace 0 = .ok (.iload_n 0, 1) := dk_26 (dk_at dksX0_isPlace_0 0 rfl rfl)
theorem dX0_isPlace_1 : decode cX0_isPlace 1 = .ok (.iconst 0, 1) := dk_3 (dk_at dksX0_isPlace_0 1 rfl rfl)
theorem dX0_isPlace_2 : decode cX0_isPlace 2 = .ok (.bipush 6, 2) := dk_16 6 (dk_at dksX0_isPlace_0 2 rfl rfl)
theorem dX0_isPlace_4 : decode cX0_isPlace 4 = .ok (.invokestatic 9, 3) := dk_184 0 9 (dk_at dksX0_isPlace_0 4 rfl rfl)
theorem dX0_isPlace_7 : decode cX0_isPlace 7 = .ok (.ireturn, 1) := dk_172 (dk_at dksX0_isPlace_0 7 rfl rfl)
abbrev cX0_in : ByteArray := prog_1_method_1_code
def yX0_in : MethodName := ⟨RX0, "in", "(III)Z"⟩
def dkwX0_in_0 : List UInt8 := [26, 27, 161, 0, 12, 26, 28, 163, 0, 7, 4, 167, 0, 4, 3, 172]
abbrev dktX0_in_0 : List UInt8 := dkwX0_in_0 ++ []
theorem dksX0_in_0 : cX0_in.data.toList.drop 0 = dktX0_in_0 := by decide +kernel
theorem dX0_in_0 : decode cX0_in 0 = .ok (.iload_n 0, 1) := dk_26 (dk_at dksX0_in_0 0 rfl rfl)
theorem dX0_in_1 : decode cX0_in 1 = .ok (.iload_n 1, 1) := dk_27 (dk_at dksX0_in_0 1 rfl rfl)
theorem dX0_in_2 : decode cX0_in 2 = .ok (.if_icmp .lt 12, 3) := dk_161 0 12 (dk_at dksX0_in_0 2 rfl rfl)
theorem dX0_in_5 : decode cX0_in 5 = .ok (.iload_n 0, 1) := dk_26 (dk_at dksX0_in_0 5 rfl rfl)
theorem dX0_in_6 : decode cX0_in 6 = .ok (.iload_n 2, 1) := dk_28 (dk_at dksX0_in_0 6 rfl rfl)
theorem dX0_in_7 : decode cX0_in 7 = .ok (.if_icmp .gt 7, 3) := dk_163 0 7 (dk_at dksX0_in_0 7 rfl rfl)
theorem dX0_in_10 : decode cX0_in 10 = .ok (.iconst 1, 1) := dk_4 (dk_at dksX0_in_0 10 rfl rfl)
theorem dX0_in_11 : decode cX0_in 11 = .ok (.goto 4, 3) := dk_167 0 4 (dk_at dksX0_in_0 11 rfl rfl)
theorem dX0_in_14 : decode cX0_in 14 = .ok (.iconst 0, 1) := dk_3 (dk_at dksX0_in_0 14 rfl rfl)
theorem dX0_in_15 : decode cX0_in 15 = .ok (.ireturn, 1) := dk_172 (dk_at dksX0_in_0 15 rfl rfl)
abbrev cX0_isJumper : ByteArray := prog_1_method_22_code
def yX0_isJumper : MethodName := ⟨RX0, "isJumper", "(I)Z"⟩
def dkwX0_isJumper_0 : List UInt8 := [27, 3, 42, 180, 0, 76, 180, 0, 124, 4, 100, 184, 0, 9, 172]
abbrev dktX0_isJumper_0 : List UInt8 := dkwX0_isJumper_0 ++ []
theorem dksX0_isJumper_0 : cX0_isJumper.data.toList.drop 0 = dktX0_isJumper_0 := by decide +kernel
theorem dX0_isJumper_0 : decode cX0_isJumper 0 = .ok (.iload_n 1, 1) := dk_27 (dk_at dksX0_isJumper_0 0 rfl rfl)
theorem dX0_isJumper_1 : decode cX0_isJumper 1 = .ok (.iconst 0, 1) := dk_3 (dk_at dksX0_isJumper_0 1 rfl rfl)
theorem dX0_isJumper_2 : decode cX0_isJumper 2 = .ok (.aload_n 0, 1) := dk_42 (dk_at dksX0_isJumper_0 2 rfl rfl)
theorem dX0_isJumper_3 : decode cX0_isJumper 3 = .ok (.getfield 76, 3) := dk_180 0 76 (dk_at dksX0_isJumper_0 3 rfl rfl)
theorem dX0_isJumper_6 : decode cX0_isJumper 6 = .ok (.getfield 124, 3) := dk_180 0 124 (dk_at dksX0_isJumper_0 6 rfl rfl)
theorem dX0_isJumper_9 : decode cX0_isJumper 9 = .ok (.iconst 1, 1) := dk_4 (dk_at dksX0_isJumper_0 9 rfl rfl)
theorem dX0_isJumper_10 : decode cX0_isJumper 10 = .ok (.isub, 1) := dk_100 (dk_at dksX0_isJumper_0 10 rfl rfl)
theorem dX0_isJumper_11 : decode cX0_isJumper 11 = .ok (.invokestatic 9, 3) := dk_184 0 9 (dk_at dksX0_isJumper_0 11 rfl rfl)
theorem dX0_isJumper_14 : decode cX0_isJumper 14 = .ok (.ireturn, 1) := dk_172 (dk_at dksX0_isJumper_0 14 rfl rfl)
abbrev cX0_finding : ByteArray := prog_1_method_19_code
def yX0_finding : MethodName := ⟨RX0, "finding", "(I)I"⟩
def dkwX0_finding_0 : List UInt8 := [42, 180, 0, 98, 27, 92, 46, 4, 96, 79, 18, 115, 27, 100, 172]
abbrev dktX0_finding_0 : List UInt8 := dkwX0_finding_0 ++ []
theorem dksX0_finding_0 : cX0_finding.data.toList.drop 0 = dktX0_finding_0 := by decide +kernel
theorem dX0_finding_0 : decode cX0_finding 0 = .ok (.aload_n 0, 1) := dk_42 (dk_at dksX0_finding_0 0 rfl rfl)
theorem dX0_finding_1 : decode cX0_finding 1 = .ok (.getfield 98, 3) := dk_180 0 98 (dk_at dksX0_finding_0 1 rfl rfl)
theorem dX0_finding_4 : decode cX0_finding 4 = .ok (.iload_n 1, 1) := dk_27 (dk_at dksX0_finding_0 4 rfl rfl)
theorem dX0_finding_5 : decode cX0_finding 5 = .ok (.dup2, 1) := dk_92 (dk_at dksX0_finding_0 5 rfl rfl)
theorem dX0_finding_6 : decode cX0_finding 6 = .ok (.iaload, 1) := dk_46 (dk_at dksX0_finding_0 6 rfl rfl)
theorem dX0_finding_7 : decode cX0_finding 7 = .ok (.iconst 1, 1) := dk_4 (dk_at dksX0_finding_0 7 rfl rfl)
theorem dX0_finding_8 : decode cX0_finding 8 = .ok (.iadd, 1) := dk_96 (dk_at dksX0_finding_0 8 rfl rfl)
theorem dX0_finding_9 : decode cX0_finding 9 = .ok (.iastore, 1) := dk_79 (dk_at dksX0_finding_0 9 rfl rfl)
theorem dX0_finding_10 : decode cX0_finding 10 = .ok (.ldc 115, 2) := dk_18 115 (dk_at dksX0_finding_0 10 rfl rfl)
theorem dX0_finding_12 : decode cX0_finding 12 = .ok (.iload_n 1, 1) := dk_27 (dk_at dksX0_finding_0 12 rfl rfl)
theorem dX0_finding_13 : decode cX0_finding 13 = .ok (.isub, 1) := dk_100 (dk_at dksX0_finding_0 13 rfl rfl)
theorem dX0_finding_14 : decode cX0_finding 14 = .ok (.ireturn, 1) := dk_172 (dk_at dksX0_finding_0 14 rfl rfl)
abbrev cX0_place : ByteArray := prog_1_method_28_code
def yX0_place : MethodName := ⟨RX0, "place", "(II)I"⟩
def dkwX0_place_4 : List UInt8 := [182, 0, 126, 172]
abbrev dktX0_place_4 : List UInt8 := dkwX0_place_4 ++ []
def dkwX0_place_3 : List UInt8 := [180, 0, 76, 180, 0, 181, 4, 50, 27, 46, 172, 42, 180, 0, 76, 27, 182, 0, 139, 172, 42, 3]
abbrev dktX0_place_3 : List UInt8 := dkwX0_place_3 ++ dktX0_place_4
def dkwX0_place_2 : List UInt8 := [42, 180, 0, 76, 180, 0, 128, 27, 46, 172, 42, 180, 0, 76, 180, 0, 181, 3, 50, 27, 46, 172, 42]
abbrev dktX0_place_2 : List UInt8 := dkwX0_place_2 ++ dktX0_place_3
def dkwX0_place_1 : List UInt8 := [170, 0, 0, 0, 0, 73, 0, 0, 0, 0, 0, 0, 0, 3, 0, 0, 0, 30, 0, 0, 0, 40, 0, 0, 0, 52, 0, 0, 0, 64]
abbrev dktX0_place_1 : List UInt8 := dkwX0_place_1 ++ dktX0_place_2
def dkwX0_place_0 : List UInt8 := [27, 184, 0, 172, 154, 0, 9, 42, 3, 182, 0, 126, 172, 28]
abbrev dktX0_place_0 : List UInt8 := dkwX0_place_0 ++ dktX0_place_1
theorem dksX0_place_0 : cX0_place.data.toList.drop 0 = dktX0_place_0 := by decide +kernel
theorem dksX0_place_1 : cX0_place.data.toList.drop 14 = dktX0_place_1 := dk_seg dksX0_place_0 14 rfl rfl
theorem dksX0_place_2 : cX0_place.data.toList.drop 44 = dktX0_place_2 := dk_seg dksX0_place_1 30 rfl rfl
theorem dksX0_place_3 : cX0_place.data.toList.drop 67 = dktX0_place_3 := dk_seg dksX0_place_2 23 rfl rfl
theorem dksX0_place_4 : cX0_place.data.toList.drop 89 = dktX0_place_4 := dk_seg dksX0_place_3 22 rfl rfl
theorem dX0_place_0 : decode cX0_place 0 = .ok (.iload_n 1, 1) := dk_27 (dk_at dksX0_place_0 0 rfl rfl)
theorem dX0_place_1 : decode cX0_place 1 = .ok (.invokestatic 172, 3) := dk_184 0 172 (dk_at dksX0_place_0 1 rfl rfl)
theorem dX0_place_4 : decode cX0_place 4 = .ok (.ifCond .ne 9, 3) := dk_154 0 9 (dk_at dksX0_place_0 4 rfl rfl)
theorem dX0_place_7 : decode cX0_place 7 = .ok (.aload_n 0, 1) := dk_42 (dk_at dksX0_place_0 7 rfl rfl)
theorem dX0_place_8 : decode cX0_place 8 = .ok (.iconst 0, 1) := dk_3 (dk_at dksX0_place_0 8 rfl rfl)
theorem dX0_place_9 : decode cX0_place 9 = .ok (.invokevirtual 126, 3) := dk_182 0 126 (dk_at dksX0_place_0 9 rfl rfl)
theorem dX0_place_12 : decode cX0_place 12 = .ok (.ireturn, 1) := dk_172 (dk_at dksX0_place_0 12 rfl rfl)
theorem dX0_place_13 : decode cX0_place 13 = .ok (.iload_n 2, 1) := dk_28 (dk_at dksX0_place_0 13 rfl rfl)
theorem dX0_place_14 : decode cX0_place 14 = .ok (.tableswitch 73 0 3 #[30, 40, 52, 64], 30) := by decide +kernel
theorem dX0_place_44 : decode cX0_place 44 = .ok (.aload_n 0, 1) := dk_42 (dk_at dksX0_place_2 0 rfl rfl)
theorem dX0_place_45 : decode cX0_place 45 = .ok (.getfield 76, 3) := dk_180 0 76 (dk_at dksX0_place_2 1 rfl rfl)
theorem dX0_place_48 : decode cX0_place 48 = .ok (.getfield 128, 3) := dk_180 0 128 (dk_at dksX0_place_2 4 rfl rfl)
theorem dX0_place_51 : decode cX0_place 51 = .ok (.iload_n 1, 1) := dk_27 (dk_at dksX0_place_2 7 rfl rfl)
theorem dX0_place_52 : decode cX0_place 52 = .ok (.iaload, 1) := dk_46 (dk_at dksX0_place_2 8 rfl rfl)
theorem dX0_place_53 : decode cX0_place 53 = .ok (.ireturn, 1) := dk_172 (dk_at dksX0_place_2 9 rfl rfl)
theorem dX0_place_54 : decode cX0_place 54 = .ok (.aload_n 0, 1) := dk_42 (dk_at dksX0_place_2 10 rfl rfl)
theorem dX0_place_55 : decode cX0_place 55 = .ok (.getfield 76, 3) := dk_180 0 76 (dk_at dksX0_place_2 11 rfl rfl)
theorem dX0_place_58 : decode cX0_place 58 = .ok (.getfield 181, 3) := dk_180 0 181 (dk_at dksX0_place_2 14 rfl rfl)
theorem dX0_place_61 : decode cX0_place 61 = .ok (.iconst 0, 1) := dk_3 (dk_at dksX0_place_2 17 rfl rfl)
theorem dX0_place_62 : decode cX0_place 62 = .ok (.aaload, 1) := dk_50 (dk_at dksX0_place_2 18 rfl rfl)
theorem dX0_place_63 : decode cX0_place 63 = .ok (.iload_n 1, 1) := dk_27 (dk_at dksX0_place_2 19 rfl rfl)
theorem dX0_place_64 : decode cX0_place 64 = .ok (.iaload, 1) := dk_46 (dk_at dksX0_place_2 20 rfl rfl)
theorem dX0_place_65 : decode cX0_place 65 = .ok (.ireturn, 1) := dk_172 (dk_at dksX0_place_2 21 rfl rfl)
theorem dX0_place_66 : decode cX0_place 66 = .ok (.aload_n 0, 1) := dk_42 (dk_at dksX0_place_2 22 rfl rfl)
theorem dX0_place_67 : decode cX0_place 67 = .ok (.getfield 76, 3) := dk_180 0 76 (dk_at dksX0_place_3 0 rfl rfl)
theorem dX0_place_70 : decode cX0_place 70 = .ok (.getfield 181, 3) := dk_180 0 181 (dk_at dksX0_place_3 3 rfl rfl)
theorem dX0_place_73 : decode cX0_place 73 = .ok (.iconst 1, 1) := dk_4 (dk_at dksX0_place_3 6 rfl rfl)
theorem dX0_place_74 : decode cX0_place 74 = .ok (.aaload, 1) := dk_50 (dk_at dksX0_place_3 7 rfl rfl)
theorem dX0_place_75 : decode cX0_place 75 = .ok (.iload_n 1, 1) := dk_27 (dk_at dksX0_place_3 8 rfl rfl)
theorem dX0_place_76 : decode cX0_place 76 = .ok (.iaload, 1) := dk_46 (dk_at dksX0_place_3 9 rfl rfl)
theorem dX0_place_77 : decode cX0_place 77 = .ok (.ireturn, 1) := dk_172 (dk_at dksX0_place_3 10 rfl rfl)
theorem dX0_place_78 : decode cX0_place 78 = .ok (.aload_n 0, 1) := dk_42 (dk_at dksX0_place_3 11 rfl rfl)
theorem dX0_place_79 : decode cX0_place 79 = .ok (.getfield 76, 3) := dk_180 0 76 (dk_at dksX0_place_3 12 rfl rfl)
theorem dX0_place_82 : decode cX0_place 82 = .ok (.iload_n 1, 1) := dk_27 (dk_at dksX0_place_3 15 rfl rfl)
theorem dX0_place_83 : decode cX0_place 83 = .ok (.invokevirtual 139, 3) := dk_182 0 139 (dk_at dksX0_place_3 16 rfl rfl)
theorem dX0_place_86 : decode cX0_place 86 = .ok (.ireturn, 1) := dk_172 (dk_at dksX0_place_3 19 rfl rfl)
theorem dX0_place_87 : decode cX0_place 87 = .ok (.aload_n 0, 1) := dk_42 (dk_at dksX0_place_3 20 rfl rfl)
theorem dX0_place_88 : decode cX0_place 88 = .ok (.iconst 0, 1) := dk_3 (dk_at dksX0_place_3 21 rfl rfl)
theorem dX0_place_89 : decode cX0_place 89 = .ok (.invokevirtual 126, 3) := dk_182 0 126 (dk_at dksX0_place_4 0 rfl rfl)
theorem dX0_place_92 : decode cX0_place 92 = .ok (.ireturn, 1) := dk_172 (dk_at dksX0_place_4 3 rfl rfl)
abbrev cX0_theirs : ByteArray := prog_1_method_29_code
def yX0_theirs : MethodName := ⟨RX0, "theirs", "(III)I"⟩
def dkwX0_theirs_2 : List UInt8 := [180, 0, 181, 28, 4, 100, 50, 27, 29, 79, 21, 4, 172]
abbrev dktX0_theirs_2 : List UInt8 := dkwX0_theirs_2 ++ []
def dkwX0_theirs_1 : List UInt8 := [3, 182, 0, 126, 172, 42, 180, 0, 76, 180, 0, 181, 28, 4, 100, 50, 27, 46, 54, 4, 42, 180, 0, 76]
abbrev dktX0_theirs_1 : List UInt8 := dkwX0_theirs_1 ++ dktX0_theirs_2
def dkwX0_theirs_0 : List UInt8 := [27, 184, 0, 172, 153, 0, 19, 28, 4, 5, 184, 0, 9, 153, 0, 10, 29, 184, 0, 17, 154, 0, 9, 42]
abbrev dktX0_theirs_0 : List UInt8 := dkwX0_theirs_0 ++ dktX0_theirs_1
theorem dksX0_theirs_0 : cX0_theirs.data.toList.drop 0 = dktX0_theirs_0 := by decide +kernel
theorem dksX0_theirs_1 : cX0_theirs.data.toList.drop 24 = dktX0_theirs_1 := dk_seg dksX0_theirs_0 24 rfl rfl
theorem dksX0_theirs_2 : cX0_theirs.data.toList.drop 48 = dktX0_theirs_2 := dk_seg dksX0_theirs_1 24 rfl rfl
theorem dX0_theirs_0 : decode cX0_theirs 0 = .ok (.iload_n 1, 1) := dk_27 (dk_at dksX0_theirs_0 0 rfl rfl)
theorem dX0_theirs_1 : decode cX0_theirs 1 = .ok (.invokestatic 172, 3) := dk_184 0 172 (dk_at dksX0_theirs_0 1 rfl rfl)
theorem dX0_theirs_4 : decode cX0_theirs 4 = .ok (.ifCond .eq 19, 3) := dk_153 0 19 (dk_at dksX0_theirs_0 4 rfl rfl)
theorem dX0_theirs_7 : decode cX0_theirs 7 = .ok (.iload_n 2, 1) := dk_28 (dk_at dksX0_theirs_0 7 rfl rfl)
theorem dX0_theirs_8 : decode cX0_theirs 8 = .ok (.iconst 1, 1) := dk_4 (dk_at dksX0_theirs_0 8 rfl rfl)
theorem dX0_theirs_9 : decode cX0_theirs 9 = .ok (.iconst 2, 1) := dk_5 (dk_at dksX0_theirs_0 9 rfl rfl)
theorem dX0_theirs_10 : decode cX0_theirs 10 = .ok (.invokestatic 9, 3) := dk_184 0 9 (dk_at dksX0_theirs_0 10 rfl rfl)
theorem dX0_theirs_13 : decode cX0_theirs 13 = .ok (.ifCond .eq 10, 3) := dk_153 0 10 (dk_at dksX0_theirs_0 13 rfl rfl)
theorem dX0_theirs_16 : decode cX0_theirs 16 = .ok (.iload_n 3, 1) := dk_29 (dk_at dksX0_theirs_0 16 rfl rfl)
theorem dX0_theirs_17 : decode cX0_theirs 17 = .ok (.invokestatic 17, 3) := dk_184 0 17 (dk_at dksX0_theirs_0 17 rfl rfl)
theorem dX0_theirs_20 : decode cX0_theirs 20 = .ok (.ifCond .ne 9, 3) := dk_154 0 9 (dk_at dksX0_theirs_0 20 rfl rfl)
theorem dX0_theirs_23 : decode cX0_theirs 23 = .ok (.aload_n 0, 1) := dk_42 (dk_at dksX0_theirs_0 23 rfl rfl)
theorem dX0_theirs_24 : decode cX0_theirs 24 = .ok (.iconst 0, 1) := dk_3 (dk_at dksX0_theirs_1 0 rfl rfl)
theorem dX0_theirs_25 : decode cX0_theirs 25 = .ok (.invokevirtual 126, 3) := dk_182 0 126 (dk_at dksX0_theirs_1 1 rfl rfl)
theorem dX0_theirs_28 : decode cX0_theirs 28 = .ok (.ireturn, 1) := dk_172 (dk_at dksX0_theirs_1 4 rfl rfl)
theorem dX0_theirs_29 : decode cX0_theirs 29 = .ok (.aload_n 0, 1) := dk_42 (dk_at dksX0_theirs_1 5 rfl rfl)
theorem dX0_theirs_30 : decode cX0_theirs 30 = .ok (.getfield 76, 3) := dk_180 0 76 (dk_at dksX0_theirs_1 6 rfl rfl)
theorem dX0_theirs_33 : decode cX0_theirs 33 = .ok (.getfield 181, 3) := dk_180 0 181 (dk_at dksX0_theirs_1 9 rfl rfl)
theorem dX0_theirs_36 : decode cX0_theirs 36 = .ok (.iload_n 2, 1) := dk_28 (dk_at dksX0_theirs_1 12 rfl rfl)
theorem dX0_theirs_37 : decode cX0_theirs 37 = .ok (.iconst 1, 1) := dk_4 (dk_at dksX0_theirs_1 13 rfl rfl)
theorem dX0_theirs_38 : decode cX0_theirs 38 = .ok (.isub, 1) := dk_100 (dk_at dksX0_theirs_1 14 rfl rfl)
theorem dX0_theirs_39 : decode cX0_theirs 39 = .ok (.aaload, 1) := dk_50 (dk_at dksX0_theirs_1 15 rfl rfl)
theorem dX0_theirs_40 : decode cX0_theirs 40 = .ok (.iload_n 1, 1) := dk_27 (dk_at dksX0_theirs_1 16 rfl rfl)
theorem dX0_theirs_41 : decode cX0_theirs 41 = .ok (.iaload, 1) := dk_46 (dk_at dksX0_theirs_1 17 rfl rfl)
theorem dX0_theirs_42 : decode cX0_theirs 42 = .ok (.istore 4, 2) := dk_54 4 (dk_at dksX0_theirs_1 18 rfl rfl)
theorem dX0_theirs_44 : decode cX0_theirs 44 = .ok (.aload_n 0, 1) := dk_42 (dk_at dksX0_theirs_1 20 rfl rfl)
theorem dX0_theirs_45 : decode cX0_theirs 45 = .ok (.getfield 76, 3) := dk_180 0 76 (dk_at dksX0_theirs_1 21 rfl rfl)
theorem dX0_theirs_48 : decode cX0_theirs 48 = .ok (.getfield 181, 3) := dk_180 0 181 (dk_at dksX0_theirs_2 0 rfl rfl)
theorem dX0_theirs_51 : decode cX0_theirs 51 = .ok (.iload_n 2, 1) := dk_28 (dk_at dksX0_theirs_2 3 rfl rfl)
theorem dX0_theirs_52 : decode cX0_theirs 52 = .ok (.iconst 1, 1) := dk_4 (dk_at dksX0_theirs_2 4 rfl rfl)
theorem dX0_theirs_53 : decode cX0_theirs 53 = .ok (.isub, 1) := dk_100 (dk_at dksX0_theirs_2 5 rfl rfl)
theorem dX0_theirs_54 : decode cX0_theirs 54 = .ok (.aaload, 1) := dk_50 (dk_at dksX0_theirs_2 6 rfl rfl)
theorem dX0_theirs_55 : decode cX0_theirs 55 = .ok (.iload_n 1, 1) := dk_27 (dk_at dksX0_theirs_2 7 rfl rfl)
theorem dX0_theirs_56 : decode cX0_theirs 56 = .ok (.iload_n 3, 1) := dk_29 (dk_at dksX0_theirs_2 8 rfl rfl)
theorem dX0_theirs_57 : decode cX0_theirs 57 = .ok (.iastore, 1) := dk_79 (dk_at dksX0_theirs_2 9 rfl rfl)
theorem dX0_theirs_58 : decode cX0_theirs 58 = .ok (.iload 4, 2) := dk_21 4 (dk_at dksX0_theirs_2 10 rfl rfl)
theorem dX0_theirs_60 : decode cX0_theirs 60 = .ok (.ireturn, 1) := dk_172 (dk_at dksX0_theirs_2 12 rfl rfl)
abbrev cX0_isHigh : ByteArray := prog_1_method_11_code
def yX0_isHigh : MethodName := ⟨RX0, "isHigh", "(I)Z"⟩
def dkwX0_isHigh_0 : List UInt8 := [26, 3, 16, 99, 184, 0, 9, 172]
abbrev dktX0_isHigh_0 : List UInt8 := dkwX0_isHigh_0 ++ []
theorem dksX0_isHigh_0 : cX0_isHigh.data.toList.drop 0 = dktX0_isHigh_0 := by decide +kernel
theorem dX0_isHigh_0 : decode cX0_isHigh 0 = .ok (.iload_n 0, 1) := dk_26 (dk_at dksX0_isHigh_0 0 rfl rfl)
theorem dX0_isHigh_1 : decode cX0_isHigh 1 = .ok (.iconst 0, 1) := dk_3 (dk_at dksX0_isHigh_0 1 rfl rfl)
theorem dX0_isHigh_2 : decode cX0_isHigh 2 = .ok (.bipush 99, 2) := dk_16 99 (dk_at dksX0_isHigh_0 2 rfl rfl)
theorem dX0_isHigh_4 : decode cX0_isHigh 4 = .ok (.invokestatic 9, 3) := dk_184 0 9 (dk_at dksX0_isHigh_0 4 rfl rfl)
theorem dX0_isHigh_7 : decode cX0_isHigh 7 = .ok (.ireturn, 1) := dk_172 (dk_at dksX0_isHigh_0 7 rfl rfl)
abbrev cX0_set : ByteArray := prog_1_method_30_code
def yX0_set : MethodName := ⟨RX0, "set", "(II)I"⟩
def dkwX0_set_2 : List UInt8 := [42, 180, 0, 76, 180, 0, 187, 27, 46, 54, 4, 42, 180, 0, 76, 180, 0, 187, 27, 28, 79, 21, 4, 172]
abbrev dktX0_set_2 : List UInt8 := dkwX0_set_2 ++ []
def dkwX0_set_1 : List UInt8 := [16, 9, 184, 0, 9, 153, 0, 7, 4, 167, 0, 4, 3, 62, 29, 154, 0, 9, 42, 3, 182, 0, 126, 172]
abbrev dktX0_set_1 : List UInt8 := dkwX0_set_1 ++ dktX0_set_2
def dkwX0_set_0 : List UInt8 := [27, 5, 160, 0, 10, 28, 184, 0, 184, 167, 0, 27, 27, 3, 4, 184, 0, 9, 153, 0, 17, 28, 3]
abbrev dktX0_set_0 : List UInt8 := dkwX0_set_0 ++ dktX0_set_1
theorem dksX0_set_0 : cX0_set.data.toList.drop 0 = dktX0_set_0 := by decide +kernel
theorem dksX0_set_1 : cX0_set.data.toList.drop 23 = dktX0_set_1 := dk_seg dksX0_set_0 23 rfl rfl
theorem dksX0_set_2 : cX0_set.data.toList.drop 47 = dktX0_set_2 := dk_seg dksX0_set_1 24 rfl rfl
theorem dX0_set_0 : decode cX0_set 0 = .ok (.iload_n 1, 1) := dk_27 (dk_at dksX0_set_0 0 rfl rfl)
theorem dX0_set_1 : decode cX0_set 1 = .ok (.iconst 2, 1) := dk_5 (dk_at dksX0_set_0 1 rfl rfl)
theorem dX0_set_2 : decode cX0_set 2 = .ok (.if_icmp .ne 10, 3) := dk_160 0 10 (dk_at dksX0_set_0 2 rfl rfl)
theorem dX0_set_5 : decode cX0_set 5 = .ok (.iload_n 2, 1) := dk_28 (dk_at dksX0_set_0 5 rfl rfl)
theorem dX0_set_6 : decode cX0_set 6 = .ok (.invokestatic 184, 3) := dk_184 0 184 (dk_at dksX0_set_0 6 rfl rfl)
theorem dX0_set_9 : decode cX0_set 9 = .ok (.goto 27, 3) := dk_167 0 27 (dk_at dksX0_set_0 9 rfl rfl)
theorem dX0_set_12 : decode cX0_set 12 = .ok (.iload_n 1, 1) := dk_27 (dk_at dksX0_set_0 12 rfl rfl)
theorem dX0_set_13 : decode cX0_set 13 = .ok (.iconst 0, 1) := dk_3 (dk_at dksX0_set_0 13 rfl rfl)
theorem dX0_set_14 : decode cX0_set 14 = .ok (.iconst 1, 1) := dk_4 (dk_at dksX0_set_0 14 rfl rfl)
theorem dX0_set_15 : decode cX0_set 15 = .ok (.invokestatic 9, 3) := dk_184 0 9 (dk_at dksX0_set_0 15 rfl rfl)
theorem dX0_set_18 : decode cX0_set 18 = .ok (.ifCond .eq 17, 3) := dk_153 0 17 (dk_at dksX0_set_0 18 rfl rfl)
theorem dX0_set_21 : decode cX0_set 21 = .ok (.iload_n 2, 1) := dk_28 (dk_at dksX0_set_0 21 rfl rfl)
theorem dX0_set_22 : decode cX0_set 22 = .ok (.iconst 0, 1) := dk_3 (dk_at dksX0_set_0 22 rfl rfl)
theorem dX0_set_23 : decode cX0_set 23 = .ok (.bipush 9, 2) := dk_16 9 (dk_at dksX0_set_1 0 rfl rfl)
theorem dX0_set_25 : decode cX0_set 25 = .ok (.invokestatic 9, 3) := dk_184 0 9 (dk_at dksX0_set_1 2 rfl rfl)
theorem dX0_set_28 : decode cX0_set 28 = .ok (.ifCond .eq 7, 3) := dk_153 0 7 (dk_at dksX0_set_1 5 rfl rfl)
theorem dX0_set_31 : decode cX0_set 31 = .ok (.iconst 1, 1) := dk_4 (dk_at dksX0_set_1 8 rfl rfl)
theorem dX0_set_32 : decode cX0_set 32 = .ok (.goto 4, 3) := dk_167 0 4 (dk_at dksX0_set_1 9 rfl rfl)
theorem dX0_set_35 : decode cX0_set 35 = .ok (.iconst 0, 1) := dk_3 (dk_at dksX0_set_1 12 rfl rfl)
theorem dX0_set_36 : decode cX0_set 36 = .ok (.istore_n 3, 1) := dk_62 (dk_at dksX0_set_1 13 rfl rfl)
theorem dX0_set_37 : decode cX0_set 37 = .ok (.iload_n 3, 1) := dk_29 (dk_at dksX0_set_1 14 rfl rfl)
theorem dX0_set_38 : decode cX0_set 38 = .ok (.ifCond .ne 9, 3) := dk_154 0 9 (dk_at dksX0_set_1 15 rfl rfl)
theorem dX0_set_41 : decode cX0_set 41 = .ok (.aload_n 0, 1) := dk_42 (dk_at dksX0_set_1 18 rfl rfl)
theorem dX0_set_42 : decode cX0_set 42 = .ok (.iconst 0, 1) := dk_3 (dk_at dksX0_set_1 19 rfl rfl)
theorem dX0_set_43 : decode cX0_set 43 = .ok (.invokevirtual 126, 3) := dk_182 0 126 (dk_at dksX0_set_1 20 rfl rfl)
theorem dX0_set_46 : decode cX0_set 46 = .ok (.ireturn, 1) := dk_172 (dk_at dksX0_set_1 23 rfl rfl)
theorem dX0_set_47 : decode cX0_set 47 = .ok (.aload_n 0, 1) := dk_42 (dk_at dksX0_set_2 0 rfl rfl)
theorem dX0_set_48 : decode cX0_set 48 = .ok (.getfield 76, 3) := dk_180 0 76 (dk_at dksX0_set_2 1 rfl rfl)
theorem dX0_set_51 : decode cX0_set 51 = .ok (.getfield 187, 3) := dk_180 0 187 (dk_at dksX0_set_2 4 rfl rfl)
theorem dX0_set_54 : decode cX0_set 54 = .ok (.iload_n 1, 1) := dk_27 (dk_at dksX0_set_2 7 rfl rfl)
theorem dX0_set_55 : decode cX0_set 55 = .ok (.iaload, 1) := dk_46 (dk_at dksX0_set_2 8 rfl rfl)
theorem dX0_set_56 : decode cX0_set 56 = .ok (.istore 4, 2) := dk_54 4 (dk_at dksX0_set_2 9 rfl rfl)
theorem dX0_set_58 : decode cX0_set 58 = .ok (.aload_n 0, 1) := dk_42 (dk_at dksX0_set_2 11 rfl rfl)
theorem dX0_set_59 : decode cX0_set 59 = .ok (.getfield 76, 3) := dk_180 0 76 (dk_at dksX0_set_2 12 rfl rfl)
theorem dX0_set_62 : decode cX0_set 62 = .ok (.getfield 187, 3) := dk_180 0 187 (dk_at dksX0_set_2 15 rfl rfl)
theorem dX0_set_65 : decode cX0_set 65 = .ok (.iload_n 1, 1) := dk_27 (dk_at dksX0_set_2 18 rfl rfl)
theorem dX0_set_66 : decode cX0_set 66 = .ok (.iload_n 2, 1) := dk_28 (dk_at dksX0_set_2 19 rfl rfl)
theorem dX0_set_67 : decode cX0_set 67 = .ok (.iastore, 1) := dk_79 (dk_at dksX0_set_2 20 rfl rfl)
theorem dX0_set_68 : decode cX0_set 68 = .ok (.iload 4, 2) := dk_21 4 (dk_at dksX0_set_2 21 rfl rfl)
theorem dX0_set_70 : decode cX0_set 70 = .ok (.ireturn, 1) := dk_172 (dk_at dksX0_set_2 23 rfl rfl)
abbrev cX0_isCode : ByteArray := prog_1_method_10_code
def yX0_isCode : MethodName := ⟨RX0, "isCode", "(I)Z"⟩
def dkwX0_isCode_0 : List UInt8 := [26, 3, 7, 184, 0, 9, 172]
abbrev dktX0_isCode_0 : List UInt8 := dkwX0_isCode_0 ++ []
theorem dksX0_isCode_0 : cX0_isCode.data.toList.drop 0 = dktX0_isCode_0 := by decide +kernel
theorem dX0_isCode_0 : decode cX0_isCode 0 = .ok (.iload_n 0, 1) := dk_26 (dk_at dksX0_isCode_0 0 rfl rfl)
theorem dX0_isCode_1 : decode cX0_isCode 1 = .ok (.iconst 0, 1) := dk_3 (dk_at dksX0_isCode_0 1 rfl rfl)
theorem dX0_isCode_2 : decode cX0_isCode 2 = .ok (.iconst 4, 1) := dk_7 (dk_at dksX0_isCode_0 2 rfl rfl)
theorem dX0_isCode_3 : decode cX0_isCode 3 = .ok (.invokestatic 9, 3) := dk_184 0 9 (dk_at dksX0_isCode_0 3 rfl rfl)
theorem dX0_isCode_6 : decode cX0_isCode 6 = .ok (.ireturn, 1) := dk_172 (dk_at dksX0_isCode_0 6 rfl rfl)
abbrev cX0_call : ByteArray := prog_1_method_31_code
def yX0_call : MethodName := ⟨RX0, "call", "(II)I"⟩
def dkwX0_call_1 : List UInt8 := [180, 0, 196, 27, 46, 62, 42, 180, 0, 76, 180, 0, 196, 27, 28, 79, 29, 172]
abbrev dktX0_call_1 : List UInt8 := dkwX0_call_1 ++ []
def dkwX0_call_0 : List UInt8 := [27, 184, 0, 190, 153, 0, 10, 28, 184, 0, 193, 154, 0, 9, 42, 3, 182, 0, 126, 172, 42, 180, 0, 76]
abbrev dktX0_call_0 : List UInt8 := dkwX0_call_0 ++ dktX0_call_1
theorem dksX0_call_0 : cX0_call.data.toList.drop 0 = dktX0_call_0 := by decide +kernel
theorem dksX0_call_1 : cX0_call.data.toList.drop 24 = dktX0_call_1 := dk_seg dksX0_call_0 24 rfl rfl
theorem dX0_call_0 : decode cX0_call 0 = .ok (.iload_n 1, 1) := dk_27 (dk_at dksX0_call_0 0 rfl rfl)
theorem dX0_call_1 : decode cX0_call 1 = .ok (.invokestatic 190, 3) := dk_184 0 190 (dk_at dksX0_call_0 1 rfl rfl)
theorem dX0_call_4 : decode cX0_call 4 = .ok (.ifCond .eq 10, 3) := dk_153 0 10 (dk_at dksX0_call_0 4 rfl rfl)
theorem dX0_call_7 : decode cX0_call 7 = .ok (.iload_n 2, 1) := dk_28 (dk_at dksX0_call_0 7 rfl rfl)
theorem dX0_call_8 : decode cX0_call 8 = .ok (.invokestatic 193, 3) := dk_184 0 193 (dk_at dksX0_call_0 8 rfl rfl)
theorem dX0_call_11 : decode cX0_call 11 = .ok (.ifCond .ne 9, 3) := dk_154 0 9 (dk_at dksX0_call_0 11 rfl rfl)
theorem dX0_call_14 : decode cX0_call 14 = .ok (.aload_n 0, 1) := dk_42 (dk_at dksX0_call_0 14 rfl rfl)
theorem dX0_call_15 : decode cX0_call 15 = .ok (.iconst 0, 1) := dk_3 (dk_at dksX0_call_0 15 rfl rfl)
theorem dX0_call_16 : decode cX0_call 16 = .ok (.invokevirtual 126, 3) := dk_182 0 126 (dk_at dksX0_call_0 16 rfl rfl)
theorem dX0_call_19 : decode cX0_call 19 = .ok (.ireturn, 1) := dk_172 (dk_at dksX0_call_0 19 rfl rfl)
theorem dX0_call_20 : decode cX0_call 20 = .ok (.aload_n 0, 1) := dk_42 (dk_at dksX0_call_0 20 rfl rfl)
theorem dX0_call_21 : decode cX0_call 21 = .ok (.getfield 76, 3) := dk_180 0 76 (dk_at dksX0_call_0 21 rfl rfl)
theorem dX0_call_24 : decode cX0_call 24 = .ok (.getfield 196, 3) := dk_180 0 196 (dk_at dksX0_call_1 0 rfl rfl)
theorem dX0_call_27 : decode cX0_call 27 = .ok (.iload_n 1, 1) := dk_27 (dk_at dksX0_call_1 3 rfl rfl)
theorem dX0_call_28 : decode cX0_call 28 = .ok (.iaload, 1) := dk_46 (dk_at dksX0_call_1 4 rfl rfl)
theorem dX0_call_29 : decode cX0_call 29 = .ok (.istore_n 3, 1) := dk_62 (dk_at dksX0_call_1 5 rfl rfl)
theorem dX0_call_30 : decode cX0_call 30 = .ok (.aload_n 0, 1) := dk_42 (dk_at dksX0_call_1 6 rfl rfl)
theorem dX0_call_31 : decode cX0_call 31 = .ok (.getfield 76, 3) := dk_180 0 76 (dk_at dksX0_call_1 7 rfl rfl)
theorem dX0_call_34 : decode cX0_call 34 = .ok (.getfield 196, 3) := dk_180 0 196 (dk_at dksX0_call_1 10 rfl rfl)
theorem dX0_call_37 : decode cX0_call 37 = .ok (.iload_n 1, 1) := dk_27 (dk_at dksX0_call_1 13 rfl rfl)
theorem dX0_call_38 : decode cX0_call 38 = .ok (.iload_n 2, 1) := dk_28 (dk_at dksX0_call_1 14 rfl rfl)
theorem dX0_call_39 : decode cX0_call 39 = .ok (.iastore, 1) := dk_79 (dk_at dksX0_call_1 15 rfl rfl)
theorem dX0_call_40 : decode cX0_call 40 = .ok (.iload_n 3, 1) := dk_29 (dk_at dksX0_call_1 16 rfl rfl)
theorem dX0_call_41 : decode cX0_call 41 = .ok (.ireturn, 1) := dk_172 (dk_at dksX0_call_1 17 rfl rfl)
abbrev cX0_isListed : ByteArray := prog_1_method_8_code
def yX0_isListed : MethodName := ⟨RX0, "isListed", "(I)Z"⟩
def dkwX0_isListed_0 : List UInt8 := [26, 3, 8, 184, 0, 9, 172]
abbrev dktX0_isListed_0 : List UInt8 := dkwX0_isListed_0 ++ []
theorem dksX0_isListed_0 : cX0_isListed.data.toList.drop 0 = dktX0_isListed_0 := by decide +kernel
theorem dX0_isListed_0 : decode cX0_isListed 0 = .ok (.iload_n 0, 1) := dk_26 (dk_at dksX0_isListed_0 0 rfl rfl)
theorem dX0_isListed_1 : decode cX0_isListed 1 = .ok (.iconst 0, 1) := dk_3 (dk_at dksX0_isListed_0 1 rfl rfl)
theorem dX0_isListed_2 : decode cX0_isListed 2 = .ok (.iconst 5, 1) := dk_8 (dk_at dksX0_isListed_0 2 rfl rfl)
theorem dX0_isListed_3 : decode cX0_isListed 3 = .ok (.invokestatic 9, 3) := dk_184 0 9 (dk_at dksX0_isListed_0 3 rfl rfl)
theorem dX0_isListed_6 : decode cX0_isListed 6 = .ok (.ireturn, 1) := dk_172 (dk_at dksX0_isListed_0 6 rfl rfl)
abbrev cX0_isCall : ByteArray := prog_1_method_9_code
def yX0_isCall : MethodName := ⟨RX0, "isCall", "(I)Z"⟩
def dkwX0_isCall_0 : List UInt8 := [26, 3, 17, 3, 231, 184, 0, 9, 172]
abbrev dktX0_isCall_0 : List UInt8 := dkwX0_isCall_0 ++ []
theorem dksX0_isCall_0 : cX0_isCall.data.toList.drop 0 = dktX0_isCall_0 := by decide +kernel
theorem dX0_isCall_0 : decode cX0_isCall 0 = .ok (.iload_n 0, 1) := dk_26 (dk_at dksX0_isCall_0 0 rfl rfl)
theorem dX0_isCall_1 : decode cX0_isCall 1 = .ok (.iconst 0, 1) := dk_3 (dk_at dksX0_isCall_0 1 rfl rfl)
theorem dX0_isCall_2 : decode cX0_isCall 2 = .ok (.sipush 999, 3) := dk_17 3 231 (dk_at dksX0_isCall_0 2 rfl rfl)
theorem dX0_isCall_5 : decode cX0_isCall 5 = .ok (.invokestatic 9, 3) := dk_184 0 9 (dk_at dksX0_isCall_0 5 rfl rfl)
theorem dX0_isCall_8 : decode cX0_isCall 8 = .ok (.ireturn, 1) := dk_172 (dk_at dksX0_isCall_0 8 rfl rfl)
abbrev cX0_listed : ByteArray := prog_1_method_32_code
def yX0_listed : MethodName := ⟨RX0, "listed", "(I)I"⟩
def dkwX0_listed_1 : List UInt8 := [172]
abbrev dktX0_listed_1 : List UInt8 := dkwX0_listed_1 ++ []
def dkwX0_listed_0 : List UInt8 := [27, 184, 0, 190, 153, 0, 15, 42, 180, 0, 76, 180, 0, 196, 27, 46, 167, 0, 8, 42, 3, 182, 0, 126]
abbrev dktX0_listed_0 : List UInt8 := dkwX0_listed_0 ++ dktX0_listed_1
theorem dksX0_listed_0 : cX0_listed.data.toList.drop 0 = dktX0_listed_0 := by decide +kernel
theorem dksX0_listed_1 : cX0_listed.data.toList.drop 24 = dktX0_listed_1 := dk_seg dksX0_listed_0 24 rfl rfl
theorem dX0_listed_0 : decode cX0_listed 0 = .ok (.iload_n 1, 1) := dk_27 (dk_at dksX0_listed_0 0 rfl rfl)
theorem dX0_listed_1 : decode cX0_listed 1 = .ok (.invokestatic 190, 3) := dk_184 0 190 (dk_at dksX0_listed_0 1 rfl rfl)
theorem dX0_listed_4 : decode cX0_listed 4 = .ok (.ifCond .eq 15, 3) := dk_153 0 15 (dk_at dksX0_listed_0 4 rfl rfl)
theorem dX0_listed_7 : decode cX0_listed 7 = .ok (.aload_n 0, 1) := dk_42 (dk_at dksX0_listed_0 7 rfl rfl)
theorem dX0_listed_8 : decode cX0_listed 8 = .ok (.getfield 76, 3) := dk_180 0 76 (dk_at dksX0_listed_0 8 rfl rfl)
theorem dX0_listed_11 : decode cX0_listed 11 = .ok (.getfield 196, 3) := dk_180 0 196 (dk_at dksX0_listed_0 11 rfl rfl)
theorem dX0_listed_14 : decode cX0_listed 14 = .ok (.iload_n 1, 1) := dk_27 (dk_at dksX0_listed_0 14 rfl rfl)
theorem dX0_listed_15 : decode cX0_listed 15 = .ok (.iaload, 1) := dk_46 (dk_at dksX0_listed_0 15 rfl rfl)
theorem dX0_listed_16 : decode cX0_listed 16 = .ok (.goto 8, 3) := dk_167 0 8 (dk_at dksX0_listed_0 16 rfl rfl)
theorem dX0_listed_19 : decode cX0_listed 19 = .ok (.aload_n 0, 1) := dk_42 (dk_at dksX0_listed_0 19 rfl rfl)
theorem dX0_listed_20 : decode cX0_listed 20 = .ok (.iconst 0, 1) := dk_3 (dk_at dksX0_listed_0 20 rfl rfl)
theorem dX0_listed_21 : decode cX0_listed 21 = .ok (.invokevirtual 126, 3) := dk_182 0 126 (dk_at dksX0_listed_0 21 rfl rfl)
theorem dX0_listed_24 : decode cX0_listed 24 = .ok (.ireturn, 1) := dk_172 (dk_at dksX0_listed_1 0 rfl rfl)
abbrev cX0_says : ByteArray := prog_1_method_33_code
def yX0_says : MethodName := ⟨RX0, "says", "(II)I"⟩
def dkwX0_says_1 : List UInt8 := [182, 0, 126, 172]
abbrev dktX0_says_1 : List UInt8 := dkwX0_says_1 ++ []
def dkwX0_says_0 : List UInt8 := [27, 184, 0, 193, 153, 0, 18, 28, 184, 0, 184, 153, 0, 11, 27, 28, 184, 0, 199, 167, 0, 8, 42, 3]
abbrev dktX0_says_0 : List UInt8 := dkwX0_says_0 ++ dktX0_says_1
theorem dksX0_says_0 : cX0_says.data.toList.drop 0 = dktX0_says_0 := by decide +kernel
theorem dksX0_says_1 : cX0_says.data.toList.drop 24 = dktX0_says_1 := dk_seg dksX0_says_0 24 rfl rfl
theorem dX0_says_0 : decode cX0_says 0 = .ok (.iload_n 1, 1) := dk_27 (dk_at dksX0_says_0 0 rfl rfl)
theorem dX0_says_1 : decode cX0_says 1 = .ok (.invokestatic 193, 3) := dk_184 0 193 (dk_at dksX0_says_0 1 rfl rfl)
theorem dX0_says_4 : decode cX0_says 4 = .ok (.ifCond .eq 18, 3) := dk_153 0 18 (dk_at dksX0_says_0 4 rfl rfl)
theorem dX0_says_7 : decode cX0_says 7 = .ok (.iload_n 2, 1) := dk_28 (dk_at dksX0_says_0 7 rfl rfl)
theorem dX0_says_8 : decode cX0_says 8 = .ok (.invokestatic 184, 3) := dk_184 0 184 (dk_at dksX0_says_0 8 rfl rfl)
theorem dX0_says_11 : decode cX0_says 11 = .ok (.ifCond .eq 11, 3) := dk_153 0 11 (dk_at dksX0_says_0 11 rfl rfl)
theorem dX0_says_14 : decode cX0_says 14 = .ok (.iload_n 1, 1) := dk_27 (dk_at dksX0_says_0 14 rfl rfl)
theorem dX0_says_15 : decode cX0_says 15 = .ok (.iload_n 2, 1) := dk_28 (dk_at dksX0_says_0 15 rfl rfl)
theorem dX0_says_16 : decode cX0_says 16 = .ok (.invokestatic 199, 3) := dk_184 0 199 (dk_at dksX0_says_0 16 rfl rfl)
theorem dX0_says_19 : decode cX0_says 19 = .ok (.goto 8, 3) := dk_167 0 8 (dk_at dksX0_says_0 19 rfl rfl)
theorem dX0_says_22 : decode cX0_says 22 = .ok (.aload_n 0, 1) := dk_42 (dk_at dksX0_says_0 22 rfl rfl)
theorem dX0_says_23 : decode cX0_says 23 = .ok (.iconst 0, 1) := dk_3 (dk_at dksX0_says_0 23 rfl rfl)
theorem dX0_says_24 : decode cX0_says 24 = .ok (.invokevirtual 126, 3) := dk_182 0 126 (dk_at dksX0_says_1 0 rfl rfl)
theorem dX0_says_27 : decode cX0_says 27 = .ok (.ireturn, 1) := dk_172 (dk_at dksX0_says_1 3 rfl rfl)
abbrev cX0_placeOf : ByteArray := prog_1_method_15_code
def yX0_placeOf : MethodName := ⟨RX0, "placeOf", "(II)I"⟩
def dkwX0_placeOf_0 : List UInt8 := [26, 27, 184, 0, 26, 16, 7, 112, 172]
abbrev dktX0_placeOf_0 : List UInt8 := dkwX0_placeOf_0 ++ []
theorem dksX0_placeOf_0 : cX0_placeOf.data.toList.drop 0 = dktX0_placeOf_0 := by decide +kernel
theorem dX0_placeOf_0 : decode cX0_placeOf 0 = .ok (.iload_n 0, 1) := dk_26 (dk_at dksX0_placeOf_0 0 rfl rfl)
theorem dX0_placeOf_1 : decode cX0_placeOf 1 = .ok (.iload_n 1, 1) := dk_27 (dk_at dksX0_placeOf_0 1 rfl rfl)
theorem dX0_placeOf_2 : decode cX0_placeOf 2 = .ok (.invokestatic 26, 3) := dk_184 0 26 (dk_at dksX0_placeOf_0 2 rfl rfl)
theorem dX0_placeOf_5 : decode cX0_placeOf 5 = .ok (.bipush 7, 2) := dk_16 7 (dk_at dksX0_placeOf_0 5 rfl rfl)
theorem dX0_placeOf_7 : decode cX0_placeOf 7 = .ok (.irem, 1) := dk_112 (dk_at dksX0_placeOf_0 7 rfl rfl)
theorem dX0_placeOf_8 : decode cX0_placeOf 8 = .ok (.ireturn, 1) := dk_172 (dk_at dksX0_placeOf_0 8 rfl rfl)
abbrev cX0_counts : ByteArray := prog_1_method_14_code
def yX0_counts : MethodName := ⟨RX0, "counts", "(II)I"⟩
def dkwX0_counts_3 : List UInt8 := [29, 5, 112, 4, 160, 0, 7, 6, 167, 0, 5, 16, 6, 172, 26, 184, 0, 23, 172]
abbrev dktX0_counts_3 : List UInt8 := dkwX0_counts_3 ++ []
def dkwX0_counts_2 : List UInt8 := [21, 4, 172, 28, 29, 96, 21, 4, 96, 172, 28, 172, 21, 4, 5, 112, 4, 160, 0, 7, 3, 167, 0, 16]
abbrev dktX0_counts_2 : List UInt8 := dkwX0_counts_2 ++ dktX0_counts_3
def dkwX0_counts_1 : List UInt8 := [170, 0, 0, 0, 0, 0, 0, 70, 0, 0, 0, 0, 0, 0, 0, 3, 0, 0, 0, 32, 0, 0, 0, 35, 0, 0, 0, 42, 0, 0, 0, 44]
abbrev dktX0_counts_1 : List UInt8 := dkwX0_counts_1 ++ dktX0_counts_2
def dkwX0_counts_0 : List UInt8 := [26, 16, 100, 108, 61, 26, 16, 10, 108, 16, 10, 112, 62, 26, 16, 10, 112, 54, 4, 27]
abbrev dktX0_counts_0 : List UInt8 := dkwX0_counts_0 ++ dktX0_counts_1
theorem dksX0_counts_0 : cX0_counts.data.toList.drop 0 = dktX0_counts_0 := by decide +kernel
theorem dksX0_counts_1 : cX0_counts.data.toList.drop 20 = dktX0_counts_1 := dk_seg dksX0_counts_0 20 rfl rfl
theorem dksX0_counts_2 : cX0_counts.data.toList.drop 52 = dktX0_counts_2 := dk_seg dksX0_counts_1 32 rfl rfl
theorem dksX0_counts_3 : cX0_counts.data.toList.drop 76 = dktX0_counts_3 := dk_seg dksX0_counts_2 24 rfl rfl
theorem dX0_counts_0 : decode cX0_counts 0 = .ok (.iload_n 0, 1) := dk_26 (dk_at dksX0_counts_0 0 rfl rfl)
theorem dX0_counts_1 : decode cX0_counts 1 = .ok (.bipush 100, 2) := dk_16 100 (dk_at dksX0_counts_0 1 rfl rfl)
theorem dX0_counts_3 : decode cX0_counts 3 = .ok (.idiv, 1) := dk_108 (dk_at dksX0_counts_0 3 rfl rfl)
theorem dX0_counts_4 : decode cX0_counts 4 = .ok (.istore_n 2, 1) := dk_61 (dk_at dksX0_counts_0 4 rfl rfl)
theorem dX0_counts_5 : decode cX0_counts 5 = .ok (.iload_n 0, 1) := dk_26 (dk_at dksX0_counts_0 5 rfl rfl)
theorem dX0_counts_6 : decode cX0_counts 6 = .ok (.bipush 10, 2) := dk_16 10 (dk_at dksX0_counts_0 6 rfl rfl)
theorem dX0_counts_8 : decode cX0_counts 8 = .ok (.idiv, 1) := dk_108 (dk_at dksX0_counts_0 8 rfl rfl)
theorem dX0_counts_9 : decode cX0_counts 9 = .ok (.bipush 10, 2) := dk_16 10 (dk_at dksX0_counts_0 9 rfl rfl)
theorem dX0_counts_11 : decode cX0_counts 11 = .ok (.irem, 1) := dk_112 (dk_at dksX0_counts_0 11 rfl rfl)
theorem dX0_counts_12 : decode cX0_counts 12 = .ok (.istore_n 3, 1) := dk_62 (dk_at dksX0_counts_0 12 rfl rfl)
theorem dX0_counts_13 : decode cX0_counts 13 = .ok (.iload_n 0, 1) := dk_26 (dk_at dksX0_counts_0 13 rfl rfl)
theorem dX0_counts_14 : decode cX0_counts 14 = .ok (.bipush 10, 2) := dk_16 10 (dk_at dksX0_counts_0 14 rfl rfl)
theorem dX0_counts_16 : decode cX0_counts 16 = .ok (.irem, 1) := dk_112 (dk_at dksX0_counts_0 16 rfl rfl)
theorem dX0_counts_17 : decode cX0_counts 17 = .ok (.istore 4, 2) := dk_54 4 (dk_at dksX0_counts_0 17 rfl rfl)
theorem dX0_counts_19 : decode cX0_counts 19 = .ok (.iload_n 1, 1) := dk_27 (dk_at dksX0_counts_0 19 rfl rfl)
theorem dX0_counts_20 : decode cX0_counts 20 = .ok (.tableswitch 70 0 3 #[32, 35, 42, 44], 32) := by decide +kernel
theorem dX0_counts_52 : decode cX0_counts 52 = .ok (.iload 4, 2) := dk_21 4 (dk_at dksX0_counts_2 0 rfl rfl)
theorem dX0_counts_54 : decode cX0_counts 54 = .ok (.ireturn, 1) := dk_172 (dk_at dksX0_counts_2 2 rfl rfl)
theorem dX0_counts_55 : decode cX0_counts 55 = .ok (.iload_n 2, 1) := dk_28 (dk_at dksX0_counts_2 3 rfl rfl)
theorem dX0_counts_56 : decode cX0_counts 56 = .ok (.iload_n 3, 1) := dk_29 (dk_at dksX0_counts_2 4 rfl rfl)
theorem dX0_counts_57 : decode cX0_counts 57 = .ok (.iadd, 1) := dk_96 (dk_at dksX0_counts_2 5 rfl rfl)
theorem dX0_counts_58 : decode cX0_counts 58 = .ok (.iload 4, 2) := dk_21 4 (dk_at dksX0_counts_2 6 rfl rfl)
theorem dX0_counts_60 : decode cX0_counts 60 = .ok (.iadd, 1) := dk_96 (dk_at dksX0_counts_2 8 rfl rfl)
theorem dX0_counts_61 : decode cX0_counts 61 = .ok (.ireturn, 1) := dk_172 (dk_at dksX0_counts_2 9 rfl rfl)
theorem dX0_counts_62 : decode cX0_counts 62 = .ok (.iload_n 2, 1) := dk_28 (dk_at dksX0_counts_2 10 rfl rfl)
theorem dX0_counts_63 : decode cX0_counts 63 = .ok (.ireturn, 1) := dk_172 (dk_at dksX0_counts_2 11 rfl rfl)
theorem dX0_counts_64 : decode cX0_counts 64 = .ok (.iload 4, 2) := dk_21 4 (dk_at dksX0_counts_2 12 rfl rfl)
theorem dX0_counts_66 : decode cX0_counts 66 = .ok (.iconst 2, 1) := dk_5 (dk_at dksX0_counts_2 14 rfl rfl)
theorem dX0_counts_67 : decode cX0_counts 67 = .ok (.irem, 1) := dk_112 (dk_at dksX0_counts_2 15 rfl rfl)
theorem dX0_counts_68 : decode cX0_counts 68 = .ok (.iconst 1, 1) := dk_4 (dk_at dksX0_counts_2 16 rfl rfl)
theorem dX0_counts_69 : decode cX0_counts 69 = .ok (.if_icmp .ne 7, 3) := dk_160 0 7 (dk_at dksX0_counts_2 17 rfl rfl)
theorem dX0_counts_72 : decode cX0_counts 72 = .ok (.iconst 0, 1) := dk_3 (dk_at dksX0_counts_2 20 rfl rfl)
theorem dX0_counts_73 : decode cX0_counts 73 = .ok (.goto 16, 3) := dk_167 0 16 (dk_at dksX0_counts_2 21 rfl rfl)
theorem dX0_counts_76 : decode cX0_counts 76 = .ok (.iload_n 3, 1) := dk_29 (dk_at dksX0_counts_3 0 rfl rfl)
theorem dX0_counts_77 : decode cX0_counts 77 = .ok (.iconst 2, 1) := dk_5 (dk_at dksX0_counts_3 1 rfl rfl)
theorem dX0_counts_78 : decode cX0_counts 78 = .ok (.irem, 1) := dk_112 (dk_at dksX0_counts_3 2 rfl rfl)
theorem dX0_counts_79 : decode cX0_counts 79 = .ok (.iconst 1, 1) := dk_4 (dk_at dksX0_counts_3 3 rfl rfl)
theorem dX0_counts_80 : decode cX0_counts 80 = .ok (.if_icmp .ne 7, 3) := dk_160 0 7 (dk_at dksX0_counts_3 4 rfl rfl)
theorem dX0_counts_83 : decode cX0_counts 83 = .ok (.iconst 3, 1) := dk_6 (dk_at dksX0_counts_3 7 rfl rfl)
theorem dX0_counts_84 : decode cX0_counts 84 = .ok (.goto 5, 3) := dk_167 0 5 (dk_at dksX0_counts_3 8 rfl rfl)
theorem dX0_counts_87 : decode cX0_counts 87 = .ok (.bipush 6, 2) := dk_16 6 (dk_at dksX0_counts_3 11 rfl rfl)
theorem dX0_counts_89 : decode cX0_counts 89 = .ok (.ireturn, 1) := dk_172 (dk_at dksX0_counts_3 13 rfl rfl)
theorem dX0_counts_90 : decode cX0_counts 90 = .ok (.iload_n 0, 1) := dk_26 (dk_at dksX0_counts_3 14 rfl rfl)
theorem dX0_counts_91 : decode cX0_counts 91 = .ok (.invokestatic 23, 3) := dk_184 0 23 (dk_at dksX0_counts_3 15 rfl rfl)
theorem dX0_counts_94 : decode cX0_counts 94 = .ok (.ireturn, 1) := dk_172 (dk_at dksX0_counts_3 18 rfl rfl)
abbrev cX0_ones : ByteArray := prog_1_method_3_code
def yX0_ones : MethodName := ⟨RX0, "ones", "(I)I"⟩
theorem dX0_ones_0 : decode cX0_ones 0 = .ok (.iload_n 0, 1) := by decide +kernel
theorem dX0_ones_1 : decode cX0_ones 1 = .ok (.invokestatic 1, 3) := by decide +kernel
theorem dX0_ones_4 : decode cX0_ones 4 = .ok (.ireturn, 1) := by decide +kernel
abbrev cX0_jumper : ByteArray := prog_1_method_34_code
def yX0_jumper : MethodName := ⟨RX0, "jumper", "(II)I"⟩
def dkwX0_jumper_2 : List UInt8 := [180, 0, 76, 180, 0, 124, 4, 100, 172]
abbrev dktX0_jumper_2 : List UInt8 := dkwX0_jumper_2 ++ []
def dkwX0_jumper_1 : List UInt8 := [180, 0, 124, 16, 8, 160, 0, 9, 42, 4, 182, 0, 126, 172, 42, 180, 0, 76, 27, 28, 182, 0, 202, 42]
abbrev dktX0_jumper_1 : List UInt8 := dkwX0_jumper_1 ++ dktX0_jumper_2
def dkwX0_jumper_0 : List UInt8 := [27, 184, 0, 13, 153, 0, 10, 28, 184, 0, 17, 154, 0, 9, 42, 3, 182, 0, 126, 172, 42, 180, 0, 76]
abbrev dktX0_jumper_0 : List UInt8 := dkwX0_jumper_0 ++ dktX0_jumper_1
theorem dksX0_jumper_0 : cX0_jumper.data.toList.drop 0 = dktX0_jumper_0 := by decide +kernel
theorem dksX0_jumper_1 : cX0_jumper.data.toList.drop 24 = dktX0_jumper_1 := dk_seg dksX0_jumper_0 24 rfl rfl
theorem dksX0_jumper_2 : cX0_jumper.data.toList.drop 48 = dktX0_jumper_2 := dk_seg dksX0_jumper_1 24 rfl rfl
theorem dX0_jumper_0 : decode cX0_jumper 0 = .ok (.iload_n 1, 1) := dk_27 (dk_at dksX0_jumper_0 0 rfl rfl)
theorem dX0_jumper_1 : decode cX0_jumper 1 = .ok (.invokestatic 13, 3) := dk_184 0 13 (dk_at dksX0_jumper_0 1 rfl rfl)
theorem dX0_jumper_4 : decode cX0_jumper 4 = .ok (.ifCond .eq 10, 3) := dk_153 0 10 (dk_at dksX0_jumper_0 4 rfl rfl)
theorem dX0_jumper_7 : decode cX0_jumper 7 = .ok (.iload_n 2, 1) := dk_28 (dk_at dksX0_jumper_0 7 rfl rfl)
theorem dX0_jumper_8 : decode cX0_jumper 8 = .ok (.invokestatic 17, 3) := dk_184 0 17 (dk_at dksX0_jumper_0 8 rfl rfl)
theorem dX0_jumper_11 : decode cX0_jumper 11 = .ok (.ifCond .ne 9, 3) := dk_154 0 9 (dk_at dksX0_jumper_0 11 rfl rfl)
theorem dX0_jumper_14 : decode cX0_jumper 14 = .ok (.aload_n 0, 1) := dk_42 (dk_at dksX0_jumper_0 14 rfl rfl)
theorem dX0_jumper_15 : decode cX0_jumper 15 = .ok (.iconst 0, 1) := dk_3 (dk_at dksX0_jumper_0 15 rfl rfl)
theorem dX0_jumper_16 : decode cX0_jumper 16 = .ok (.invokevirtual 126, 3) := dk_182 0 126 (dk_at dksX0_jumper_0 16 rfl rfl)
theorem dX0_jumper_19 : decode cX0_jumper 19 = .ok (.ireturn, 1) := dk_172 (dk_at dksX0_jumper_0 19 rfl rfl)
theorem dX0_jumper_20 : decode cX0_jumper 20 = .ok (.aload_n 0, 1) := dk_42 (dk_at dksX0_jumper_0 20 rfl rfl)
theorem dX0_jumper_21 : decode cX0_jumper 21 = .ok (.getfield 76, 3) := dk_180 0 76 (dk_at dksX0_jumper_0 21 rfl rfl)
theorem dX0_jumper_24 : decode cX0_jumper 24 = .ok (.getfield 124, 3) := dk_180 0 124 (dk_at dksX0_jumper_1 0 rfl rfl)
theorem dX0_jumper_27 : decode cX0_jumper 27 = .ok (.bipush 8, 2) := dk_16 8 (dk_at dksX0_jumper_1 3 rfl rfl)
theorem dX0_jumper_29 : decode cX0_jumper 29 = .ok (.if_icmp .ne 9, 3) := dk_160 0 9 (dk_at dksX0_jumper_1 5 rfl rfl)
theorem dX0_jumper_32 : decode cX0_jumper 32 = .ok (.aload_n 0, 1) := dk_42 (dk_at dksX0_jumper_1 8 rfl rfl)
theorem dX0_jumper_33 : decode cX0_jumper 33 = .ok (.iconst 1, 1) := dk_4 (dk_at dksX0_jumper_1 9 rfl rfl)
theorem dX0_jumper_34 : decode cX0_jumper 34 = .ok (.invokevirtual 126, 3) := dk_182 0 126 (dk_at dksX0_jumper_1 10 rfl rfl)
theorem dX0_jumper_37 : decode cX0_jumper 37 = .ok (.ireturn, 1) := dk_172 (dk_at dksX0_jumper_1 13 rfl rfl)
theorem dX0_jumper_38 : decode cX0_jumper 38 = .ok (.aload_n 0, 1) := dk_42 (dk_at dksX0_jumper_1 14 rfl rfl)
theorem dX0_jumper_39 : decode cX0_jumper 39 = .ok (.getfield 76, 3) := dk_180 0 76 (dk_at dksX0_jumper_1 15 rfl rfl)
theorem dX0_jumper_42 : decode cX0_jumper 42 = .ok (.iload_n 1, 1) := dk_27 (dk_at dksX0_jumper_1 18 rfl rfl)
theorem dX0_jumper_43 : decode cX0_jumper 43 = .ok (.iload_n 2, 1) := dk_28 (dk_at dksX0_jumper_1 19 rfl rfl)
theorem dX0_jumper_44 : decode cX0_jumper 44 = .ok (.invokevirtual 202, 3) := dk_182 0 202 (dk_at dksX0_jumper_1 20 rfl rfl)
theorem dX0_jumper_47 : decode cX0_jumper 47 = .ok (.aload_n 0, 1) := dk_42 (dk_at dksX0_jumper_1 23 rfl rfl)
theorem dX0_jumper_48 : decode cX0_jumper 48 = .ok (.getfield 76, 3) := dk_180 0 76 (dk_at dksX0_jumper_2 0 rfl rfl)
theorem dX0_jumper_51 : decode cX0_jumper 51 = .ok (.getfield 124, 3) := dk_180 0 124 (dk_at dksX0_jumper_2 3 rfl rfl)
theorem dX0_jumper_54 : decode cX0_jumper 54 = .ok (.iconst 1, 1) := dk_4 (dk_at dksX0_jumper_2 6 rfl rfl)
theorem dX0_jumper_55 : decode cX0_jumper 55 = .ok (.isub, 1) := dk_100 (dk_at dksX0_jumper_2 7 rfl rfl)
theorem dX0_jumper_56 : decode cX0_jumper 56 = .ok (.ireturn, 1) := dk_172 (dk_at dksX0_jumper_2 8 rfl rfl)
abbrev cX0_isKind : ByteArray := prog_1_method_6_code
def yX0_isKind : MethodName := ⟨RX0, "isKind", "(I)Z"⟩
def dkwX0_isKind_0 : List UInt8 := [26, 3, 16, 6, 184, 0, 9, 172]
abbrev dktX0_isKind_0 : List UInt8 := dkwX0_isKind_0 ++ []
theorem dksX0_isKind_0 : cX0_isKind.data.toList.drop 0 = dktX0_isKind_0 := by decide +kernel
theorem dX0_isKind_0 : decode cX0_isKind 0 = .ok (.iload_n 0, 1) := dk_26 (dk_at dksX0_isKind_0 0 rfl rfl)
theorem dX0_isKind_1 : decode cX0_isKind 1 = .ok (.iconst 0, 1) := dk_3 (dk_at dksX0_isKind_0 1 rfl rfl)
theorem dX0_isKind_2 : decode cX0_isKind 2 = .ok (.bipush 6, 2) := dk_16 6 (dk_at dksX0_isKind_0 2 rfl rfl)
theorem dX0_isKind_4 : decode cX0_isKind 4 = .ok (.invokestatic 9, 3) := dk_184 0 9 (dk_at dksX0_isKind_0 4 rfl rfl)
theorem dX0_isKind_7 : decode cX0_isKind 7 = .ok (.ireturn, 1) := dk_172 (dk_at dksX0_isKind_0 7 rfl rfl)
abbrev cX0_of : ByteArray := prog_1_method_35_code
def yX0_of : MethodName := ⟨RX0, "of", "(II)I"⟩
def dkwX0_of_4 : List UInt8 := [182, 0, 145, 172, 42, 180, 0, 76, 27, 182, 0, 208, 172, 42, 3, 182, 0, 126, 172]
abbrev dktX0_of_4 : List UInt8 := dkwX0_of_4 ++ []
def dkwX0_of_3 : List UInt8 := [42, 27, 182, 0, 131, 182, 0, 205, 172, 42, 27, 182, 0, 131, 182, 0, 135, 172, 42, 27, 182, 0, 131]
abbrev dktX0_of_3 : List UInt8 := dkwX0_of_3 ++ dktX0_of_4
def dkwX0_of_2 : List UInt8 := [170, 0, 0, 0, 0, 0, 0, 84, 0, 0, 0, 0, 0, 0, 0, 7, 0, 0, 0, 48, 0, 0, 0, 84, 0, 0, 0, 84, 0, 0, 0, 84, 0, 0, 0, 84, 0, 0, 0, 57, 0, 0, 0, 66, 0, 0, 0, 75]
abbrev dktX0_of_2 : List UInt8 := dkwX0_of_2 ++ dktX0_of_3
def dkwX0_of_1 : List UInt8 := [180, 0, 76, 180, 0, 111, 28, 50, 27, 46, 172, 28]
abbrev dktX0_of_1 : List UInt8 := dkwX0_of_1 ++ dktX0_of_2
def dkwX0_of_0 : List UInt8 := [42, 27, 182, 0, 175, 154, 0, 9, 42, 3, 182, 0, 126, 172, 28, 4, 7, 184, 0, 9, 153, 0, 15, 42]
abbrev dktX0_of_0 : List UInt8 := dkwX0_of_0 ++ dktX0_of_1
theorem dksX0_of_0 : cX0_of.data.toList.drop 0 = dktX0_of_0 := by decide +kernel
theorem dksX0_of_1 : cX0_of.data.toList.drop 24 = dktX0_of_1 := dk_seg dksX0_of_0 24 rfl rfl
theorem dksX0_of_2 : cX0_of.data.toList.drop 36 = dktX0_of_2 := dk_seg dksX0_of_1 12 rfl rfl
theorem dksX0_of_3 : cX0_of.data.toList.drop 84 = dktX0_of_3 := dk_seg dksX0_of_2 48 rfl rfl
theorem dksX0_of_4 : cX0_of.data.toList.drop 107 = dktX0_of_4 := dk_seg dksX0_of_3 23 rfl rfl
theorem dX0_of_0 : decode cX0_of 0 = .ok (.aload_n 0, 1) := dk_42 (dk_at dksX0_of_0 0 rfl rfl)
theorem dX0_of_1 : decode cX0_of 1 = .ok (.iload_n 1, 1) := dk_27 (dk_at dksX0_of_0 1 rfl rfl)
theorem dX0_of_2 : decode cX0_of 2 = .ok (.invokevirtual 175, 3) := dk_182 0 175 (dk_at dksX0_of_0 2 rfl rfl)
theorem dX0_of_5 : decode cX0_of 5 = .ok (.ifCond .ne 9, 3) := dk_154 0 9 (dk_at dksX0_of_0 5 rfl rfl)
theorem dX0_of_8 : decode cX0_of 8 = .ok (.aload_n 0, 1) := dk_42 (dk_at dksX0_of_0 8 rfl rfl)
theorem dX0_of_9 : decode cX0_of 9 = .ok (.iconst 0, 1) := dk_3 (dk_at dksX0_of_0 9 rfl rfl)
theorem dX0_of_10 : decode cX0_of 10 = .ok (.invokevirtual 126, 3) := dk_182 0 126 (dk_at dksX0_of_0 10 rfl rfl)
theorem dX0_of_13 : decode cX0_of 13 = .ok (.ireturn, 1) := dk_172 (dk_at dksX0_of_0 13 rfl rfl)
theorem dX0_of_14 : decode cX0_of 14 = .ok (.iload_n 2, 1) := dk_28 (dk_at dksX0_of_0 14 rfl rfl)
theorem dX0_of_15 : decode cX0_of 15 = .ok (.iconst 1, 1) := dk_4 (dk_at dksX0_of_0 15 rfl rfl)
theorem dX0_of_16 : decode cX0_of 16 = .ok (.iconst 4, 1) := dk_7 (dk_at dksX0_of_0 16 rfl rfl)
theorem dX0_of_17 : decode cX0_of 17 = .ok (.invokestatic 9, 3) := dk_184 0 9 (dk_at dksX0_of_0 17 rfl rfl)
theorem dX0_of_20 : decode cX0_of 20 = .ok (.ifCond .eq 15, 3) := dk_153 0 15 (dk_at dksX0_of_0 20 rfl rfl)
theorem dX0_of_23 : decode cX0_of 23 = .ok (.aload_n 0, 1) := dk_42 (dk_at dksX0_of_0 23 rfl rfl)
theorem dX0_of_24 : decode cX0_of 24 = .ok (.getfield 76, 3) := dk_180 0 76 (dk_at dksX0_of_1 0 rfl rfl)
theorem dX0_of_27 : decode cX0_of 27 = .ok (.getfield 111, 3) := dk_180 0 111 (dk_at dksX0_of_1 3 rfl rfl)
theorem dX0_of_30 : decode cX0_of 30 = .ok (.iload_n 2, 1) := dk_28 (dk_at dksX0_of_1 6 rfl rfl)
theorem dX0_of_31 : decode cX0_of 31 = .ok (.aaload, 1) := dk_50 (dk_at dksX0_of_1 7 rfl rfl)
theorem dX0_of_32 : decode cX0_of 32 = .ok (.iload_n 1, 1) := dk_27 (dk_at dksX0_of_1 8 rfl rfl)
theorem dX0_of_33 : decode cX0_of 33 = .ok (.iaload, 1) := dk_46 (dk_at dksX0_of_1 9 rfl rfl)
theorem dX0_of_34 : decode cX0_of 34 = .ok (.ireturn, 1) := dk_172 (dk_at dksX0_of_1 10 rfl rfl)
theorem dX0_of_35 : decode cX0_of 35 = .ok (.iload_n 2, 1) := dk_28 (dk_at dksX0_of_1 11 rfl rfl)
theorem dX0_of_36 : decode cX0_of 36 = .ok (.tableswitch 84 0 7 #[48, 84, 84, 84, 84, 57, 66, 75], 48) := by decide +kernel
theorem dX0_of_84 : decode cX0_of 84 = .ok (.aload_n 0, 1) := dk_42 (dk_at dksX0_of_3 0 rfl rfl)
theorem dX0_of_85 : decode cX0_of 85 = .ok (.iload_n 1, 1) := dk_27 (dk_at dksX0_of_3 1 rfl rfl)
theorem dX0_of_86 : decode cX0_of 86 = .ok (.invokevirtual 131, 3) := dk_182 0 131 (dk_at dksX0_of_3 2 rfl rfl)
theorem dX0_of_89 : decode cX0_of 89 = .ok (.invokevirtual 205, 3) := dk_182 0 205 (dk_at dksX0_of_3 5 rfl rfl)
theorem dX0_of_92 : decode cX0_of 92 = .ok (.ireturn, 1) := dk_172 (dk_at dksX0_of_3 8 rfl rfl)
theorem dX0_of_93 : decode cX0_of 93 = .ok (.aload_n 0, 1) := dk_42 (dk_at dksX0_of_3 9 rfl rfl)
theorem dX0_of_94 : decode cX0_of 94 = .ok (.iload_n 1, 1) := dk_27 (dk_at dksX0_of_3 10 rfl rfl)
theorem dX0_of_95 : decode cX0_of 95 = .ok (.invokevirtual 131, 3) := dk_182 0 131 (dk_at dksX0_of_3 11 rfl rfl)
theorem dX0_of_98 : decode cX0_of 98 = .ok (.invokevirtual 135, 3) := dk_182 0 135 (dk_at dksX0_of_3 14 rfl rfl)
theorem dX0_of_101 : decode cX0_of 101 = .ok (.ireturn, 1) := dk_172 (dk_at dksX0_of_3 17 rfl rfl)
theorem dX0_of_102 : decode cX0_of 102 = .ok (.aload_n 0, 1) := dk_42 (dk_at dksX0_of_3 18 rfl rfl)
theorem dX0_of_103 : decode cX0_of 103 = .ok (.iload_n 1, 1) := dk_27 (dk_at dksX0_of_3 19 rfl rfl)
theorem dX0_of_104 : decode cX0_of 104 = .ok (.invokevirtual 131, 3) := dk_182 0 131 (dk_at dksX0_of_3 20 rfl rfl)
theorem dX0_of_107 : decode cX0_of 107 = .ok (.invokevirtual 145, 3) := dk_182 0 145 (dk_at dksX0_of_4 0 rfl rfl)
theorem dX0_of_110 : decode cX0_of 110 = .ok (.ireturn, 1) := dk_172 (dk_at dksX0_of_4 3 rfl rfl)
theorem dX0_of_111 : decode cX0_of 111 = .ok (.aload_n 0, 1) := dk_42 (dk_at dksX0_of_4 4 rfl rfl)
theorem dX0_of_112 : decode cX0_of 112 = .ok (.getfield 76, 3) := dk_180 0 76 (dk_at dksX0_of_4 5 rfl rfl)
theorem dX0_of_115 : decode cX0_of 115 = .ok (.iload_n 1, 1) := dk_27 (dk_at dksX0_of_4 8 rfl rfl)
theorem dX0_of_116 : decode cX0_of 116 = .ok (.invokevirtual 208, 3) := dk_182 0 208 (dk_at dksX0_of_4 9 rfl rfl)
theorem dX0_of_119 : decode cX0_of 119 = .ok (.ireturn, 1) := dk_172 (dk_at dksX0_of_4 12 rfl rfl)
theorem dX0_of_120 : decode cX0_of 120 = .ok (.aload_n 0, 1) := dk_42 (dk_at dksX0_of_4 13 rfl rfl)
theorem dX0_of_121 : decode cX0_of 121 = .ok (.iconst 0, 1) := dk_3 (dk_at dksX0_of_4 14 rfl rfl)
theorem dX0_of_122 : decode cX0_of 122 = .ok (.invokevirtual 126, 3) := dk_182 0 126 (dk_at dksX0_of_4 15 rfl rfl)
theorem dX0_of_125 : decode cX0_of 125 = .ok (.ireturn, 1) := dk_172 (dk_at dksX0_of_4 18 rfl rfl)
abbrev cX0_jumperOf : ByteArray := prog_1_method_18_code
def yX0_jumperOf : MethodName := ⟨RX0, "jumperOf", "(I)LLineCalls$Jumper;"⟩
def dkwX0_jumperOf_1 : List UInt8 := [192, 0, 51, 176]
abbrev dktX0_jumperOf_1 : List UInt8 := dkwX0_jumperOf_1 ++ []
def dkwX0_jumperOf_0 : List UInt8 := [42, 180, 0, 88, 16, 8, 42, 180, 0, 76, 180, 0, 111, 3, 50, 27, 46, 104, 27, 96, 50, 180, 0, 107]
abbrev dktX0_jumperOf_0 : List UInt8 := dkwX0_jumperOf_0 ++ dktX0_jumperOf_1
theorem dksX0_jumperOf_0 : cX0_jumperOf.data.toList.drop 0 = dktX0_jumperOf_0 := by decide +kernel
theorem dksX0_jumperOf_1 : cX0_jumperOf.data.toList.drop 24 = dktX0_jumperOf_1 := dk_seg dksX0_jumperOf_0 24 rfl rfl
theorem dX0_jumperOf_0 : decode cX0_jumperOf 0 = .ok (.aload_n 0, 1) := dk_42 (dk_at dksX0_jumperOf_0 0 rfl rfl)
theorem dX0_jumperOf_1 : decode cX0_jumperOf 1 = .ok (.getfield 88, 3) := dk_180 0 88 (dk_at dksX0_jumperOf_0 1 rfl rfl)
theorem dX0_jumperOf_4 : decode cX0_jumperOf 4 = .ok (.bipush 8, 2) := dk_16 8 (dk_at dksX0_jumperOf_0 4 rfl rfl)
theorem dX0_jumperOf_6 : decode cX0_jumperOf 6 = .ok (.aload_n 0, 1) := dk_42 (dk_at dksX0_jumperOf_0 6 rfl rfl)
theorem dX0_jumperOf_7 : decode cX0_jumperOf 7 = .ok (.getfield 76, 3) := dk_180 0 76 (dk_at dksX0_jumperOf_0 7 rfl rfl)
theorem dX0_jumperOf_10 : decode cX0_jumperOf 10 = .ok (.getfield 111, 3) := dk_180 0 111 (dk_at dksX0_jumperOf_0 10 rfl rfl)
theorem dX0_jumperOf_13 : decode cX0_jumperOf 13 = .ok (.iconst 0, 1) := dk_3 (dk_at dksX0_jumperOf_0 13 rfl rfl)
theorem dX0_jumperOf_14 : decode cX0_jumperOf 14 = .ok (.aaload, 1) := dk_50 (dk_at dksX0_jumperOf_0 14 rfl rfl)
theorem dX0_jumperOf_15 : decode cX0_jumperOf 15 = .ok (.iload_n 1, 1) := dk_27 (dk_at dksX0_jumperOf_0 15 rfl rfl)
theorem dX0_jumperOf_16 : decode cX0_jumperOf 16 = .ok (.iaload, 1) := dk_46 (dk_at dksX0_jumperOf_0 16 rfl rfl)
theorem dX0_jumperOf_17 : decode cX0_jumperOf 17 = .ok (.imul, 1) := dk_104 (dk_at dksX0_jumperOf_0 17 rfl rfl)
theorem dX0_jumperOf_18 : decode cX0_jumperOf 18 = .ok (.iload_n 1, 1) := dk_27 (dk_at dksX0_jumperOf_0 18 rfl rfl)
theorem dX0_jumperOf_19 : decode cX0_jumperOf 19 = .ok (.iadd, 1) := dk_96 (dk_at dksX0_jumperOf_0 19 rfl rfl)
theorem dX0_jumperOf_20 : decode cX0_jumperOf 20 = .ok (.aaload, 1) := dk_50 (dk_at dksX0_jumperOf_0 20 rfl rfl)
theorem dX0_jumperOf_21 : decode cX0_jumperOf 21 = .ok (.getfield 107, 3) := dk_180 0 107 (dk_at dksX0_jumperOf_0 21 rfl rfl)
theorem dX0_jumperOf_24 : decode cX0_jumperOf 24 = .ok (.checkcast 51, 3) := dk_192 0 51 (dk_at dksX0_jumperOf_1 0 rfl rfl)
theorem dX0_jumperOf_27 : decode cX0_jumperOf 27 = .ok (.areturn, 1) := dk_176 (dk_at dksX0_jumperOf_1 3 rfl rfl)
abbrev cX0_change : ByteArray := prog_1_method_36_code
def yX0_change : MethodName := ⟨RX0, "change", "(III)I"⟩
def dkwX0_change_2 : List UInt8 := [21, 4, 172]
abbrev dktX0_change_2 : List UInt8 := dkwX0_change_2 ++ []
def dkwX0_change_1 : List UInt8 := [180, 0, 76, 180, 0, 111, 28, 50, 27, 46, 54, 4, 42, 180, 0, 76, 180, 0, 111, 28, 50, 27, 29, 79]
abbrev dktX0_change_1 : List UInt8 := dkwX0_change_1 ++ dktX0_change_2
def dkwX0_change_0 : List UInt8 := [42, 27, 182, 0, 175, 153, 0, 11, 28, 29, 184, 0, 211, 154, 0, 9, 42, 3, 182, 0, 126, 172, 42]
abbrev dktX0_change_0 : List UInt8 := dkwX0_change_0 ++ dktX0_change_1
theorem dksX0_change_0 : cX0_change.data.toList.drop 0 = dktX0_change_0 := by decide +kernel
theorem dksX0_change_1 : cX0_change.data.toList.drop 23 = dktX0_change_1 := dk_seg dksX0_change_0 23 rfl rfl
theorem dksX0_change_2 : cX0_change.data.toList.drop 47 = dktX0_change_2 := dk_seg dksX0_change_1 24 rfl rfl
theorem dX0_change_0 : decode cX0_change 0 = .ok (.aload_n 0, 1) := dk_42 (dk_at dksX0_change_0 0 rfl rfl)
theorem dX0_change_1 : decode cX0_change 1 = .ok (.iload_n 1, 1) := dk_27 (dk_at dksX0_change_0 1 rfl rfl)
theorem dX0_change_2 : decode cX0_change 2 = .ok (.invokevirtual 175, 3) := dk_182 0 175 (dk_at dksX0_change_0 2 rfl rfl)
theorem dX0_change_5 : decode cX0_change 5 = .ok (.ifCond .eq 11, 3) := dk_153 0 11 (dk_at dksX0_change_0 5 rfl rfl)
theorem dX0_change_8 : decode cX0_change 8 = .ok (.iload_n 2, 1) := dk_28 (dk_at dksX0_change_0 8 rfl rfl)
theorem dX0_change_9 : decode cX0_change 9 = .ok (.iload_n 3, 1) := dk_29 (dk_at dksX0_change_0 9 rfl rfl)
theorem dX0_change_10 : decode cX0_change 10 = .ok (.invokestatic 211, 3) := dk_184 0 211 (dk_at dksX0_change_0 10 rfl rfl)
theorem dX0_change_13 : decode cX0_change 13 = .ok (.ifCond .ne 9, 3) := dk_154 0 9 (dk_at dksX0_change_0 13 rfl rfl)
theorem dX0_change_16 : decode cX0_change 16 = .ok (.aload_n 0, 1) := dk_42 (dk_at dksX0_change_0 16 rfl rfl)
theorem dX0_change_17 : decode cX0_change 17 = .ok (.iconst 0, 1) := dk_3 (dk_at dksX0_change_0 17 rfl rfl)
theorem dX0_change_18 : decode cX0_change 18 = .ok (.invokevirtual 126, 3) := dk_182 0 126 (dk_at dksX0_change_0 18 rfl rfl)
theorem dX0_change_21 : decode cX0_change 21 = .ok (.ireturn, 1) := dk_172 (dk_at dksX0_change_0 21 rfl rfl)
theorem dX0_change_22 : decode cX0_change 22 = .ok (.aload_n 0, 1) := dk_42 (dk_at dksX0_change_0 22 rfl rfl)
theorem dX0_change_23 : decode cX0_change 23 = .ok (.getfield 76, 3) := dk_180 0 76 (dk_at dksX0_change_1 0 rfl rfl)
theorem dX0_change_26 : decode cX0_change 26 = .ok (.getfield 111, 3) := dk_180 0 111 (dk_at dksX0_change_1 3 rfl rfl)
theorem dX0_change_29 : decode cX0_change 29 = .ok (.iload_n 2, 1) := dk_28 (dk_at dksX0_change_1 6 rfl rfl)
theorem dX0_change_30 : decode cX0_change 30 = .ok (.aaload, 1) := dk_50 (dk_at dksX0_change_1 7 rfl rfl)
theorem dX0_change_31 : decode cX0_change 31 = .ok (.iload_n 1, 1) := dk_27 (dk_at dksX0_change_1 8 rfl rfl)
theorem dX0_change_32 : decode cX0_change 32 = .ok (.iaload, 1) := dk_46 (dk_at dksX0_change_1 9 rfl rfl)
theorem dX0_change_33 : decode cX0_change 33 = .ok (.istore 4, 2) := dk_54 4 (dk_at dksX0_change_1 10 rfl rfl)
theorem dX0_change_35 : decode cX0_change 35 = .ok (.aload_n 0, 1) := dk_42 (dk_at dksX0_change_1 12 rfl rfl)
theorem dX0_change_36 : decode cX0_change 36 = .ok (.getfield 76, 3) := dk_180 0 76 (dk_at dksX0_change_1 13 rfl rfl)
theorem dX0_change_39 : decode cX0_change 39 = .ok (.getfield 111, 3) := dk_180 0 111 (dk_at dksX0_change_1 16 rfl rfl)
theorem dX0_change_42 : decode cX0_change 42 = .ok (.iload_n 2, 1) := dk_28 (dk_at dksX0_change_1 19 rfl rfl)
theorem dX0_change_43 : decode cX0_change 43 = .ok (.aaload, 1) := dk_50 (dk_at dksX0_change_1 20 rfl rfl)
theorem dX0_change_44 : decode cX0_change 44 = .ok (.iload_n 1, 1) := dk_27 (dk_at dksX0_change_1 21 rfl rfl)
theorem dX0_change_45 : decode cX0_change 45 = .ok (.iload_n 3, 1) := dk_29 (dk_at dksX0_change_1 22 rfl rfl)
theorem dX0_change_46 : decode cX0_change 46 = .ok (.iastore, 1) := dk_79 (dk_at dksX0_change_1 23 rfl rfl)
theorem dX0_change_47 : decode cX0_change 47 = .ok (.iload 4, 2) := dk_21 4 (dk_at dksX0_change_2 0 rfl rfl)
theorem dX0_change_49 : decode cX0_change 49 = .ok (.ireturn, 1) := dk_172 (dk_at dksX0_change_2 2 rfl rfl)
abbrev cX0_isTold : ByteArray := prog_1_method_13_code
def yX0_isTold : MethodName := ⟨RX0, "isTold", "(II)Z"⟩
def dkwX0_isTold_2 : List UInt8 := [27, 184, 0, 13, 172, 27, 184, 0, 17, 172, 27, 184, 0, 20, 172, 3, 172]
abbrev dktX0_isTold_2 : List UInt8 := dkwX0_isTold_2 ++ []
def dkwX0_isTold_1 : List UInt8 := [170, 0, 0, 0, 0, 0, 50, 0, 0, 0, 0, 0, 0, 0, 4, 0, 0, 0, 35, 0, 0, 0, 40, 0, 0, 0, 40, 0, 0, 0, 45, 0, 0, 0, 45]
abbrev dktX0_isTold_1 : List UInt8 := dkwX0_isTold_1 ++ dktX0_isTold_2
def dkwX0_isTold_0 : List UInt8 := [26]
abbrev dktX0_isTold_0 : List UInt8 := dkwX0_isTold_0 ++ dktX0_isTold_1
theorem dksX0_isTold_0 : cX0_isTold.data.toList.drop 0 = dktX0_isTold_0 := by decide +kernel
theorem dksX0_isTold_1 : cX0_isTold.data.toList.drop 1 = dktX0_isTold_1 := dk_seg dksX0_isTold_0 1 rfl rfl
theorem dksX0_isTold_2 : cX0_isTold.data.toList.drop 36 = dktX0_isTold_2 := dk_seg dksX0_isTold_1 35 rfl rfl
theorem dX0_isTold_0 : decode cX0_isTold 0 = .ok (.iload_n 0, 1) := dk_26 (dk_at dksX0_isTold_0 0 rfl rfl)
theorem dX0_isTold_1 : decode cX0_isTold 1 = .ok (.tableswitch 50 0 4 #[35, 40, 40, 45, 45], 35) := by decide +kernel
theorem dX0_isTold_36 : decode cX0_isTold 36 = .ok (.iload_n 1, 1) := dk_27 (dk_at dksX0_isTold_2 0 rfl rfl)
theorem dX0_isTold_37 : decode cX0_isTold 37 = .ok (.invokestatic 13, 3) := dk_184 0 13 (dk_at dksX0_isTold_2 1 rfl rfl)
theorem dX0_isTold_40 : decode cX0_isTold 40 = .ok (.ireturn, 1) := dk_172 (dk_at dksX0_isTold_2 4 rfl rfl)
theorem dX0_isTold_41 : decode cX0_isTold 41 = .ok (.iload_n 1, 1) := dk_27 (dk_at dksX0_isTold_2 5 rfl rfl)
theorem dX0_isTold_42 : decode cX0_isTold 42 = .ok (.invokestatic 17, 3) := dk_184 0 17 (dk_at dksX0_isTold_2 6 rfl rfl)
theorem dX0_isTold_45 : decode cX0_isTold 45 = .ok (.ireturn, 1) := dk_172 (dk_at dksX0_isTold_2 9 rfl rfl)
theorem dX0_isTold_46 : decode cX0_isTold 46 = .ok (.iload_n 1, 1) := dk_27 (dk_at dksX0_isTold_2 10 rfl rfl)
theorem dX0_isTold_47 : decode cX0_isTold 47 = .ok (.invokestatic 20, 3) := dk_184 0 20 (dk_at dksX0_isTold_2 11 rfl rfl)
theorem dX0_isTold_50 : decode cX0_isTold 50 = .ok (.ireturn, 1) := dk_172 (dk_at dksX0_isTold_2 14 rfl rfl)
theorem dX0_isTold_51 : decode cX0_isTold 51 = .ok (.iconst 0, 1) := dk_3 (dk_at dksX0_isTold_2 15 rfl rfl)
theorem dX0_isTold_52 : decode cX0_isTold 52 = .ok (.ireturn, 1) := dk_172 (dk_at dksX0_isTold_2 16 rfl rfl)
abbrev cX0_isMany : ByteArray := prog_1_method_12_code
def yX0_isMany : MethodName := ⟨RX0, "isMany", "(I)Z"⟩
def dkwX0_isMany_0 : List UInt8 := [26, 3, 17, 39, 15, 184, 0, 9, 172]
abbrev dktX0_isMany_0 : List UInt8 := dkwX0_isMany_0 ++ []
theorem dksX0_isMany_0 : cX0_isMany.data.toList.drop 0 = dktX0_isMany_0 := by decide +kernel
theorem dX0_isMany_0 : decode cX0_isMany 0 = .ok (.iload_n 0, 1) := dk_26 (dk_at dksX0_isMany_0 0 rfl rfl)
theorem dX0_isMany_1 : decode cX0_isMany 1 = .ok (.iconst 0, 1) := dk_3 (dk_at dksX0_isMany_0 1 rfl rfl)
theorem dX0_isMany_2 : decode cX0_isMany 2 = .ok (.sipush 9999, 3) := dk_17 39 15 (dk_at dksX0_isMany_0 2 rfl rfl)
theorem dX0_isMany_5 : decode cX0_isMany 5 = .ok (.invokestatic 9, 3) := dk_184 0 9 (dk_at dksX0_isMany_0 5 rfl rfl)
theorem dX0_isMany_8 : decode cX0_isMany 8 = .ok (.ireturn, 1) := dk_172 (dk_at dksX0_isMany_0 8 rfl rfl)
abbrev cX0_gains : ByteArray := prog_1_method_37_code
def yX0_gains : MethodName := ⟨RX0, "gains", "(II)I"⟩
def dkwX0_gains_1 : List UInt8 := [167, 0, 8, 42, 3, 182, 0, 126, 172]
abbrev dktX0_gains_1 : List UInt8 := dkwX0_gains_1 ++ []
def dkwX0_gains_0 : List UInt8 := [42, 27, 182, 0, 175, 153, 0, 22, 28, 184, 0, 172, 153, 0, 15, 42, 27, 182, 0, 131, 28, 182, 0, 155]
abbrev dktX0_gains_0 : List UInt8 := dkwX0_gains_0 ++ dktX0_gains_1
theorem dksX0_gains_0 : cX0_gains.data.toList.drop 0 = dktX0_gains_0 := by decide +kernel
theorem dksX0_gains_1 : cX0_gains.data.toList.drop 24 = dktX0_gains_1 := dk_seg dksX0_gains_0 24 rfl rfl
theorem dX0_gains_0 : decode cX0_gains 0 = .ok (.aload_n 0, 1) := dk_42 (dk_at dksX0_gains_0 0 rfl rfl)
theorem dX0_gains_1 : decode cX0_gains 1 = .ok (.iload_n 1, 1) := dk_27 (dk_at dksX0_gains_0 1 rfl rfl)
theorem dX0_gains_2 : decode cX0_gains 2 = .ok (.invokevirtual 175, 3) := dk_182 0 175 (dk_at dksX0_gains_0 2 rfl rfl)
theorem dX0_gains_5 : decode cX0_gains 5 = .ok (.ifCond .eq 22, 3) := dk_153 0 22 (dk_at dksX0_gains_0 5 rfl rfl)
theorem dX0_gains_8 : decode cX0_gains 8 = .ok (.iload_n 2, 1) := dk_28 (dk_at dksX0_gains_0 8 rfl rfl)
theorem dX0_gains_9 : decode cX0_gains 9 = .ok (.invokestatic 172, 3) := dk_184 0 172 (dk_at dksX0_gains_0 9 rfl rfl)
theorem dX0_gains_12 : decode cX0_gains 12 = .ok (.ifCond .eq 15, 3) := dk_153 0 15 (dk_at dksX0_gains_0 12 rfl rfl)
theorem dX0_gains_15 : decode cX0_gains 15 = .ok (.aload_n 0, 1) := dk_42 (dk_at dksX0_gains_0 15 rfl rfl)
theorem dX0_gains_16 : decode cX0_gains 16 = .ok (.iload_n 1, 1) := dk_27 (dk_at dksX0_gains_0 16 rfl rfl)
theorem dX0_gains_17 : decode cX0_gains 17 = .ok (.invokevirtual 131, 3) := dk_182 0 131 (dk_at dksX0_gains_0 17 rfl rfl)
theorem dX0_gains_20 : decode cX0_gains 20 = .ok (.iload_n 2, 1) := dk_28 (dk_at dksX0_gains_0 20 rfl rfl)
theorem dX0_gains_21 : decode cX0_gains 21 = .ok (.invokevirtual 155, 3) := dk_182 0 155 (dk_at dksX0_gains_0 21 rfl rfl)
theorem dX0_gains_24 : decode cX0_gains 24 = .ok (.goto 8, 3) := dk_167 0 8 (dk_at dksX0_gains_1 0 rfl rfl)
theorem dX0_gains_27 : decode cX0_gains 27 = .ok (.aload_n 0, 1) := dk_42 (dk_at dksX0_gains_1 3 rfl rfl)
theorem dX0_gains_28 : decode cX0_gains 28 = .ok (.iconst 0, 1) := dk_3 (dk_at dksX0_gains_1 4 rfl rfl)
theorem dX0_gains_29 : decode cX0_gains 29 = .ok (.invokevirtual 126, 3) := dk_182 0 126 (dk_at dksX0_gains_1 5 rfl rfl)
theorem dX0_gains_32 : decode cX0_gains 32 = .ok (.ireturn, 1) := dk_172 (dk_at dksX0_gains_1 8 rfl rfl)
abbrev cX0_go : ByteArray := prog_1_method_39_code
def yX0_go : MethodName := ⟨RX0, "go", "(I)I"⟩
def dkwX0_go_1 : List UInt8 := [153, 0, 11, 42, 7, 182, 0, 126, 167, 0, 8, 42, 27, 182, 0, 223, 172]
abbrev dktX0_go_1 : List UInt8 := dkwX0_go_1 ++ []
def dkwX0_go_0 : List UInt8 := [27, 4, 16, 60, 184, 0, 9, 154, 0, 9, 42, 3, 182, 0, 126, 172, 42, 180, 0, 76, 27, 182, 0, 220]
abbrev dktX0_go_0 : List UInt8 := dkwX0_go_0 ++ dktX0_go_1
theorem dksX0_go_0 : cX0_go.data.toList.drop 0 = dktX0_go_0 := by decide +kernel
theorem dksX0_go_1 : cX0_go.data.toList.drop 24 = dktX0_go_1 := dk_seg dksX0_go_0 24 rfl rfl
theorem dX0_go_0 : decode cX0_go 0 = .ok (.iload_n 1, 1) := dk_27 (dk_at dksX0_go_0 0 rfl rfl)
theorem dX0_go_1 : decode cX0_go 1 = .ok (.iconst 1, 1) := dk_4 (dk_at dksX0_go_0 1 rfl rfl)
theorem dX0_go_2 : decode cX0_go 2 = .ok (.bipush 60, 2) := dk_16 60 (dk_at dksX0_go_0 2 rfl rfl)
theorem dX0_go_4 : decode cX0_go 4 = .ok (.invokestatic 9, 3) := dk_184 0 9 (dk_at dksX0_go_0 4 rfl rfl)
theorem dX0_go_7 : decode cX0_go 7 = .ok (.ifCond .ne 9, 3) := dk_154 0 9 (dk_at dksX0_go_0 7 rfl rfl)
theorem dX0_go_10 : decode cX0_go 10 = .ok (.aload_n 0, 1) := dk_42 (dk_at dksX0_go_0 10 rfl rfl)
theorem dX0_go_11 : decode cX0_go 11 = .ok (.iconst 0, 1) := dk_3 (dk_at dksX0_go_0 11 rfl rfl)
theorem dX0_go_12 : decode cX0_go 12 = .ok (.invokevirtual 126, 3) := dk_182 0 126 (dk_at dksX0_go_0 12 rfl rfl)
theorem dX0_go_15 : decode cX0_go 15 = .ok (.ireturn, 1) := dk_172 (dk_at dksX0_go_0 15 rfl rfl)
theorem dX0_go_16 : decode cX0_go 16 = .ok (.aload_n 0, 1) := dk_42 (dk_at dksX0_go_0 16 rfl rfl)
theorem dX0_go_17 : decode cX0_go 17 = .ok (.getfield 76, 3) := dk_180 0 76 (dk_at dksX0_go_0 17 rfl rfl)
theorem dX0_go_20 : decode cX0_go 20 = .ok (.iload_n 1, 1) := dk_27 (dk_at dksX0_go_0 20 rfl rfl)
theorem dX0_go_21 : decode cX0_go 21 = .ok (.invokevirtual 220, 3) := dk_182 0 220 (dk_at dksX0_go_0 21 rfl rfl)
theorem dX0_go_24 : decode cX0_go 24 = .ok (.ifCond .eq 11, 3) := dk_153 0 11 (dk_at dksX0_go_1 0 rfl rfl)
theorem dX0_go_27 : decode cX0_go 27 = .ok (.aload_n 0, 1) := dk_42 (dk_at dksX0_go_1 3 rfl rfl)
theorem dX0_go_28 : decode cX0_go 28 = .ok (.iconst 4, 1) := dk_7 (dk_at dksX0_go_1 4 rfl rfl)
theorem dX0_go_29 : decode cX0_go 29 = .ok (.invokevirtual 126, 3) := dk_182 0 126 (dk_at dksX0_go_1 5 rfl rfl)
theorem dX0_go_32 : decode cX0_go 32 = .ok (.goto 8, 3) := dk_167 0 8 (dk_at dksX0_go_1 8 rfl rfl)
theorem dX0_go_35 : decode cX0_go 35 = .ok (.aload_n 0, 1) := dk_42 (dk_at dksX0_go_1 11 rfl rfl)
theorem dX0_go_36 : decode cX0_go 36 = .ok (.iload_n 1, 1) := dk_27 (dk_at dksX0_go_1 12 rfl rfl)
theorem dX0_go_37 : decode cX0_go 37 = .ok (.invokevirtual 223, 3) := dk_182 0 223 (dk_at dksX0_go_1 13 rfl rfl)
theorem dX0_go_40 : decode cX0_go 40 = .ok (.ireturn, 1) := dk_172 (dk_at dksX0_go_1 16 rfl rfl)
abbrev cX0_goesOn : ByteArray := prog_1_method_38_code
def yX0_goesOn : MethodName := ⟨RX0, "goesOn", "(I)I"⟩
def dkwX0_goesOn_0 : List UInt8 := [42, 27, 182, 0, 215, 42, 180, 0, 76, 180, 0, 217, 172]
abbrev dktX0_goesOn_0 : List UInt8 := dkwX0_goesOn_0 ++ []
theorem dksX0_goesOn_0 : cX0_goesOn.data.toList.drop 0 = dktX0_goesOn_0 := by decide +kernel
theorem dX0_goesOn_0 : decode cX0_goesOn 0 = .ok (.aload_n 0, 1) := dk_42 (dk_at dksX0_goesOn_0 0 rfl rfl)
theorem dX0_goesOn_1 : decode cX0_goesOn 1 = .ok (.iload_n 1, 1) := dk_27 (dk_at dksX0_goesOn_0 1 rfl rfl)
theorem dX0_goesOn_2 : decode cX0_goesOn 2 = .ok (.invokevirtual 215, 3) := dk_182 0 215 (dk_at dksX0_goesOn_0 2 rfl rfl)
theorem dX0_goesOn_5 : decode cX0_goesOn 5 = .ok (.aload_n 0, 1) := dk_42 (dk_at dksX0_goesOn_0 5 rfl rfl)
theorem dX0_goesOn_6 : decode cX0_goesOn 6 = .ok (.getfield 76, 3) := dk_180 0 76 (dk_at dksX0_goesOn_0 6 rfl rfl)
theorem dX0_goesOn_9 : decode cX0_goesOn 9 = .ok (.getfield 217, 3) := dk_180 0 217 (dk_at dksX0_goesOn_0 9 rfl rfl)
theorem dX0_goesOn_12 : decode cX0_goesOn 12 = .ok (.ireturn, 1) := dk_172 (dk_at dksX0_goesOn_0 12 rfl rfl)
abbrev cX0_passes : ByteArray := prog_1_method_26_code
def yX0_passes : MethodName := ⟨RX0, "passes", "(I)V"⟩
def dkwX0_passes_0 : List UInt8 := [3, 61, 28, 27, 162, 0, 13, 42, 182, 0, 169, 132, 2, 1, 167, 255, 244, 177]
abbrev dktX0_passes_0 : List UInt8 := dkwX0_passes_0 ++ []
theorem dksX0_passes_0 : cX0_passes.data.toList.drop 0 = dktX0_passes_0 := by decide +kernel
theorem dX0_passes_0 : decode cX0_passes 0 = .ok (.iconst 0, 1) := dk_3 (dk_at dksX0_passes_0 0 rfl rfl)
theorem dX0_passes_1 : decode cX0_passes 1 = .ok (.istore_n 2, 1) := dk_61 (dk_at dksX0_passes_0 1 rfl rfl)
theorem dX0_passes_2 : decode cX0_passes 2 = .ok (.iload_n 2, 1) := dk_28 (dk_at dksX0_passes_0 2 rfl rfl)
theorem dX0_passes_3 : decode cX0_passes 3 = .ok (.iload_n 1, 1) := dk_27 (dk_at dksX0_passes_0 3 rfl rfl)
theorem dX0_passes_4 : decode cX0_passes 4 = .ok (.if_icmp .ge 13, 3) := dk_162 0 13 (dk_at dksX0_passes_0 4 rfl rfl)
theorem dX0_passes_7 : decode cX0_passes 7 = .ok (.aload_n 0, 1) := dk_42 (dk_at dksX0_passes_0 7 rfl rfl)
theorem dX0_passes_8 : decode cX0_passes 8 = .ok (.invokevirtual 169, 3) := dk_182 0 169 (dk_at dksX0_passes_0 8 rfl rfl)
theorem dX0_passes_11 : decode cX0_passes 11 = .ok (.iinc 2 1, 3) := dk_132 2 1 (dk_at dksX0_passes_0 11 rfl rfl)
theorem dX0_passes_14 : decode cX0_passes 14 = .ok (.goto (-12), 3) := dk_167 255 244 (dk_at dksX0_passes_0 14 rfl rfl)
theorem dX0_passes_17 : decode cX0_passes 17 = .ok (.return_, 1) := dk_177 (dk_at dksX0_passes_0 17 rfl rfl)
abbrev cX0_passes_2 : ByteArray := prog_1_method_25_code
def yX0_passes_2 : MethodName := ⟨RX0, "passes", "()V"⟩
def dkwX0_passes_2_4 : List UInt8 := [29, 182, 0, 165, 177]
abbrev dktX0_passes_2_4 : List UInt8 := dkwX0_passes_2_4 ++ []
def dkwX0_passes_2_3 : List UInt8 := [27, 182, 0, 155, 182, 0, 158, 167, 0, 11, 42, 180, 0, 76, 28, 182, 0, 162, 42, 180, 0, 76, 27, 28]
abbrev dktX0_passes_2_3 : List UInt8 := dkwX0_passes_2_3 ++ dktX0_passes_2_4
def dkwX0_passes_2_2 : List UInt8 := [182, 0, 148, 167, 0, 39, 42, 27, 182, 0, 152, 153, 0, 23, 42, 180, 0, 76, 28, 42, 28, 182, 0, 131]
abbrev dktX0_passes_2_2 : List UInt8 := dkwX0_passes_2_2 ++ dktX0_passes_2_3
def dkwX0_passes_2_1 : List UInt8 := [167, 0, 11, 42, 28, 182, 0, 131, 182, 0, 145, 62, 28, 2, 160, 0, 14, 42, 180, 0, 76, 8]
abbrev dktX0_passes_2_1 : List UInt8 := dkwX0_passes_2_1 ++ dktX0_passes_2_2
def dkwX0_passes_2_0 : List UInt8 := [42, 180, 0, 76, 182, 0, 142, 60, 42, 180, 0, 76, 180, 0, 128, 27, 46, 61, 28, 2, 160, 0, 7, 3]
abbrev dktX0_passes_2_0 : List UInt8 := dkwX0_passes_2_0 ++ dktX0_passes_2_1
theorem dksX0_passes_2_0 : cX0_passes_2.data.toList.drop 0 = dktX0_passes_2_0 := by decide +kernel
theorem dksX0_passes_2_1 : cX0_passes_2.data.toList.drop 24 = dktX0_passes_2_1 := dk_seg dksX0_passes_2_0 24 rfl rfl
theorem dksX0_passes_2_2 : cX0_passes_2.data.toList.drop 46 = dktX0_passes_2_2 := dk_seg dksX0_passes_2_1 22 rfl rfl
theorem dksX0_passes_2_3 : cX0_passes_2.data.toList.drop 70 = dktX0_passes_2_3 := dk_seg dksX0_passes_2_2 24 rfl rfl
theorem dksX0_passes_2_4 : cX0_passes_2.data.toList.drop 94 = dktX0_passes_2_4 := dk_seg dksX0_passes_2_3 24 rfl rfl
theorem dX0_passes_2_0 : decode cX0_passes_2 0 = .ok (.aload_n 0, 1) := dk_42 (dk_at dksX0_passes_2_0 0 rfl rfl)
theorem dX0_passes_2_1 : decode cX0_passes_2 1 = .ok (.getfield 76, 3) := dk_180 0 76 (dk_at dksX0_passes_2_0 1 rfl rfl)
theorem dX0_passes_2_4 : decode cX0_passes_2 4 = .ok (.invokevirtual 142, 3) := dk_182 0 142 (dk_at dksX0_passes_2_0 4 rfl rfl)
theorem dX0_passes_2_7 : decode cX0_passes_2 7 = .ok (.istore_n 1, 1) := dk_60 (dk_at dksX0_passes_2_0 7 rfl rfl)
theorem dX0_passes_2_8 : decode cX0_passes_2 8 = .ok (.aload_n 0, 1) := dk_42 (dk_at dksX0_passes_2_0 8 rfl rfl)
theorem dX0_passes_2_9 : decode cX0_passes_2 9 = .ok (.getfield 76, 3) := dk_180 0 76 (dk_at dksX0_passes_2_0 9 rfl rfl)
theorem dX0_passes_2_12 : decode cX0_passes_2 12 = .ok (.getfield 128, 3) := dk_180 0 128 (dk_at dksX0_passes_2_0 12 rfl rfl)
theorem dX0_passes_2_15 : decode cX0_passes_2 15 = .ok (.iload_n 1, 1) := dk_27 (dk_at dksX0_passes_2_0 15 rfl rfl)
theorem dX0_passes_2_16 : decode cX0_passes_2 16 = .ok (.iaload, 1) := dk_46 (dk_at dksX0_passes_2_0 16 rfl rfl)
theorem dX0_passes_2_17 : decode cX0_passes_2 17 = .ok (.istore_n 2, 1) := dk_61 (dk_at dksX0_passes_2_0 17 rfl rfl)
theorem dX0_passes_2_18 : decode cX0_passes_2 18 = .ok (.iload_n 2, 1) := dk_28 (dk_at dksX0_passes_2_0 18 rfl rfl)
theorem dX0_passes_2_19 : decode cX0_passes_2 19 = .ok (.iconst (-1), 1) := dk_2 (dk_at dksX0_passes_2_0 19 rfl rfl)
theorem dX0_passes_2_20 : decode cX0_passes_2 20 = .ok (.if_icmp .ne 7, 3) := dk_160 0 7 (dk_at dksX0_passes_2_0 20 rfl rfl)
theorem dX0_passes_2_23 : decode cX0_passes_2 23 = .ok (.iconst 0, 1) := dk_3 (dk_at dksX0_passes_2_0 23 rfl rfl)
theorem dX0_passes_2_24 : decode cX0_passes_2 24 = .ok (.goto 11, 3) := dk_167 0 11 (dk_at dksX0_passes_2_1 0 rfl rfl)
theorem dX0_passes_2_27 : decode cX0_passes_2 27 = .ok (.aload_n 0, 1) := dk_42 (dk_at dksX0_passes_2_1 3 rfl rfl)
theorem dX0_passes_2_28 : decode cX0_passes_2 28 = .ok (.iload_n 2, 1) := dk_28 (dk_at dksX0_passes_2_1 4 rfl rfl)
theorem dX0_passes_2_29 : decode cX0_passes_2 29 = .ok (.invokevirtual 131, 3) := dk_182 0 131 (dk_at dksX0_passes_2_1 5 rfl rfl)
theorem dX0_passes_2_32 : decode cX0_passes_2 32 = .ok (.invokevirtual 145, 3) := dk_182 0 145 (dk_at dksX0_passes_2_1 8 rfl rfl)
theorem dX0_passes_2_35 : decode cX0_passes_2 35 = .ok (.istore_n 3, 1) := dk_62 (dk_at dksX0_passes_2_1 11 rfl rfl)
theorem dX0_passes_2_36 : decode cX0_passes_2 36 = .ok (.iload_n 2, 1) := dk_28 (dk_at dksX0_passes_2_1 12 rfl rfl)
theorem dX0_passes_2_37 : decode cX0_passes_2 37 = .ok (.iconst (-1), 1) := dk_2 (dk_at dksX0_passes_2_1 13 rfl rfl)
theorem dX0_passes_2_38 : decode cX0_passes_2 38 = .ok (.if_icmp .ne 14, 3) := dk_160 0 14 (dk_at dksX0_passes_2_1 14 rfl rfl)
theorem dX0_passes_2_41 : decode cX0_passes_2 41 = .ok (.aload_n 0, 1) := dk_42 (dk_at dksX0_passes_2_1 17 rfl rfl)
theorem dX0_passes_2_42 : decode cX0_passes_2 42 = .ok (.getfield 76, 3) := dk_180 0 76 (dk_at dksX0_passes_2_1 18 rfl rfl)
theorem dX0_passes_2_45 : decode cX0_passes_2 45 = .ok (.iconst 5, 1) := dk_8 (dk_at dksX0_passes_2_1 21 rfl rfl)
theorem dX0_passes_2_46 : decode cX0_passes_2 46 = .ok (.invokevirtual 148, 3) := dk_182 0 148 (dk_at dksX0_passes_2_2 0 rfl rfl)
theorem dX0_passes_2_49 : decode cX0_passes_2 49 = .ok (.goto 39, 3) := dk_167 0 39 (dk_at dksX0_passes_2_2 3 rfl rfl)
theorem dX0_passes_2_52 : decode cX0_passes_2 52 = .ok (.aload_n 0, 1) := dk_42 (dk_at dksX0_passes_2_2 6 rfl rfl)
theorem dX0_passes_2_53 : decode cX0_passes_2 53 = .ok (.iload_n 1, 1) := dk_27 (dk_at dksX0_passes_2_2 7 rfl rfl)
theorem dX0_passes_2_54 : decode cX0_passes_2 54 = .ok (.invokevirtual 152, 3) := dk_182 0 152 (dk_at dksX0_passes_2_2 8 rfl rfl)
theorem dX0_passes_2_57 : decode cX0_passes_2 57 = .ok (.ifCond .eq 23, 3) := dk_153 0 23 (dk_at dksX0_passes_2_2 11 rfl rfl)
theorem dX0_passes_2_60 : decode cX0_passes_2 60 = .ok (.aload_n 0, 1) := dk_42 (dk_at dksX0_passes_2_2 14 rfl rfl)
theorem dX0_passes_2_61 : decode cX0_passes_2 61 = .ok (.getfield 76, 3) := dk_180 0 76 (dk_at dksX0_passes_2_2 15 rfl rfl)
theorem dX0_passes_2_64 : decode cX0_passes_2 64 = .ok (.iload_n 2, 1) := dk_28 (dk_at dksX0_passes_2_2 18 rfl rfl)
theorem dX0_passes_2_65 : decode cX0_passes_2 65 = .ok (.aload_n 0, 1) := dk_42 (dk_at dksX0_passes_2_2 19 rfl rfl)
theorem dX0_passes_2_66 : decode cX0_passes_2 66 = .ok (.iload_n 2, 1) := dk_28 (dk_at dksX0_passes_2_2 20 rfl rfl)
theorem dX0_passes_2_67 : decode cX0_passes_2 67 = .ok (.invokevirtual 131, 3) := dk_182 0 131 (dk_at dksX0_passes_2_2 21 rfl rfl)
theorem dX0_passes_2_70 : decode cX0_passes_2 70 = .ok (.iload_n 1, 1) := dk_27 (dk_at dksX0_passes_2_3 0 rfl rfl)
theorem dX0_passes_2_71 : decode cX0_passes_2 71 = .ok (.invokevirtual 155, 3) := dk_182 0 155 (dk_at dksX0_passes_2_3 1 rfl rfl)
theorem dX0_passes_2_74 : decode cX0_passes_2 74 = .ok (.invokevirtual 158, 3) := dk_182 0 158 (dk_at dksX0_passes_2_3 4 rfl rfl)
theorem dX0_passes_2_77 : decode cX0_passes_2 77 = .ok (.goto 11, 3) := dk_167 0 11 (dk_at dksX0_passes_2_3 7 rfl rfl)
theorem dX0_passes_2_80 : decode cX0_passes_2 80 = .ok (.aload_n 0, 1) := dk_42 (dk_at dksX0_passes_2_3 10 rfl rfl)
theorem dX0_passes_2_81 : decode cX0_passes_2 81 = .ok (.getfield 76, 3) := dk_180 0 76 (dk_at dksX0_passes_2_3 11 rfl rfl)
theorem dX0_passes_2_84 : decode cX0_passes_2 84 = .ok (.iload_n 2, 1) := dk_28 (dk_at dksX0_passes_2_3 14 rfl rfl)
theorem dX0_passes_2_85 : decode cX0_passes_2 85 = .ok (.invokevirtual 162, 3) := dk_182 0 162 (dk_at dksX0_passes_2_3 15 rfl rfl)
theorem dX0_passes_2_88 : decode cX0_passes_2 88 = .ok (.aload_n 0, 1) := dk_42 (dk_at dksX0_passes_2_3 18 rfl rfl)
theorem dX0_passes_2_89 : decode cX0_passes_2 89 = .ok (.getfield 76, 3) := dk_180 0 76 (dk_at dksX0_passes_2_3 19 rfl rfl)
theorem dX0_passes_2_92 : decode cX0_passes_2 92 = .ok (.iload_n 1, 1) := dk_27 (dk_at dksX0_passes_2_3 22 rfl rfl)
theorem dX0_passes_2_93 : decode cX0_passes_2 93 = .ok (.iload_n 2, 1) := dk_28 (dk_at dksX0_passes_2_3 23 rfl rfl)
theorem dX0_passes_2_94 : decode cX0_passes_2 94 = .ok (.iload_n 3, 1) := dk_29 (dk_at dksX0_passes_2_4 0 rfl rfl)
theorem dX0_passes_2_95 : decode cX0_passes_2 95 = .ok (.invokevirtual 165, 3) := dk_182 0 165 (dk_at dksX0_passes_2_4 1 rfl rfl)
theorem dX0_passes_2_98 : decode cX0_passes_2 98 = .ok (.return_, 1) := dk_177 (dk_at dksX0_passes_2_4 4 rfl rfl)
abbrev cX0_wouldWin : ByteArray := prog_1_method_24_code
def yX0_wouldWin : MethodName := ⟨RX0, "wouldWin", "(I)Z"⟩
def dkwX0_wouldWin_1 : List UInt8 := [180, 0, 76, 27, 182, 0, 139, 164, 0, 7, 4, 167, 0, 4, 3, 172]
abbrev dktX0_wouldWin_1 : List UInt8 := dkwX0_wouldWin_1 ++ []
def dkwX0_wouldWin_0 : List UInt8 := [42, 180, 0, 76, 180, 0, 128, 27, 46, 61, 28, 2, 159, 0, 26, 42, 28, 182, 0, 131, 182, 0, 135, 42]
abbrev dktX0_wouldWin_0 : List UInt8 := dkwX0_wouldWin_0 ++ dktX0_wouldWin_1
theorem dksX0_wouldWin_0 : cX0_wouldWin.data.toList.drop 0 = dktX0_wouldWin_0 := by decide +kernel
theorem dksX0_wouldWin_1 : cX0_wouldWin.data.toList.drop 24 = dktX0_wouldWin_1 := dk_seg dksX0_wouldWin_0 24 rfl rfl
theorem dX0_wouldWin_0 : decode cX0_wouldWin 0 = .ok (.aload_n 0, 1) := dk_42 (dk_at dksX0_wouldWin_0 0 rfl rfl)
theorem dX0_wouldWin_1 : decode cX0_wouldWin 1 = .ok (.getfield 76, 3) := dk_180 0 76 (dk_at dksX0_wouldWin_0 1 rfl rfl)
theorem dX0_wouldWin_4 : decode cX0_wouldWin 4 = .ok (.getfield 128, 3) := dk_180 0 128 (dk_at dksX0_wouldWin_0 4 rfl rfl)
theorem dX0_wouldWin_7 : decode cX0_wouldWin 7 = .ok (.iload_n 1, 1) := dk_27 (dk_at dksX0_wouldWin_0 7 rfl rfl)
theorem dX0_wouldWin_8 : decode cX0_wouldWin 8 = .ok (.iaload, 1) := dk_46 (dk_at dksX0_wouldWin_0 8 rfl rfl)
theorem dX0_wouldWin_9 : decode cX0_wouldWin 9 = .ok (.istore_n 2, 1) := dk_61 (dk_at dksX0_wouldWin_0 9 rfl rfl)
theorem dX0_wouldWin_10 : decode cX0_wouldWin 10 = .ok (.iload_n 2, 1) := dk_28 (dk_at dksX0_wouldWin_0 10 rfl rfl)
theorem dX0_wouldWin_11 : decode cX0_wouldWin 11 = .ok (.iconst (-1), 1) := dk_2 (dk_at dksX0_wouldWin_0 11 rfl rfl)
theorem dX0_wouldWin_12 : decode cX0_wouldWin 12 = .ok (.if_icmp .eq 26, 3) := dk_159 0 26 (dk_at dksX0_wouldWin_0 12 rfl rfl)
theorem dX0_wouldWin_15 : decode cX0_wouldWin 15 = .ok (.aload_n 0, 1) := dk_42 (dk_at dksX0_wouldWin_0 15 rfl rfl)
theorem dX0_wouldWin_16 : decode cX0_wouldWin 16 = .ok (.iload_n 2, 1) := dk_28 (dk_at dksX0_wouldWin_0 16 rfl rfl)
theorem dX0_wouldWin_17 : decode cX0_wouldWin 17 = .ok (.invokevirtual 131, 3) := dk_182 0 131 (dk_at dksX0_wouldWin_0 17 rfl rfl)
theorem dX0_wouldWin_20 : decode cX0_wouldWin 20 = .ok (.invokevirtual 135, 3) := dk_182 0 135 (dk_at dksX0_wouldWin_0 20 rfl rfl)
theorem dX0_wouldWin_23 : decode cX0_wouldWin 23 = .ok (.aload_n 0, 1) := dk_42 (dk_at dksX0_wouldWin_0 23 rfl rfl)
theorem dX0_wouldWin_24 : decode cX0_wouldWin 24 = .ok (.getfield 76, 3) := dk_180 0 76 (dk_at dksX0_wouldWin_1 0 rfl rfl)
theorem dX0_wouldWin_27 : decode cX0_wouldWin 27 = .ok (.iload_n 1, 1) := dk_27 (dk_at dksX0_wouldWin_1 3 rfl rfl)
theorem dX0_wouldWin_28 : decode cX0_wouldWin 28 = .ok (.invokevirtual 139, 3) := dk_182 0 139 (dk_at dksX0_wouldWin_1 4 rfl rfl)
theorem dX0_wouldWin_31 : decode cX0_wouldWin 31 = .ok (.if_icmp .le 7, 3) := dk_164 0 7 (dk_at dksX0_wouldWin_1 7 rfl rfl)
theorem dX0_wouldWin_34 : decode cX0_wouldWin 34 = .ok (.iconst 1, 1) := dk_4 (dk_at dksX0_wouldWin_1 10 rfl rfl)
theorem dX0_wouldWin_35 : decode cX0_wouldWin 35 = .ok (.goto 4, 3) := dk_167 0 4 (dk_at dksX0_wouldWin_1 11 rfl rfl)
theorem dX0_wouldWin_38 : decode cX0_wouldWin 38 = .ok (.iconst 0, 1) := dk_3 (dk_at dksX0_wouldWin_1 14 rfl rfl)
theorem dX0_wouldWin_39 : decode cX0_wouldWin 39 = .ok (.ireturn, 1) := dk_172 (dk_at dksX0_wouldWin_1 15 rfl rfl)
abbrev cX0_now : ByteArray := prog_1_method_41_code
def yX0_now : MethodName := ⟨RX0, "now", "(I)I"⟩
def dkwX0_now_4 : List UInt8 := [180, 0, 76, 16, 63, 182, 0, 235, 172, 42, 3, 182, 0, 126, 172]
abbrev dktX0_now_4 : List UInt8 := dkwX0_now_4 ++ []
def dkwX0_now_3 : List UInt8 := [172, 42, 180, 0, 76, 7, 182, 0, 229, 172, 42, 180, 0, 76, 182, 0, 142, 172, 42, 182, 0, 232, 172, 42]
abbrev dktX0_now_3 : List UInt8 := dkwX0_now_3 ++ dktX0_now_4
def dkwX0_now_2 : List UInt8 := [42, 180, 0, 76, 180, 0, 226, 172, 42, 180, 0, 76, 180, 0, 217, 172, 42, 180, 0, 76, 6, 182, 0, 229]
abbrev dktX0_now_2 : List UInt8 := dkwX0_now_2 ++ dktX0_now_3
def dkwX0_now_1 : List UInt8 := [170, 0, 0, 0, 0, 0, 100, 0, 0, 0, 0, 0, 0, 0, 6, 0, 0, 0, 43, 0, 0, 0, 51, 0, 0, 0, 59, 0, 0, 0, 68, 0, 0, 0, 77, 0, 0, 0, 85, 0, 0, 0, 90]
abbrev dktX0_now_1 : List UInt8 := dkwX0_now_1 ++ dktX0_now_2
def dkwX0_now_0 : List UInt8 := [27]
abbrev dktX0_now_0 : List UInt8 := dkwX0_now_0 ++ dktX0_now_1
theorem dksX0_now_0 : cX0_now.data.toList.drop 0 = dktX0_now_0 := by decide +kernel
theorem dksX0_now_1 : cX0_now.data.toList.drop 1 = dktX0_now_1 := dk_seg dksX0_now_0 1 rfl rfl
theorem dksX0_now_2 : cX0_now.data.toList.drop 44 = dktX0_now_2 := dk_seg dksX0_now_1 43 rfl rfl
theorem dksX0_now_3 : cX0_now.data.toList.drop 68 = dktX0_now_3 := dk_seg dksX0_now_2 24 rfl rfl
theorem dksX0_now_4 : cX0_now.data.toList.drop 92 = dktX0_now_4 := dk_seg dksX0_now_3 24 rfl rfl
theorem dX0_now_0 : decode cX0_now 0 = .ok (.iload_n 1, 1) := dk_27 (dk_at dksX0_now_0 0 rfl rfl)
theorem dX0_now_1 : decode cX0_now 1 = .ok (.tableswitch 100 0 6 #[43, 51, 59, 68, 77, 85, 90], 43) := by decide +kernel
theorem dX0_now_44 : decode cX0_now 44 = .ok (.aload_n 0, 1) := dk_42 (dk_at dksX0_now_2 0 rfl rfl)
theorem dX0_now_45 : decode cX0_now 45 = .ok (.getfield 76, 3) := dk_180 0 76 (dk_at dksX0_now_2 1 rfl rfl)
theorem dX0_now_48 : decode cX0_now 48 = .ok (.getfield 226, 3) := dk_180 0 226 (dk_at dksX0_now_2 4 rfl rfl)
theorem dX0_now_51 : decode cX0_now 51 = .ok (.ireturn, 1) := dk_172 (dk_at dksX0_now_2 7 rfl rfl)
theorem dX0_now_52 : decode cX0_now 52 = .ok (.aload_n 0, 1) := dk_42 (dk_at dksX0_now_2 8 rfl rfl)
theorem dX0_now_53 : decode cX0_now 53 = .ok (.getfield 76, 3) := dk_180 0 76 (dk_at dksX0_now_2 9 rfl rfl)
theorem dX0_now_56 : decode cX0_now 56 = .ok (.getfield 217, 3) := dk_180 0 217 (dk_at dksX0_now_2 12 rfl rfl)
theorem dX0_now_59 : decode cX0_now 59 = .ok (.ireturn, 1) := dk_172 (dk_at dksX0_now_2 15 rfl rfl)
theorem dX0_now_60 : decode cX0_now 60 = .ok (.aload_n 0, 1) := dk_42 (dk_at dksX0_now_2 16 rfl rfl)
theorem dX0_now_61 : decode cX0_now 61 = .ok (.getfield 76, 3) := dk_180 0 76 (dk_at dksX0_now_2 17 rfl rfl)
theorem dX0_now_64 : decode cX0_now 64 = .ok (.iconst 3, 1) := dk_6 (dk_at dksX0_now_2 20 rfl rfl)
theorem dX0_now_65 : decode cX0_now 65 = .ok (.invokevirtual 229, 3) := dk_182 0 229 (dk_at dksX0_now_2 21 rfl rfl)
theorem dX0_now_68 : decode cX0_now 68 = .ok (.ireturn, 1) := dk_172 (dk_at dksX0_now_3 0 rfl rfl)
theorem dX0_now_69 : decode cX0_now 69 = .ok (.aload_n 0, 1) := dk_42 (dk_at dksX0_now_3 1 rfl rfl)
theorem dX0_now_70 : decode cX0_now 70 = .ok (.getfield 76, 3) := dk_180 0 76 (dk_at dksX0_now_3 2 rfl rfl)
theorem dX0_now_73 : decode cX0_now 73 = .ok (.iconst 4, 1) := dk_7 (dk_at dksX0_now_3 5 rfl rfl)
theorem dX0_now_74 : decode cX0_now 74 = .ok (.invokevirtual 229, 3) := dk_182 0 229 (dk_at dksX0_now_3 6 rfl rfl)
theorem dX0_now_77 : decode cX0_now 77 = .ok (.ireturn, 1) := dk_172 (dk_at dksX0_now_3 9 rfl rfl)
theorem dX0_now_78 : decode cX0_now 78 = .ok (.aload_n 0, 1) := dk_42 (dk_at dksX0_now_3 10 rfl rfl)
theorem dX0_now_79 : decode cX0_now 79 = .ok (.getfield 76, 3) := dk_180 0 76 (dk_at dksX0_now_3 11 rfl rfl)
theorem dX0_now_82 : decode cX0_now 82 = .ok (.invokevirtual 142, 3) := dk_182 0 142 (dk_at dksX0_now_3 14 rfl rfl)
theorem dX0_now_85 : decode cX0_now 85 = .ok (.ireturn, 1) := dk_172 (dk_at dksX0_now_3 17 rfl rfl)
theorem dX0_now_86 : decode cX0_now 86 = .ok (.aload_n 0, 1) := dk_42 (dk_at dksX0_now_3 18 rfl rfl)
theorem dX0_now_87 : decode cX0_now 87 = .ok (.invokevirtual 232, 3) := dk_182 0 232 (dk_at dksX0_now_3 19 rfl rfl)
theorem dX0_now_90 : decode cX0_now 90 = .ok (.ireturn, 1) := dk_172 (dk_at dksX0_now_3 22 rfl rfl)
theorem dX0_now_91 : decode cX0_now 91 = .ok (.aload_n 0, 1) := dk_42 (dk_at dksX0_now_3 23 rfl rfl)
theorem dX0_now_92 : decode cX0_now 92 = .ok (.getfield 76, 3) := dk_180 0 76 (dk_at dksX0_now_4 0 rfl rfl)
theorem dX0_now_95 : decode cX0_now 95 = .ok (.bipush 63, 2) := dk_16 63 (dk_at dksX0_now_4 3 rfl rfl)
theorem dX0_now_97 : decode cX0_now 97 = .ok (.invokevirtual 235, 3) := dk_182 0 235 (dk_at dksX0_now_4 5 rfl rfl)
theorem dX0_now_100 : decode cX0_now 100 = .ok (.ireturn, 1) := dk_172 (dk_at dksX0_now_4 8 rfl rfl)
theorem dX0_now_101 : decode cX0_now 101 = .ok (.aload_n 0, 1) := dk_42 (dk_at dksX0_now_4 9 rfl rfl)
theorem dX0_now_102 : decode cX0_now 102 = .ok (.iconst 0, 1) := dk_3 (dk_at dksX0_now_4 10 rfl rfl)
theorem dX0_now_103 : decode cX0_now 103 = .ok (.invokevirtual 126, 3) := dk_182 0 126 (dk_at dksX0_now_4 11 rfl rfl)
theorem dX0_now_106 : decode cX0_now 106 = .ok (.ireturn, 1) := dk_172 (dk_at dksX0_now_4 14 rfl rfl)
abbrev cX0_won : ByteArray := prog_1_method_40_code
def yX0_won : MethodName := ⟨RX0, "won", "()I"⟩
def dkwX0_won_1 : List UInt8 := [167, 0, 4, 3, 128, 60, 132, 2, 1, 167, 255, 229, 27, 172]
abbrev dktX0_won_1 : List UInt8 := dkwX0_won_1 ++ []
def dkwX0_won_0 : List UInt8 := [3, 60, 3, 61, 28, 16, 7, 162, 0, 27, 27, 42, 28, 182, 0, 152, 153, 0, 9, 4, 28, 120]
abbrev dktX0_won_0 : List UInt8 := dkwX0_won_0 ++ dktX0_won_1
theorem dksX0_won_0 : cX0_won.data.toList.drop 0 = dktX0_won_0 := by decide +kernel
theorem dksX0_won_1 : cX0_won.data.toList.drop 22 = dktX0_won_1 := dk_seg dksX0_won_0 22 rfl rfl
theorem dX0_won_0 : decode cX0_won 0 = .ok (.iconst 0, 1) := dk_3 (dk_at dksX0_won_0 0 rfl rfl)
theorem dX0_won_1 : decode cX0_won 1 = .ok (.istore_n 1, 1) := dk_60 (dk_at dksX0_won_0 1 rfl rfl)
theorem dX0_won_2 : decode cX0_won 2 = .ok (.iconst 0, 1) := dk_3 (dk_at dksX0_won_0 2 rfl rfl)
theorem dX0_won_3 : decode cX0_won 3 = .ok (.istore_n 2, 1) := dk_61 (dk_at dksX0_won_0 3 rfl rfl)
theorem dX0_won_4 : decode cX0_won 4 = .ok (.iload_n 2, 1) := dk_28 (dk_at dksX0_won_0 4 rfl rfl)
theorem dX0_won_5 : decode cX0_won 5 = .ok (.bipush 7, 2) := dk_16 7 (dk_at dksX0_won_0 5 rfl rfl)
theorem dX0_won_7 : decode cX0_won 7 = .ok (.if_icmp .ge 27, 3) := dk_162 0 27 (dk_at dksX0_won_0 7 rfl rfl)
theorem dX0_won_10 : decode cX0_won 10 = .ok (.iload_n 1, 1) := dk_27 (dk_at dksX0_won_0 10 rfl rfl)
theorem dX0_won_11 : decode cX0_won 11 = .ok (.aload_n 0, 1) := dk_42 (dk_at dksX0_won_0 11 rfl rfl)
theorem dX0_won_12 : decode cX0_won 12 = .ok (.iload_n 2, 1) := dk_28 (dk_at dksX0_won_0 12 rfl rfl)
theorem dX0_won_13 : decode cX0_won 13 = .ok (.invokevirtual 152, 3) := dk_182 0 152 (dk_at dksX0_won_0 13 rfl rfl)
theorem dX0_won_16 : decode cX0_won 16 = .ok (.ifCond .eq 9, 3) := dk_153 0 9 (dk_at dksX0_won_0 16 rfl rfl)
theorem dX0_won_19 : decode cX0_won 19 = .ok (.iconst 1, 1) := dk_4 (dk_at dksX0_won_0 19 rfl rfl)
theorem dX0_won_20 : decode cX0_won 20 = .ok (.iload_n 2, 1) := dk_28 (dk_at dksX0_won_0 20 rfl rfl)
theorem dX0_won_21 : decode cX0_won 21 = .ok (.ishl, 1) := dk_120 (dk_at dksX0_won_0 21 rfl rfl)
theorem dX0_won_22 : decode cX0_won 22 = .ok (.goto 4, 3) := dk_167 0 4 (dk_at dksX0_won_1 0 rfl rfl)
theorem dX0_won_25 : decode cX0_won 25 = .ok (.iconst 0, 1) := dk_3 (dk_at dksX0_won_1 3 rfl rfl)
theorem dX0_won_26 : decode cX0_won 26 = .ok (.ior, 1) := dk_128 (dk_at dksX0_won_1 4 rfl rfl)
theorem dX0_won_27 : decode cX0_won 27 = .ok (.istore_n 1, 1) := dk_60 (dk_at dksX0_won_1 5 rfl rfl)
theorem dX0_won_28 : decode cX0_won 28 = .ok (.iinc 2 1, 3) := dk_132 2 1 (dk_at dksX0_won_1 6 rfl rfl)
theorem dX0_won_31 : decode cX0_won 31 = .ok (.goto (-27), 3) := dk_167 255 229 (dk_at dksX0_won_1 9 rfl rfl)
theorem dX0_won_34 : decode cX0_won 34 = .ok (.iload_n 1, 1) := dk_27 (dk_at dksX0_won_1 12 rfl rfl)
theorem dX0_won_35 : decode cX0_won 35 = .ok (.ireturn, 1) := dk_172 (dk_at dksX0_won_1 13 rfl rfl)
abbrev cX0_has : ByteArray := prog_1_method_2_code
def yX0_has : MethodName := ⟨RX0, "has", "(II)Z"⟩
def dkwX0_has_0 : List UInt8 := [26, 27, 122, 4, 126, 4, 160, 0, 7, 4, 167, 0, 4, 3, 172]
abbrev dktX0_has_0 : List UInt8 := dkwX0_has_0 ++ []
theorem dksX0_has_0 : cX0_has.data.toList.drop 0 = dktX0_has_0 := by decide +kernel
theorem dX0_has_0 : decode cX0_has 0 = .ok (.iload_n 0, 1) := dk_26 (dk_at dksX0_has_0 0 rfl rfl)
theorem dX0_has_1 : decode cX0_has 1 = .ok (.iload_n 1, 1) := dk_27 (dk_at dksX0_has_0 1 rfl rfl)
theorem dX0_has_2 : decode cX0_has 2 = .ok (.ishr, 1) := dk_122 (dk_at dksX0_has_0 2 rfl rfl)
theorem dX0_has_3 : decode cX0_has 3 = .ok (.iconst 1, 1) := dk_4 (dk_at dksX0_has_0 3 rfl rfl)
theorem dX0_has_4 : decode cX0_has 4 = .ok (.iand, 1) := dk_126 (dk_at dksX0_has_0 4 rfl rfl)
theorem dX0_has_5 : decode cX0_has 5 = .ok (.iconst 1, 1) := dk_4 (dk_at dksX0_has_0 5 rfl rfl)
theorem dX0_has_6 : decode cX0_has 6 = .ok (.if_icmp .ne 7, 3) := dk_160 0 7 (dk_at dksX0_has_0 6 rfl rfl)
theorem dX0_has_9 : decode cX0_has 9 = .ok (.iconst 1, 1) := dk_4 (dk_at dksX0_has_0 9 rfl rfl)
theorem dX0_has_10 : decode cX0_has 10 = .ok (.goto 4, 3) := dk_167 0 4 (dk_at dksX0_has_0 10 rfl rfl)
theorem dX0_has_13 : decode cX0_has 13 = .ok (.iconst 0, 1) := dk_3 (dk_at dksX0_has_0 13 rfl rfl)
theorem dX0_has_14 : decode cX0_has 14 = .ok (.ireturn, 1) := dk_172 (dk_at dksX0_has_0 14 rfl rfl)
abbrev cX0_ahead : ByteArray := prog_1_method_44_code
def yX0_ahead : MethodName := ⟨RX0, "ahead", "(III)I"⟩
def dkwX0_ahead_1 : List UInt8 := [153, 0, 13, 42, 27, 28, 29, 182, 0, 245, 167, 0, 8, 42, 3, 182, 0, 126, 172]
abbrev dktX0_ahead_1 : List UInt8 := dkwX0_ahead_1 ++ []
def dkwX0_ahead_0 : List UInt8 := [42, 27, 182, 0, 175, 153, 0, 32, 28, 5, 8, 184, 0, 9, 153, 0, 23, 29, 3, 16, 100, 184, 0, 9]
abbrev dktX0_ahead_0 : List UInt8 := dkwX0_ahead_0 ++ dktX0_ahead_1
theorem dksX0_ahead_0 : cX0_ahead.data.toList.drop 0 = dktX0_ahead_0 := by decide +kernel
theorem dksX0_ahead_1 : cX0_ahead.data.toList.drop 24 = dktX0_ahead_1 := dk_seg dksX0_ahead_0 24 rfl rfl
theorem dX0_ahead_0 : decode cX0_ahead 0 = .ok (.aload_n 0, 1) := dk_42 (dk_at dksX0_ahead_0 0 rfl rfl)
theorem dX0_ahead_1 : decode cX0_ahead 1 = .ok (.iload_n 1, 1) := dk_27 (dk_at dksX0_ahead_0 1 rfl rfl)
theorem dX0_ahead_2 : decode cX0_ahead 2 = .ok (.invokevirtual 175, 3) := dk_182 0 175 (dk_at dksX0_ahead_0 2 rfl rfl)
theorem dX0_ahead_5 : decode cX0_ahead 5 = .ok (.ifCond .eq 32, 3) := dk_153 0 32 (dk_at dksX0_ahead_0 5 rfl rfl)
theorem dX0_ahead_8 : decode cX0_ahead 8 = .ok (.iload_n 2, 1) := dk_28 (dk_at dksX0_ahead_0 8 rfl rfl)
theorem dX0_ahead_9 : decode cX0_ahead 9 = .ok (.iconst 2, 1) := dk_5 (dk_at dksX0_ahead_0 9 rfl rfl)
theorem dX0_ahead_10 : decode cX0_ahead 10 = .ok (.iconst 5, 1) := dk_8 (dk_at dksX0_ahead_0 10 rfl rfl)
theorem dX0_ahead_11 : decode cX0_ahead 11 = .ok (.invokestatic 9, 3) := dk_184 0 9 (dk_at dksX0_ahead_0 11 rfl rfl)
theorem dX0_ahead_14 : decode cX0_ahead 14 = .ok (.ifCond .eq 23, 3) := dk_153 0 23 (dk_at dksX0_ahead_0 14 rfl rfl)
theorem dX0_ahead_17 : decode cX0_ahead 17 = .ok (.iload_n 3, 1) := dk_29 (dk_at dksX0_ahead_0 17 rfl rfl)
theorem dX0_ahead_18 : decode cX0_ahead 18 = .ok (.iconst 0, 1) := dk_3 (dk_at dksX0_ahead_0 18 rfl rfl)
theorem dX0_ahead_19 : decode cX0_ahead 19 = .ok (.bipush 100, 2) := dk_16 100 (dk_at dksX0_ahead_0 19 rfl rfl)
theorem dX0_ahead_21 : decode cX0_ahead 21 = .ok (.invokestatic 9, 3) := dk_184 0 9 (dk_at dksX0_ahead_0 21 rfl rfl)
theorem dX0_ahead_24 : decode cX0_ahead 24 = .ok (.ifCond .eq 13, 3) := dk_153 0 13 (dk_at dksX0_ahead_1 0 rfl rfl)
theorem dX0_ahead_27 : decode cX0_ahead 27 = .ok (.aload_n 0, 1) := dk_42 (dk_at dksX0_ahead_1 3 rfl rfl)
theorem dX0_ahead_28 : decode cX0_ahead 28 = .ok (.iload_n 1, 1) := dk_27 (dk_at dksX0_ahead_1 4 rfl rfl)
theorem dX0_ahead_29 : decode cX0_ahead 29 = .ok (.iload_n 2, 1) := dk_28 (dk_at dksX0_ahead_1 5 rfl rfl)
theorem dX0_ahead_30 : decode cX0_ahead 30 = .ok (.iload_n 3, 1) := dk_29 (dk_at dksX0_ahead_1 6 rfl rfl)
theorem dX0_ahead_31 : decode cX0_ahead 31 = .ok (.invokevirtual 245, 3) := dk_182 0 245 (dk_at dksX0_ahead_1 7 rfl rfl)
theorem dX0_ahead_34 : decode cX0_ahead 34 = .ok (.goto 8, 3) := dk_167 0 8 (dk_at dksX0_ahead_1 10 rfl rfl)
theorem dX0_ahead_37 : decode cX0_ahead 37 = .ok (.aload_n 0, 1) := dk_42 (dk_at dksX0_ahead_1 13 rfl rfl)
theorem dX0_ahead_38 : decode cX0_ahead 38 = .ok (.iconst 0, 1) := dk_3 (dk_at dksX0_ahead_1 14 rfl rfl)
theorem dX0_ahead_39 : decode cX0_ahead 39 = .ok (.invokevirtual 126, 3) := dk_182 0 126 (dk_at dksX0_ahead_1 15 rfl rfl)
theorem dX0_ahead_42 : decode cX0_ahead 42 = .ok (.ireturn, 1) := dk_172 (dk_at dksX0_ahead_1 18 rfl rfl)
abbrev cX0_toldBehind : ByteArray := prog_1_method_43_code
def yX0_toldBehind : MethodName := ⟨RX0, "toldBehind", "(III)I"⟩
def dkwX0_toldBehind_2 : List UInt8 := [182, 0, 238, 25, 5, 191]
abbrev dktX0_toldBehind_2 : List UInt8 := dkwX0_toldBehind_2 ++ []
def dkwX0_toldBehind_1 : List UInt8 := [42, 180, 0, 76, 42, 180, 0, 83, 182, 0, 238, 21, 4, 172, 58, 5, 42, 180, 0, 76, 42, 180, 0, 83]
abbrev dktX0_toldBehind_1 : List UInt8 := dkwX0_toldBehind_1 ++ dktX0_toldBehind_2
def dkwX0_toldBehind_0 : List UInt8 := [42, 180, 0, 83, 42, 180, 0, 76, 182, 0, 238, 42, 29, 182, 0, 215, 42, 27, 28, 182, 0, 242, 54, 4]
abbrev dktX0_toldBehind_0 : List UInt8 := dkwX0_toldBehind_0 ++ dktX0_toldBehind_1
theorem dksX0_toldBehind_0 : cX0_toldBehind.data.toList.drop 0 = dktX0_toldBehind_0 := by decide +kernel
theorem dksX0_toldBehind_1 : cX0_toldBehind.data.toList.drop 24 = dktX0_toldBehind_1 := dk_seg dksX0_toldBehind_0 24 rfl rfl
theorem dksX0_toldBehind_2 : cX0_toldBehind.data.toList.drop 48 = dktX0_toldBehind_2 := dk_seg dksX0_toldBehind_1 24 rfl rfl
theorem dX0_toldBehind_0 : decode cX0_toldBehind 0 = .ok (.aload_n 0, 1) := dk_42 (dk_at dksX0_toldBehind_0 0 rfl rfl)
theorem dX0_toldBehind_1 : decode cX0_toldBehind 1 = .ok (.getfield 83, 3) := dk_180 0 83 (dk_at dksX0_toldBehind_0 1 rfl rfl)
theorem dX0_toldBehind_4 : decode cX0_toldBehind 4 = .ok (.aload_n 0, 1) := dk_42 (dk_at dksX0_toldBehind_0 4 rfl rfl)
theorem dX0_toldBehind_5 : decode cX0_toldBehind 5 = .ok (.getfield 76, 3) := dk_180 0 76 (dk_at dksX0_toldBehind_0 5 rfl rfl)
theorem dX0_toldBehind_8 : decode cX0_toldBehind 8 = .ok (.invokevirtual 238, 3) := dk_182 0 238 (dk_at dksX0_toldBehind_0 8 rfl rfl)
theorem dX0_toldBehind_11 : decode cX0_toldBehind 11 = .ok (.aload_n 0, 1) := dk_42 (dk_at dksX0_toldBehind_0 11 rfl rfl)
theorem dX0_toldBehind_12 : decode cX0_toldBehind 12 = .ok (.iload_n 3, 1) := dk_29 (dk_at dksX0_toldBehind_0 12 rfl rfl)
theorem dX0_toldBehind_13 : decode cX0_toldBehind 13 = .ok (.invokevirtual 215, 3) := dk_182 0 215 (dk_at dksX0_toldBehind_0 13 rfl rfl)
theorem dX0_toldBehind_16 : decode cX0_toldBehind 16 = .ok (.aload_n 0, 1) := dk_42 (dk_at dksX0_toldBehind_0 16 rfl rfl)
theorem dX0_toldBehind_17 : decode cX0_toldBehind 17 = .ok (.iload_n 1, 1) := dk_27 (dk_at dksX0_toldBehind_0 17 rfl rfl)
theorem dX0_toldBehind_18 : decode cX0_toldBehind 18 = .ok (.iload_n 2, 1) := dk_28 (dk_at dksX0_toldBehind_0 18 rfl rfl)
theorem dX0_toldBehind_19 : decode cX0_toldBehind 19 = .ok (.invokevirtual 242, 3) := dk_182 0 242 (dk_at dksX0_toldBehind_0 19 rfl rfl)
theorem dX0_toldBehind_22 : decode cX0_toldBehind 22 = .ok (.istore 4, 2) := dk_54 4 (dk_at dksX0_toldBehind_0 22 rfl rfl)
theorem dX0_toldBehind_24 : decode cX0_toldBehind 24 = .ok (.aload_n 0, 1) := dk_42 (dk_at dksX0_toldBehind_1 0 rfl rfl)
theorem dX0_toldBehind_25 : decode cX0_toldBehind 25 = .ok (.getfield 76, 3) := dk_180 0 76 (dk_at dksX0_toldBehind_1 1 rfl rfl)
theorem dX0_toldBehind_28 : decode cX0_toldBehind 28 = .ok (.aload_n 0, 1) := dk_42 (dk_at dksX0_toldBehind_1 4 rfl rfl)
theorem dX0_toldBehind_29 : decode cX0_toldBehind 29 = .ok (.getfield 83, 3) := dk_180 0 83 (dk_at dksX0_toldBehind_1 5 rfl rfl)
theorem dX0_toldBehind_32 : decode cX0_toldBehind 32 = .ok (.invokevirtual 238, 3) := dk_182 0 238 (dk_at dksX0_toldBehind_1 8 rfl rfl)
theorem dX0_toldBehind_35 : decode cX0_toldBehind 35 = .ok (.iload 4, 2) := dk_21 4 (dk_at dksX0_toldBehind_1 11 rfl rfl)
theorem dX0_toldBehind_37 : decode cX0_toldBehind 37 = .ok (.ireturn, 1) := dk_172 (dk_at dksX0_toldBehind_1 13 rfl rfl)
theorem dX0_toldBehind_38 : decode cX0_toldBehind 38 = .ok (.astore 5, 2) := dk_58 5 (dk_at dksX0_toldBehind_1 14 rfl rfl)
theorem dX0_toldBehind_40 : decode cX0_toldBehind 40 = .ok (.aload_n 0, 1) := dk_42 (dk_at dksX0_toldBehind_1 16 rfl rfl)
theorem dX0_toldBehind_41 : decode cX0_toldBehind 41 = .ok (.getfield 76, 3) := dk_180 0 76 (dk_at dksX0_toldBehind_1 17 rfl rfl)
theorem dX0_toldBehind_44 : decode cX0_toldBehind 44 = .ok (.aload_n 0, 1) := dk_42 (dk_at dksX0_toldBehind_1 20 rfl rfl)
theorem dX0_toldBehind_45 : decode cX0_toldBehind 45 = .ok (.getfield 83, 3) := dk_180 0 83 (dk_at dksX0_toldBehind_1 21 rfl rfl)
theorem dX0_toldBehind_48 : decode cX0_toldBehind 48 = .ok (.invokevirtual 238, 3) := dk_182 0 238 (dk_at dksX0_toldBehind_2 0 rfl rfl)
theorem dX0_toldBehind_51 : decode cX0_toldBehind 51 = .ok (.aload 5, 2) := dk_25 5 (dk_at dksX0_toldBehind_2 3 rfl rfl)
theorem dX0_toldBehind_53 : decode cX0_toldBehind 53 = .ok (.athrow, 1) := dk_191 (dk_at dksX0_toldBehind_2 5 rfl rfl)
abbrev cX0_toldOf : ByteArray := prog_1_method_42_code
def yX0_toldOf : MethodName := ⟨RX0, "toldOf", "(II)I"⟩
def dkwX0_toldOf_1 : List UInt8 := [50, 27, 46, 172]
abbrev dktX0_toldOf_1 : List UInt8 := dkwX0_toldOf_1 ++ []
def dkwX0_toldOf_0 : List UInt8 := [28, 8, 160, 0, 14, 42, 27, 182, 0, 131, 182, 0, 135, 167, 0, 14, 42, 180, 0, 76, 180, 0, 111, 28]
abbrev dktX0_toldOf_0 : List UInt8 := dkwX0_toldOf_0 ++ dktX0_toldOf_1
theorem dksX0_toldOf_0 : cX0_toldOf.data.toList.drop 0 = dktX0_toldOf_0 := by decide +kernel
theorem dksX0_toldOf_1 : cX0_toldOf.data.toList.drop 24 = dktX0_toldOf_1 := dk_seg dksX0_toldOf_0 24 rfl rfl
theorem dX0_toldOf_0 : decode cX0_toldOf 0 = .ok (.iload_n 2, 1) := dk_28 (dk_at dksX0_toldOf_0 0 rfl rfl)
theorem dX0_toldOf_1 : decode cX0_toldOf 1 = .ok (.iconst 5, 1) := dk_8 (dk_at dksX0_toldOf_0 1 rfl rfl)
theorem dX0_toldOf_2 : decode cX0_toldOf 2 = .ok (.if_icmp .ne 14, 3) := dk_160 0 14 (dk_at dksX0_toldOf_0 2 rfl rfl)
theorem dX0_toldOf_5 : decode cX0_toldOf 5 = .ok (.aload_n 0, 1) := dk_42 (dk_at dksX0_toldOf_0 5 rfl rfl)
theorem dX0_toldOf_6 : decode cX0_toldOf 6 = .ok (.iload_n 1, 1) := dk_27 (dk_at dksX0_toldOf_0 6 rfl rfl)
theorem dX0_toldOf_7 : decode cX0_toldOf 7 = .ok (.invokevirtual 131, 3) := dk_182 0 131 (dk_at dksX0_toldOf_0 7 rfl rfl)
theorem dX0_toldOf_10 : decode cX0_toldOf 10 = .ok (.invokevirtual 135, 3) := dk_182 0 135 (dk_at dksX0_toldOf_0 10 rfl rfl)
theorem dX0_toldOf_13 : decode cX0_toldOf 13 = .ok (.goto 14, 3) := dk_167 0 14 (dk_at dksX0_toldOf_0 13 rfl rfl)
theorem dX0_toldOf_16 : decode cX0_toldOf 16 = .ok (.aload_n 0, 1) := dk_42 (dk_at dksX0_toldOf_0 16 rfl rfl)
theorem dX0_toldOf_17 : decode cX0_toldOf 17 = .ok (.getfield 76, 3) := dk_180 0 76 (dk_at dksX0_toldOf_0 17 rfl rfl)
theorem dX0_toldOf_20 : decode cX0_toldOf 20 = .ok (.getfield 111, 3) := dk_180 0 111 (dk_at dksX0_toldOf_0 20 rfl rfl)
theorem dX0_toldOf_23 : decode cX0_toldOf 23 = .ok (.iload_n 2, 1) := dk_28 (dk_at dksX0_toldOf_0 23 rfl rfl)
theorem dX0_toldOf_24 : decode cX0_toldOf 24 = .ok (.aaload, 1) := dk_50 (dk_at dksX0_toldOf_1 0 rfl rfl)
theorem dX0_toldOf_25 : decode cX0_toldOf 25 = .ok (.iload_n 1, 1) := dk_27 (dk_at dksX0_toldOf_1 1 rfl rfl)
theorem dX0_toldOf_26 : decode cX0_toldOf 26 = .ok (.iaload, 1) := dk_46 (dk_at dksX0_toldOf_1 2 rfl rfl)
theorem dX0_toldOf_27 : decode cX0_toldOf 27 = .ok (.ireturn, 1) := dk_172 (dk_at dksX0_toldOf_1 3 rfl rfl)
abbrev cX0_metres : ByteArray := prog_1_method_46_code
def yX0_metres : MethodName := ⟨RX0, "metres", "(I)I"⟩
def dkwX0_metres_0 : List UInt8 := [27, 3, 16, 100, 184, 0, 9, 153, 0, 11, 42, 27, 182, 0, 249, 167, 0, 8, 42, 3, 182, 0, 126, 172]
abbrev dktX0_metres_0 : List UInt8 := dkwX0_metres_0 ++ []
theorem dksX0_metres_0 : cX0_metres.data.toList.drop 0 = dktX0_metres_0 := by decide +kernel
theorem dX0_metres_0 : decode cX0_metres 0 = .ok (.iload_n 1, 1) := dk_27 (dk_at dksX0_metres_0 0 rfl rfl)
theorem dX0_metres_1 : decode cX0_metres 1 = .ok (.iconst 0, 1) := dk_3 (dk_at dksX0_metres_0 1 rfl rfl)
theorem dX0_metres_2 : decode cX0_metres 2 = .ok (.bipush 100, 2) := dk_16 100 (dk_at dksX0_metres_0 2 rfl rfl)
theorem dX0_metres_4 : decode cX0_metres 4 = .ok (.invokestatic 9, 3) := dk_184 0 9 (dk_at dksX0_metres_0 4 rfl rfl)
theorem dX0_metres_7 : decode cX0_metres 7 = .ok (.ifCond .eq 11, 3) := dk_153 0 11 (dk_at dksX0_metres_0 7 rfl rfl)
theorem dX0_metres_10 : decode cX0_metres 10 = .ok (.aload_n 0, 1) := dk_42 (dk_at dksX0_metres_0 10 rfl rfl)
theorem dX0_metres_11 : decode cX0_metres 11 = .ok (.iload_n 1, 1) := dk_27 (dk_at dksX0_metres_0 11 rfl rfl)
theorem dX0_metres_12 : decode cX0_metres 12 = .ok (.invokevirtual 249, 3) := dk_182 0 249 (dk_at dksX0_metres_0 12 rfl rfl)
theorem dX0_metres_15 : decode cX0_metres 15 = .ok (.goto 8, 3) := dk_167 0 8 (dk_at dksX0_metres_0 15 rfl rfl)
theorem dX0_metres_18 : decode cX0_metres 18 = .ok (.aload_n 0, 1) := dk_42 (dk_at dksX0_metres_0 18 rfl rfl)
theorem dX0_metres_19 : decode cX0_metres 19 = .ok (.iconst 0, 1) := dk_3 (dk_at dksX0_metres_0 19 rfl rfl)
theorem dX0_metres_20 : decode cX0_metres 20 = .ok (.invokevirtual 126, 3) := dk_182 0 126 (dk_at dksX0_metres_0 20 rfl rfl)
theorem dX0_metres_23 : decode cX0_metres 23 = .ok (.ireturn, 1) := dk_172 (dk_at dksX0_metres_0 23 rfl rfl)
abbrev cX0_metresBehind : ByteArray := prog_1_method_45_code
def yX0_metresBehind : MethodName := ⟨RX0, "metresBehind", "(I)I"⟩
def dkwX0_metresBehind_1 : List UInt8 := [180, 0, 83, 182, 0, 238, 28, 172, 78, 42, 180, 0, 76, 42, 180, 0, 83, 182, 0, 238, 45, 191]
abbrev dktX0_metresBehind_1 : List UInt8 := dkwX0_metresBehind_1 ++ []
def dkwX0_metresBehind_0 : List UInt8 := [42, 180, 0, 83, 42, 180, 0, 76, 182, 0, 238, 42, 27, 182, 0, 223, 61, 42, 180, 0, 76, 42]
abbrev dktX0_metresBehind_0 : List UInt8 := dkwX0_metresBehind_0 ++ dktX0_metresBehind_1
theorem dksX0_metresBehind_0 : cX0_metresBehind.data.toList.drop 0 = dktX0_metresBehind_0 := by decide +kernel
theorem dksX0_metresBehind_1 : cX0_metresBehind.data.toList.drop 22 = dktX0_metresBehind_1 := dk_seg dksX0_metresBehind_0 22 rfl rfl
theorem dX0_metresBehind_0 : decode cX0_metresBehind 0 = .ok (.aload_n 0, 1) := dk_42 (dk_at dksX0_metresBehind_0 0 rfl rfl)
theorem dX0_metresBehind_1 : decode cX0_metresBehind 1 = .ok (.getfield 83, 3) := dk_180 0 83 (dk_at dksX0_metresBehind_0 1 rfl rfl)
theorem dX0_metresBehind_4 : decode cX0_metresBehind 4 = .ok (.aload_n 0, 1) := dk_42 (dk_at dksX0_metresBehind_0 4 rfl rfl)
theorem dX0_metresBehind_5 : decode cX0_metresBehind 5 = .ok (.getfield 76, 3) := dk_180 0 76 (dk_at dksX0_metresBehind_0 5 rfl rfl)
theorem dX0_metresBehind_8 : decode cX0_metresBehind 8 = .ok (.invokevirtual 238, 3) := dk_182 0 238 (dk_at dksX0_metresBehind_0 8 rfl rfl)
theorem dX0_metresBehind_11 : decode cX0_metresBehind 11 = .ok (.aload_n 0, 1) := dk_42 (dk_at dksX0_metresBehind_0 11 rfl rfl)
theorem dX0_metresBehind_12 : decode cX0_metresBehind 12 = .ok (.iload_n 1, 1) := dk_27 (dk_at dksX0_metresBehind_0 12 rfl rfl)
theorem dX0_metresBehind_13 : decode cX0_metresBehind 13 = .ok (.invokevirtual 223, 3) := dk_182 0 223 (dk_at dksX0_metresBehind_0 13 rfl rfl)
theorem dX0_metresBehind_16 : decode cX0_metresBehind 16 = .ok (.istore_n 2, 1) := dk_61 (dk_at dksX0_metresBehind_0 16 rfl rfl)
theorem dX0_metresBehind_17 : decode cX0_metresBehind 17 = .ok (.aload_n 0, 1) := dk_42 (dk_at dksX0_metresBehind_0 17 rfl rfl)
theorem dX0_metresBehind_18 : decode cX0_metresBehind 18 = .ok (.getfield 76, 3) := dk_180 0 76 (dk_at dksX0_metresBehind_0 18 rfl rfl)
theorem dX0_metresBehind_21 : decode cX0_metresBehind 21 = .ok (.aload_n 0, 1) := dk_42 (dk_at dksX0_metresBehind_0 21 rfl rfl)
theorem dX0_metresBehind_22 : decode cX0_metresBehind 22 = .ok (.getfield 83, 3) := dk_180 0 83 (dk_at dksX0_metresBehind_1 0 rfl rfl)
theorem dX0_metresBehind_25 : decode cX0_metresBehind 25 = .ok (.invokevirtual 238, 3) := dk_182 0 238 (dk_at dksX0_metresBehind_1 3 rfl rfl)
theorem dX0_metresBehind_28 : decode cX0_metresBehind 28 = .ok (.iload_n 2, 1) := dk_28 (dk_at dksX0_metresBehind_1 6 rfl rfl)
theorem dX0_metresBehind_29 : decode cX0_metresBehind 29 = .ok (.ireturn, 1) := dk_172 (dk_at dksX0_metresBehind_1 7 rfl rfl)
theorem dX0_metresBehind_30 : decode cX0_metresBehind 30 = .ok (.astore_n 3, 1) := dk_78 (dk_at dksX0_metresBehind_1 8 rfl rfl)
theorem dX0_metresBehind_31 : decode cX0_metresBehind 31 = .ok (.aload_n 0, 1) := dk_42 (dk_at dksX0_metresBehind_1 9 rfl rfl)
theorem dX0_metresBehind_32 : decode cX0_metresBehind 32 = .ok (.getfield 76, 3) := dk_180 0 76 (dk_at dksX0_metresBehind_1 10 rfl rfl)
theorem dX0_metresBehind_35 : decode cX0_metresBehind 35 = .ok (.aload_n 0, 1) := dk_42 (dk_at dksX0_metresBehind_1 13 rfl rfl)
theorem dX0_metresBehind_36 : decode cX0_metresBehind 36 = .ok (.getfield 83, 3) := dk_180 0 83 (dk_at dksX0_metresBehind_1 14 rfl rfl)
theorem dX0_metresBehind_39 : decode cX0_metresBehind 39 = .ok (.invokevirtual 238, 3) := dk_182 0 238 (dk_at dksX0_metresBehind_1 17 rfl rfl)
theorem dX0_metresBehind_42 : decode cX0_metresBehind 42 = .ok (.aload_n 3, 1) := dk_45 (dk_at dksX0_metresBehind_1 20 rfl rfl)
theorem dX0_metresBehind_43 : decode cX0_metresBehind 43 = .ok (.athrow, 1) := dk_191 (dk_at dksX0_metresBehind_1 21 rfl rfl)
abbrev cX0_when : ByteArray := prog_1_method_48_code
def yX0_when : MethodName := ⟨RX0, "when", "(II)I"⟩
def dkwX0_when_1 : List UInt8 := [182, 0, 255, 167, 0, 8, 42, 3, 182, 0, 126, 172]
abbrev dktX0_when_1 : List UInt8 := dkwX0_when_1 ++ []
def dkwX0_when_0 : List UInt8 := [42, 27, 182, 0, 175, 153, 0, 23, 28, 184, 0, 20, 153, 0, 16, 42, 42, 27, 28, 182, 0, 252]
abbrev dktX0_when_0 : List UInt8 := dkwX0_when_0 ++ dktX0_when_1
theorem dksX0_when_0 : cX0_when.data.toList.drop 0 = dktX0_when_0 := by decide +kernel
theorem dksX0_when_1 : cX0_when.data.toList.drop 22 = dktX0_when_1 := dk_seg dksX0_when_0 22 rfl rfl
theorem dX0_when_0 : decode cX0_when 0 = .ok (.aload_n 0, 1) := dk_42 (dk_at dksX0_when_0 0 rfl rfl)
theorem dX0_when_1 : decode cX0_when 1 = .ok (.iload_n 1, 1) := dk_27 (dk_at dksX0_when_0 1 rfl rfl)
theorem dX0_when_2 : decode cX0_when 2 = .ok (.invokevirtual 175, 3) := dk_182 0 175 (dk_at dksX0_when_0 2 rfl rfl)
theorem dX0_when_5 : decode cX0_when 5 = .ok (.ifCond .eq 23, 3) := dk_153 0 23 (dk_at dksX0_when_0 5 rfl rfl)
theorem dX0_when_8 : decode cX0_when 8 = .ok (.iload_n 2, 1) := dk_28 (dk_at dksX0_when_0 8 rfl rfl)
theorem dX0_when_9 : decode cX0_when 9 = .ok (.invokestatic 20, 3) := dk_184 0 20 (dk_at dksX0_when_0 9 rfl rfl)
theorem dX0_when_12 : decode cX0_when 12 = .ok (.ifCond .eq 16, 3) := dk_153 0 16 (dk_at dksX0_when_0 12 rfl rfl)
theorem dX0_when_15 : decode cX0_when 15 = .ok (.aload_n 0, 1) := dk_42 (dk_at dksX0_when_0 15 rfl rfl)
theorem dX0_when_16 : decode cX0_when 16 = .ok (.aload_n 0, 1) := dk_42 (dk_at dksX0_when_0 16 rfl rfl)
theorem dX0_when_17 : decode cX0_when 17 = .ok (.iload_n 1, 1) := dk_27 (dk_at dksX0_when_0 17 rfl rfl)
theorem dX0_when_18 : decode cX0_when 18 = .ok (.iload_n 2, 1) := dk_28 (dk_at dksX0_when_0 18 rfl rfl)
theorem dX0_when_19 : decode cX0_when 19 = .ok (.invokevirtual 252, 3) := dk_182 0 252 (dk_at dksX0_when_0 19 rfl rfl)
theorem dX0_when_22 : decode cX0_when 22 = .ok (.invokevirtual 255, 3) := dk_182 0 255 (dk_at dksX0_when_1 0 rfl rfl)
theorem dX0_when_25 : decode cX0_when 25 = .ok (.goto 8, 3) := dk_167 0 8 (dk_at dksX0_when_1 3 rfl rfl)
theorem dX0_when_28 : decode cX0_when 28 = .ok (.aload_n 0, 1) := dk_42 (dk_at dksX0_when_1 6 rfl rfl)
theorem dX0_when_29 : decode cX0_when 29 = .ok (.iconst 0, 1) := dk_3 (dk_at dksX0_when_1 7 rfl rfl)
theorem dX0_when_30 : decode cX0_when 30 = .ok (.invokevirtual 126, 3) := dk_182 0 126 (dk_at dksX0_when_1 8 rfl rfl)
theorem dX0_when_33 : decode cX0_when 33 = .ok (.ireturn, 1) := dk_172 (dk_at dksX0_when_1 11 rfl rfl)
abbrev cX0_wonBehind : ByteArray := prog_1_method_47_code
def yX0_wonBehind : MethodName := ⟨RX0, "wonBehind", "(II)I"⟩
def dkwX0_wonBehind_3 : List UInt8 := [58, 5, 42, 180, 0, 76, 42, 180, 0, 83, 182, 0, 238, 25, 5, 191]
abbrev dktX0_wonBehind_3 : List UInt8 := dkwX0_wonBehind_3 ++ []
def dkwX0_wonBehind_2 : List UInt8 := [163, 0, 7, 29, 167, 0, 4, 2, 54, 4, 42, 180, 0, 76, 42, 180, 0, 83, 182, 0, 238, 21, 4, 172]
abbrev dktX0_wonBehind_2 : List UInt8 := dkwX0_wonBehind_2 ++ dktX0_wonBehind_3
def dkwX0_wonBehind_1 : List UInt8 := [180, 0, 111, 6, 50, 27, 46, 28, 162, 0, 13, 42, 182, 0, 169, 132, 3, 1, 167, 255, 228, 29, 16, 100]
abbrev dktX0_wonBehind_1 : List UInt8 := dkwX0_wonBehind_1 ++ dktX0_wonBehind_2
def dkwX0_wonBehind_0 : List UInt8 := [42, 180, 0, 83, 42, 180, 0, 76, 182, 0, 238, 3, 62, 29, 16, 100, 163, 0, 28, 42, 180, 0, 76]
abbrev dktX0_wonBehind_0 : List UInt8 := dkwX0_wonBehind_0 ++ dktX0_wonBehind_1
theorem dksX0_wonBehind_0 : cX0_wonBehind.data.toList.drop 0 = dktX0_wonBehind_0 := by decide +kernel
theorem dksX0_wonBehind_1 : cX0_wonBehind.data.toList.drop 23 = dktX0_wonBehind_1 := dk_seg dksX0_wonBehind_0 23 rfl rfl
theorem dksX0_wonBehind_2 : cX0_wonBehind.data.toList.drop 47 = dktX0_wonBehind_2 := dk_seg dksX0_wonBehind_1 24 rfl rfl
theorem dksX0_wonBehind_3 : cX0_wonBehind.data.toList.drop 71 = dktX0_wonBehind_3 := dk_seg dksX0_wonBehind_2 24 rfl rfl
theorem dX0_wonBehind_0 : decode cX0_wonBehind 0 = .ok (.aload_n 0, 1) := dk_42 (dk_at dksX0_wonBehind_0 0 rfl rfl)
theorem dX0_wonBehind_1 : decode cX0_wonBehind 1 = .ok (.getfield 83, 3) := dk_180 0 83 (dk_at dksX0_wonBehind_0 1 rfl rfl)
theorem dX0_wonBehind_4 : decode cX0_wonBehind 4 = .ok (.aload_n 0, 1) := dk_42 (dk_at dksX0_wonBehind_0 4 rfl rfl)
theorem dX0_wonBehind_5 : decode cX0_wonBehind 5 = .ok (.getfield 76, 3) := dk_180 0 76 (dk_at dksX0_wonBehind_0 5 rfl rfl)
theorem dX0_wonBehind_8 : decode cX0_wonBehind 8 = .ok (.invokevirtual 238, 3) := dk_182 0 238 (dk_at dksX0_wonBehind_0 8 rfl rfl)
theorem dX0_wonBehind_11 : decode cX0_wonBehind 11 = .ok (.iconst 0, 1) := dk_3 (dk_at dksX0_wonBehind_0 11 rfl rfl)
theorem dX0_wonBehind_12 : decode cX0_wonBehind 12 = .ok (.istore_n 3, 1) := dk_62 (dk_at dksX0_wonBehind_0 12 rfl rfl)
theorem dX0_wonBehind_13 : decode cX0_wonBehind 13 = .ok (.iload_n 3, 1) := dk_29 (dk_at dksX0_wonBehind_0 13 rfl rfl)
theorem dX0_wonBehind_14 : decode cX0_wonBehind 14 = .ok (.bipush 100, 2) := dk_16 100 (dk_at dksX0_wonBehind_0 14 rfl rfl)
theorem dX0_wonBehind_16 : decode cX0_wonBehind 16 = .ok (.if_icmp .gt 28, 3) := dk_163 0 28 (dk_at dksX0_wonBehind_0 16 rfl rfl)
theorem dX0_wonBehind_19 : decode cX0_wonBehind 19 = .ok (.aload_n 0, 1) := dk_42 (dk_at dksX0_wonBehind_0 19 rfl rfl)
theorem dX0_wonBehind_20 : decode cX0_wonBehind 20 = .ok (.getfield 76, 3) := dk_180 0 76 (dk_at dksX0_wonBehind_0 20 rfl rfl)
theorem dX0_wonBehind_23 : decode cX0_wonBehind 23 = .ok (.getfield 111, 3) := dk_180 0 111 (dk_at dksX0_wonBehind_1 0 rfl rfl)
theorem dX0_wonBehind_26 : decode cX0_wonBehind 26 = .ok (.iconst 3, 1) := dk_6 (dk_at dksX0_wonBehind_1 3 rfl rfl)
theorem dX0_wonBehind_27 : decode cX0_wonBehind 27 = .ok (.aaload, 1) := dk_50 (dk_at dksX0_wonBehind_1 4 rfl rfl)
theorem dX0_wonBehind_28 : decode cX0_wonBehind 28 = .ok (.iload_n 1, 1) := dk_27 (dk_at dksX0_wonBehind_1 5 rfl rfl)
theorem dX0_wonBehind_29 : decode cX0_wonBehind 29 = .ok (.iaload, 1) := dk_46 (dk_at dksX0_wonBehind_1 6 rfl rfl)
theorem dX0_wonBehind_30 : decode cX0_wonBehind 30 = .ok (.iload_n 2, 1) := dk_28 (dk_at dksX0_wonBehind_1 7 rfl rfl)
theorem dX0_wonBehind_31 : decode cX0_wonBehind 31 = .ok (.if_icmp .ge 13, 3) := dk_162 0 13 (dk_at dksX0_wonBehind_1 8 rfl rfl)
theorem dX0_wonBehind_34 : decode cX0_wonBehind 34 = .ok (.aload_n 0, 1) := dk_42 (dk_at dksX0_wonBehind_1 11 rfl rfl)
theorem dX0_wonBehind_35 : decode cX0_wonBehind 35 = .ok (.invokevirtual 169, 3) := dk_182 0 169 (dk_at dksX0_wonBehind_1 12 rfl rfl)
theorem dX0_wonBehind_38 : decode cX0_wonBehind 38 = .ok (.iinc 3 1, 3) := dk_132 3 1 (dk_at dksX0_wonBehind_1 15 rfl rfl)
theorem dX0_wonBehind_41 : decode cX0_wonBehind 41 = .ok (.goto (-28), 3) := dk_167 255 228 (dk_at dksX0_wonBehind_1 18 rfl rfl)
theorem dX0_wonBehind_44 : decode cX0_wonBehind 44 = .ok (.iload_n 3, 1) := dk_29 (dk_at dksX0_wonBehind_1 21 rfl rfl)
theorem dX0_wonBehind_45 : decode cX0_wonBehind 45 = .ok (.bipush 100, 2) := dk_16 100 (dk_at dksX0_wonBehind_1 22 rfl rfl)
theorem dX0_wonBehind_47 : decode cX0_wonBehind 47 = .ok (.if_icmp .gt 7, 3) := dk_163 0 7 (dk_at dksX0_wonBehind_2 0 rfl rfl)
theorem dX0_wonBehind_50 : decode cX0_wonBehind 50 = .ok (.iload_n 3, 1) := dk_29 (dk_at dksX0_wonBehind_2 3 rfl rfl)
theorem dX0_wonBehind_51 : decode cX0_wonBehind 51 = .ok (.goto 4, 3) := dk_167 0 4 (dk_at dksX0_wonBehind_2 4 rfl rfl)
theorem dX0_wonBehind_54 : decode cX0_wonBehind 54 = .ok (.iconst (-1), 1) := dk_2 (dk_at dksX0_wonBehind_2 7 rfl rfl)
theorem dX0_wonBehind_55 : decode cX0_wonBehind 55 = .ok (.istore 4, 2) := dk_54 4 (dk_at dksX0_wonBehind_2 8 rfl rfl)
theorem dX0_wonBehind_57 : decode cX0_wonBehind 57 = .ok (.aload_n 0, 1) := dk_42 (dk_at dksX0_wonBehind_2 10 rfl rfl)
theorem dX0_wonBehind_58 : decode cX0_wonBehind 58 = .ok (.getfield 76, 3) := dk_180 0 76 (dk_at dksX0_wonBehind_2 11 rfl rfl)
theorem dX0_wonBehind_61 : decode cX0_wonBehind 61 = .ok (.aload_n 0, 1) := dk_42 (dk_at dksX0_wonBehind_2 14 rfl rfl)
theorem dX0_wonBehind_62 : decode cX0_wonBehind 62 = .ok (.getfield 83, 3) := dk_180 0 83 (dk_at dksX0_wonBehind_2 15 rfl rfl)
theorem dX0_wonBehind_65 : decode cX0_wonBehind 65 = .ok (.invokevirtual 238, 3) := dk_182 0 238 (dk_at dksX0_wonBehind_2 18 rfl rfl)
theorem dX0_wonBehind_68 : decode cX0_wonBehind 68 = .ok (.iload 4, 2) := dk_21 4 (dk_at dksX0_wonBehind_2 21 rfl rfl)
theorem dX0_wonBehind_70 : decode cX0_wonBehind 70 = .ok (.ireturn, 1) := dk_172 (dk_at dksX0_wonBehind_2 23 rfl rfl)
theorem dX0_wonBehind_71 : decode cX0_wonBehind 71 = .ok (.astore 5, 2) := dk_58 5 (dk_at dksX0_wonBehind_3 0 rfl rfl)
theorem dX0_wonBehind_73 : decode cX0_wonBehind 73 = .ok (.aload_n 0, 1) := dk_42 (dk_at dksX0_wonBehind_3 2 rfl rfl)
theorem dX0_wonBehind_74 : decode cX0_wonBehind 74 = .ok (.getfield 76, 3) := dk_180 0 76 (dk_at dksX0_wonBehind_3 3 rfl rfl)
theorem dX0_wonBehind_77 : decode cX0_wonBehind 77 = .ok (.aload_n 0, 1) := dk_42 (dk_at dksX0_wonBehind_3 6 rfl rfl)
theorem dX0_wonBehind_78 : decode cX0_wonBehind 78 = .ok (.getfield 83, 3) := dk_180 0 83 (dk_at dksX0_wonBehind_3 7 rfl rfl)
theorem dX0_wonBehind_81 : decode cX0_wonBehind 81 = .ok (.invokevirtual 238, 3) := dk_182 0 238 (dk_at dksX0_wonBehind_3 10 rfl rfl)
theorem dX0_wonBehind_84 : decode cX0_wonBehind 84 = .ok (.aload 5, 2) := dk_25 5 (dk_at dksX0_wonBehind_3 13 rfl rfl)
theorem dX0_wonBehind_86 : decode cX0_wonBehind 86 = .ok (.athrow, 1) := dk_191 (dk_at dksX0_wonBehind_3 15 rfl rfl)
abbrev cX0_orNone : ByteArray := prog_1_method_23_code
def yX0_orNone : MethodName := ⟨RX0, "orNone", "(I)I"⟩
def dkwX0_orNone_0 : List UInt8 := [27, 2, 160, 0, 11, 42, 6, 182, 0, 126, 167, 0, 4, 27, 172]
abbrev dktX0_orNone_0 : List UInt8 := dkwX0_orNone_0 ++ []
theorem dksX0_orNone_0 : cX0_orNone.data.toList.drop 0 = dktX0_orNone_0 := by decide +kernel
theorem dX0_orNone_0 : decode cX0_orNone 0 = .ok (.iload_n 1, 1) := dk_27 (dk_at dksX0_orNone_0 0 rfl rfl)
theorem dX0_orNone_1 : decode cX0_orNone 1 = .ok (.iconst (-1), 1) := dk_2 (dk_at dksX0_orNone_0 1 rfl rfl)
theorem dX0_orNone_2 : decode cX0_orNone 2 = .ok (.if_icmp .ne 11, 3) := dk_160 0 11 (dk_at dksX0_orNone_0 2 rfl rfl)
theorem dX0_orNone_5 : decode cX0_orNone 5 = .ok (.aload_n 0, 1) := dk_42 (dk_at dksX0_orNone_0 5 rfl rfl)
theorem dX0_orNone_6 : decode cX0_orNone 6 = .ok (.iconst 3, 1) := dk_6 (dk_at dksX0_orNone_0 6 rfl rfl)
theorem dX0_orNone_7 : decode cX0_orNone 7 = .ok (.invokevirtual 126, 3) := dk_182 0 126 (dk_at dksX0_orNone_0 7 rfl rfl)
theorem dX0_orNone_10 : decode cX0_orNone 10 = .ok (.goto 4, 3) := dk_167 0 4 (dk_at dksX0_orNone_0 10 rfl rfl)
theorem dX0_orNone_13 : decode cX0_orNone 13 = .ok (.iload_n 1, 1) := dk_27 (dk_at dksX0_orNone_0 13 rfl rfl)
theorem dX0_orNone_14 : decode cX0_orNone 14 = .ok (.ireturn, 1) := dk_172 (dk_at dksX0_orNone_0 14 rfl rfl)
abbrev cX0_known : ByteArray := prog_1_method_50_code
def yX0_known : MethodName := ⟨RX0, "known", "()I"⟩
def dkwX0_known_0 : List UInt8 := [42, 42, 182, 1, 2, 182, 0, 255, 172]
abbrev dktX0_known_0 : List UInt8 := dkwX0_known_0 ++ []
theorem dksX0_known_0 : cX0_known.data.toList.drop 0 = dktX0_known_0 := by decide +kernel
theorem dX0_known_0 : decode cX0_known 0 = .ok (.aload_n 0, 1) := dk_42 (dk_at dksX0_known_0 0 rfl rfl)
theorem dX0_known_1 : decode cX0_known 1 = .ok (.aload_n 0, 1) := dk_42 (dk_at dksX0_known_0 1 rfl rfl)
theorem dX0_known_2 : decode cX0_known 2 = .ok (.invokevirtual 258, 3) := dk_182 1 2 (dk_at dksX0_known_0 2 rfl rfl)
theorem dX0_known_5 : decode cX0_known 5 = .ok (.invokevirtual 255, 3) := dk_182 0 255 (dk_at dksX0_known_0 5 rfl rfl)
theorem dX0_known_8 : decode cX0_known 8 = .ok (.ireturn, 1) := dk_172 (dk_at dksX0_known_0 8 rfl rfl)
abbrev cX0_knownBehind : ByteArray := prog_1_method_49_code
def yX0_knownBehind : MethodName := ⟨RX0, "knownBehind", "()I"⟩
def dkwX0_knownBehind_3 : List UInt8 := [182, 0, 238, 45, 191]
abbrev dktX0_knownBehind_3 : List UInt8 := dkwX0_knownBehind_3 ++ []
def dkwX0_knownBehind_2 : List UInt8 := [61, 42, 180, 0, 76, 42, 180, 0, 83, 182, 0, 238, 28, 172, 78, 42, 180, 0, 76, 42, 180, 0, 83]
abbrev dktX0_knownBehind_2 : List UInt8 := dkwX0_knownBehind_2 ++ dktX0_knownBehind_3
def dkwX0_knownBehind_1 : List UInt8 := [153, 0, 13, 42, 182, 0, 169, 132, 1, 1, 167, 255, 236, 27, 16, 100, 163, 0, 7, 27, 167, 0, 4, 2]
abbrev dktX0_knownBehind_1 : List UInt8 := dkwX0_knownBehind_1 ++ dktX0_knownBehind_2
def dkwX0_knownBehind_0 : List UInt8 := [42, 180, 0, 83, 42, 180, 0, 76, 182, 0, 238, 3, 60, 27, 16, 100, 163, 0, 20, 42, 182, 0, 232]
abbrev dktX0_knownBehind_0 : List UInt8 := dkwX0_knownBehind_0 ++ dktX0_knownBehind_1
theorem dksX0_knownBehind_0 : cX0_knownBehind.data.toList.drop 0 = dktX0_knownBehind_0 := by decide +kernel
theorem dksX0_knownBehind_1 : cX0_knownBehind.data.toList.drop 23 = dktX0_knownBehind_1 := dk_seg dksX0_knownBehind_0 23 rfl rfl
theorem dksX0_knownBehind_2 : cX0_knownBehind.data.toList.drop 47 = dktX0_knownBehind_2 := dk_seg dksX0_knownBehind_1 24 rfl rfl
theorem dksX0_knownBehind_3 : cX0_knownBehind.data.toList.drop 70 = dktX0_knownBehind_3 := dk_seg dksX0_knownBehind_2 23 rfl rfl
theorem dX0_knownBehind_0 : decode cX0_knownBehind 0 = .ok (.aload_n 0, 1) := dk_42 (dk_at dksX0_knownBehind_0 0 rfl rfl)
theorem dX0_knownBehind_1 : decode cX0_knownBehind 1 = .ok (.getfield 83, 3) := dk_180 0 83 (dk_at dksX0_knownBehind_0 1 rfl rfl)
theorem dX0_knownBehind_4 : decode cX0_knownBehind 4 = .ok (.aload_n 0, 1) := dk_42 (dk_at dksX0_knownBehind_0 4 rfl rfl)
theorem dX0_knownBehind_5 : decode cX0_knownBehind 5 = .ok (.getfield 76, 3) := dk_180 0 76 (dk_at dksX0_knownBehind_0 5 rfl rfl)
theorem dX0_knownBehind_8 : decode cX0_knownBehind 8 = .ok (.invokevirtual 238, 3) := dk_182 0 238 (dk_at dksX0_knownBehind_0 8 rfl rfl)
theorem dX0_knownBehind_11 : decode cX0_knownBehind 11 = .ok (.iconst 0, 1) := dk_3 (dk_at dksX0_knownBehind_0 11 rfl rfl)
theorem dX0_knownBehind_12 : decode cX0_knownBehind 12 = .ok (.istore_n 1, 1) := dk_60 (dk_at dksX0_knownBehind_0 12 rfl rfl)
theorem dX0_knownBehind_13 : decode cX0_knownBehind 13 = .ok (.iload_n 1, 1) := dk_27 (dk_at dksX0_knownBehind_0 13 rfl rfl)
theorem dX0_knownBehind_14 : decode cX0_knownBehind 14 = .ok (.bipush 100, 2) := dk_16 100 (dk_at dksX0_knownBehind_0 14 rfl rfl)
theorem dX0_knownBehind_16 : decode cX0_knownBehind 16 = .ok (.if_icmp .gt 20, 3) := dk_163 0 20 (dk_at dksX0_knownBehind_0 16 rfl rfl)
theorem dX0_knownBehind_19 : decode cX0_knownBehind 19 = .ok (.aload_n 0, 1) := dk_42 (dk_at dksX0_knownBehind_0 19 rfl rfl)
theorem dX0_knownBehind_20 : decode cX0_knownBehind 20 = .ok (.invokevirtual 232, 3) := dk_182 0 232 (dk_at dksX0_knownBehind_0 20 rfl rfl)
theorem dX0_knownBehind_23 : decode cX0_knownBehind 23 = .ok (.ifCond .eq 13, 3) := dk_153 0 13 (dk_at dksX0_knownBehind_1 0 rfl rfl)
theorem dX0_knownBehind_26 : decode cX0_knownBehind 26 = .ok (.aload_n 0, 1) := dk_42 (dk_at dksX0_knownBehind_1 3 rfl rfl)
theorem dX0_knownBehind_27 : decode cX0_knownBehind 27 = .ok (.invokevirtual 169, 3) := dk_182 0 169 (dk_at dksX0_knownBehind_1 4 rfl rfl)
theorem dX0_knownBehind_30 : decode cX0_knownBehind 30 = .ok (.iinc 1 1, 3) := dk_132 1 1 (dk_at dksX0_knownBehind_1 7 rfl rfl)
theorem dX0_knownBehind_33 : decode cX0_knownBehind 33 = .ok (.goto (-20), 3) := dk_167 255 236 (dk_at dksX0_knownBehind_1 10 rfl rfl)
theorem dX0_knownBehind_36 : decode cX0_knownBehind 36 = .ok (.iload_n 1, 1) := dk_27 (dk_at dksX0_knownBehind_1 13 rfl rfl)
theorem dX0_knownBehind_37 : decode cX0_knownBehind 37 = .ok (.bipush 100, 2) := dk_16 100 (dk_at dksX0_knownBehind_1 14 rfl rfl)
theorem dX0_knownBehind_39 : decode cX0_knownBehind 39 = .ok (.if_icmp .gt 7, 3) := dk_163 0 7 (dk_at dksX0_knownBehind_1 16 rfl rfl)
theorem dX0_knownBehind_42 : decode cX0_knownBehind 42 = .ok (.iload_n 1, 1) := dk_27 (dk_at dksX0_knownBehind_1 19 rfl rfl)
theorem dX0_knownBehind_43 : decode cX0_knownBehind 43 = .ok (.goto 4, 3) := dk_167 0 4 (dk_at dksX0_knownBehind_1 20 rfl rfl)
theorem dX0_knownBehind_46 : decode cX0_knownBehind 46 = .ok (.iconst (-1), 1) := dk_2 (dk_at dksX0_knownBehind_1 23 rfl rfl)
theorem dX0_knownBehind_47 : decode cX0_knownBehind 47 = .ok (.istore_n 2, 1) := dk_61 (dk_at dksX0_knownBehind_2 0 rfl rfl)
theorem dX0_knownBehind_48 : decode cX0_knownBehind 48 = .ok (.aload_n 0, 1) := dk_42 (dk_at dksX0_knownBehind_2 1 rfl rfl)
theorem dX0_knownBehind_49 : decode cX0_knownBehind 49 = .ok (.getfield 76, 3) := dk_180 0 76 (dk_at dksX0_knownBehind_2 2 rfl rfl)
theorem dX0_knownBehind_52 : decode cX0_knownBehind 52 = .ok (.aload_n 0, 1) := dk_42 (dk_at dksX0_knownBehind_2 5 rfl rfl)
theorem dX0_knownBehind_53 : decode cX0_knownBehind 53 = .ok (.getfield 83, 3) := dk_180 0 83 (dk_at dksX0_knownBehind_2 6 rfl rfl)
theorem dX0_knownBehind_56 : decode cX0_knownBehind 56 = .ok (.invokevirtual 238, 3) := dk_182 0 238 (dk_at dksX0_knownBehind_2 9 rfl rfl)
theorem dX0_knownBehind_59 : decode cX0_knownBehind 59 = .ok (.iload_n 2, 1) := dk_28 (dk_at dksX0_knownBehind_2 12 rfl rfl)
theorem dX0_knownBehind_60 : decode cX0_knownBehind 60 = .ok (.ireturn, 1) := dk_172 (dk_at dksX0_knownBehind_2 13 rfl rfl)
theorem dX0_knownBehind_61 : decode cX0_knownBehind 61 = .ok (.astore_n 3, 1) := dk_78 (dk_at dksX0_knownBehind_2 14 rfl rfl)
theorem dX0_knownBehind_62 : decode cX0_knownBehind 62 = .ok (.aload_n 0, 1) := dk_42 (dk_at dksX0_knownBehind_2 15 rfl rfl)
theorem dX0_knownBehind_63 : decode cX0_knownBehind 63 = .ok (.getfield 76, 3) := dk_180 0 76 (dk_at dksX0_knownBehind_2 16 rfl rfl)
theorem dX0_knownBehind_66 : decode cX0_knownBehind 66 = .ok (.aload_n 0, 1) := dk_42 (dk_at dksX0_knownBehind_2 19 rfl rfl)
theorem dX0_knownBehind_67 : decode cX0_knownBehind 67 = .ok (.getfield 83, 3) := dk_180 0 83 (dk_at dksX0_knownBehind_2 20 rfl rfl)
theorem dX0_knownBehind_70 : decode cX0_knownBehind 70 = .ok (.invokevirtual 238, 3) := dk_182 0 238 (dk_at dksX0_knownBehind_3 0 rfl rfl)
theorem dX0_knownBehind_73 : decode cX0_knownBehind 73 = .ok (.aload_n 3, 1) := dk_45 (dk_at dksX0_knownBehind_3 3 rfl rfl)
theorem dX0_knownBehind_74 : decode cX0_knownBehind 74 = .ok (.athrow, 1) := dk_191 (dk_at dksX0_knownBehind_3 4 rfl rfl)
abbrev cX0_codeFor : ByteArray := prog_1_method_52_code
def yX0_codeFor : MethodName := ⟨RX0, "codeFor", "(I)I"⟩
def dkwX0_codeFor_0 : List UInt8 := [27, 3, 16, 40, 184, 0, 9, 153, 0, 11, 42, 27, 182, 1, 10, 167, 0, 8, 42, 3, 182, 0, 126, 172]
abbrev dktX0_codeFor_0 : List UInt8 := dkwX0_codeFor_0 ++ []
theorem dksX0_codeFor_0 : cX0_codeFor.data.toList.drop 0 = dktX0_codeFor_0 := by decide +kernel
theorem dX0_codeFor_0 : decode cX0_codeFor 0 = .ok (.iload_n 1, 1) := dk_27 (dk_at dksX0_codeFor_0 0 rfl rfl)
theorem dX0_codeFor_1 : decode cX0_codeFor 1 = .ok (.iconst 0, 1) := dk_3 (dk_at dksX0_codeFor_0 1 rfl rfl)
theorem dX0_codeFor_2 : decode cX0_codeFor 2 = .ok (.bipush 40, 2) := dk_16 40 (dk_at dksX0_codeFor_0 2 rfl rfl)
theorem dX0_codeFor_4 : decode cX0_codeFor 4 = .ok (.invokestatic 9, 3) := dk_184 0 9 (dk_at dksX0_codeFor_0 4 rfl rfl)
theorem dX0_codeFor_7 : decode cX0_codeFor 7 = .ok (.ifCond .eq 11, 3) := dk_153 0 11 (dk_at dksX0_codeFor_0 7 rfl rfl)
theorem dX0_codeFor_10 : decode cX0_codeFor 10 = .ok (.aload_n 0, 1) := dk_42 (dk_at dksX0_codeFor_0 10 rfl rfl)
theorem dX0_codeFor_11 : decode cX0_codeFor 11 = .ok (.iload_n 1, 1) := dk_27 (dk_at dksX0_codeFor_0 11 rfl rfl)
theorem dX0_codeFor_12 : decode cX0_codeFor 12 = .ok (.invokevirtual 266, 3) := dk_182 1 10 (dk_at dksX0_codeFor_0 12 rfl rfl)
theorem dX0_codeFor_15 : decode cX0_codeFor 15 = .ok (.goto 8, 3) := dk_167 0 8 (dk_at dksX0_codeFor_0 15 rfl rfl)
theorem dX0_codeFor_18 : decode cX0_codeFor 18 = .ok (.aload_n 0, 1) := dk_42 (dk_at dksX0_codeFor_0 18 rfl rfl)
theorem dX0_codeFor_19 : decode cX0_codeFor 19 = .ok (.iconst 0, 1) := dk_3 (dk_at dksX0_codeFor_0 19 rfl rfl)
theorem dX0_codeFor_20 : decode cX0_codeFor 20 = .ok (.invokevirtual 126, 3) := dk_182 0 126 (dk_at dksX0_codeFor_0 20 rfl rfl)
theorem dX0_codeFor_23 : decode cX0_codeFor 23 = .ok (.ireturn, 1) := dk_172 (dk_at dksX0_codeFor_0 23 rfl rfl)
abbrev cX0_bestCode : ByteArray := prog_1_method_51_code
def yX0_bestCode : MethodName := ⟨RX0, "bestCode", "(I)I"⟩
def dkwX0_bestCode_3 : List UInt8 := [167, 255, 206, 42, 180, 0, 76, 180, 0, 187, 5, 28, 79, 29, 172]
abbrev dktX0_bestCode_3 : List UInt8 := dkwX0_bestCode_3 ++ []
def dkwX0_bestCode_2 : List UInt8 := [164, 0, 8, 21, 5, 167, 0, 4, 29, 62, 21, 4, 21, 6, 184, 1, 5, 54, 4, 132, 5, 1]
abbrev dktX0_bestCode_2 : List UInt8 := dkwX0_bestCode_2 ++ dktX0_bestCode_3
def dkwX0_bestCode_1 : List UInt8 := [42, 180, 0, 76, 180, 0, 187, 5, 21, 5, 79, 42, 27, 182, 0, 249, 54, 6, 21, 6, 21, 4]
abbrev dktX0_bestCode_1 : List UInt8 := dkwX0_bestCode_1 ++ dktX0_bestCode_2
def dkwX0_bestCode_0 : List UInt8 := [42, 180, 0, 76, 180, 0, 187, 5, 46, 61, 3, 62, 2, 54, 4, 3, 54, 5, 21, 5, 8, 162, 0, 50]
abbrev dktX0_bestCode_0 : List UInt8 := dkwX0_bestCode_0 ++ dktX0_bestCode_1
theorem dksX0_bestCode_0 : cX0_bestCode.data.toList.drop 0 = dktX0_bestCode_0 := by decide +kernel
theorem dksX0_bestCode_1 : cX0_bestCode.data.toList.drop 24 = dktX0_bestCode_1 := dk_seg dksX0_bestCode_0 24 rfl rfl
theorem dksX0_bestCode_2 : cX0_bestCode.data.toList.drop 46 = dktX0_bestCode_2 := dk_seg dksX0_bestCode_1 22 rfl rfl
theorem dksX0_bestCode_3 : cX0_bestCode.data.toList.drop 68 = dktX0_bestCode_3 := dk_seg dksX0_bestCode_2 22 rfl rfl
theorem dX0_bestCode_0 : decode cX0_bestCode 0 = .ok (.aload_n 0, 1) := dk_42 (dk_at dksX0_bestCode_0 0 rfl rfl)
theorem dX0_bestCode_1 : decode cX0_bestCode 1 = .ok (.getfield 76, 3) := dk_180 0 76 (dk_at dksX0_bestCode_0 1 rfl rfl)
theorem dX0_bestCode_4 : decode cX0_bestCode 4 = .ok (.getfield 187, 3) := dk_180 0 187 (dk_at dksX0_bestCode_0 4 rfl rfl)
theorem dX0_bestCode_7 : decode cX0_bestCode 7 = .ok (.iconst 2, 1) := dk_5 (dk_at dksX0_bestCode_0 7 rfl rfl)
theorem dX0_bestCode_8 : decode cX0_bestCode 8 = .ok (.iaload, 1) := dk_46 (dk_at dksX0_bestCode_0 8 rfl rfl)
theorem dX0_bestCode_9 : decode cX0_bestCode 9 = .ok (.istore_n 2, 1) := dk_61 (dk_at dksX0_bestCode_0 9 rfl rfl)
theorem dX0_bestCode_10 : decode cX0_bestCode 10 = .ok (.iconst 0, 1) := dk_3 (dk_at dksX0_bestCode_0 10 rfl rfl)
theorem dX0_bestCode_11 : decode cX0_bestCode 11 = .ok (.istore_n 3, 1) := dk_62 (dk_at dksX0_bestCode_0 11 rfl rfl)
theorem dX0_bestCode_12 : decode cX0_bestCode 12 = .ok (.iconst (-1), 1) := dk_2 (dk_at dksX0_bestCode_0 12 rfl rfl)
theorem dX0_bestCode_13 : decode cX0_bestCode 13 = .ok (.istore 4, 2) := dk_54 4 (dk_at dksX0_bestCode_0 13 rfl rfl)
theorem dX0_bestCode_15 : decode cX0_bestCode 15 = .ok (.iconst 0, 1) := dk_3 (dk_at dksX0_bestCode_0 15 rfl rfl)
theorem dX0_bestCode_16 : decode cX0_bestCode 16 = .ok (.istore 5, 2) := dk_54 5 (dk_at dksX0_bestCode_0 16 rfl rfl)
theorem dX0_bestCode_18 : decode cX0_bestCode 18 = .ok (.iload 5, 2) := dk_21 5 (dk_at dksX0_bestCode_0 18 rfl rfl)
theorem dX0_bestCode_20 : decode cX0_bestCode 20 = .ok (.iconst 5, 1) := dk_8 (dk_at dksX0_bestCode_0 20 rfl rfl)
theorem dX0_bestCode_21 : decode cX0_bestCode 21 = .ok (.if_icmp .ge 50, 3) := dk_162 0 50 (dk_at dksX0_bestCode_0 21 rfl rfl)
theorem dX0_bestCode_24 : decode cX0_bestCode 24 = .ok (.aload_n 0, 1) := dk_42 (dk_at dksX0_bestCode_1 0 rfl rfl)
theorem dX0_bestCode_25 : decode cX0_bestCode 25 = .ok (.getfield 76, 3) := dk_180 0 76 (dk_at dksX0_bestCode_1 1 rfl rfl)
theorem dX0_bestCode_28 : decode cX0_bestCode 28 = .ok (.getfield 187, 3) := dk_180 0 187 (dk_at dksX0_bestCode_1 4 rfl rfl)
theorem dX0_bestCode_31 : decode cX0_bestCode 31 = .ok (.iconst 2, 1) := dk_5 (dk_at dksX0_bestCode_1 7 rfl rfl)
theorem dX0_bestCode_32 : decode cX0_bestCode 32 = .ok (.iload 5, 2) := dk_21 5 (dk_at dksX0_bestCode_1 8 rfl rfl)
theorem dX0_bestCode_34 : decode cX0_bestCode 34 = .ok (.iastore, 1) := dk_79 (dk_at dksX0_bestCode_1 10 rfl rfl)
theorem dX0_bestCode_35 : decode cX0_bestCode 35 = .ok (.aload_n 0, 1) := dk_42 (dk_at dksX0_bestCode_1 11 rfl rfl)
theorem dX0_bestCode_36 : decode cX0_bestCode 36 = .ok (.iload_n 1, 1) := dk_27 (dk_at dksX0_bestCode_1 12 rfl rfl)
theorem dX0_bestCode_37 : decode cX0_bestCode 37 = .ok (.invokevirtual 249, 3) := dk_182 0 249 (dk_at dksX0_bestCode_1 13 rfl rfl)
theorem dX0_bestCode_40 : decode cX0_bestCode 40 = .ok (.istore 6, 2) := dk_54 6 (dk_at dksX0_bestCode_1 16 rfl rfl)
theorem dX0_bestCode_42 : decode cX0_bestCode 42 = .ok (.iload 6, 2) := dk_21 6 (dk_at dksX0_bestCode_1 18 rfl rfl)
theorem dX0_bestCode_44 : decode cX0_bestCode 44 = .ok (.iload 4, 2) := dk_21 4 (dk_at dksX0_bestCode_1 20 rfl rfl)
theorem dX0_bestCode_46 : decode cX0_bestCode 46 = .ok (.if_icmp .le 8, 3) := dk_164 0 8 (dk_at dksX0_bestCode_2 0 rfl rfl)
theorem dX0_bestCode_49 : decode cX0_bestCode 49 = .ok (.iload 5, 2) := dk_21 5 (dk_at dksX0_bestCode_2 3 rfl rfl)
theorem dX0_bestCode_51 : decode cX0_bestCode 51 = .ok (.goto 4, 3) := dk_167 0 4 (dk_at dksX0_bestCode_2 5 rfl rfl)
theorem dX0_bestCode_54 : decode cX0_bestCode 54 = .ok (.iload_n 3, 1) := dk_29 (dk_at dksX0_bestCode_2 8 rfl rfl)
theorem dX0_bestCode_55 : decode cX0_bestCode 55 = .ok (.istore_n 3, 1) := dk_62 (dk_at dksX0_bestCode_2 9 rfl rfl)
theorem dX0_bestCode_56 : decode cX0_bestCode 56 = .ok (.iload 4, 2) := dk_21 4 (dk_at dksX0_bestCode_2 10 rfl rfl)
theorem dX0_bestCode_58 : decode cX0_bestCode 58 = .ok (.iload 6, 2) := dk_21 6 (dk_at dksX0_bestCode_2 12 rfl rfl)
theorem dX0_bestCode_60 : decode cX0_bestCode 60 = .ok (.invokestatic 261, 3) := dk_184 1 5 (dk_at dksX0_bestCode_2 14 rfl rfl)
theorem dX0_bestCode_63 : decode cX0_bestCode 63 = .ok (.istore 4, 2) := dk_54 4 (dk_at dksX0_bestCode_2 17 rfl rfl)
theorem dX0_bestCode_65 : decode cX0_bestCode 65 = .ok (.iinc 5 1, 3) := dk_132 5 1 (dk_at dksX0_bestCode_2 19 rfl rfl)
theorem dX0_bestCode_68 : decode cX0_bestCode 68 = .ok (.goto (-50), 3) := dk_167 255 206 (dk_at dksX0_bestCode_3 0 rfl rfl)
theorem dX0_bestCode_71 : decode cX0_bestCode 71 = .ok (.aload_n 0, 1) := dk_42 (dk_at dksX0_bestCode_3 3 rfl rfl)
theorem dX0_bestCode_72 : decode cX0_bestCode 72 = .ok (.getfield 76, 3) := dk_180 0 76 (dk_at dksX0_bestCode_3 4 rfl rfl)
theorem dX0_bestCode_75 : decode cX0_bestCode 75 = .ok (.getfield 187, 3) := dk_180 0 187 (dk_at dksX0_bestCode_3 7 rfl rfl)
theorem dX0_bestCode_78 : decode cX0_bestCode 78 = .ok (.iconst 2, 1) := dk_5 (dk_at dksX0_bestCode_3 10 rfl rfl)
theorem dX0_bestCode_79 : decode cX0_bestCode 79 = .ok (.iload_n 2, 1) := dk_28 (dk_at dksX0_bestCode_3 11 rfl rfl)
theorem dX0_bestCode_80 : decode cX0_bestCode 80 = .ok (.iastore, 1) := dk_79 (dk_at dksX0_bestCode_3 12 rfl rfl)
theorem dX0_bestCode_81 : decode cX0_bestCode 81 = .ok (.iload_n 3, 1) := dk_29 (dk_at dksX0_bestCode_3 13 rfl rfl)
theorem dX0_bestCode_82 : decode cX0_bestCode 82 = .ok (.ireturn, 1) := dk_172 (dk_at dksX0_bestCode_3 14 rfl rfl)
abbrev cX0_callFor : ByteArray := prog_1_method_54_code
def yX0_callFor : MethodName := ⟨RX0, "callFor", "(I)I"⟩
def dkwX0_callFor_0 : List UInt8 := [27, 3, 16, 10, 184, 0, 9, 153, 0, 11, 42, 27, 182, 1, 13, 167, 0, 8, 42, 3, 182, 0, 126, 172]
abbrev dktX0_callFor_0 : List UInt8 := dkwX0_callFor_0 ++ []
theorem dksX0_callFor_0 : cX0_callFor.data.toList.drop 0 = dktX0_callFor_0 := by decide +kernel
theorem dX0_callFor_0 : decode cX0_callFor 0 = .ok (.iload_n 1, 1) := dk_27 (dk_at dksX0_callFor_0 0 rfl rfl)
theorem dX0_callFor_1 : decode cX0_callFor 1 = .ok (.iconst 0, 1) := dk_3 (dk_at dksX0_callFor_0 1 rfl rfl)
theorem dX0_callFor_2 : decode cX0_callFor 2 = .ok (.bipush 10, 2) := dk_16 10 (dk_at dksX0_callFor_0 2 rfl rfl)
theorem dX0_callFor_4 : decode cX0_callFor 4 = .ok (.invokestatic 9, 3) := dk_184 0 9 (dk_at dksX0_callFor_0 4 rfl rfl)
theorem dX0_callFor_7 : decode cX0_callFor 7 = .ok (.ifCond .eq 11, 3) := dk_153 0 11 (dk_at dksX0_callFor_0 7 rfl rfl)
theorem dX0_callFor_10 : decode cX0_callFor 10 = .ok (.aload_n 0, 1) := dk_42 (dk_at dksX0_callFor_0 10 rfl rfl)
theorem dX0_callFor_11 : decode cX0_callFor 11 = .ok (.iload_n 1, 1) := dk_27 (dk_at dksX0_callFor_0 11 rfl rfl)
theorem dX0_callFor_12 : decode cX0_callFor 12 = .ok (.invokevirtual 269, 3) := dk_182 1 13 (dk_at dksX0_callFor_0 12 rfl rfl)
theorem dX0_callFor_15 : decode cX0_callFor 15 = .ok (.goto 8, 3) := dk_167 0 8 (dk_at dksX0_callFor_0 15 rfl rfl)
theorem dX0_callFor_18 : decode cX0_callFor 18 = .ok (.aload_n 0, 1) := dk_42 (dk_at dksX0_callFor_0 18 rfl rfl)
theorem dX0_callFor_19 : decode cX0_callFor 19 = .ok (.iconst 0, 1) := dk_3 (dk_at dksX0_callFor_0 19 rfl rfl)
theorem dX0_callFor_20 : decode cX0_callFor 20 = .ok (.invokevirtual 126, 3) := dk_182 0 126 (dk_at dksX0_callFor_0 20 rfl rfl)
theorem dX0_callFor_23 : decode cX0_callFor 23 = .ok (.ireturn, 1) := dk_172 (dk_at dksX0_callFor_0 23 rfl rfl)
abbrev cX0_bestCall : ByteArray := prog_1_method_53_code
def yX0_bestCall : MethodName := ⟨RX0, "bestCall", "(I)I"⟩
def dkwX0_bestCall_4 : List UInt8 := [79, 21, 4, 172]
abbrev dktX0_bestCall_4 : List UInt8 := dkwX0_bestCall_4 ++ []
def dkwX0_bestCall_3 : List UInt8 := [21, 5, 21, 7, 184, 1, 5, 54, 5, 132, 6, 1, 167, 255, 202, 42, 180, 0, 76, 180, 0, 196, 28, 29]
abbrev dktX0_bestCall_3 : List UInt8 := dkwX0_bestCall_3 ++ dktX0_bestCall_4
def dkwX0_bestCall_2 : List UInt8 := [79, 42, 27, 182, 0, 249, 54, 7, 21, 7, 21, 5, 164, 0, 8, 21, 6, 167, 0, 5, 21, 4, 54, 4]
abbrev dktX0_bestCall_2 : List UInt8 := dkwX0_bestCall_2 ++ dktX0_bestCall_3
def dkwX0_bestCall_1 : List UInt8 := [2, 54, 5, 3, 54, 6, 21, 6, 17, 3, 231, 163, 0, 52, 42, 180, 0, 76, 180, 0, 196, 28, 21, 6]
abbrev dktX0_bestCall_1 : List UInt8 := dkwX0_bestCall_1 ++ dktX0_bestCall_2
def dkwX0_bestCall_0 : List UInt8 := [42, 180, 0, 76, 180, 0, 226, 16, 6, 112, 61, 42, 180, 0, 76, 180, 0, 196, 28, 46, 62, 3, 54, 4]
abbrev dktX0_bestCall_0 : List UInt8 := dkwX0_bestCall_0 ++ dktX0_bestCall_1
theorem dksX0_bestCall_0 : cX0_bestCall.data.toList.drop 0 = dktX0_bestCall_0 := by decide +kernel
theorem dksX0_bestCall_1 : cX0_bestCall.data.toList.drop 24 = dktX0_bestCall_1 := dk_seg dksX0_bestCall_0 24 rfl rfl
theorem dksX0_bestCall_2 : cX0_bestCall.data.toList.drop 48 = dktX0_bestCall_2 := dk_seg dksX0_bestCall_1 24 rfl rfl
theorem dksX0_bestCall_3 : cX0_bestCall.data.toList.drop 72 = dktX0_bestCall_3 := dk_seg dksX0_bestCall_2 24 rfl rfl
theorem dksX0_bestCall_4 : cX0_bestCall.data.toList.drop 96 = dktX0_bestCall_4 := dk_seg dksX0_bestCall_3 24 rfl rfl
theorem dX0_bestCall_0 : decode cX0_bestCall 0 = .ok (.aload_n 0, 1) := dk_42 (dk_at dksX0_bestCall_0 0 rfl rfl)
theorem dX0_bestCall_1 : decode cX0_bestCall 1 = .ok (.getfield 76, 3) := dk_180 0 76 (dk_at dksX0_bestCall_0 1 rfl rfl)
theorem dX0_bestCall_4 : decode cX0_bestCall 4 = .ok (.getfield 226, 3) := dk_180 0 226 (dk_at dksX0_bestCall_0 4 rfl rfl)
theorem dX0_bestCall_7 : decode cX0_bestCall 7 = .ok (.bipush 6, 2) := dk_16 6 (dk_at dksX0_bestCall_0 7 rfl rfl)
theorem dX0_bestCall_9 : decode cX0_bestCall 9 = .ok (.irem, 1) := dk_112 (dk_at dksX0_bestCall_0 9 rfl rfl)
theorem dX0_bestCall_10 : decode cX0_bestCall 10 = .ok (.istore_n 2, 1) := dk_61 (dk_at dksX0_bestCall_0 10 rfl rfl)
theorem dX0_bestCall_11 : decode cX0_bestCall 11 = .ok (.aload_n 0, 1) := dk_42 (dk_at dksX0_bestCall_0 11 rfl rfl)
theorem dX0_bestCall_12 : decode cX0_bestCall 12 = .ok (.getfield 76, 3) := dk_180 0 76 (dk_at dksX0_bestCall_0 12 rfl rfl)
theorem dX0_bestCall_15 : decode cX0_bestCall 15 = .ok (.getfield 196, 3) := dk_180 0 196 (dk_at dksX0_bestCall_0 15 rfl rfl)
theorem dX0_bestCall_18 : decode cX0_bestCall 18 = .ok (.iload_n 2, 1) := dk_28 (dk_at dksX0_bestCall_0 18 rfl rfl)
theorem dX0_bestCall_19 : decode cX0_bestCall 19 = .ok (.iaload, 1) := dk_46 (dk_at dksX0_bestCall_0 19 rfl rfl)
theorem dX0_bestCall_20 : decode cX0_bestCall 20 = .ok (.istore_n 3, 1) := dk_62 (dk_at dksX0_bestCall_0 20 rfl rfl)
theorem dX0_bestCall_21 : decode cX0_bestCall 21 = .ok (.iconst 0, 1) := dk_3 (dk_at dksX0_bestCall_0 21 rfl rfl)
theorem dX0_bestCall_22 : decode cX0_bestCall 22 = .ok (.istore 4, 2) := dk_54 4 (dk_at dksX0_bestCall_0 22 rfl rfl)
theorem dX0_bestCall_24 : decode cX0_bestCall 24 = .ok (.iconst (-1), 1) := dk_2 (dk_at dksX0_bestCall_1 0 rfl rfl)
theorem dX0_bestCall_25 : decode cX0_bestCall 25 = .ok (.istore 5, 2) := dk_54 5 (dk_at dksX0_bestCall_1 1 rfl rfl)
theorem dX0_bestCall_27 : decode cX0_bestCall 27 = .ok (.iconst 0, 1) := dk_3 (dk_at dksX0_bestCall_1 3 rfl rfl)
theorem dX0_bestCall_28 : decode cX0_bestCall 28 = .ok (.istore 6, 2) := dk_54 6 (dk_at dksX0_bestCall_1 4 rfl rfl)
theorem dX0_bestCall_30 : decode cX0_bestCall 30 = .ok (.iload 6, 2) := dk_21 6 (dk_at dksX0_bestCall_1 6 rfl rfl)
theorem dX0_bestCall_32 : decode cX0_bestCall 32 = .ok (.sipush 999, 3) := dk_17 3 231 (dk_at dksX0_bestCall_1 8 rfl rfl)
theorem dX0_bestCall_35 : decode cX0_bestCall 35 = .ok (.if_icmp .gt 52, 3) := dk_163 0 52 (dk_at dksX0_bestCall_1 11 rfl rfl)
theorem dX0_bestCall_38 : decode cX0_bestCall 38 = .ok (.aload_n 0, 1) := dk_42 (dk_at dksX0_bestCall_1 14 rfl rfl)
theorem dX0_bestCall_39 : decode cX0_bestCall 39 = .ok (.getfield 76, 3) := dk_180 0 76 (dk_at dksX0_bestCall_1 15 rfl rfl)
theorem dX0_bestCall_42 : decode cX0_bestCall 42 = .ok (.getfield 196, 3) := dk_180 0 196 (dk_at dksX0_bestCall_1 18 rfl rfl)
theorem dX0_bestCall_45 : decode cX0_bestCall 45 = .ok (.iload_n 2, 1) := dk_28 (dk_at dksX0_bestCall_1 21 rfl rfl)
theorem dX0_bestCall_46 : decode cX0_bestCall 46 = .ok (.iload 6, 2) := dk_21 6 (dk_at dksX0_bestCall_1 22 rfl rfl)
theorem dX0_bestCall_48 : decode cX0_bestCall 48 = .ok (.iastore, 1) := dk_79 (dk_at dksX0_bestCall_2 0 rfl rfl)
theorem dX0_bestCall_49 : decode cX0_bestCall 49 = .ok (.aload_n 0, 1) := dk_42 (dk_at dksX0_bestCall_2 1 rfl rfl)
theorem dX0_bestCall_50 : decode cX0_bestCall 50 = .ok (.iload_n 1, 1) := dk_27 (dk_at dksX0_bestCall_2 2 rfl rfl)
theorem dX0_bestCall_51 : decode cX0_bestCall 51 = .ok (.invokevirtual 249, 3) := dk_182 0 249 (dk_at dksX0_bestCall_2 3 rfl rfl)
theorem dX0_bestCall_54 : decode cX0_bestCall 54 = .ok (.istore 7, 2) := dk_54 7 (dk_at dksX0_bestCall_2 6 rfl rfl)
theorem dX0_bestCall_56 : decode cX0_bestCall 56 = .ok (.iload 7, 2) := dk_21 7 (dk_at dksX0_bestCall_2 8 rfl rfl)
theorem dX0_bestCall_58 : decode cX0_bestCall 58 = .ok (.iload 5, 2) := dk_21 5 (dk_at dksX0_bestCall_2 10 rfl rfl)
theorem dX0_bestCall_60 : decode cX0_bestCall 60 = .ok (.if_icmp .le 8, 3) := dk_164 0 8 (dk_at dksX0_bestCall_2 12 rfl rfl)
theorem dX0_bestCall_63 : decode cX0_bestCall 63 = .ok (.iload 6, 2) := dk_21 6 (dk_at dksX0_bestCall_2 15 rfl rfl)
theorem dX0_bestCall_65 : decode cX0_bestCall 65 = .ok (.goto 5, 3) := dk_167 0 5 (dk_at dksX0_bestCall_2 17 rfl rfl)
theorem dX0_bestCall_68 : decode cX0_bestCall 68 = .ok (.iload 4, 2) := dk_21 4 (dk_at dksX0_bestCall_2 20 rfl rfl)
theorem dX0_bestCall_70 : decode cX0_bestCall 70 = .ok (.istore 4, 2) := dk_54 4 (dk_at dksX0_bestCall_2 22 rfl rfl)
theorem dX0_bestCall_72 : decode cX0_bestCall 72 = .ok (.iload 5, 2) := dk_21 5 (dk_at dksX0_bestCall_3 0 rfl rfl)
theorem dX0_bestCall_74 : decode cX0_bestCall 74 = .ok (.iload 7, 2) := dk_21 7 (dk_at dksX0_bestCall_3 2 rfl rfl)
theorem dX0_bestCall_76 : decode cX0_bestCall 76 = .ok (.invokestatic 261, 3) := dk_184 1 5 (dk_at dksX0_bestCall_3 4 rfl rfl)
theorem dX0_bestCall_79 : decode cX0_bestCall 79 = .ok (.istore 5, 2) := dk_54 5 (dk_at dksX0_bestCall_3 7 rfl rfl)
theorem dX0_bestCall_81 : decode cX0_bestCall 81 = .ok (.iinc 6 1, 3) := dk_132 6 1 (dk_at dksX0_bestCall_3 9 rfl rfl)
theorem dX0_bestCall_84 : decode cX0_bestCall 84 = .ok (.goto (-54), 3) := dk_167 255 202 (dk_at dksX0_bestCall_3 12 rfl rfl)
theorem dX0_bestCall_87 : decode cX0_bestCall 87 = .ok (.aload_n 0, 1) := dk_42 (dk_at dksX0_bestCall_3 15 rfl rfl)
theorem dX0_bestCall_88 : decode cX0_bestCall 88 = .ok (.getfield 76, 3) := dk_180 0 76 (dk_at dksX0_bestCall_3 16 rfl rfl)
theorem dX0_bestCall_91 : decode cX0_bestCall 91 = .ok (.getfield 196, 3) := dk_180 0 196 (dk_at dksX0_bestCall_3 19 rfl rfl)
theorem dX0_bestCall_94 : decode cX0_bestCall 94 = .ok (.iload_n 2, 1) := dk_28 (dk_at dksX0_bestCall_3 22 rfl rfl)
theorem dX0_bestCall_95 : decode cX0_bestCall 95 = .ok (.iload_n 3, 1) := dk_29 (dk_at dksX0_bestCall_3 23 rfl rfl)
theorem dX0_bestCall_96 : decode cX0_bestCall 96 = .ok (.iastore, 1) := dk_79 (dk_at dksX0_bestCall_4 0 rfl rfl)
theorem dX0_bestCall_97 : decode cX0_bestCall 97 = .ok (.iload 4, 2) := dk_21 4 (dk_at dksX0_bestCall_4 1 rfl rfl)
theorem dX0_bestCall_99 : decode cX0_bestCall 99 = .ok (.ireturn, 1) := dk_172 (dk_at dksX0_bestCall_4 3 rfl rfl)
abbrev cX0_standFor : ByteArray := prog_1_method_58_code
def yX0_standFor : MethodName := ⟨RX0, "standFor", "(II)I"⟩
def dkwX0_standFor_0 : List UInt8 := [42, 27, 28, 182, 1, 22, 153, 0, 12, 42, 27, 28, 182, 1, 25, 167, 0, 8, 42, 3, 182, 0, 126, 172]
abbrev dktX0_standFor_0 : List UInt8 := dkwX0_standFor_0 ++ []
theorem dksX0_standFor_0 : cX0_standFor.data.toList.drop 0 = dktX0_standFor_0 := by decide +kernel
theorem dX0_standFor_0 : decode cX0_standFor 0 = .ok (.aload_n 0, 1) := dk_42 (dk_at dksX0_standFor_0 0 rfl rfl)
theorem dX0_standFor_1 : decode cX0_standFor 1 = .ok (.iload_n 1, 1) := dk_27 (dk_at dksX0_standFor_0 1 rfl rfl)
theorem dX0_standFor_2 : decode cX0_standFor 2 = .ok (.iload_n 2, 1) := dk_28 (dk_at dksX0_standFor_0 2 rfl rfl)
theorem dX0_standFor_3 : decode cX0_standFor 3 = .ok (.invokevirtual 278, 3) := dk_182 1 22 (dk_at dksX0_standFor_0 3 rfl rfl)
theorem dX0_standFor_6 : decode cX0_standFor 6 = .ok (.ifCond .eq 12, 3) := dk_153 0 12 (dk_at dksX0_standFor_0 6 rfl rfl)
theorem dX0_standFor_9 : decode cX0_standFor 9 = .ok (.aload_n 0, 1) := dk_42 (dk_at dksX0_standFor_0 9 rfl rfl)
theorem dX0_standFor_10 : decode cX0_standFor 10 = .ok (.iload_n 1, 1) := dk_27 (dk_at dksX0_standFor_0 10 rfl rfl)
theorem dX0_standFor_11 : decode cX0_standFor 11 = .ok (.iload_n 2, 1) := dk_28 (dk_at dksX0_standFor_0 11 rfl rfl)
theorem dX0_standFor_12 : decode cX0_standFor 12 = .ok (.invokevirtual 281, 3) := dk_182 1 25 (dk_at dksX0_standFor_0 12 rfl rfl)
theorem dX0_standFor_15 : decode cX0_standFor 15 = .ok (.goto 8, 3) := dk_167 0 8 (dk_at dksX0_standFor_0 15 rfl rfl)
theorem dX0_standFor_18 : decode cX0_standFor 18 = .ok (.aload_n 0, 1) := dk_42 (dk_at dksX0_standFor_0 18 rfl rfl)
theorem dX0_standFor_19 : decode cX0_standFor 19 = .ok (.iconst 0, 1) := dk_3 (dk_at dksX0_standFor_0 19 rfl rfl)
theorem dX0_standFor_20 : decode cX0_standFor 20 = .ok (.invokevirtual 126, 3) := dk_182 0 126 (dk_at dksX0_standFor_0 20 rfl rfl)
theorem dX0_standFor_23 : decode cX0_standFor 23 = .ok (.ireturn, 1) := dk_172 (dk_at dksX0_standFor_0 23 rfl rfl)
abbrev cX0_areOne : ByteArray := prog_1_method_57_code
def yX0_areOne : MethodName := ⟨RX0, "areOne", "(II)Z"⟩
def dkwX0_areOne_0 : List UInt8 := [42, 27, 182, 0, 175, 153, 0, 17, 28, 3, 16, 40, 184, 0, 9, 153, 0, 7, 4, 167, 0, 4, 3, 172]
abbrev dktX0_areOne_0 : List UInt8 := dkwX0_areOne_0 ++ []
theorem dksX0_areOne_0 : cX0_areOne.data.toList.drop 0 = dktX0_areOne_0 := by decide +kernel
theorem dX0_areOne_0 : decode cX0_areOne 0 = .ok (.aload_n 0, 1) := dk_42 (dk_at dksX0_areOne_0 0 rfl rfl)
theorem dX0_areOne_1 : decode cX0_areOne 1 = .ok (.iload_n 1, 1) := dk_27 (dk_at dksX0_areOne_0 1 rfl rfl)
theorem dX0_areOne_2 : decode cX0_areOne 2 = .ok (.invokevirtual 175, 3) := dk_182 0 175 (dk_at dksX0_areOne_0 2 rfl rfl)
theorem dX0_areOne_5 : decode cX0_areOne 5 = .ok (.ifCond .eq 17, 3) := dk_153 0 17 (dk_at dksX0_areOne_0 5 rfl rfl)
theorem dX0_areOne_8 : decode cX0_areOne 8 = .ok (.iload_n 2, 1) := dk_28 (dk_at dksX0_areOne_0 8 rfl rfl)
theorem dX0_areOne_9 : decode cX0_areOne 9 = .ok (.iconst 0, 1) := dk_3 (dk_at dksX0_areOne_0 9 rfl rfl)
theorem dX0_areOne_10 : decode cX0_areOne 10 = .ok (.bipush 40, 2) := dk_16 40 (dk_at dksX0_areOne_0 10 rfl rfl)
theorem dX0_areOne_12 : decode cX0_areOne 12 = .ok (.invokestatic 9, 3) := dk_184 0 9 (dk_at dksX0_areOne_0 12 rfl rfl)
theorem dX0_areOne_15 : decode cX0_areOne 15 = .ok (.ifCond .eq 7, 3) := dk_153 0 7 (dk_at dksX0_areOne_0 15 rfl rfl)
theorem dX0_areOne_18 : decode cX0_areOne 18 = .ok (.iconst 1, 1) := dk_4 (dk_at dksX0_areOne_0 18 rfl rfl)
theorem dX0_areOne_19 : decode cX0_areOne 19 = .ok (.goto 4, 3) := dk_167 0 4 (dk_at dksX0_areOne_0 19 rfl rfl)
theorem dX0_areOne_22 : decode cX0_areOne 22 = .ok (.iconst 0, 1) := dk_3 (dk_at dksX0_areOne_0 22 rfl rfl)
theorem dX0_areOne_23 : decode cX0_areOne 23 = .ok (.ireturn, 1) := dk_172 (dk_at dksX0_areOne_0 23 rfl rfl)
abbrev cX0_bestPlace : ByteArray := prog_1_method_56_code
def yX0_bestPlace : MethodName := ⟨RX0, "bestPlace", "(II)I"⟩
def dkwX0_bestPlace_2 : List UInt8 := [54, 4, 132, 5, 1, 167, 255, 213, 29, 172]
abbrev dktX0_bestPlace_2 : List UInt8 := dkwX0_bestPlace_2 ++ []
def dkwX0_bestPlace_1 : List UInt8 := [54, 6, 21, 6, 21, 4, 164, 0, 8, 21, 5, 167, 0, 4, 29, 62, 21, 4, 21, 6, 184, 1, 5]
abbrev dktX0_bestPlace_1 : List UInt8 := dkwX0_bestPlace_1 ++ dktX0_bestPlace_2
def dkwX0_bestPlace_0 : List UInt8 := [3, 62, 2, 54, 4, 3, 54, 5, 21, 5, 16, 7, 162, 0, 42, 42, 27, 21, 5, 28, 182, 1, 19]
abbrev dktX0_bestPlace_0 : List UInt8 := dkwX0_bestPlace_0 ++ dktX0_bestPlace_1
theorem dksX0_bestPlace_0 : cX0_bestPlace.data.toList.drop 0 = dktX0_bestPlace_0 := by decide +kernel
theorem dksX0_bestPlace_1 : cX0_bestPlace.data.toList.drop 23 = dktX0_bestPlace_1 := dk_seg dksX0_bestPlace_0 23 rfl rfl
theorem dksX0_bestPlace_2 : cX0_bestPlace.data.toList.drop 46 = dktX0_bestPlace_2 := dk_seg dksX0_bestPlace_1 23 rfl rfl
theorem dX0_bestPlace_0 : decode cX0_bestPlace 0 = .ok (.iconst 0, 1) := dk_3 (dk_at dksX0_bestPlace_0 0 rfl rfl)
theorem dX0_bestPlace_1 : decode cX0_bestPlace 1 = .ok (.istore_n 3, 1) := dk_62 (dk_at dksX0_bestPlace_0 1 rfl rfl)
theorem dX0_bestPlace_2 : decode cX0_bestPlace 2 = .ok (.iconst (-1), 1) := dk_2 (dk_at dksX0_bestPlace_0 2 rfl rfl)
theorem dX0_bestPlace_3 : decode cX0_bestPlace 3 = .ok (.istore 4, 2) := dk_54 4 (dk_at dksX0_bestPlace_0 3 rfl rfl)
theorem dX0_bestPlace_5 : decode cX0_bestPlace 5 = .ok (.iconst 0, 1) := dk_3 (dk_at dksX0_bestPlace_0 5 rfl rfl)
theorem dX0_bestPlace_6 : decode cX0_bestPlace 6 = .ok (.istore 5, 2) := dk_54 5 (dk_at dksX0_bestPlace_0 6 rfl rfl)
theorem dX0_bestPlace_8 : decode cX0_bestPlace 8 = .ok (.iload 5, 2) := dk_21 5 (dk_at dksX0_bestPlace_0 8 rfl rfl)
theorem dX0_bestPlace_10 : decode cX0_bestPlace 10 = .ok (.bipush 7, 2) := dk_16 7 (dk_at dksX0_bestPlace_0 10 rfl rfl)
theorem dX0_bestPlace_12 : decode cX0_bestPlace 12 = .ok (.if_icmp .ge 42, 3) := dk_162 0 42 (dk_at dksX0_bestPlace_0 12 rfl rfl)
theorem dX0_bestPlace_15 : decode cX0_bestPlace 15 = .ok (.aload_n 0, 1) := dk_42 (dk_at dksX0_bestPlace_0 15 rfl rfl)
theorem dX0_bestPlace_16 : decode cX0_bestPlace 16 = .ok (.iload_n 1, 1) := dk_27 (dk_at dksX0_bestPlace_0 16 rfl rfl)
theorem dX0_bestPlace_17 : decode cX0_bestPlace 17 = .ok (.iload 5, 2) := dk_21 5 (dk_at dksX0_bestPlace_0 17 rfl rfl)
theorem dX0_bestPlace_19 : decode cX0_bestPlace 19 = .ok (.iload_n 2, 1) := dk_28 (dk_at dksX0_bestPlace_0 19 rfl rfl)
theorem dX0_bestPlace_20 : decode cX0_bestPlace 20 = .ok (.invokevirtual 275, 3) := dk_182 1 19 (dk_at dksX0_bestPlace_0 20 rfl rfl)
theorem dX0_bestPlace_23 : decode cX0_bestPlace 23 = .ok (.istore 6, 2) := dk_54 6 (dk_at dksX0_bestPlace_1 0 rfl rfl)
theorem dX0_bestPlace_25 : decode cX0_bestPlace 25 = .ok (.iload 6, 2) := dk_21 6 (dk_at dksX0_bestPlace_1 2 rfl rfl)
theorem dX0_bestPlace_27 : decode cX0_bestPlace 27 = .ok (.iload 4, 2) := dk_21 4 (dk_at dksX0_bestPlace_1 4 rfl rfl)
theorem dX0_bestPlace_29 : decode cX0_bestPlace 29 = .ok (.if_icmp .le 8, 3) := dk_164 0 8 (dk_at dksX0_bestPlace_1 6 rfl rfl)
theorem dX0_bestPlace_32 : decode cX0_bestPlace 32 = .ok (.iload 5, 2) := dk_21 5 (dk_at dksX0_bestPlace_1 9 rfl rfl)
theorem dX0_bestPlace_34 : decode cX0_bestPlace 34 = .ok (.goto 4, 3) := dk_167 0 4 (dk_at dksX0_bestPlace_1 11 rfl rfl)
theorem dX0_bestPlace_37 : decode cX0_bestPlace 37 = .ok (.iload_n 3, 1) := dk_29 (dk_at dksX0_bestPlace_1 14 rfl rfl)
theorem dX0_bestPlace_38 : decode cX0_bestPlace 38 = .ok (.istore_n 3, 1) := dk_62 (dk_at dksX0_bestPlace_1 15 rfl rfl)
theorem dX0_bestPlace_39 : decode cX0_bestPlace 39 = .ok (.iload 4, 2) := dk_21 4 (dk_at dksX0_bestPlace_1 16 rfl rfl)
theorem dX0_bestPlace_41 : decode cX0_bestPlace 41 = .ok (.iload 6, 2) := dk_21 6 (dk_at dksX0_bestPlace_1 18 rfl rfl)
theorem dX0_bestPlace_43 : decode cX0_bestPlace 43 = .ok (.invokestatic 261, 3) := dk_184 1 5 (dk_at dksX0_bestPlace_1 20 rfl rfl)
theorem dX0_bestPlace_46 : decode cX0_bestPlace 46 = .ok (.istore 4, 2) := dk_54 4 (dk_at dksX0_bestPlace_2 0 rfl rfl)
theorem dX0_bestPlace_48 : decode cX0_bestPlace 48 = .ok (.iinc 5 1, 3) := dk_132 5 1 (dk_at dksX0_bestPlace_2 2 rfl rfl)
theorem dX0_bestPlace_51 : decode cX0_bestPlace 51 = .ok (.goto (-43), 3) := dk_167 255 213 (dk_at dksX0_bestPlace_2 5 rfl rfl)
theorem dX0_bestPlace_54 : decode cX0_bestPlace 54 = .ok (.iload_n 3, 1) := dk_29 (dk_at dksX0_bestPlace_2 8 rfl rfl)
theorem dX0_bestPlace_55 : decode cX0_bestPlace 55 = .ok (.ireturn, 1) := dk_172 (dk_at dksX0_bestPlace_2 9 rfl rfl)
abbrev cX0_metresFrom : ByteArray := prog_1_method_55_code
def yX0_metresFrom : MethodName := ⟨RX0, "metresFrom", "(III)I"⟩
def dkwX0_metresFrom_2 : List UInt8 := [180, 0, 76, 42, 180, 0, 83, 182, 0, 238, 25, 5, 191]
abbrev dktX0_metresFrom_2 : List UInt8 := dkwX0_metresFrom_2 ++ []
def dkwX0_metresFrom_1 : List UInt8 := [182, 0, 223, 54, 4, 42, 180, 0, 76, 42, 180, 0, 83, 182, 0, 238, 21, 4, 172, 58, 5, 42]
abbrev dktX0_metresFrom_1 : List UInt8 := dkwX0_metresFrom_1 ++ dktX0_metresFrom_2
def dkwX0_metresFrom_0 : List UInt8 := [42, 180, 0, 83, 42, 180, 0, 76, 182, 0, 238, 42, 180, 0, 76, 28, 27, 182, 1, 16, 42, 29]
abbrev dktX0_metresFrom_0 : List UInt8 := dkwX0_metresFrom_0 ++ dktX0_metresFrom_1
theorem dksX0_metresFrom_0 : cX0_metresFrom.data.toList.drop 0 = dktX0_metresFrom_0 := by decide +kernel
theorem dksX0_metresFrom_1 : cX0_metresFrom.data.toList.drop 22 = dktX0_metresFrom_1 := dk_seg dksX0_metresFrom_0 22 rfl rfl
theorem dksX0_metresFrom_2 : cX0_metresFrom.data.toList.drop 44 = dktX0_metresFrom_2 := dk_seg dksX0_metresFrom_1 22 rfl rfl
theorem dX0_metresFrom_0 : decode cX0_metresFrom 0 = .ok (.aload_n 0, 1) := dk_42 (dk_at dksX0_metresFrom_0 0 rfl rfl)
theorem dX0_metresFrom_1 : decode cX0_metresFrom 1 = .ok (.getfield 83, 3) := dk_180 0 83 (dk_at dksX0_metresFrom_0 1 rfl rfl)
theorem dX0_metresFrom_4 : decode cX0_metresFrom 4 = .ok (.aload_n 0, 1) := dk_42 (dk_at dksX0_metresFrom_0 4 rfl rfl)
theorem dX0_metresFrom_5 : decode cX0_metresFrom 5 = .ok (.getfield 76, 3) := dk_180 0 76 (dk_at dksX0_metresFrom_0 5 rfl rfl)
theorem dX0_metresFrom_8 : decode cX0_metresFrom 8 = .ok (.invokevirtual 238, 3) := dk_182 0 238 (dk_at dksX0_metresFrom_0 8 rfl rfl)
theorem dX0_metresFrom_11 : decode cX0_metresFrom 11 = .ok (.aload_n 0, 1) := dk_42 (dk_at dksX0_metresFrom_0 11 rfl rfl)
theorem dX0_metresFrom_12 : decode cX0_metresFrom 12 = .ok (.getfield 76, 3) := dk_180 0 76 (dk_at dksX0_metresFrom_0 12 rfl rfl)
theorem dX0_metresFrom_15 : decode cX0_metresFrom 15 = .ok (.iload_n 2, 1) := dk_28 (dk_at dksX0_metresFrom_0 15 rfl rfl)
theorem dX0_metresFrom_16 : decode cX0_metresFrom 16 = .ok (.iload_n 1, 1) := dk_27 (dk_at dksX0_metresFrom_0 16 rfl rfl)
theorem dX0_metresFrom_17 : decode cX0_metresFrom 17 = .ok (.invokevirtual 272, 3) := dk_182 1 16 (dk_at dksX0_metresFrom_0 17 rfl rfl)
theorem dX0_metresFrom_20 : decode cX0_metresFrom 20 = .ok (.aload_n 0, 1) := dk_42 (dk_at dksX0_metresFrom_0 20 rfl rfl)
theorem dX0_metresFrom_21 : decode cX0_metresFrom 21 = .ok (.iload_n 3, 1) := dk_29 (dk_at dksX0_metresFrom_0 21 rfl rfl)
theorem dX0_metresFrom_22 : decode cX0_metresFrom 22 = .ok (.invokevirtual 223, 3) := dk_182 0 223 (dk_at dksX0_metresFrom_1 0 rfl rfl)
theorem dX0_metresFrom_25 : decode cX0_metresFrom 25 = .ok (.istore 4, 2) := dk_54 4 (dk_at dksX0_metresFrom_1 3 rfl rfl)
theorem dX0_metresFrom_27 : decode cX0_metresFrom 27 = .ok (.aload_n 0, 1) := dk_42 (dk_at dksX0_metresFrom_1 5 rfl rfl)
theorem dX0_metresFrom_28 : decode cX0_metresFrom 28 = .ok (.getfield 76, 3) := dk_180 0 76 (dk_at dksX0_metresFrom_1 6 rfl rfl)
theorem dX0_metresFrom_31 : decode cX0_metresFrom 31 = .ok (.aload_n 0, 1) := dk_42 (dk_at dksX0_metresFrom_1 9 rfl rfl)
theorem dX0_metresFrom_32 : decode cX0_metresFrom 32 = .ok (.getfield 83, 3) := dk_180 0 83 (dk_at dksX0_metresFrom_1 10 rfl rfl)
theorem dX0_metresFrom_35 : decode cX0_metresFrom 35 = .ok (.invokevirtual 238, 3) := dk_182 0 238 (dk_at dksX0_metresFrom_1 13 rfl rfl)
theorem dX0_metresFrom_38 : decode cX0_metresFrom 38 = .ok (.iload 4, 2) := dk_21 4 (dk_at dksX0_metresFrom_1 16 rfl rfl)
theorem dX0_metresFrom_40 : decode cX0_metresFrom 40 = .ok (.ireturn, 1) := dk_172 (dk_at dksX0_metresFrom_1 18 rfl rfl)
theorem dX0_metresFrom_41 : decode cX0_metresFrom 41 = .ok (.astore 5, 2) := dk_58 5 (dk_at dksX0_metresFrom_1 19 rfl rfl)
theorem dX0_metresFrom_43 : decode cX0_metresFrom 43 = .ok (.aload_n 0, 1) := dk_42 (dk_at dksX0_metresFrom_1 21 rfl rfl)
theorem dX0_metresFrom_44 : decode cX0_metresFrom 44 = .ok (.getfield 76, 3) := dk_180 0 76 (dk_at dksX0_metresFrom_2 0 rfl rfl)
theorem dX0_metresFrom_47 : decode cX0_metresFrom 47 = .ok (.aload_n 0, 1) := dk_42 (dk_at dksX0_metresFrom_2 3 rfl rfl)
theorem dX0_metresFrom_48 : decode cX0_metresFrom 48 = .ok (.getfield 83, 3) := dk_180 0 83 (dk_at dksX0_metresFrom_2 4 rfl rfl)
theorem dX0_metresFrom_51 : decode cX0_metresFrom 51 = .ok (.invokevirtual 238, 3) := dk_182 0 238 (dk_at dksX0_metresFrom_2 7 rfl rfl)
theorem dX0_metresFrom_54 : decode cX0_metresFrom 54 = .ok (.aload 5, 2) := dk_25 5 (dk_at dksX0_metresFrom_2 10 rfl rfl)
theorem dX0_metresFrom_56 : decode cX0_metresFrom 56 = .ok (.athrow, 1) := dk_191 (dk_at dksX0_metresFrom_2 12 rfl rfl)
abbrev cX0_kindFor : ByteArray := prog_1_method_60_code
def yX0_kindFor : MethodName := ⟨RX0, "kindFor", "(II)I"⟩
def dkwX0_kindFor_0 : List UInt8 := [42, 27, 28, 182, 1, 22, 153, 0, 12, 42, 27, 28, 182, 1, 28, 167, 0, 8, 42, 3, 182, 0, 126, 172]
abbrev dktX0_kindFor_0 : List UInt8 := dkwX0_kindFor_0 ++ []
theorem dksX0_kindFor_0 : cX0_kindFor.data.toList.drop 0 = dktX0_kindFor_0 := by decide +kernel
theorem dX0_kindFor_0 : decode cX0_kindFor 0 = .ok (.aload_n 0, 1) := dk_42 (dk_at dksX0_kindFor_0 0 rfl rfl)
theorem dX0_kindFor_1 : decode cX0_kindFor 1 = .ok (.iload_n 1, 1) := dk_27 (dk_at dksX0_kindFor_0 1 rfl rfl)
theorem dX0_kindFor_2 : decode cX0_kindFor 2 = .ok (.iload_n 2, 1) := dk_28 (dk_at dksX0_kindFor_0 2 rfl rfl)
theorem dX0_kindFor_3 : decode cX0_kindFor 3 = .ok (.invokevirtual 278, 3) := dk_182 1 22 (dk_at dksX0_kindFor_0 3 rfl rfl)
theorem dX0_kindFor_6 : decode cX0_kindFor 6 = .ok (.ifCond .eq 12, 3) := dk_153 0 12 (dk_at dksX0_kindFor_0 6 rfl rfl)
theorem dX0_kindFor_9 : decode cX0_kindFor 9 = .ok (.aload_n 0, 1) := dk_42 (dk_at dksX0_kindFor_0 9 rfl rfl)
theorem dX0_kindFor_10 : decode cX0_kindFor 10 = .ok (.iload_n 1, 1) := dk_27 (dk_at dksX0_kindFor_0 10 rfl rfl)
theorem dX0_kindFor_11 : decode cX0_kindFor 11 = .ok (.iload_n 2, 1) := dk_28 (dk_at dksX0_kindFor_0 11 rfl rfl)
theorem dX0_kindFor_12 : decode cX0_kindFor 12 = .ok (.invokevirtual 284, 3) := dk_182 1 28 (dk_at dksX0_kindFor_0 12 rfl rfl)
theorem dX0_kindFor_15 : decode cX0_kindFor 15 = .ok (.goto 8, 3) := dk_167 0 8 (dk_at dksX0_kindFor_0 15 rfl rfl)
theorem dX0_kindFor_18 : decode cX0_kindFor 18 = .ok (.aload_n 0, 1) := dk_42 (dk_at dksX0_kindFor_0 18 rfl rfl)
theorem dX0_kindFor_19 : decode cX0_kindFor 19 = .ok (.iconst 0, 1) := dk_3 (dk_at dksX0_kindFor_0 19 rfl rfl)
theorem dX0_kindFor_20 : decode cX0_kindFor 20 = .ok (.invokevirtual 126, 3) := dk_182 0 126 (dk_at dksX0_kindFor_0 20 rfl rfl)
theorem dX0_kindFor_23 : decode cX0_kindFor 23 = .ok (.ireturn, 1) := dk_172 (dk_at dksX0_kindFor_0 23 rfl rfl)
abbrev cX0_bestKind : ByteArray := prog_1_method_59_code
def yX0_bestKind : MethodName := ⟨RX0, "bestKind", "(II)I"⟩
def dkwX0_bestKind_4 : List UInt8 := [79, 21, 4, 172]
abbrev dktX0_bestKind_4 : List UInt8 := dkwX0_bestKind_4 ++ []
def dkwX0_bestKind_3 : List UInt8 := [21, 7, 184, 1, 5, 54, 5, 132, 6, 1, 167, 255, 199, 42, 180, 0, 76, 180, 0, 111, 3, 50, 27, 29]
abbrev dktX0_bestKind_3 : List UInt8 := dkwX0_bestKind_3 ++ dktX0_bestKind_4
def dkwX0_bestKind_2 : List UInt8 := [182, 0, 245, 54, 7, 21, 7, 21, 5, 164, 0, 8, 21, 6, 167, 0, 5, 21, 4, 54, 4, 21, 5]
abbrev dktX0_bestKind_2 : List UInt8 := dkwX0_bestKind_2 ++ dktX0_bestKind_3
def dkwX0_bestKind_1 : List UInt8 := [16, 7, 162, 0, 56, 42, 180, 0, 76, 180, 0, 111, 3, 50, 27, 21, 6, 79, 42, 27, 6, 28]
abbrev dktX0_bestKind_1 : List UInt8 := dkwX0_bestKind_1 ++ dktX0_bestKind_2
def dkwX0_bestKind_0 : List UInt8 := [42, 180, 0, 76, 180, 0, 111, 3, 50, 27, 46, 62, 3, 54, 4, 2, 54, 5, 3, 54, 6, 21, 6]
abbrev dktX0_bestKind_0 : List UInt8 := dkwX0_bestKind_0 ++ dktX0_bestKind_1
theorem dksX0_bestKind_0 : cX0_bestKind.data.toList.drop 0 = dktX0_bestKind_0 := by decide +kernel
theorem dksX0_bestKind_1 : cX0_bestKind.data.toList.drop 23 = dktX0_bestKind_1 := dk_seg dksX0_bestKind_0 23 rfl rfl
theorem dksX0_bestKind_2 : cX0_bestKind.data.toList.drop 45 = dktX0_bestKind_2 := dk_seg dksX0_bestKind_1 22 rfl rfl
theorem dksX0_bestKind_3 : cX0_bestKind.data.toList.drop 68 = dktX0_bestKind_3 := dk_seg dksX0_bestKind_2 23 rfl rfl
theorem dksX0_bestKind_4 : cX0_bestKind.data.toList.drop 92 = dktX0_bestKind_4 := dk_seg dksX0_bestKind_3 24 rfl rfl
theorem dX0_bestKind_0 : decode cX0_bestKind 0 = .ok (.aload_n 0, 1) := dk_42 (dk_at dksX0_bestKind_0 0 rfl rfl)
theorem dX0_bestKind_1 : decode cX0_bestKind 1 = .ok (.getfield 76, 3) := dk_180 0 76 (dk_at dksX0_bestKind_0 1 rfl rfl)
theorem dX0_bestKind_4 : decode cX0_bestKind 4 = .ok (.getfield 111, 3) := dk_180 0 111 (dk_at dksX0_bestKind_0 4 rfl rfl)
theorem dX0_bestKind_7 : decode cX0_bestKind 7 = .ok (.iconst 0, 1) := dk_3 (dk_at dksX0_bestKind_0 7 rfl rfl)
theorem dX0_bestKind_8 : decode cX0_bestKind 8 = .ok (.aaload, 1) := dk_50 (dk_at dksX0_bestKind_0 8 rfl rfl)
theorem dX0_bestKind_9 : decode cX0_bestKind 9 = .ok (.iload_n 1, 1) := dk_27 (dk_at dksX0_bestKind_0 9 rfl rfl)
theorem dX0_bestKind_10 : decode cX0_bestKind 10 = .ok (.iaload, 1) := dk_46 (dk_at dksX0_bestKind_0 10 rfl rfl)
theorem dX0_bestKind_11 : decode cX0_bestKind 11 = .ok (.istore_n 3, 1) := dk_62 (dk_at dksX0_bestKind_0 11 rfl rfl)
theorem dX0_bestKind_12 : decode cX0_bestKind 12 = .ok (.iconst 0, 1) := dk_3 (dk_at dksX0_bestKind_0 12 rfl rfl)
theorem dX0_bestKind_13 : decode cX0_bestKind 13 = .ok (.istore 4, 2) := dk_54 4 (dk_at dksX0_bestKind_0 13 rfl rfl)
theorem dX0_bestKind_15 : decode cX0_bestKind 15 = .ok (.iconst (-1), 1) := dk_2 (dk_at dksX0_bestKind_0 15 rfl rfl)
theorem dX0_bestKind_16 : decode cX0_bestKind 16 = .ok (.istore 5, 2) := dk_54 5 (dk_at dksX0_bestKind_0 16 rfl rfl)
theorem dX0_bestKind_18 : decode cX0_bestKind 18 = .ok (.iconst 0, 1) := dk_3 (dk_at dksX0_bestKind_0 18 rfl rfl)
theorem dX0_bestKind_19 : decode cX0_bestKind 19 = .ok (.istore 6, 2) := dk_54 6 (dk_at dksX0_bestKind_0 19 rfl rfl)
theorem dX0_bestKind_21 : decode cX0_bestKind 21 = .ok (.iload 6, 2) := dk_21 6 (dk_at dksX0_bestKind_0 21 rfl rfl)
theorem dX0_bestKind_23 : decode cX0_bestKind 23 = .ok (.bipush 7, 2) := dk_16 7 (dk_at dksX0_bestKind_1 0 rfl rfl)
theorem dX0_bestKind_25 : decode cX0_bestKind 25 = .ok (.if_icmp .ge 56, 3) := dk_162 0 56 (dk_at dksX0_bestKind_1 2 rfl rfl)
theorem dX0_bestKind_28 : decode cX0_bestKind 28 = .ok (.aload_n 0, 1) := dk_42 (dk_at dksX0_bestKind_1 5 rfl rfl)
theorem dX0_bestKind_29 : decode cX0_bestKind 29 = .ok (.getfield 76, 3) := dk_180 0 76 (dk_at dksX0_bestKind_1 6 rfl rfl)
theorem dX0_bestKind_32 : decode cX0_bestKind 32 = .ok (.getfield 111, 3) := dk_180 0 111 (dk_at dksX0_bestKind_1 9 rfl rfl)
theorem dX0_bestKind_35 : decode cX0_bestKind 35 = .ok (.iconst 0, 1) := dk_3 (dk_at dksX0_bestKind_1 12 rfl rfl)
theorem dX0_bestKind_36 : decode cX0_bestKind 36 = .ok (.aaload, 1) := dk_50 (dk_at dksX0_bestKind_1 13 rfl rfl)
theorem dX0_bestKind_37 : decode cX0_bestKind 37 = .ok (.iload_n 1, 1) := dk_27 (dk_at dksX0_bestKind_1 14 rfl rfl)
theorem dX0_bestKind_38 : decode cX0_bestKind 38 = .ok (.iload 6, 2) := dk_21 6 (dk_at dksX0_bestKind_1 15 rfl rfl)
theorem dX0_bestKind_40 : decode cX0_bestKind 40 = .ok (.iastore, 1) := dk_79 (dk_at dksX0_bestKind_1 17 rfl rfl)
theorem dX0_bestKind_41 : decode cX0_bestKind 41 = .ok (.aload_n 0, 1) := dk_42 (dk_at dksX0_bestKind_1 18 rfl rfl)
theorem dX0_bestKind_42 : decode cX0_bestKind 42 = .ok (.iload_n 1, 1) := dk_27 (dk_at dksX0_bestKind_1 19 rfl rfl)
theorem dX0_bestKind_43 : decode cX0_bestKind 43 = .ok (.iconst 3, 1) := dk_6 (dk_at dksX0_bestKind_1 20 rfl rfl)
theorem dX0_bestKind_44 : decode cX0_bestKind 44 = .ok (.iload_n 2, 1) := dk_28 (dk_at dksX0_bestKind_1 21 rfl rfl)
theorem dX0_bestKind_45 : decode cX0_bestKind 45 = .ok (.invokevirtual 245, 3) := dk_182 0 245 (dk_at dksX0_bestKind_2 0 rfl rfl)
theorem dX0_bestKind_48 : decode cX0_bestKind 48 = .ok (.istore 7, 2) := dk_54 7 (dk_at dksX0_bestKind_2 3 rfl rfl)
theorem dX0_bestKind_50 : decode cX0_bestKind 50 = .ok (.iload 7, 2) := dk_21 7 (dk_at dksX0_bestKind_2 5 rfl rfl)
theorem dX0_bestKind_52 : decode cX0_bestKind 52 = .ok (.iload 5, 2) := dk_21 5 (dk_at dksX0_bestKind_2 7 rfl rfl)
theorem dX0_bestKind_54 : decode cX0_bestKind 54 = .ok (.if_icmp .le 8, 3) := dk_164 0 8 (dk_at dksX0_bestKind_2 9 rfl rfl)
theorem dX0_bestKind_57 : decode cX0_bestKind 57 = .ok (.iload 6, 2) := dk_21 6 (dk_at dksX0_bestKind_2 12 rfl rfl)
theorem dX0_bestKind_59 : decode cX0_bestKind 59 = .ok (.goto 5, 3) := dk_167 0 5 (dk_at dksX0_bestKind_2 14 rfl rfl)
theorem dX0_bestKind_62 : decode cX0_bestKind 62 = .ok (.iload 4, 2) := dk_21 4 (dk_at dksX0_bestKind_2 17 rfl rfl)
theorem dX0_bestKind_64 : decode cX0_bestKind 64 = .ok (.istore 4, 2) := dk_54 4 (dk_at dksX0_bestKind_2 19 rfl rfl)
theorem dX0_bestKind_66 : decode cX0_bestKind 66 = .ok (.iload 5, 2) := dk_21 5 (dk_at dksX0_bestKind_2 21 rfl rfl)
theorem dX0_bestKind_68 : decode cX0_bestKind 68 = .ok (.iload 7, 2) := dk_21 7 (dk_at dksX0_bestKind_3 0 rfl rfl)
theorem dX0_bestKind_70 : decode cX0_bestKind 70 = .ok (.invokestatic 261, 3) := dk_184 1 5 (dk_at dksX0_bestKind_3 2 rfl rfl)
theorem dX0_bestKind_73 : decode cX0_bestKind 73 = .ok (.istore 5, 2) := dk_54 5 (dk_at dksX0_bestKind_3 5 rfl rfl)
theorem dX0_bestKind_75 : decode cX0_bestKind 75 = .ok (.iinc 6 1, 3) := dk_132 6 1 (dk_at dksX0_bestKind_3 7 rfl rfl)
theorem dX0_bestKind_78 : decode cX0_bestKind 78 = .ok (.goto (-57), 3) := dk_167 255 199 (dk_at dksX0_bestKind_3 10 rfl rfl)
theorem dX0_bestKind_81 : decode cX0_bestKind 81 = .ok (.aload_n 0, 1) := dk_42 (dk_at dksX0_bestKind_3 13 rfl rfl)
theorem dX0_bestKind_82 : decode cX0_bestKind 82 = .ok (.getfield 76, 3) := dk_180 0 76 (dk_at dksX0_bestKind_3 14 rfl rfl)
theorem dX0_bestKind_85 : decode cX0_bestKind 85 = .ok (.getfield 111, 3) := dk_180 0 111 (dk_at dksX0_bestKind_3 17 rfl rfl)
theorem dX0_bestKind_88 : decode cX0_bestKind 88 = .ok (.iconst 0, 1) := dk_3 (dk_at dksX0_bestKind_3 20 rfl rfl)
theorem dX0_bestKind_89 : decode cX0_bestKind 89 = .ok (.aaload, 1) := dk_50 (dk_at dksX0_bestKind_3 21 rfl rfl)
theorem dX0_bestKind_90 : decode cX0_bestKind 90 = .ok (.iload_n 1, 1) := dk_27 (dk_at dksX0_bestKind_3 22 rfl rfl)
theorem dX0_bestKind_91 : decode cX0_bestKind 91 = .ok (.iload_n 3, 1) := dk_29 (dk_at dksX0_bestKind_3 23 rfl rfl)
theorem dX0_bestKind_92 : decode cX0_bestKind 92 = .ok (.iastore, 1) := dk_79 (dk_at dksX0_bestKind_4 0 rfl rfl)
theorem dX0_bestKind_93 : decode cX0_bestKind 93 = .ok (.iload 4, 2) := dk_21 4 (dk_at dksX0_bestKind_4 1 rfl rfl)
theorem dX0_bestKind_95 : decode cX0_bestKind 95 = .ok (.ireturn, 1) := dk_172 (dk_at dksX0_bestKind_4 3 rfl rfl)
abbrev cX0_tallFor : ByteArray := prog_1_method_62_code
def yX0_tallFor : MethodName := ⟨RX0, "tallFor", "(III)I"⟩
def dkwX0_tallFor_1 : List UInt8 := [182, 0, 255, 167, 0, 8, 42, 3, 182, 0, 126, 172]
abbrev dktX0_tallFor_1 : List UInt8 := dkwX0_tallFor_1 ++ []
def dkwX0_tallFor_0 : List UInt8 := [42, 27, 29, 182, 1, 22, 153, 0, 24, 28, 184, 0, 20, 153, 0, 17, 42, 42, 27, 28, 29, 182, 1, 31]
abbrev dktX0_tallFor_0 : List UInt8 := dkwX0_tallFor_0 ++ dktX0_tallFor_1
theorem dksX0_tallFor_0 : cX0_tallFor.data.toList.drop 0 = dktX0_tallFor_0 := by decide +kernel
theorem dksX0_tallFor_1 : cX0_tallFor.data.toList.drop 24 = dktX0_tallFor_1 := dk_seg dksX0_tallFor_0 24 rfl rfl
theorem dX0_tallFor_0 : decode cX0_tallFor 0 = .ok (.aload_n 0, 1) := dk_42 (dk_at dksX0_tallFor_0 0 rfl rfl)
theorem dX0_tallFor_1 : decode cX0_tallFor 1 = .ok (.iload_n 1, 1) := dk_27 (dk_at dksX0_tallFor_0 1 rfl rfl)
theorem dX0_tallFor_2 : decode cX0_tallFor 2 = .ok (.iload_n 3, 1) := dk_29 (dk_at dksX0_tallFor_0 2 rfl rfl)
theorem dX0_tallFor_3 : decode cX0_tallFor 3 = .ok (.invokevirtual 278, 3) := dk_182 1 22 (dk_at dksX0_tallFor_0 3 rfl rfl)
theorem dX0_tallFor_6 : decode cX0_tallFor 6 = .ok (.ifCond .eq 24, 3) := dk_153 0 24 (dk_at dksX0_tallFor_0 6 rfl rfl)
theorem dX0_tallFor_9 : decode cX0_tallFor 9 = .ok (.iload_n 2, 1) := dk_28 (dk_at dksX0_tallFor_0 9 rfl rfl)
theorem dX0_tallFor_10 : decode cX0_tallFor 10 = .ok (.invokestatic 20, 3) := dk_184 0 20 (dk_at dksX0_tallFor_0 10 rfl rfl)
theorem dX0_tallFor_13 : decode cX0_tallFor 13 = .ok (.ifCond .eq 17, 3) := dk_153 0 17 (dk_at dksX0_tallFor_0 13 rfl rfl)
theorem dX0_tallFor_16 : decode cX0_tallFor 16 = .ok (.aload_n 0, 1) := dk_42 (dk_at dksX0_tallFor_0 16 rfl rfl)
theorem dX0_tallFor_17 : decode cX0_tallFor 17 = .ok (.aload_n 0, 1) := dk_42 (dk_at dksX0_tallFor_0 17 rfl rfl)
theorem dX0_tallFor_18 : decode cX0_tallFor 18 = .ok (.iload_n 1, 1) := dk_27 (dk_at dksX0_tallFor_0 18 rfl rfl)
theorem dX0_tallFor_19 : decode cX0_tallFor 19 = .ok (.iload_n 2, 1) := dk_28 (dk_at dksX0_tallFor_0 19 rfl rfl)
theorem dX0_tallFor_20 : decode cX0_tallFor 20 = .ok (.iload_n 3, 1) := dk_29 (dk_at dksX0_tallFor_0 20 rfl rfl)
theorem dX0_tallFor_21 : decode cX0_tallFor 21 = .ok (.invokevirtual 287, 3) := dk_182 1 31 (dk_at dksX0_tallFor_0 21 rfl rfl)
theorem dX0_tallFor_24 : decode cX0_tallFor 24 = .ok (.invokevirtual 255, 3) := dk_182 0 255 (dk_at dksX0_tallFor_1 0 rfl rfl)
theorem dX0_tallFor_27 : decode cX0_tallFor 27 = .ok (.goto 8, 3) := dk_167 0 8 (dk_at dksX0_tallFor_1 3 rfl rfl)
theorem dX0_tallFor_30 : decode cX0_tallFor 30 = .ok (.aload_n 0, 1) := dk_42 (dk_at dksX0_tallFor_1 6 rfl rfl)
theorem dX0_tallFor_31 : decode cX0_tallFor 31 = .ok (.iconst 0, 1) := dk_3 (dk_at dksX0_tallFor_1 7 rfl rfl)
theorem dX0_tallFor_32 : decode cX0_tallFor 32 = .ok (.invokevirtual 126, 3) := dk_182 0 126 (dk_at dksX0_tallFor_1 8 rfl rfl)
theorem dX0_tallFor_35 : decode cX0_tallFor 35 = .ok (.ireturn, 1) := dk_172 (dk_at dksX0_tallFor_1 11 rfl rfl)
abbrev cX0_leastTall : ByteArray := prog_1_method_61_code
def yX0_leastTall : MethodName := ⟨RX0, "leastTall", "(III)I"⟩
def dkwX0_leastTall_3 : List UInt8 := [180, 0, 111, 4, 50, 27, 21, 4, 79, 21, 5, 16, 99, 163, 0, 8, 21, 5, 167, 0, 4, 2, 172]
abbrev dktX0_leastTall_3 : List UInt8 := dkwX0_leastTall_3 ++ []
def dkwX0_leastTall_2 : List UInt8 := [132, 5, 1, 42, 180, 0, 76, 180, 0, 111, 4, 50, 27, 21, 5, 79, 167, 255, 222, 42, 180, 0, 76]
abbrev dktX0_leastTall_2 : List UInt8 := dkwX0_leastTall_2 ++ dktX0_leastTall_3
def dkwX0_leastTall_1 : List UInt8 := [50, 27, 21, 5, 79, 21, 5, 16, 99, 163, 0, 33, 42, 27, 6, 29, 182, 0, 245, 28, 162, 0, 22]
abbrev dktX0_leastTall_1 : List UInt8 := dkwX0_leastTall_1 ++ dktX0_leastTall_2
def dkwX0_leastTall_0 : List UInt8 := [42, 180, 0, 76, 180, 0, 111, 4, 50, 27, 46, 54, 4, 3, 54, 5, 42, 180, 0, 76, 180, 0, 111, 4]
abbrev dktX0_leastTall_0 : List UInt8 := dkwX0_leastTall_0 ++ dktX0_leastTall_1
theorem dksX0_leastTall_0 : cX0_leastTall.data.toList.drop 0 = dktX0_leastTall_0 := by decide +kernel
theorem dksX0_leastTall_1 : cX0_leastTall.data.toList.drop 24 = dktX0_leastTall_1 := dk_seg dksX0_leastTall_0 24 rfl rfl
theorem dksX0_leastTall_2 : cX0_leastTall.data.toList.drop 47 = dktX0_leastTall_2 := dk_seg dksX0_leastTall_1 23 rfl rfl
theorem dksX0_leastTall_3 : cX0_leastTall.data.toList.drop 70 = dktX0_leastTall_3 := dk_seg dksX0_leastTall_2 23 rfl rfl
theorem dX0_leastTall_0 : decode cX0_leastTall 0 = .ok (.aload_n 0, 1) := dk_42 (dk_at dksX0_leastTall_0 0 rfl rfl)
theorem dX0_leastTall_1 : decode cX0_leastTall 1 = .ok (.getfield 76, 3) := dk_180 0 76 (dk_at dksX0_leastTall_0 1 rfl rfl)
theorem dX0_leastTall_4 : decode cX0_leastTall 4 = .ok (.getfield 111, 3) := dk_180 0 111 (dk_at dksX0_leastTall_0 4 rfl rfl)
theorem dX0_leastTall_7 : decode cX0_leastTall 7 = .ok (.iconst 1, 1) := dk_4 (dk_at dksX0_leastTall_0 7 rfl rfl)
theorem dX0_leastTall_8 : decode cX0_leastTall 8 = .ok (.aaload, 1) := dk_50 (dk_at dksX0_leastTall_0 8 rfl rfl)
theorem dX0_leastTall_9 : decode cX0_leastTall 9 = .ok (.iload_n 1, 1) := dk_27 (dk_at dksX0_leastTall_0 9 rfl rfl)
theorem dX0_leastTall_10 : decode cX0_leastTall 10 = .ok (.iaload, 1) := dk_46 (dk_at dksX0_leastTall_0 10 rfl rfl)
theorem dX0_leastTall_11 : decode cX0_leastTall 11 = .ok (.istore 4, 2) := dk_54 4 (dk_at dksX0_leastTall_0 11 rfl rfl)
theorem dX0_leastTall_13 : decode cX0_leastTall 13 = .ok (.iconst 0, 1) := dk_3 (dk_at dksX0_leastTall_0 13 rfl rfl)
theorem dX0_leastTall_14 : decode cX0_leastTall 14 = .ok (.istore 5, 2) := dk_54 5 (dk_at dksX0_leastTall_0 14 rfl rfl)
theorem dX0_leastTall_16 : decode cX0_leastTall 16 = .ok (.aload_n 0, 1) := dk_42 (dk_at dksX0_leastTall_0 16 rfl rfl)
theorem dX0_leastTall_17 : decode cX0_leastTall 17 = .ok (.getfield 76, 3) := dk_180 0 76 (dk_at dksX0_leastTall_0 17 rfl rfl)
theorem dX0_leastTall_20 : decode cX0_leastTall 20 = .ok (.getfield 111, 3) := dk_180 0 111 (dk_at dksX0_leastTall_0 20 rfl rfl)
theorem dX0_leastTall_23 : decode cX0_leastTall 23 = .ok (.iconst 1, 1) := dk_4 (dk_at dksX0_leastTall_0 23 rfl rfl)
theorem dX0_leastTall_24 : decode cX0_leastTall 24 = .ok (.aaload, 1) := dk_50 (dk_at dksX0_leastTall_1 0 rfl rfl)
theorem dX0_leastTall_25 : decode cX0_leastTall 25 = .ok (.iload_n 1, 1) := dk_27 (dk_at dksX0_leastTall_1 1 rfl rfl)
theorem dX0_leastTall_26 : decode cX0_leastTall 26 = .ok (.iload 5, 2) := dk_21 5 (dk_at dksX0_leastTall_1 2 rfl rfl)
theorem dX0_leastTall_28 : decode cX0_leastTall 28 = .ok (.iastore, 1) := dk_79 (dk_at dksX0_leastTall_1 4 rfl rfl)
theorem dX0_leastTall_29 : decode cX0_leastTall 29 = .ok (.iload 5, 2) := dk_21 5 (dk_at dksX0_leastTall_1 5 rfl rfl)
theorem dX0_leastTall_31 : decode cX0_leastTall 31 = .ok (.bipush 99, 2) := dk_16 99 (dk_at dksX0_leastTall_1 7 rfl rfl)
theorem dX0_leastTall_33 : decode cX0_leastTall 33 = .ok (.if_icmp .gt 33, 3) := dk_163 0 33 (dk_at dksX0_leastTall_1 9 rfl rfl)
theorem dX0_leastTall_36 : decode cX0_leastTall 36 = .ok (.aload_n 0, 1) := dk_42 (dk_at dksX0_leastTall_1 12 rfl rfl)
theorem dX0_leastTall_37 : decode cX0_leastTall 37 = .ok (.iload_n 1, 1) := dk_27 (dk_at dksX0_leastTall_1 13 rfl rfl)
theorem dX0_leastTall_38 : decode cX0_leastTall 38 = .ok (.iconst 3, 1) := dk_6 (dk_at dksX0_leastTall_1 14 rfl rfl)
theorem dX0_leastTall_39 : decode cX0_leastTall 39 = .ok (.iload_n 3, 1) := dk_29 (dk_at dksX0_leastTall_1 15 rfl rfl)
theorem dX0_leastTall_40 : decode cX0_leastTall 40 = .ok (.invokevirtual 245, 3) := dk_182 0 245 (dk_at dksX0_leastTall_1 16 rfl rfl)
theorem dX0_leastTall_43 : decode cX0_leastTall 43 = .ok (.iload_n 2, 1) := dk_28 (dk_at dksX0_leastTall_1 19 rfl rfl)
theorem dX0_leastTall_44 : decode cX0_leastTall 44 = .ok (.if_icmp .ge 22, 3) := dk_162 0 22 (dk_at dksX0_leastTall_1 20 rfl rfl)
theorem dX0_leastTall_47 : decode cX0_leastTall 47 = .ok (.iinc 5 1, 3) := dk_132 5 1 (dk_at dksX0_leastTall_2 0 rfl rfl)
theorem dX0_leastTall_50 : decode cX0_leastTall 50 = .ok (.aload_n 0, 1) := dk_42 (dk_at dksX0_leastTall_2 3 rfl rfl)
theorem dX0_leastTall_51 : decode cX0_leastTall 51 = .ok (.getfield 76, 3) := dk_180 0 76 (dk_at dksX0_leastTall_2 4 rfl rfl)
theorem dX0_leastTall_54 : decode cX0_leastTall 54 = .ok (.getfield 111, 3) := dk_180 0 111 (dk_at dksX0_leastTall_2 7 rfl rfl)
theorem dX0_leastTall_57 : decode cX0_leastTall 57 = .ok (.iconst 1, 1) := dk_4 (dk_at dksX0_leastTall_2 10 rfl rfl)
theorem dX0_leastTall_58 : decode cX0_leastTall 58 = .ok (.aaload, 1) := dk_50 (dk_at dksX0_leastTall_2 11 rfl rfl)
theorem dX0_leastTall_59 : decode cX0_leastTall 59 = .ok (.iload_n 1, 1) := dk_27 (dk_at dksX0_leastTall_2 12 rfl rfl)
theorem dX0_leastTall_60 : decode cX0_leastTall 60 = .ok (.iload 5, 2) := dk_21 5 (dk_at dksX0_leastTall_2 13 rfl rfl)
theorem dX0_leastTall_62 : decode cX0_leastTall 62 = .ok (.iastore, 1) := dk_79 (dk_at dksX0_leastTall_2 15 rfl rfl)
theorem dX0_leastTall_63 : decode cX0_leastTall 63 = .ok (.goto (-34), 3) := dk_167 255 222 (dk_at dksX0_leastTall_2 16 rfl rfl)
theorem dX0_leastTall_66 : decode cX0_leastTall 66 = .ok (.aload_n 0, 1) := dk_42 (dk_at dksX0_leastTall_2 19 rfl rfl)
theorem dX0_leastTall_67 : decode cX0_leastTall 67 = .ok (.getfield 76, 3) := dk_180 0 76 (dk_at dksX0_leastTall_2 20 rfl rfl)
theorem dX0_leastTall_70 : decode cX0_leastTall 70 = .ok (.getfield 111, 3) := dk_180 0 111 (dk_at dksX0_leastTall_3 0 rfl rfl)
theorem dX0_leastTall_73 : decode cX0_leastTall 73 = .ok (.iconst 1, 1) := dk_4 (dk_at dksX0_leastTall_3 3 rfl rfl)
theorem dX0_leastTall_74 : decode cX0_leastTall 74 = .ok (.aaload, 1) := dk_50 (dk_at dksX0_leastTall_3 4 rfl rfl)
theorem dX0_leastTall_75 : decode cX0_leastTall 75 = .ok (.iload_n 1, 1) := dk_27 (dk_at dksX0_leastTall_3 5 rfl rfl)
theorem dX0_leastTall_76 : decode cX0_leastTall 76 = .ok (.iload 4, 2) := dk_21 4 (dk_at dksX0_leastTall_3 6 rfl rfl)
theorem dX0_leastTall_78 : decode cX0_leastTall 78 = .ok (.iastore, 1) := dk_79 (dk_at dksX0_leastTall_3 8 rfl rfl)
theorem dX0_leastTall_79 : decode cX0_leastTall 79 = .ok (.iload 5, 2) := dk_21 5 (dk_at dksX0_leastTall_3 9 rfl rfl)
theorem dX0_leastTall_81 : decode cX0_leastTall 81 = .ok (.bipush 99, 2) := dk_16 99 (dk_at dksX0_leastTall_3 11 rfl rfl)
theorem dX0_leastTall_83 : decode cX0_leastTall 83 = .ok (.if_icmp .gt 8, 3) := dk_163 0 8 (dk_at dksX0_leastTall_3 13 rfl rfl)
theorem dX0_leastTall_86 : decode cX0_leastTall 86 = .ok (.iload 5, 2) := dk_21 5 (dk_at dksX0_leastTall_3 16 rfl rfl)
theorem dX0_leastTall_88 : decode cX0_leastTall 88 = .ok (.goto 4, 3) := dk_167 0 4 (dk_at dksX0_leastTall_3 18 rfl rfl)
theorem dX0_leastTall_91 : decode cX0_leastTall 91 = .ok (.iconst (-1), 1) := dk_2 (dk_at dksX0_leastTall_3 21 rfl rfl)
theorem dX0_leastTall_92 : decode cX0_leastTall 92 = .ok (.ireturn, 1) := dk_172 (dk_at dksX0_leastTall_3 22 rfl rfl)
abbrev cX0_cover : ByteArray := prog_1_method_63_code
def yX0_cover : MethodName := ⟨RX0, "cover", "()I"⟩
def dkwX0_cover_2 : List UInt8 := [21, 4, 167, 0, 4, 29, 62, 132, 4, 255, 167, 255, 216, 29, 172]
abbrev dktX0_cover_2 : List UInt8 := dkwX0_cover_2 ++ []
def dkwX0_cover_1 : List UInt8 := [184, 0, 23, 29, 184, 0, 23, 163, 0, 21, 42, 180, 0, 76, 21, 4, 182, 0, 235, 28, 160, 0, 8]
abbrev dktX0_cover_1 : List UInt8 := dkwX0_cover_1 ++ dktX0_cover_2
def dkwX0_cover_0 : List UInt8 := [16, 63, 60, 42, 180, 0, 76, 27, 182, 0, 235, 61, 27, 62, 27, 54, 4, 21, 4, 155, 0, 41, 21, 4]
abbrev dktX0_cover_0 : List UInt8 := dkwX0_cover_0 ++ dktX0_cover_1
theorem dksX0_cover_0 : cX0_cover.data.toList.drop 0 = dktX0_cover_0 := by decide +kernel
theorem dksX0_cover_1 : cX0_cover.data.toList.drop 24 = dktX0_cover_1 := dk_seg dksX0_cover_0 24 rfl rfl
theorem dksX0_cover_2 : cX0_cover.data.toList.drop 47 = dktX0_cover_2 := dk_seg dksX0_cover_1 23 rfl rfl
theorem dX0_cover_0 : decode cX0_cover 0 = .ok (.bipush 63, 2) := dk_16 63 (dk_at dksX0_cover_0 0 rfl rfl)
theorem dX0_cover_2 : decode cX0_cover 2 = .ok (.istore_n 1, 1) := dk_60 (dk_at dksX0_cover_0 2 rfl rfl)
theorem dX0_cover_3 : decode cX0_cover 3 = .ok (.aload_n 0, 1) := dk_42 (dk_at dksX0_cover_0 3 rfl rfl)
theorem dX0_cover_4 : decode cX0_cover 4 = .ok (.getfield 76, 3) := dk_180 0 76 (dk_at dksX0_cover_0 4 rfl rfl)
theorem dX0_cover_7 : decode cX0_cover 7 = .ok (.iload_n 1, 1) := dk_27 (dk_at dksX0_cover_0 7 rfl rfl)
theorem dX0_cover_8 : decode cX0_cover 8 = .ok (.invokevirtual 235, 3) := dk_182 0 235 (dk_at dksX0_cover_0 8 rfl rfl)
theorem dX0_cover_11 : decode cX0_cover 11 = .ok (.istore_n 2, 1) := dk_61 (dk_at dksX0_cover_0 11 rfl rfl)
theorem dX0_cover_12 : decode cX0_cover 12 = .ok (.iload_n 1, 1) := dk_27 (dk_at dksX0_cover_0 12 rfl rfl)
theorem dX0_cover_13 : decode cX0_cover 13 = .ok (.istore_n 3, 1) := dk_62 (dk_at dksX0_cover_0 13 rfl rfl)
theorem dX0_cover_14 : decode cX0_cover 14 = .ok (.iload_n 1, 1) := dk_27 (dk_at dksX0_cover_0 14 rfl rfl)
theorem dX0_cover_15 : decode cX0_cover 15 = .ok (.istore 4, 2) := dk_54 4 (dk_at dksX0_cover_0 15 rfl rfl)
theorem dX0_cover_17 : decode cX0_cover 17 = .ok (.iload 4, 2) := dk_21 4 (dk_at dksX0_cover_0 17 rfl rfl)
theorem dX0_cover_19 : decode cX0_cover 19 = .ok (.ifCond .lt 41, 3) := dk_155 0 41 (dk_at dksX0_cover_0 19 rfl rfl)
theorem dX0_cover_22 : decode cX0_cover 22 = .ok (.iload 4, 2) := dk_21 4 (dk_at dksX0_cover_0 22 rfl rfl)
theorem dX0_cover_24 : decode cX0_cover 24 = .ok (.invokestatic 23, 3) := dk_184 0 23 (dk_at dksX0_cover_1 0 rfl rfl)
theorem dX0_cover_27 : decode cX0_cover 27 = .ok (.iload_n 3, 1) := dk_29 (dk_at dksX0_cover_1 3 rfl rfl)
theorem dX0_cover_28 : decode cX0_cover 28 = .ok (.invokestatic 23, 3) := dk_184 0 23 (dk_at dksX0_cover_1 4 rfl rfl)
theorem dX0_cover_31 : decode cX0_cover 31 = .ok (.if_icmp .gt 21, 3) := dk_163 0 21 (dk_at dksX0_cover_1 7 rfl rfl)
theorem dX0_cover_34 : decode cX0_cover 34 = .ok (.aload_n 0, 1) := dk_42 (dk_at dksX0_cover_1 10 rfl rfl)
theorem dX0_cover_35 : decode cX0_cover 35 = .ok (.getfield 76, 3) := dk_180 0 76 (dk_at dksX0_cover_1 11 rfl rfl)
theorem dX0_cover_38 : decode cX0_cover 38 = .ok (.iload 4, 2) := dk_21 4 (dk_at dksX0_cover_1 14 rfl rfl)
theorem dX0_cover_40 : decode cX0_cover 40 = .ok (.invokevirtual 235, 3) := dk_182 0 235 (dk_at dksX0_cover_1 16 rfl rfl)
theorem dX0_cover_43 : decode cX0_cover 43 = .ok (.iload_n 2, 1) := dk_28 (dk_at dksX0_cover_1 19 rfl rfl)
theorem dX0_cover_44 : decode cX0_cover 44 = .ok (.if_icmp .ne 8, 3) := dk_160 0 8 (dk_at dksX0_cover_1 20 rfl rfl)
theorem dX0_cover_47 : decode cX0_cover 47 = .ok (.iload 4, 2) := dk_21 4 (dk_at dksX0_cover_2 0 rfl rfl)
theorem dX0_cover_49 : decode cX0_cover 49 = .ok (.goto 4, 3) := dk_167 0 4 (dk_at dksX0_cover_2 2 rfl rfl)
theorem dX0_cover_52 : decode cX0_cover 52 = .ok (.iload_n 3, 1) := dk_29 (dk_at dksX0_cover_2 5 rfl rfl)
theorem dX0_cover_53 : decode cX0_cover 53 = .ok (.istore_n 3, 1) := dk_62 (dk_at dksX0_cover_2 6 rfl rfl)
theorem dX0_cover_54 : decode cX0_cover 54 = .ok (.iinc 4 (-1), 3) := dk_132 4 255 (dk_at dksX0_cover_2 7 rfl rfl)
theorem dX0_cover_57 : decode cX0_cover 57 = .ok (.goto (-40), 3) := dk_167 255 216 (dk_at dksX0_cover_2 10 rfl rfl)
theorem dX0_cover_60 : decode cX0_cover 60 = .ok (.iload_n 3, 1) := dk_29 (dk_at dksX0_cover_2 13 rfl rfl)
theorem dX0_cover_61 : decode cX0_cover 61 = .ok (.ireturn, 1) := dk_172 (dk_at dksX0_cover_2 14 rfl rfl)
abbrev cX0_codes : ByteArray := prog_1_method_66_code
def yX0_codes : MethodName := ⟨RX0, "codes", "(I)I"⟩
def dkwX0_codes_1 : List UInt8 := [182, 1, 54, 172, 77, 42, 44, 180, 0, 116, 182, 0, 126, 172]
abbrev dktX0_codes_1 : List UInt8 := dkwX0_codes_1 ++ []
def dkwX0_codes_0 : List UInt8 := [42, 27, 182, 1, 46, 77, 42, 44, 198, 0, 7, 4, 167, 0, 4, 3, 8, 182, 1, 50, 42, 44]
abbrev dktX0_codes_0 : List UInt8 := dkwX0_codes_0 ++ dktX0_codes_1
theorem dksX0_codes_0 : cX0_codes.data.toList.drop 0 = dktX0_codes_0 := by decide +kernel
theorem dksX0_codes_1 : cX0_codes.data.toList.drop 22 = dktX0_codes_1 := dk_seg dksX0_codes_0 22 rfl rfl
theorem dX0_codes_0 : decode cX0_codes 0 = .ok (.aload_n 0, 1) := dk_42 (dk_at dksX0_codes_0 0 rfl rfl)
theorem dX0_codes_1 : decode cX0_codes 1 = .ok (.iload_n 1, 1) := dk_27 (dk_at dksX0_codes_0 1 rfl rfl)
theorem dX0_codes_2 : decode cX0_codes 2 = .ok (.invokevirtual 302, 3) := dk_182 1 46 (dk_at dksX0_codes_0 2 rfl rfl)
theorem dX0_codes_5 : decode cX0_codes 5 = .ok (.astore_n 2, 1) := dk_77 (dk_at dksX0_codes_0 5 rfl rfl)
theorem dX0_codes_6 : decode cX0_codes 6 = .ok (.aload_n 0, 1) := dk_42 (dk_at dksX0_codes_0 6 rfl rfl)
theorem dX0_codes_7 : decode cX0_codes 7 = .ok (.aload_n 2, 1) := dk_44 (dk_at dksX0_codes_0 7 rfl rfl)
theorem dX0_codes_8 : decode cX0_codes 8 = .ok (.ifnull 7, 3) := dk_198 0 7 (dk_at dksX0_codes_0 8 rfl rfl)
theorem dX0_codes_11 : decode cX0_codes 11 = .ok (.iconst 1, 1) := dk_4 (dk_at dksX0_codes_0 11 rfl rfl)
theorem dX0_codes_12 : decode cX0_codes 12 = .ok (.goto 4, 3) := dk_167 0 4 (dk_at dksX0_codes_0 12 rfl rfl)
theorem dX0_codes_15 : decode cX0_codes 15 = .ok (.iconst 0, 1) := dk_3 (dk_at dksX0_codes_0 15 rfl rfl)
theorem dX0_codes_16 : decode cX0_codes 16 = .ok (.iconst 5, 1) := dk_8 (dk_at dksX0_codes_0 16 rfl rfl)
theorem dX0_codes_17 : decode cX0_codes 17 = .ok (.invokevirtual 306, 3) := dk_182 1 50 (dk_at dksX0_codes_0 17 rfl rfl)
theorem dX0_codes_20 : decode cX0_codes 20 = .ok (.aload_n 0, 1) := dk_42 (dk_at dksX0_codes_0 20 rfl rfl)
theorem dX0_codes_21 : decode cX0_codes 21 = .ok (.aload_n 2, 1) := dk_44 (dk_at dksX0_codes_0 21 rfl rfl)
theorem dX0_codes_22 : decode cX0_codes 22 = .ok (.invokevirtual 310, 3) := dk_182 1 54 (dk_at dksX0_codes_1 0 rfl rfl)
theorem dX0_codes_25 : decode cX0_codes 25 = .ok (.ireturn, 1) := dk_172 (dk_at dksX0_codes_1 3 rfl rfl)
theorem dX0_codes_26 : decode cX0_codes 26 = .ok (.astore_n 2, 1) := dk_77 (dk_at dksX0_codes_1 4 rfl rfl)
theorem dX0_codes_27 : decode cX0_codes 27 = .ok (.aload_n 0, 1) := dk_42 (dk_at dksX0_codes_1 5 rfl rfl)
theorem dX0_codes_28 : decode cX0_codes 28 = .ok (.aload_n 2, 1) := dk_44 (dk_at dksX0_codes_1 6 rfl rfl)
theorem dX0_codes_29 : decode cX0_codes 29 = .ok (.getfield 116, 3) := dk_180 0 116 (dk_at dksX0_codes_1 7 rfl rfl)
theorem dX0_codes_32 : decode cX0_codes 32 = .ok (.invokevirtual 126, 3) := dk_182 0 126 (dk_at dksX0_codes_1 10 rfl rfl)
theorem dX0_codes_35 : decode cX0_codes 35 = .ok (.ireturn, 1) := dk_172 (dk_at dksX0_codes_1 13 rfl rfl)
abbrev cX0_rowAt : ByteArray := prog_1_method_88_code
def yX0_rowAt : MethodName := ⟨RX0, "rowAt", "(I)Ljava/lang/Object;"⟩
def dkwX0_rowAt_0 : List UInt8 := [42, 27, 184, 1, 123, 3, 182, 1, 50, 42, 180, 0, 95, 27, 50, 180, 0, 107, 176]
abbrev dktX0_rowAt_0 : List UInt8 := dkwX0_rowAt_0 ++ []
theorem dksX0_rowAt_0 : cX0_rowAt.data.toList.drop 0 = dktX0_rowAt_0 := by decide +kernel
theorem dX0_rowAt_0 : decode cX0_rowAt 0 = .ok (.aload_n 0, 1) := dk_42 (dk_at dksX0_rowAt_0 0 rfl rfl)
theorem dX0_rowAt_1 : decode cX0_rowAt 1 = .ok (.iload_n 1, 1) := dk_27 (dk_at dksX0_rowAt_0 1 rfl rfl)
theorem dX0_rowAt_2 : decode cX0_rowAt 2 = .ok (.invokestatic 379, 3) := dk_184 1 123 (dk_at dksX0_rowAt_0 2 rfl rfl)
theorem dX0_rowAt_5 : decode cX0_rowAt 5 = .ok (.iconst 0, 1) := dk_3 (dk_at dksX0_rowAt_0 5 rfl rfl)
theorem dX0_rowAt_6 : decode cX0_rowAt 6 = .ok (.invokevirtual 306, 3) := dk_182 1 50 (dk_at dksX0_rowAt_0 6 rfl rfl)
theorem dX0_rowAt_9 : decode cX0_rowAt 9 = .ok (.aload_n 0, 1) := dk_42 (dk_at dksX0_rowAt_0 9 rfl rfl)
theorem dX0_rowAt_10 : decode cX0_rowAt 10 = .ok (.getfield 95, 3) := dk_180 0 95 (dk_at dksX0_rowAt_0 10 rfl rfl)
theorem dX0_rowAt_13 : decode cX0_rowAt 13 = .ok (.iload_n 1, 1) := dk_27 (dk_at dksX0_rowAt_0 13 rfl rfl)
theorem dX0_rowAt_14 : decode cX0_rowAt 14 = .ok (.aaload, 1) := dk_50 (dk_at dksX0_rowAt_0 14 rfl rfl)
theorem dX0_rowAt_15 : decode cX0_rowAt 15 = .ok (.getfield 107, 3) := dk_180 0 107 (dk_at dksX0_rowAt_0 15 rfl rfl)
theorem dX0_rowAt_18 : decode cX0_rowAt 18 = .ok (.areturn, 1) := dk_176 (dk_at dksX0_rowAt_0 18 rfl rfl)
abbrev cX0_isSheet : ByteArray := prog_1_method_4_code
def yX0_isSheet : MethodName := ⟨RX0, "isSheet", "(I)Z"⟩
def dkwX0_isSheet_0 : List UInt8 := [26, 3, 6, 184, 0, 9, 172]
abbrev dktX0_isSheet_0 : List UInt8 := dkwX0_isSheet_0 ++ []
theorem dksX0_isSheet_0 : cX0_isSheet.data.toList.drop 0 = dktX0_isSheet_0 := by decide +kernel
theorem dX0_isSheet_0 : decode cX0_isSheet 0 = .ok (.iload_n 0, 1) := dk_26 (dk_at dksX0_isSheet_0 0 rfl rfl)
theorem dX0_isSheet_1 : decode cX0_isSheet 1 = .ok (.iconst 0, 1) := dk_3 (dk_at dksX0_isSheet_0 1 rfl rfl)
theorem dX0_isSheet_2 : decode cX0_isSheet 2 = .ok (.iconst 3, 1) := dk_6 (dk_at dksX0_isSheet_0 2 rfl rfl)
theorem dX0_isSheet_3 : decode cX0_isSheet 3 = .ok (.invokestatic 9, 3) := dk_184 0 9 (dk_at dksX0_isSheet_0 3 rfl rfl)
theorem dX0_isSheet_6 : decode cX0_isSheet 6 = .ok (.ireturn, 1) := dk_172 (dk_at dksX0_isSheet_0 6 rfl rfl)
abbrev cX0_need : ByteArray := prog_1_method_21_code
def yX0_need : MethodName := ⟨RX0, "need", "(ZI)V"⟩
def dkwX0_need_0 : List UInt8 := [27, 154, 0, 9, 42, 28, 182, 0, 120, 191, 177]
abbrev dktX0_need_0 : List UInt8 := dkwX0_need_0 ++ []
theorem dksX0_need_0 : cX0_need.data.toList.drop 0 = dktX0_need_0 := by decide +kernel
theorem dX0_need_0 : decode cX0_need 0 = .ok (.iload_n 1, 1) := dk_27 (dk_at dksX0_need_0 0 rfl rfl)
theorem dX0_need_1 : decode cX0_need 1 = .ok (.ifCond .ne 9, 3) := dk_154 0 9 (dk_at dksX0_need_0 1 rfl rfl)
theorem dX0_need_4 : decode cX0_need 4 = .ok (.aload_n 0, 1) := dk_42 (dk_at dksX0_need_0 4 rfl rfl)
theorem dX0_need_5 : decode cX0_need 5 = .ok (.iload_n 2, 1) := dk_28 (dk_at dksX0_need_0 5 rfl rfl)
theorem dX0_need_6 : decode cX0_need 6 = .ok (.invokevirtual 120, 3) := dk_182 0 120 (dk_at dksX0_need_0 6 rfl rfl)
theorem dX0_need_9 : decode cX0_need 9 = .ok (.athrow, 1) := dk_191 (dk_at dksX0_need_0 9 rfl rfl)
theorem dX0_need_10 : decode cX0_need 10 = .ok (.return_, 1) := dk_177 (dk_at dksX0_need_0 10 rfl rfl)
abbrev cX0_refused : ByteArray := prog_1_method_20_code
def yX0_refused : MethodName := ⟨RX0, "refused", "(I)LLineCalls$Refusal;"⟩
def dkwX0_refused_0 : List UInt8 := [42, 180, 0, 62, 27, 181, 0, 116, 42, 180, 0, 62, 176]
abbrev dktX0_refused_0 : List UInt8 := dkwX0_refused_0 ++ []
theorem dksX0_refused_0 : cX0_refused.data.toList.drop 0 = dktX0_refused_0 := by decide +kernel
theorem dX0_refused_0 : decode cX0_refused 0 = .ok (.aload_n 0, 1) := dk_42 (dk_at dksX0_refused_0 0 rfl rfl)
theorem dX0_refused_1 : decode cX0_refused 1 = .ok (.getfield 62, 3) := dk_180 0 62 (dk_at dksX0_refused_0 1 rfl rfl)
theorem dX0_refused_4 : decode cX0_refused 4 = .ok (.iload_n 1, 1) := dk_27 (dk_at dksX0_refused_0 4 rfl rfl)
theorem dX0_refused_5 : decode cX0_refused 5 = .ok (.putfield 116, 3) := dk_181 0 116 (dk_at dksX0_refused_0 5 rfl rfl)
theorem dX0_refused_8 : decode cX0_refused 8 = .ok (.aload_n 0, 1) := dk_42 (dk_at dksX0_refused_0 8 rfl rfl)
theorem dX0_refused_9 : decode cX0_refused 9 = .ok (.getfield 62, 3) := dk_180 0 62 (dk_at dksX0_refused_0 9 rfl rfl)
theorem dX0_refused_12 : decode cX0_refused 12 = .ok (.areturn, 1) := dk_176 (dk_at dksX0_refused_0 12 rfl rfl)
abbrev cX0_codesThatFit : ByteArray := prog_1_method_65_code
def yX0_codesThatFit : MethodName := ⟨RX0, "codesThatFit", "(Ljava/lang/Object;)I"⟩
def dkwX0_codesThatFit_2 : List UInt8 := [167, 0, 4, 3, 128, 62, 132, 4, 1, 167, 255, 217, 42, 180, 0, 76, 180, 0, 187, 5, 28, 79, 29, 172]
abbrev dktX0_codesThatFit_2 : List UInt8 := dkwX0_codesThatFit_2 ++ []
def dkwX0_codesThatFit_1 : List UInt8 := [180, 0, 76, 180, 0, 187, 5, 21, 4, 79, 29, 42, 43, 182, 1, 42, 153, 0, 10, 4, 21, 4, 120]
abbrev dktX0_codesThatFit_1 : List UInt8 := dkwX0_codesThatFit_1 ++ dktX0_codesThatFit_2
def dkwX0_codesThatFit_0 : List UInt8 := [42, 180, 0, 76, 180, 0, 187, 5, 46, 61, 3, 62, 3, 54, 4, 21, 4, 8, 162, 0, 39, 42]
abbrev dktX0_codesThatFit_0 : List UInt8 := dkwX0_codesThatFit_0 ++ dktX0_codesThatFit_1
theorem dksX0_codesThatFit_0 : cX0_codesThatFit.data.toList.drop 0 = dktX0_codesThatFit_0 := by decide +kernel
theorem dksX0_codesThatFit_1 : cX0_codesThatFit.data.toList.drop 22 = dktX0_codesThatFit_1 := dk_seg dksX0_codesThatFit_0 22 rfl rfl
theorem dksX0_codesThatFit_2 : cX0_codesThatFit.data.toList.drop 45 = dktX0_codesThatFit_2 := dk_seg dksX0_codesThatFit_1 23 rfl rfl
theorem dX0_codesThatFit_0 : decode cX0_codesThatFit 0 = .ok (.aload_n 0, 1) := dk_42 (dk_at dksX0_codesThatFit_0 0 rfl rfl)
theorem dX0_codesThatFit_1 : decode cX0_codesThatFit 1 = .ok (.getfield 76, 3) := dk_180 0 76 (dk_at dksX0_codesThatFit_0 1 rfl rfl)
theorem dX0_codesThatFit_4 : decode cX0_codesThatFit 4 = .ok (.getfield 187, 3) := dk_180 0 187 (dk_at dksX0_codesThatFit_0 4 rfl rfl)
theorem dX0_codesThatFit_7 : decode cX0_codesThatFit 7 = .ok (.iconst 2, 1) := dk_5 (dk_at dksX0_codesThatFit_0 7 rfl rfl)
theorem dX0_codesThatFit_8 : decode cX0_codesThatFit 8 = .ok (.iaload, 1) := dk_46 (dk_at dksX0_codesThatFit_0 8 rfl rfl)
theorem dX0_codesThatFit_9 : decode cX0_codesThatFit 9 = .ok (.istore_n 2, 1) := dk_61 (dk_at dksX0_codesThatFit_0 9 rfl rfl)
theorem dX0_codesThatFit_10 : decode cX0_codesThatFit 10 = .ok (.iconst 0, 1) := dk_3 (dk_at dksX0_codesThatFit_0 10 rfl rfl)
theorem dX0_codesThatFit_11 : decode cX0_codesThatFit 11 = .ok (.istore_n 3, 1) := dk_62 (dk_at dksX0_codesThatFit_0 11 rfl rfl)
theorem dX0_codesThatFit_12 : decode cX0_codesThatFit 12 = .ok (.iconst 0, 1) := dk_3 (dk_at dksX0_codesThatFit_0 12 rfl rfl)
theorem dX0_codesThatFit_13 : decode cX0_codesThatFit 13 = .ok (.istore 4, 2) := dk_54 4 (dk_at dksX0_codesThatFit_0 13 rfl rfl)
theorem dX0_codesThatFit_15 : decode cX0_codesThatFit 15 = .ok (.iload 4, 2) := dk_21 4 (dk_at dksX0_codesThatFit_0 15 rfl rfl)
theorem dX0_codesThatFit_17 : decode cX0_codesThatFit 17 = .ok (.iconst 5, 1) := dk_8 (dk_at dksX0_codesThatFit_0 17 rfl rfl)
theorem dX0_codesThatFit_18 : decode cX0_codesThatFit 18 = .ok (.if_icmp .ge 39, 3) := dk_162 0 39 (dk_at dksX0_codesThatFit_0 18 rfl rfl)
theorem dX0_codesThatFit_21 : decode cX0_codesThatFit 21 = .ok (.aload_n 0, 1) := dk_42 (dk_at dksX0_codesThatFit_0 21 rfl rfl)
theorem dX0_codesThatFit_22 : decode cX0_codesThatFit 22 = .ok (.getfield 76, 3) := dk_180 0 76 (dk_at dksX0_codesThatFit_1 0 rfl rfl)
theorem dX0_codesThatFit_25 : decode cX0_codesThatFit 25 = .ok (.getfield 187, 3) := dk_180 0 187 (dk_at dksX0_codesThatFit_1 3 rfl rfl)
theorem dX0_codesThatFit_28 : decode cX0_codesThatFit 28 = .ok (.iconst 2, 1) := dk_5 (dk_at dksX0_codesThatFit_1 6 rfl rfl)
theorem dX0_codesThatFit_29 : decode cX0_codesThatFit 29 = .ok (.iload 4, 2) := dk_21 4 (dk_at dksX0_codesThatFit_1 7 rfl rfl)
theorem dX0_codesThatFit_31 : decode cX0_codesThatFit 31 = .ok (.iastore, 1) := dk_79 (dk_at dksX0_codesThatFit_1 9 rfl rfl)
theorem dX0_codesThatFit_32 : decode cX0_codesThatFit 32 = .ok (.iload_n 3, 1) := dk_29 (dk_at dksX0_codesThatFit_1 10 rfl rfl)
theorem dX0_codesThatFit_33 : decode cX0_codesThatFit 33 = .ok (.aload_n 0, 1) := dk_42 (dk_at dksX0_codesThatFit_1 11 rfl rfl)
theorem dX0_codesThatFit_34 : decode cX0_codesThatFit 34 = .ok (.aload_n 1, 1) := dk_43 (dk_at dksX0_codesThatFit_1 12 rfl rfl)
theorem dX0_codesThatFit_35 : decode cX0_codesThatFit 35 = .ok (.invokevirtual 298, 3) := dk_182 1 42 (dk_at dksX0_codesThatFit_1 13 rfl rfl)
theorem dX0_codesThatFit_38 : decode cX0_codesThatFit 38 = .ok (.ifCond .eq 10, 3) := dk_153 0 10 (dk_at dksX0_codesThatFit_1 16 rfl rfl)
theorem dX0_codesThatFit_41 : decode cX0_codesThatFit 41 = .ok (.iconst 1, 1) := dk_4 (dk_at dksX0_codesThatFit_1 19 rfl rfl)
theorem dX0_codesThatFit_42 : decode cX0_codesThatFit 42 = .ok (.iload 4, 2) := dk_21 4 (dk_at dksX0_codesThatFit_1 20 rfl rfl)
theorem dX0_codesThatFit_44 : decode cX0_codesThatFit 44 = .ok (.ishl, 1) := dk_120 (dk_at dksX0_codesThatFit_1 22 rfl rfl)
theorem dX0_codesThatFit_45 : decode cX0_codesThatFit 45 = .ok (.goto 4, 3) := dk_167 0 4 (dk_at dksX0_codesThatFit_2 0 rfl rfl)
theorem dX0_codesThatFit_48 : decode cX0_codesThatFit 48 = .ok (.iconst 0, 1) := dk_3 (dk_at dksX0_codesThatFit_2 3 rfl rfl)
theorem dX0_codesThatFit_49 : decode cX0_codesThatFit 49 = .ok (.ior, 1) := dk_128 (dk_at dksX0_codesThatFit_2 4 rfl rfl)
theorem dX0_codesThatFit_50 : decode cX0_codesThatFit 50 = .ok (.istore_n 3, 1) := dk_62 (dk_at dksX0_codesThatFit_2 5 rfl rfl)
theorem dX0_codesThatFit_51 : decode cX0_codesThatFit 51 = .ok (.iinc 4 1, 3) := dk_132 4 1 (dk_at dksX0_codesThatFit_2 6 rfl rfl)
theorem dX0_codesThatFit_54 : decode cX0_codesThatFit 54 = .ok (.goto (-39), 3) := dk_167 255 217 (dk_at dksX0_codesThatFit_2 9 rfl rfl)
theorem dX0_codesThatFit_57 : decode cX0_codesThatFit 57 = .ok (.aload_n 0, 1) := dk_42 (dk_at dksX0_codesThatFit_2 12 rfl rfl)
theorem dX0_codesThatFit_58 : decode cX0_codesThatFit 58 = .ok (.getfield 76, 3) := dk_180 0 76 (dk_at dksX0_codesThatFit_2 13 rfl rfl)
theorem dX0_codesThatFit_61 : decode cX0_codesThatFit 61 = .ok (.getfield 187, 3) := dk_180 0 187 (dk_at dksX0_codesThatFit_2 16 rfl rfl)
theorem dX0_codesThatFit_64 : decode cX0_codesThatFit 64 = .ok (.iconst 2, 1) := dk_5 (dk_at dksX0_codesThatFit_2 19 rfl rfl)
theorem dX0_codesThatFit_65 : decode cX0_codesThatFit 65 = .ok (.iload_n 2, 1) := dk_28 (dk_at dksX0_codesThatFit_2 20 rfl rfl)
theorem dX0_codesThatFit_66 : decode cX0_codesThatFit 66 = .ok (.iastore, 1) := dk_79 (dk_at dksX0_codesThatFit_2 21 rfl rfl)
theorem dX0_codesThatFit_67 : decode cX0_codesThatFit 67 = .ok (.iload_n 3, 1) := dk_29 (dk_at dksX0_codesThatFit_2 22 rfl rfl)
theorem dX0_codesThatFit_68 : decode cX0_codesThatFit 68 = .ok (.ireturn, 1) := dk_172 (dk_at dksX0_codesThatFit_2 23 rfl rfl)
abbrev cX0_wasSo : ByteArray := prog_1_method_64_code
def yX0_wasSo : MethodName := ⟨RX0, "wasSo", "(Ljava/lang/Object;)Z"⟩
def dkwX0_wasSo_4 : List UInt8 := [182, 0, 238, 25, 4, 191]
abbrev dktX0_wasSo_4 : List UInt8 := dkwX0_wasSo_4 ++ []
def dkwX0_wasSo_3 : List UInt8 := [180, 0, 76, 42, 180, 0, 83, 182, 0, 238, 29, 172, 58, 4, 42, 180, 0, 76, 42, 180, 0, 83]
abbrev dktX0_wasSo_3 : List UInt8 := dkwX0_wasSo_3 ++ dktX0_wasSo_4
def dkwX0_wasSo_2 : List UInt8 := [160, 0, 7, 4, 167, 0, 4, 3, 61, 42, 182, 0, 169, 132, 3, 1, 167, 255, 207, 28, 62, 42]
abbrev dktX0_wasSo_2 : List UInt8 := dkwX0_wasSo_2 ++ dktX0_wasSo_3
def dkwX0_wasSo_1 : List UInt8 := [162, 0, 43, 43, 29, 184, 1, 38, 2, 159, 0, 18, 43, 29, 184, 1, 38, 42, 180, 0, 76, 180, 0, 217]
abbrev dktX0_wasSo_1 : List UInt8 := dkwX0_wasSo_1 ++ dktX0_wasSo_2
def dkwX0_wasSo_0 : List UInt8 := [42, 180, 0, 83, 42, 180, 0, 76, 182, 0, 238, 4, 61, 3, 62, 28, 153, 0, 51, 29, 43, 184, 1, 34]
abbrev dktX0_wasSo_0 : List UInt8 := dkwX0_wasSo_0 ++ dktX0_wasSo_1
theorem dksX0_wasSo_0 : cX0_wasSo.data.toList.drop 0 = dktX0_wasSo_0 := by decide +kernel
theorem dksX0_wasSo_1 : cX0_wasSo.data.toList.drop 24 = dktX0_wasSo_1 := dk_seg dksX0_wasSo_0 24 rfl rfl
theorem dksX0_wasSo_2 : cX0_wasSo.data.toList.drop 48 = dktX0_wasSo_2 := dk_seg dksX0_wasSo_1 24 rfl rfl
theorem dksX0_wasSo_3 : cX0_wasSo.data.toList.drop 70 = dktX0_wasSo_3 := dk_seg dksX0_wasSo_2 22 rfl rfl
theorem dksX0_wasSo_4 : cX0_wasSo.data.toList.drop 92 = dktX0_wasSo_4 := dk_seg dksX0_wasSo_3 22 rfl rfl
theorem dX0_wasSo_0 : decode cX0_wasSo 0 = .ok (.aload_n 0, 1) := dk_42 (dk_at dksX0_wasSo_0 0 rfl rfl)
theorem dX0_wasSo_1 : decode cX0_wasSo 1 = .ok (.getfield 83, 3) := dk_180 0 83 (dk_at dksX0_wasSo_0 1 rfl rfl)
theorem dX0_wasSo_4 : decode cX0_wasSo 4 = .ok (.aload_n 0, 1) := dk_42 (dk_at dksX0_wasSo_0 4 rfl rfl)
theorem dX0_wasSo_5 : decode cX0_wasSo 5 = .ok (.getfield 76, 3) := dk_180 0 76 (dk_at dksX0_wasSo_0 5 rfl rfl)
theorem dX0_wasSo_8 : decode cX0_wasSo 8 = .ok (.invokevirtual 238, 3) := dk_182 0 238 (dk_at dksX0_wasSo_0 8 rfl rfl)
theorem dX0_wasSo_11 : decode cX0_wasSo 11 = .ok (.iconst 1, 1) := dk_4 (dk_at dksX0_wasSo_0 11 rfl rfl)
theorem dX0_wasSo_12 : decode cX0_wasSo 12 = .ok (.istore_n 2, 1) := dk_61 (dk_at dksX0_wasSo_0 12 rfl rfl)
theorem dX0_wasSo_13 : decode cX0_wasSo 13 = .ok (.iconst 0, 1) := dk_3 (dk_at dksX0_wasSo_0 13 rfl rfl)
theorem dX0_wasSo_14 : decode cX0_wasSo 14 = .ok (.istore_n 3, 1) := dk_62 (dk_at dksX0_wasSo_0 14 rfl rfl)
theorem dX0_wasSo_15 : decode cX0_wasSo 15 = .ok (.iload_n 2, 1) := dk_28 (dk_at dksX0_wasSo_0 15 rfl rfl)
theorem dX0_wasSo_16 : decode cX0_wasSo 16 = .ok (.ifCond .eq 51, 3) := dk_153 0 51 (dk_at dksX0_wasSo_0 16 rfl rfl)
theorem dX0_wasSo_19 : decode cX0_wasSo 19 = .ok (.iload_n 3, 1) := dk_29 (dk_at dksX0_wasSo_0 19 rfl rfl)
theorem dX0_wasSo_20 : decode cX0_wasSo 20 = .ok (.aload_n 1, 1) := dk_43 (dk_at dksX0_wasSo_0 20 rfl rfl)
theorem dX0_wasSo_21 : decode cX0_wasSo 21 = .ok (.invokestatic 290, 3) := dk_184 1 34 (dk_at dksX0_wasSo_0 21 rfl rfl)
theorem dX0_wasSo_24 : decode cX0_wasSo 24 = .ok (.if_icmp .ge 43, 3) := dk_162 0 43 (dk_at dksX0_wasSo_1 0 rfl rfl)
theorem dX0_wasSo_27 : decode cX0_wasSo 27 = .ok (.aload_n 1, 1) := dk_43 (dk_at dksX0_wasSo_1 3 rfl rfl)
theorem dX0_wasSo_28 : decode cX0_wasSo 28 = .ok (.iload_n 3, 1) := dk_29 (dk_at dksX0_wasSo_1 4 rfl rfl)
theorem dX0_wasSo_29 : decode cX0_wasSo 29 = .ok (.invokestatic 294, 3) := dk_184 1 38 (dk_at dksX0_wasSo_1 5 rfl rfl)
theorem dX0_wasSo_32 : decode cX0_wasSo 32 = .ok (.iconst (-1), 1) := dk_2 (dk_at dksX0_wasSo_1 8 rfl rfl)
theorem dX0_wasSo_33 : decode cX0_wasSo 33 = .ok (.if_icmp .eq 18, 3) := dk_159 0 18 (dk_at dksX0_wasSo_1 9 rfl rfl)
theorem dX0_wasSo_36 : decode cX0_wasSo 36 = .ok (.aload_n 1, 1) := dk_43 (dk_at dksX0_wasSo_1 12 rfl rfl)
theorem dX0_wasSo_37 : decode cX0_wasSo 37 = .ok (.iload_n 3, 1) := dk_29 (dk_at dksX0_wasSo_1 13 rfl rfl)
theorem dX0_wasSo_38 : decode cX0_wasSo 38 = .ok (.invokestatic 294, 3) := dk_184 1 38 (dk_at dksX0_wasSo_1 14 rfl rfl)
theorem dX0_wasSo_41 : decode cX0_wasSo 41 = .ok (.aload_n 0, 1) := dk_42 (dk_at dksX0_wasSo_1 17 rfl rfl)
theorem dX0_wasSo_42 : decode cX0_wasSo 42 = .ok (.getfield 76, 3) := dk_180 0 76 (dk_at dksX0_wasSo_1 18 rfl rfl)
theorem dX0_wasSo_45 : decode cX0_wasSo 45 = .ok (.getfield 217, 3) := dk_180 0 217 (dk_at dksX0_wasSo_1 21 rfl rfl)
theorem dX0_wasSo_48 : decode cX0_wasSo 48 = .ok (.if_icmp .ne 7, 3) := dk_160 0 7 (dk_at dksX0_wasSo_2 0 rfl rfl)
theorem dX0_wasSo_51 : decode cX0_wasSo 51 = .ok (.iconst 1, 1) := dk_4 (dk_at dksX0_wasSo_2 3 rfl rfl)
theorem dX0_wasSo_52 : decode cX0_wasSo 52 = .ok (.goto 4, 3) := dk_167 0 4 (dk_at dksX0_wasSo_2 4 rfl rfl)
theorem dX0_wasSo_55 : decode cX0_wasSo 55 = .ok (.iconst 0, 1) := dk_3 (dk_at dksX0_wasSo_2 7 rfl rfl)
theorem dX0_wasSo_56 : decode cX0_wasSo 56 = .ok (.istore_n 2, 1) := dk_61 (dk_at dksX0_wasSo_2 8 rfl rfl)
theorem dX0_wasSo_57 : decode cX0_wasSo 57 = .ok (.aload_n 0, 1) := dk_42 (dk_at dksX0_wasSo_2 9 rfl rfl)
theorem dX0_wasSo_58 : decode cX0_wasSo 58 = .ok (.invokevirtual 169, 3) := dk_182 0 169 (dk_at dksX0_wasSo_2 10 rfl rfl)
theorem dX0_wasSo_61 : decode cX0_wasSo 61 = .ok (.iinc 3 1, 3) := dk_132 3 1 (dk_at dksX0_wasSo_2 13 rfl rfl)
theorem dX0_wasSo_64 : decode cX0_wasSo 64 = .ok (.goto (-49), 3) := dk_167 255 207 (dk_at dksX0_wasSo_2 16 rfl rfl)
theorem dX0_wasSo_67 : decode cX0_wasSo 67 = .ok (.iload_n 2, 1) := dk_28 (dk_at dksX0_wasSo_2 19 rfl rfl)
theorem dX0_wasSo_68 : decode cX0_wasSo 68 = .ok (.istore_n 3, 1) := dk_62 (dk_at dksX0_wasSo_2 20 rfl rfl)
theorem dX0_wasSo_69 : decode cX0_wasSo 69 = .ok (.aload_n 0, 1) := dk_42 (dk_at dksX0_wasSo_2 21 rfl rfl)
theorem dX0_wasSo_70 : decode cX0_wasSo 70 = .ok (.getfield 76, 3) := dk_180 0 76 (dk_at dksX0_wasSo_3 0 rfl rfl)
theorem dX0_wasSo_73 : decode cX0_wasSo 73 = .ok (.aload_n 0, 1) := dk_42 (dk_at dksX0_wasSo_3 3 rfl rfl)
theorem dX0_wasSo_74 : decode cX0_wasSo 74 = .ok (.getfield 83, 3) := dk_180 0 83 (dk_at dksX0_wasSo_3 4 rfl rfl)
theorem dX0_wasSo_77 : decode cX0_wasSo 77 = .ok (.invokevirtual 238, 3) := dk_182 0 238 (dk_at dksX0_wasSo_3 7 rfl rfl)
theorem dX0_wasSo_80 : decode cX0_wasSo 80 = .ok (.iload_n 3, 1) := dk_29 (dk_at dksX0_wasSo_3 10 rfl rfl)
theorem dX0_wasSo_81 : decode cX0_wasSo 81 = .ok (.ireturn, 1) := dk_172 (dk_at dksX0_wasSo_3 11 rfl rfl)
theorem dX0_wasSo_82 : decode cX0_wasSo 82 = .ok (.astore 4, 2) := dk_58 4 (dk_at dksX0_wasSo_3 12 rfl rfl)
theorem dX0_wasSo_84 : decode cX0_wasSo 84 = .ok (.aload_n 0, 1) := dk_42 (dk_at dksX0_wasSo_3 14 rfl rfl)
theorem dX0_wasSo_85 : decode cX0_wasSo 85 = .ok (.getfield 76, 3) := dk_180 0 76 (dk_at dksX0_wasSo_3 15 rfl rfl)
theorem dX0_wasSo_88 : decode cX0_wasSo 88 = .ok (.aload_n 0, 1) := dk_42 (dk_at dksX0_wasSo_3 18 rfl rfl)
theorem dX0_wasSo_89 : decode cX0_wasSo 89 = .ok (.getfield 83, 3) := dk_180 0 83 (dk_at dksX0_wasSo_3 19 rfl rfl)
theorem dX0_wasSo_92 : decode cX0_wasSo 92 = .ok (.invokevirtual 238, 3) := dk_182 0 238 (dk_at dksX0_wasSo_4 0 rfl rfl)
theorem dX0_wasSo_95 : decode cX0_wasSo 95 = .ok (.aload 4, 2) := dk_25 4 (dk_at dksX0_wasSo_4 3 rfl rfl)
theorem dX0_wasSo_97 : decode cX0_wasSo 97 = .ok (.athrow, 1) := dk_191 (dk_at dksX0_wasSo_4 5 rfl rfl)
abbrev cX0_length : ByteArray := prog_1_method_89_code
def yX0_length : MethodName := ⟨RX0, "length", "(Ljava/lang/Object;)I"⟩
def dkwX0_length_1 : List UInt8 := [192, 1, 127, 190, 167, 0, 8, 42, 192, 1, 129, 190, 172]
abbrev dktX0_length_1 : List UInt8 := dkwX0_length_1 ++ []
def dkwX0_length_0 : List UInt8 := [42, 193, 1, 126, 153, 0, 11, 42, 192, 1, 126, 190, 167, 0, 23, 42, 193, 1, 127, 153, 0, 11, 42]
abbrev dktX0_length_0 : List UInt8 := dkwX0_length_0 ++ dktX0_length_1
theorem dksX0_length_0 : cX0_length.data.toList.drop 0 = dktX0_length_0 := by decide +kernel
theorem dksX0_length_1 : cX0_length.data.toList.drop 23 = dktX0_length_1 := dk_seg dksX0_length_0 23 rfl rfl
theorem dX0_length_0 : decode cX0_length 0 = .ok (.aload_n 0, 1) := dk_42 (dk_at dksX0_length_0 0 rfl rfl)
theorem dX0_length_1 : decode cX0_length 1 = .ok (.instanceof 382, 3) := dk_193 1 126 (dk_at dksX0_length_0 1 rfl rfl)
theorem dX0_length_4 : decode cX0_length 4 = .ok (.ifCond .eq 11, 3) := dk_153 0 11 (dk_at dksX0_length_0 4 rfl rfl)
theorem dX0_length_7 : decode cX0_length 7 = .ok (.aload_n 0, 1) := dk_42 (dk_at dksX0_length_0 7 rfl rfl)
theorem dX0_length_8 : decode cX0_length 8 = .ok (.checkcast 382, 3) := dk_192 1 126 (dk_at dksX0_length_0 8 rfl rfl)
theorem dX0_length_11 : decode cX0_length 11 = .ok (.arraylength, 1) := dk_190 (dk_at dksX0_length_0 11 rfl rfl)
theorem dX0_length_12 : decode cX0_length 12 = .ok (.goto 23, 3) := dk_167 0 23 (dk_at dksX0_length_0 12 rfl rfl)
theorem dX0_length_15 : decode cX0_length 15 = .ok (.aload_n 0, 1) := dk_42 (dk_at dksX0_length_0 15 rfl rfl)
theorem dX0_length_16 : decode cX0_length 16 = .ok (.instanceof 383, 3) := dk_193 1 127 (dk_at dksX0_length_0 16 rfl rfl)
theorem dX0_length_19 : decode cX0_length 19 = .ok (.ifCond .eq 11, 3) := dk_153 0 11 (dk_at dksX0_length_0 19 rfl rfl)
theorem dX0_length_22 : decode cX0_length 22 = .ok (.aload_n 0, 1) := dk_42 (dk_at dksX0_length_0 22 rfl rfl)
theorem dX0_length_23 : decode cX0_length 23 = .ok (.checkcast 383, 3) := dk_192 1 127 (dk_at dksX0_length_1 0 rfl rfl)
theorem dX0_length_26 : decode cX0_length 26 = .ok (.arraylength, 1) := dk_190 (dk_at dksX0_length_1 3 rfl rfl)
theorem dX0_length_27 : decode cX0_length 27 = .ok (.goto 8, 3) := dk_167 0 8 (dk_at dksX0_length_1 4 rfl rfl)
theorem dX0_length_30 : decode cX0_length 30 = .ok (.aload_n 0, 1) := dk_42 (dk_at dksX0_length_1 7 rfl rfl)
theorem dX0_length_31 : decode cX0_length 31 = .ok (.checkcast 385, 3) := dk_192 1 129 (dk_at dksX0_length_1 8 rfl rfl)
theorem dX0_length_34 : decode cX0_length 34 = .ok (.arraylength, 1) := dk_190 (dk_at dksX0_length_1 11 rfl rfl)
theorem dX0_length_35 : decode cX0_length 35 = .ok (.ireturn, 1) := dk_172 (dk_at dksX0_length_1 12 rfl rfl)
abbrev cX0_number : ByteArray := prog_1_method_90_code
def yX0_number : MethodName := ⟨RX0, "number", "(Ljava/lang/Object;I)I"⟩
def dkwX0_number_1 : List UInt8 := [192, 1, 127, 27, 53, 167, 0, 9, 42, 192, 1, 129, 27, 46, 172]
abbrev dktX0_number_1 : List UInt8 := dkwX0_number_1 ++ []
def dkwX0_number_0 : List UInt8 := [42, 193, 1, 126, 153, 0, 12, 42, 192, 1, 126, 27, 51, 167, 0, 25, 42, 193, 1, 127, 153, 0, 12, 42]
abbrev dktX0_number_0 : List UInt8 := dkwX0_number_0 ++ dktX0_number_1
theorem dksX0_number_0 : cX0_number.data.toList.drop 0 = dktX0_number_0 := by decide +kernel
theorem dksX0_number_1 : cX0_number.data.toList.drop 24 = dktX0_number_1 := dk_seg dksX0_number_0 24 rfl rfl
theorem dX0_number_0 : decode cX0_number 0 = .ok (.aload_n 0, 1) := dk_42 (dk_at dksX0_number_0 0 rfl rfl)
theorem dX0_number_1 : decode cX0_number 1 = .ok (.instanceof 382, 3) := dk_193 1 126 (dk_at dksX0_number_0 1 rfl rfl)
theorem dX0_number_4 : decode cX0_number 4 = .ok (.ifCond .eq 12, 3) := dk_153 0 12 (dk_at dksX0_number_0 4 rfl rfl)
theorem dX0_number_7 : decode cX0_number 7 = .ok (.aload_n 0, 1) := dk_42 (dk_at dksX0_number_0 7 rfl rfl)
theorem dX0_number_8 : decode cX0_number 8 = .ok (.checkcast 382, 3) := dk_192 1 126 (dk_at dksX0_number_0 8 rfl rfl)
theorem dX0_number_11 : decode cX0_number 11 = .ok (.iload_n 1, 1) := dk_27 (dk_at dksX0_number_0 11 rfl rfl)
theorem dX0_number_12 : decode cX0_number 12 = .ok (.baload, 1) := dk_51 (dk_at dksX0_number_0 12 rfl rfl)
theorem dX0_number_13 : decode cX0_number 13 = .ok (.goto 25, 3) := dk_167 0 25 (dk_at dksX0_number_0 13 rfl rfl)
theorem dX0_number_16 : decode cX0_number 16 = .ok (.aload_n 0, 1) := dk_42 (dk_at dksX0_number_0 16 rfl rfl)
theorem dX0_number_17 : decode cX0_number 17 = .ok (.instanceof 383, 3) := dk_193 1 127 (dk_at dksX0_number_0 17 rfl rfl)
theorem dX0_number_20 : decode cX0_number 20 = .ok (.ifCond .eq 12, 3) := dk_153 0 12 (dk_at dksX0_number_0 20 rfl rfl)
theorem dX0_number_23 : decode cX0_number 23 = .ok (.aload_n 0, 1) := dk_42 (dk_at dksX0_number_0 23 rfl rfl)
theorem dX0_number_24 : decode cX0_number 24 = .ok (.checkcast 383, 3) := dk_192 1 127 (dk_at dksX0_number_1 0 rfl rfl)
theorem dX0_number_27 : decode cX0_number 27 = .ok (.iload_n 1, 1) := dk_27 (dk_at dksX0_number_1 3 rfl rfl)
theorem dX0_number_28 : decode cX0_number 28 = .ok (.saload, 1) := dk_53 (dk_at dksX0_number_1 4 rfl rfl)
theorem dX0_number_29 : decode cX0_number 29 = .ok (.goto 9, 3) := dk_167 0 9 (dk_at dksX0_number_1 5 rfl rfl)
theorem dX0_number_32 : decode cX0_number 32 = .ok (.aload_n 0, 1) := dk_42 (dk_at dksX0_number_1 8 rfl rfl)
theorem dX0_number_33 : decode cX0_number 33 = .ok (.checkcast 385, 3) := dk_192 1 129 (dk_at dksX0_number_1 9 rfl rfl)
theorem dX0_number_36 : decode cX0_number 36 = .ok (.iload_n 1, 1) := dk_27 (dk_at dksX0_number_1 12 rfl rfl)
theorem dX0_number_37 : decode cX0_number 37 = .ok (.iaload, 1) := dk_46 (dk_at dksX0_number_1 13 rfl rfl)
theorem dX0_number_38 : decode cX0_number 38 = .ok (.ireturn, 1) := dk_172 (dk_at dksX0_number_1 14 rfl rfl)
abbrev cX0_fits : ByteArray := prog_1_method_69_code
def yX0_fits : MethodName := ⟨RX0, "fits", "(II)I"⟩
def dkwX0_fits_0 : List UInt8 := [42, 42, 27, 28, 182, 1, 60, 28, 182, 1, 64, 172, 78, 42, 45, 180, 0, 116, 182, 0, 126, 172]
abbrev dktX0_fits_0 : List UInt8 := dkwX0_fits_0 ++ []
theorem dksX0_fits_0 : cX0_fits.data.toList.drop 0 = dktX0_fits_0 := by decide +kernel
theorem dX0_fits_0 : decode cX0_fits 0 = .ok (.aload_n 0, 1) := dk_42 (dk_at dksX0_fits_0 0 rfl rfl)
theorem dX0_fits_1 : decode cX0_fits 1 = .ok (.aload_n 0, 1) := dk_42 (dk_at dksX0_fits_0 1 rfl rfl)
theorem dX0_fits_2 : decode cX0_fits 2 = .ok (.iload_n 1, 1) := dk_27 (dk_at dksX0_fits_0 2 rfl rfl)
theorem dX0_fits_3 : decode cX0_fits 3 = .ok (.iload_n 2, 1) := dk_28 (dk_at dksX0_fits_0 3 rfl rfl)
theorem dX0_fits_4 : decode cX0_fits 4 = .ok (.invokevirtual 316, 3) := dk_182 1 60 (dk_at dksX0_fits_0 4 rfl rfl)
theorem dX0_fits_7 : decode cX0_fits 7 = .ok (.iload_n 2, 1) := dk_28 (dk_at dksX0_fits_0 7 rfl rfl)
theorem dX0_fits_8 : decode cX0_fits 8 = .ok (.invokevirtual 320, 3) := dk_182 1 64 (dk_at dksX0_fits_0 8 rfl rfl)
theorem dX0_fits_11 : decode cX0_fits 11 = .ok (.ireturn, 1) := dk_172 (dk_at dksX0_fits_0 11 rfl rfl)
theorem dX0_fits_12 : decode cX0_fits 12 = .ok (.astore_n 3, 1) := dk_78 (dk_at dksX0_fits_0 12 rfl rfl)
theorem dX0_fits_13 : decode cX0_fits 13 = .ok (.aload_n 0, 1) := dk_42 (dk_at dksX0_fits_0 13 rfl rfl)
theorem dX0_fits_14 : decode cX0_fits 14 = .ok (.aload_n 3, 1) := dk_45 (dk_at dksX0_fits_0 14 rfl rfl)
theorem dX0_fits_15 : decode cX0_fits 15 = .ok (.getfield 116, 3) := dk_180 0 116 (dk_at dksX0_fits_0 15 rfl rfl)
theorem dX0_fits_18 : decode cX0_fits 18 = .ok (.invokevirtual 126, 3) := dk_182 0 126 (dk_at dksX0_fits_0 18 rfl rfl)
theorem dX0_fits_21 : decode cX0_fits 21 = .ok (.ireturn, 1) := dk_172 (dk_at dksX0_fits_0 21 rfl rfl)
abbrev cX0_rowFor : ByteArray := prog_1_method_67_code
def yX0_rowFor : MethodName := ⟨RX0, "rowFor", "(II)Ljava/lang/Object;"⟩
def dkwX0_rowFor_1 : List UInt8 := [182, 0, 175, 3, 182, 1, 50, 45, 176]
abbrev dktX0_rowFor_1 : List UInt8 := dkwX0_rowFor_1 ++ []
def dkwX0_rowFor_0 : List UInt8 := [42, 27, 182, 1, 46, 78, 42, 45, 198, 0, 7, 4, 167, 0, 4, 3, 8, 182, 1, 50, 42, 42, 28]
abbrev dktX0_rowFor_0 : List UInt8 := dkwX0_rowFor_0 ++ dktX0_rowFor_1
theorem dksX0_rowFor_0 : cX0_rowFor.data.toList.drop 0 = dktX0_rowFor_0 := by decide +kernel
theorem dksX0_rowFor_1 : cX0_rowFor.data.toList.drop 23 = dktX0_rowFor_1 := dk_seg dksX0_rowFor_0 23 rfl rfl
theorem dX0_rowFor_0 : decode cX0_rowFor 0 = .ok (.aload_n 0, 1) := dk_42 (dk_at dksX0_rowFor_0 0 rfl rfl)
theorem dX0_rowFor_1 : decode cX0_rowFor 1 = .ok (.iload_n 1, 1) := dk_27 (dk_at dksX0_rowFor_0 1 rfl rfl)
theorem dX0_rowFor_2 : decode cX0_rowFor 2 = .ok (.invokevirtual 302, 3) := dk_182 1 46 (dk_at dksX0_rowFor_0 2 rfl rfl)
theorem dX0_rowFor_5 : decode cX0_rowFor 5 = .ok (.astore_n 3, 1) := dk_78 (dk_at dksX0_rowFor_0 5 rfl rfl)
theorem dX0_rowFor_6 : decode cX0_rowFor 6 = .ok (.aload_n 0, 1) := dk_42 (dk_at dksX0_rowFor_0 6 rfl rfl)
theorem dX0_rowFor_7 : decode cX0_rowFor 7 = .ok (.aload_n 3, 1) := dk_45 (dk_at dksX0_rowFor_0 7 rfl rfl)
theorem dX0_rowFor_8 : decode cX0_rowFor 8 = .ok (.ifnull 7, 3) := dk_198 0 7 (dk_at dksX0_rowFor_0 8 rfl rfl)
theorem dX0_rowFor_11 : decode cX0_rowFor 11 = .ok (.iconst 1, 1) := dk_4 (dk_at dksX0_rowFor_0 11 rfl rfl)
theorem dX0_rowFor_12 : decode cX0_rowFor 12 = .ok (.goto 4, 3) := dk_167 0 4 (dk_at dksX0_rowFor_0 12 rfl rfl)
theorem dX0_rowFor_15 : decode cX0_rowFor 15 = .ok (.iconst 0, 1) := dk_3 (dk_at dksX0_rowFor_0 15 rfl rfl)
theorem dX0_rowFor_16 : decode cX0_rowFor 16 = .ok (.iconst 5, 1) := dk_8 (dk_at dksX0_rowFor_0 16 rfl rfl)
theorem dX0_rowFor_17 : decode cX0_rowFor 17 = .ok (.invokevirtual 306, 3) := dk_182 1 50 (dk_at dksX0_rowFor_0 17 rfl rfl)
theorem dX0_rowFor_20 : decode cX0_rowFor 20 = .ok (.aload_n 0, 1) := dk_42 (dk_at dksX0_rowFor_0 20 rfl rfl)
theorem dX0_rowFor_21 : decode cX0_rowFor 21 = .ok (.aload_n 0, 1) := dk_42 (dk_at dksX0_rowFor_0 21 rfl rfl)
theorem dX0_rowFor_22 : decode cX0_rowFor 22 = .ok (.iload_n 2, 1) := dk_28 (dk_at dksX0_rowFor_0 22 rfl rfl)
theorem dX0_rowFor_23 : decode cX0_rowFor 23 = .ok (.invokevirtual 175, 3) := dk_182 0 175 (dk_at dksX0_rowFor_1 0 rfl rfl)
theorem dX0_rowFor_26 : decode cX0_rowFor 26 = .ok (.iconst 0, 1) := dk_3 (dk_at dksX0_rowFor_1 3 rfl rfl)
theorem dX0_rowFor_27 : decode cX0_rowFor 27 = .ok (.invokevirtual 306, 3) := dk_182 1 50 (dk_at dksX0_rowFor_1 4 rfl rfl)
theorem dX0_rowFor_30 : decode cX0_rowFor 30 = .ok (.aload_n 3, 1) := dk_45 (dk_at dksX0_rowFor_1 7 rfl rfl)
theorem dX0_rowFor_31 : decode cX0_rowFor 31 = .ok (.areturn, 1) := dk_176 (dk_at dksX0_rowFor_1 8 rfl rfl)
abbrev cX0_manyFits : ByteArray := prog_1_method_68_code
def yX0_manyFits : MethodName := ⟨RX0, "manyFits", "(Ljava/lang/Object;I)I"⟩
def dkwX0_manyFits_4 : List UInt8 := [79, 21, 4, 172]
abbrev dktX0_manyFits_4 : List UInt8 := dkwX0_manyFits_4 ++ []
def dkwX0_manyFits_3 : List UInt8 := [167, 0, 4, 3, 96, 54, 4, 132, 5, 255, 167, 255, 195, 42, 180, 0, 76, 180, 0, 111, 4, 50, 28, 29]
abbrev dktX0_manyFits_3 : List UInt8 := dkwX0_manyFits_3 ++ dktX0_manyFits_4
def dkwX0_manyFits_2 : List UInt8 := [153, 0, 8, 21, 5, 167, 0, 7, 42, 180, 1, 57, 181, 1, 57, 21, 4, 21, 6, 153, 0, 7, 4]
abbrev dktX0_manyFits_2 : List UInt8 := dkwX0_manyFits_2 ++ dktX0_manyFits_3
def dkwX0_manyFits_1 : List UInt8 := [42, 180, 0, 76, 180, 0, 111, 4, 50, 28, 21, 5, 79, 42, 43, 182, 1, 42, 54, 6, 42, 21, 6]
abbrev dktX0_manyFits_1 : List UInt8 := dkwX0_manyFits_1 ++ dktX0_manyFits_2
def dkwX0_manyFits_0 : List UInt8 := [42, 180, 0, 76, 180, 0, 111, 4, 50, 28, 46, 62, 3, 54, 4, 16, 99, 54, 5, 21, 5, 155, 0, 62]
abbrev dktX0_manyFits_0 : List UInt8 := dkwX0_manyFits_0 ++ dktX0_manyFits_1
theorem dksX0_manyFits_0 : cX0_manyFits.data.toList.drop 0 = dktX0_manyFits_0 := by decide +kernel
theorem dksX0_manyFits_1 : cX0_manyFits.data.toList.drop 24 = dktX0_manyFits_1 := dk_seg dksX0_manyFits_0 24 rfl rfl
theorem dksX0_manyFits_2 : cX0_manyFits.data.toList.drop 47 = dktX0_manyFits_2 := dk_seg dksX0_manyFits_1 23 rfl rfl
theorem dksX0_manyFits_3 : cX0_manyFits.data.toList.drop 70 = dktX0_manyFits_3 := dk_seg dksX0_manyFits_2 23 rfl rfl
theorem dksX0_manyFits_4 : cX0_manyFits.data.toList.drop 94 = dktX0_manyFits_4 := dk_seg dksX0_manyFits_3 24 rfl rfl
theorem dX0_manyFits_0 : decode cX0_manyFits 0 = .ok (.aload_n 0, 1) := dk_42 (dk_at dksX0_manyFits_0 0 rfl rfl)
theorem dX0_manyFits_1 : decode cX0_manyFits 1 = .ok (.getfield 76, 3) := dk_180 0 76 (dk_at dksX0_manyFits_0 1 rfl rfl)
theorem dX0_manyFits_4 : decode cX0_manyFits 4 = .ok (.getfield 111, 3) := dk_180 0 111 (dk_at dksX0_manyFits_0 4 rfl rfl)
theorem dX0_manyFits_7 : decode cX0_manyFits 7 = .ok (.iconst 1, 1) := dk_4 (dk_at dksX0_manyFits_0 7 rfl rfl)
theorem dX0_manyFits_8 : decode cX0_manyFits 8 = .ok (.aaload, 1) := dk_50 (dk_at dksX0_manyFits_0 8 rfl rfl)
theorem dX0_manyFits_9 : decode cX0_manyFits 9 = .ok (.iload_n 2, 1) := dk_28 (dk_at dksX0_manyFits_0 9 rfl rfl)
theorem dX0_manyFits_10 : decode cX0_manyFits 10 = .ok (.iaload, 1) := dk_46 (dk_at dksX0_manyFits_0 10 rfl rfl)
theorem dX0_manyFits_11 : decode cX0_manyFits 11 = .ok (.istore_n 3, 1) := dk_62 (dk_at dksX0_manyFits_0 11 rfl rfl)
theorem dX0_manyFits_12 : decode cX0_manyFits 12 = .ok (.iconst 0, 1) := dk_3 (dk_at dksX0_manyFits_0 12 rfl rfl)
theorem dX0_manyFits_13 : decode cX0_manyFits 13 = .ok (.istore 4, 2) := dk_54 4 (dk_at dksX0_manyFits_0 13 rfl rfl)
theorem dX0_manyFits_15 : decode cX0_manyFits 15 = .ok (.bipush 99, 2) := dk_16 99 (dk_at dksX0_manyFits_0 15 rfl rfl)
theorem dX0_manyFits_17 : decode cX0_manyFits 17 = .ok (.istore 5, 2) := dk_54 5 (dk_at dksX0_manyFits_0 17 rfl rfl)
theorem dX0_manyFits_19 : decode cX0_manyFits 19 = .ok (.iload 5, 2) := dk_21 5 (dk_at dksX0_manyFits_0 19 rfl rfl)
theorem dX0_manyFits_21 : decode cX0_manyFits 21 = .ok (.ifCond .lt 62, 3) := dk_155 0 62 (dk_at dksX0_manyFits_0 21 rfl rfl)
theorem dX0_manyFits_24 : decode cX0_manyFits 24 = .ok (.aload_n 0, 1) := dk_42 (dk_at dksX0_manyFits_1 0 rfl rfl)
theorem dX0_manyFits_25 : decode cX0_manyFits 25 = .ok (.getfield 76, 3) := dk_180 0 76 (dk_at dksX0_manyFits_1 1 rfl rfl)
theorem dX0_manyFits_28 : decode cX0_manyFits 28 = .ok (.getfield 111, 3) := dk_180 0 111 (dk_at dksX0_manyFits_1 4 rfl rfl)
theorem dX0_manyFits_31 : decode cX0_manyFits 31 = .ok (.iconst 1, 1) := dk_4 (dk_at dksX0_manyFits_1 7 rfl rfl)
theorem dX0_manyFits_32 : decode cX0_manyFits 32 = .ok (.aaload, 1) := dk_50 (dk_at dksX0_manyFits_1 8 rfl rfl)
theorem dX0_manyFits_33 : decode cX0_manyFits 33 = .ok (.iload_n 2, 1) := dk_28 (dk_at dksX0_manyFits_1 9 rfl rfl)
theorem dX0_manyFits_34 : decode cX0_manyFits 34 = .ok (.iload 5, 2) := dk_21 5 (dk_at dksX0_manyFits_1 10 rfl rfl)
theorem dX0_manyFits_36 : decode cX0_manyFits 36 = .ok (.iastore, 1) := dk_79 (dk_at dksX0_manyFits_1 12 rfl rfl)
theorem dX0_manyFits_37 : decode cX0_manyFits 37 = .ok (.aload_n 0, 1) := dk_42 (dk_at dksX0_manyFits_1 13 rfl rfl)
theorem dX0_manyFits_38 : decode cX0_manyFits 38 = .ok (.aload_n 1, 1) := dk_43 (dk_at dksX0_manyFits_1 14 rfl rfl)
theorem dX0_manyFits_39 : decode cX0_manyFits 39 = .ok (.invokevirtual 298, 3) := dk_182 1 42 (dk_at dksX0_manyFits_1 15 rfl rfl)
theorem dX0_manyFits_42 : decode cX0_manyFits 42 = .ok (.istore 6, 2) := dk_54 6 (dk_at dksX0_manyFits_1 18 rfl rfl)
theorem dX0_manyFits_44 : decode cX0_manyFits 44 = .ok (.aload_n 0, 1) := dk_42 (dk_at dksX0_manyFits_1 20 rfl rfl)
theorem dX0_manyFits_45 : decode cX0_manyFits 45 = .ok (.iload 6, 2) := dk_21 6 (dk_at dksX0_manyFits_1 21 rfl rfl)
theorem dX0_manyFits_47 : decode cX0_manyFits 47 = .ok (.ifCond .eq 8, 3) := dk_153 0 8 (dk_at dksX0_manyFits_2 0 rfl rfl)
theorem dX0_manyFits_50 : decode cX0_manyFits 50 = .ok (.iload 5, 2) := dk_21 5 (dk_at dksX0_manyFits_2 3 rfl rfl)
theorem dX0_manyFits_52 : decode cX0_manyFits 52 = .ok (.goto 7, 3) := dk_167 0 7 (dk_at dksX0_manyFits_2 5 rfl rfl)
theorem dX0_manyFits_55 : decode cX0_manyFits 55 = .ok (.aload_n 0, 1) := dk_42 (dk_at dksX0_manyFits_2 8 rfl rfl)
theorem dX0_manyFits_56 : decode cX0_manyFits 56 = .ok (.getfield 313, 3) := dk_180 1 57 (dk_at dksX0_manyFits_2 9 rfl rfl)
theorem dX0_manyFits_59 : decode cX0_manyFits 59 = .ok (.putfield 313, 3) := dk_181 1 57 (dk_at dksX0_manyFits_2 12 rfl rfl)
theorem dX0_manyFits_62 : decode cX0_manyFits 62 = .ok (.iload 4, 2) := dk_21 4 (dk_at dksX0_manyFits_2 15 rfl rfl)
theorem dX0_manyFits_64 : decode cX0_manyFits 64 = .ok (.iload 6, 2) := dk_21 6 (dk_at dksX0_manyFits_2 17 rfl rfl)
theorem dX0_manyFits_66 : decode cX0_manyFits 66 = .ok (.ifCond .eq 7, 3) := dk_153 0 7 (dk_at dksX0_manyFits_2 19 rfl rfl)
theorem dX0_manyFits_69 : decode cX0_manyFits 69 = .ok (.iconst 1, 1) := dk_4 (dk_at dksX0_manyFits_2 22 rfl rfl)
theorem dX0_manyFits_70 : decode cX0_manyFits 70 = .ok (.goto 4, 3) := dk_167 0 4 (dk_at dksX0_manyFits_3 0 rfl rfl)
theorem dX0_manyFits_73 : decode cX0_manyFits 73 = .ok (.iconst 0, 1) := dk_3 (dk_at dksX0_manyFits_3 3 rfl rfl)
theorem dX0_manyFits_74 : decode cX0_manyFits 74 = .ok (.iadd, 1) := dk_96 (dk_at dksX0_manyFits_3 4 rfl rfl)
theorem dX0_manyFits_75 : decode cX0_manyFits 75 = .ok (.istore 4, 2) := dk_54 4 (dk_at dksX0_manyFits_3 5 rfl rfl)
theorem dX0_manyFits_77 : decode cX0_manyFits 77 = .ok (.iinc 5 (-1), 3) := dk_132 5 255 (dk_at dksX0_manyFits_3 7 rfl rfl)
theorem dX0_manyFits_80 : decode cX0_manyFits 80 = .ok (.goto (-61), 3) := dk_167 255 195 (dk_at dksX0_manyFits_3 10 rfl rfl)
theorem dX0_manyFits_83 : decode cX0_manyFits 83 = .ok (.aload_n 0, 1) := dk_42 (dk_at dksX0_manyFits_3 13 rfl rfl)
theorem dX0_manyFits_84 : decode cX0_manyFits 84 = .ok (.getfield 76, 3) := dk_180 0 76 (dk_at dksX0_manyFits_3 14 rfl rfl)
theorem dX0_manyFits_87 : decode cX0_manyFits 87 = .ok (.getfield 111, 3) := dk_180 0 111 (dk_at dksX0_manyFits_3 17 rfl rfl)
theorem dX0_manyFits_90 : decode cX0_manyFits 90 = .ok (.iconst 1, 1) := dk_4 (dk_at dksX0_manyFits_3 20 rfl rfl)
theorem dX0_manyFits_91 : decode cX0_manyFits 91 = .ok (.aaload, 1) := dk_50 (dk_at dksX0_manyFits_3 21 rfl rfl)
theorem dX0_manyFits_92 : decode cX0_manyFits 92 = .ok (.iload_n 2, 1) := dk_28 (dk_at dksX0_manyFits_3 22 rfl rfl)
theorem dX0_manyFits_93 : decode cX0_manyFits 93 = .ok (.iload_n 3, 1) := dk_29 (dk_at dksX0_manyFits_3 23 rfl rfl)
theorem dX0_manyFits_94 : decode cX0_manyFits 94 = .ok (.iastore, 1) := dk_79 (dk_at dksX0_manyFits_4 0 rfl rfl)
theorem dX0_manyFits_95 : decode cX0_manyFits 95 = .ok (.iload 4, 2) := dk_21 4 (dk_at dksX0_manyFits_4 1 rfl rfl)
theorem dX0_manyFits_97 : decode cX0_manyFits 97 = .ok (.ireturn, 1) := dk_172 (dk_at dksX0_manyFits_4 3 rfl rfl)
abbrev cX0_tall : ByteArray := prog_1_method_70_code
def yX0_tall : MethodName := ⟨RX0, "tall", "(II)I"⟩
def dkwX0_tall_1 : List UInt8 := [42, 180, 1, 57, 172, 78, 42, 45, 180, 0, 116, 182, 0, 126, 172]
abbrev dktX0_tall_1 : List UInt8 := dkwX0_tall_1 ++ []
def dkwX0_tall_0 : List UInt8 := [42, 42, 42, 27, 28, 182, 1, 60, 28, 182, 1, 64, 158, 0, 7, 4, 167, 0, 4, 3, 6, 182, 1, 50]
abbrev dktX0_tall_0 : List UInt8 := dkwX0_tall_0 ++ dktX0_tall_1
theorem dksX0_tall_0 : cX0_tall.data.toList.drop 0 = dktX0_tall_0 := by decide +kernel
theorem dksX0_tall_1 : cX0_tall.data.toList.drop 24 = dktX0_tall_1 := dk_seg dksX0_tall_0 24 rfl rfl
theorem dX0_tall_0 : decode cX0_tall 0 = .ok (.aload_n 0, 1) := dk_42 (dk_at dksX0_tall_0 0 rfl rfl)
theorem dX0_tall_1 : decode cX0_tall 1 = .ok (.aload_n 0, 1) := dk_42 (dk_at dksX0_tall_0 1 rfl rfl)
theorem dX0_tall_2 : decode cX0_tall 2 = .ok (.aload_n 0, 1) := dk_42 (dk_at dksX0_tall_0 2 rfl rfl)
theorem dX0_tall_3 : decode cX0_tall 3 = .ok (.iload_n 1, 1) := dk_27 (dk_at dksX0_tall_0 3 rfl rfl)
theorem dX0_tall_4 : decode cX0_tall 4 = .ok (.iload_n 2, 1) := dk_28 (dk_at dksX0_tall_0 4 rfl rfl)
theorem dX0_tall_5 : decode cX0_tall 5 = .ok (.invokevirtual 316, 3) := dk_182 1 60 (dk_at dksX0_tall_0 5 rfl rfl)
theorem dX0_tall_8 : decode cX0_tall 8 = .ok (.iload_n 2, 1) := dk_28 (dk_at dksX0_tall_0 8 rfl rfl)
theorem dX0_tall_9 : decode cX0_tall 9 = .ok (.invokevirtual 320, 3) := dk_182 1 64 (dk_at dksX0_tall_0 9 rfl rfl)
theorem dX0_tall_12 : decode cX0_tall 12 = .ok (.ifCond .le 7, 3) := dk_158 0 7 (dk_at dksX0_tall_0 12 rfl rfl)
theorem dX0_tall_15 : decode cX0_tall 15 = .ok (.iconst 1, 1) := dk_4 (dk_at dksX0_tall_0 15 rfl rfl)
theorem dX0_tall_16 : decode cX0_tall 16 = .ok (.goto 4, 3) := dk_167 0 4 (dk_at dksX0_tall_0 16 rfl rfl)
theorem dX0_tall_19 : decode cX0_tall 19 = .ok (.iconst 0, 1) := dk_3 (dk_at dksX0_tall_0 19 rfl rfl)
theorem dX0_tall_20 : decode cX0_tall 20 = .ok (.iconst 3, 1) := dk_6 (dk_at dksX0_tall_0 20 rfl rfl)
theorem dX0_tall_21 : decode cX0_tall 21 = .ok (.invokevirtual 306, 3) := dk_182 1 50 (dk_at dksX0_tall_0 21 rfl rfl)
theorem dX0_tall_24 : decode cX0_tall 24 = .ok (.aload_n 0, 1) := dk_42 (dk_at dksX0_tall_1 0 rfl rfl)
theorem dX0_tall_25 : decode cX0_tall 25 = .ok (.getfield 313, 3) := dk_180 1 57 (dk_at dksX0_tall_1 1 rfl rfl)
theorem dX0_tall_28 : decode cX0_tall 28 = .ok (.ireturn, 1) := dk_172 (dk_at dksX0_tall_1 4 rfl rfl)
theorem dX0_tall_29 : decode cX0_tall 29 = .ok (.astore_n 3, 1) := dk_78 (dk_at dksX0_tall_1 5 rfl rfl)
theorem dX0_tall_30 : decode cX0_tall 30 = .ok (.aload_n 0, 1) := dk_42 (dk_at dksX0_tall_1 6 rfl rfl)
theorem dX0_tall_31 : decode cX0_tall 31 = .ok (.aload_n 3, 1) := dk_45 (dk_at dksX0_tall_1 7 rfl rfl)
theorem dX0_tall_32 : decode cX0_tall 32 = .ok (.getfield 116, 3) := dk_180 0 116 (dk_at dksX0_tall_1 8 rfl rfl)
theorem dX0_tall_35 : decode cX0_tall 35 = .ok (.invokevirtual 126, 3) := dk_182 0 126 (dk_at dksX0_tall_1 11 rfl rfl)
theorem dX0_tall_38 : decode cX0_tall 38 = .ok (.ireturn, 1) := dk_172 (dk_at dksX0_tall_1 14 rfl rfl)
abbrev cX0_kinds : ByteArray := prog_1_method_72_code
def yX0_kinds : MethodName := ⟨RX0, "kinds", "(II)I"⟩
def dkwX0_kinds_0 : List UInt8 := [42, 42, 27, 28, 182, 1, 60, 28, 182, 1, 67, 172, 78, 42, 45, 180, 0, 116, 182, 0, 126, 172]
abbrev dktX0_kinds_0 : List UInt8 := dkwX0_kinds_0 ++ []
theorem dksX0_kinds_0 : cX0_kinds.data.toList.drop 0 = dktX0_kinds_0 := by decide +kernel
theorem dX0_kinds_0 : decode cX0_kinds 0 = .ok (.aload_n 0, 1) := dk_42 (dk_at dksX0_kinds_0 0 rfl rfl)
theorem dX0_kinds_1 : decode cX0_kinds 1 = .ok (.aload_n 0, 1) := dk_42 (dk_at dksX0_kinds_0 1 rfl rfl)
theorem dX0_kinds_2 : decode cX0_kinds 2 = .ok (.iload_n 1, 1) := dk_27 (dk_at dksX0_kinds_0 2 rfl rfl)
theorem dX0_kinds_3 : decode cX0_kinds 3 = .ok (.iload_n 2, 1) := dk_28 (dk_at dksX0_kinds_0 3 rfl rfl)
theorem dX0_kinds_4 : decode cX0_kinds 4 = .ok (.invokevirtual 316, 3) := dk_182 1 60 (dk_at dksX0_kinds_0 4 rfl rfl)
theorem dX0_kinds_7 : decode cX0_kinds 7 = .ok (.iload_n 2, 1) := dk_28 (dk_at dksX0_kinds_0 7 rfl rfl)
theorem dX0_kinds_8 : decode cX0_kinds 8 = .ok (.invokevirtual 323, 3) := dk_182 1 67 (dk_at dksX0_kinds_0 8 rfl rfl)
theorem dX0_kinds_11 : decode cX0_kinds 11 = .ok (.ireturn, 1) := dk_172 (dk_at dksX0_kinds_0 11 rfl rfl)
theorem dX0_kinds_12 : decode cX0_kinds 12 = .ok (.astore_n 3, 1) := dk_78 (dk_at dksX0_kinds_0 12 rfl rfl)
theorem dX0_kinds_13 : decode cX0_kinds 13 = .ok (.aload_n 0, 1) := dk_42 (dk_at dksX0_kinds_0 13 rfl rfl)
theorem dX0_kinds_14 : decode cX0_kinds 14 = .ok (.aload_n 3, 1) := dk_45 (dk_at dksX0_kinds_0 14 rfl rfl)
theorem dX0_kinds_15 : decode cX0_kinds 15 = .ok (.getfield 116, 3) := dk_180 0 116 (dk_at dksX0_kinds_0 15 rfl rfl)
theorem dX0_kinds_18 : decode cX0_kinds 18 = .ok (.invokevirtual 126, 3) := dk_182 0 126 (dk_at dksX0_kinds_0 18 rfl rfl)
theorem dX0_kinds_21 : decode cX0_kinds 21 = .ok (.ireturn, 1) := dk_172 (dk_at dksX0_kinds_0 21 rfl rfl)
abbrev cX0_kindsThatFit : ByteArray := prog_1_method_71_code
def yX0_kindsThatFit : MethodName := ⟨RX0, "kindsThatFit", "(Ljava/lang/Object;I)I"⟩
def dkwX0_kindsThatFit_3 : List UInt8 := [180, 0, 111, 3, 50, 28, 29, 79, 21, 4, 172]
abbrev dktX0_kindsThatFit_3 : List UInt8 := dkwX0_kindsThatFit_3 ++ []
def dkwX0_kindsThatFit_2 : List UInt8 := [153, 0, 10, 4, 21, 5, 120, 167, 0, 4, 3, 128, 54, 4, 132, 5, 1, 167, 255, 212, 42, 180, 0, 76]
abbrev dktX0_kindsThatFit_2 : List UInt8 := dkwX0_kindsThatFit_2 ++ dktX0_kindsThatFit_3
def dkwX0_kindsThatFit_1 : List UInt8 := [162, 0, 43, 42, 180, 0, 76, 180, 0, 111, 3, 50, 28, 21, 5, 79, 21, 4, 42, 43, 182, 1, 42]
abbrev dktX0_kindsThatFit_1 : List UInt8 := dkwX0_kindsThatFit_1 ++ dktX0_kindsThatFit_2
def dkwX0_kindsThatFit_0 : List UInt8 := [42, 180, 0, 76, 180, 0, 111, 3, 50, 28, 46, 62, 3, 54, 4, 3, 54, 5, 21, 5, 16, 7]
abbrev dktX0_kindsThatFit_0 : List UInt8 := dkwX0_kindsThatFit_0 ++ dktX0_kindsThatFit_1
theorem dksX0_kindsThatFit_0 : cX0_kindsThatFit.data.toList.drop 0 = dktX0_kindsThatFit_0 := by decide +kernel
theorem dksX0_kindsThatFit_1 : cX0_kindsThatFit.data.toList.drop 22 = dktX0_kindsThatFit_1 := dk_seg dksX0_kindsThatFit_0 22 rfl rfl
theorem dksX0_kindsThatFit_2 : cX0_kindsThatFit.data.toList.drop 45 = dktX0_kindsThatFit_2 := dk_seg dksX0_kindsThatFit_1 23 rfl rfl
theorem dksX0_kindsThatFit_3 : cX0_kindsThatFit.data.toList.drop 69 = dktX0_kindsThatFit_3 := dk_seg dksX0_kindsThatFit_2 24 rfl rfl
theorem dX0_kindsThatFit_0 : decode cX0_kindsThatFit 0 = .ok (.aload_n 0, 1) := dk_42 (dk_at dksX0_kindsThatFit_0 0 rfl rfl)
theorem dX0_kindsThatFit_1 : decode cX0_kindsThatFit 1 = .ok (.getfield 76, 3) := dk_180 0 76 (dk_at dksX0_kindsThatFit_0 1 rfl rfl)
theorem dX0_kindsThatFit_4 : decode cX0_kindsThatFit 4 = .ok (.getfield 111, 3) := dk_180 0 111 (dk_at dksX0_kindsThatFit_0 4 rfl rfl)
theorem dX0_kindsThatFit_7 : decode cX0_kindsThatFit 7 = .ok (.iconst 0, 1) := dk_3 (dk_at dksX0_kindsThatFit_0 7 rfl rfl)
theorem dX0_kindsThatFit_8 : decode cX0_kindsThatFit 8 = .ok (.aaload, 1) := dk_50 (dk_at dksX0_kindsThatFit_0 8 rfl rfl)
theorem dX0_kindsThatFit_9 : decode cX0_kindsThatFit 9 = .ok (.iload_n 2, 1) := dk_28 (dk_at dksX0_kindsThatFit_0 9 rfl rfl)
theorem dX0_kindsThatFit_10 : decode cX0_kindsThatFit 10 = .ok (.iaload, 1) := dk_46 (dk_at dksX0_kindsThatFit_0 10 rfl rfl)
theorem dX0_kindsThatFit_11 : decode cX0_kindsThatFit 11 = .ok (.istore_n 3, 1) := dk_62 (dk_at dksX0_kindsThatFit_0 11 rfl rfl)
theorem dX0_kindsThatFit_12 : decode cX0_kindsThatFit 12 = .ok (.iconst 0, 1) := dk_3 (dk_at dksX0_kindsThatFit_0 12 rfl rfl)
theorem dX0_kindsThatFit_13 : decode cX0_kindsThatFit 13 = .ok (.istore 4, 2) := dk_54 4 (dk_at dksX0_kindsThatFit_0 13 rfl rfl)
theorem dX0_kindsThatFit_15 : decode cX0_kindsThatFit 15 = .ok (.iconst 0, 1) := dk_3 (dk_at dksX0_kindsThatFit_0 15 rfl rfl)
theorem dX0_kindsThatFit_16 : decode cX0_kindsThatFit 16 = .ok (.istore 5, 2) := dk_54 5 (dk_at dksX0_kindsThatFit_0 16 rfl rfl)
theorem dX0_kindsThatFit_18 : decode cX0_kindsThatFit 18 = .ok (.iload 5, 2) := dk_21 5 (dk_at dksX0_kindsThatFit_0 18 rfl rfl)
theorem dX0_kindsThatFit_20 : decode cX0_kindsThatFit 20 = .ok (.bipush 7, 2) := dk_16 7 (dk_at dksX0_kindsThatFit_0 20 rfl rfl)
theorem dX0_kindsThatFit_22 : decode cX0_kindsThatFit 22 = .ok (.if_icmp .ge 43, 3) := dk_162 0 43 (dk_at dksX0_kindsThatFit_1 0 rfl rfl)
theorem dX0_kindsThatFit_25 : decode cX0_kindsThatFit 25 = .ok (.aload_n 0, 1) := dk_42 (dk_at dksX0_kindsThatFit_1 3 rfl rfl)
theorem dX0_kindsThatFit_26 : decode cX0_kindsThatFit 26 = .ok (.getfield 76, 3) := dk_180 0 76 (dk_at dksX0_kindsThatFit_1 4 rfl rfl)
theorem dX0_kindsThatFit_29 : decode cX0_kindsThatFit 29 = .ok (.getfield 111, 3) := dk_180 0 111 (dk_at dksX0_kindsThatFit_1 7 rfl rfl)
theorem dX0_kindsThatFit_32 : decode cX0_kindsThatFit 32 = .ok (.iconst 0, 1) := dk_3 (dk_at dksX0_kindsThatFit_1 10 rfl rfl)
theorem dX0_kindsThatFit_33 : decode cX0_kindsThatFit 33 = .ok (.aaload, 1) := dk_50 (dk_at dksX0_kindsThatFit_1 11 rfl rfl)
theorem dX0_kindsThatFit_34 : decode cX0_kindsThatFit 34 = .ok (.iload_n 2, 1) := dk_28 (dk_at dksX0_kindsThatFit_1 12 rfl rfl)
theorem dX0_kindsThatFit_35 : decode cX0_kindsThatFit 35 = .ok (.iload 5, 2) := dk_21 5 (dk_at dksX0_kindsThatFit_1 13 rfl rfl)
theorem dX0_kindsThatFit_37 : decode cX0_kindsThatFit 37 = .ok (.iastore, 1) := dk_79 (dk_at dksX0_kindsThatFit_1 15 rfl rfl)
theorem dX0_kindsThatFit_38 : decode cX0_kindsThatFit 38 = .ok (.iload 4, 2) := dk_21 4 (dk_at dksX0_kindsThatFit_1 16 rfl rfl)
theorem dX0_kindsThatFit_40 : decode cX0_kindsThatFit 40 = .ok (.aload_n 0, 1) := dk_42 (dk_at dksX0_kindsThatFit_1 18 rfl rfl)
theorem dX0_kindsThatFit_41 : decode cX0_kindsThatFit 41 = .ok (.aload_n 1, 1) := dk_43 (dk_at dksX0_kindsThatFit_1 19 rfl rfl)
theorem dX0_kindsThatFit_42 : decode cX0_kindsThatFit 42 = .ok (.invokevirtual 298, 3) := dk_182 1 42 (dk_at dksX0_kindsThatFit_1 20 rfl rfl)
theorem dX0_kindsThatFit_45 : decode cX0_kindsThatFit 45 = .ok (.ifCond .eq 10, 3) := dk_153 0 10 (dk_at dksX0_kindsThatFit_2 0 rfl rfl)
theorem dX0_kindsThatFit_48 : decode cX0_kindsThatFit 48 = .ok (.iconst 1, 1) := dk_4 (dk_at dksX0_kindsThatFit_2 3 rfl rfl)
theorem dX0_kindsThatFit_49 : decode cX0_kindsThatFit 49 = .ok (.iload 5, 2) := dk_21 5 (dk_at dksX0_kindsThatFit_2 4 rfl rfl)
theorem dX0_kindsThatFit_51 : decode cX0_kindsThatFit 51 = .ok (.ishl, 1) := dk_120 (dk_at dksX0_kindsThatFit_2 6 rfl rfl)
theorem dX0_kindsThatFit_52 : decode cX0_kindsThatFit 52 = .ok (.goto 4, 3) := dk_167 0 4 (dk_at dksX0_kindsThatFit_2 7 rfl rfl)
theorem dX0_kindsThatFit_55 : decode cX0_kindsThatFit 55 = .ok (.iconst 0, 1) := dk_3 (dk_at dksX0_kindsThatFit_2 10 rfl rfl)
theorem dX0_kindsThatFit_56 : decode cX0_kindsThatFit 56 = .ok (.ior, 1) := dk_128 (dk_at dksX0_kindsThatFit_2 11 rfl rfl)
theorem dX0_kindsThatFit_57 : decode cX0_kindsThatFit 57 = .ok (.istore 4, 2) := dk_54 4 (dk_at dksX0_kindsThatFit_2 12 rfl rfl)
theorem dX0_kindsThatFit_59 : decode cX0_kindsThatFit 59 = .ok (.iinc 5 1, 3) := dk_132 5 1 (dk_at dksX0_kindsThatFit_2 14 rfl rfl)
theorem dX0_kindsThatFit_62 : decode cX0_kindsThatFit 62 = .ok (.goto (-44), 3) := dk_167 255 212 (dk_at dksX0_kindsThatFit_2 17 rfl rfl)
theorem dX0_kindsThatFit_65 : decode cX0_kindsThatFit 65 = .ok (.aload_n 0, 1) := dk_42 (dk_at dksX0_kindsThatFit_2 20 rfl rfl)
theorem dX0_kindsThatFit_66 : decode cX0_kindsThatFit 66 = .ok (.getfield 76, 3) := dk_180 0 76 (dk_at dksX0_kindsThatFit_2 21 rfl rfl)
theorem dX0_kindsThatFit_69 : decode cX0_kindsThatFit 69 = .ok (.getfield 111, 3) := dk_180 0 111 (dk_at dksX0_kindsThatFit_3 0 rfl rfl)
theorem dX0_kindsThatFit_72 : decode cX0_kindsThatFit 72 = .ok (.iconst 0, 1) := dk_3 (dk_at dksX0_kindsThatFit_3 3 rfl rfl)
theorem dX0_kindsThatFit_73 : decode cX0_kindsThatFit 73 = .ok (.aaload, 1) := dk_50 (dk_at dksX0_kindsThatFit_3 4 rfl rfl)
theorem dX0_kindsThatFit_74 : decode cX0_kindsThatFit 74 = .ok (.iload_n 2, 1) := dk_28 (dk_at dksX0_kindsThatFit_3 5 rfl rfl)
theorem dX0_kindsThatFit_75 : decode cX0_kindsThatFit 75 = .ok (.iload_n 3, 1) := dk_29 (dk_at dksX0_kindsThatFit_3 6 rfl rfl)
theorem dX0_kindsThatFit_76 : decode cX0_kindsThatFit 76 = .ok (.iastore, 1) := dk_79 (dk_at dksX0_kindsThatFit_3 7 rfl rfl)
theorem dX0_kindsThatFit_77 : decode cX0_kindsThatFit 77 = .ok (.iload 4, 2) := dk_21 4 (dk_at dksX0_kindsThatFit_3 8 rfl rfl)
theorem dX0_kindsThatFit_79 : decode cX0_kindsThatFit 79 = .ok (.ireturn, 1) := dk_172 (dk_at dksX0_kindsThatFit_3 10 rfl rfl)
abbrev cX0_mix : ByteArray := prog_1_method_74_code
def yX0_mix : MethodName := ⟨RX0, "mix", "(I)I"⟩
def dkwX0_mix_1 : List UInt8 := [153, 0, 11, 42, 7, 182, 0, 126, 167, 0, 8, 42, 27, 182, 1, 73, 172]
abbrev dktX0_mix_1 : List UInt8 := dkwX0_mix_1 ++ []
def dkwX0_mix_0 : List UInt8 := [27, 4, 16, 20, 184, 0, 9, 154, 0, 9, 42, 3, 182, 0, 126, 172, 42, 180, 0, 76, 27, 182, 0, 220]
abbrev dktX0_mix_0 : List UInt8 := dkwX0_mix_0 ++ dktX0_mix_1
theorem dksX0_mix_0 : cX0_mix.data.toList.drop 0 = dktX0_mix_0 := by decide +kernel
theorem dksX0_mix_1 : cX0_mix.data.toList.drop 24 = dktX0_mix_1 := dk_seg dksX0_mix_0 24 rfl rfl
theorem dX0_mix_0 : decode cX0_mix 0 = .ok (.iload_n 1, 1) := dk_27 (dk_at dksX0_mix_0 0 rfl rfl)
theorem dX0_mix_1 : decode cX0_mix 1 = .ok (.iconst 1, 1) := dk_4 (dk_at dksX0_mix_0 1 rfl rfl)
theorem dX0_mix_2 : decode cX0_mix 2 = .ok (.bipush 20, 2) := dk_16 20 (dk_at dksX0_mix_0 2 rfl rfl)
theorem dX0_mix_4 : decode cX0_mix 4 = .ok (.invokestatic 9, 3) := dk_184 0 9 (dk_at dksX0_mix_0 4 rfl rfl)
theorem dX0_mix_7 : decode cX0_mix 7 = .ok (.ifCond .ne 9, 3) := dk_154 0 9 (dk_at dksX0_mix_0 7 rfl rfl)
theorem dX0_mix_10 : decode cX0_mix 10 = .ok (.aload_n 0, 1) := dk_42 (dk_at dksX0_mix_0 10 rfl rfl)
theorem dX0_mix_11 : decode cX0_mix 11 = .ok (.iconst 0, 1) := dk_3 (dk_at dksX0_mix_0 11 rfl rfl)
theorem dX0_mix_12 : decode cX0_mix 12 = .ok (.invokevirtual 126, 3) := dk_182 0 126 (dk_at dksX0_mix_0 12 rfl rfl)
theorem dX0_mix_15 : decode cX0_mix 15 = .ok (.ireturn, 1) := dk_172 (dk_at dksX0_mix_0 15 rfl rfl)
theorem dX0_mix_16 : decode cX0_mix 16 = .ok (.aload_n 0, 1) := dk_42 (dk_at dksX0_mix_0 16 rfl rfl)
theorem dX0_mix_17 : decode cX0_mix 17 = .ok (.getfield 76, 3) := dk_180 0 76 (dk_at dksX0_mix_0 17 rfl rfl)
theorem dX0_mix_20 : decode cX0_mix 20 = .ok (.iload_n 1, 1) := dk_27 (dk_at dksX0_mix_0 20 rfl rfl)
theorem dX0_mix_21 : decode cX0_mix 21 = .ok (.invokevirtual 220, 3) := dk_182 0 220 (dk_at dksX0_mix_0 21 rfl rfl)
theorem dX0_mix_24 : decode cX0_mix 24 = .ok (.ifCond .eq 11, 3) := dk_153 0 11 (dk_at dksX0_mix_1 0 rfl rfl)
theorem dX0_mix_27 : decode cX0_mix 27 = .ok (.aload_n 0, 1) := dk_42 (dk_at dksX0_mix_1 3 rfl rfl)
theorem dX0_mix_28 : decode cX0_mix 28 = .ok (.iconst 4, 1) := dk_7 (dk_at dksX0_mix_1 4 rfl rfl)
theorem dX0_mix_29 : decode cX0_mix 29 = .ok (.invokevirtual 126, 3) := dk_182 0 126 (dk_at dksX0_mix_1 5 rfl rfl)
theorem dX0_mix_32 : decode cX0_mix 32 = .ok (.goto 8, 3) := dk_167 0 8 (dk_at dksX0_mix_1 8 rfl rfl)
theorem dX0_mix_35 : decode cX0_mix 35 = .ok (.aload_n 0, 1) := dk_42 (dk_at dksX0_mix_1 11 rfl rfl)
theorem dX0_mix_36 : decode cX0_mix 36 = .ok (.iload_n 1, 1) := dk_27 (dk_at dksX0_mix_1 12 rfl rfl)
theorem dX0_mix_37 : decode cX0_mix 37 = .ok (.invokevirtual 329, 3) := dk_182 1 73 (dk_at dksX0_mix_1 13 rfl rfl)
theorem dX0_mix_40 : decode cX0_mix 40 = .ok (.ireturn, 1) := dk_172 (dk_at dksX0_mix_1 16 rfl rfl)
abbrev cX0_mixed : ByteArray := prog_1_method_73_code
def yX0_mixed : MethodName := ⟨RX0, "mixed", "(I)I"⟩
def dkwX0_mixed_3 : List UInt8 := [172]
abbrev dktX0_mixed_3 : List UInt8 := dkwX0_mixed_3 ++ []
def dkwX0_mixed_2 : List UInt8 := [182, 1, 70, 16, 10, 112, 79, 42, 182, 0, 169, 132, 2, 1, 167, 255, 196, 42, 180, 0, 76, 180, 0, 217]
abbrev dktX0_mixed_2 : List UInt8 := dkwX0_mixed_2 ++ dktX0_mixed_3
def dkwX0_mixed_1 : List UInt8 := [42, 180, 0, 76, 182, 1, 70, 17, 3, 232, 112, 79, 42, 180, 0, 76, 180, 0, 187, 3, 42, 180, 0, 76]
abbrev dktX0_mixed_1 : List UInt8 := dkwX0_mixed_1 ++ dktX0_mixed_2
def dkwX0_mixed_0 : List UInt8 := [3, 61, 28, 27, 162, 0, 61, 42, 180, 0, 76, 180, 0, 196, 42, 180, 0, 76, 180, 0, 226, 16, 6, 112]
abbrev dktX0_mixed_0 : List UInt8 := dkwX0_mixed_0 ++ dktX0_mixed_1
theorem dksX0_mixed_0 : cX0_mixed.data.toList.drop 0 = dktX0_mixed_0 := by decide +kernel
theorem dksX0_mixed_1 : cX0_mixed.data.toList.drop 24 = dktX0_mixed_1 := dk_seg dksX0_mixed_0 24 rfl rfl
theorem dksX0_mixed_2 : cX0_mixed.data.toList.drop 48 = dktX0_mixed_2 := dk_seg dksX0_mixed_1 24 rfl rfl
theorem dksX0_mixed_3 : cX0_mixed.data.toList.drop 72 = dktX0_mixed_3 := dk_seg dksX0_mixed_2 24 rfl rfl
theorem dX0_mixed_0 : decode cX0_mixed 0 = .ok (.iconst 0, 1) := dk_3 (dk_at dksX0_mixed_0 0 rfl rfl)
theorem dX0_mixed_1 : decode cX0_mixed 1 = .ok (.istore_n 2, 1) := dk_61 (dk_at dksX0_mixed_0 1 rfl rfl)
theorem dX0_mixed_2 : decode cX0_mixed 2 = .ok (.iload_n 2, 1) := dk_28 (dk_at dksX0_mixed_0 2 rfl rfl)
theorem dX0_mixed_3 : decode cX0_mixed 3 = .ok (.iload_n 1, 1) := dk_27 (dk_at dksX0_mixed_0 3 rfl rfl)
theorem dX0_mixed_4 : decode cX0_mixed 4 = .ok (.if_icmp .ge 61, 3) := dk_162 0 61 (dk_at dksX0_mixed_0 4 rfl rfl)
theorem dX0_mixed_7 : decode cX0_mixed 7 = .ok (.aload_n 0, 1) := dk_42 (dk_at dksX0_mixed_0 7 rfl rfl)
theorem dX0_mixed_8 : decode cX0_mixed 8 = .ok (.getfield 76, 3) := dk_180 0 76 (dk_at dksX0_mixed_0 8 rfl rfl)
theorem dX0_mixed_11 : decode cX0_mixed 11 = .ok (.getfield 196, 3) := dk_180 0 196 (dk_at dksX0_mixed_0 11 rfl rfl)
theorem dX0_mixed_14 : decode cX0_mixed 14 = .ok (.aload_n 0, 1) := dk_42 (dk_at dksX0_mixed_0 14 rfl rfl)
theorem dX0_mixed_15 : decode cX0_mixed 15 = .ok (.getfield 76, 3) := dk_180 0 76 (dk_at dksX0_mixed_0 15 rfl rfl)
theorem dX0_mixed_18 : decode cX0_mixed 18 = .ok (.getfield 226, 3) := dk_180 0 226 (dk_at dksX0_mixed_0 18 rfl rfl)
theorem dX0_mixed_21 : decode cX0_mixed 21 = .ok (.bipush 6, 2) := dk_16 6 (dk_at dksX0_mixed_0 21 rfl rfl)
theorem dX0_mixed_23 : decode cX0_mixed 23 = .ok (.irem, 1) := dk_112 (dk_at dksX0_mixed_0 23 rfl rfl)
theorem dX0_mixed_24 : decode cX0_mixed 24 = .ok (.aload_n 0, 1) := dk_42 (dk_at dksX0_mixed_1 0 rfl rfl)
theorem dX0_mixed_25 : decode cX0_mixed 25 = .ok (.getfield 76, 3) := dk_180 0 76 (dk_at dksX0_mixed_1 1 rfl rfl)
theorem dX0_mixed_28 : decode cX0_mixed 28 = .ok (.invokevirtual 326, 3) := dk_182 1 70 (dk_at dksX0_mixed_1 4 rfl rfl)
theorem dX0_mixed_31 : decode cX0_mixed 31 = .ok (.sipush 1000, 3) := dk_17 3 232 (dk_at dksX0_mixed_1 7 rfl rfl)
theorem dX0_mixed_34 : decode cX0_mixed 34 = .ok (.irem, 1) := dk_112 (dk_at dksX0_mixed_1 10 rfl rfl)
theorem dX0_mixed_35 : decode cX0_mixed 35 = .ok (.iastore, 1) := dk_79 (dk_at dksX0_mixed_1 11 rfl rfl)
theorem dX0_mixed_36 : decode cX0_mixed 36 = .ok (.aload_n 0, 1) := dk_42 (dk_at dksX0_mixed_1 12 rfl rfl)
theorem dX0_mixed_37 : decode cX0_mixed 37 = .ok (.getfield 76, 3) := dk_180 0 76 (dk_at dksX0_mixed_1 13 rfl rfl)
theorem dX0_mixed_40 : decode cX0_mixed 40 = .ok (.getfield 187, 3) := dk_180 0 187 (dk_at dksX0_mixed_1 16 rfl rfl)
theorem dX0_mixed_43 : decode cX0_mixed 43 = .ok (.iconst 0, 1) := dk_3 (dk_at dksX0_mixed_1 19 rfl rfl)
theorem dX0_mixed_44 : decode cX0_mixed 44 = .ok (.aload_n 0, 1) := dk_42 (dk_at dksX0_mixed_1 20 rfl rfl)
theorem dX0_mixed_45 : decode cX0_mixed 45 = .ok (.getfield 76, 3) := dk_180 0 76 (dk_at dksX0_mixed_1 21 rfl rfl)
theorem dX0_mixed_48 : decode cX0_mixed 48 = .ok (.invokevirtual 326, 3) := dk_182 1 70 (dk_at dksX0_mixed_2 0 rfl rfl)
theorem dX0_mixed_51 : decode cX0_mixed 51 = .ok (.bipush 10, 2) := dk_16 10 (dk_at dksX0_mixed_2 3 rfl rfl)
theorem dX0_mixed_53 : decode cX0_mixed 53 = .ok (.irem, 1) := dk_112 (dk_at dksX0_mixed_2 5 rfl rfl)
theorem dX0_mixed_54 : decode cX0_mixed 54 = .ok (.iastore, 1) := dk_79 (dk_at dksX0_mixed_2 6 rfl rfl)
theorem dX0_mixed_55 : decode cX0_mixed 55 = .ok (.aload_n 0, 1) := dk_42 (dk_at dksX0_mixed_2 7 rfl rfl)
theorem dX0_mixed_56 : decode cX0_mixed 56 = .ok (.invokevirtual 169, 3) := dk_182 0 169 (dk_at dksX0_mixed_2 8 rfl rfl)
theorem dX0_mixed_59 : decode cX0_mixed 59 = .ok (.iinc 2 1, 3) := dk_132 2 1 (dk_at dksX0_mixed_2 11 rfl rfl)
theorem dX0_mixed_62 : decode cX0_mixed 62 = .ok (.goto (-60), 3) := dk_167 255 196 (dk_at dksX0_mixed_2 14 rfl rfl)
theorem dX0_mixed_65 : decode cX0_mixed 65 = .ok (.aload_n 0, 1) := dk_42 (dk_at dksX0_mixed_2 17 rfl rfl)
theorem dX0_mixed_66 : decode cX0_mixed 66 = .ok (.getfield 76, 3) := dk_180 0 76 (dk_at dksX0_mixed_2 18 rfl rfl)
theorem dX0_mixed_69 : decode cX0_mixed 69 = .ok (.getfield 217, 3) := dk_180 0 217 (dk_at dksX0_mixed_2 21 rfl rfl)
theorem dX0_mixed_72 : decode cX0_mixed 72 = .ok (.ireturn, 1) := dk_172 (dk_at dksX0_mixed_3 0 rfl rfl)
abbrev cX0_odds : ByteArray := prog_1_method_77_code
def yX0_odds : MethodName := ⟨RX0, "odds", "(III)J"⟩
def dkwX0_odds_4 : List UInt8 := [167, 255, 239, 22, 7, 173]
abbrev dktX0_odds_4 : List UInt8 := dkwX0_odds_4 ++ []
def dkwX0_odds_3 : List UInt8 := [55, 7, 3, 54, 9, 21, 9, 28, 162, 0, 17, 22, 7, 21, 6, 133, 105, 55, 7, 132, 9, 1]
abbrev dktX0_odds_3 : List UInt8 := dkwX0_odds_3 ++ dktX0_odds_4
def dkwX0_odds_2 : List UInt8 := [184, 1, 79, 54, 5, 29, 154, 0, 8, 21, 4, 167, 0, 6, 17, 3, 232, 21, 5, 108, 54, 6, 10]
abbrev dktX0_odds_2 : List UInt8 := dkwX0_odds_2 ++ dktX0_odds_3
def dkwX0_odds_1 : List UInt8 := [154, 0, 10, 42, 3, 182, 0, 126, 133, 173, 42, 27, 182, 1, 76, 54, 4, 21, 4, 17, 3, 232]
abbrev dktX0_odds_1 : List UInt8 := dkwX0_odds_1 ++ dktX0_odds_2
def dkwX0_odds_0 : List UInt8 := [27, 184, 0, 172, 153, 0, 22, 28, 3, 16, 6, 184, 0, 9, 153, 0, 12, 29, 3, 4, 184, 0, 9]
abbrev dktX0_odds_0 : List UInt8 := dkwX0_odds_0 ++ dktX0_odds_1
theorem dksX0_odds_0 : cX0_odds.data.toList.drop 0 = dktX0_odds_0 := by decide +kernel
theorem dksX0_odds_1 : cX0_odds.data.toList.drop 23 = dktX0_odds_1 := dk_seg dksX0_odds_0 23 rfl rfl
theorem dksX0_odds_2 : cX0_odds.data.toList.drop 45 = dktX0_odds_2 := dk_seg dksX0_odds_1 22 rfl rfl
theorem dksX0_odds_3 : cX0_odds.data.toList.drop 68 = dktX0_odds_3 := dk_seg dksX0_odds_2 23 rfl rfl
theorem dksX0_odds_4 : cX0_odds.data.toList.drop 90 = dktX0_odds_4 := dk_seg dksX0_odds_3 22 rfl rfl
theorem dX0_odds_0 : decode cX0_odds 0 = .ok (.iload_n 1, 1) := dk_27 (dk_at dksX0_odds_0 0 rfl rfl)
theorem dX0_odds_1 : decode cX0_odds 1 = .ok (.invokestatic 172, 3) := dk_184 0 172 (dk_at dksX0_odds_0 1 rfl rfl)
theorem dX0_odds_4 : decode cX0_odds 4 = .ok (.ifCond .eq 22, 3) := dk_153 0 22 (dk_at dksX0_odds_0 4 rfl rfl)
theorem dX0_odds_7 : decode cX0_odds 7 = .ok (.iload_n 2, 1) := dk_28 (dk_at dksX0_odds_0 7 rfl rfl)
theorem dX0_odds_8 : decode cX0_odds 8 = .ok (.iconst 0, 1) := dk_3 (dk_at dksX0_odds_0 8 rfl rfl)
theorem dX0_odds_9 : decode cX0_odds 9 = .ok (.bipush 6, 2) := dk_16 6 (dk_at dksX0_odds_0 9 rfl rfl)
theorem dX0_odds_11 : decode cX0_odds 11 = .ok (.invokestatic 9, 3) := dk_184 0 9 (dk_at dksX0_odds_0 11 rfl rfl)
theorem dX0_odds_14 : decode cX0_odds 14 = .ok (.ifCond .eq 12, 3) := dk_153 0 12 (dk_at dksX0_odds_0 14 rfl rfl)
theorem dX0_odds_17 : decode cX0_odds 17 = .ok (.iload_n 3, 1) := dk_29 (dk_at dksX0_odds_0 17 rfl rfl)
theorem dX0_odds_18 : decode cX0_odds 18 = .ok (.iconst 0, 1) := dk_3 (dk_at dksX0_odds_0 18 rfl rfl)
theorem dX0_odds_19 : decode cX0_odds 19 = .ok (.iconst 1, 1) := dk_4 (dk_at dksX0_odds_0 19 rfl rfl)
theorem dX0_odds_20 : decode cX0_odds 20 = .ok (.invokestatic 9, 3) := dk_184 0 9 (dk_at dksX0_odds_0 20 rfl rfl)
theorem dX0_odds_23 : decode cX0_odds 23 = .ok (.ifCond .ne 10, 3) := dk_154 0 10 (dk_at dksX0_odds_1 0 rfl rfl)
theorem dX0_odds_26 : decode cX0_odds 26 = .ok (.aload_n 0, 1) := dk_42 (dk_at dksX0_odds_1 3 rfl rfl)
theorem dX0_odds_27 : decode cX0_odds 27 = .ok (.iconst 0, 1) := dk_3 (dk_at dksX0_odds_1 4 rfl rfl)
theorem dX0_odds_28 : decode cX0_odds 28 = .ok (.invokevirtual 126, 3) := dk_182 0 126 (dk_at dksX0_odds_1 5 rfl rfl)
theorem dX0_odds_31 : decode cX0_odds 31 = .ok (.i2l, 1) := dk_133 (dk_at dksX0_odds_1 8 rfl rfl)
theorem dX0_odds_32 : decode cX0_odds 32 = .ok (.lreturn, 1) := dk_173 (dk_at dksX0_odds_1 9 rfl rfl)
theorem dX0_odds_33 : decode cX0_odds 33 = .ok (.aload_n 0, 1) := dk_42 (dk_at dksX0_odds_1 10 rfl rfl)
theorem dX0_odds_34 : decode cX0_odds 34 = .ok (.iload_n 1, 1) := dk_27 (dk_at dksX0_odds_1 11 rfl rfl)
theorem dX0_odds_35 : decode cX0_odds 35 = .ok (.invokevirtual 332, 3) := dk_182 1 76 (dk_at dksX0_odds_1 12 rfl rfl)
theorem dX0_odds_38 : decode cX0_odds 38 = .ok (.istore 4, 2) := dk_54 4 (dk_at dksX0_odds_1 15 rfl rfl)
theorem dX0_odds_40 : decode cX0_odds 40 = .ok (.iload 4, 2) := dk_21 4 (dk_at dksX0_odds_1 17 rfl rfl)
theorem dX0_odds_42 : decode cX0_odds 42 = .ok (.sipush 1000, 3) := dk_17 3 232 (dk_at dksX0_odds_1 19 rfl rfl)
theorem dX0_odds_45 : decode cX0_odds 45 = .ok (.invokestatic 335, 3) := dk_184 1 79 (dk_at dksX0_odds_2 0 rfl rfl)
theorem dX0_odds_48 : decode cX0_odds 48 = .ok (.istore 5, 2) := dk_54 5 (dk_at dksX0_odds_2 3 rfl rfl)
theorem dX0_odds_50 : decode cX0_odds 50 = .ok (.iload_n 3, 1) := dk_29 (dk_at dksX0_odds_2 5 rfl rfl)
theorem dX0_odds_51 : decode cX0_odds 51 = .ok (.ifCond .ne 8, 3) := dk_154 0 8 (dk_at dksX0_odds_2 6 rfl rfl)
theorem dX0_odds_54 : decode cX0_odds 54 = .ok (.iload 4, 2) := dk_21 4 (dk_at dksX0_odds_2 9 rfl rfl)
theorem dX0_odds_56 : decode cX0_odds 56 = .ok (.goto 6, 3) := dk_167 0 6 (dk_at dksX0_odds_2 11 rfl rfl)
theorem dX0_odds_59 : decode cX0_odds 59 = .ok (.sipush 1000, 3) := dk_17 3 232 (dk_at dksX0_odds_2 14 rfl rfl)
theorem dX0_odds_62 : decode cX0_odds 62 = .ok (.iload 5, 2) := dk_21 5 (dk_at dksX0_odds_2 17 rfl rfl)
theorem dX0_odds_64 : decode cX0_odds 64 = .ok (.idiv, 1) := dk_108 (dk_at dksX0_odds_2 19 rfl rfl)
theorem dX0_odds_65 : decode cX0_odds 65 = .ok (.istore 6, 2) := dk_54 6 (dk_at dksX0_odds_2 20 rfl rfl)
theorem dX0_odds_67 : decode cX0_odds 67 = .ok (.lconst 1, 1) := dk_10 (dk_at dksX0_odds_2 22 rfl rfl)
theorem dX0_odds_68 : decode cX0_odds 68 = .ok (.lstore 7, 2) := dk_55 7 (dk_at dksX0_odds_3 0 rfl rfl)
theorem dX0_odds_70 : decode cX0_odds 70 = .ok (.iconst 0, 1) := dk_3 (dk_at dksX0_odds_3 2 rfl rfl)
theorem dX0_odds_71 : decode cX0_odds 71 = .ok (.istore 9, 2) := dk_54 9 (dk_at dksX0_odds_3 3 rfl rfl)
theorem dX0_odds_73 : decode cX0_odds 73 = .ok (.iload 9, 2) := dk_21 9 (dk_at dksX0_odds_3 5 rfl rfl)
theorem dX0_odds_75 : decode cX0_odds 75 = .ok (.iload_n 2, 1) := dk_28 (dk_at dksX0_odds_3 7 rfl rfl)
theorem dX0_odds_76 : decode cX0_odds 76 = .ok (.if_icmp .ge 17, 3) := dk_162 0 17 (dk_at dksX0_odds_3 8 rfl rfl)
theorem dX0_odds_79 : decode cX0_odds 79 = .ok (.lload 7, 2) := dk_22 7 (dk_at dksX0_odds_3 11 rfl rfl)
theorem dX0_odds_81 : decode cX0_odds 81 = .ok (.iload 6, 2) := dk_21 6 (dk_at dksX0_odds_3 13 rfl rfl)
theorem dX0_odds_83 : decode cX0_odds 83 = .ok (.i2l, 1) := dk_133 (dk_at dksX0_odds_3 15 rfl rfl)
theorem dX0_odds_84 : decode cX0_odds 84 = .ok (.lmul, 1) := dk_105 (dk_at dksX0_odds_3 16 rfl rfl)
theorem dX0_odds_85 : decode cX0_odds 85 = .ok (.lstore 7, 2) := dk_55 7 (dk_at dksX0_odds_3 17 rfl rfl)
theorem dX0_odds_87 : decode cX0_odds 87 = .ok (.iinc 9 1, 3) := dk_132 9 1 (dk_at dksX0_odds_3 19 rfl rfl)
theorem dX0_odds_90 : decode cX0_odds 90 = .ok (.goto (-17), 3) := dk_167 255 239 (dk_at dksX0_odds_4 0 rfl rfl)
theorem dX0_odds_93 : decode cX0_odds 93 = .ok (.lload 7, 2) := dk_22 7 (dk_at dksX0_odds_4 3 rfl rfl)
theorem dX0_odds_95 : decode cX0_odds 95 = .ok (.lreturn, 1) := dk_173 (dk_at dksX0_odds_4 5 rfl rfl)
abbrev cX0_callsFor : ByteArray := prog_1_method_75_code
def yX0_callsFor : MethodName := ⟨RX0, "callsFor", "(I)I"⟩
def dkwX0_callsFor_1 : List UInt8 := [184, 0, 199, 27, 160, 0, 7, 4, 167, 0, 4, 3, 96, 61, 132, 3, 1, 167, 255, 221, 28, 172]
abbrev dktX0_callsFor_1 : List UInt8 := dkwX0_callsFor_1 ++ []
def dkwX0_callsFor_0 : List UInt8 := [3, 61, 3, 62, 29, 17, 3, 231, 163, 0, 34, 28, 29, 42, 180, 0, 76, 180, 0, 187, 5, 46]
abbrev dktX0_callsFor_0 : List UInt8 := dkwX0_callsFor_0 ++ dktX0_callsFor_1
theorem dksX0_callsFor_0 : cX0_callsFor.data.toList.drop 0 = dktX0_callsFor_0 := by decide +kernel
theorem dksX0_callsFor_1 : cX0_callsFor.data.toList.drop 22 = dktX0_callsFor_1 := dk_seg dksX0_callsFor_0 22 rfl rfl
theorem dX0_callsFor_0 : decode cX0_callsFor 0 = .ok (.iconst 0, 1) := dk_3 (dk_at dksX0_callsFor_0 0 rfl rfl)
theorem dX0_callsFor_1 : decode cX0_callsFor 1 = .ok (.istore_n 2, 1) := dk_61 (dk_at dksX0_callsFor_0 1 rfl rfl)
theorem dX0_callsFor_2 : decode cX0_callsFor 2 = .ok (.iconst 0, 1) := dk_3 (dk_at dksX0_callsFor_0 2 rfl rfl)
theorem dX0_callsFor_3 : decode cX0_callsFor 3 = .ok (.istore_n 3, 1) := dk_62 (dk_at dksX0_callsFor_0 3 rfl rfl)
theorem dX0_callsFor_4 : decode cX0_callsFor 4 = .ok (.iload_n 3, 1) := dk_29 (dk_at dksX0_callsFor_0 4 rfl rfl)
theorem dX0_callsFor_5 : decode cX0_callsFor 5 = .ok (.sipush 999, 3) := dk_17 3 231 (dk_at dksX0_callsFor_0 5 rfl rfl)
theorem dX0_callsFor_8 : decode cX0_callsFor 8 = .ok (.if_icmp .gt 34, 3) := dk_163 0 34 (dk_at dksX0_callsFor_0 8 rfl rfl)
theorem dX0_callsFor_11 : decode cX0_callsFor 11 = .ok (.iload_n 2, 1) := dk_28 (dk_at dksX0_callsFor_0 11 rfl rfl)
theorem dX0_callsFor_12 : decode cX0_callsFor 12 = .ok (.iload_n 3, 1) := dk_29 (dk_at dksX0_callsFor_0 12 rfl rfl)
theorem dX0_callsFor_13 : decode cX0_callsFor 13 = .ok (.aload_n 0, 1) := dk_42 (dk_at dksX0_callsFor_0 13 rfl rfl)
theorem dX0_callsFor_14 : decode cX0_callsFor 14 = .ok (.getfield 76, 3) := dk_180 0 76 (dk_at dksX0_callsFor_0 14 rfl rfl)
theorem dX0_callsFor_17 : decode cX0_callsFor 17 = .ok (.getfield 187, 3) := dk_180 0 187 (dk_at dksX0_callsFor_0 17 rfl rfl)
theorem dX0_callsFor_20 : decode cX0_callsFor 20 = .ok (.iconst 2, 1) := dk_5 (dk_at dksX0_callsFor_0 20 rfl rfl)
theorem dX0_callsFor_21 : decode cX0_callsFor 21 = .ok (.iaload, 1) := dk_46 (dk_at dksX0_callsFor_0 21 rfl rfl)
theorem dX0_callsFor_22 : decode cX0_callsFor 22 = .ok (.invokestatic 199, 3) := dk_184 0 199 (dk_at dksX0_callsFor_1 0 rfl rfl)
theorem dX0_callsFor_25 : decode cX0_callsFor 25 = .ok (.iload_n 1, 1) := dk_27 (dk_at dksX0_callsFor_1 3 rfl rfl)
theorem dX0_callsFor_26 : decode cX0_callsFor 26 = .ok (.if_icmp .ne 7, 3) := dk_160 0 7 (dk_at dksX0_callsFor_1 4 rfl rfl)
theorem dX0_callsFor_29 : decode cX0_callsFor 29 = .ok (.iconst 1, 1) := dk_4 (dk_at dksX0_callsFor_1 7 rfl rfl)
theorem dX0_callsFor_30 : decode cX0_callsFor 30 = .ok (.goto 4, 3) := dk_167 0 4 (dk_at dksX0_callsFor_1 8 rfl rfl)
theorem dX0_callsFor_33 : decode cX0_callsFor 33 = .ok (.iconst 0, 1) := dk_3 (dk_at dksX0_callsFor_1 11 rfl rfl)
theorem dX0_callsFor_34 : decode cX0_callsFor 34 = .ok (.iadd, 1) := dk_96 (dk_at dksX0_callsFor_1 12 rfl rfl)
theorem dX0_callsFor_35 : decode cX0_callsFor 35 = .ok (.istore_n 2, 1) := dk_61 (dk_at dksX0_callsFor_1 13 rfl rfl)
theorem dX0_callsFor_36 : decode cX0_callsFor 36 = .ok (.iinc 3 1, 3) := dk_132 3 1 (dk_at dksX0_callsFor_1 14 rfl rfl)
theorem dX0_callsFor_39 : decode cX0_callsFor 39 = .ok (.goto (-35), 3) := dk_167 255 221 (dk_at dksX0_callsFor_1 17 rfl rfl)
theorem dX0_callsFor_42 : decode cX0_callsFor 42 = .ok (.iload_n 2, 1) := dk_28 (dk_at dksX0_callsFor_1 20 rfl rfl)
theorem dX0_callsFor_43 : decode cX0_callsFor 43 = .ok (.ireturn, 1) := dk_172 (dk_at dksX0_callsFor_1 21 rfl rfl)
abbrev cX0_divisor : ByteArray := prog_1_method_76_code
def yX0_divisor : MethodName := ⟨RX0, "divisor", "(II)I"⟩
def dkwX0_divisor_0 : List UInt8 := [26, 61, 27, 62, 29, 153, 0, 16, 28, 29, 112, 54, 4, 29, 61, 21, 4, 62, 167, 255, 242, 28, 172]
abbrev dktX0_divisor_0 : List UInt8 := dkwX0_divisor_0 ++ []
theorem dksX0_divisor_0 : cX0_divisor.data.toList.drop 0 = dktX0_divisor_0 := by decide +kernel
theorem dX0_divisor_0 : decode cX0_divisor 0 = .ok (.iload_n 0, 1) := dk_26 (dk_at dksX0_divisor_0 0 rfl rfl)
theorem dX0_divisor_1 : decode cX0_divisor 1 = .ok (.istore_n 2, 1) := dk_61 (dk_at dksX0_divisor_0 1 rfl rfl)
theorem dX0_divisor_2 : decode cX0_divisor 2 = .ok (.iload_n 1, 1) := dk_27 (dk_at dksX0_divisor_0 2 rfl rfl)
theorem dX0_divisor_3 : decode cX0_divisor 3 = .ok (.istore_n 3, 1) := dk_62 (dk_at dksX0_divisor_0 3 rfl rfl)
theorem dX0_divisor_4 : decode cX0_divisor 4 = .ok (.iload_n 3, 1) := dk_29 (dk_at dksX0_divisor_0 4 rfl rfl)
theorem dX0_divisor_5 : decode cX0_divisor 5 = .ok (.ifCond .eq 16, 3) := dk_153 0 16 (dk_at dksX0_divisor_0 5 rfl rfl)
theorem dX0_divisor_8 : decode cX0_divisor 8 = .ok (.iload_n 2, 1) := dk_28 (dk_at dksX0_divisor_0 8 rfl rfl)
theorem dX0_divisor_9 : decode cX0_divisor 9 = .ok (.iload_n 3, 1) := dk_29 (dk_at dksX0_divisor_0 9 rfl rfl)
theorem dX0_divisor_10 : decode cX0_divisor 10 = .ok (.irem, 1) := dk_112 (dk_at dksX0_divisor_0 10 rfl rfl)
theorem dX0_divisor_11 : decode cX0_divisor 11 = .ok (.istore 4, 2) := dk_54 4 (dk_at dksX0_divisor_0 11 rfl rfl)
theorem dX0_divisor_13 : decode cX0_divisor 13 = .ok (.iload_n 3, 1) := dk_29 (dk_at dksX0_divisor_0 13 rfl rfl)
theorem dX0_divisor_14 : decode cX0_divisor 14 = .ok (.istore_n 2, 1) := dk_61 (dk_at dksX0_divisor_0 14 rfl rfl)
theorem dX0_divisor_15 : decode cX0_divisor 15 = .ok (.iload 4, 2) := dk_21 4 (dk_at dksX0_divisor_0 15 rfl rfl)
theorem dX0_divisor_17 : decode cX0_divisor 17 = .ok (.istore_n 3, 1) := dk_62 (dk_at dksX0_divisor_0 17 rfl rfl)
theorem dX0_divisor_18 : decode cX0_divisor 18 = .ok (.goto (-14), 3) := dk_167 255 242 (dk_at dksX0_divisor_0 18 rfl rfl)
theorem dX0_divisor_21 : decode cX0_divisor 21 = .ok (.iload_n 2, 1) := dk_28 (dk_at dksX0_divisor_0 21 rfl rfl)
theorem dX0_divisor_22 : decode cX0_divisor 22 = .ok (.ireturn, 1) := dk_172 (dk_at dksX0_divisor_0 22 rfl rfl)
abbrev cX0_seed : ByteArray := prog_1_method_78_code
def yX0_seed : MethodName := ⟨RX0, "seed", "(I)I"⟩
def dkwX0_seed_0 : List UInt8 := [42, 180, 0, 76, 180, 1, 82, 61, 42, 180, 0, 76, 27, 181, 1, 82, 28, 172]
abbrev dktX0_seed_0 : List UInt8 := dkwX0_seed_0 ++ []
theorem dksX0_seed_0 : cX0_seed.data.toList.drop 0 = dktX0_seed_0 := by decide +kernel
theorem dX0_seed_0 : decode cX0_seed 0 = .ok (.aload_n 0, 1) := dk_42 (dk_at dksX0_seed_0 0 rfl rfl)
theorem dX0_seed_1 : decode cX0_seed 1 = .ok (.getfield 76, 3) := dk_180 0 76 (dk_at dksX0_seed_0 1 rfl rfl)
theorem dX0_seed_4 : decode cX0_seed 4 = .ok (.getfield 338, 3) := dk_180 1 82 (dk_at dksX0_seed_0 4 rfl rfl)
theorem dX0_seed_7 : decode cX0_seed 7 = .ok (.istore_n 2, 1) := dk_61 (dk_at dksX0_seed_0 7 rfl rfl)
theorem dX0_seed_8 : decode cX0_seed 8 = .ok (.aload_n 0, 1) := dk_42 (dk_at dksX0_seed_0 8 rfl rfl)
theorem dX0_seed_9 : decode cX0_seed 9 = .ok (.getfield 76, 3) := dk_180 0 76 (dk_at dksX0_seed_0 9 rfl rfl)
theorem dX0_seed_12 : decode cX0_seed 12 = .ok (.iload_n 1, 1) := dk_27 (dk_at dksX0_seed_0 12 rfl rfl)
theorem dX0_seed_13 : decode cX0_seed 13 = .ok (.putfield 338, 3) := dk_181 1 82 (dk_at dksX0_seed_0 13 rfl rfl)
theorem dX0_seed_16 : decode cX0_seed 16 = .ok (.iload_n 2, 1) := dk_28 (dk_at dksX0_seed_0 16 rfl rfl)
theorem dX0_seed_17 : decode cX0_seed 17 = .ok (.ireturn, 1) := dk_172 (dk_at dksX0_seed_0 17 rfl rfl)
abbrev cX0_feed : ByteArray := prog_1_method_79_code
def yX0_feed : MethodName := ⟨RX0, "feed", "(II)I"⟩
def dkwX0_feed_3 : List UInt8 := [132, 3, 255, 167, 255, 220, 42, 180, 1, 85, 172]
abbrev dktX0_feed_3 : List UInt8 := dkwX0_feed_3 ++ []
def dkwX0_feed_2 : List UInt8 := [42, 180, 1, 85, 27, 16, 8, 29, 104, 122, 145, 84, 42, 89, 180, 1, 85, 4, 96, 181, 1, 85]
abbrev dktX0_feed_2 : List UInt8 := dkwX0_feed_2 ++ dktX0_feed_3
def dkwX0_feed_1 : List UInt8 := [164, 0, 9, 42, 4, 182, 0, 126, 172, 28, 4, 100, 62, 29, 155, 0, 38, 42, 180, 0, 69, 180, 1, 88]
abbrev dktX0_feed_1 : List UInt8 := dkwX0_feed_1 ++ dktX0_feed_2
def dkwX0_feed_0 : List UInt8 := [28, 4, 7, 184, 0, 9, 154, 0, 9, 42, 3, 182, 0, 126, 172, 42, 180, 1, 85, 28, 96, 16, 120]
abbrev dktX0_feed_0 : List UInt8 := dkwX0_feed_0 ++ dktX0_feed_1
theorem dksX0_feed_0 : cX0_feed.data.toList.drop 0 = dktX0_feed_0 := by decide +kernel
theorem dksX0_feed_1 : cX0_feed.data.toList.drop 23 = dktX0_feed_1 := dk_seg dksX0_feed_0 23 rfl rfl
theorem dksX0_feed_2 : cX0_feed.data.toList.drop 47 = dktX0_feed_2 := dk_seg dksX0_feed_1 24 rfl rfl
theorem dksX0_feed_3 : cX0_feed.data.toList.drop 69 = dktX0_feed_3 := dk_seg dksX0_feed_2 22 rfl rfl
theorem dX0_feed_0 : decode cX0_feed 0 = .ok (.iload_n 2, 1) := dk_28 (dk_at dksX0_feed_0 0 rfl rfl)
theorem dX0_feed_1 : decode cX0_feed 1 = .ok (.iconst 1, 1) := dk_4 (dk_at dksX0_feed_0 1 rfl rfl)
theorem dX0_feed_2 : decode cX0_feed 2 = .ok (.iconst 4, 1) := dk_7 (dk_at dksX0_feed_0 2 rfl rfl)
theorem dX0_feed_3 : decode cX0_feed 3 = .ok (.invokestatic 9, 3) := dk_184 0 9 (dk_at dksX0_feed_0 3 rfl rfl)
theorem dX0_feed_6 : decode cX0_feed 6 = .ok (.ifCond .ne 9, 3) := dk_154 0 9 (dk_at dksX0_feed_0 6 rfl rfl)
theorem dX0_feed_9 : decode cX0_feed 9 = .ok (.aload_n 0, 1) := dk_42 (dk_at dksX0_feed_0 9 rfl rfl)
theorem dX0_feed_10 : decode cX0_feed 10 = .ok (.iconst 0, 1) := dk_3 (dk_at dksX0_feed_0 10 rfl rfl)
theorem dX0_feed_11 : decode cX0_feed 11 = .ok (.invokevirtual 126, 3) := dk_182 0 126 (dk_at dksX0_feed_0 11 rfl rfl)
theorem dX0_feed_14 : decode cX0_feed 14 = .ok (.ireturn, 1) := dk_172 (dk_at dksX0_feed_0 14 rfl rfl)
theorem dX0_feed_15 : decode cX0_feed 15 = .ok (.aload_n 0, 1) := dk_42 (dk_at dksX0_feed_0 15 rfl rfl)
theorem dX0_feed_16 : decode cX0_feed 16 = .ok (.getfield 341, 3) := dk_180 1 85 (dk_at dksX0_feed_0 16 rfl rfl)
theorem dX0_feed_19 : decode cX0_feed 19 = .ok (.iload_n 2, 1) := dk_28 (dk_at dksX0_feed_0 19 rfl rfl)
theorem dX0_feed_20 : decode cX0_feed 20 = .ok (.iadd, 1) := dk_96 (dk_at dksX0_feed_0 20 rfl rfl)
theorem dX0_feed_21 : decode cX0_feed 21 = .ok (.bipush 120, 2) := dk_16 120 (dk_at dksX0_feed_0 21 rfl rfl)
theorem dX0_feed_23 : decode cX0_feed 23 = .ok (.if_icmp .le 9, 3) := dk_164 0 9 (dk_at dksX0_feed_1 0 rfl rfl)
theorem dX0_feed_26 : decode cX0_feed 26 = .ok (.aload_n 0, 1) := dk_42 (dk_at dksX0_feed_1 3 rfl rfl)
theorem dX0_feed_27 : decode cX0_feed 27 = .ok (.iconst 1, 1) := dk_4 (dk_at dksX0_feed_1 4 rfl rfl)
theorem dX0_feed_28 : decode cX0_feed 28 = .ok (.invokevirtual 126, 3) := dk_182 0 126 (dk_at dksX0_feed_1 5 rfl rfl)
theorem dX0_feed_31 : decode cX0_feed 31 = .ok (.ireturn, 1) := dk_172 (dk_at dksX0_feed_1 8 rfl rfl)
theorem dX0_feed_32 : decode cX0_feed 32 = .ok (.iload_n 2, 1) := dk_28 (dk_at dksX0_feed_1 9 rfl rfl)
theorem dX0_feed_33 : decode cX0_feed 33 = .ok (.iconst 1, 1) := dk_4 (dk_at dksX0_feed_1 10 rfl rfl)
theorem dX0_feed_34 : decode cX0_feed 34 = .ok (.isub, 1) := dk_100 (dk_at dksX0_feed_1 11 rfl rfl)
theorem dX0_feed_35 : decode cX0_feed 35 = .ok (.istore_n 3, 1) := dk_62 (dk_at dksX0_feed_1 12 rfl rfl)
theorem dX0_feed_36 : decode cX0_feed 36 = .ok (.iload_n 3, 1) := dk_29 (dk_at dksX0_feed_1 13 rfl rfl)
theorem dX0_feed_37 : decode cX0_feed 37 = .ok (.ifCond .lt 38, 3) := dk_155 0 38 (dk_at dksX0_feed_1 14 rfl rfl)
theorem dX0_feed_40 : decode cX0_feed 40 = .ok (.aload_n 0, 1) := dk_42 (dk_at dksX0_feed_1 17 rfl rfl)
theorem dX0_feed_41 : decode cX0_feed 41 = .ok (.getfield 69, 3) := dk_180 0 69 (dk_at dksX0_feed_1 18 rfl rfl)
theorem dX0_feed_44 : decode cX0_feed 44 = .ok (.getfield 344, 3) := dk_180 1 88 (dk_at dksX0_feed_1 21 rfl rfl)
theorem dX0_feed_47 : decode cX0_feed 47 = .ok (.aload_n 0, 1) := dk_42 (dk_at dksX0_feed_2 0 rfl rfl)
theorem dX0_feed_48 : decode cX0_feed 48 = .ok (.getfield 341, 3) := dk_180 1 85 (dk_at dksX0_feed_2 1 rfl rfl)
theorem dX0_feed_51 : decode cX0_feed 51 = .ok (.iload_n 1, 1) := dk_27 (dk_at dksX0_feed_2 4 rfl rfl)
theorem dX0_feed_52 : decode cX0_feed 52 = .ok (.bipush 8, 2) := dk_16 8 (dk_at dksX0_feed_2 5 rfl rfl)
theorem dX0_feed_54 : decode cX0_feed 54 = .ok (.iload_n 3, 1) := dk_29 (dk_at dksX0_feed_2 7 rfl rfl)
theorem dX0_feed_55 : decode cX0_feed 55 = .ok (.imul, 1) := dk_104 (dk_at dksX0_feed_2 8 rfl rfl)
theorem dX0_feed_56 : decode cX0_feed 56 = .ok (.ishr, 1) := dk_122 (dk_at dksX0_feed_2 9 rfl rfl)
theorem dX0_feed_57 : decode cX0_feed 57 = .ok (.i2b, 1) := dk_145 (dk_at dksX0_feed_2 10 rfl rfl)
theorem dX0_feed_58 : decode cX0_feed 58 = .ok (.bastore, 1) := dk_84 (dk_at dksX0_feed_2 11 rfl rfl)
theorem dX0_feed_59 : decode cX0_feed 59 = .ok (.aload_n 0, 1) := dk_42 (dk_at dksX0_feed_2 12 rfl rfl)
theorem dX0_feed_60 : decode cX0_feed 60 = .ok (.dup, 1) := dk_89 (dk_at dksX0_feed_2 13 rfl rfl)
theorem dX0_feed_61 : decode cX0_feed 61 = .ok (.getfield 341, 3) := dk_180 1 85 (dk_at dksX0_feed_2 14 rfl rfl)
theorem dX0_feed_64 : decode cX0_feed 64 = .ok (.iconst 1, 1) := dk_4 (dk_at dksX0_feed_2 17 rfl rfl)
theorem dX0_feed_65 : decode cX0_feed 65 = .ok (.iadd, 1) := dk_96 (dk_at dksX0_feed_2 18 rfl rfl)
theorem dX0_feed_66 : decode cX0_feed 66 = .ok (.putfield 341, 3) := dk_181 1 85 (dk_at dksX0_feed_2 19 rfl rfl)
theorem dX0_feed_69 : decode cX0_feed 69 = .ok (.iinc 3 (-1), 3) := dk_132 3 255 (dk_at dksX0_feed_3 0 rfl rfl)
theorem dX0_feed_72 : decode cX0_feed 72 = .ok (.goto (-36), 3) := dk_167 255 220 (dk_at dksX0_feed_3 3 rfl rfl)
theorem dX0_feed_75 : decode cX0_feed 75 = .ok (.aload_n 0, 1) := dk_42 (dk_at dksX0_feed_3 6 rfl rfl)
theorem dX0_feed_76 : decode cX0_feed 76 = .ok (.getfield 341, 3) := dk_180 1 85 (dk_at dksX0_feed_3 7 rfl rfl)
theorem dX0_feed_79 : decode cX0_feed 79 = .ok (.ireturn, 1) := dk_172 (dk_at dksX0_feed_3 10 rfl rfl)
abbrev cX0_wipe : ByteArray := prog_1_method_80_code
def yX0_wipe : MethodName := ⟨RX0, "wipe", "()I"⟩
def dkwX0_wipe_0 : List UInt8 := [42, 180, 1, 85, 60, 42, 3, 181, 1, 85, 27, 172]
abbrev dktX0_wipe_0 : List UInt8 := dkwX0_wipe_0 ++ []
theorem dksX0_wipe_0 : cX0_wipe.data.toList.drop 0 = dktX0_wipe_0 := by decide +kernel
theorem dX0_wipe_0 : decode cX0_wipe 0 = .ok (.aload_n 0, 1) := dk_42 (dk_at dksX0_wipe_0 0 rfl rfl)
theorem dX0_wipe_1 : decode cX0_wipe 1 = .ok (.getfield 341, 3) := dk_180 1 85 (dk_at dksX0_wipe_0 1 rfl rfl)
theorem dX0_wipe_4 : decode cX0_wipe 4 = .ok (.istore_n 1, 1) := dk_60 (dk_at dksX0_wipe_0 4 rfl rfl)
theorem dX0_wipe_5 : decode cX0_wipe 5 = .ok (.aload_n 0, 1) := dk_42 (dk_at dksX0_wipe_0 5 rfl rfl)
theorem dX0_wipe_6 : decode cX0_wipe 6 = .ok (.iconst 0, 1) := dk_3 (dk_at dksX0_wipe_0 6 rfl rfl)
theorem dX0_wipe_7 : decode cX0_wipe 7 = .ok (.putfield 341, 3) := dk_181 1 85 (dk_at dksX0_wipe_0 7 rfl rfl)
theorem dX0_wipe_10 : decode cX0_wipe 10 = .ok (.iload_n 1, 1) := dk_27 (dk_at dksX0_wipe_0 10 rfl rfl)
theorem dX0_wipe_11 : decode cX0_wipe 11 = .ok (.ireturn, 1) := dk_172 (dk_at dksX0_wipe_0 11 rfl rfl)
abbrev cX0_text : ByteArray := prog_1_method_81_code
def yX0_text : MethodName := ⟨RX0, "text", "()I"⟩
def dkwX0_text_2 : List UInt8 := [180, 1, 94, 182, 0, 238, 27, 172, 76, 2, 42, 180, 0, 69, 180, 1, 102, 100, 172]
abbrev dktX0_text_2 : List UInt8 := dkwX0_text_2 ++ []
def dkwX0_text_1 : List UInt8 := [180, 0, 76, 182, 0, 238, 42, 180, 0, 69, 182, 1, 97, 60, 42, 180, 0, 76, 42, 180, 0, 69]
abbrev dktX0_text_1 : List UInt8 := dkwX0_text_1 ++ dktX0_text_2
def dkwX0_text_0 : List UInt8 := [42, 180, 0, 69, 42, 180, 1, 85, 181, 1, 92, 42, 3, 181, 1, 85, 42, 180, 0, 69, 180, 1, 94, 42]
abbrev dktX0_text_0 : List UInt8 := dkwX0_text_0 ++ dktX0_text_1
theorem dksX0_text_0 : cX0_text.data.toList.drop 0 = dktX0_text_0 := by decide +kernel
theorem dksX0_text_1 : cX0_text.data.toList.drop 24 = dktX0_text_1 := dk_seg dksX0_text_0 24 rfl rfl
theorem dksX0_text_2 : cX0_text.data.toList.drop 46 = dktX0_text_2 := dk_seg dksX0_text_1 22 rfl rfl
theorem dX0_text_0 : decode cX0_text 0 = .ok (.aload_n 0, 1) := dk_42 (dk_at dksX0_text_0 0 rfl rfl)
theorem dX0_text_1 : decode cX0_text 1 = .ok (.getfield 69, 3) := dk_180 0 69 (dk_at dksX0_text_0 1 rfl rfl)
theorem dX0_text_4 : decode cX0_text 4 = .ok (.aload_n 0, 1) := dk_42 (dk_at dksX0_text_0 4 rfl rfl)
theorem dX0_text_5 : decode cX0_text 5 = .ok (.getfield 341, 3) := dk_180 1 85 (dk_at dksX0_text_0 5 rfl rfl)
theorem dX0_text_8 : decode cX0_text 8 = .ok (.putfield 348, 3) := dk_181 1 92 (dk_at dksX0_text_0 8 rfl rfl)
theorem dX0_text_11 : decode cX0_text 11 = .ok (.aload_n 0, 1) := dk_42 (dk_at dksX0_text_0 11 rfl rfl)
theorem dX0_text_12 : decode cX0_text 12 = .ok (.iconst 0, 1) := dk_3 (dk_at dksX0_text_0 12 rfl rfl)
theorem dX0_text_13 : decode cX0_text 13 = .ok (.putfield 341, 3) := dk_181 1 85 (dk_at dksX0_text_0 13 rfl rfl)
theorem dX0_text_16 : decode cX0_text 16 = .ok (.aload_n 0, 1) := dk_42 (dk_at dksX0_text_0 16 rfl rfl)
theorem dX0_text_17 : decode cX0_text 17 = .ok (.getfield 69, 3) := dk_180 0 69 (dk_at dksX0_text_0 17 rfl rfl)
theorem dX0_text_20 : decode cX0_text 20 = .ok (.getfield 350, 3) := dk_180 1 94 (dk_at dksX0_text_0 20 rfl rfl)
theorem dX0_text_23 : decode cX0_text 23 = .ok (.aload_n 0, 1) := dk_42 (dk_at dksX0_text_0 23 rfl rfl)
theorem dX0_text_24 : decode cX0_text 24 = .ok (.getfield 76, 3) := dk_180 0 76 (dk_at dksX0_text_1 0 rfl rfl)
theorem dX0_text_27 : decode cX0_text 27 = .ok (.invokevirtual 238, 3) := dk_182 0 238 (dk_at dksX0_text_1 3 rfl rfl)
theorem dX0_text_30 : decode cX0_text 30 = .ok (.aload_n 0, 1) := dk_42 (dk_at dksX0_text_1 6 rfl rfl)
theorem dX0_text_31 : decode cX0_text 31 = .ok (.getfield 69, 3) := dk_180 0 69 (dk_at dksX0_text_1 7 rfl rfl)
theorem dX0_text_34 : decode cX0_text 34 = .ok (.invokevirtual 353, 3) := dk_182 1 97 (dk_at dksX0_text_1 10 rfl rfl)
theorem dX0_text_37 : decode cX0_text 37 = .ok (.istore_n 1, 1) := dk_60 (dk_at dksX0_text_1 13 rfl rfl)
theorem dX0_text_38 : decode cX0_text 38 = .ok (.aload_n 0, 1) := dk_42 (dk_at dksX0_text_1 14 rfl rfl)
theorem dX0_text_39 : decode cX0_text 39 = .ok (.getfield 76, 3) := dk_180 0 76 (dk_at dksX0_text_1 15 rfl rfl)
theorem dX0_text_42 : decode cX0_text 42 = .ok (.aload_n 0, 1) := dk_42 (dk_at dksX0_text_1 18 rfl rfl)
theorem dX0_text_43 : decode cX0_text 43 = .ok (.getfield 69, 3) := dk_180 0 69 (dk_at dksX0_text_1 19 rfl rfl)
theorem dX0_text_46 : decode cX0_text 46 = .ok (.getfield 350, 3) := dk_180 1 94 (dk_at dksX0_text_2 0 rfl rfl)
theorem dX0_text_49 : decode cX0_text 49 = .ok (.invokevirtual 238, 3) := dk_182 0 238 (dk_at dksX0_text_2 3 rfl rfl)
theorem dX0_text_52 : decode cX0_text 52 = .ok (.iload_n 1, 1) := dk_27 (dk_at dksX0_text_2 6 rfl rfl)
theorem dX0_text_53 : decode cX0_text 53 = .ok (.ireturn, 1) := dk_172 (dk_at dksX0_text_2 7 rfl rfl)
theorem dX0_text_54 : decode cX0_text 54 = .ok (.astore_n 1, 1) := dk_76 (dk_at dksX0_text_2 8 rfl rfl)
theorem dX0_text_55 : decode cX0_text 55 = .ok (.iconst (-1), 1) := dk_2 (dk_at dksX0_text_2 9 rfl rfl)
theorem dX0_text_56 : decode cX0_text 56 = .ok (.aload_n 0, 1) := dk_42 (dk_at dksX0_text_2 10 rfl rfl)
theorem dX0_text_57 : decode cX0_text 57 = .ok (.getfield 69, 3) := dk_180 0 69 (dk_at dksX0_text_2 11 rfl rfl)
theorem dX0_text_60 : decode cX0_text 60 = .ok (.getfield 358, 3) := dk_180 1 102 (dk_at dksX0_text_2 14 rfl rfl)
theorem dX0_text_63 : decode cX0_text 63 = .ok (.isub, 1) := dk_100 (dk_at dksX0_text_2 17 rfl rfl)
theorem dX0_text_64 : decode cX0_text 64 = .ok (.ireturn, 1) := dk_172 (dk_at dksX0_text_2 18 rfl rfl)
abbrev cX0_hold : ByteArray := prog_1_method_84_code
def yX0_hold : MethodName := ⟨RX0, "hold", "(II)I"⟩
def dkwX0_hold_1 : List UInt8 := [182, 0, 126, 172, 42, 180, 0, 76, 180, 1, 105, 27, 28, 79, 4, 172]
abbrev dktX0_hold_1 : List UInt8 := dkwX0_hold_1 ++ []
def dkwX0_hold_0 : List UInt8 := [27, 184, 1, 108, 153, 0, 16, 28, 2, 159, 0, 17, 42, 28, 182, 0, 175, 154, 0, 9, 42, 3]
abbrev dktX0_hold_0 : List UInt8 := dkwX0_hold_0 ++ dktX0_hold_1
theorem dksX0_hold_0 : cX0_hold.data.toList.drop 0 = dktX0_hold_0 := by decide +kernel
theorem dksX0_hold_1 : cX0_hold.data.toList.drop 22 = dktX0_hold_1 := dk_seg dksX0_hold_0 22 rfl rfl
theorem dX0_hold_0 : decode cX0_hold 0 = .ok (.iload_n 1, 1) := dk_27 (dk_at dksX0_hold_0 0 rfl rfl)
theorem dX0_hold_1 : decode cX0_hold 1 = .ok (.invokestatic 364, 3) := dk_184 1 108 (dk_at dksX0_hold_0 1 rfl rfl)
theorem dX0_hold_4 : decode cX0_hold 4 = .ok (.ifCond .eq 16, 3) := dk_153 0 16 (dk_at dksX0_hold_0 4 rfl rfl)
theorem dX0_hold_7 : decode cX0_hold 7 = .ok (.iload_n 2, 1) := dk_28 (dk_at dksX0_hold_0 7 rfl rfl)
theorem dX0_hold_8 : decode cX0_hold 8 = .ok (.iconst (-1), 1) := dk_2 (dk_at dksX0_hold_0 8 rfl rfl)
theorem dX0_hold_9 : decode cX0_hold 9 = .ok (.if_icmp .eq 17, 3) := dk_159 0 17 (dk_at dksX0_hold_0 9 rfl rfl)
theorem dX0_hold_12 : decode cX0_hold 12 = .ok (.aload_n 0, 1) := dk_42 (dk_at dksX0_hold_0 12 rfl rfl)
theorem dX0_hold_13 : decode cX0_hold 13 = .ok (.iload_n 2, 1) := dk_28 (dk_at dksX0_hold_0 13 rfl rfl)
theorem dX0_hold_14 : decode cX0_hold 14 = .ok (.invokevirtual 175, 3) := dk_182 0 175 (dk_at dksX0_hold_0 14 rfl rfl)
theorem dX0_hold_17 : decode cX0_hold 17 = .ok (.ifCond .ne 9, 3) := dk_154 0 9 (dk_at dksX0_hold_0 17 rfl rfl)
theorem dX0_hold_20 : decode cX0_hold 20 = .ok (.aload_n 0, 1) := dk_42 (dk_at dksX0_hold_0 20 rfl rfl)
theorem dX0_hold_21 : decode cX0_hold 21 = .ok (.iconst 0, 1) := dk_3 (dk_at dksX0_hold_0 21 rfl rfl)
theorem dX0_hold_22 : decode cX0_hold 22 = .ok (.invokevirtual 126, 3) := dk_182 0 126 (dk_at dksX0_hold_1 0 rfl rfl)
theorem dX0_hold_25 : decode cX0_hold 25 = .ok (.ireturn, 1) := dk_172 (dk_at dksX0_hold_1 3 rfl rfl)
theorem dX0_hold_26 : decode cX0_hold 26 = .ok (.aload_n 0, 1) := dk_42 (dk_at dksX0_hold_1 4 rfl rfl)
theorem dX0_hold_27 : decode cX0_hold 27 = .ok (.getfield 76, 3) := dk_180 0 76 (dk_at dksX0_hold_1 5 rfl rfl)
theorem dX0_hold_30 : decode cX0_hold 30 = .ok (.getfield 361, 3) := dk_180 1 105 (dk_at dksX0_hold_1 8 rfl rfl)
theorem dX0_hold_33 : decode cX0_hold 33 = .ok (.iload_n 1, 1) := dk_27 (dk_at dksX0_hold_1 11 rfl rfl)
theorem dX0_hold_34 : decode cX0_hold 34 = .ok (.iload_n 2, 1) := dk_28 (dk_at dksX0_hold_1 12 rfl rfl)
theorem dX0_hold_35 : decode cX0_hold 35 = .ok (.iastore, 1) := dk_79 (dk_at dksX0_hold_1 13 rfl rfl)
theorem dX0_hold_36 : decode cX0_hold 36 = .ok (.iconst 1, 1) := dk_4 (dk_at dksX0_hold_1 14 rfl rfl)
theorem dX0_hold_37 : decode cX0_hold 37 = .ok (.ireturn, 1) := dk_172 (dk_at dksX0_hold_1 15 rfl rfl)
abbrev cX0_isSpot : ByteArray := prog_1_method_5_code
def yX0_isSpot : MethodName := ⟨RX0, "isSpot", "(I)Z"⟩
def dkwX0_isSpot_0 : List UInt8 := [26, 3, 16, 9, 184, 0, 9, 172]
abbrev dktX0_isSpot_0 : List UInt8 := dkwX0_isSpot_0 ++ []
theorem dksX0_isSpot_0 : cX0_isSpot.data.toList.drop 0 = dktX0_isSpot_0 := by decide +kernel
theorem dX0_isSpot_0 : decode cX0_isSpot 0 = .ok (.iload_n 0, 1) := dk_26 (dk_at dksX0_isSpot_0 0 rfl rfl)
theorem dX0_isSpot_1 : decode cX0_isSpot 1 = .ok (.iconst 0, 1) := dk_3 (dk_at dksX0_isSpot_0 1 rfl rfl)
theorem dX0_isSpot_2 : decode cX0_isSpot 2 = .ok (.bipush 9, 2) := dk_16 9 (dk_at dksX0_isSpot_0 2 rfl rfl)
theorem dX0_isSpot_4 : decode cX0_isSpot 4 = .ok (.invokestatic 9, 3) := dk_184 0 9 (dk_at dksX0_isSpot_0 4 rfl rfl)
theorem dX0_isSpot_7 : decode cX0_isSpot 7 = .ok (.ireturn, 1) := dk_172 (dk_at dksX0_isSpot_0 7 rfl rfl)
abbrev cX0_as : ByteArray := prog_1_method_86_code
def yX0_as : MethodName := ⟨RX0, "as", "(II)I"⟩
def dkwX0_as_3 : List UInt8 := [184, 1, 117, 180, 1, 121, 167, 0, 8, 42, 5, 182, 0, 126, 172]
abbrev dktX0_as_3 : List UInt8 := dkwX0_as_3 ++ []
def dkwX0_as_2 : List UInt8 := [192, 0, 51, 28, 182, 1, 114, 153, 0, 7, 4, 167, 0, 4, 3, 54, 4, 21, 4, 153, 0, 14, 45, 28]
abbrev dktX0_as_2 : List UInt8 := dkwX0_as_2 ++ dktX0_as_3
def dkwX0_as_1 : List UInt8 := [182, 1, 111, 78, 45, 199, 0, 9, 42, 8, 182, 0, 126, 172, 45, 193, 0, 51, 153, 0, 18, 45]
abbrev dktX0_as_1 : List UInt8 := dkwX0_as_1 ++ dktX0_as_2
def dkwX0_as_0 : List UInt8 := [27, 184, 1, 108, 153, 0, 10, 28, 184, 0, 13, 154, 0, 9, 42, 3, 182, 0, 126, 172, 42, 27]
abbrev dktX0_as_0 : List UInt8 := dkwX0_as_0 ++ dktX0_as_1
theorem dksX0_as_0 : cX0_as.data.toList.drop 0 = dktX0_as_0 := by decide +kernel
theorem dksX0_as_1 : cX0_as.data.toList.drop 22 = dktX0_as_1 := dk_seg dksX0_as_0 22 rfl rfl
theorem dksX0_as_2 : cX0_as.data.toList.drop 44 = dktX0_as_2 := dk_seg dksX0_as_1 22 rfl rfl
theorem dksX0_as_3 : cX0_as.data.toList.drop 68 = dktX0_as_3 := dk_seg dksX0_as_2 24 rfl rfl
theorem dX0_as_0 : decode cX0_as 0 = .ok (.iload_n 1, 1) := dk_27 (dk_at dksX0_as_0 0 rfl rfl)
theorem dX0_as_1 : decode cX0_as 1 = .ok (.invokestatic 364, 3) := dk_184 1 108 (dk_at dksX0_as_0 1 rfl rfl)
theorem dX0_as_4 : decode cX0_as 4 = .ok (.ifCond .eq 10, 3) := dk_153 0 10 (dk_at dksX0_as_0 4 rfl rfl)
theorem dX0_as_7 : decode cX0_as 7 = .ok (.iload_n 2, 1) := dk_28 (dk_at dksX0_as_0 7 rfl rfl)
theorem dX0_as_8 : decode cX0_as 8 = .ok (.invokestatic 13, 3) := dk_184 0 13 (dk_at dksX0_as_0 8 rfl rfl)
theorem dX0_as_11 : decode cX0_as 11 = .ok (.ifCond .ne 9, 3) := dk_154 0 9 (dk_at dksX0_as_0 11 rfl rfl)
theorem dX0_as_14 : decode cX0_as 14 = .ok (.aload_n 0, 1) := dk_42 (dk_at dksX0_as_0 14 rfl rfl)
theorem dX0_as_15 : decode cX0_as 15 = .ok (.iconst 0, 1) := dk_3 (dk_at dksX0_as_0 15 rfl rfl)
theorem dX0_as_16 : decode cX0_as 16 = .ok (.invokevirtual 126, 3) := dk_182 0 126 (dk_at dksX0_as_0 16 rfl rfl)
theorem dX0_as_19 : decode cX0_as 19 = .ok (.ireturn, 1) := dk_172 (dk_at dksX0_as_0 19 rfl rfl)
theorem dX0_as_20 : decode cX0_as 20 = .ok (.aload_n 0, 1) := dk_42 (dk_at dksX0_as_0 20 rfl rfl)
theorem dX0_as_21 : decode cX0_as 21 = .ok (.iload_n 1, 1) := dk_27 (dk_at dksX0_as_0 21 rfl rfl)
theorem dX0_as_22 : decode cX0_as 22 = .ok (.invokevirtual 367, 3) := dk_182 1 111 (dk_at dksX0_as_1 0 rfl rfl)
theorem dX0_as_25 : decode cX0_as 25 = .ok (.astore_n 3, 1) := dk_78 (dk_at dksX0_as_1 3 rfl rfl)
theorem dX0_as_26 : decode cX0_as 26 = .ok (.aload_n 3, 1) := dk_45 (dk_at dksX0_as_1 4 rfl rfl)
theorem dX0_as_27 : decode cX0_as 27 = .ok (.ifnonnull 9, 3) := dk_199 0 9 (dk_at dksX0_as_1 5 rfl rfl)
theorem dX0_as_30 : decode cX0_as 30 = .ok (.aload_n 0, 1) := dk_42 (dk_at dksX0_as_1 8 rfl rfl)
theorem dX0_as_31 : decode cX0_as 31 = .ok (.iconst 5, 1) := dk_8 (dk_at dksX0_as_1 9 rfl rfl)
theorem dX0_as_32 : decode cX0_as 32 = .ok (.invokevirtual 126, 3) := dk_182 0 126 (dk_at dksX0_as_1 10 rfl rfl)
theorem dX0_as_35 : decode cX0_as 35 = .ok (.ireturn, 1) := dk_172 (dk_at dksX0_as_1 13 rfl rfl)
theorem dX0_as_36 : decode cX0_as 36 = .ok (.aload_n 3, 1) := dk_45 (dk_at dksX0_as_1 14 rfl rfl)
theorem dX0_as_37 : decode cX0_as 37 = .ok (.instanceof 51, 3) := dk_193 0 51 (dk_at dksX0_as_1 15 rfl rfl)
theorem dX0_as_40 : decode cX0_as 40 = .ok (.ifCond .eq 18, 3) := dk_153 0 18 (dk_at dksX0_as_1 18 rfl rfl)
theorem dX0_as_43 : decode cX0_as 43 = .ok (.aload_n 3, 1) := dk_45 (dk_at dksX0_as_1 21 rfl rfl)
theorem dX0_as_44 : decode cX0_as 44 = .ok (.checkcast 51, 3) := dk_192 0 51 (dk_at dksX0_as_2 0 rfl rfl)
theorem dX0_as_47 : decode cX0_as 47 = .ok (.iload_n 2, 1) := dk_28 (dk_at dksX0_as_2 3 rfl rfl)
theorem dX0_as_48 : decode cX0_as 48 = .ok (.invokevirtual 370, 3) := dk_182 1 114 (dk_at dksX0_as_2 4 rfl rfl)
theorem dX0_as_51 : decode cX0_as 51 = .ok (.ifCond .eq 7, 3) := dk_153 0 7 (dk_at dksX0_as_2 7 rfl rfl)
theorem dX0_as_54 : decode cX0_as 54 = .ok (.iconst 1, 1) := dk_4 (dk_at dksX0_as_2 10 rfl rfl)
theorem dX0_as_55 : decode cX0_as 55 = .ok (.goto 4, 3) := dk_167 0 4 (dk_at dksX0_as_2 11 rfl rfl)
theorem dX0_as_58 : decode cX0_as 58 = .ok (.iconst 0, 1) := dk_3 (dk_at dksX0_as_2 14 rfl rfl)
theorem dX0_as_59 : decode cX0_as 59 = .ok (.istore 4, 2) := dk_54 4 (dk_at dksX0_as_2 15 rfl rfl)
theorem dX0_as_61 : decode cX0_as 61 = .ok (.iload 4, 2) := dk_21 4 (dk_at dksX0_as_2 17 rfl rfl)
theorem dX0_as_63 : decode cX0_as 63 = .ok (.ifCond .eq 14, 3) := dk_153 0 14 (dk_at dksX0_as_2 19 rfl rfl)
theorem dX0_as_66 : decode cX0_as 66 = .ok (.aload_n 3, 1) := dk_45 (dk_at dksX0_as_2 22 rfl rfl)
theorem dX0_as_67 : decode cX0_as 67 = .ok (.iload_n 2, 1) := dk_28 (dk_at dksX0_as_2 23 rfl rfl)
theorem dX0_as_68 : decode cX0_as 68 = .ok (.invokestatic 373, 3) := dk_184 1 117 (dk_at dksX0_as_3 0 rfl rfl)
theorem dX0_as_71 : decode cX0_as 71 = .ok (.getfield 377, 3) := dk_180 1 121 (dk_at dksX0_as_3 3 rfl rfl)
theorem dX0_as_74 : decode cX0_as 74 = .ok (.goto 8, 3) := dk_167 0 8 (dk_at dksX0_as_3 6 rfl rfl)
theorem dX0_as_77 : decode cX0_as 77 = .ok (.aload_n 0, 1) := dk_42 (dk_at dksX0_as_3 9 rfl rfl)
theorem dX0_as_78 : decode cX0_as 78 = .ok (.iconst 2, 1) := dk_5 (dk_at dksX0_as_3 10 rfl rfl)
theorem dX0_as_79 : decode cX0_as 79 = .ok (.invokevirtual 126, 3) := dk_182 0 126 (dk_at dksX0_as_3 11 rfl rfl)
theorem dX0_as_82 : decode cX0_as 82 = .ok (.ireturn, 1) := dk_172 (dk_at dksX0_as_3 14 rfl rfl)
abbrev cX0_thingAt : ByteArray := prog_1_method_82_code
def yX0_thingAt : MethodName := ⟨RX0, "thingAt", "(I)Ljava/lang/Object;"⟩
def dkwX0_thingAt_1 : List UInt8 := [167, 0, 8, 42, 28, 182, 0, 131, 181, 0, 107, 42, 180, 0, 92, 27, 50, 180, 0, 107, 176]
abbrev dktX0_thingAt_1 : List UInt8 := dkwX0_thingAt_1 ++ []
def dkwX0_thingAt_0 : List UInt8 := [42, 180, 0, 76, 180, 1, 105, 27, 46, 61, 42, 180, 0, 92, 27, 50, 28, 2, 160, 0, 7, 1]
abbrev dktX0_thingAt_0 : List UInt8 := dkwX0_thingAt_0 ++ dktX0_thingAt_1
theorem dksX0_thingAt_0 : cX0_thingAt.data.toList.drop 0 = dktX0_thingAt_0 := by decide +kernel
theorem dksX0_thingAt_1 : cX0_thingAt.data.toList.drop 22 = dktX0_thingAt_1 := dk_seg dksX0_thingAt_0 22 rfl rfl
theorem dX0_thingAt_0 : decode cX0_thingAt 0 = .ok (.aload_n 0, 1) := dk_42 (dk_at dksX0_thingAt_0 0 rfl rfl)
theorem dX0_thingAt_1 : decode cX0_thingAt 1 = .ok (.getfield 76, 3) := dk_180 0 76 (dk_at dksX0_thingAt_0 1 rfl rfl)
theorem dX0_thingAt_4 : decode cX0_thingAt 4 = .ok (.getfield 361, 3) := dk_180 1 105 (dk_at dksX0_thingAt_0 4 rfl rfl)
theorem dX0_thingAt_7 : decode cX0_thingAt 7 = .ok (.iload_n 1, 1) := dk_27 (dk_at dksX0_thingAt_0 7 rfl rfl)
theorem dX0_thingAt_8 : decode cX0_thingAt 8 = .ok (.iaload, 1) := dk_46 (dk_at dksX0_thingAt_0 8 rfl rfl)
theorem dX0_thingAt_9 : decode cX0_thingAt 9 = .ok (.istore_n 2, 1) := dk_61 (dk_at dksX0_thingAt_0 9 rfl rfl)
theorem dX0_thingAt_10 : decode cX0_thingAt 10 = .ok (.aload_n 0, 1) := dk_42 (dk_at dksX0_thingAt_0 10 rfl rfl)
theorem dX0_thingAt_11 : decode cX0_thingAt 11 = .ok (.getfield 92, 3) := dk_180 0 92 (dk_at dksX0_thingAt_0 11 rfl rfl)
theorem dX0_thingAt_14 : decode cX0_thingAt 14 = .ok (.iload_n 1, 1) := dk_27 (dk_at dksX0_thingAt_0 14 rfl rfl)
theorem dX0_thingAt_15 : decode cX0_thingAt 15 = .ok (.aaload, 1) := dk_50 (dk_at dksX0_thingAt_0 15 rfl rfl)
theorem dX0_thingAt_16 : decode cX0_thingAt 16 = .ok (.iload_n 2, 1) := dk_28 (dk_at dksX0_thingAt_0 16 rfl rfl)
theorem dX0_thingAt_17 : decode cX0_thingAt 17 = .ok (.iconst (-1), 1) := dk_2 (dk_at dksX0_thingAt_0 17 rfl rfl)
theorem dX0_thingAt_18 : decode cX0_thingAt 18 = .ok (.if_icmp .ne 7, 3) := dk_160 0 7 (dk_at dksX0_thingAt_0 18 rfl rfl)
theorem dX0_thingAt_21 : decode cX0_thingAt 21 = .ok (.aconst_null, 1) := dk_1 (dk_at dksX0_thingAt_0 21 rfl rfl)
theorem dX0_thingAt_22 : decode cX0_thingAt 22 = .ok (.goto 8, 3) := dk_167 0 8 (dk_at dksX0_thingAt_1 0 rfl rfl)
theorem dX0_thingAt_25 : decode cX0_thingAt 25 = .ok (.aload_n 0, 1) := dk_42 (dk_at dksX0_thingAt_1 3 rfl rfl)
theorem dX0_thingAt_26 : decode cX0_thingAt 26 = .ok (.iload_n 2, 1) := dk_28 (dk_at dksX0_thingAt_1 4 rfl rfl)
theorem dX0_thingAt_27 : decode cX0_thingAt 27 = .ok (.invokevirtual 131, 3) := dk_182 0 131 (dk_at dksX0_thingAt_1 5 rfl rfl)
theorem dX0_thingAt_30 : decode cX0_thingAt 30 = .ok (.putfield 107, 3) := dk_181 0 107 (dk_at dksX0_thingAt_1 8 rfl rfl)
theorem dX0_thingAt_33 : decode cX0_thingAt 33 = .ok (.aload_n 0, 1) := dk_42 (dk_at dksX0_thingAt_1 11 rfl rfl)
theorem dX0_thingAt_34 : decode cX0_thingAt 34 = .ok (.getfield 92, 3) := dk_180 0 92 (dk_at dksX0_thingAt_1 12 rfl rfl)
theorem dX0_thingAt_37 : decode cX0_thingAt 37 = .ok (.iload_n 1, 1) := dk_27 (dk_at dksX0_thingAt_1 15 rfl rfl)
theorem dX0_thingAt_38 : decode cX0_thingAt 38 = .ok (.aaload, 1) := dk_50 (dk_at dksX0_thingAt_1 16 rfl rfl)
theorem dX0_thingAt_39 : decode cX0_thingAt 39 = .ok (.getfield 107, 3) := dk_180 0 107 (dk_at dksX0_thingAt_1 17 rfl rfl)
theorem dX0_thingAt_42 : decode cX0_thingAt 42 = .ok (.areturn, 1) := dk_176 (dk_at dksX0_thingAt_1 20 rfl rfl)
abbrev cX0_cast : ByteArray := prog_1_method_85_code
def yX0_cast : MethodName := ⟨RX0, "cast", "(Ljava/lang/Object;I)LLineCalls$Jumper;"⟩
def dkwX0_cast_3 : List UInt8 := [176, 42, 192, 0, 48, 176, 42, 192, 0, 51, 176]
abbrev dktX0_cast_3 : List UInt8 := dkwX0_cast_3 ++ []
def dkwX0_cast_2 : List UInt8 := [42, 192, 0, 30, 176, 42, 192, 0, 36, 176, 42, 192, 0, 39, 176, 42, 192, 0, 42, 176, 42, 192, 0, 45]
abbrev dktX0_cast_2 : List UInt8 := dkwX0_cast_2 ++ dktX0_cast_3
def dkwX0_cast_1 : List UInt8 := [170, 0, 0, 0, 0, 0, 69, 0, 0, 0, 1, 0, 0, 0, 6, 0, 0, 0, 39, 0, 0, 0, 44, 0, 0, 0, 49, 0, 0, 0, 54, 0, 0, 0, 59, 0, 0, 0, 64]
abbrev dktX0_cast_1 : List UInt8 := dkwX0_cast_1 ++ dktX0_cast_2
def dkwX0_cast_0 : List UInt8 := [27]
abbrev dktX0_cast_0 : List UInt8 := dkwX0_cast_0 ++ dktX0_cast_1
theorem dksX0_cast_0 : cX0_cast.data.toList.drop 0 = dktX0_cast_0 := by decide +kernel
theorem dksX0_cast_1 : cX0_cast.data.toList.drop 1 = dktX0_cast_1 := dk_seg dksX0_cast_0 1 rfl rfl
theorem dksX0_cast_2 : cX0_cast.data.toList.drop 40 = dktX0_cast_2 := dk_seg dksX0_cast_1 39 rfl rfl
theorem dksX0_cast_3 : cX0_cast.data.toList.drop 64 = dktX0_cast_3 := dk_seg dksX0_cast_2 24 rfl rfl
theorem dX0_cast_0 : decode cX0_cast 0 = .ok (.iload_n 1, 1) := dk_27 (dk_at dksX0_cast_0 0 rfl rfl)
theorem dX0_cast_1 : decode cX0_cast 1 = .ok (.tableswitch 69 1 6 #[39, 44, 49, 54, 59, 64], 39) := by decide +kernel
theorem dX0_cast_40 : decode cX0_cast 40 = .ok (.aload_n 0, 1) := dk_42 (dk_at dksX0_cast_2 0 rfl rfl)
theorem dX0_cast_41 : decode cX0_cast 41 = .ok (.checkcast 30, 3) := dk_192 0 30 (dk_at dksX0_cast_2 1 rfl rfl)
theorem dX0_cast_44 : decode cX0_cast 44 = .ok (.areturn, 1) := dk_176 (dk_at dksX0_cast_2 4 rfl rfl)
theorem dX0_cast_45 : decode cX0_cast 45 = .ok (.aload_n 0, 1) := dk_42 (dk_at dksX0_cast_2 5 rfl rfl)
theorem dX0_cast_46 : decode cX0_cast 46 = .ok (.checkcast 36, 3) := dk_192 0 36 (dk_at dksX0_cast_2 6 rfl rfl)
theorem dX0_cast_49 : decode cX0_cast 49 = .ok (.areturn, 1) := dk_176 (dk_at dksX0_cast_2 9 rfl rfl)
theorem dX0_cast_50 : decode cX0_cast 50 = .ok (.aload_n 0, 1) := dk_42 (dk_at dksX0_cast_2 10 rfl rfl)
theorem dX0_cast_51 : decode cX0_cast 51 = .ok (.checkcast 39, 3) := dk_192 0 39 (dk_at dksX0_cast_2 11 rfl rfl)
theorem dX0_cast_54 : decode cX0_cast 54 = .ok (.areturn, 1) := dk_176 (dk_at dksX0_cast_2 14 rfl rfl)
theorem dX0_cast_55 : decode cX0_cast 55 = .ok (.aload_n 0, 1) := dk_42 (dk_at dksX0_cast_2 15 rfl rfl)
theorem dX0_cast_56 : decode cX0_cast 56 = .ok (.checkcast 42, 3) := dk_192 0 42 (dk_at dksX0_cast_2 16 rfl rfl)
theorem dX0_cast_59 : decode cX0_cast 59 = .ok (.areturn, 1) := dk_176 (dk_at dksX0_cast_2 19 rfl rfl)
theorem dX0_cast_60 : decode cX0_cast 60 = .ok (.aload_n 0, 1) := dk_42 (dk_at dksX0_cast_2 20 rfl rfl)
theorem dX0_cast_61 : decode cX0_cast 61 = .ok (.checkcast 45, 3) := dk_192 0 45 (dk_at dksX0_cast_2 21 rfl rfl)
theorem dX0_cast_64 : decode cX0_cast 64 = .ok (.areturn, 1) := dk_176 (dk_at dksX0_cast_3 0 rfl rfl)
theorem dX0_cast_65 : decode cX0_cast 65 = .ok (.aload_n 0, 1) := dk_42 (dk_at dksX0_cast_3 1 rfl rfl)
theorem dX0_cast_66 : decode cX0_cast 66 = .ok (.checkcast 48, 3) := dk_192 0 48 (dk_at dksX0_cast_3 2 rfl rfl)
theorem dX0_cast_69 : decode cX0_cast 69 = .ok (.areturn, 1) := dk_176 (dk_at dksX0_cast_3 5 rfl rfl)
theorem dX0_cast_70 : decode cX0_cast 70 = .ok (.aload_n 0, 1) := dk_42 (dk_at dksX0_cast_3 6 rfl rfl)
theorem dX0_cast_71 : decode cX0_cast 71 = .ok (.checkcast 51, 3) := dk_192 0 51 (dk_at dksX0_cast_3 7 rfl rfl)
theorem dX0_cast_74 : decode cX0_cast 74 = .ok (.areturn, 1) := dk_176 (dk_at dksX0_cast_3 10 rfl rfl)
abbrev cX0_sheet : ByteArray := prog_1_method_87_code
def yX0_sheet : MethodName := ⟨RX0, "sheet", "(III)I"⟩
def dkwX0_sheet_4 : List UInt8 := [167, 0, 6, 29, 188, 10, 181, 0, 107, 28, 154, 0, 7, 3, 167, 0, 4, 29, 172]
abbrev dktX0_sheet_4 : List UInt8 := dkwX0_sheet_4 ++ []
def dkwX0_sheet_3 : List UInt8 := [167, 0, 30, 28, 16, 8, 160, 0, 9, 29, 188, 8, 167, 0, 18, 28, 16, 16, 160, 0, 9, 29, 188, 9]
abbrev dktX0_sheet_3 : List UInt8 := dkwX0_sheet_3 ++ dktX0_sheet_4
def dkwX0_sheet_2 : List UInt8 := [156, 0, 8, 16, 6, 167, 0, 4, 3, 182, 0, 126, 172, 42, 180, 0, 95, 27, 50, 28, 154, 0, 7, 1]
abbrev dktX0_sheet_2 : List UInt8 := dkwX0_sheet_2 ++ dktX0_sheet_3
def dkwX0_sheet_1 : List UInt8 := [16, 32, 159, 0, 9, 42, 3, 182, 0, 126, 172, 29, 155, 0, 9, 29, 16, 40, 164, 0, 18, 42, 29]
abbrev dktX0_sheet_1 : List UInt8 := dkwX0_sheet_1 ++ dktX0_sheet_2
def dkwX0_sheet_0 : List UInt8 := [27, 184, 1, 123, 153, 0, 25, 28, 153, 0, 27, 28, 16, 8, 159, 0, 21, 28, 16, 16, 159, 0, 15, 28]
abbrev dktX0_sheet_0 : List UInt8 := dkwX0_sheet_0 ++ dktX0_sheet_1
theorem dksX0_sheet_0 : cX0_sheet.data.toList.drop 0 = dktX0_sheet_0 := by decide +kernel
theorem dksX0_sheet_1 : cX0_sheet.data.toList.drop 24 = dktX0_sheet_1 := dk_seg dksX0_sheet_0 24 rfl rfl
theorem dksX0_sheet_2 : cX0_sheet.data.toList.drop 47 = dktX0_sheet_2 := dk_seg dksX0_sheet_1 23 rfl rfl
theorem dksX0_sheet_3 : cX0_sheet.data.toList.drop 71 = dktX0_sheet_3 := dk_seg dksX0_sheet_2 24 rfl rfl
theorem dksX0_sheet_4 : cX0_sheet.data.toList.drop 95 = dktX0_sheet_4 := dk_seg dksX0_sheet_3 24 rfl rfl
theorem dX0_sheet_0 : decode cX0_sheet 0 = .ok (.iload_n 1, 1) := dk_27 (dk_at dksX0_sheet_0 0 rfl rfl)
theorem dX0_sheet_1 : decode cX0_sheet 1 = .ok (.invokestatic 379, 3) := dk_184 1 123 (dk_at dksX0_sheet_0 1 rfl rfl)
theorem dX0_sheet_4 : decode cX0_sheet 4 = .ok (.ifCond .eq 25, 3) := dk_153 0 25 (dk_at dksX0_sheet_0 4 rfl rfl)
theorem dX0_sheet_7 : decode cX0_sheet 7 = .ok (.iload_n 2, 1) := dk_28 (dk_at dksX0_sheet_0 7 rfl rfl)
theorem dX0_sheet_8 : decode cX0_sheet 8 = .ok (.ifCond .eq 27, 3) := dk_153 0 27 (dk_at dksX0_sheet_0 8 rfl rfl)
theorem dX0_sheet_11 : decode cX0_sheet 11 = .ok (.iload_n 2, 1) := dk_28 (dk_at dksX0_sheet_0 11 rfl rfl)
theorem dX0_sheet_12 : decode cX0_sheet 12 = .ok (.bipush 8, 2) := dk_16 8 (dk_at dksX0_sheet_0 12 rfl rfl)
theorem dX0_sheet_14 : decode cX0_sheet 14 = .ok (.if_icmp .eq 21, 3) := dk_159 0 21 (dk_at dksX0_sheet_0 14 rfl rfl)
theorem dX0_sheet_17 : decode cX0_sheet 17 = .ok (.iload_n 2, 1) := dk_28 (dk_at dksX0_sheet_0 17 rfl rfl)
theorem dX0_sheet_18 : decode cX0_sheet 18 = .ok (.bipush 16, 2) := dk_16 16 (dk_at dksX0_sheet_0 18 rfl rfl)
theorem dX0_sheet_20 : decode cX0_sheet 20 = .ok (.if_icmp .eq 15, 3) := dk_159 0 15 (dk_at dksX0_sheet_0 20 rfl rfl)
theorem dX0_sheet_23 : decode cX0_sheet 23 = .ok (.iload_n 2, 1) := dk_28 (dk_at dksX0_sheet_0 23 rfl rfl)
theorem dX0_sheet_24 : decode cX0_sheet 24 = .ok (.bipush 32, 2) := dk_16 32 (dk_at dksX0_sheet_1 0 rfl rfl)
theorem dX0_sheet_26 : decode cX0_sheet 26 = .ok (.if_icmp .eq 9, 3) := dk_159 0 9 (dk_at dksX0_sheet_1 2 rfl rfl)
theorem dX0_sheet_29 : decode cX0_sheet 29 = .ok (.aload_n 0, 1) := dk_42 (dk_at dksX0_sheet_1 5 rfl rfl)
theorem dX0_sheet_30 : decode cX0_sheet 30 = .ok (.iconst 0, 1) := dk_3 (dk_at dksX0_sheet_1 6 rfl rfl)
theorem dX0_sheet_31 : decode cX0_sheet 31 = .ok (.invokevirtual 126, 3) := dk_182 0 126 (dk_at dksX0_sheet_1 7 rfl rfl)
theorem dX0_sheet_34 : decode cX0_sheet 34 = .ok (.ireturn, 1) := dk_172 (dk_at dksX0_sheet_1 10 rfl rfl)
theorem dX0_sheet_35 : decode cX0_sheet 35 = .ok (.iload_n 3, 1) := dk_29 (dk_at dksX0_sheet_1 11 rfl rfl)
theorem dX0_sheet_36 : decode cX0_sheet 36 = .ok (.ifCond .lt 9, 3) := dk_155 0 9 (dk_at dksX0_sheet_1 12 rfl rfl)
theorem dX0_sheet_39 : decode cX0_sheet 39 = .ok (.iload_n 3, 1) := dk_29 (dk_at dksX0_sheet_1 15 rfl rfl)
theorem dX0_sheet_40 : decode cX0_sheet 40 = .ok (.bipush 40, 2) := dk_16 40 (dk_at dksX0_sheet_1 16 rfl rfl)
theorem dX0_sheet_42 : decode cX0_sheet 42 = .ok (.if_icmp .le 18, 3) := dk_164 0 18 (dk_at dksX0_sheet_1 18 rfl rfl)
theorem dX0_sheet_45 : decode cX0_sheet 45 = .ok (.aload_n 0, 1) := dk_42 (dk_at dksX0_sheet_1 21 rfl rfl)
theorem dX0_sheet_46 : decode cX0_sheet 46 = .ok (.iload_n 3, 1) := dk_29 (dk_at dksX0_sheet_1 22 rfl rfl)
theorem dX0_sheet_47 : decode cX0_sheet 47 = .ok (.ifCond .ge 8, 3) := dk_156 0 8 (dk_at dksX0_sheet_2 0 rfl rfl)
theorem dX0_sheet_50 : decode cX0_sheet 50 = .ok (.bipush 6, 2) := dk_16 6 (dk_at dksX0_sheet_2 3 rfl rfl)
theorem dX0_sheet_52 : decode cX0_sheet 52 = .ok (.goto 4, 3) := dk_167 0 4 (dk_at dksX0_sheet_2 5 rfl rfl)
theorem dX0_sheet_55 : decode cX0_sheet 55 = .ok (.iconst 0, 1) := dk_3 (dk_at dksX0_sheet_2 8 rfl rfl)
theorem dX0_sheet_56 : decode cX0_sheet 56 = .ok (.invokevirtual 126, 3) := dk_182 0 126 (dk_at dksX0_sheet_2 9 rfl rfl)
theorem dX0_sheet_59 : decode cX0_sheet 59 = .ok (.ireturn, 1) := dk_172 (dk_at dksX0_sheet_2 12 rfl rfl)
theorem dX0_sheet_60 : decode cX0_sheet 60 = .ok (.aload_n 0, 1) := dk_42 (dk_at dksX0_sheet_2 13 rfl rfl)
theorem dX0_sheet_61 : decode cX0_sheet 61 = .ok (.getfield 95, 3) := dk_180 0 95 (dk_at dksX0_sheet_2 14 rfl rfl)
theorem dX0_sheet_64 : decode cX0_sheet 64 = .ok (.iload_n 1, 1) := dk_27 (dk_at dksX0_sheet_2 17 rfl rfl)
theorem dX0_sheet_65 : decode cX0_sheet 65 = .ok (.aaload, 1) := dk_50 (dk_at dksX0_sheet_2 18 rfl rfl)
theorem dX0_sheet_66 : decode cX0_sheet 66 = .ok (.iload_n 2, 1) := dk_28 (dk_at dksX0_sheet_2 19 rfl rfl)
theorem dX0_sheet_67 : decode cX0_sheet 67 = .ok (.ifCond .ne 7, 3) := dk_154 0 7 (dk_at dksX0_sheet_2 20 rfl rfl)
theorem dX0_sheet_70 : decode cX0_sheet 70 = .ok (.aconst_null, 1) := dk_1 (dk_at dksX0_sheet_2 23 rfl rfl)
theorem dX0_sheet_71 : decode cX0_sheet 71 = .ok (.goto 30, 3) := dk_167 0 30 (dk_at dksX0_sheet_3 0 rfl rfl)
theorem dX0_sheet_74 : decode cX0_sheet 74 = .ok (.iload_n 2, 1) := dk_28 (dk_at dksX0_sheet_3 3 rfl rfl)
theorem dX0_sheet_75 : decode cX0_sheet 75 = .ok (.bipush 8, 2) := dk_16 8 (dk_at dksX0_sheet_3 4 rfl rfl)
theorem dX0_sheet_77 : decode cX0_sheet 77 = .ok (.if_icmp .ne 9, 3) := dk_160 0 9 (dk_at dksX0_sheet_3 6 rfl rfl)
theorem dX0_sheet_80 : decode cX0_sheet 80 = .ok (.iload_n 3, 1) := dk_29 (dk_at dksX0_sheet_3 9 rfl rfl)
theorem dX0_sheet_81 : decode cX0_sheet 81 = .ok (.newarray .byte, 2) := dk_188_8 (dk_at dksX0_sheet_3 10 rfl rfl)
theorem dX0_sheet_83 : decode cX0_sheet 83 = .ok (.goto 18, 3) := dk_167 0 18 (dk_at dksX0_sheet_3 12 rfl rfl)
theorem dX0_sheet_86 : decode cX0_sheet 86 = .ok (.iload_n 2, 1) := dk_28 (dk_at dksX0_sheet_3 15 rfl rfl)
theorem dX0_sheet_87 : decode cX0_sheet 87 = .ok (.bipush 16, 2) := dk_16 16 (dk_at dksX0_sheet_3 16 rfl rfl)
theorem dX0_sheet_89 : decode cX0_sheet 89 = .ok (.if_icmp .ne 9, 3) := dk_160 0 9 (dk_at dksX0_sheet_3 18 rfl rfl)
theorem dX0_sheet_92 : decode cX0_sheet 92 = .ok (.iload_n 3, 1) := dk_29 (dk_at dksX0_sheet_3 21 rfl rfl)
theorem dX0_sheet_93 : decode cX0_sheet 93 = .ok (.newarray .short, 2) := dk_188_9 (dk_at dksX0_sheet_3 22 rfl rfl)
theorem dX0_sheet_95 : decode cX0_sheet 95 = .ok (.goto 6, 3) := dk_167 0 6 (dk_at dksX0_sheet_4 0 rfl rfl)
theorem dX0_sheet_98 : decode cX0_sheet 98 = .ok (.iload_n 3, 1) := dk_29 (dk_at dksX0_sheet_4 3 rfl rfl)
theorem dX0_sheet_99 : decode cX0_sheet 99 = .ok (.newarray .int, 2) := dk_188_10 (dk_at dksX0_sheet_4 4 rfl rfl)
theorem dX0_sheet_101 : decode cX0_sheet 101 = .ok (.putfield 107, 3) := dk_181 0 107 (dk_at dksX0_sheet_4 6 rfl rfl)
theorem dX0_sheet_104 : decode cX0_sheet 104 = .ok (.iload_n 2, 1) := dk_28 (dk_at dksX0_sheet_4 9 rfl rfl)
theorem dX0_sheet_105 : decode cX0_sheet 105 = .ok (.ifCond .ne 7, 3) := dk_154 0 7 (dk_at dksX0_sheet_4 10 rfl rfl)
theorem dX0_sheet_108 : decode cX0_sheet 108 = .ok (.iconst 0, 1) := dk_3 (dk_at dksX0_sheet_4 13 rfl rfl)
theorem dX0_sheet_109 : decode cX0_sheet 109 = .ok (.goto 4, 3) := dk_167 0 4 (dk_at dksX0_sheet_4 14 rfl rfl)
theorem dX0_sheet_112 : decode cX0_sheet 112 = .ok (.iload_n 3, 1) := dk_29 (dk_at dksX0_sheet_4 17 rfl rfl)
theorem dX0_sheet_113 : decode cX0_sheet 113 = .ok (.ireturn, 1) := dk_172 (dk_at dksX0_sheet_4 18 rfl rfl)
abbrev cX0_write : ByteArray := prog_1_method_93_code
def yX0_write : MethodName := ⟨RX0, "write", "(III)I"⟩
def dkwX0_write_2 : List UInt8 := [58, 4, 42, 25, 4, 180, 0, 116, 182, 0, 126, 172]
abbrev dktX0_write_2 : List UInt8 := dkwX0_write_2 ++ []
def dkwX0_write_1 : List UInt8 := [3, 25, 4, 184, 1, 34, 4, 100, 184, 0, 9, 3, 182, 1, 50, 25, 4, 28, 29, 184, 1, 130, 4, 172]
abbrev dktX0_write_1 : List UInt8 := dkwX0_write_1 ++ dktX0_write_2
def dkwX0_write_0 : List UInt8 := [42, 27, 182, 1, 46, 58, 4, 42, 25, 4, 198, 0, 7, 4, 167, 0, 4, 3, 8, 182, 1, 50, 42, 28]
abbrev dktX0_write_0 : List UInt8 := dkwX0_write_0 ++ dktX0_write_1
theorem dksX0_write_0 : cX0_write.data.toList.drop 0 = dktX0_write_0 := by decide +kernel
theorem dksX0_write_1 : cX0_write.data.toList.drop 24 = dktX0_write_1 := dk_seg dksX0_write_0 24 rfl rfl
theorem dksX0_write_2 : cX0_write.data.toList.drop 48 = dktX0_write_2 := dk_seg dksX0_write_1 24 rfl rfl
theorem dX0_write_0 : decode cX0_write 0 = .ok (.aload_n 0, 1) := dk_42 (dk_at dksX0_write_0 0 rfl rfl)
theorem dX0_write_1 : decode cX0_write 1 = .ok (.iload_n 1, 1) := dk_27 (dk_at dksX0_write_0 1 rfl rfl)
theorem dX0_write_2 : decode cX0_write 2 = .ok (.invokevirtual 302, 3) := dk_182 1 46 (dk_at dksX0_write_0 2 rfl rfl)
theorem dX0_write_5 : decode cX0_write 5 = .ok (.astore 4, 2) := dk_58 4 (dk_at dksX0_write_0 5 rfl rfl)
theorem dX0_write_7 : decode cX0_write 7 = .ok (.aload_n 0, 1) := dk_42 (dk_at dksX0_write_0 7 rfl rfl)
theorem dX0_write_8 : decode cX0_write 8 = .ok (.aload 4, 2) := dk_25 4 (dk_at dksX0_write_0 8 rfl rfl)
theorem dX0_write_10 : decode cX0_write 10 = .ok (.ifnull 7, 3) := dk_198 0 7 (dk_at dksX0_write_0 10 rfl rfl)
theorem dX0_write_13 : decode cX0_write 13 = .ok (.iconst 1, 1) := dk_4 (dk_at dksX0_write_0 13 rfl rfl)
theorem dX0_write_14 : decode cX0_write 14 = .ok (.goto 4, 3) := dk_167 0 4 (dk_at dksX0_write_0 14 rfl rfl)
theorem dX0_write_17 : decode cX0_write 17 = .ok (.iconst 0, 1) := dk_3 (dk_at dksX0_write_0 17 rfl rfl)
theorem dX0_write_18 : decode cX0_write 18 = .ok (.iconst 5, 1) := dk_8 (dk_at dksX0_write_0 18 rfl rfl)
theorem dX0_write_19 : decode cX0_write 19 = .ok (.invokevirtual 306, 3) := dk_182 1 50 (dk_at dksX0_write_0 19 rfl rfl)
theorem dX0_write_22 : decode cX0_write 22 = .ok (.aload_n 0, 1) := dk_42 (dk_at dksX0_write_0 22 rfl rfl)
theorem dX0_write_23 : decode cX0_write 23 = .ok (.iload_n 2, 1) := dk_28 (dk_at dksX0_write_0 23 rfl rfl)
theorem dX0_write_24 : decode cX0_write 24 = .ok (.iconst 0, 1) := dk_3 (dk_at dksX0_write_1 0 rfl rfl)
theorem dX0_write_25 : decode cX0_write 25 = .ok (.aload 4, 2) := dk_25 4 (dk_at dksX0_write_1 1 rfl rfl)
theorem dX0_write_27 : decode cX0_write 27 = .ok (.invokestatic 290, 3) := dk_184 1 34 (dk_at dksX0_write_1 3 rfl rfl)
theorem dX0_write_30 : decode cX0_write 30 = .ok (.iconst 1, 1) := dk_4 (dk_at dksX0_write_1 6 rfl rfl)
theorem dX0_write_31 : decode cX0_write 31 = .ok (.isub, 1) := dk_100 (dk_at dksX0_write_1 7 rfl rfl)
theorem dX0_write_32 : decode cX0_write 32 = .ok (.invokestatic 9, 3) := dk_184 0 9 (dk_at dksX0_write_1 8 rfl rfl)
theorem dX0_write_35 : decode cX0_write 35 = .ok (.iconst 0, 1) := dk_3 (dk_at dksX0_write_1 11 rfl rfl)
theorem dX0_write_36 : decode cX0_write 36 = .ok (.invokevirtual 306, 3) := dk_182 1 50 (dk_at dksX0_write_1 12 rfl rfl)
theorem dX0_write_39 : decode cX0_write 39 = .ok (.aload 4, 2) := dk_25 4 (dk_at dksX0_write_1 15 rfl rfl)
theorem dX0_write_41 : decode cX0_write 41 = .ok (.iload_n 2, 1) := dk_28 (dk_at dksX0_write_1 17 rfl rfl)
theorem dX0_write_42 : decode cX0_write 42 = .ok (.iload_n 3, 1) := dk_29 (dk_at dksX0_write_1 18 rfl rfl)
theorem dX0_write_43 : decode cX0_write 43 = .ok (.invokestatic 386, 3) := dk_184 1 130 (dk_at dksX0_write_1 19 rfl rfl)
theorem dX0_write_46 : decode cX0_write 46 = .ok (.iconst 1, 1) := dk_4 (dk_at dksX0_write_1 22 rfl rfl)
theorem dX0_write_47 : decode cX0_write 47 = .ok (.ireturn, 1) := dk_172 (dk_at dksX0_write_1 23 rfl rfl)
theorem dX0_write_48 : decode cX0_write 48 = .ok (.astore 4, 2) := dk_58 4 (dk_at dksX0_write_2 0 rfl rfl)
theorem dX0_write_50 : decode cX0_write 50 = .ok (.aload_n 0, 1) := dk_42 (dk_at dksX0_write_2 2 rfl rfl)
theorem dX0_write_51 : decode cX0_write 51 = .ok (.aload 4, 2) := dk_25 4 (dk_at dksX0_write_2 3 rfl rfl)
theorem dX0_write_53 : decode cX0_write 53 = .ok (.getfield 116, 3) := dk_180 0 116 (dk_at dksX0_write_2 5 rfl rfl)
theorem dX0_write_56 : decode cX0_write 56 = .ok (.invokevirtual 126, 3) := dk_182 0 126 (dk_at dksX0_write_2 8 rfl rfl)
theorem dX0_write_59 : decode cX0_write 59 = .ok (.ireturn, 1) := dk_172 (dk_at dksX0_write_2 11 rfl rfl)
abbrev cX0_lay : ByteArray := prog_1_method_92_code
def yX0_lay : MethodName := ⟨RX0, "lay", "(Ljava/lang/Object;II)V"⟩
def dkwX0_lay_1 : List UInt8 := [153, 0, 14, 42, 192, 1, 127, 27, 28, 147, 86, 167, 0, 10, 42, 192, 1, 129, 27, 28, 79, 177]
abbrev dktX0_lay_1 : List UInt8 := dkwX0_lay_1 ++ []
def dkwX0_lay_0 : List UInt8 := [42, 193, 1, 126, 153, 0, 14, 42, 192, 1, 126, 27, 28, 145, 84, 167, 0, 28, 42, 193, 1, 127]
abbrev dktX0_lay_0 : List UInt8 := dkwX0_lay_0 ++ dktX0_lay_1
theorem dksX0_lay_0 : cX0_lay.data.toList.drop 0 = dktX0_lay_0 := by decide +kernel
theorem dksX0_lay_1 : cX0_lay.data.toList.drop 22 = dktX0_lay_1 := dk_seg dksX0_lay_0 22 rfl rfl
theorem dX0_lay_0 : decode cX0_lay 0 = .ok (.aload_n 0, 1) := dk_42 (dk_at dksX0_lay_0 0 rfl rfl)
theorem dX0_lay_1 : decode cX0_lay 1 = .ok (.instanceof 382, 3) := dk_193 1 126 (dk_at dksX0_lay_0 1 rfl rfl)
theorem dX0_lay_4 : decode cX0_lay 4 = .ok (.ifCond .eq 14, 3) := dk_153 0 14 (dk_at dksX0_lay_0 4 rfl rfl)
theorem dX0_lay_7 : decode cX0_lay 7 = .ok (.aload_n 0, 1) := dk_42 (dk_at dksX0_lay_0 7 rfl rfl)
theorem dX0_lay_8 : decode cX0_lay 8 = .ok (.checkcast 382, 3) := dk_192 1 126 (dk_at dksX0_lay_0 8 rfl rfl)
theorem dX0_lay_11 : decode cX0_lay 11 = .ok (.iload_n 1, 1) := dk_27 (dk_at dksX0_lay_0 11 rfl rfl)
theorem dX0_lay_12 : decode cX0_lay 12 = .ok (.iload_n 2, 1) := dk_28 (dk_at dksX0_lay_0 12 rfl rfl)
theorem dX0_lay_13 : decode cX0_lay 13 = .ok (.i2b, 1) := dk_145 (dk_at dksX0_lay_0 13 rfl rfl)
theorem dX0_lay_14 : decode cX0_lay 14 = .ok (.bastore, 1) := dk_84 (dk_at dksX0_lay_0 14 rfl rfl)
theorem dX0_lay_15 : decode cX0_lay 15 = .ok (.goto 28, 3) := dk_167 0 28 (dk_at dksX0_lay_0 15 rfl rfl)
theorem dX0_lay_18 : decode cX0_lay 18 = .ok (.aload_n 0, 1) := dk_42 (dk_at dksX0_lay_0 18 rfl rfl)
theorem dX0_lay_19 : decode cX0_lay 19 = .ok (.instanceof 383, 3) := dk_193 1 127 (dk_at dksX0_lay_0 19 rfl rfl)
theorem dX0_lay_22 : decode cX0_lay 22 = .ok (.ifCond .eq 14, 3) := dk_153 0 14 (dk_at dksX0_lay_1 0 rfl rfl)
theorem dX0_lay_25 : decode cX0_lay 25 = .ok (.aload_n 0, 1) := dk_42 (dk_at dksX0_lay_1 3 rfl rfl)
theorem dX0_lay_26 : decode cX0_lay 26 = .ok (.checkcast 383, 3) := dk_192 1 127 (dk_at dksX0_lay_1 4 rfl rfl)
theorem dX0_lay_29 : decode cX0_lay 29 = .ok (.iload_n 1, 1) := dk_27 (dk_at dksX0_lay_1 7 rfl rfl)
theorem dX0_lay_30 : decode cX0_lay 30 = .ok (.iload_n 2, 1) := dk_28 (dk_at dksX0_lay_1 8 rfl rfl)
theorem dX0_lay_31 : decode cX0_lay 31 = .ok (.i2s, 1) := dk_147 (dk_at dksX0_lay_1 9 rfl rfl)
theorem dX0_lay_32 : decode cX0_lay 32 = .ok (.sastore, 1) := dk_86 (dk_at dksX0_lay_1 10 rfl rfl)
theorem dX0_lay_33 : decode cX0_lay 33 = .ok (.goto 10, 3) := dk_167 0 10 (dk_at dksX0_lay_1 11 rfl rfl)
theorem dX0_lay_36 : decode cX0_lay 36 = .ok (.aload_n 0, 1) := dk_42 (dk_at dksX0_lay_1 14 rfl rfl)
theorem dX0_lay_37 : decode cX0_lay 37 = .ok (.checkcast 385, 3) := dk_192 1 129 (dk_at dksX0_lay_1 15 rfl rfl)
theorem dX0_lay_40 : decode cX0_lay 40 = .ok (.iload_n 1, 1) := dk_27 (dk_at dksX0_lay_1 18 rfl rfl)
theorem dX0_lay_41 : decode cX0_lay 41 = .ok (.iload_n 2, 1) := dk_28 (dk_at dksX0_lay_1 19 rfl rfl)
theorem dX0_lay_42 : decode cX0_lay 42 = .ok (.iastore, 1) := dk_79 (dk_at dksX0_lay_1 20 rfl rfl)
theorem dX0_lay_43 : decode cX0_lay 43 = .ok (.return_, 1) := dk_177 (dk_at dksX0_lay_1 21 rfl rfl)
abbrev cX0_copy : ByteArray := prog_1_method_95_code
def yX0_copy : MethodName := ⟨RX0, "copy", "(IIIII)I"⟩
def dkwX0_copy_5 : List UInt8 := [184, 1, 143, 21, 5, 172, 58, 6, 42, 25, 6, 180, 0, 116, 182, 0, 126, 172]
abbrev dktX0_copy_5 : List UInt8 := dkwX0_copy_5 ++ []
def dkwX0_copy_4 : List UInt8 := [100, 163, 0, 7, 4, 167, 0, 4, 3, 3, 182, 1, 50, 25, 6, 28, 25, 7, 21, 4, 21, 5]
abbrev dktX0_copy_4 : List UInt8 := dkwX0_copy_4 ++ dktX0_copy_5
def dkwX0_copy_3 : List UInt8 := [155, 0, 32, 28, 25, 6, 184, 1, 34, 21, 5, 100, 163, 0, 20, 21, 4, 25, 7, 184, 1, 34, 21, 5]
abbrev dktX0_copy_3 : List UInt8 := dkwX0_copy_3 ++ dktX0_copy_4
def dkwX0_copy_2 : List UInt8 := [160, 0, 7, 4, 167, 0, 4, 3, 5, 182, 1, 50, 42, 21, 5, 155, 0, 41, 28, 155, 0, 37, 21, 4]
abbrev dktX0_copy_2 : List UInt8 := dkwX0_copy_2 ++ dktX0_copy_3
def dkwX0_copy_1 : List UInt8 := [198, 0, 7, 4, 167, 0, 4, 3, 8, 182, 1, 50, 42, 25, 6, 184, 1, 140, 25, 7, 184, 1, 140]
abbrev dktX0_copy_1 : List UInt8 := dkwX0_copy_1 ++ dktX0_copy_2
def dkwX0_copy_0 : List UInt8 := [42, 27, 182, 1, 46, 58, 6, 42, 29, 182, 1, 46, 58, 7, 42, 25, 6, 198, 0, 12, 25, 7]
abbrev dktX0_copy_0 : List UInt8 := dkwX0_copy_0 ++ dktX0_copy_1
theorem dksX0_copy_0 : cX0_copy.data.toList.drop 0 = dktX0_copy_0 := by decide +kernel
theorem dksX0_copy_1 : cX0_copy.data.toList.drop 22 = dktX0_copy_1 := dk_seg dksX0_copy_0 22 rfl rfl
theorem dksX0_copy_2 : cX0_copy.data.toList.drop 45 = dktX0_copy_2 := dk_seg dksX0_copy_1 23 rfl rfl
theorem dksX0_copy_3 : cX0_copy.data.toList.drop 69 = dktX0_copy_3 := dk_seg dksX0_copy_2 24 rfl rfl
theorem dksX0_copy_4 : cX0_copy.data.toList.drop 93 = dktX0_copy_4 := dk_seg dksX0_copy_3 24 rfl rfl
theorem dksX0_copy_5 : cX0_copy.data.toList.drop 115 = dktX0_copy_5 := dk_seg dksX0_copy_4 22 rfl rfl
theorem dX0_copy_0 : decode cX0_copy 0 = .ok (.aload_n 0, 1) := dk_42 (dk_at dksX0_copy_0 0 rfl rfl)
theorem dX0_copy_1 : decode cX0_copy 1 = .ok (.iload_n 1, 1) := dk_27 (dk_at dksX0_copy_0 1 rfl rfl)
theorem dX0_copy_2 : decode cX0_copy 2 = .ok (.invokevirtual 302, 3) := dk_182 1 46 (dk_at dksX0_copy_0 2 rfl rfl)
theorem dX0_copy_5 : decode cX0_copy 5 = .ok (.astore 6, 2) := dk_58 6 (dk_at dksX0_copy_0 5 rfl rfl)
theorem dX0_copy_7 : decode cX0_copy 7 = .ok (.aload_n 0, 1) := dk_42 (dk_at dksX0_copy_0 7 rfl rfl)
theorem dX0_copy_8 : decode cX0_copy 8 = .ok (.iload_n 3, 1) := dk_29 (dk_at dksX0_copy_0 8 rfl rfl)
theorem dX0_copy_9 : decode cX0_copy 9 = .ok (.invokevirtual 302, 3) := dk_182 1 46 (dk_at dksX0_copy_0 9 rfl rfl)
theorem dX0_copy_12 : decode cX0_copy 12 = .ok (.astore 7, 2) := dk_58 7 (dk_at dksX0_copy_0 12 rfl rfl)
theorem dX0_copy_14 : decode cX0_copy 14 = .ok (.aload_n 0, 1) := dk_42 (dk_at dksX0_copy_0 14 rfl rfl)
theorem dX0_copy_15 : decode cX0_copy 15 = .ok (.aload 6, 2) := dk_25 6 (dk_at dksX0_copy_0 15 rfl rfl)
theorem dX0_copy_17 : decode cX0_copy 17 = .ok (.ifnull 12, 3) := dk_198 0 12 (dk_at dksX0_copy_0 17 rfl rfl)
theorem dX0_copy_20 : decode cX0_copy 20 = .ok (.aload 7, 2) := dk_25 7 (dk_at dksX0_copy_0 20 rfl rfl)
theorem dX0_copy_22 : decode cX0_copy 22 = .ok (.ifnull 7, 3) := dk_198 0 7 (dk_at dksX0_copy_1 0 rfl rfl)
theorem dX0_copy_25 : decode cX0_copy 25 = .ok (.iconst 1, 1) := dk_4 (dk_at dksX0_copy_1 3 rfl rfl)
theorem dX0_copy_26 : decode cX0_copy 26 = .ok (.goto 4, 3) := dk_167 0 4 (dk_at dksX0_copy_1 4 rfl rfl)
theorem dX0_copy_29 : decode cX0_copy 29 = .ok (.iconst 0, 1) := dk_3 (dk_at dksX0_copy_1 7 rfl rfl)
theorem dX0_copy_30 : decode cX0_copy 30 = .ok (.iconst 5, 1) := dk_8 (dk_at dksX0_copy_1 8 rfl rfl)
theorem dX0_copy_31 : decode cX0_copy 31 = .ok (.invokevirtual 306, 3) := dk_182 1 50 (dk_at dksX0_copy_1 9 rfl rfl)
theorem dX0_copy_34 : decode cX0_copy 34 = .ok (.aload_n 0, 1) := dk_42 (dk_at dksX0_copy_1 12 rfl rfl)
theorem dX0_copy_35 : decode cX0_copy 35 = .ok (.aload 6, 2) := dk_25 6 (dk_at dksX0_copy_1 13 rfl rfl)
theorem dX0_copy_37 : decode cX0_copy 37 = .ok (.invokestatic 396, 3) := dk_184 1 140 (dk_at dksX0_copy_1 15 rfl rfl)
theorem dX0_copy_40 : decode cX0_copy 40 = .ok (.aload 7, 2) := dk_25 7 (dk_at dksX0_copy_1 18 rfl rfl)
theorem dX0_copy_42 : decode cX0_copy 42 = .ok (.invokestatic 396, 3) := dk_184 1 140 (dk_at dksX0_copy_1 20 rfl rfl)
theorem dX0_copy_45 : decode cX0_copy 45 = .ok (.if_icmp .ne 7, 3) := dk_160 0 7 (dk_at dksX0_copy_2 0 rfl rfl)
theorem dX0_copy_48 : decode cX0_copy 48 = .ok (.iconst 1, 1) := dk_4 (dk_at dksX0_copy_2 3 rfl rfl)
theorem dX0_copy_49 : decode cX0_copy 49 = .ok (.goto 4, 3) := dk_167 0 4 (dk_at dksX0_copy_2 4 rfl rfl)
theorem dX0_copy_52 : decode cX0_copy 52 = .ok (.iconst 0, 1) := dk_3 (dk_at dksX0_copy_2 7 rfl rfl)
theorem dX0_copy_53 : decode cX0_copy 53 = .ok (.iconst 2, 1) := dk_5 (dk_at dksX0_copy_2 8 rfl rfl)
theorem dX0_copy_54 : decode cX0_copy 54 = .ok (.invokevirtual 306, 3) := dk_182 1 50 (dk_at dksX0_copy_2 9 rfl rfl)
theorem dX0_copy_57 : decode cX0_copy 57 = .ok (.aload_n 0, 1) := dk_42 (dk_at dksX0_copy_2 12 rfl rfl)
theorem dX0_copy_58 : decode cX0_copy 58 = .ok (.iload 5, 2) := dk_21 5 (dk_at dksX0_copy_2 13 rfl rfl)
theorem dX0_copy_60 : decode cX0_copy 60 = .ok (.ifCond .lt 41, 3) := dk_155 0 41 (dk_at dksX0_copy_2 15 rfl rfl)
theorem dX0_copy_63 : decode cX0_copy 63 = .ok (.iload_n 2, 1) := dk_28 (dk_at dksX0_copy_2 18 rfl rfl)
theorem dX0_copy_64 : decode cX0_copy 64 = .ok (.ifCond .lt 37, 3) := dk_155 0 37 (dk_at dksX0_copy_2 19 rfl rfl)
theorem dX0_copy_67 : decode cX0_copy 67 = .ok (.iload 4, 2) := dk_21 4 (dk_at dksX0_copy_2 22 rfl rfl)
theorem dX0_copy_69 : decode cX0_copy 69 = .ok (.ifCond .lt 32, 3) := dk_155 0 32 (dk_at dksX0_copy_3 0 rfl rfl)
theorem dX0_copy_72 : decode cX0_copy 72 = .ok (.iload_n 2, 1) := dk_28 (dk_at dksX0_copy_3 3 rfl rfl)
theorem dX0_copy_73 : decode cX0_copy 73 = .ok (.aload 6, 2) := dk_25 6 (dk_at dksX0_copy_3 4 rfl rfl)
theorem dX0_copy_75 : decode cX0_copy 75 = .ok (.invokestatic 290, 3) := dk_184 1 34 (dk_at dksX0_copy_3 6 rfl rfl)
theorem dX0_copy_78 : decode cX0_copy 78 = .ok (.iload 5, 2) := dk_21 5 (dk_at dksX0_copy_3 9 rfl rfl)
theorem dX0_copy_80 : decode cX0_copy 80 = .ok (.isub, 1) := dk_100 (dk_at dksX0_copy_3 11 rfl rfl)
theorem dX0_copy_81 : decode cX0_copy 81 = .ok (.if_icmp .gt 20, 3) := dk_163 0 20 (dk_at dksX0_copy_3 12 rfl rfl)
theorem dX0_copy_84 : decode cX0_copy 84 = .ok (.iload 4, 2) := dk_21 4 (dk_at dksX0_copy_3 15 rfl rfl)
theorem dX0_copy_86 : decode cX0_copy 86 = .ok (.aload 7, 2) := dk_25 7 (dk_at dksX0_copy_3 17 rfl rfl)
theorem dX0_copy_88 : decode cX0_copy 88 = .ok (.invokestatic 290, 3) := dk_184 1 34 (dk_at dksX0_copy_3 19 rfl rfl)
theorem dX0_copy_91 : decode cX0_copy 91 = .ok (.iload 5, 2) := dk_21 5 (dk_at dksX0_copy_3 22 rfl rfl)
theorem dX0_copy_93 : decode cX0_copy 93 = .ok (.isub, 1) := dk_100 (dk_at dksX0_copy_4 0 rfl rfl)
theorem dX0_copy_94 : decode cX0_copy 94 = .ok (.if_icmp .gt 7, 3) := dk_163 0 7 (dk_at dksX0_copy_4 1 rfl rfl)
theorem dX0_copy_97 : decode cX0_copy 97 = .ok (.iconst 1, 1) := dk_4 (dk_at dksX0_copy_4 4 rfl rfl)
theorem dX0_copy_98 : decode cX0_copy 98 = .ok (.goto 4, 3) := dk_167 0 4 (dk_at dksX0_copy_4 5 rfl rfl)
theorem dX0_copy_101 : decode cX0_copy 101 = .ok (.iconst 0, 1) := dk_3 (dk_at dksX0_copy_4 8 rfl rfl)
theorem dX0_copy_102 : decode cX0_copy 102 = .ok (.iconst 0, 1) := dk_3 (dk_at dksX0_copy_4 9 rfl rfl)
theorem dX0_copy_103 : decode cX0_copy 103 = .ok (.invokevirtual 306, 3) := dk_182 1 50 (dk_at dksX0_copy_4 10 rfl rfl)
theorem dX0_copy_106 : decode cX0_copy 106 = .ok (.aload 6, 2) := dk_25 6 (dk_at dksX0_copy_4 13 rfl rfl)
theorem dX0_copy_108 : decode cX0_copy 108 = .ok (.iload_n 2, 1) := dk_28 (dk_at dksX0_copy_4 15 rfl rfl)
theorem dX0_copy_109 : decode cX0_copy 109 = .ok (.aload 7, 2) := dk_25 7 (dk_at dksX0_copy_4 16 rfl rfl)
theorem dX0_copy_111 : decode cX0_copy 111 = .ok (.iload 4, 2) := dk_21 4 (dk_at dksX0_copy_4 18 rfl rfl)
theorem dX0_copy_113 : decode cX0_copy 113 = .ok (.iload 5, 2) := dk_21 5 (dk_at dksX0_copy_4 20 rfl rfl)
theorem dX0_copy_115 : decode cX0_copy 115 = .ok (.invokestatic 399, 3) := dk_184 1 143 (dk_at dksX0_copy_5 0 rfl rfl)
theorem dX0_copy_118 : decode cX0_copy 118 = .ok (.iload 5, 2) := dk_21 5 (dk_at dksX0_copy_5 3 rfl rfl)
theorem dX0_copy_120 : decode cX0_copy 120 = .ok (.ireturn, 1) := dk_172 (dk_at dksX0_copy_5 5 rfl rfl)
theorem dX0_copy_121 : decode cX0_copy 121 = .ok (.astore 6, 2) := dk_58 6 (dk_at dksX0_copy_5 6 rfl rfl)
theorem dX0_copy_123 : decode cX0_copy 123 = .ok (.aload_n 0, 1) := dk_42 (dk_at dksX0_copy_5 8 rfl rfl)
theorem dX0_copy_124 : decode cX0_copy 124 = .ok (.aload 6, 2) := dk_25 6 (dk_at dksX0_copy_5 9 rfl rfl)
theorem dX0_copy_126 : decode cX0_copy 126 = .ok (.getfield 116, 3) := dk_180 0 116 (dk_at dksX0_copy_5 11 rfl rfl)
theorem dX0_copy_129 : decode cX0_copy 129 = .ok (.invokevirtual 126, 3) := dk_182 0 126 (dk_at dksX0_copy_5 14 rfl rfl)
theorem dX0_copy_132 : decode cX0_copy 132 = .ok (.ireturn, 1) := dk_172 (dk_at dksX0_copy_5 17 rfl rfl)
abbrev cX0_widthOf : ByteArray := prog_1_method_91_code
def yX0_widthOf : MethodName := ⟨RX0, "widthOf", "(Ljava/lang/Object;)I"⟩
def dkwX0_widthOf_1 : List UInt8 := [16, 32, 172]
abbrev dktX0_widthOf_1 : List UInt8 := dkwX0_widthOf_1 ++ []
def dkwX0_widthOf_0 : List UInt8 := [42, 193, 1, 126, 153, 0, 8, 16, 8, 167, 0, 17, 42, 193, 1, 127, 153, 0, 8, 16, 16, 167, 0, 5]
abbrev dktX0_widthOf_0 : List UInt8 := dkwX0_widthOf_0 ++ dktX0_widthOf_1
theorem dksX0_widthOf_0 : cX0_widthOf.data.toList.drop 0 = dktX0_widthOf_0 := by decide +kernel
theorem dksX0_widthOf_1 : cX0_widthOf.data.toList.drop 24 = dktX0_widthOf_1 := dk_seg dksX0_widthOf_0 24 rfl rfl
theorem dX0_widthOf_0 : decode cX0_widthOf 0 = .ok (.aload_n 0, 1) := dk_42 (dk_at dksX0_widthOf_0 0 rfl rfl)
theorem dX0_widthOf_1 : decode cX0_widthOf 1 = .ok (.instanceof 382, 3) := dk_193 1 126 (dk_at dksX0_widthOf_0 1 rfl rfl)
theorem dX0_widthOf_4 : decode cX0_widthOf 4 = .ok (.ifCond .eq 8, 3) := dk_153 0 8 (dk_at dksX0_widthOf_0 4 rfl rfl)
theorem dX0_widthOf_7 : decode cX0_widthOf 7 = .ok (.bipush 8, 2) := dk_16 8 (dk_at dksX0_widthOf_0 7 rfl rfl)
theorem dX0_widthOf_9 : decode cX0_widthOf 9 = .ok (.goto 17, 3) := dk_167 0 17 (dk_at dksX0_widthOf_0 9 rfl rfl)
theorem dX0_widthOf_12 : decode cX0_widthOf 12 = .ok (.aload_n 0, 1) := dk_42 (dk_at dksX0_widthOf_0 12 rfl rfl)
theorem dX0_widthOf_13 : decode cX0_widthOf 13 = .ok (.instanceof 383, 3) := dk_193 1 127 (dk_at dksX0_widthOf_0 13 rfl rfl)
theorem dX0_widthOf_16 : decode cX0_widthOf 16 = .ok (.ifCond .eq 8, 3) := dk_153 0 8 (dk_at dksX0_widthOf_0 16 rfl rfl)
theorem dX0_widthOf_19 : decode cX0_widthOf 19 = .ok (.bipush 16, 2) := dk_16 16 (dk_at dksX0_widthOf_0 19 rfl rfl)
theorem dX0_widthOf_21 : decode cX0_widthOf 21 = .ok (.goto 5, 3) := dk_167 0 5 (dk_at dksX0_widthOf_0 21 rfl rfl)
theorem dX0_widthOf_24 : decode cX0_widthOf 24 = .ok (.bipush 32, 2) := dk_16 32 (dk_at dksX0_widthOf_1 0 rfl rfl)
theorem dX0_widthOf_26 : decode cX0_widthOf 26 = .ok (.ireturn, 1) := dk_172 (dk_at dksX0_widthOf_1 2 rfl rfl)
abbrev cX0_slide : ByteArray := prog_1_method_94_code
def yX0_slide : MethodName := ⟨RX0, "slide", "(Ljava/lang/Object;ILjava/lang/Object;II)V"⟩
def dkwX0_slide_2 : List UInt8 := [184, 1, 134, 167, 0, 18, 42, 192, 1, 129, 27, 44, 192, 1, 129, 29, 21, 4, 184, 1, 134, 177]
abbrev dktX0_slide_2 : List UInt8 := dkwX0_slide_2 ++ []
def dkwX0_slide_1 : List UInt8 := [167, 0, 43, 42, 193, 1, 127, 153, 0, 21, 42, 192, 1, 127, 27, 44, 192, 1, 127, 29, 21, 4]
abbrev dktX0_slide_1 : List UInt8 := dkwX0_slide_1 ++ dktX0_slide_2
def dkwX0_slide_0 : List UInt8 := [42, 193, 1, 126, 153, 0, 21, 42, 192, 1, 126, 27, 44, 192, 1, 126, 29, 21, 4, 184, 1, 134]
abbrev dktX0_slide_0 : List UInt8 := dkwX0_slide_0 ++ dktX0_slide_1
theorem dksX0_slide_0 : cX0_slide.data.toList.drop 0 = dktX0_slide_0 := by decide +kernel
theorem dksX0_slide_1 : cX0_slide.data.toList.drop 22 = dktX0_slide_1 := dk_seg dksX0_slide_0 22 rfl rfl
theorem dksX0_slide_2 : cX0_slide.data.toList.drop 44 = dktX0_slide_2 := dk_seg dksX0_slide_1 22 rfl rfl
theorem dX0_slide_0 : decode cX0_slide 0 = .ok (.aload_n 0, 1) := dk_42 (dk_at dksX0_slide_0 0 rfl rfl)
theorem dX0_slide_1 : decode cX0_slide 1 = .ok (.instanceof 382, 3) := dk_193 1 126 (dk_at dksX0_slide_0 1 rfl rfl)
theorem dX0_slide_4 : decode cX0_slide 4 = .ok (.ifCond .eq 21, 3) := dk_153 0 21 (dk_at dksX0_slide_0 4 rfl rfl)
theorem dX0_slide_7 : decode cX0_slide 7 = .ok (.aload_n 0, 1) := dk_42 (dk_at dksX0_slide_0 7 rfl rfl)
theorem dX0_slide_8 : decode cX0_slide 8 = .ok (.checkcast 382, 3) := dk_192 1 126 (dk_at dksX0_slide_0 8 rfl rfl)
theorem dX0_slide_11 : decode cX0_slide 11 = .ok (.iload_n 1, 1) := dk_27 (dk_at dksX0_slide_0 11 rfl rfl)
theorem dX0_slide_12 : decode cX0_slide 12 = .ok (.aload_n 2, 1) := dk_44 (dk_at dksX0_slide_0 12 rfl rfl)
theorem dX0_slide_13 : decode cX0_slide 13 = .ok (.checkcast 382, 3) := dk_192 1 126 (dk_at dksX0_slide_0 13 rfl rfl)
theorem dX0_slide_16 : decode cX0_slide 16 = .ok (.iload_n 3, 1) := dk_29 (dk_at dksX0_slide_0 16 rfl rfl)
theorem dX0_slide_17 : decode cX0_slide 17 = .ok (.iload 4, 2) := dk_21 4 (dk_at dksX0_slide_0 17 rfl rfl)
theorem dX0_slide_19 : decode cX0_slide 19 = .ok (.invokestatic 390, 3) := dk_184 1 134 (dk_at dksX0_slide_0 19 rfl rfl)
theorem dX0_slide_22 : decode cX0_slide 22 = .ok (.goto 43, 3) := dk_167 0 43 (dk_at dksX0_slide_1 0 rfl rfl)
theorem dX0_slide_25 : decode cX0_slide 25 = .ok (.aload_n 0, 1) := dk_42 (dk_at dksX0_slide_1 3 rfl rfl)
theorem dX0_slide_26 : decode cX0_slide 26 = .ok (.instanceof 383, 3) := dk_193 1 127 (dk_at dksX0_slide_1 4 rfl rfl)
theorem dX0_slide_29 : decode cX0_slide 29 = .ok (.ifCond .eq 21, 3) := dk_153 0 21 (dk_at dksX0_slide_1 7 rfl rfl)
theorem dX0_slide_32 : decode cX0_slide 32 = .ok (.aload_n 0, 1) := dk_42 (dk_at dksX0_slide_1 10 rfl rfl)
theorem dX0_slide_33 : decode cX0_slide 33 = .ok (.checkcast 383, 3) := dk_192 1 127 (dk_at dksX0_slide_1 11 rfl rfl)
theorem dX0_slide_36 : decode cX0_slide 36 = .ok (.iload_n 1, 1) := dk_27 (dk_at dksX0_slide_1 14 rfl rfl)
theorem dX0_slide_37 : decode cX0_slide 37 = .ok (.aload_n 2, 1) := dk_44 (dk_at dksX0_slide_1 15 rfl rfl)
theorem dX0_slide_38 : decode cX0_slide 38 = .ok (.checkcast 383, 3) := dk_192 1 127 (dk_at dksX0_slide_1 16 rfl rfl)
theorem dX0_slide_41 : decode cX0_slide 41 = .ok (.iload_n 3, 1) := dk_29 (dk_at dksX0_slide_1 19 rfl rfl)
theorem dX0_slide_42 : decode cX0_slide 42 = .ok (.iload 4, 2) := dk_21 4 (dk_at dksX0_slide_1 20 rfl rfl)
theorem dX0_slide_44 : decode cX0_slide 44 = .ok (.invokestatic 390, 3) := dk_184 1 134 (dk_at dksX0_slide_2 0 rfl rfl)
theorem dX0_slide_47 : decode cX0_slide 47 = .ok (.goto 18, 3) := dk_167 0 18 (dk_at dksX0_slide_2 3 rfl rfl)
theorem dX0_slide_50 : decode cX0_slide 50 = .ok (.aload_n 0, 1) := dk_42 (dk_at dksX0_slide_2 6 rfl rfl)
theorem dX0_slide_51 : decode cX0_slide 51 = .ok (.checkcast 385, 3) := dk_192 1 129 (dk_at dksX0_slide_2 7 rfl rfl)
theorem dX0_slide_54 : decode cX0_slide 54 = .ok (.iload_n 1, 1) := dk_27 (dk_at dksX0_slide_2 10 rfl rfl)
theorem dX0_slide_55 : decode cX0_slide 55 = .ok (.aload_n 2, 1) := dk_44 (dk_at dksX0_slide_2 11 rfl rfl)
theorem dX0_slide_56 : decode cX0_slide 56 = .ok (.checkcast 385, 3) := dk_192 1 129 (dk_at dksX0_slide_2 12 rfl rfl)
theorem dX0_slide_59 : decode cX0_slide 59 = .ok (.iload_n 3, 1) := dk_29 (dk_at dksX0_slide_2 15 rfl rfl)
theorem dX0_slide_60 : decode cX0_slide 60 = .ok (.iload 4, 2) := dk_21 4 (dk_at dksX0_slide_2 16 rfl rfl)
theorem dX0_slide_62 : decode cX0_slide 62 = .ok (.invokestatic 390, 3) := dk_184 1 134 (dk_at dksX0_slide_2 18 rfl rfl)
theorem dX0_slide_65 : decode cX0_slide 65 = .ok (.return_, 1) := dk_177 (dk_at dksX0_slide_2 21 rfl rfl)
abbrev cX0_load : ByteArray := prog_1_method_97_code
def yX0_load : MethodName := ⟨RX0, "load", "(I)I"⟩
def dkwX0_load_1 : List UInt8 := [182, 1, 146, 172, 77, 42, 44, 180, 0, 116, 182, 0, 126, 172]
abbrev dktX0_load_1 : List UInt8 := dkwX0_load_1 ++ []
def dkwX0_load_0 : List UInt8 := [42, 27, 182, 1, 46, 77, 42, 44, 198, 0, 7, 4, 167, 0, 4, 3, 8, 182, 1, 50, 42, 44]
abbrev dktX0_load_0 : List UInt8 := dkwX0_load_0 ++ dktX0_load_1
theorem dksX0_load_0 : cX0_load.data.toList.drop 0 = dktX0_load_0 := by decide +kernel
theorem dksX0_load_1 : cX0_load.data.toList.drop 22 = dktX0_load_1 := dk_seg dksX0_load_0 22 rfl rfl
theorem dX0_load_0 : decode cX0_load 0 = .ok (.aload_n 0, 1) := dk_42 (dk_at dksX0_load_0 0 rfl rfl)
theorem dX0_load_1 : decode cX0_load 1 = .ok (.iload_n 1, 1) := dk_27 (dk_at dksX0_load_0 1 rfl rfl)
theorem dX0_load_2 : decode cX0_load 2 = .ok (.invokevirtual 302, 3) := dk_182 1 46 (dk_at dksX0_load_0 2 rfl rfl)
theorem dX0_load_5 : decode cX0_load 5 = .ok (.astore_n 2, 1) := dk_77 (dk_at dksX0_load_0 5 rfl rfl)
theorem dX0_load_6 : decode cX0_load 6 = .ok (.aload_n 0, 1) := dk_42 (dk_at dksX0_load_0 6 rfl rfl)
theorem dX0_load_7 : decode cX0_load 7 = .ok (.aload_n 2, 1) := dk_44 (dk_at dksX0_load_0 7 rfl rfl)
theorem dX0_load_8 : decode cX0_load 8 = .ok (.ifnull 7, 3) := dk_198 0 7 (dk_at dksX0_load_0 8 rfl rfl)
theorem dX0_load_11 : decode cX0_load 11 = .ok (.iconst 1, 1) := dk_4 (dk_at dksX0_load_0 11 rfl rfl)
theorem dX0_load_12 : decode cX0_load 12 = .ok (.goto 4, 3) := dk_167 0 4 (dk_at dksX0_load_0 12 rfl rfl)
theorem dX0_load_15 : decode cX0_load 15 = .ok (.iconst 0, 1) := dk_3 (dk_at dksX0_load_0 15 rfl rfl)
theorem dX0_load_16 : decode cX0_load 16 = .ok (.iconst 5, 1) := dk_8 (dk_at dksX0_load_0 16 rfl rfl)
theorem dX0_load_17 : decode cX0_load 17 = .ok (.invokevirtual 306, 3) := dk_182 1 50 (dk_at dksX0_load_0 17 rfl rfl)
theorem dX0_load_20 : decode cX0_load 20 = .ok (.aload_n 0, 1) := dk_42 (dk_at dksX0_load_0 20 rfl rfl)
theorem dX0_load_21 : decode cX0_load 21 = .ok (.aload_n 2, 1) := dk_44 (dk_at dksX0_load_0 21 rfl rfl)
theorem dX0_load_22 : decode cX0_load 22 = .ok (.invokevirtual 402, 3) := dk_182 1 146 (dk_at dksX0_load_1 0 rfl rfl)
theorem dX0_load_25 : decode cX0_load 25 = .ok (.ireturn, 1) := dk_172 (dk_at dksX0_load_1 3 rfl rfl)
theorem dX0_load_26 : decode cX0_load 26 = .ok (.astore_n 2, 1) := dk_77 (dk_at dksX0_load_1 4 rfl rfl)
theorem dX0_load_27 : decode cX0_load 27 = .ok (.aload_n 0, 1) := dk_42 (dk_at dksX0_load_1 5 rfl rfl)
theorem dX0_load_28 : decode cX0_load 28 = .ok (.aload_n 2, 1) := dk_44 (dk_at dksX0_load_1 6 rfl rfl)
theorem dX0_load_29 : decode cX0_load 29 = .ok (.getfield 116, 3) := dk_180 0 116 (dk_at dksX0_load_1 7 rfl rfl)
theorem dX0_load_32 : decode cX0_load 32 = .ok (.invokevirtual 126, 3) := dk_182 0 126 (dk_at dksX0_load_1 10 rfl rfl)
theorem dX0_load_35 : decode cX0_load 35 = .ok (.ireturn, 1) := dk_172 (dk_at dksX0_load_1 13 rfl rfl)
abbrev cX0_loads : ByteArray := prog_1_method_96_code
def yX0_loads : MethodName := ⟨RX0, "loads", "(Ljava/lang/Object;)I"⟩
def dkwX0_loads_2 : List UInt8 := [167, 255, 213, 28, 172]
abbrev dktX0_loads_2 : List UInt8 := dkwX0_loads_2 ++ []
def dkwX0_loads_1 : List UInt8 := [184, 0, 193, 153, 0, 23, 42, 180, 0, 76, 180, 0, 196, 28, 43, 28, 184, 1, 38, 79, 132, 2, 1]
abbrev dktX0_loads_1 : List UInt8 := dkwX0_loads_1 ++ dktX0_loads_2
def dkwX0_loads_0 : List UInt8 := [3, 61, 28, 43, 184, 1, 34, 162, 0, 41, 28, 184, 0, 190, 153, 0, 34, 43, 28, 184, 1, 38]
abbrev dktX0_loads_0 : List UInt8 := dkwX0_loads_0 ++ dktX0_loads_1
theorem dksX0_loads_0 : cX0_loads.data.toList.drop 0 = dktX0_loads_0 := by decide +kernel
theorem dksX0_loads_1 : cX0_loads.data.toList.drop 22 = dktX0_loads_1 := dk_seg dksX0_loads_0 22 rfl rfl
theorem dksX0_loads_2 : cX0_loads.data.toList.drop 45 = dktX0_loads_2 := dk_seg dksX0_loads_1 23 rfl rfl
theorem dX0_loads_0 : decode cX0_loads 0 = .ok (.iconst 0, 1) := dk_3 (dk_at dksX0_loads_0 0 rfl rfl)
theorem dX0_loads_1 : decode cX0_loads 1 = .ok (.istore_n 2, 1) := dk_61 (dk_at dksX0_loads_0 1 rfl rfl)
theorem dX0_loads_2 : decode cX0_loads 2 = .ok (.iload_n 2, 1) := dk_28 (dk_at dksX0_loads_0 2 rfl rfl)
theorem dX0_loads_3 : decode cX0_loads 3 = .ok (.aload_n 1, 1) := dk_43 (dk_at dksX0_loads_0 3 rfl rfl)
theorem dX0_loads_4 : decode cX0_loads 4 = .ok (.invokestatic 290, 3) := dk_184 1 34 (dk_at dksX0_loads_0 4 rfl rfl)
theorem dX0_loads_7 : decode cX0_loads 7 = .ok (.if_icmp .ge 41, 3) := dk_162 0 41 (dk_at dksX0_loads_0 7 rfl rfl)
theorem dX0_loads_10 : decode cX0_loads 10 = .ok (.iload_n 2, 1) := dk_28 (dk_at dksX0_loads_0 10 rfl rfl)
theorem dX0_loads_11 : decode cX0_loads 11 = .ok (.invokestatic 190, 3) := dk_184 0 190 (dk_at dksX0_loads_0 11 rfl rfl)
theorem dX0_loads_14 : decode cX0_loads 14 = .ok (.ifCond .eq 34, 3) := dk_153 0 34 (dk_at dksX0_loads_0 14 rfl rfl)
theorem dX0_loads_17 : decode cX0_loads 17 = .ok (.aload_n 1, 1) := dk_43 (dk_at dksX0_loads_0 17 rfl rfl)
theorem dX0_loads_18 : decode cX0_loads 18 = .ok (.iload_n 2, 1) := dk_28 (dk_at dksX0_loads_0 18 rfl rfl)
theorem dX0_loads_19 : decode cX0_loads 19 = .ok (.invokestatic 294, 3) := dk_184 1 38 (dk_at dksX0_loads_0 19 rfl rfl)
theorem dX0_loads_22 : decode cX0_loads 22 = .ok (.invokestatic 193, 3) := dk_184 0 193 (dk_at dksX0_loads_1 0 rfl rfl)
theorem dX0_loads_25 : decode cX0_loads 25 = .ok (.ifCond .eq 23, 3) := dk_153 0 23 (dk_at dksX0_loads_1 3 rfl rfl)
theorem dX0_loads_28 : decode cX0_loads 28 = .ok (.aload_n 0, 1) := dk_42 (dk_at dksX0_loads_1 6 rfl rfl)
theorem dX0_loads_29 : decode cX0_loads 29 = .ok (.getfield 76, 3) := dk_180 0 76 (dk_at dksX0_loads_1 7 rfl rfl)
theorem dX0_loads_32 : decode cX0_loads 32 = .ok (.getfield 196, 3) := dk_180 0 196 (dk_at dksX0_loads_1 10 rfl rfl)
theorem dX0_loads_35 : decode cX0_loads 35 = .ok (.iload_n 2, 1) := dk_28 (dk_at dksX0_loads_1 13 rfl rfl)
theorem dX0_loads_36 : decode cX0_loads 36 = .ok (.aload_n 1, 1) := dk_43 (dk_at dksX0_loads_1 14 rfl rfl)
theorem dX0_loads_37 : decode cX0_loads 37 = .ok (.iload_n 2, 1) := dk_28 (dk_at dksX0_loads_1 15 rfl rfl)
theorem dX0_loads_38 : decode cX0_loads 38 = .ok (.invokestatic 294, 3) := dk_184 1 38 (dk_at dksX0_loads_1 16 rfl rfl)
theorem dX0_loads_41 : decode cX0_loads 41 = .ok (.iastore, 1) := dk_79 (dk_at dksX0_loads_1 19 rfl rfl)
theorem dX0_loads_42 : decode cX0_loads 42 = .ok (.iinc 2 1, 3) := dk_132 2 1 (dk_at dksX0_loads_1 20 rfl rfl)
theorem dX0_loads_45 : decode cX0_loads 45 = .ok (.goto (-43), 3) := dk_167 255 213 (dk_at dksX0_loads_2 0 rfl rfl)
theorem dX0_loads_48 : decode cX0_loads 48 = .ok (.iload_n 2, 1) := dk_28 (dk_at dksX0_loads_2 3 rfl rfl)
theorem dX0_loads_49 : decode cX0_loads 49 = .ok (.ireturn, 1) := dk_172 (dk_at dksX0_loads_2 4 rfl rfl)
abbrev cX0_judge : ByteArray := prog_1_method_98_code
def yX0_judge : MethodName := ⟨RX0, "judge", "(I)I"⟩
def dkwX0_judge_3 : List UInt8 := [3, 167, 0, 6, 4, 29, 96, 172, 77, 42, 44, 180, 0, 116, 182, 0, 126, 172]
abbrev dktX0_judge_3 : List UInt8 := dkwX0_judge_3 ++ []
def dkwX0_judge_2 : List UInt8 := [180, 0, 111, 6, 50, 29, 46, 160, 0, 9, 132, 3, 1, 167, 255, 218, 29, 44, 184, 1, 34, 160, 0, 7]
abbrev dktX0_judge_2 : List UInt8 := dkwX0_judge_2 ++ dktX0_judge_3
def dkwX0_judge_1 : List UInt8 := [184, 1, 34, 162, 0, 36, 42, 29, 182, 0, 175, 153, 0, 28, 44, 29, 184, 1, 38, 42, 180, 0, 76]
abbrev dktX0_judge_1 : List UInt8 := dkwX0_judge_1 ++ dktX0_judge_2
def dkwX0_judge_0 : List UInt8 := [42, 27, 182, 1, 46, 77, 42, 44, 198, 0, 7, 4, 167, 0, 4, 3, 8, 182, 1, 50, 3, 62, 29, 44]
abbrev dktX0_judge_0 : List UInt8 := dkwX0_judge_0 ++ dktX0_judge_1
theorem dksX0_judge_0 : cX0_judge.data.toList.drop 0 = dktX0_judge_0 := by decide +kernel
theorem dksX0_judge_1 : cX0_judge.data.toList.drop 24 = dktX0_judge_1 := dk_seg dksX0_judge_0 24 rfl rfl
theorem dksX0_judge_2 : cX0_judge.data.toList.drop 47 = dktX0_judge_2 := dk_seg dksX0_judge_1 23 rfl rfl
theorem dksX0_judge_3 : cX0_judge.data.toList.drop 71 = dktX0_judge_3 := dk_seg dksX0_judge_2 24 rfl rfl
theorem dX0_judge_0 : decode cX0_judge 0 = .ok (.aload_n 0, 1) := dk_42 (dk_at dksX0_judge_0 0 rfl rfl)
theorem dX0_judge_1 : decode cX0_judge 1 = .ok (.iload_n 1, 1) := dk_27 (dk_at dksX0_judge_0 1 rfl rfl)
theorem dX0_judge_2 : decode cX0_judge 2 = .ok (.invokevirtual 302, 3) := dk_182 1 46 (dk_at dksX0_judge_0 2 rfl rfl)
theorem dX0_judge_5 : decode cX0_judge 5 = .ok (.astore_n 2, 1) := dk_77 (dk_at dksX0_judge_0 5 rfl rfl)
theorem dX0_judge_6 : decode cX0_judge 6 = .ok (.aload_n 0, 1) := dk_42 (dk_at dksX0_judge_0 6 rfl rfl)
theorem dX0_judge_7 : decode cX0_judge 7 = .ok (.aload_n 2, 1) := dk_44 (dk_at dksX0_judge_0 7 rfl rfl)
theorem dX0_judge_8 : decode cX0_judge 8 = .ok (.ifnull 7, 3) := dk_198 0 7 (dk_at dksX0_judge_0 8 rfl rfl)
theorem dX0_judge_11 : decode cX0_judge 11 = .ok (.iconst 1, 1) := dk_4 (dk_at dksX0_judge_0 11 rfl rfl)
theorem dX0_judge_12 : decode cX0_judge 12 = .ok (.goto 4, 3) := dk_167 0 4 (dk_at dksX0_judge_0 12 rfl rfl)
theorem dX0_judge_15 : decode cX0_judge 15 = .ok (.iconst 0, 1) := dk_3 (dk_at dksX0_judge_0 15 rfl rfl)
theorem dX0_judge_16 : decode cX0_judge 16 = .ok (.iconst 5, 1) := dk_8 (dk_at dksX0_judge_0 16 rfl rfl)
theorem dX0_judge_17 : decode cX0_judge 17 = .ok (.invokevirtual 306, 3) := dk_182 1 50 (dk_at dksX0_judge_0 17 rfl rfl)
theorem dX0_judge_20 : decode cX0_judge 20 = .ok (.iconst 0, 1) := dk_3 (dk_at dksX0_judge_0 20 rfl rfl)
theorem dX0_judge_21 : decode cX0_judge 21 = .ok (.istore_n 3, 1) := dk_62 (dk_at dksX0_judge_0 21 rfl rfl)
theorem dX0_judge_22 : decode cX0_judge 22 = .ok (.iload_n 3, 1) := dk_29 (dk_at dksX0_judge_0 22 rfl rfl)
theorem dX0_judge_23 : decode cX0_judge 23 = .ok (.aload_n 2, 1) := dk_44 (dk_at dksX0_judge_0 23 rfl rfl)
theorem dX0_judge_24 : decode cX0_judge 24 = .ok (.invokestatic 290, 3) := dk_184 1 34 (dk_at dksX0_judge_1 0 rfl rfl)
theorem dX0_judge_27 : decode cX0_judge 27 = .ok (.if_icmp .ge 36, 3) := dk_162 0 36 (dk_at dksX0_judge_1 3 rfl rfl)
theorem dX0_judge_30 : decode cX0_judge 30 = .ok (.aload_n 0, 1) := dk_42 (dk_at dksX0_judge_1 6 rfl rfl)
theorem dX0_judge_31 : decode cX0_judge 31 = .ok (.iload_n 3, 1) := dk_29 (dk_at dksX0_judge_1 7 rfl rfl)
theorem dX0_judge_32 : decode cX0_judge 32 = .ok (.invokevirtual 175, 3) := dk_182 0 175 (dk_at dksX0_judge_1 8 rfl rfl)
theorem dX0_judge_35 : decode cX0_judge 35 = .ok (.ifCond .eq 28, 3) := dk_153 0 28 (dk_at dksX0_judge_1 11 rfl rfl)
theorem dX0_judge_38 : decode cX0_judge 38 = .ok (.aload_n 2, 1) := dk_44 (dk_at dksX0_judge_1 14 rfl rfl)
theorem dX0_judge_39 : decode cX0_judge 39 = .ok (.iload_n 3, 1) := dk_29 (dk_at dksX0_judge_1 15 rfl rfl)
theorem dX0_judge_40 : decode cX0_judge 40 = .ok (.invokestatic 294, 3) := dk_184 1 38 (dk_at dksX0_judge_1 16 rfl rfl)
theorem dX0_judge_43 : decode cX0_judge 43 = .ok (.aload_n 0, 1) := dk_42 (dk_at dksX0_judge_1 19 rfl rfl)
theorem dX0_judge_44 : decode cX0_judge 44 = .ok (.getfield 76, 3) := dk_180 0 76 (dk_at dksX0_judge_1 20 rfl rfl)
theorem dX0_judge_47 : decode cX0_judge 47 = .ok (.getfield 111, 3) := dk_180 0 111 (dk_at dksX0_judge_2 0 rfl rfl)
theorem dX0_judge_50 : decode cX0_judge 50 = .ok (.iconst 3, 1) := dk_6 (dk_at dksX0_judge_2 3 rfl rfl)
theorem dX0_judge_51 : decode cX0_judge 51 = .ok (.aaload, 1) := dk_50 (dk_at dksX0_judge_2 4 rfl rfl)
theorem dX0_judge_52 : decode cX0_judge 52 = .ok (.iload_n 3, 1) := dk_29 (dk_at dksX0_judge_2 5 rfl rfl)
theorem dX0_judge_53 : decode cX0_judge 53 = .ok (.iaload, 1) := dk_46 (dk_at dksX0_judge_2 6 rfl rfl)
theorem dX0_judge_54 : decode cX0_judge 54 = .ok (.if_icmp .ne 9, 3) := dk_160 0 9 (dk_at dksX0_judge_2 7 rfl rfl)
theorem dX0_judge_57 : decode cX0_judge 57 = .ok (.iinc 3 1, 3) := dk_132 3 1 (dk_at dksX0_judge_2 10 rfl rfl)
theorem dX0_judge_60 : decode cX0_judge 60 = .ok (.goto (-38), 3) := dk_167 255 218 (dk_at dksX0_judge_2 13 rfl rfl)
theorem dX0_judge_63 : decode cX0_judge 63 = .ok (.iload_n 3, 1) := dk_29 (dk_at dksX0_judge_2 16 rfl rfl)
theorem dX0_judge_64 : decode cX0_judge 64 = .ok (.aload_n 2, 1) := dk_44 (dk_at dksX0_judge_2 17 rfl rfl)
theorem dX0_judge_65 : decode cX0_judge 65 = .ok (.invokestatic 290, 3) := dk_184 1 34 (dk_at dksX0_judge_2 18 rfl rfl)
theorem dX0_judge_68 : decode cX0_judge 68 = .ok (.if_icmp .ne 7, 3) := dk_160 0 7 (dk_at dksX0_judge_2 21 rfl rfl)
theorem dX0_judge_71 : decode cX0_judge 71 = .ok (.iconst 0, 1) := dk_3 (dk_at dksX0_judge_3 0 rfl rfl)
theorem dX0_judge_72 : decode cX0_judge 72 = .ok (.goto 6, 3) := dk_167 0 6 (dk_at dksX0_judge_3 1 rfl rfl)
theorem dX0_judge_75 : decode cX0_judge 75 = .ok (.iconst 1, 1) := dk_4 (dk_at dksX0_judge_3 4 rfl rfl)
theorem dX0_judge_76 : decode cX0_judge 76 = .ok (.iload_n 3, 1) := dk_29 (dk_at dksX0_judge_3 5 rfl rfl)
theorem dX0_judge_77 : decode cX0_judge 77 = .ok (.iadd, 1) := dk_96 (dk_at dksX0_judge_3 6 rfl rfl)
theorem dX0_judge_78 : decode cX0_judge 78 = .ok (.ireturn, 1) := dk_172 (dk_at dksX0_judge_3 7 rfl rfl)
theorem dX0_judge_79 : decode cX0_judge 79 = .ok (.astore_n 2, 1) := dk_77 (dk_at dksX0_judge_3 8 rfl rfl)
theorem dX0_judge_80 : decode cX0_judge 80 = .ok (.aload_n 0, 1) := dk_42 (dk_at dksX0_judge_3 9 rfl rfl)
theorem dX0_judge_81 : decode cX0_judge 81 = .ok (.aload_n 2, 1) := dk_44 (dk_at dksX0_judge_3 10 rfl rfl)
theorem dX0_judge_82 : decode cX0_judge 82 = .ok (.getfield 116, 3) := dk_180 0 116 (dk_at dksX0_judge_3 11 rfl rfl)
theorem dX0_judge_85 : decode cX0_judge 85 = .ok (.invokevirtual 126, 3) := dk_182 0 126 (dk_at dksX0_judge_3 14 rfl rfl)
theorem dX0_judge_88 : decode cX0_judge 88 = .ok (.ireturn, 1) := dk_172 (dk_at dksX0_judge_3 17 rfl rfl)
abbrev cX0_image : ByteArray := prog_1_method_99_code
def yX0_image : MethodName := ⟨RX0, "image", "()I"⟩
def dkwX0_image_0 : List UInt8 := [42, 180, 0, 80, 42, 180, 0, 76, 182, 0, 238, 42, 4, 181, 1, 149, 4, 172]
abbrev dktX0_image_0 : List UInt8 := dkwX0_image_0 ++ []
theorem dksX0_image_0 : cX0_image.data.toList.drop 0 = dktX0_image_0 := by decide +kernel
theorem dX0_image_0 : decode cX0_image 0 = .ok (.aload_n 0, 1) := dk_42 (dk_at dksX0_image_0 0 rfl rfl)
theorem dX0_image_1 : decode cX0_image 1 = .ok (.getfield 80, 3) := dk_180 0 80 (dk_at dksX0_image_0 1 rfl rfl)
theorem dX0_image_4 : decode cX0_image 4 = .ok (.aload_n 0, 1) := dk_42 (dk_at dksX0_image_0 4 rfl rfl)
theorem dX0_image_5 : decode cX0_image 5 = .ok (.getfield 76, 3) := dk_180 0 76 (dk_at dksX0_image_0 5 rfl rfl)
theorem dX0_image_8 : decode cX0_image 8 = .ok (.invokevirtual 238, 3) := dk_182 0 238 (dk_at dksX0_image_0 8 rfl rfl)
theorem dX0_image_11 : decode cX0_image 11 = .ok (.aload_n 0, 1) := dk_42 (dk_at dksX0_image_0 11 rfl rfl)
theorem dX0_image_12 : decode cX0_image 12 = .ok (.iconst 1, 1) := dk_4 (dk_at dksX0_image_0 12 rfl rfl)
theorem dX0_image_13 : decode cX0_image 13 = .ok (.putfield 405, 3) := dk_181 1 149 (dk_at dksX0_image_0 13 rfl rfl)
theorem dX0_image_16 : decode cX0_image 16 = .ok (.iconst 1, 1) := dk_4 (dk_at dksX0_image_0 16 rfl rfl)
theorem dX0_image_17 : decode cX0_image 17 = .ok (.ireturn, 1) := dk_172 (dk_at dksX0_image_0 17 rfl rfl)
abbrev cX0_undo : ByteArray := prog_1_method_100_code
def yX0_undo : MethodName := ⟨RX0, "undo", "()I"⟩
def dkwX0_undo_1 : List UInt8 := [42, 180, 0, 76, 180, 0, 226, 172]
abbrev dktX0_undo_1 : List UInt8 := dkwX0_undo_1 ++ []
def dkwX0_undo_0 : List UInt8 := [42, 180, 1, 149, 154, 0, 9, 42, 6, 182, 0, 126, 172, 42, 180, 0, 76, 42, 180, 0, 80, 182, 0, 238]
abbrev dktX0_undo_0 : List UInt8 := dkwX0_undo_0 ++ dktX0_undo_1
theorem dksX0_undo_0 : cX0_undo.data.toList.drop 0 = dktX0_undo_0 := by decide +kernel
theorem dksX0_undo_1 : cX0_undo.data.toList.drop 24 = dktX0_undo_1 := dk_seg dksX0_undo_0 24 rfl rfl
theorem dX0_undo_0 : decode cX0_undo 0 = .ok (.aload_n 0, 1) := dk_42 (dk_at dksX0_undo_0 0 rfl rfl)
theorem dX0_undo_1 : decode cX0_undo 1 = .ok (.getfield 405, 3) := dk_180 1 149 (dk_at dksX0_undo_0 1 rfl rfl)
theorem dX0_undo_4 : decode cX0_undo 4 = .ok (.ifCond .ne 9, 3) := dk_154 0 9 (dk_at dksX0_undo_0 4 rfl rfl)
theorem dX0_undo_7 : decode cX0_undo 7 = .ok (.aload_n 0, 1) := dk_42 (dk_at dksX0_undo_0 7 rfl rfl)
theorem dX0_undo_8 : decode cX0_undo 8 = .ok (.iconst 3, 1) := dk_6 (dk_at dksX0_undo_0 8 rfl rfl)
theorem dX0_undo_9 : decode cX0_undo 9 = .ok (.invokevirtual 126, 3) := dk_182 0 126 (dk_at dksX0_undo_0 9 rfl rfl)
theorem dX0_undo_12 : decode cX0_undo 12 = .ok (.ireturn, 1) := dk_172 (dk_at dksX0_undo_0 12 rfl rfl)
theorem dX0_undo_13 : decode cX0_undo 13 = .ok (.aload_n 0, 1) := dk_42 (dk_at dksX0_undo_0 13 rfl rfl)
theorem dX0_undo_14 : decode cX0_undo 14 = .ok (.getfield 76, 3) := dk_180 0 76 (dk_at dksX0_undo_0 14 rfl rfl)
theorem dX0_undo_17 : decode cX0_undo 17 = .ok (.aload_n 0, 1) := dk_42 (dk_at dksX0_undo_0 17 rfl rfl)
theorem dX0_undo_18 : decode cX0_undo 18 = .ok (.getfield 80, 3) := dk_180 0 80 (dk_at dksX0_undo_0 18 rfl rfl)
theorem dX0_undo_21 : decode cX0_undo 21 = .ok (.invokevirtual 238, 3) := dk_182 0 238 (dk_at dksX0_undo_0 21 rfl rfl)
theorem dX0_undo_24 : decode cX0_undo 24 = .ok (.aload_n 0, 1) := dk_42 (dk_at dksX0_undo_1 0 rfl rfl)
theorem dX0_undo_25 : decode cX0_undo 25 = .ok (.getfield 76, 3) := dk_180 0 76 (dk_at dksX0_undo_1 1 rfl rfl)
theorem dX0_undo_28 : decode cX0_undo 28 = .ok (.getfield 226, 3) := dk_180 0 226 (dk_at dksX0_undo_1 4 rfl rfl)
theorem dX0_undo_31 : decode cX0_undo 31 = .ok (.ireturn, 1) := dk_172 (dk_at dksX0_undo_1 7 rfl rfl)
abbrev cX0_tear : ByteArray := prog_1_method_101_code
def yX0_tear : MethodName := ⟨RX0, "tear", "()I"⟩
def dkwX0_tear_0 : List UInt8 := [42, 180, 1, 149, 153, 0, 7, 4, 167, 0, 4, 3, 60, 42, 3, 181, 1, 149, 27, 172]
abbrev dktX0_tear_0 : List UInt8 := dkwX0_tear_0 ++ []
theorem dksX0_tear_0 : cX0_tear.data.toList.drop 0 = dktX0_tear_0 := by decide +kernel
theorem dX0_tear_0 : decode cX0_tear 0 = .ok (.aload_n 0, 1) := dk_42 (dk_at dksX0_tear_0 0 rfl rfl)
theorem dX0_tear_1 : decode cX0_tear 1 = .ok (.getfield 405, 3) := dk_180 1 149 (dk_at dksX0_tear_0 1 rfl rfl)
theorem dX0_tear_4 : decode cX0_tear 4 = .ok (.ifCond .eq 7, 3) := dk_153 0 7 (dk_at dksX0_tear_0 4 rfl rfl)
theorem dX0_tear_7 : decode cX0_tear 7 = .ok (.iconst 1, 1) := dk_4 (dk_at dksX0_tear_0 7 rfl rfl)
theorem dX0_tear_8 : decode cX0_tear 8 = .ok (.goto 4, 3) := dk_167 0 4 (dk_at dksX0_tear_0 8 rfl rfl)
theorem dX0_tear_11 : decode cX0_tear 11 = .ok (.iconst 0, 1) := dk_3 (dk_at dksX0_tear_0 11 rfl rfl)
theorem dX0_tear_12 : decode cX0_tear 12 = .ok (.istore_n 1, 1) := dk_60 (dk_at dksX0_tear_0 12 rfl rfl)
theorem dX0_tear_13 : decode cX0_tear 13 = .ok (.aload_n 0, 1) := dk_42 (dk_at dksX0_tear_0 13 rfl rfl)
theorem dX0_tear_14 : decode cX0_tear 14 = .ok (.iconst 0, 1) := dk_3 (dk_at dksX0_tear_0 14 rfl rfl)
theorem dX0_tear_15 : decode cX0_tear 15 = .ok (.putfield 405, 3) := dk_181 1 149 (dk_at dksX0_tear_0 15 rfl rfl)
theorem dX0_tear_18 : decode cX0_tear 18 = .ok (.iload_n 1, 1) := dk_27 (dk_at dksX0_tear_0 18 rfl rfl)
theorem dX0_tear_19 : decode cX0_tear 19 = .ok (.ireturn, 1) := dk_172 (dk_at dksX0_tear_0 19 rfl rfl)
abbrev cX0_count : ByteArray := prog_1_method_102_code
def yX0_count : MethodName := ⟨RX0, "count", "(I)I"⟩
def dkwX0_count_4 : List UInt8 := [180, 0, 76, 180, 1, 82, 172, 42, 182, 1, 153, 172, 42, 3, 182, 0, 126, 172]
abbrev dktX0_count_4 : List UInt8 := dkwX0_count_4 ++ []
def dkwX0_count_3 : List UInt8 := [42, 180, 0, 76, 6, 182, 0, 229, 172, 42, 180, 0, 76, 7, 182, 0, 229, 172, 42, 180, 1, 85, 172, 42]
abbrev dktX0_count_3 : List UInt8 := dkwX0_count_3 ++ dktX0_count_4
def dkwX0_count_2 : List UInt8 := [42, 180, 0, 76, 180, 0, 226, 172, 42, 180, 0, 76, 180, 0, 124, 172, 42, 180, 0, 76, 180, 0, 217, 172]
abbrev dktX0_count_2 : List UInt8 := dkwX0_count_2 ++ dktX0_count_3
def dkwX0_count_1 : List UInt8 := [170, 0, 0, 0, 0, 0, 107, 0, 0, 0, 0, 0, 0, 0, 7, 0, 0, 0, 47, 0, 0, 0, 55, 0, 0, 0, 63, 0, 0, 0, 71, 0, 0, 0, 80, 0, 0, 0, 89, 0, 0, 0, 94, 0, 0, 0, 102]
abbrev dktX0_count_1 : List UInt8 := dkwX0_count_1 ++ dktX0_count_2
def dkwX0_count_0 : List UInt8 := [27]
abbrev dktX0_count_0 : List UInt8 := dkwX0_count_0 ++ dktX0_count_1
theorem dksX0_count_0 : cX0_count.data.toList.drop 0 = dktX0_count_0 := by decide +kernel
theorem dksX0_count_1 : cX0_count.data.toList.drop 1 = dktX0_count_1 := dk_seg dksX0_count_0 1 rfl rfl
theorem dksX0_count_2 : cX0_count.data.toList.drop 48 = dktX0_count_2 := dk_seg dksX0_count_1 47 rfl rfl
theorem dksX0_count_3 : cX0_count.data.toList.drop 72 = dktX0_count_3 := dk_seg dksX0_count_2 24 rfl rfl
theorem dksX0_count_4 : cX0_count.data.toList.drop 96 = dktX0_count_4 := dk_seg dksX0_count_3 24 rfl rfl
theorem dX0_count_0 : decode cX0_count 0 = .ok (.iload_n 1, 1) := dk_27 (dk_at dksX0_count_0 0 rfl rfl)
theorem dX0_count_1 : decode cX0_count 1 = .ok (.tableswitch 107 0 7 #[47, 55, 63, 71, 80, 89, 94, 102], 47) := by decide +kernel
theorem dX0_count_48 : decode cX0_count 48 = .ok (.aload_n 0, 1) := dk_42 (dk_at dksX0_count_2 0 rfl rfl)
theorem dX0_count_49 : decode cX0_count 49 = .ok (.getfield 76, 3) := dk_180 0 76 (dk_at dksX0_count_2 1 rfl rfl)
theorem dX0_count_52 : decode cX0_count 52 = .ok (.getfield 226, 3) := dk_180 0 226 (dk_at dksX0_count_2 4 rfl rfl)
theorem dX0_count_55 : decode cX0_count 55 = .ok (.ireturn, 1) := dk_172 (dk_at dksX0_count_2 7 rfl rfl)
theorem dX0_count_56 : decode cX0_count 56 = .ok (.aload_n 0, 1) := dk_42 (dk_at dksX0_count_2 8 rfl rfl)
theorem dX0_count_57 : decode cX0_count 57 = .ok (.getfield 76, 3) := dk_180 0 76 (dk_at dksX0_count_2 9 rfl rfl)
theorem dX0_count_60 : decode cX0_count 60 = .ok (.getfield 124, 3) := dk_180 0 124 (dk_at dksX0_count_2 12 rfl rfl)
theorem dX0_count_63 : decode cX0_count 63 = .ok (.ireturn, 1) := dk_172 (dk_at dksX0_count_2 15 rfl rfl)
theorem dX0_count_64 : decode cX0_count 64 = .ok (.aload_n 0, 1) := dk_42 (dk_at dksX0_count_2 16 rfl rfl)
theorem dX0_count_65 : decode cX0_count 65 = .ok (.getfield 76, 3) := dk_180 0 76 (dk_at dksX0_count_2 17 rfl rfl)
theorem dX0_count_68 : decode cX0_count 68 = .ok (.getfield 217, 3) := dk_180 0 217 (dk_at dksX0_count_2 20 rfl rfl)
theorem dX0_count_71 : decode cX0_count 71 = .ok (.ireturn, 1) := dk_172 (dk_at dksX0_count_2 23 rfl rfl)
theorem dX0_count_72 : decode cX0_count 72 = .ok (.aload_n 0, 1) := dk_42 (dk_at dksX0_count_3 0 rfl rfl)
theorem dX0_count_73 : decode cX0_count 73 = .ok (.getfield 76, 3) := dk_180 0 76 (dk_at dksX0_count_3 1 rfl rfl)
theorem dX0_count_76 : decode cX0_count 76 = .ok (.iconst 3, 1) := dk_6 (dk_at dksX0_count_3 4 rfl rfl)
theorem dX0_count_77 : decode cX0_count 77 = .ok (.invokevirtual 229, 3) := dk_182 0 229 (dk_at dksX0_count_3 5 rfl rfl)
theorem dX0_count_80 : decode cX0_count 80 = .ok (.ireturn, 1) := dk_172 (dk_at dksX0_count_3 8 rfl rfl)
theorem dX0_count_81 : decode cX0_count 81 = .ok (.aload_n 0, 1) := dk_42 (dk_at dksX0_count_3 9 rfl rfl)
theorem dX0_count_82 : decode cX0_count 82 = .ok (.getfield 76, 3) := dk_180 0 76 (dk_at dksX0_count_3 10 rfl rfl)
theorem dX0_count_85 : decode cX0_count 85 = .ok (.iconst 4, 1) := dk_7 (dk_at dksX0_count_3 13 rfl rfl)
theorem dX0_count_86 : decode cX0_count 86 = .ok (.invokevirtual 229, 3) := dk_182 0 229 (dk_at dksX0_count_3 14 rfl rfl)
theorem dX0_count_89 : decode cX0_count 89 = .ok (.ireturn, 1) := dk_172 (dk_at dksX0_count_3 17 rfl rfl)
theorem dX0_count_90 : decode cX0_count 90 = .ok (.aload_n 0, 1) := dk_42 (dk_at dksX0_count_3 18 rfl rfl)
theorem dX0_count_91 : decode cX0_count 91 = .ok (.getfield 341, 3) := dk_180 1 85 (dk_at dksX0_count_3 19 rfl rfl)
theorem dX0_count_94 : decode cX0_count 94 = .ok (.ireturn, 1) := dk_172 (dk_at dksX0_count_3 22 rfl rfl)
theorem dX0_count_95 : decode cX0_count 95 = .ok (.aload_n 0, 1) := dk_42 (dk_at dksX0_count_3 23 rfl rfl)
theorem dX0_count_96 : decode cX0_count 96 = .ok (.getfield 76, 3) := dk_180 0 76 (dk_at dksX0_count_4 0 rfl rfl)
theorem dX0_count_99 : decode cX0_count 99 = .ok (.getfield 338, 3) := dk_180 1 82 (dk_at dksX0_count_4 3 rfl rfl)
theorem dX0_count_102 : decode cX0_count 102 = .ok (.ireturn, 1) := dk_172 (dk_at dksX0_count_4 6 rfl rfl)
theorem dX0_count_103 : decode cX0_count 103 = .ok (.aload_n 0, 1) := dk_42 (dk_at dksX0_count_4 7 rfl rfl)
theorem dX0_count_104 : decode cX0_count 104 = .ok (.invokevirtual 409, 3) := dk_182 1 153 (dk_at dksX0_count_4 8 rfl rfl)
theorem dX0_count_107 : decode cX0_count 107 = .ok (.ireturn, 1) := dk_172 (dk_at dksX0_count_4 11 rfl rfl)
theorem dX0_count_108 : decode cX0_count 108 = .ok (.aload_n 0, 1) := dk_42 (dk_at dksX0_count_4 12 rfl rfl)
theorem dX0_count_109 : decode cX0_count 109 = .ok (.iconst 0, 1) := dk_3 (dk_at dksX0_count_4 13 rfl rfl)
theorem dX0_count_110 : decode cX0_count 110 = .ok (.invokevirtual 126, 3) := dk_182 0 126 (dk_at dksX0_count_4 14 rfl rfl)
theorem dX0_count_113 : decode cX0_count 113 = .ok (.ireturn, 1) := dk_172 (dk_at dksX0_count_4 17 rfl rfl)
abbrev cX0_holding : ByteArray := prog_1_method_83_code
def yX0_holding : MethodName := ⟨RX0, "holding", "()I"⟩
def dkwX0_holding_2 : List UInt8 := [167, 255, 227, 27, 172]
abbrev dktX0_holding_2 : List UInt8 := dkwX0_holding_2 ++ []
def dkwX0_holding_1 : List UInt8 := [21, 4, 46, 54, 5, 27, 21, 5, 2, 160, 0, 7, 3, 167, 0, 4, 4, 96, 60, 132, 4, 1]
abbrev dktX0_holding_1 : List UInt8 := dkwX0_holding_1 ++ dktX0_holding_2
def dkwX0_holding_0 : List UInt8 := [3, 60, 42, 180, 0, 76, 180, 1, 105, 77, 44, 190, 62, 3, 54, 4, 21, 4, 29, 162, 0, 29, 44]
abbrev dktX0_holding_0 : List UInt8 := dkwX0_holding_0 ++ dktX0_holding_1
theorem dksX0_holding_0 : cX0_holding.data.toList.drop 0 = dktX0_holding_0 := by decide +kernel
theorem dksX0_holding_1 : cX0_holding.data.toList.drop 23 = dktX0_holding_1 := dk_seg dksX0_holding_0 23 rfl rfl
theorem dksX0_holding_2 : cX0_holding.data.toList.drop 45 = dktX0_holding_2 := dk_seg dksX0_holding_1 22 rfl rfl
theorem dX0_holding_0 : decode cX0_holding 0 = .ok (.iconst 0, 1) := dk_3 (dk_at dksX0_holding_0 0 rfl rfl)
theorem dX0_holding_1 : decode cX0_holding 1 = .ok (.istore_n 1, 1) := dk_60 (dk_at dksX0_holding_0 1 rfl rfl)
theorem dX0_holding_2 : decode cX0_holding 2 = .ok (.aload_n 0, 1) := dk_42 (dk_at dksX0_holding_0 2 rfl rfl)
theorem dX0_holding_3 : decode cX0_holding 3 = .ok (.getfield 76, 3) := dk_180 0 76 (dk_at dksX0_holding_0 3 rfl rfl)
theorem dX0_holding_6 : decode cX0_holding 6 = .ok (.getfield 361, 3) := dk_180 1 105 (dk_at dksX0_holding_0 6 rfl rfl)
theorem dX0_holding_9 : decode cX0_holding 9 = .ok (.astore_n 2, 1) := dk_77 (dk_at dksX0_holding_0 9 rfl rfl)
theorem dX0_holding_10 : decode cX0_holding 10 = .ok (.aload_n 2, 1) := dk_44 (dk_at dksX0_holding_0 10 rfl rfl)
theorem dX0_holding_11 : decode cX0_holding 11 = .ok (.arraylength, 1) := dk_190 (dk_at dksX0_holding_0 11 rfl rfl)
theorem dX0_holding_12 : decode cX0_holding 12 = .ok (.istore_n 3, 1) := dk_62 (dk_at dksX0_holding_0 12 rfl rfl)
theorem dX0_holding_13 : decode cX0_holding 13 = .ok (.iconst 0, 1) := dk_3 (dk_at dksX0_holding_0 13 rfl rfl)
theorem dX0_holding_14 : decode cX0_holding 14 = .ok (.istore 4, 2) := dk_54 4 (dk_at dksX0_holding_0 14 rfl rfl)
theorem dX0_holding_16 : decode cX0_holding 16 = .ok (.iload 4, 2) := dk_21 4 (dk_at dksX0_holding_0 16 rfl rfl)
theorem dX0_holding_18 : decode cX0_holding 18 = .ok (.iload_n 3, 1) := dk_29 (dk_at dksX0_holding_0 18 rfl rfl)
theorem dX0_holding_19 : decode cX0_holding 19 = .ok (.if_icmp .ge 29, 3) := dk_162 0 29 (dk_at dksX0_holding_0 19 rfl rfl)
theorem dX0_holding_22 : decode cX0_holding 22 = .ok (.aload_n 2, 1) := dk_44 (dk_at dksX0_holding_0 22 rfl rfl)
theorem dX0_holding_23 : decode cX0_holding 23 = .ok (.iload 4, 2) := dk_21 4 (dk_at dksX0_holding_1 0 rfl rfl)
theorem dX0_holding_25 : decode cX0_holding 25 = .ok (.iaload, 1) := dk_46 (dk_at dksX0_holding_1 2 rfl rfl)
theorem dX0_holding_26 : decode cX0_holding 26 = .ok (.istore 5, 2) := dk_54 5 (dk_at dksX0_holding_1 3 rfl rfl)
theorem dX0_holding_28 : decode cX0_holding 28 = .ok (.iload_n 1, 1) := dk_27 (dk_at dksX0_holding_1 5 rfl rfl)
theorem dX0_holding_29 : decode cX0_holding 29 = .ok (.iload 5, 2) := dk_21 5 (dk_at dksX0_holding_1 6 rfl rfl)
theorem dX0_holding_31 : decode cX0_holding 31 = .ok (.iconst (-1), 1) := dk_2 (dk_at dksX0_holding_1 8 rfl rfl)
theorem dX0_holding_32 : decode cX0_holding 32 = .ok (.if_icmp .ne 7, 3) := dk_160 0 7 (dk_at dksX0_holding_1 9 rfl rfl)
theorem dX0_holding_35 : decode cX0_holding 35 = .ok (.iconst 0, 1) := dk_3 (dk_at dksX0_holding_1 12 rfl rfl)
theorem dX0_holding_36 : decode cX0_holding 36 = .ok (.goto 4, 3) := dk_167 0 4 (dk_at dksX0_holding_1 13 rfl rfl)
theorem dX0_holding_39 : decode cX0_holding 39 = .ok (.iconst 1, 1) := dk_4 (dk_at dksX0_holding_1 16 rfl rfl)
theorem dX0_holding_40 : decode cX0_holding 40 = .ok (.iadd, 1) := dk_96 (dk_at dksX0_holding_1 17 rfl rfl)
theorem dX0_holding_41 : decode cX0_holding 41 = .ok (.istore_n 1, 1) := dk_60 (dk_at dksX0_holding_1 18 rfl rfl)
theorem dX0_holding_42 : decode cX0_holding 42 = .ok (.iinc 4 1, 3) := dk_132 4 1 (dk_at dksX0_holding_1 19 rfl rfl)
theorem dX0_holding_45 : decode cX0_holding 45 = .ok (.goto (-29), 3) := dk_167 255 227 (dk_at dksX0_holding_2 0 rfl rfl)
theorem dX0_holding_48 : decode cX0_holding 48 = .ok (.iload_n 1, 1) := dk_27 (dk_at dksX0_holding_2 3 rfl rfl)
theorem dX0_holding_49 : decode cX0_holding 49 = .ok (.ireturn, 1) := dk_172 (dk_at dksX0_holding_2 4 rfl rfl)
abbrev cX0_status : ByteArray := prog_1_method_103_code
def yX0_status : MethodName := ⟨RX0, "status", "(I)I"⟩
def dkwX0_status_2 : List UInt8 := [167, 0, 4, 3, 96, 61, 132, 3, 1, 167, 255, 221, 28, 172]
abbrev dktX0_status_2 : List UInt8 := dkwX0_status_2 ++ []
def dkwX0_status_1 : List UInt8 := [180, 0, 98, 190, 162, 0, 32, 28, 27, 2, 159, 0, 8, 27, 29, 160, 0, 12, 42, 180, 0, 98, 29, 46]
abbrev dktX0_status_1 : List UInt8 := dkwX0_status_1 ++ dktX0_status_2
def dkwX0_status_0 : List UInt8 := [27, 2, 16, 6, 184, 0, 9, 154, 0, 9, 42, 3, 182, 0, 126, 172, 3, 61, 3, 62, 29, 42]
abbrev dktX0_status_0 : List UInt8 := dkwX0_status_0 ++ dktX0_status_1
theorem dksX0_status_0 : cX0_status.data.toList.drop 0 = dktX0_status_0 := by decide +kernel
theorem dksX0_status_1 : cX0_status.data.toList.drop 22 = dktX0_status_1 := dk_seg dksX0_status_0 22 rfl rfl
theorem dksX0_status_2 : cX0_status.data.toList.drop 46 = dktX0_status_2 := dk_seg dksX0_status_1 24 rfl rfl
theorem dX0_status_0 : decode cX0_status 0 = .ok (.iload_n 1, 1) := dk_27 (dk_at dksX0_status_0 0 rfl rfl)
theorem dX0_status_1 : decode cX0_status 1 = .ok (.iconst (-1), 1) := dk_2 (dk_at dksX0_status_0 1 rfl rfl)
theorem dX0_status_2 : decode cX0_status 2 = .ok (.bipush 6, 2) := dk_16 6 (dk_at dksX0_status_0 2 rfl rfl)
theorem dX0_status_4 : decode cX0_status 4 = .ok (.invokestatic 9, 3) := dk_184 0 9 (dk_at dksX0_status_0 4 rfl rfl)
theorem dX0_status_7 : decode cX0_status 7 = .ok (.ifCond .ne 9, 3) := dk_154 0 9 (dk_at dksX0_status_0 7 rfl rfl)
theorem dX0_status_10 : decode cX0_status 10 = .ok (.aload_n 0, 1) := dk_42 (dk_at dksX0_status_0 10 rfl rfl)
theorem dX0_status_11 : decode cX0_status 11 = .ok (.iconst 0, 1) := dk_3 (dk_at dksX0_status_0 11 rfl rfl)
theorem dX0_status_12 : decode cX0_status 12 = .ok (.invokevirtual 126, 3) := dk_182 0 126 (dk_at dksX0_status_0 12 rfl rfl)
theorem dX0_status_15 : decode cX0_status 15 = .ok (.ireturn, 1) := dk_172 (dk_at dksX0_status_0 15 rfl rfl)
theorem dX0_status_16 : decode cX0_status 16 = .ok (.iconst 0, 1) := dk_3 (dk_at dksX0_status_0 16 rfl rfl)
theorem dX0_status_17 : decode cX0_status 17 = .ok (.istore_n 2, 1) := dk_61 (dk_at dksX0_status_0 17 rfl rfl)
theorem dX0_status_18 : decode cX0_status 18 = .ok (.iconst 0, 1) := dk_3 (dk_at dksX0_status_0 18 rfl rfl)
theorem dX0_status_19 : decode cX0_status 19 = .ok (.istore_n 3, 1) := dk_62 (dk_at dksX0_status_0 19 rfl rfl)
theorem dX0_status_20 : decode cX0_status 20 = .ok (.iload_n 3, 1) := dk_29 (dk_at dksX0_status_0 20 rfl rfl)
theorem dX0_status_21 : decode cX0_status 21 = .ok (.aload_n 0, 1) := dk_42 (dk_at dksX0_status_0 21 rfl rfl)
theorem dX0_status_22 : decode cX0_status 22 = .ok (.getfield 98, 3) := dk_180 0 98 (dk_at dksX0_status_1 0 rfl rfl)
theorem dX0_status_25 : decode cX0_status 25 = .ok (.arraylength, 1) := dk_190 (dk_at dksX0_status_1 3 rfl rfl)
theorem dX0_status_26 : decode cX0_status 26 = .ok (.if_icmp .ge 32, 3) := dk_162 0 32 (dk_at dksX0_status_1 4 rfl rfl)
theorem dX0_status_29 : decode cX0_status 29 = .ok (.iload_n 2, 1) := dk_28 (dk_at dksX0_status_1 7 rfl rfl)
theorem dX0_status_30 : decode cX0_status 30 = .ok (.iload_n 1, 1) := dk_27 (dk_at dksX0_status_1 8 rfl rfl)
theorem dX0_status_31 : decode cX0_status 31 = .ok (.iconst (-1), 1) := dk_2 (dk_at dksX0_status_1 9 rfl rfl)
theorem dX0_status_32 : decode cX0_status 32 = .ok (.if_icmp .eq 8, 3) := dk_159 0 8 (dk_at dksX0_status_1 10 rfl rfl)
theorem dX0_status_35 : decode cX0_status 35 = .ok (.iload_n 1, 1) := dk_27 (dk_at dksX0_status_1 13 rfl rfl)
theorem dX0_status_36 : decode cX0_status 36 = .ok (.iload_n 3, 1) := dk_29 (dk_at dksX0_status_1 14 rfl rfl)
theorem dX0_status_37 : decode cX0_status 37 = .ok (.if_icmp .ne 12, 3) := dk_160 0 12 (dk_at dksX0_status_1 15 rfl rfl)
theorem dX0_status_40 : decode cX0_status 40 = .ok (.aload_n 0, 1) := dk_42 (dk_at dksX0_status_1 18 rfl rfl)
theorem dX0_status_41 : decode cX0_status 41 = .ok (.getfield 98, 3) := dk_180 0 98 (dk_at dksX0_status_1 19 rfl rfl)
theorem dX0_status_44 : decode cX0_status 44 = .ok (.iload_n 3, 1) := dk_29 (dk_at dksX0_status_1 22 rfl rfl)
theorem dX0_status_45 : decode cX0_status 45 = .ok (.iaload, 1) := dk_46 (dk_at dksX0_status_1 23 rfl rfl)
theorem dX0_status_46 : decode cX0_status 46 = .ok (.goto 4, 3) := dk_167 0 4 (dk_at dksX0_status_2 0 rfl rfl)
theorem dX0_status_49 : decode cX0_status 49 = .ok (.iconst 0, 1) := dk_3 (dk_at dksX0_status_2 3 rfl rfl)
theorem dX0_status_50 : decode cX0_status 50 = .ok (.iadd, 1) := dk_96 (dk_at dksX0_status_2 4 rfl rfl)
theorem dX0_status_51 : decode cX0_status 51 = .ok (.istore_n 2, 1) := dk_61 (dk_at dksX0_status_2 5 rfl rfl)
theorem dX0_status_52 : decode cX0_status 52 = .ok (.iinc 3 1, 3) := dk_132 3 1 (dk_at dksX0_status_2 6 rfl rfl)
theorem dX0_status_55 : decode cX0_status 55 = .ok (.goto (-35), 3) := dk_167 255 221 (dk_at dksX0_status_2 9 rfl rfl)
theorem dX0_status_58 : decode cX0_status 58 = .ok (.iload_n 2, 1) := dk_28 (dk_at dksX0_status_2 12 rfl rfl)
theorem dX0_status_59 : decode cX0_status 59 = .ok (.ireturn, 1) := dk_172 (dk_at dksX0_status_2 13 rfl rfl)
theorem q90 : (Jvm.Cond.initialized "LineCalls") ∈ lw_all := lw_g (lw_at lw_m1 1 rfl) rfl
theorem q115 : (Jvm.Cond.instantiable "LineCalls" (12 : Nat)) ∈ lw_all := lw_g (lw_at lw_m1 26 rfl) rfl
theorem q117 : (Jvm.Cond.instanceMethod ({ cls := "LineCalls", name := "<init>", desc := "()V" } : Jvm.MethodName)) ∈ lw_all := lw_g (lw_at lw_m1 28 rfl) rfl
theorem q118 : (Jvm.Cond.code ({ cls := "LineCalls", name := "<init>", desc := "()V" } : Jvm.MethodName) prog_1_method_17_code (2 : Nat) (Option.none : Option Jvm.ClassFile.FieldType)) ∈ lw_all := lw_g (lw_at lw_m1 29 rfl) rfl
theorem q119 : (Jvm.Cond.methodLink "LineCalls" (54 : Nat) ({ cls := "java/lang/Object", name := "<init>", desc := "()V" } : Jvm.MethodName)) ∈ lw_all := lw_g (lw_at lw_m1 30 rfl) rfl
theorem q122 : (Jvm.Cond.classLink "LineCalls" (59 : Nat) "LineCalls$Refusal") ∈ lw_all := lw_g (lw_at lw_m1 33 rfl) rfl
theorem q162 : (Jvm.Cond.methodLink "LineCalls" (61 : Nat) ({ cls := "LineCalls$Refusal", name := "<init>", desc := "()V" } : Jvm.MethodName)) ∈ lw_all := lw_g (lw_at lw_m1 73 rfl) rfl
theorem q174 : (Jvm.Cond.fieldLinkNest "LineCalls" (116 : Nat) "LineCalls$Refusal" "finding" "I" "LineCalls") ∈ lw_tbl := lw_at lw_m1 85 rfl
theorem q190 : (Jvm.Cond.classLink "LineCalls" (66 : Nat) "LineCalls$Reader") ∈ lw_all := lw_g (lw_at lw_m1 101 rfl) rfl
theorem q192 : (Jvm.Cond.methodLinkNest "LineCalls" (68 : Nat) ({ cls := "LineCalls$Reader", name := "<init>", desc := "()V" } : Jvm.MethodName) "LineCalls") ∈ lw_tbl := lw_at lw_m1 103 rfl
theorem q221 : (Jvm.Cond.fieldLinkNest "LineCalls" (128 : Nat) "LineCalls$World" "line" "[I" "LineCalls") ∈ lw_tbl := lw_at lw_m1 132 rfl
theorem q224 : (Jvm.Cond.fieldLinkNest "LineCalls" (181 : Nat) "LineCalls$World" "theirs" "[[I" "LineCalls") ∈ lw_tbl := lw_at lw_m1 135 rfl
theorem q231 : (Jvm.Cond.fieldLinkNest "LineCalls" (187 : Nat) "LineCalls$World" "sets" "[I" "LineCalls") ∈ lw_tbl := lw_at lw_m1 142 rfl
theorem q234 : (Jvm.Cond.fieldLinkNest "LineCalls" (196 : Nat) "LineCalls$World" "list" "[I" "LineCalls") ∈ lw_tbl := lw_at lw_m1 145 rfl
theorem q236 : (Jvm.Cond.fieldLinkNest "LineCalls" (217 : Nat) "LineCalls$World" "metres" "I" "LineCalls") ∈ lw_tbl := lw_at lw_m1 147 rfl
theorem q239 : (Jvm.Cond.fieldLinkNest "LineCalls" (124 : Nat) "LineCalls$World" "jumpers" "I" "LineCalls") ∈ lw_tbl := lw_at lw_m1 150 rfl
theorem q243 : (Jvm.Cond.fieldLinkNest "LineCalls" (111 : Nat) "LineCalls$World" "jumper" "[[I" "LineCalls") ∈ lw_tbl := lw_at lw_m1 154 rfl
theorem q246 : (Jvm.Cond.fieldLinkNest "LineCalls" (226 : Nat) "LineCalls$World" "thrown" "I" "LineCalls") ∈ lw_tbl := lw_at lw_m1 157 rfl
theorem q248 : (Jvm.Cond.fieldLinkNest "LineCalls" (338 : Nat) "LineCalls$World" "z" "I" "LineCalls") ∈ lw_tbl := lw_at lw_m1 159 rfl
theorem q250 : (Jvm.Cond.fieldLinkNest "LineCalls" (361 : Nat) "LineCalls$World" "holds" "[I" "LineCalls") ∈ lw_tbl := lw_at lw_m1 161 rfl
theorem q276 : (Jvm.Cond.fieldLinkNest "LineCalls" (344 : Nat) "LineCalls$Reader" "tape" "[B" "LineCalls") ∈ lw_tbl := lw_at lw_m1 187 rfl
theorem q278 : (Jvm.Cond.fieldLinkNest "LineCalls" (350 : Nat) "LineCalls$Reader" "told" "LLineCalls$World;" "LineCalls") ∈ lw_tbl := lw_at lw_m1 189 rfl
theorem q280 : (Jvm.Cond.fieldLinkNest "LineCalls" (348 : Nat) "LineCalls$Reader" "length" "I" "LineCalls") ∈ lw_tbl := lw_at lw_m1 191 rfl
theorem q283 : (Jvm.Cond.fieldLinkNest "LineCalls" (358 : Nat) "LineCalls$Reader" "begin" "I" "LineCalls") ∈ lw_tbl := lw_at lw_m1 194 rfl
theorem q303 : (Jvm.Cond.classLink "LineCalls" (73 : Nat) "LineCalls$World") ∈ lw_all := lw_g (lw_at lw_m1 214 rfl) rfl
theorem q304 : (Jvm.Cond.methodLink "LineCalls" (75 : Nat) ({ cls := "LineCalls$World", name := "<init>", desc := "()V" } : Jvm.MethodName)) ∈ lw_all := lw_g (lw_at lw_m1 215 rfl) rfl
theorem q305 : (Jvm.Cond.classLink "LineCalls" (86 : Nat) "LineCalls$Slot") ∈ lw_all := lw_g (lw_at lw_m1 216 rfl) rfl
theorem q308 : (Jvm.Cond.methodLinkNest "LineCalls" (102 : Nat) ({ cls := "LineCalls$Slot", name := "<init>", desc := "()V" } : Jvm.MethodName) "LineCalls") ∈ lw_tbl := lw_at lw_m1 219 rfl
theorem q312 : (Jvm.Cond.fieldLinkNest "LineCalls" (107 : Nat) "LineCalls$Slot" "thing" "Ljava/lang/Object;" "LineCalls") ∈ lw_tbl := lw_at lw_m1 223 rfl
theorem q316 : (Jvm.Cond.methodLink "LineCalls" (103 : Nat) ({ cls := "LineCalls", name := "made", desc := "(II)LLineCalls$Jumper;" } : Jvm.MethodName)) ∈ lw_all := lw_g (lw_at lw_m1 227 rfl) rfl
theorem q317 : (Jvm.Cond.privateMethod ({ cls := "LineCalls", name := "made", desc := "(II)LLineCalls$Jumper;" } : Jvm.MethodName)) ∈ lw_tbl := lw_at lw_m1 228 rfl
theorem q318 : (Jvm.Cond.instanceMethod ({ cls := "LineCalls", name := "made", desc := "(II)LLineCalls$Jumper;" } : Jvm.MethodName)) ∈ lw_all := lw_g (lw_at lw_m1 229 rfl) rfl
theorem q319 : (Jvm.Cond.code ({ cls := "LineCalls", name := "made", desc := "(II)LLineCalls$Jumper;" } : Jvm.MethodName) prog_1_method_16_code (3 : Nat) (Option.some (Jvm.ClassFile.FieldType.object "LineCalls$Jumper"))) ∈ lw_all := lw_g (lw_at lw_m1 230 rfl) rfl
theorem q320 : (Jvm.Cond.classLink "LineCalls" (30 : Nat) "LineCalls$Prop") ∈ lw_all := lw_g (lw_at lw_m1 231 rfl) rfl
theorem q322 : (Jvm.Cond.methodLink "LineCalls" (32 : Nat) ({ cls := "LineCalls$Prop", name := "<init>", desc := "(LLineCalls;I)V" } : Jvm.MethodName)) ∈ lw_all := lw_g (lw_at lw_m1 233 rfl) rfl
theorem q331 : (Jvm.Cond.fieldLink "LineCalls" (377 : Nat) "LineCalls$Jumper" "number" "I") ∈ lw_all := lw_g (lw_at lw_m2 2 rfl) rfl
theorem q340 : (Jvm.Cond.classLink "LineCalls" (36 : Nat) "LineCalls$Lock") ∈ lw_all := lw_g (lw_at lw_m2 11 rfl) rfl
theorem q342 : (Jvm.Cond.methodLink "LineCalls" (38 : Nat) ({ cls := "LineCalls$Lock", name := "<init>", desc := "(LLineCalls;I)V" } : Jvm.MethodName)) ∈ lw_all := lw_g (lw_at lw_m2 13 rfl) rfl
theorem q352 : (Jvm.Cond.classLink "LineCalls" (39 : Nat) "LineCalls$Tower") ∈ lw_all := lw_g (lw_at lw_m2 23 rfl) rfl
theorem q354 : (Jvm.Cond.methodLink "LineCalls" (41 : Nat) ({ cls := "LineCalls$Tower", name := "<init>", desc := "(LLineCalls;I)V" } : Jvm.MethodName)) ∈ lw_all := lw_g (lw_at lw_m2 25 rfl) rfl
theorem q365 : (Jvm.Cond.classLink "LineCalls" (42 : Nat) "LineCalls$Giant") ∈ lw_all := lw_g (lw_at lw_m2 36 rfl) rfl
theorem q367 : (Jvm.Cond.methodLink "LineCalls" (44 : Nat) ({ cls := "LineCalls$Giant", name := "<init>", desc := "(LLineCalls;I)V" } : Jvm.MethodName)) ∈ lw_all := lw_g (lw_at lw_m2 38 rfl) rfl
theorem q379 : (Jvm.Cond.classLink "LineCalls" (45 : Nat) "LineCalls$Rookie") ∈ lw_all := lw_g (lw_at lw_m2 50 rfl) rfl
theorem q381 : (Jvm.Cond.methodLink "LineCalls" (47 : Nat) ({ cls := "LineCalls$Rookie", name := "<init>", desc := "(LLineCalls;I)V" } : Jvm.MethodName)) ∈ lw_all := lw_g (lw_at lw_m2 52 rfl) rfl
theorem q391 : (Jvm.Cond.classLink "LineCalls" (48 : Nat) "LineCalls$Flanker") ∈ lw_all := lw_g (lw_at lw_m2 62 rfl) rfl
theorem q393 : (Jvm.Cond.methodLink "LineCalls" (50 : Nat) ({ cls := "LineCalls$Flanker", name := "<init>", desc := "(LLineCalls;I)V" } : Jvm.MethodName)) ∈ lw_all := lw_g (lw_at lw_m2 64 rfl) rfl
theorem q404 : (Jvm.Cond.classLink "LineCalls" (51 : Nat) "LineCalls$Jumper") ∈ lw_all := lw_g (lw_at lw_m2 75 rfl) rfl
theorem q406 : (Jvm.Cond.methodLink "LineCalls" (53 : Nat) ({ cls := "LineCalls$Jumper", name := "<init>", desc := "(LLineCalls;I)V" } : Jvm.MethodName)) ∈ lw_all := lw_g (lw_at lw_m2 77 rfl) rfl
theorem q410 : (Jvm.Cond.fieldLink "LineCalls" (62 : Nat) "LineCalls" "refusal" "LLineCalls$Refusal;") ∈ lw_all := lw_g (lw_at lw_m2 81 rfl) rfl
theorem q411 : (Jvm.Cond.fieldLink "LineCalls" (69 : Nat) "LineCalls" "reader" "LLineCalls$Reader;") ∈ lw_all := lw_g (lw_at lw_m2 82 rfl) rfl
theorem q412 : (Jvm.Cond.fieldLink "LineCalls" (341 : Nat) "LineCalls" "taped" "I") ∈ lw_all := lw_g (lw_at lw_m2 83 rfl) rfl
theorem q418 : (Jvm.Cond.fieldLink "LineCalls" (76 : Nat) "LineCalls" "d" "LLineCalls$World;") ∈ lw_all := lw_g (lw_at lw_m2 89 rfl) rfl
theorem q419 : (Jvm.Cond.fieldLink "LineCalls" (80 : Nat) "LineCalls" "kept" "LLineCalls$World;") ∈ lw_all := lw_g (lw_at lw_m2 90 rfl) rfl
theorem q420 : (Jvm.Cond.fieldLink "LineCalls" (83 : Nat) "LineCalls" "aside" "LLineCalls$World;") ∈ lw_all := lw_g (lw_at lw_m2 91 rfl) rfl
theorem q421 : (Jvm.Cond.fieldLink "LineCalls" (405 : Nat) "LineCalls" "isKept" "Z") ∈ lw_all := lw_g (lw_at lw_m2 92 rfl) rfl
theorem q422 : (Jvm.Cond.fieldLink "LineCalls" (88 : Nat) "LineCalls" "jumpers" "[LLineCalls$Slot;") ∈ lw_all := lw_g (lw_at lw_m2 93 rfl) rfl
theorem q423 : (Jvm.Cond.fieldLink "LineCalls" (92 : Nat) "LineCalls" "spots" "[LLineCalls$Slot;") ∈ lw_all := lw_g (lw_at lw_m2 94 rfl) rfl
theorem q424 : (Jvm.Cond.fieldLink "LineCalls" (95 : Nat) "LineCalls" "sheets" "[LLineCalls$Slot;") ∈ lw_all := lw_g (lw_at lw_m2 95 rfl) rfl
theorem q425 : (Jvm.Cond.fieldLink "LineCalls" (98 : Nat) "LineCalls" "findings" "[I") ∈ lw_all := lw_g (lw_at lw_m2 96 rfl) rfl
theorem q426 : (Jvm.Cond.fieldLink "LineCalls" (313 : Nat) "LineCalls" "firstFit" "I") ∈ lw_all := lw_g (lw_at lw_m2 97 rfl) rfl
theorem q427 : (Jvm.Cond.laysFinal "LineCalls" "LineCalls" "refusal" "LLineCalls$Refusal;") ∈ lw_all := lw_g (lw_at lw_m2 98 rfl) rfl
theorem q428 : (Jvm.Cond.soleField "LineCalls" "refusal") ∈ lw_all := lw_g (lw_at lw_m2 99 rfl) rfl
theorem q429 : (Jvm.Cond.laysFinal "LineCalls" "LineCalls" "reader" "LLineCalls$Reader;") ∈ lw_all := lw_g (lw_at lw_m2 100 rfl) rfl
theorem q430 : (Jvm.Cond.soleField "LineCalls" "reader") ∈ lw_all := lw_g (lw_at lw_m2 101 rfl) rfl
theorem q431 : (Jvm.Cond.lays "LineCalls" "LineCalls" "taped" "I") ∈ lw_all := lw_g (lw_at lw_m2 102 rfl) rfl
theorem q432 : (Jvm.Cond.soleField "LineCalls" "taped") ∈ lw_all := lw_g (lw_at lw_m2 103 rfl) rfl
theorem q433 : (Jvm.Cond.laysFinal "LineCalls" "LineCalls" "d" "LLineCalls$World;") ∈ lw_all := lw_g (lw_at lw_m2 104 rfl) rfl
theorem q434 : (Jvm.Cond.soleField "LineCalls" "d") ∈ lw_all := lw_g (lw_at lw_m2 105 rfl) rfl
theorem q435 : (Jvm.Cond.laysFinal "LineCalls" "LineCalls" "kept" "LLineCalls$World;") ∈ lw_all := lw_g (lw_at lw_m2 106 rfl) rfl
theorem q436 : (Jvm.Cond.soleField "LineCalls" "kept") ∈ lw_all := lw_g (lw_at lw_m2 107 rfl) rfl
theorem q437 : (Jvm.Cond.laysFinal "LineCalls" "LineCalls" "aside" "LLineCalls$World;") ∈ lw_all := lw_g (lw_at lw_m2 108 rfl) rfl
theorem q438 : (Jvm.Cond.soleField "LineCalls" "aside") ∈ lw_all := lw_g (lw_at lw_m2 109 rfl) rfl
theorem q439 : (Jvm.Cond.lays "LineCalls" "LineCalls" "isKept" "Z") ∈ lw_all := lw_g (lw_at lw_m2 110 rfl) rfl
theorem q440 : (Jvm.Cond.soleField "LineCalls" "isKept") ∈ lw_all := lw_g (lw_at lw_m2 111 rfl) rfl
theorem q441 : (Jvm.Cond.laysFinal "LineCalls" "LineCalls" "jumpers" "[LLineCalls$Slot;") ∈ lw_all := lw_g (lw_at lw_m2 112 rfl) rfl
theorem q442 : (Jvm.Cond.soleField "LineCalls" "jumpers") ∈ lw_all := lw_g (lw_at lw_m2 113 rfl) rfl
theorem q443 : (Jvm.Cond.laysFinal "LineCalls" "LineCalls" "spots" "[LLineCalls$Slot;") ∈ lw_all := lw_g (lw_at lw_m2 114 rfl) rfl
theorem q444 : (Jvm.Cond.soleField "LineCalls" "spots") ∈ lw_all := lw_g (lw_at lw_m2 115 rfl) rfl
theorem q445 : (Jvm.Cond.laysFinal "LineCalls" "LineCalls" "sheets" "[LLineCalls$Slot;") ∈ lw_all := lw_g (lw_at lw_m2 116 rfl) rfl
theorem q446 : (Jvm.Cond.soleField "LineCalls" "sheets") ∈ lw_all := lw_g (lw_at lw_m2 117 rfl) rfl
theorem q447 : (Jvm.Cond.laysFinal "LineCalls" "LineCalls" "findings" "[I") ∈ lw_all := lw_g (lw_at lw_m2 118 rfl) rfl
theorem q448 : (Jvm.Cond.soleField "LineCalls" "findings") ∈ lw_all := lw_g (lw_at lw_m2 119 rfl) rfl
theorem q449 : (Jvm.Cond.lays "LineCalls" "LineCalls" "firstFit" "I") ∈ lw_all := lw_g (lw_at lw_m2 120 rfl) rfl
theorem q450 : (Jvm.Cond.soleField "LineCalls" "firstFit") ∈ lw_all := lw_g (lw_at lw_m2 121 rfl) rfl
theorem q451 : (Jvm.Cond.superclass "LineCalls" "java/lang/Object") ∈ lw_all := lw_g (lw_at lw_m2 122 rfl) rfl
theorem q453 : (Jvm.Cond.instanceMethod ({ cls := "LineCalls", name := "stand", desc := "(II)I" } : Jvm.MethodName)) ∈ lw_all := lw_g (lw_at lw_m2 124 rfl) rfl
theorem q454 : (Jvm.Cond.selects "LineCalls" ({ cls := "LineCalls", name := "stand", desc := "(II)I" } : Jvm.MethodName) ({ cls := "LineCalls", name := "stand", desc := "(II)I" } : Jvm.MethodName)) ∈ lw_all := lw_g (lw_at lw_m2 125 rfl) rfl
theorem q455 : (Jvm.Cond.code ({ cls := "LineCalls", name := "stand", desc := "(II)I" } : Jvm.MethodName) prog_1_method_27_code (3 : Nat) (Option.some Jvm.ClassFile.FieldType.int)) ∈ lw_all := lw_g (lw_at lw_m2 126 rfl) rfl
theorem q456 : (Jvm.Cond.methodLink "LineCalls" (172 : Nat) ({ cls := "LineCalls", name := "isPlace", desc := "(I)Z" } : Jvm.MethodName)) ∈ lw_all := lw_g (lw_at lw_m2 127 rfl) rfl
theorem q457 : (Jvm.Cond.static ({ cls := "LineCalls", name := "isPlace", desc := "(I)Z" } : Jvm.MethodName)) ∈ lw_all := lw_g (lw_at lw_m2 128 rfl) rfl
theorem q458 : (Jvm.Cond.code ({ cls := "LineCalls", name := "isPlace", desc := "(I)Z" } : Jvm.MethodName) prog_1_method_7_code (1 : Nat) (Option.some Jvm.ClassFile.FieldType.boolean)) ∈ lw_all := lw_g (lw_at lw_m2 129 rfl) rfl
theorem q459 : (Jvm.Cond.methodLink "LineCalls" (9 : Nat) ({ cls := "LineCalls", name := "in", desc := "(III)Z" } : Jvm.MethodName)) ∈ lw_all := lw_g (lw_at lw_m2 130 rfl) rfl
theorem q460 : (Jvm.Cond.static ({ cls := "LineCalls", name := "in", desc := "(III)Z" } : Jvm.MethodName)) ∈ lw_all := lw_g (lw_at lw_m2 131 rfl) rfl
theorem q461 : (Jvm.Cond.code ({ cls := "LineCalls", name := "in", desc := "(III)Z" } : Jvm.MethodName) prog_1_method_1_code (3 : Nat) (Option.some Jvm.ClassFile.FieldType.boolean)) ∈ lw_all := lw_g (lw_at lw_m2 132 rfl) rfl
theorem q462 : (Jvm.Cond.methodLink "LineCalls" (175 : Nat) ({ cls := "LineCalls", name := "isJumper", desc := "(I)Z" } : Jvm.MethodName)) ∈ lw_all := lw_g (lw_at lw_m2 133 rfl) rfl
theorem q463 : (Jvm.Cond.privateMethod ({ cls := "LineCalls", name := "isJumper", desc := "(I)Z" } : Jvm.MethodName)) ∈ lw_tbl := lw_at lw_m2 134 rfl
theorem q464 : (Jvm.Cond.instanceMethod ({ cls := "LineCalls", name := "isJumper", desc := "(I)Z" } : Jvm.MethodName)) ∈ lw_all := lw_g (lw_at lw_m2 135 rfl) rfl
theorem q465 : (Jvm.Cond.code ({ cls := "LineCalls", name := "isJumper", desc := "(I)Z" } : Jvm.MethodName) prog_1_method_22_code (2 : Nat) (Option.some Jvm.ClassFile.FieldType.boolean)) ∈ lw_all := lw_g (lw_at lw_m2 136 rfl) rfl
theorem q466 : (Jvm.Cond.methodLink "LineCalls" (126 : Nat) ({ cls := "LineCalls", name := "finding", desc := "(I)I" } : Jvm.MethodName)) ∈ lw_all := lw_g (lw_at lw_m2 137 rfl) rfl
theorem q467 : (Jvm.Cond.privateMethod ({ cls := "LineCalls", name := "finding", desc := "(I)I" } : Jvm.MethodName)) ∈ lw_tbl := lw_at lw_m2 138 rfl
theorem q468 : (Jvm.Cond.instanceMethod ({ cls := "LineCalls", name := "finding", desc := "(I)I" } : Jvm.MethodName)) ∈ lw_all := lw_g (lw_at lw_m2 139 rfl) rfl
theorem q469 : (Jvm.Cond.code ({ cls := "LineCalls", name := "finding", desc := "(I)I" } : Jvm.MethodName) prog_1_method_19_code (2 : Nat) (Option.some Jvm.ClassFile.FieldType.int)) ∈ lw_all := lw_g (lw_at lw_m2 140 rfl) rfl
theorem q470 : (Jvm.Cond.constant "LineCalls" (115 : Nat) (-1000001 : Int32)) ∈ lw_all := lw_g (lw_at lw_m2 141 rfl) rfl
theorem q471 : (Jvm.Cond.methodLink "LineCalls" (178 : Nat) ({ cls := "LineCalls$World", name := "stands", desc := "(II)I" } : Jvm.MethodName)) ∈ lw_all := lw_g (lw_at lw_m2 142 rfl) rfl
theorem q480 : (Jvm.Cond.instanceMethod ({ cls := "LineCalls", name := "place", desc := "(II)I" } : Jvm.MethodName)) ∈ lw_all := lw_g (lw_at lw_m2 151 rfl) rfl
theorem q481 : (Jvm.Cond.selects "LineCalls" ({ cls := "LineCalls", name := "place", desc := "(II)I" } : Jvm.MethodName) ({ cls := "LineCalls", name := "place", desc := "(II)I" } : Jvm.MethodName)) ∈ lw_all := lw_g (lw_at lw_m2 152 rfl) rfl
theorem q482 : (Jvm.Cond.code ({ cls := "LineCalls", name := "place", desc := "(II)I" } : Jvm.MethodName) prog_1_method_28_code (3 : Nat) (Option.some Jvm.ClassFile.FieldType.int)) ∈ lw_all := lw_g (lw_at lw_m2 153 rfl) rfl
theorem q483 : (Jvm.Cond.methodLink "LineCalls" (139 : Nat) ({ cls := "LineCalls$World", name := "force", desc := "(I)I" } : Jvm.MethodName)) ∈ lw_all := lw_g (lw_at lw_m2 154 rfl) rfl
theorem q488 : (Jvm.Cond.instanceMethod ({ cls := "LineCalls", name := "theirs", desc := "(III)I" } : Jvm.MethodName)) ∈ lw_all := lw_g (lw_at lw_m2 159 rfl) rfl
theorem q489 : (Jvm.Cond.selects "LineCalls" ({ cls := "LineCalls", name := "theirs", desc := "(III)I" } : Jvm.MethodName) ({ cls := "LineCalls", name := "theirs", desc := "(III)I" } : Jvm.MethodName)) ∈ lw_all := lw_g (lw_at lw_m2 160 rfl) rfl
theorem q490 : (Jvm.Cond.code ({ cls := "LineCalls", name := "theirs", desc := "(III)I" } : Jvm.MethodName) prog_1_method_29_code (5 : Nat) (Option.some Jvm.ClassFile.FieldType.int)) ∈ lw_all := lw_g (lw_at lw_m2 161 rfl) rfl
theorem q491 : (Jvm.Cond.methodLink "LineCalls" (17 : Nat) ({ cls := "LineCalls", name := "isHigh", desc := "(I)Z" } : Jvm.MethodName)) ∈ lw_all := lw_g (lw_at lw_m2 162 rfl) rfl
theorem q492 : (Jvm.Cond.static ({ cls := "LineCalls", name := "isHigh", desc := "(I)Z" } : Jvm.MethodName)) ∈ lw_all := lw_g (lw_at lw_m2 163 rfl) rfl
theorem q493 : (Jvm.Cond.code ({ cls := "LineCalls", name := "isHigh", desc := "(I)Z" } : Jvm.MethodName) prog_1_method_11_code (1 : Nat) (Option.some Jvm.ClassFile.FieldType.boolean)) ∈ lw_all := lw_g (lw_at lw_m2 164 rfl) rfl
theorem q495 : (Jvm.Cond.instanceMethod ({ cls := "LineCalls", name := "set", desc := "(II)I" } : Jvm.MethodName)) ∈ lw_all := lw_g (lw_at lw_m2 166 rfl) rfl
theorem q496 : (Jvm.Cond.selects "LineCalls" ({ cls := "LineCalls", name := "set", desc := "(II)I" } : Jvm.MethodName) ({ cls := "LineCalls", name := "set", desc := "(II)I" } : Jvm.MethodName)) ∈ lw_all := lw_g (lw_at lw_m2 167 rfl) rfl
theorem q497 : (Jvm.Cond.code ({ cls := "LineCalls", name := "set", desc := "(II)I" } : Jvm.MethodName) prog_1_method_30_code (5 : Nat) (Option.some Jvm.ClassFile.FieldType.int)) ∈ lw_all := lw_g (lw_at lw_m2 168 rfl) rfl
theorem q498 : (Jvm.Cond.methodLink "LineCalls" (184 : Nat) ({ cls := "LineCalls", name := "isCode", desc := "(I)Z" } : Jvm.MethodName)) ∈ lw_all := lw_g (lw_at lw_m2 169 rfl) rfl
theorem q499 : (Jvm.Cond.static ({ cls := "LineCalls", name := "isCode", desc := "(I)Z" } : Jvm.MethodName)) ∈ lw_all := lw_g (lw_at lw_m2 170 rfl) rfl
theorem q500 : (Jvm.Cond.code ({ cls := "LineCalls", name := "isCode", desc := "(I)Z" } : Jvm.MethodName) prog_1_method_10_code (1 : Nat) (Option.some Jvm.ClassFile.FieldType.boolean)) ∈ lw_all := lw_g (lw_at lw_m2 171 rfl) rfl
theorem q502 : (Jvm.Cond.instanceMethod ({ cls := "LineCalls", name := "call", desc := "(II)I" } : Jvm.MethodName)) ∈ lw_all := lw_g (lw_at lw_m2 173 rfl) rfl
theorem q503 : (Jvm.Cond.selects "LineCalls" ({ cls := "LineCalls", name := "call", desc := "(II)I" } : Jvm.MethodName) ({ cls := "LineCalls", name := "call", desc := "(II)I" } : Jvm.MethodName)) ∈ lw_all := lw_g (lw_at lw_m2 174 rfl) rfl
theorem q504 : (Jvm.Cond.code ({ cls := "LineCalls", name := "call", desc := "(II)I" } : Jvm.MethodName) prog_1_method_31_code (4 : Nat) (Option.some Jvm.ClassFile.FieldType.int)) ∈ lw_all := lw_g (lw_at lw_m2 175 rfl) rfl
theorem q505 : (Jvm.Cond.methodLink "LineCalls" (190 : Nat) ({ cls := "LineCalls", name := "isListed", desc := "(I)Z" } : Jvm.MethodName)) ∈ lw_all := lw_g (lw_at lw_m2 176 rfl) rfl
theorem q506 : (Jvm.Cond.static ({ cls := "LineCalls", name := "isListed", desc := "(I)Z" } : Jvm.MethodName)) ∈ lw_all := lw_g (lw_at lw_m2 177 rfl) rfl
theorem q507 : (Jvm.Cond.code ({ cls := "LineCalls", name := "isListed", desc := "(I)Z" } : Jvm.MethodName) prog_1_method_8_code (1 : Nat) (Option.some Jvm.ClassFile.FieldType.boolean)) ∈ lw_all := lw_g (lw_at lw_m2 178 rfl) rfl
theorem q508 : (Jvm.Cond.methodLink "LineCalls" (193 : Nat) ({ cls := "LineCalls", name := "isCall", desc := "(I)Z" } : Jvm.MethodName)) ∈ lw_all := lw_g (lw_at lw_m2 179 rfl) rfl
theorem q509 : (Jvm.Cond.static ({ cls := "LineCalls", name := "isCall", desc := "(I)Z" } : Jvm.MethodName)) ∈ lw_all := lw_g (lw_at lw_m2 180 rfl) rfl
theorem q510 : (Jvm.Cond.code ({ cls := "LineCalls", name := "isCall", desc := "(I)Z" } : Jvm.MethodName) prog_1_method_9_code (1 : Nat) (Option.some Jvm.ClassFile.FieldType.boolean)) ∈ lw_all := lw_g (lw_at lw_m2 181 rfl) rfl
theorem q512 : (Jvm.Cond.instanceMethod ({ cls := "LineCalls", name := "listed", desc := "(I)I" } : Jvm.MethodName)) ∈ lw_all := lw_g (lw_at lw_m2 183 rfl) rfl
theorem q513 : (Jvm.Cond.selects "LineCalls" ({ cls := "LineCalls", name := "listed", desc := "(I)I" } : Jvm.MethodName) ({ cls := "LineCalls", name := "listed", desc := "(I)I" } : Jvm.MethodName)) ∈ lw_all := lw_g (lw_at lw_m2 184 rfl) rfl
theorem q514 : (Jvm.Cond.code ({ cls := "LineCalls", name := "listed", desc := "(I)I" } : Jvm.MethodName) prog_1_method_32_code (2 : Nat) (Option.some Jvm.ClassFile.FieldType.int)) ∈ lw_all := lw_g (lw_at lw_m2 185 rfl) rfl
theorem q516 : (Jvm.Cond.instanceMethod ({ cls := "LineCalls", name := "says", desc := "(II)I" } : Jvm.MethodName)) ∈ lw_all := lw_g (lw_at lw_m2 187 rfl) rfl
theorem q517 : (Jvm.Cond.selects "LineCalls" ({ cls := "LineCalls", name := "says", desc := "(II)I" } : Jvm.MethodName) ({ cls := "LineCalls", name := "says", desc := "(II)I" } : Jvm.MethodName)) ∈ lw_all := lw_g (lw_at lw_m2 188 rfl) rfl
theorem q518 : (Jvm.Cond.code ({ cls := "LineCalls", name := "says", desc := "(II)I" } : Jvm.MethodName) prog_1_method_33_code (3 : Nat) (Option.some Jvm.ClassFile.FieldType.int)) ∈ lw_all := lw_g (lw_at lw_m2 189 rfl) rfl
theorem q519 : (Jvm.Cond.methodLink "LineCalls" (199 : Nat) ({ cls := "LineCalls", name := "placeOf", desc := "(II)I" } : Jvm.MethodName)) ∈ lw_all := lw_g (lw_at lw_m2 190 rfl) rfl
theorem q520 : (Jvm.Cond.static ({ cls := "LineCalls", name := "placeOf", desc := "(II)I" } : Jvm.MethodName)) ∈ lw_all := lw_g (lw_at lw_m2 191 rfl) rfl
theorem q521 : (Jvm.Cond.code ({ cls := "LineCalls", name := "placeOf", desc := "(II)I" } : Jvm.MethodName) prog_1_method_15_code (2 : Nat) (Option.some Jvm.ClassFile.FieldType.int)) ∈ lw_all := lw_g (lw_at lw_m2 192 rfl) rfl
theorem q522 : (Jvm.Cond.methodLink "LineCalls" (26 : Nat) ({ cls := "LineCalls", name := "counts", desc := "(II)I" } : Jvm.MethodName)) ∈ lw_all := lw_g (lw_at lw_m2 193 rfl) rfl
theorem q523 : (Jvm.Cond.static ({ cls := "LineCalls", name := "counts", desc := "(II)I" } : Jvm.MethodName)) ∈ lw_all := lw_g (lw_at lw_m2 194 rfl) rfl
theorem q524 : (Jvm.Cond.code ({ cls := "LineCalls", name := "counts", desc := "(II)I" } : Jvm.MethodName) prog_1_method_14_code (5 : Nat) (Option.some Jvm.ClassFile.FieldType.int)) ∈ lw_all := lw_g (lw_at lw_m2 195 rfl) rfl
theorem q525 : (Jvm.Cond.methodLink "LineCalls" (23 : Nat) ({ cls := "LineCalls", name := "ones", desc := "(I)I" } : Jvm.MethodName)) ∈ lw_all := lw_g (lw_at lw_m2 196 rfl) rfl
theorem q526 : (Jvm.Cond.static ({ cls := "LineCalls", name := "ones", desc := "(I)I" } : Jvm.MethodName)) ∈ lw_all := lw_g (lw_at lw_m2 197 rfl) rfl
theorem q527 : (Jvm.Cond.code ({ cls := "LineCalls", name := "ones", desc := "(I)I" } : Jvm.MethodName) prog_1_method_3_code (1 : Nat) (Option.some Jvm.ClassFile.FieldType.int)) ∈ lw_all := lw_g (lw_at lw_m2 198 rfl) rfl
theorem q528 : (Jvm.Cond.methodLink "LineCalls" (1 : Nat) ({ cls := "java/lang/Integer", name := "bitCount", desc := "(I)I" } : Jvm.MethodName)) ∈ lw_all := lw_g (lw_at lw_m2 199 rfl) rfl
theorem q535 : (Jvm.Cond.instanceMethod ({ cls := "LineCalls", name := "jumper", desc := "(II)I" } : Jvm.MethodName)) ∈ lw_all := lw_g (lw_at lw_m2 206 rfl) rfl
theorem q536 : (Jvm.Cond.selects "LineCalls" ({ cls := "LineCalls", name := "jumper", desc := "(II)I" } : Jvm.MethodName) ({ cls := "LineCalls", name := "jumper", desc := "(II)I" } : Jvm.MethodName)) ∈ lw_all := lw_g (lw_at lw_m2 207 rfl) rfl
theorem q537 : (Jvm.Cond.code ({ cls := "LineCalls", name := "jumper", desc := "(II)I" } : Jvm.MethodName) prog_1_method_34_code (3 : Nat) (Option.some Jvm.ClassFile.FieldType.int)) ∈ lw_all := lw_g (lw_at lw_m2 208 rfl) rfl
theorem q538 : (Jvm.Cond.methodLink "LineCalls" (13 : Nat) ({ cls := "LineCalls", name := "isKind", desc := "(I)Z" } : Jvm.MethodName)) ∈ lw_all := lw_g (lw_at lw_m2 209 rfl) rfl
theorem q539 : (Jvm.Cond.static ({ cls := "LineCalls", name := "isKind", desc := "(I)Z" } : Jvm.MethodName)) ∈ lw_all := lw_g (lw_at lw_m2 210 rfl) rfl
theorem q540 : (Jvm.Cond.code ({ cls := "LineCalls", name := "isKind", desc := "(I)Z" } : Jvm.MethodName) prog_1_method_6_code (1 : Nat) (Option.some Jvm.ClassFile.FieldType.boolean)) ∈ lw_all := lw_g (lw_at lw_m2 211 rfl) rfl
theorem q541 : (Jvm.Cond.methodLink "LineCalls" (202 : Nat) ({ cls := "LineCalls$World", name := "add", desc := "(II)V" } : Jvm.MethodName)) ∈ lw_all := lw_g (lw_at lw_m2 212 rfl) rfl
theorem q546 : (Jvm.Cond.instanceMethod ({ cls := "LineCalls", name := "of", desc := "(II)I" } : Jvm.MethodName)) ∈ lw_all := lw_g (lw_at lw_m2 217 rfl) rfl
theorem q547 : (Jvm.Cond.selects "LineCalls" ({ cls := "LineCalls", name := "of", desc := "(II)I" } : Jvm.MethodName) ({ cls := "LineCalls", name := "of", desc := "(II)I" } : Jvm.MethodName)) ∈ lw_all := lw_g (lw_at lw_m2 218 rfl) rfl
theorem q548 : (Jvm.Cond.code ({ cls := "LineCalls", name := "of", desc := "(II)I" } : Jvm.MethodName) prog_1_method_35_code (3 : Nat) (Option.some Jvm.ClassFile.FieldType.int)) ∈ lw_all := lw_g (lw_at lw_m2 219 rfl) rfl
theorem q549 : (Jvm.Cond.methodLink "LineCalls" (131 : Nat) ({ cls := "LineCalls", name := "jumperOf", desc := "(I)LLineCalls$Jumper;" } : Jvm.MethodName)) ∈ lw_all := lw_g (lw_at lw_m2 220 rfl) rfl
theorem q550 : (Jvm.Cond.privateMethod ({ cls := "LineCalls", name := "jumperOf", desc := "(I)LLineCalls$Jumper;" } : Jvm.MethodName)) ∈ lw_tbl := lw_at lw_m2 221 rfl
theorem q551 : (Jvm.Cond.instanceMethod ({ cls := "LineCalls", name := "jumperOf", desc := "(I)LLineCalls$Jumper;" } : Jvm.MethodName)) ∈ lw_all := lw_g (lw_at lw_m2 222 rfl) rfl
theorem q552 : (Jvm.Cond.code ({ cls := "LineCalls", name := "jumperOf", desc := "(I)LLineCalls$Jumper;" } : Jvm.MethodName) prog_1_method_18_code (2 : Nat) (Option.some (Jvm.ClassFile.FieldType.object "LineCalls$Jumper"))) ∈ lw_all := lw_g (lw_at lw_m2 223 rfl) rfl
theorem q553 : (Jvm.Cond.methodLink "LineCalls" (205 : Nat) ({ cls := "LineCalls$Jumper", name := "kind", desc := "()I" } : Jvm.MethodName)) ∈ lw_all := lw_g (lw_at lw_m2 224 rfl) rfl
theorem q582 : (Jvm.Cond.methodLink "LineCalls" (135 : Nat) ({ cls := "LineCalls$Jumper", name := "high", desc := "()I" } : Jvm.MethodName)) ∈ lw_all := lw_g (lw_at lw_m3 13 rfl) rfl
theorem q627 : (Jvm.Cond.methodLink "LineCalls" (145 : Nat) ({ cls := "LineCalls$Jumper", name := "tires", desc := "()I" } : Jvm.MethodName)) ∈ lw_all := lw_g (lw_at lw_m3 58 rfl) rfl
theorem q655 : (Jvm.Cond.methodLink "LineCalls" (208 : Nat) ({ cls := "LineCalls$World", name := "standsIn", desc := "(I)I" } : Jvm.MethodName)) ∈ lw_all := lw_g (lw_at lw_m3 86 rfl) rfl
theorem q657 : (Jvm.Cond.instanceMethod ({ cls := "LineCalls", name := "change", desc := "(III)I" } : Jvm.MethodName)) ∈ lw_all := lw_g (lw_at lw_m3 88 rfl) rfl
theorem q658 : (Jvm.Cond.selects "LineCalls" ({ cls := "LineCalls", name := "change", desc := "(III)I" } : Jvm.MethodName) ({ cls := "LineCalls", name := "change", desc := "(III)I" } : Jvm.MethodName)) ∈ lw_all := lw_g (lw_at lw_m3 89 rfl) rfl
theorem q659 : (Jvm.Cond.code ({ cls := "LineCalls", name := "change", desc := "(III)I" } : Jvm.MethodName) prog_1_method_36_code (5 : Nat) (Option.some Jvm.ClassFile.FieldType.int)) ∈ lw_all := lw_g (lw_at lw_m3 90 rfl) rfl
theorem q660 : (Jvm.Cond.methodLink "LineCalls" (211 : Nat) ({ cls := "LineCalls", name := "isTold", desc := "(II)Z" } : Jvm.MethodName)) ∈ lw_all := lw_g (lw_at lw_m3 91 rfl) rfl
theorem q661 : (Jvm.Cond.static ({ cls := "LineCalls", name := "isTold", desc := "(II)Z" } : Jvm.MethodName)) ∈ lw_all := lw_g (lw_at lw_m3 92 rfl) rfl
theorem q662 : (Jvm.Cond.code ({ cls := "LineCalls", name := "isTold", desc := "(II)Z" } : Jvm.MethodName) prog_1_method_13_code (2 : Nat) (Option.some Jvm.ClassFile.FieldType.boolean)) ∈ lw_all := lw_g (lw_at lw_m3 93 rfl) rfl
theorem q663 : (Jvm.Cond.methodLink "LineCalls" (20 : Nat) ({ cls := "LineCalls", name := "isMany", desc := "(I)Z" } : Jvm.MethodName)) ∈ lw_all := lw_g (lw_at lw_m3 94 rfl) rfl
theorem q664 : (Jvm.Cond.static ({ cls := "LineCalls", name := "isMany", desc := "(I)Z" } : Jvm.MethodName)) ∈ lw_all := lw_g (lw_at lw_m3 95 rfl) rfl
theorem q665 : (Jvm.Cond.code ({ cls := "LineCalls", name := "isMany", desc := "(I)Z" } : Jvm.MethodName) prog_1_method_12_code (1 : Nat) (Option.some Jvm.ClassFile.FieldType.boolean)) ∈ lw_all := lw_g (lw_at lw_m3 96 rfl) rfl
theorem q667 : (Jvm.Cond.instanceMethod ({ cls := "LineCalls", name := "gains", desc := "(II)I" } : Jvm.MethodName)) ∈ lw_all := lw_g (lw_at lw_m3 98 rfl) rfl
theorem q668 : (Jvm.Cond.selects "LineCalls" ({ cls := "LineCalls", name := "gains", desc := "(II)I" } : Jvm.MethodName) ({ cls := "LineCalls", name := "gains", desc := "(II)I" } : Jvm.MethodName)) ∈ lw_all := lw_g (lw_at lw_m3 99 rfl) rfl
theorem q669 : (Jvm.Cond.code ({ cls := "LineCalls", name := "gains", desc := "(II)I" } : Jvm.MethodName) prog_1_method_37_code (3 : Nat) (Option.some Jvm.ClassFile.FieldType.int)) ∈ lw_all := lw_g (lw_at lw_m3 100 rfl) rfl
theorem q670 : (Jvm.Cond.methodLink "LineCalls" (155 : Nat) ({ cls := "LineCalls$Jumper", name := "gains", desc := "(I)I" } : Jvm.MethodName)) ∈ lw_all := lw_g (lw_at lw_m3 101 rfl) rfl
theorem q696 : (Jvm.Cond.instanceMethod ({ cls := "LineCalls", name := "go", desc := "(I)I" } : Jvm.MethodName)) ∈ lw_all := lw_g (lw_at lw_m3 127 rfl) rfl
theorem q697 : (Jvm.Cond.selects "LineCalls" ({ cls := "LineCalls", name := "go", desc := "(I)I" } : Jvm.MethodName) ({ cls := "LineCalls", name := "go", desc := "(I)I" } : Jvm.MethodName)) ∈ lw_all := lw_g (lw_at lw_m3 128 rfl) rfl
theorem q698 : (Jvm.Cond.code ({ cls := "LineCalls", name := "go", desc := "(I)I" } : Jvm.MethodName) prog_1_method_39_code (2 : Nat) (Option.some Jvm.ClassFile.FieldType.int)) ∈ lw_all := lw_g (lw_at lw_m3 129 rfl) rfl
theorem q699 : (Jvm.Cond.methodLink "LineCalls" (220 : Nat) ({ cls := "LineCalls$World", name := "isLate", desc := "(I)Z" } : Jvm.MethodName)) ∈ lw_all := lw_g (lw_at lw_m3 130 rfl) rfl
theorem q704 : (Jvm.Cond.methodLink "LineCalls" (223 : Nat) ({ cls := "LineCalls", name := "goesOn", desc := "(I)I" } : Jvm.MethodName)) ∈ lw_all := lw_g (lw_at lw_m3 135 rfl) rfl
theorem q705 : (Jvm.Cond.privateMethod ({ cls := "LineCalls", name := "goesOn", desc := "(I)I" } : Jvm.MethodName)) ∈ lw_tbl := lw_at lw_m3 136 rfl
theorem q706 : (Jvm.Cond.instanceMethod ({ cls := "LineCalls", name := "goesOn", desc := "(I)I" } : Jvm.MethodName)) ∈ lw_all := lw_g (lw_at lw_m3 137 rfl) rfl
theorem q707 : (Jvm.Cond.code ({ cls := "LineCalls", name := "goesOn", desc := "(I)I" } : Jvm.MethodName) prog_1_method_38_code (2 : Nat) (Option.some Jvm.ClassFile.FieldType.int)) ∈ lw_all := lw_g (lw_at lw_m3 138 rfl) rfl
theorem q708 : (Jvm.Cond.methodLink "LineCalls" (215 : Nat) ({ cls := "LineCalls", name := "passes", desc := "(I)V" } : Jvm.MethodName)) ∈ lw_all := lw_g (lw_at lw_m3 139 rfl) rfl
theorem q709 : (Jvm.Cond.privateMethod ({ cls := "LineCalls", name := "passes", desc := "(I)V" } : Jvm.MethodName)) ∈ lw_tbl := lw_at lw_m3 140 rfl
theorem q710 : (Jvm.Cond.instanceMethod ({ cls := "LineCalls", name := "passes", desc := "(I)V" } : Jvm.MethodName)) ∈ lw_all := lw_g (lw_at lw_m3 141 rfl) rfl
theorem q711 : (Jvm.Cond.code ({ cls := "LineCalls", name := "passes", desc := "(I)V" } : Jvm.MethodName) prog_1_method_26_code (3 : Nat) (Option.none : Option Jvm.ClassFile.FieldType)) ∈ lw_all := lw_g (lw_at lw_m3 142 rfl) rfl
theorem q712 : (Jvm.Cond.methodLink "LineCalls" (169 : Nat) ({ cls := "LineCalls", name := "passes", desc := "()V" } : Jvm.MethodName)) ∈ lw_all := lw_g (lw_at lw_m3 143 rfl) rfl
theorem q713 : (Jvm.Cond.privateMethod ({ cls := "LineCalls", name := "passes", desc := "()V" } : Jvm.MethodName)) ∈ lw_tbl := lw_at lw_m3 144 rfl
theorem q714 : (Jvm.Cond.instanceMethod ({ cls := "LineCalls", name := "passes", desc := "()V" } : Jvm.MethodName)) ∈ lw_all := lw_g (lw_at lw_m3 145 rfl) rfl
theorem q715 : (Jvm.Cond.code ({ cls := "LineCalls", name := "passes", desc := "()V" } : Jvm.MethodName) prog_1_method_25_code (4 : Nat) (Option.none : Option Jvm.ClassFile.FieldType)) ∈ lw_all := lw_g (lw_at lw_m3 146 rfl) rfl
theorem q716 : (Jvm.Cond.methodLink "LineCalls" (142 : Nat) ({ cls := "LineCalls$World", name := "next", desc := "()I" } : Jvm.MethodName)) ∈ lw_all := lw_g (lw_at lw_m3 147 rfl) rfl
theorem q721 : (Jvm.Cond.methodLink "LineCalls" (148 : Nat) ({ cls := "LineCalls$World", name := "goesBack", desc := "(I)V" } : Jvm.MethodName)) ∈ lw_all := lw_g (lw_at lw_m3 152 rfl) rfl
theorem q726 : (Jvm.Cond.methodLink "LineCalls" (152 : Nat) ({ cls := "LineCalls", name := "wouldWin", desc := "(I)Z" } : Jvm.MethodName)) ∈ lw_all := lw_g (lw_at lw_m3 157 rfl) rfl
theorem q727 : (Jvm.Cond.privateMethod ({ cls := "LineCalls", name := "wouldWin", desc := "(I)Z" } : Jvm.MethodName)) ∈ lw_tbl := lw_at lw_m3 158 rfl
theorem q728 : (Jvm.Cond.instanceMethod ({ cls := "LineCalls", name := "wouldWin", desc := "(I)Z" } : Jvm.MethodName)) ∈ lw_all := lw_g (lw_at lw_m3 159 rfl) rfl
theorem q729 : (Jvm.Cond.code ({ cls := "LineCalls", name := "wouldWin", desc := "(I)Z" } : Jvm.MethodName) prog_1_method_24_code (3 : Nat) (Option.some Jvm.ClassFile.FieldType.boolean)) ∈ lw_all := lw_g (lw_at lw_m3 160 rfl) rfl
theorem q730 : (Jvm.Cond.methodLink "LineCalls" (158 : Nat) ({ cls := "LineCalls$World", name := "wins", desc := "(II)V" } : Jvm.MethodName)) ∈ lw_all := lw_g (lw_at lw_m3 161 rfl) rfl
theorem q737 : (Jvm.Cond.methodLink "LineCalls" (162 : Nat) ({ cls := "LineCalls$World", name := "loses", desc := "(I)V" } : Jvm.MethodName)) ∈ lw_all := lw_g (lw_at lw_m3 168 rfl) rfl
theorem q742 : (Jvm.Cond.methodLink "LineCalls" (165 : Nat) ({ cls := "LineCalls$World", name := "ends", desc := "(III)V" } : Jvm.MethodName)) ∈ lw_all := lw_g (lw_at lw_m3 173 rfl) rfl
theorem q747 : (Jvm.Cond.instanceMethod ({ cls := "LineCalls", name := "now", desc := "(I)I" } : Jvm.MethodName)) ∈ lw_all := lw_g (lw_at lw_m3 178 rfl) rfl
theorem q748 : (Jvm.Cond.selects "LineCalls" ({ cls := "LineCalls", name := "now", desc := "(I)I" } : Jvm.MethodName) ({ cls := "LineCalls", name := "now", desc := "(I)I" } : Jvm.MethodName)) ∈ lw_all := lw_g (lw_at lw_m3 179 rfl) rfl
theorem q749 : (Jvm.Cond.code ({ cls := "LineCalls", name := "now", desc := "(I)I" } : Jvm.MethodName) prog_1_method_41_code (2 : Nat) (Option.some Jvm.ClassFile.FieldType.int)) ∈ lw_all := lw_g (lw_at lw_m3 180 rfl) rfl
theorem q750 : (Jvm.Cond.methodLink "LineCalls" (229 : Nat) ({ cls := "LineCalls$World", name := "sumOf", desc := "(I)I" } : Jvm.MethodName)) ∈ lw_all := lw_g (lw_at lw_m3 181 rfl) rfl
theorem q754 : (Jvm.Cond.methodLink "LineCalls" (232 : Nat) ({ cls := "LineCalls", name := "won", desc := "()I" } : Jvm.MethodName)) ∈ lw_all := lw_g (lw_at lw_m3 185 rfl) rfl
theorem q755 : (Jvm.Cond.privateMethod ({ cls := "LineCalls", name := "won", desc := "()I" } : Jvm.MethodName)) ∈ lw_tbl := lw_at lw_m3 186 rfl
theorem q756 : (Jvm.Cond.instanceMethod ({ cls := "LineCalls", name := "won", desc := "()I" } : Jvm.MethodName)) ∈ lw_all := lw_g (lw_at lw_m3 187 rfl) rfl
theorem q757 : (Jvm.Cond.code ({ cls := "LineCalls", name := "won", desc := "()I" } : Jvm.MethodName) prog_1_method_40_code (3 : Nat) (Option.some Jvm.ClassFile.FieldType.int)) ∈ lw_all := lw_g (lw_at lw_m3 188 rfl) rfl
theorem q758 : (Jvm.Cond.methodLink "LineCalls" (235 : Nat) ({ cls := "LineCalls$World", name := "said", desc := "(I)I" } : Jvm.MethodName)) ∈ lw_all := lw_g (lw_at lw_m3 189 rfl) rfl
theorem q763 : (Jvm.Cond.static ({ cls := "LineCalls", name := "has", desc := "(II)Z" } : Jvm.MethodName)) ∈ lw_all := lw_g (lw_at lw_m3 194 rfl) rfl
theorem q764 : (Jvm.Cond.code ({ cls := "LineCalls", name := "has", desc := "(II)Z" } : Jvm.MethodName) prog_1_method_2_code (2 : Nat) (Option.some Jvm.ClassFile.FieldType.boolean)) ∈ lw_all := lw_g (lw_at lw_m3 195 rfl) rfl
theorem q766 : (Jvm.Cond.instanceMethod ({ cls := "LineCalls", name := "ahead", desc := "(III)I" } : Jvm.MethodName)) ∈ lw_all := lw_g (lw_at lw_m3 197 rfl) rfl
theorem q767 : (Jvm.Cond.selects "LineCalls" ({ cls := "LineCalls", name := "ahead", desc := "(III)I" } : Jvm.MethodName) ({ cls := "LineCalls", name := "ahead", desc := "(III)I" } : Jvm.MethodName)) ∈ lw_all := lw_g (lw_at lw_m3 198 rfl) rfl
theorem q768 : (Jvm.Cond.code ({ cls := "LineCalls", name := "ahead", desc := "(III)I" } : Jvm.MethodName) prog_1_method_44_code (4 : Nat) (Option.some Jvm.ClassFile.FieldType.int)) ∈ lw_all := lw_g (lw_at lw_m3 199 rfl) rfl
theorem q769 : (Jvm.Cond.methodLink "LineCalls" (245 : Nat) ({ cls := "LineCalls", name := "toldBehind", desc := "(III)I" } : Jvm.MethodName)) ∈ lw_all := lw_g (lw_at lw_m3 200 rfl) rfl
theorem q770 : (Jvm.Cond.privateMethod ({ cls := "LineCalls", name := "toldBehind", desc := "(III)I" } : Jvm.MethodName)) ∈ lw_tbl := lw_at lw_m3 201 rfl
theorem q771 : (Jvm.Cond.instanceMethod ({ cls := "LineCalls", name := "toldBehind", desc := "(III)I" } : Jvm.MethodName)) ∈ lw_all := lw_g (lw_at lw_m3 202 rfl) rfl
theorem q772 : (Jvm.Cond.codeWith ({ cls := "LineCalls", name := "toldBehind", desc := "(III)I" } : Jvm.MethodName) prog_1_method_43_code (6 : Nat) (Option.some Jvm.ClassFile.FieldType.int) [((11 : Nat), (24 : Nat), (38 : Nat), (0 : Nat)), ((38 : Nat), (40 : Nat), (38 : Nat), (0 : Nat))]) ∈ lw_all := lw_g (lw_at lw_m3 203 rfl) rfl
theorem q773 : (Jvm.Cond.methodLink "LineCalls" (238 : Nat) ({ cls := "LineCalls$World", name := "become", desc := "(LLineCalls$World;)V" } : Jvm.MethodName)) ∈ lw_all := lw_g (lw_at lw_m3 204 rfl) rfl
theorem q786 : (Jvm.Cond.methodLink "LineCalls" (242 : Nat) ({ cls := "LineCalls", name := "toldOf", desc := "(II)I" } : Jvm.MethodName)) ∈ lw_all := lw_g (lw_at lw_m3 217 rfl) rfl
theorem q787 : (Jvm.Cond.privateMethod ({ cls := "LineCalls", name := "toldOf", desc := "(II)I" } : Jvm.MethodName)) ∈ lw_tbl := lw_at lw_m3 218 rfl
theorem q788 : (Jvm.Cond.instanceMethod ({ cls := "LineCalls", name := "toldOf", desc := "(II)I" } : Jvm.MethodName)) ∈ lw_all := lw_g (lw_at lw_m3 219 rfl) rfl
theorem q789 : (Jvm.Cond.code ({ cls := "LineCalls", name := "toldOf", desc := "(II)I" } : Jvm.MethodName) prog_1_method_42_code (3 : Nat) (Option.some Jvm.ClassFile.FieldType.int)) ∈ lw_all := lw_g (lw_at lw_m3 220 rfl) rfl
theorem q791 : (Jvm.Cond.instanceMethod ({ cls := "LineCalls", name := "metres", desc := "(I)I" } : Jvm.MethodName)) ∈ lw_all := lw_g (lw_at lw_m3 222 rfl) rfl
theorem q792 : (Jvm.Cond.selects "LineCalls" ({ cls := "LineCalls", name := "metres", desc := "(I)I" } : Jvm.MethodName) ({ cls := "LineCalls", name := "metres", desc := "(I)I" } : Jvm.MethodName)) ∈ lw_all := lw_g (lw_at lw_m3 223 rfl) rfl
theorem q793 : (Jvm.Cond.code ({ cls := "LineCalls", name := "metres", desc := "(I)I" } : Jvm.MethodName) prog_1_method_46_code (2 : Nat) (Option.some Jvm.ClassFile.FieldType.int)) ∈ lw_all := lw_g (lw_at lw_m3 224 rfl) rfl
theorem q794 : (Jvm.Cond.methodLink "LineCalls" (249 : Nat) ({ cls := "LineCalls", name := "metresBehind", desc := "(I)I" } : Jvm.MethodName)) ∈ lw_all := lw_g (lw_at lw_m3 225 rfl) rfl
theorem q795 : (Jvm.Cond.privateMethod ({ cls := "LineCalls", name := "metresBehind", desc := "(I)I" } : Jvm.MethodName)) ∈ lw_tbl := lw_at lw_m3 226 rfl
theorem q796 : (Jvm.Cond.instanceMethod ({ cls := "LineCalls", name := "metresBehind", desc := "(I)I" } : Jvm.MethodName)) ∈ lw_all := lw_g (lw_at lw_m3 227 rfl) rfl
theorem q797 : (Jvm.Cond.codeWith ({ cls := "LineCalls", name := "metresBehind", desc := "(I)I" } : Jvm.MethodName) prog_1_method_45_code (4 : Nat) (Option.some Jvm.ClassFile.FieldType.int) [((11 : Nat), (17 : Nat), (30 : Nat), (0 : Nat))]) ∈ lw_all := lw_g (lw_at lw_m3 228 rfl) rfl
theorem q799 : (Jvm.Cond.instanceMethod ({ cls := "LineCalls", name := "when", desc := "(II)I" } : Jvm.MethodName)) ∈ lw_all := lw_g (lw_at lw_m3 230 rfl) rfl
theorem q800 : (Jvm.Cond.selects "LineCalls" ({ cls := "LineCalls", name := "when", desc := "(II)I" } : Jvm.MethodName) ({ cls := "LineCalls", name := "when", desc := "(II)I" } : Jvm.MethodName)) ∈ lw_all := lw_g (lw_at lw_m3 231 rfl) rfl
theorem q801 : (Jvm.Cond.code ({ cls := "LineCalls", name := "when", desc := "(II)I" } : Jvm.MethodName) prog_1_method_48_code (3 : Nat) (Option.some Jvm.ClassFile.FieldType.int)) ∈ lw_all := lw_g (lw_at lw_m3 232 rfl) rfl
theorem q802 : (Jvm.Cond.methodLink "LineCalls" (252 : Nat) ({ cls := "LineCalls", name := "wonBehind", desc := "(II)I" } : Jvm.MethodName)) ∈ lw_all := lw_g (lw_at lw_m3 233 rfl) rfl
theorem q803 : (Jvm.Cond.privateMethod ({ cls := "LineCalls", name := "wonBehind", desc := "(II)I" } : Jvm.MethodName)) ∈ lw_tbl := lw_at lw_m3 234 rfl
theorem q804 : (Jvm.Cond.instanceMethod ({ cls := "LineCalls", name := "wonBehind", desc := "(II)I" } : Jvm.MethodName)) ∈ lw_all := lw_g (lw_at lw_m3 235 rfl) rfl
theorem q805 : (Jvm.Cond.codeWith ({ cls := "LineCalls", name := "wonBehind", desc := "(II)I" } : Jvm.MethodName) prog_1_method_47_code (6 : Nat) (Option.some Jvm.ClassFile.FieldType.int) [((11 : Nat), (57 : Nat), (71 : Nat), (0 : Nat)), ((71 : Nat), (73 : Nat), (71 : Nat), (0 : Nat))]) ∈ lw_all := lw_g (lw_at lw_m3 236 rfl) rfl
theorem q806 : (Jvm.Cond.methodLink "LineCalls" (255 : Nat) ({ cls := "LineCalls", name := "orNone", desc := "(I)I" } : Jvm.MethodName)) ∈ lw_all := lw_g (lw_at lw_m3 237 rfl) rfl
theorem q807 : (Jvm.Cond.privateMethod ({ cls := "LineCalls", name := "orNone", desc := "(I)I" } : Jvm.MethodName)) ∈ lw_tbl := lw_at lw_m3 238 rfl
theorem q808 : (Jvm.Cond.instanceMethod ({ cls := "LineCalls", name := "orNone", desc := "(I)I" } : Jvm.MethodName)) ∈ lw_all := lw_g (lw_at lw_m3 239 rfl) rfl
theorem q809 : (Jvm.Cond.code ({ cls := "LineCalls", name := "orNone", desc := "(I)I" } : Jvm.MethodName) prog_1_method_23_code (2 : Nat) (Option.some Jvm.ClassFile.FieldType.int)) ∈ lw_all := lw_g (lw_at lw_m4 0 rfl) rfl
theorem q811 : (Jvm.Cond.instanceMethod ({ cls := "LineCalls", name := "known", desc := "()I" } : Jvm.MethodName)) ∈ lw_all := lw_g (lw_at lw_m4 2 rfl) rfl
theorem q812 : (Jvm.Cond.selects "LineCalls" ({ cls := "LineCalls", name := "known", desc := "()I" } : Jvm.MethodName) ({ cls := "LineCalls", name := "known", desc := "()I" } : Jvm.MethodName)) ∈ lw_all := lw_g (lw_at lw_m4 3 rfl) rfl
theorem q813 : (Jvm.Cond.code ({ cls := "LineCalls", name := "known", desc := "()I" } : Jvm.MethodName) prog_1_method_50_code (1 : Nat) (Option.some Jvm.ClassFile.FieldType.int)) ∈ lw_all := lw_g (lw_at lw_m4 4 rfl) rfl
theorem q814 : (Jvm.Cond.methodLink "LineCalls" (258 : Nat) ({ cls := "LineCalls", name := "knownBehind", desc := "()I" } : Jvm.MethodName)) ∈ lw_all := lw_g (lw_at lw_m4 5 rfl) rfl
theorem q815 : (Jvm.Cond.privateMethod ({ cls := "LineCalls", name := "knownBehind", desc := "()I" } : Jvm.MethodName)) ∈ lw_tbl := lw_at lw_m4 6 rfl
theorem q816 : (Jvm.Cond.instanceMethod ({ cls := "LineCalls", name := "knownBehind", desc := "()I" } : Jvm.MethodName)) ∈ lw_all := lw_g (lw_at lw_m4 7 rfl) rfl
theorem q817 : (Jvm.Cond.codeWith ({ cls := "LineCalls", name := "knownBehind", desc := "()I" } : Jvm.MethodName) prog_1_method_49_code (4 : Nat) (Option.some Jvm.ClassFile.FieldType.int) [((11 : Nat), (48 : Nat), (61 : Nat), (0 : Nat))]) ∈ lw_all := lw_g (lw_at lw_m4 8 rfl) rfl
theorem q819 : (Jvm.Cond.instanceMethod ({ cls := "LineCalls", name := "codeFor", desc := "(I)I" } : Jvm.MethodName)) ∈ lw_all := lw_g (lw_at lw_m4 10 rfl) rfl
theorem q820 : (Jvm.Cond.selects "LineCalls" ({ cls := "LineCalls", name := "codeFor", desc := "(I)I" } : Jvm.MethodName) ({ cls := "LineCalls", name := "codeFor", desc := "(I)I" } : Jvm.MethodName)) ∈ lw_all := lw_g (lw_at lw_m4 11 rfl) rfl
theorem q821 : (Jvm.Cond.code ({ cls := "LineCalls", name := "codeFor", desc := "(I)I" } : Jvm.MethodName) prog_1_method_52_code (2 : Nat) (Option.some Jvm.ClassFile.FieldType.int)) ∈ lw_all := lw_g (lw_at lw_m4 12 rfl) rfl
theorem q822 : (Jvm.Cond.methodLink "LineCalls" (266 : Nat) ({ cls := "LineCalls", name := "bestCode", desc := "(I)I" } : Jvm.MethodName)) ∈ lw_all := lw_g (lw_at lw_m4 13 rfl) rfl
theorem q823 : (Jvm.Cond.privateMethod ({ cls := "LineCalls", name := "bestCode", desc := "(I)I" } : Jvm.MethodName)) ∈ lw_tbl := lw_at lw_m4 14 rfl
theorem q824 : (Jvm.Cond.instanceMethod ({ cls := "LineCalls", name := "bestCode", desc := "(I)I" } : Jvm.MethodName)) ∈ lw_all := lw_g (lw_at lw_m4 15 rfl) rfl
theorem q825 : (Jvm.Cond.code ({ cls := "LineCalls", name := "bestCode", desc := "(I)I" } : Jvm.MethodName) prog_1_method_51_code (7 : Nat) (Option.some Jvm.ClassFile.FieldType.int)) ∈ lw_all := lw_g (lw_at lw_m4 16 rfl) rfl
theorem q826 : (Jvm.Cond.methodLink "LineCalls" (261 : Nat) ({ cls := "java/lang/Math", name := "max", desc := "(II)I" } : Jvm.MethodName)) ∈ lw_all := lw_g (lw_at lw_m4 17 rfl) rfl
theorem q828 : (Jvm.Cond.instanceMethod ({ cls := "LineCalls", name := "callFor", desc := "(I)I" } : Jvm.MethodName)) ∈ lw_all := lw_g (lw_at lw_m4 19 rfl) rfl
theorem q829 : (Jvm.Cond.selects "LineCalls" ({ cls := "LineCalls", name := "callFor", desc := "(I)I" } : Jvm.MethodName) ({ cls := "LineCalls", name := "callFor", desc := "(I)I" } : Jvm.MethodName)) ∈ lw_all := lw_g (lw_at lw_m4 20 rfl) rfl
theorem q830 : (Jvm.Cond.code ({ cls := "LineCalls", name := "callFor", desc := "(I)I" } : Jvm.MethodName) prog_1_method_54_code (2 : Nat) (Option.some Jvm.ClassFile.FieldType.int)) ∈ lw_all := lw_g (lw_at lw_m4 21 rfl) rfl
theorem q831 : (Jvm.Cond.methodLink "LineCalls" (269 : Nat) ({ cls := "LineCalls", name := "bestCall", desc := "(I)I" } : Jvm.MethodName)) ∈ lw_all := lw_g (lw_at lw_m4 22 rfl) rfl
theorem q832 : (Jvm.Cond.privateMethod ({ cls := "LineCalls", name := "bestCall", desc := "(I)I" } : Jvm.MethodName)) ∈ lw_tbl := lw_at lw_m4 23 rfl
theorem q833 : (Jvm.Cond.instanceMethod ({ cls := "LineCalls", name := "bestCall", desc := "(I)I" } : Jvm.MethodName)) ∈ lw_all := lw_g (lw_at lw_m4 24 rfl) rfl
theorem q834 : (Jvm.Cond.code ({ cls := "LineCalls", name := "bestCall", desc := "(I)I" } : Jvm.MethodName) prog_1_method_53_code (8 : Nat) (Option.some Jvm.ClassFile.FieldType.int)) ∈ lw_all := lw_g (lw_at lw_m4 25 rfl) rfl
theorem q836 : (Jvm.Cond.instanceMethod ({ cls := "LineCalls", name := "standFor", desc := "(II)I" } : Jvm.MethodName)) ∈ lw_all := lw_g (lw_at lw_m4 27 rfl) rfl
theorem q837 : (Jvm.Cond.selects "LineCalls" ({ cls := "LineCalls", name := "standFor", desc := "(II)I" } : Jvm.MethodName) ({ cls := "LineCalls", name := "standFor", desc := "(II)I" } : Jvm.MethodName)) ∈ lw_all := lw_g (lw_at lw_m4 28 rfl) rfl
theorem q838 : (Jvm.Cond.code ({ cls := "LineCalls", name := "standFor", desc := "(II)I" } : Jvm.MethodName) prog_1_method_58_code (3 : Nat) (Option.some Jvm.ClassFile.FieldType.int)) ∈ lw_all := lw_g (lw_at lw_m4 29 rfl) rfl
theorem q839 : (Jvm.Cond.methodLink "LineCalls" (278 : Nat) ({ cls := "LineCalls", name := "areOne", desc := "(II)Z" } : Jvm.MethodName)) ∈ lw_all := lw_g (lw_at lw_m4 30 rfl) rfl
theorem q840 : (Jvm.Cond.privateMethod ({ cls := "LineCalls", name := "areOne", desc := "(II)Z" } : Jvm.MethodName)) ∈ lw_tbl := lw_at lw_m4 31 rfl
theorem q841 : (Jvm.Cond.instanceMethod ({ cls := "LineCalls", name := "areOne", desc := "(II)Z" } : Jvm.MethodName)) ∈ lw_all := lw_g (lw_at lw_m4 32 rfl) rfl
theorem q842 : (Jvm.Cond.code ({ cls := "LineCalls", name := "areOne", desc := "(II)Z" } : Jvm.MethodName) prog_1_method_57_code (3 : Nat) (Option.some Jvm.ClassFile.FieldType.boolean)) ∈ lw_all := lw_g (lw_at lw_m4 33 rfl) rfl
theorem q843 : (Jvm.Cond.methodLink "LineCalls" (281 : Nat) ({ cls := "LineCalls", name := "bestPlace", desc := "(II)I" } : Jvm.MethodName)) ∈ lw_all := lw_g (lw_at lw_m4 34 rfl) rfl
theorem q844 : (Jvm.Cond.privateMethod ({ cls := "LineCalls", name := "bestPlace", desc := "(II)I" } : Jvm.MethodName)) ∈ lw_tbl := lw_at lw_m4 35 rfl
theorem q845 : (Jvm.Cond.instanceMethod ({ cls := "LineCalls", name := "bestPlace", desc := "(II)I" } : Jvm.MethodName)) ∈ lw_all := lw_g (lw_at lw_m4 36 rfl) rfl
theorem q846 : (Jvm.Cond.code ({ cls := "LineCalls", name := "bestPlace", desc := "(II)I" } : Jvm.MethodName) prog_1_method_56_code (7 : Nat) (Option.some Jvm.ClassFile.FieldType.int)) ∈ lw_all := lw_g (lw_at lw_m4 37 rfl) rfl
theorem q847 : (Jvm.Cond.methodLink "LineCalls" (275 : Nat) ({ cls := "LineCalls", name := "metresFrom", desc := "(III)I" } : Jvm.MethodName)) ∈ lw_all := lw_g (lw_at lw_m4 38 rfl) rfl
theorem q848 : (Jvm.Cond.privateMethod ({ cls := "LineCalls", name := "metresFrom", desc := "(III)I" } : Jvm.MethodName)) ∈ lw_tbl := lw_at lw_m4 39 rfl
theorem q849 : (Jvm.Cond.instanceMethod ({ cls := "LineCalls", name := "metresFrom", desc := "(III)I" } : Jvm.MethodName)) ∈ lw_all := lw_g (lw_at lw_m4 40 rfl) rfl
theorem q850 : (Jvm.Cond.codeWith ({ cls := "LineCalls", name := "metresFrom", desc := "(III)I" } : Jvm.MethodName) prog_1_method_55_code (6 : Nat) (Option.some Jvm.ClassFile.FieldType.int) [((11 : Nat), (27 : Nat), (41 : Nat), (0 : Nat)), ((41 : Nat), (43 : Nat), (41 : Nat), (0 : Nat))]) ∈ lw_all := lw_g (lw_at lw_m4 41 rfl) rfl
theorem q851 : (Jvm.Cond.methodLink "LineCalls" (272 : Nat) ({ cls := "LineCalls$World", name := "changes", desc := "(II)V" } : Jvm.MethodName)) ∈ lw_all := lw_g (lw_at lw_m4 42 rfl) rfl
theorem q856 : (Jvm.Cond.instanceMethod ({ cls := "LineCalls", name := "kindFor", desc := "(II)I" } : Jvm.MethodName)) ∈ lw_all := lw_g (lw_at lw_m4 47 rfl) rfl
theorem q857 : (Jvm.Cond.selects "LineCalls" ({ cls := "LineCalls", name := "kindFor", desc := "(II)I" } : Jvm.MethodName) ({ cls := "LineCalls", name := "kindFor", desc := "(II)I" } : Jvm.MethodName)) ∈ lw_all := lw_g (lw_at lw_m4 48 rfl) rfl
theorem q858 : (Jvm.Cond.code ({ cls := "LineCalls", name := "kindFor", desc := "(II)I" } : Jvm.MethodName) prog_1_method_60_code (3 : Nat) (Option.some Jvm.ClassFile.FieldType.int)) ∈ lw_all := lw_g (lw_at lw_m4 49 rfl) rfl
theorem q859 : (Jvm.Cond.methodLink "LineCalls" (284 : Nat) ({ cls := "LineCalls", name := "bestKind", desc := "(II)I" } : Jvm.MethodName)) ∈ lw_all := lw_g (lw_at lw_m4 50 rfl) rfl
theorem q860 : (Jvm.Cond.privateMethod ({ cls := "LineCalls", name := "bestKind", desc := "(II)I" } : Jvm.MethodName)) ∈ lw_tbl := lw_at lw_m4 51 rfl
theorem q861 : (Jvm.Cond.instanceMethod ({ cls := "LineCalls", name := "bestKind", desc := "(II)I" } : Jvm.MethodName)) ∈ lw_all := lw_g (lw_at lw_m4 52 rfl) rfl
theorem q862 : (Jvm.Cond.code ({ cls := "LineCalls", name := "bestKind", desc := "(II)I" } : Jvm.MethodName) prog_1_method_59_code (8 : Nat) (Option.some Jvm.ClassFile.FieldType.int)) ∈ lw_all := lw_g (lw_at lw_m4 53 rfl) rfl
theorem q864 : (Jvm.Cond.instanceMethod ({ cls := "LineCalls", name := "tallFor", desc := "(III)I" } : Jvm.MethodName)) ∈ lw_all := lw_g (lw_at lw_m4 55 rfl) rfl
theorem q865 : (Jvm.Cond.selects "LineCalls" ({ cls := "LineCalls", name := "tallFor", desc := "(III)I" } : Jvm.MethodName) ({ cls := "LineCalls", name := "tallFor", desc := "(III)I" } : Jvm.MethodName)) ∈ lw_all := lw_g (lw_at lw_m4 56 rfl) rfl
theorem q866 : (Jvm.Cond.code ({ cls := "LineCalls", name := "tallFor", desc := "(III)I" } : Jvm.MethodName) prog_1_method_62_code (4 : Nat) (Option.some Jvm.ClassFile.FieldType.int)) ∈ lw_all := lw_g (lw_at lw_m4 57 rfl) rfl
theorem q867 : (Jvm.Cond.methodLink "LineCalls" (287 : Nat) ({ cls := "LineCalls", name := "leastTall", desc := "(III)I" } : Jvm.MethodName)) ∈ lw_all := lw_g (lw_at lw_m4 58 rfl) rfl
theorem q868 : (Jvm.Cond.privateMethod ({ cls := "LineCalls", name := "leastTall", desc := "(III)I" } : Jvm.MethodName)) ∈ lw_tbl := lw_at lw_m4 59 rfl
theorem q869 : (Jvm.Cond.instanceMethod ({ cls := "LineCalls", name := "leastTall", desc := "(III)I" } : Jvm.MethodName)) ∈ lw_all := lw_g (lw_at lw_m4 60 rfl) rfl
theorem q870 : (Jvm.Cond.code ({ cls := "LineCalls", name := "leastTall", desc := "(III)I" } : Jvm.MethodName) prog_1_method_61_code (6 : Nat) (Option.some Jvm.ClassFile.FieldType.int)) ∈ lw_all := lw_g (lw_at lw_m4 61 rfl) rfl
theorem q872 : (Jvm.Cond.instanceMethod ({ cls := "LineCalls", name := "cover", desc := "()I" } : Jvm.MethodName)) ∈ lw_all := lw_g (lw_at lw_m4 63 rfl) rfl
theorem q873 : (Jvm.Cond.selects "LineCalls" ({ cls := "LineCalls", name := "cover", desc := "()I" } : Jvm.MethodName) ({ cls := "LineCalls", name := "cover", desc := "()I" } : Jvm.MethodName)) ∈ lw_all := lw_g (lw_at lw_m4 64 rfl) rfl
theorem q874 : (Jvm.Cond.code ({ cls := "LineCalls", name := "cover", desc := "()I" } : Jvm.MethodName) prog_1_method_63_code (5 : Nat) (Option.some Jvm.ClassFile.FieldType.int)) ∈ lw_all := lw_g (lw_at lw_m4 65 rfl) rfl
theorem q876 : (Jvm.Cond.instanceMethod ({ cls := "LineCalls", name := "codes", desc := "(I)I" } : Jvm.MethodName)) ∈ lw_all := lw_g (lw_at lw_m4 67 rfl) rfl
theorem q877 : (Jvm.Cond.selects "LineCalls" ({ cls := "LineCalls", name := "codes", desc := "(I)I" } : Jvm.MethodName) ({ cls := "LineCalls", name := "codes", desc := "(I)I" } : Jvm.MethodName)) ∈ lw_all := lw_g (lw_at lw_m4 68 rfl) rfl
theorem q878 : (Jvm.Cond.codeWith ({ cls := "LineCalls", name := "codes", desc := "(I)I" } : Jvm.MethodName) prog_1_method_66_code (3 : Nat) (Option.some Jvm.ClassFile.FieldType.int) [((0 : Nat), (25 : Nat), (26 : Nat), (59 : Nat))]) ∈ lw_all := lw_g (lw_at lw_m4 69 rfl) rfl
theorem q879 : (Jvm.Cond.methodLink "LineCalls" (302 : Nat) ({ cls := "LineCalls", name := "rowAt", desc := "(I)Ljava/lang/Object;" } : Jvm.MethodName)) ∈ lw_all := lw_g (lw_at lw_m4 70 rfl) rfl
theorem q880 : (Jvm.Cond.privateMethod ({ cls := "LineCalls", name := "rowAt", desc := "(I)Ljava/lang/Object;" } : Jvm.MethodName)) ∈ lw_tbl := lw_at lw_m4 71 rfl
theorem q881 : (Jvm.Cond.instanceMethod ({ cls := "LineCalls", name := "rowAt", desc := "(I)Ljava/lang/Object;" } : Jvm.MethodName)) ∈ lw_all := lw_g (lw_at lw_m4 72 rfl) rfl
theorem q882 : (Jvm.Cond.code ({ cls := "LineCalls", name := "rowAt", desc := "(I)Ljava/lang/Object;" } : Jvm.MethodName) prog_1_method_88_code (2 : Nat) (Option.some (Jvm.ClassFile.FieldType.object "java/lang/Object"))) ∈ lw_all := lw_g (lw_at lw_m4 73 rfl) rfl
theorem q883 : (Jvm.Cond.methodLink "LineCalls" (379 : Nat) ({ cls := "LineCalls", name := "isSheet", desc := "(I)Z" } : Jvm.MethodName)) ∈ lw_all := lw_g (lw_at lw_m4 74 rfl) rfl
theorem q884 : (Jvm.Cond.static ({ cls := "LineCalls", name := "isSheet", desc := "(I)Z" } : Jvm.MethodName)) ∈ lw_all := lw_g (lw_at lw_m4 75 rfl) rfl
theorem q885 : (Jvm.Cond.code ({ cls := "LineCalls", name := "isSheet", desc := "(I)Z" } : Jvm.MethodName) prog_1_method_4_code (1 : Nat) (Option.some Jvm.ClassFile.FieldType.boolean)) ∈ lw_all := lw_g (lw_at lw_m4 76 rfl) rfl
theorem q886 : (Jvm.Cond.methodLink "LineCalls" (306 : Nat) ({ cls := "LineCalls", name := "need", desc := "(ZI)V" } : Jvm.MethodName)) ∈ lw_all := lw_g (lw_at lw_m4 77 rfl) rfl
theorem q887 : (Jvm.Cond.privateMethod ({ cls := "LineCalls", name := "need", desc := "(ZI)V" } : Jvm.MethodName)) ∈ lw_tbl := lw_at lw_m4 78 rfl
theorem q888 : (Jvm.Cond.instanceMethod ({ cls := "LineCalls", name := "need", desc := "(ZI)V" } : Jvm.MethodName)) ∈ lw_all := lw_g (lw_at lw_m4 79 rfl) rfl
theorem q889 : (Jvm.Cond.code ({ cls := "LineCalls", name := "need", desc := "(ZI)V" } : Jvm.MethodName) prog_1_method_21_code (3 : Nat) (Option.none : Option Jvm.ClassFile.FieldType)) ∈ lw_all := lw_g (lw_at lw_m4 80 rfl) rfl
theorem q890 : (Jvm.Cond.methodLink "LineCalls" (120 : Nat) ({ cls := "LineCalls", name := "refused", desc := "(I)LLineCalls$Refusal;" } : Jvm.MethodName)) ∈ lw_all := lw_g (lw_at lw_m4 81 rfl) rfl
theorem q891 : (Jvm.Cond.privateMethod ({ cls := "LineCalls", name := "refused", desc := "(I)LLineCalls$Refusal;" } : Jvm.MethodName)) ∈ lw_tbl := lw_at lw_m4 82 rfl
theorem q892 : (Jvm.Cond.instanceMethod ({ cls := "LineCalls", name := "refused", desc := "(I)LLineCalls$Refusal;" } : Jvm.MethodName)) ∈ lw_all := lw_g (lw_at lw_m4 83 rfl) rfl
theorem q893 : (Jvm.Cond.code ({ cls := "LineCalls", name := "refused", desc := "(I)LLineCalls$Refusal;" } : Jvm.MethodName) prog_1_method_20_code (2 : Nat) (Option.some (Jvm.ClassFile.FieldType.object "LineCalls$Refusal"))) ∈ lw_all := lw_g (lw_at lw_m4 84 rfl) rfl
theorem q894 : (Jvm.Cond.methodLink "LineCalls" (310 : Nat) ({ cls := "LineCalls", name := "codesThatFit", desc := "(Ljava/lang/Object;)I" } : Jvm.MethodName)) ∈ lw_all := lw_g (lw_at lw_m4 85 rfl) rfl
theorem q895 : (Jvm.Cond.privateMethod ({ cls := "LineCalls", name := "codesThatFit", desc := "(Ljava/lang/Object;)I" } : Jvm.MethodName)) ∈ lw_tbl := lw_at lw_m4 86 rfl
theorem q896 : (Jvm.Cond.instanceMethod ({ cls := "LineCalls", name := "codesThatFit", desc := "(Ljava/lang/Object;)I" } : Jvm.MethodName)) ∈ lw_all := lw_g (lw_at lw_m4 87 rfl) rfl
theorem q897 : (Jvm.Cond.code ({ cls := "LineCalls", name := "codesThatFit", desc := "(Ljava/lang/Object;)I" } : Jvm.MethodName) prog_1_method_65_code (5 : Nat) (Option.some Jvm.ClassFile.FieldType.int)) ∈ lw_all := lw_g (lw_at lw_m4 88 rfl) rfl
theorem q898 : (Jvm.Cond.methodLink "LineCalls" (298 : Nat) ({ cls := "LineCalls", name := "wasSo", desc := "(Ljava/lang/Object;)Z" } : Jvm.MethodName)) ∈ lw_all := lw_g (lw_at lw_m4 89 rfl) rfl
theorem q899 : (Jvm.Cond.privateMethod ({ cls := "LineCalls", name := "wasSo", desc := "(Ljava/lang/Object;)Z" } : Jvm.MethodName)) ∈ lw_tbl := lw_at lw_m4 90 rfl
theorem q900 : (Jvm.Cond.instanceMethod ({ cls := "LineCalls", name := "wasSo", desc := "(Ljava/lang/Object;)Z" } : Jvm.MethodName)) ∈ lw_all := lw_g (lw_at lw_m4 91 rfl) rfl
theorem q901 : (Jvm.Cond.codeWith ({ cls := "LineCalls", name := "wasSo", desc := "(Ljava/lang/Object;)Z" } : Jvm.MethodName) prog_1_method_64_code (5 : Nat) (Option.some Jvm.ClassFile.FieldType.boolean) [((11 : Nat), (69 : Nat), (82 : Nat), (0 : Nat)), ((82 : Nat), (84 : Nat), (82 : Nat), (0 : Nat))]) ∈ lw_all := lw_g (lw_at lw_m4 92 rfl) rfl
theorem q902 : (Jvm.Cond.methodLink "LineCalls" (290 : Nat) ({ cls := "LineCalls", name := "length", desc := "(Ljava/lang/Object;)I" } : Jvm.MethodName)) ∈ lw_all := lw_g (lw_at lw_m4 93 rfl) rfl
theorem q903 : (Jvm.Cond.static ({ cls := "LineCalls", name := "length", desc := "(Ljava/lang/Object;)I" } : Jvm.MethodName)) ∈ lw_all := lw_g (lw_at lw_m4 94 rfl) rfl
theorem q904 : (Jvm.Cond.code ({ cls := "LineCalls", name := "length", desc := "(Ljava/lang/Object;)I" } : Jvm.MethodName) prog_1_method_89_code (1 : Nat) (Option.some Jvm.ClassFile.FieldType.int)) ∈ lw_all := lw_g (lw_at lw_m4 95 rfl) rfl
theorem q905 : (Jvm.Cond.classLink "LineCalls" (382 : Nat) "[B") ∈ lw_all := lw_g (lw_at lw_m4 96 rfl) rfl
theorem q906 : (Jvm.Cond.classLink "LineCalls" (383 : Nat) "[S") ∈ lw_all := lw_g (lw_at lw_m4 97 rfl) rfl
theorem q907 : (Jvm.Cond.classLink "LineCalls" (385 : Nat) "[I") ∈ lw_all := lw_g (lw_at lw_m4 98 rfl) rfl
theorem q908 : (Jvm.Cond.methodLink "LineCalls" (294 : Nat) ({ cls := "LineCalls", name := "number", desc := "(Ljava/lang/Object;I)I" } : Jvm.MethodName)) ∈ lw_all := lw_g (lw_at lw_m4 99 rfl) rfl
theorem q909 : (Jvm.Cond.static ({ cls := "LineCalls", name := "number", desc := "(Ljava/lang/Object;I)I" } : Jvm.MethodName)) ∈ lw_all := lw_g (lw_at lw_m4 100 rfl) rfl
theorem q910 : (Jvm.Cond.code ({ cls := "LineCalls", name := "number", desc := "(Ljava/lang/Object;I)I" } : Jvm.MethodName) prog_1_method_90_code (2 : Nat) (Option.some Jvm.ClassFile.FieldType.int)) ∈ lw_all := lw_g (lw_at lw_m4 101 rfl) rfl
theorem q912 : (Jvm.Cond.instanceMethod ({ cls := "LineCalls", name := "fits", desc := "(II)I" } : Jvm.MethodName)) ∈ lw_all := lw_g (lw_at lw_m4 103 rfl) rfl
theorem q913 : (Jvm.Cond.selects "LineCalls" ({ cls := "LineCalls", name := "fits", desc := "(II)I" } : Jvm.MethodName) ({ cls := "LineCalls", name := "fits", desc := "(II)I" } : Jvm.MethodName)) ∈ lw_all := lw_g (lw_at lw_m4 104 rfl) rfl
theorem q914 : (Jvm.Cond.codeWith ({ cls := "LineCalls", name := "fits", desc := "(II)I" } : Jvm.MethodName) prog_1_method_69_code (4 : Nat) (Option.some Jvm.ClassFile.FieldType.int) [((0 : Nat), (11 : Nat), (12 : Nat), (59 : Nat))]) ∈ lw_all := lw_g (lw_at lw_m4 105 rfl) rfl
theorem q915 : (Jvm.Cond.methodLink "LineCalls" (316 : Nat) ({ cls := "LineCalls", name := "rowFor", desc := "(II)Ljava/lang/Object;" } : Jvm.MethodName)) ∈ lw_all := lw_g (lw_at lw_m4 106 rfl) rfl
theorem q916 : (Jvm.Cond.privateMethod ({ cls := "LineCalls", name := "rowFor", desc := "(II)Ljava/lang/Object;" } : Jvm.MethodName)) ∈ lw_tbl := lw_at lw_m4 107 rfl
theorem q917 : (Jvm.Cond.instanceMethod ({ cls := "LineCalls", name := "rowFor", desc := "(II)Ljava/lang/Object;" } : Jvm.MethodName)) ∈ lw_all := lw_g (lw_at lw_m4 108 rfl) rfl
theorem q918 : (Jvm.Cond.code ({ cls := "LineCalls", name := "rowFor", desc := "(II)Ljava/lang/Object;" } : Jvm.MethodName) prog_1_method_67_code (4 : Nat) (Option.some (Jvm.ClassFile.FieldType.object "java/lang/Object"))) ∈ lw_all := lw_g (lw_at lw_m4 109 rfl) rfl
theorem q919 : (Jvm.Cond.methodLink "LineCalls" (320 : Nat) ({ cls := "LineCalls", name := "manyFits", desc := "(Ljava/lang/Object;I)I" } : Jvm.MethodName)) ∈ lw_all := lw_g (lw_at lw_m4 110 rfl) rfl
theorem q920 : (Jvm.Cond.privateMethod ({ cls := "LineCalls", name := "manyFits", desc := "(Ljava/lang/Object;I)I" } : Jvm.MethodName)) ∈ lw_tbl := lw_at lw_m4 111 rfl
theorem q921 : (Jvm.Cond.instanceMethod ({ cls := "LineCalls", name := "manyFits", desc := "(Ljava/lang/Object;I)I" } : Jvm.MethodName)) ∈ lw_all := lw_g (lw_at lw_m4 112 rfl) rfl
theorem q922 : (Jvm.Cond.code ({ cls := "LineCalls", name := "manyFits", desc := "(Ljava/lang/Object;I)I" } : Jvm.MethodName) prog_1_method_68_code (7 : Nat) (Option.some Jvm.ClassFile.FieldType.int)) ∈ lw_all := lw_g (lw_at lw_m4 113 rfl) rfl
theorem q924 : (Jvm.Cond.instanceMethod ({ cls := "LineCalls", name := "tall", desc := "(II)I" } : Jvm.MethodName)) ∈ lw_all := lw_g (lw_at lw_m4 115 rfl) rfl
theorem q925 : (Jvm.Cond.selects "LineCalls" ({ cls := "LineCalls", name := "tall", desc := "(II)I" } : Jvm.MethodName) ({ cls := "LineCalls", name := "tall", desc := "(II)I" } : Jvm.MethodName)) ∈ lw_all := lw_g (lw_at lw_m4 116 rfl) rfl
theorem q926 : (Jvm.Cond.codeWith ({ cls := "LineCalls", name := "tall", desc := "(II)I" } : Jvm.MethodName) prog_1_method_70_code (4 : Nat) (Option.some Jvm.ClassFile.FieldType.int) [((0 : Nat), (28 : Nat), (29 : Nat), (59 : Nat))]) ∈ lw_all := lw_g (lw_at lw_m4 117 rfl) rfl
theorem q928 : (Jvm.Cond.instanceMethod ({ cls := "LineCalls", name := "kinds", desc := "(II)I" } : Jvm.MethodName)) ∈ lw_all := lw_g (lw_at lw_m4 119 rfl) rfl
theorem q929 : (Jvm.Cond.selects "LineCalls" ({ cls := "LineCalls", name := "kinds", desc := "(II)I" } : Jvm.MethodName) ({ cls := "LineCalls", name := "kinds", desc := "(II)I" } : Jvm.MethodName)) ∈ lw_all := lw_g (lw_at lw_m4 120 rfl) rfl
theorem q930 : (Jvm.Cond.codeWith ({ cls := "LineCalls", name := "kinds", desc := "(II)I" } : Jvm.MethodName) prog_1_method_72_code (4 : Nat) (Option.some Jvm.ClassFile.FieldType.int) [((0 : Nat), (11 : Nat), (12 : Nat), (59 : Nat))]) ∈ lw_all := lw_g (lw_at lw_m4 121 rfl) rfl
theorem q931 : (Jvm.Cond.methodLink "LineCalls" (323 : Nat) ({ cls := "LineCalls", name := "kindsThatFit", desc := "(Ljava/lang/Object;I)I" } : Jvm.MethodName)) ∈ lw_all := lw_g (lw_at lw_m4 122 rfl) rfl
theorem q932 : (Jvm.Cond.privateMethod ({ cls := "LineCalls", name := "kindsThatFit", desc := "(Ljava/lang/Object;I)I" } : Jvm.MethodName)) ∈ lw_tbl := lw_at lw_m4 123 rfl
theorem q933 : (Jvm.Cond.instanceMethod ({ cls := "LineCalls", name := "kindsThatFit", desc := "(Ljava/lang/Object;I)I" } : Jvm.MethodName)) ∈ lw_all := lw_g (lw_at lw_m4 124 rfl) rfl
theorem q934 : (Jvm.Cond.code ({ cls := "LineCalls", name := "kindsThatFit", desc := "(Ljava/lang/Object;I)I" } : Jvm.MethodName) prog_1_method_71_code (6 : Nat) (Option.some Jvm.ClassFile.FieldType.int)) ∈ lw_all := lw_g (lw_at lw_m4 125 rfl) rfl
theorem q936 : (Jvm.Cond.instanceMethod ({ cls := "LineCalls", name := "mix", desc := "(I)I" } : Jvm.MethodName)) ∈ lw_all := lw_g (lw_at lw_m4 127 rfl) rfl
theorem q937 : (Jvm.Cond.selects "LineCalls" ({ cls := "LineCalls", name := "mix", desc := "(I)I" } : Jvm.MethodName) ({ cls := "LineCalls", name := "mix", desc := "(I)I" } : Jvm.MethodName)) ∈ lw_all := lw_g (lw_at lw_m4 128 rfl) rfl
theorem q938 : (Jvm.Cond.code ({ cls := "LineCalls", name := "mix", desc := "(I)I" } : Jvm.MethodName) prog_1_method_74_code (2 : Nat) (Option.some Jvm.ClassFile.FieldType.int)) ∈ lw_all := lw_g (lw_at lw_m4 129 rfl) rfl
theorem q939 : (Jvm.Cond.methodLink "LineCalls" (329 : Nat) ({ cls := "LineCalls", name := "mixed", desc := "(I)I" } : Jvm.MethodName)) ∈ lw_all := lw_g (lw_at lw_m4 130 rfl) rfl
theorem q940 : (Jvm.Cond.privateMethod ({ cls := "LineCalls", name := "mixed", desc := "(I)I" } : Jvm.MethodName)) ∈ lw_tbl := lw_at lw_m4 131 rfl
theorem q941 : (Jvm.Cond.instanceMethod ({ cls := "LineCalls", name := "mixed", desc := "(I)I" } : Jvm.MethodName)) ∈ lw_all := lw_g (lw_at lw_m4 132 rfl) rfl
theorem q942 : (Jvm.Cond.code ({ cls := "LineCalls", name := "mixed", desc := "(I)I" } : Jvm.MethodName) prog_1_method_73_code (3 : Nat) (Option.some Jvm.ClassFile.FieldType.int)) ∈ lw_all := lw_g (lw_at lw_m4 133 rfl) rfl
theorem q943 : (Jvm.Cond.methodLink "LineCalls" (326 : Nat) ({ cls := "LineCalls$World", name := "draw", desc := "()I" } : Jvm.MethodName)) ∈ lw_all := lw_g (lw_at lw_m4 134 rfl) rfl
theorem q949 : (Jvm.Cond.instanceMethod ({ cls := "LineCalls", name := "odds", desc := "(III)J" } : Jvm.MethodName)) ∈ lw_all := lw_g (lw_at lw_m4 140 rfl) rfl
theorem q950 : (Jvm.Cond.selects "LineCalls" ({ cls := "LineCalls", name := "odds", desc := "(III)J" } : Jvm.MethodName) ({ cls := "LineCalls", name := "odds", desc := "(III)J" } : Jvm.MethodName)) ∈ lw_all := lw_g (lw_at lw_m4 141 rfl) rfl
theorem q951 : (Jvm.Cond.code ({ cls := "LineCalls", name := "odds", desc := "(III)J" } : Jvm.MethodName) prog_1_method_77_code (10 : Nat) (Option.some Jvm.ClassFile.FieldType.long)) ∈ lw_all := lw_g (lw_at lw_m4 142 rfl) rfl
theorem q952 : (Jvm.Cond.methodLink "LineCalls" (332 : Nat) ({ cls := "LineCalls", name := "callsFor", desc := "(I)I" } : Jvm.MethodName)) ∈ lw_all := lw_g (lw_at lw_m4 143 rfl) rfl
theorem q953 : (Jvm.Cond.privateMethod ({ cls := "LineCalls", name := "callsFor", desc := "(I)I" } : Jvm.MethodName)) ∈ lw_tbl := lw_at lw_m4 144 rfl
theorem q954 : (Jvm.Cond.instanceMethod ({ cls := "LineCalls", name := "callsFor", desc := "(I)I" } : Jvm.MethodName)) ∈ lw_all := lw_g (lw_at lw_m4 145 rfl) rfl
theorem q955 : (Jvm.Cond.code ({ cls := "LineCalls", name := "callsFor", desc := "(I)I" } : Jvm.MethodName) prog_1_method_75_code (4 : Nat) (Option.some Jvm.ClassFile.FieldType.int)) ∈ lw_all := lw_g (lw_at lw_m4 146 rfl) rfl
theorem q956 : (Jvm.Cond.methodLink "LineCalls" (335 : Nat) ({ cls := "LineCalls", name := "divisor", desc := "(II)I" } : Jvm.MethodName)) ∈ lw_all := lw_g (lw_at lw_m4 147 rfl) rfl
theorem q957 : (Jvm.Cond.static ({ cls := "LineCalls", name := "divisor", desc := "(II)I" } : Jvm.MethodName)) ∈ lw_all := lw_g (lw_at lw_m4 148 rfl) rfl
theorem q958 : (Jvm.Cond.code ({ cls := "LineCalls", name := "divisor", desc := "(II)I" } : Jvm.MethodName) prog_1_method_76_code (5 : Nat) (Option.some Jvm.ClassFile.FieldType.int)) ∈ lw_all := lw_g (lw_at lw_m4 149 rfl) rfl
theorem q960 : (Jvm.Cond.instanceMethod ({ cls := "LineCalls", name := "seed", desc := "(I)I" } : Jvm.MethodName)) ∈ lw_all := lw_g (lw_at lw_m4 151 rfl) rfl
theorem q961 : (Jvm.Cond.selects "LineCalls" ({ cls := "LineCalls", name := "seed", desc := "(I)I" } : Jvm.MethodName) ({ cls := "LineCalls", name := "seed", desc := "(I)I" } : Jvm.MethodName)) ∈ lw_all := lw_g (lw_at lw_m4 152 rfl) rfl
theorem q962 : (Jvm.Cond.code ({ cls := "LineCalls", name := "seed", desc := "(I)I" } : Jvm.MethodName) prog_1_method_78_code (3 : Nat) (Option.some Jvm.ClassFile.FieldType.int)) ∈ lw_all := lw_g (lw_at lw_m4 153 rfl) rfl
theorem q964 : (Jvm.Cond.instanceMethod ({ cls := "LineCalls", name := "feed", desc := "(II)I" } : Jvm.MethodName)) ∈ lw_all := lw_g (lw_at lw_m4 155 rfl) rfl
theorem q965 : (Jvm.Cond.selects "LineCalls" ({ cls := "LineCalls", name := "feed", desc := "(II)I" } : Jvm.MethodName) ({ cls := "LineCalls", name := "feed", desc := "(II)I" } : Jvm.MethodName)) ∈ lw_all := lw_g (lw_at lw_m4 156 rfl) rfl
theorem q966 : (Jvm.Cond.code ({ cls := "LineCalls", name := "feed", desc := "(II)I" } : Jvm.MethodName) prog_1_method_79_code (4 : Nat) (Option.some Jvm.ClassFile.FieldType.int)) ∈ lw_all := lw_g (lw_at lw_m4 157 rfl) rfl
theorem q968 : (Jvm.Cond.instanceMethod ({ cls := "LineCalls", name := "wipe", desc := "()I" } : Jvm.MethodName)) ∈ lw_all := lw_g (lw_at lw_m4 159 rfl) rfl
theorem q969 : (Jvm.Cond.selects "LineCalls" ({ cls := "LineCalls", name := "wipe", desc := "()I" } : Jvm.MethodName) ({ cls := "LineCalls", name := "wipe", desc := "()I" } : Jvm.MethodName)) ∈ lw_all := lw_g (lw_at lw_m4 160 rfl) rfl
theorem q970 : (Jvm.Cond.code ({ cls := "LineCalls", name := "wipe", desc := "()I" } : Jvm.MethodName) prog_1_method_80_code (2 : Nat) (Option.some Jvm.ClassFile.FieldType.int)) ∈ lw_all := lw_g (lw_at lw_m4 161 rfl) rfl
theorem q972 : (Jvm.Cond.instanceMethod ({ cls := "LineCalls", name := "text", desc := "()I" } : Jvm.MethodName)) ∈ lw_all := lw_g (lw_at lw_m4 163 rfl) rfl
theorem q973 : (Jvm.Cond.selects "LineCalls" ({ cls := "LineCalls", name := "text", desc := "()I" } : Jvm.MethodName) ({ cls := "LineCalls", name := "text", desc := "()I" } : Jvm.MethodName)) ∈ lw_all := lw_g (lw_at lw_m4 164 rfl) rfl
theorem q974 : (Jvm.Cond.codeWith ({ cls := "LineCalls", name := "text", desc := "()I" } : Jvm.MethodName) prog_1_method_81_code (2 : Nat) (Option.some Jvm.ClassFile.FieldType.int) [((30 : Nat), (53 : Nat), (54 : Nat), (356 : Nat))]) ∈ lw_all := lw_g (lw_at lw_m4 165 rfl) rfl
theorem q975 : (Jvm.Cond.classLink "LineCalls" (356 : Nat) "LineCalls$Wrong") ∈ lw_all := lw_g (lw_at lw_m4 166 rfl) rfl
theorem q976 : (Jvm.Cond.methodLink "LineCalls" (353 : Nat) ({ cls := "LineCalls$Reader", name := "whole", desc := "()I" } : Jvm.MethodName)) ∈ lw_all := lw_g (lw_at lw_m4 167 rfl) rfl
theorem q1086 : (Jvm.Cond.instanceMethod ({ cls := "LineCalls", name := "hold", desc := "(II)I" } : Jvm.MethodName)) ∈ lw_all := lw_g (lw_at lw_m5 37 rfl) rfl
theorem q1087 : (Jvm.Cond.selects "LineCalls" ({ cls := "LineCalls", name := "hold", desc := "(II)I" } : Jvm.MethodName) ({ cls := "LineCalls", name := "hold", desc := "(II)I" } : Jvm.MethodName)) ∈ lw_all := lw_g (lw_at lw_m5 38 rfl) rfl
theorem q1088 : (Jvm.Cond.code ({ cls := "LineCalls", name := "hold", desc := "(II)I" } : Jvm.MethodName) prog_1_method_84_code (3 : Nat) (Option.some Jvm.ClassFile.FieldType.int)) ∈ lw_all := lw_g (lw_at lw_m5 39 rfl) rfl
theorem q1089 : (Jvm.Cond.methodLink "LineCalls" (364 : Nat) ({ cls := "LineCalls", name := "isSpot", desc := "(I)Z" } : Jvm.MethodName)) ∈ lw_all := lw_g (lw_at lw_m5 40 rfl) rfl
theorem q1090 : (Jvm.Cond.static ({ cls := "LineCalls", name := "isSpot", desc := "(I)Z" } : Jvm.MethodName)) ∈ lw_all := lw_g (lw_at lw_m5 41 rfl) rfl
theorem q1091 : (Jvm.Cond.code ({ cls := "LineCalls", name := "isSpot", desc := "(I)Z" } : Jvm.MethodName) prog_1_method_5_code (1 : Nat) (Option.some Jvm.ClassFile.FieldType.boolean)) ∈ lw_all := lw_g (lw_at lw_m5 42 rfl) rfl
theorem q1093 : (Jvm.Cond.instanceMethod ({ cls := "LineCalls", name := "as", desc := "(II)I" } : Jvm.MethodName)) ∈ lw_all := lw_g (lw_at lw_m5 44 rfl) rfl
theorem q1094 : (Jvm.Cond.selects "LineCalls" ({ cls := "LineCalls", name := "as", desc := "(II)I" } : Jvm.MethodName) ({ cls := "LineCalls", name := "as", desc := "(II)I" } : Jvm.MethodName)) ∈ lw_all := lw_g (lw_at lw_m5 45 rfl) rfl
theorem q1095 : (Jvm.Cond.code ({ cls := "LineCalls", name := "as", desc := "(II)I" } : Jvm.MethodName) prog_1_method_86_code (5 : Nat) (Option.some Jvm.ClassFile.FieldType.int)) ∈ lw_all := lw_g (lw_at lw_m5 46 rfl) rfl
theorem q1096 : (Jvm.Cond.methodLink "LineCalls" (367 : Nat) ({ cls := "LineCalls", name := "thingAt", desc := "(I)Ljava/lang/Object;" } : Jvm.MethodName)) ∈ lw_all := lw_g (lw_at lw_m5 47 rfl) rfl
theorem q1097 : (Jvm.Cond.privateMethod ({ cls := "LineCalls", name := "thingAt", desc := "(I)Ljava/lang/Object;" } : Jvm.MethodName)) ∈ lw_tbl := lw_at lw_m5 48 rfl
theorem q1098 : (Jvm.Cond.instanceMethod ({ cls := "LineCalls", name := "thingAt", desc := "(I)Ljava/lang/Object;" } : Jvm.MethodName)) ∈ lw_all := lw_g (lw_at lw_m5 49 rfl) rfl
theorem q1099 : (Jvm.Cond.code ({ cls := "LineCalls", name := "thingAt", desc := "(I)Ljava/lang/Object;" } : Jvm.MethodName) prog_1_method_82_code (3 : Nat) (Option.some (Jvm.ClassFile.FieldType.object "java/lang/Object"))) ∈ lw_all := lw_g (lw_at lw_m5 50 rfl) rfl
theorem q1100 : (Jvm.Cond.methodLink "LineCalls" (370 : Nat) ({ cls := "LineCalls$Jumper", name := "isUnder", desc := "(I)Z" } : Jvm.MethodName)) ∈ lw_all := lw_g (lw_at lw_m5 51 rfl) rfl
theorem q1121 : (Jvm.Cond.methodLink "LineCalls" (373 : Nat) ({ cls := "LineCalls", name := "cast", desc := "(Ljava/lang/Object;I)LLineCalls$Jumper;" } : Jvm.MethodName)) ∈ lw_all := lw_g (lw_at lw_m5 72 rfl) rfl
theorem q1122 : (Jvm.Cond.static ({ cls := "LineCalls", name := "cast", desc := "(Ljava/lang/Object;I)LLineCalls$Jumper;" } : Jvm.MethodName)) ∈ lw_all := lw_g (lw_at lw_m5 73 rfl) rfl
theorem q1123 : (Jvm.Cond.code ({ cls := "LineCalls", name := "cast", desc := "(Ljava/lang/Object;I)LLineCalls$Jumper;" } : Jvm.MethodName) prog_1_method_85_code (2 : Nat) (Option.some (Jvm.ClassFile.FieldType.object "LineCalls$Jumper"))) ∈ lw_all := lw_g (lw_at lw_m5 74 rfl) rfl
theorem q1125 : (Jvm.Cond.instanceMethod ({ cls := "LineCalls", name := "sheet", desc := "(III)I" } : Jvm.MethodName)) ∈ lw_all := lw_g (lw_at lw_m5 76 rfl) rfl
theorem q1126 : (Jvm.Cond.selects "LineCalls" ({ cls := "LineCalls", name := "sheet", desc := "(III)I" } : Jvm.MethodName) ({ cls := "LineCalls", name := "sheet", desc := "(III)I" } : Jvm.MethodName)) ∈ lw_all := lw_g (lw_at lw_m5 77 rfl) rfl
theorem q1127 : (Jvm.Cond.code ({ cls := "LineCalls", name := "sheet", desc := "(III)I" } : Jvm.MethodName) prog_1_method_87_code (4 : Nat) (Option.some Jvm.ClassFile.FieldType.int)) ∈ lw_all := lw_g (lw_at lw_m5 78 rfl) rfl
theorem q1130 : (Jvm.Cond.instanceMethod ({ cls := "LineCalls", name := "write", desc := "(III)I" } : Jvm.MethodName)) ∈ lw_all := lw_g (lw_at lw_m5 81 rfl) rfl
theorem q1131 : (Jvm.Cond.selects "LineCalls" ({ cls := "LineCalls", name := "write", desc := "(III)I" } : Jvm.MethodName) ({ cls := "LineCalls", name := "write", desc := "(III)I" } : Jvm.MethodName)) ∈ lw_all := lw_g (lw_at lw_m5 82 rfl) rfl
theorem q1132 : (Jvm.Cond.codeWith ({ cls := "LineCalls", name := "write", desc := "(III)I" } : Jvm.MethodName) prog_1_method_93_code (5 : Nat) (Option.some Jvm.ClassFile.FieldType.int) [((0 : Nat), (47 : Nat), (48 : Nat), (59 : Nat))]) ∈ lw_all := lw_g (lw_at lw_m5 83 rfl) rfl
theorem q1133 : (Jvm.Cond.methodLink "LineCalls" (386 : Nat) ({ cls := "LineCalls", name := "lay", desc := "(Ljava/lang/Object;II)V" } : Jvm.MethodName)) ∈ lw_all := lw_g (lw_at lw_m5 84 rfl) rfl
theorem q1134 : (Jvm.Cond.static ({ cls := "LineCalls", name := "lay", desc := "(Ljava/lang/Object;II)V" } : Jvm.MethodName)) ∈ lw_all := lw_g (lw_at lw_m5 85 rfl) rfl
theorem q1135 : (Jvm.Cond.code ({ cls := "LineCalls", name := "lay", desc := "(Ljava/lang/Object;II)V" } : Jvm.MethodName) prog_1_method_92_code (3 : Nat) (Option.none : Option Jvm.ClassFile.FieldType)) ∈ lw_all := lw_g (lw_at lw_m5 86 rfl) rfl
theorem q1137 : (Jvm.Cond.instanceMethod ({ cls := "LineCalls", name := "copy", desc := "(IIIII)I" } : Jvm.MethodName)) ∈ lw_all := lw_g (lw_at lw_m5 88 rfl) rfl
theorem q1138 : (Jvm.Cond.selects "LineCalls" ({ cls := "LineCalls", name := "copy", desc := "(IIIII)I" } : Jvm.MethodName) ({ cls := "LineCalls", name := "copy", desc := "(IIIII)I" } : Jvm.MethodName)) ∈ lw_all := lw_g (lw_at lw_m5 89 rfl) rfl
theorem q1139 : (Jvm.Cond.codeWith ({ cls := "LineCalls", name := "copy", desc := "(IIIII)I" } : Jvm.MethodName) prog_1_method_95_code (8 : Nat) (Option.some Jvm.ClassFile.FieldType.int) [((0 : Nat), (120 : Nat), (121 : Nat), (59 : Nat))]) ∈ lw_all := lw_g (lw_at lw_m5 90 rfl) rfl
theorem q1140 : (Jvm.Cond.methodLink "LineCalls" (396 : Nat) ({ cls := "LineCalls", name := "widthOf", desc := "(Ljava/lang/Object;)I" } : Jvm.MethodName)) ∈ lw_all := lw_g (lw_at lw_m5 91 rfl) rfl
theorem q1141 : (Jvm.Cond.static ({ cls := "LineCalls", name := "widthOf", desc := "(Ljava/lang/Object;)I" } : Jvm.MethodName)) ∈ lw_all := lw_g (lw_at lw_m5 92 rfl) rfl
theorem q1142 : (Jvm.Cond.code ({ cls := "LineCalls", name := "widthOf", desc := "(Ljava/lang/Object;)I" } : Jvm.MethodName) prog_1_method_91_code (1 : Nat) (Option.some Jvm.ClassFile.FieldType.int)) ∈ lw_all := lw_g (lw_at lw_m5 93 rfl) rfl
theorem q1143 : (Jvm.Cond.methodLink "LineCalls" (399 : Nat) ({ cls := "LineCalls", name := "slide", desc := "(Ljava/lang/Object;ILjava/lang/Object;II)V" } : Jvm.MethodName)) ∈ lw_all := lw_g (lw_at lw_m5 94 rfl) rfl
theorem q1144 : (Jvm.Cond.static ({ cls := "LineCalls", name := "slide", desc := "(Ljava/lang/Object;ILjava/lang/Object;II)V" } : Jvm.MethodName)) ∈ lw_all := lw_g (lw_at lw_m5 95 rfl) rfl
theorem q1145 : (Jvm.Cond.code ({ cls := "LineCalls", name := "slide", desc := "(Ljava/lang/Object;ILjava/lang/Object;II)V" } : Jvm.MethodName) prog_1_method_94_code (5 : Nat) (Option.none : Option Jvm.ClassFile.FieldType)) ∈ lw_all := lw_g (lw_at lw_m5 96 rfl) rfl
theorem q1146 : (Jvm.Cond.methodLink "LineCalls" (390 : Nat) ({ cls := "java/lang/System", name := "arraycopy", desc := "(Ljava/lang/Object;ILjava/lang/Object;II)V" } : Jvm.MethodName)) ∈ lw_all := lw_g (lw_at lw_m5 97 rfl) rfl
theorem q1148 : (Jvm.Cond.instanceMethod ({ cls := "LineCalls", name := "load", desc := "(I)I" } : Jvm.MethodName)) ∈ lw_all := lw_g (lw_at lw_m5 99 rfl) rfl
theorem q1149 : (Jvm.Cond.selects "LineCalls" ({ cls := "LineCalls", name := "load", desc := "(I)I" } : Jvm.MethodName) ({ cls := "LineCalls", name := "load", desc := "(I)I" } : Jvm.MethodName)) ∈ lw_all := lw_g (lw_at lw_m5 100 rfl) rfl
theorem q1150 : (Jvm.Cond.codeWith ({ cls := "LineCalls", name := "load", desc := "(I)I" } : Jvm.MethodName) prog_1_method_97_code (3 : Nat) (Option.some Jvm.ClassFile.FieldType.int) [((0 : Nat), (25 : Nat), (26 : Nat), (59 : Nat))]) ∈ lw_all := lw_g (lw_at lw_m5 101 rfl) rfl
theorem q1151 : (Jvm.Cond.methodLink "LineCalls" (402 : Nat) ({ cls := "LineCalls", name := "loads", desc := "(Ljava/lang/Object;)I" } : Jvm.MethodName)) ∈ lw_all := lw_g (lw_at lw_m5 102 rfl) rfl
theorem q1152 : (Jvm.Cond.privateMethod ({ cls := "LineCalls", name := "loads", desc := "(Ljava/lang/Object;)I" } : Jvm.MethodName)) ∈ lw_tbl := lw_at lw_m5 103 rfl
theorem q1153 : (Jvm.Cond.instanceMethod ({ cls := "LineCalls", name := "loads", desc := "(Ljava/lang/Object;)I" } : Jvm.MethodName)) ∈ lw_all := lw_g (lw_at lw_m5 104 rfl) rfl
theorem q1154 : (Jvm.Cond.code ({ cls := "LineCalls", name := "loads", desc := "(Ljava/lang/Object;)I" } : Jvm.MethodName) prog_1_method_96_code (3 : Nat) (Option.some Jvm.ClassFile.FieldType.int)) ∈ lw_all := lw_g (lw_at lw_m5 105 rfl) rfl
theorem q1156 : (Jvm.Cond.instanceMethod ({ cls := "LineCalls", name := "judge", desc := "(I)I" } : Jvm.MethodName)) ∈ lw_all := lw_g (lw_at lw_m5 107 rfl) rfl
theorem q1157 : (Jvm.Cond.selects "LineCalls" ({ cls := "LineCalls", name := "judge", desc := "(I)I" } : Jvm.MethodName) ({ cls := "LineCalls", name := "judge", desc := "(I)I" } : Jvm.MethodName)) ∈ lw_all := lw_g (lw_at lw_m5 108 rfl) rfl
theorem q1158 : (Jvm.Cond.codeWith ({ cls := "LineCalls", name := "judge", desc := "(I)I" } : Jvm.MethodName) prog_1_method_98_code (4 : Nat) (Option.some Jvm.ClassFile.FieldType.int) [((0 : Nat), (78 : Nat), (79 : Nat), (59 : Nat))]) ∈ lw_all := lw_g (lw_at lw_m5 109 rfl) rfl
theorem q1160 : (Jvm.Cond.instanceMethod ({ cls := "LineCalls", name := "image", desc := "()I" } : Jvm.MethodName)) ∈ lw_all := lw_g (lw_at lw_m5 111 rfl) rfl
theorem q1161 : (Jvm.Cond.selects "LineCalls" ({ cls := "LineCalls", name := "image", desc := "()I" } : Jvm.MethodName) ({ cls := "LineCalls", name := "image", desc := "()I" } : Jvm.MethodName)) ∈ lw_all := lw_g (lw_at lw_m5 112 rfl) rfl
theorem q1162 : (Jvm.Cond.code ({ cls := "LineCalls", name := "image", desc := "()I" } : Jvm.MethodName) prog_1_method_99_code (1 : Nat) (Option.some Jvm.ClassFile.FieldType.int)) ∈ lw_all := lw_g (lw_at lw_m5 113 rfl) rfl
theorem q1164 : (Jvm.Cond.instanceMethod ({ cls := "LineCalls", name := "undo", desc := "()I" } : Jvm.MethodName)) ∈ lw_all := lw_g (lw_at lw_m5 115 rfl) rfl
theorem q1165 : (Jvm.Cond.selects "LineCalls" ({ cls := "LineCalls", name := "undo", desc := "()I" } : Jvm.MethodName) ({ cls := "LineCalls", name := "undo", desc := "()I" } : Jvm.MethodName)) ∈ lw_all := lw_g (lw_at lw_m5 116 rfl) rfl
theorem q1166 : (Jvm.Cond.code ({ cls := "LineCalls", name := "undo", desc := "()I" } : Jvm.MethodName) prog_1_method_100_code (1 : Nat) (Option.some Jvm.ClassFile.FieldType.int)) ∈ lw_all := lw_g (lw_at lw_m5 117 rfl) rfl
theorem q1168 : (Jvm.Cond.instanceMethod ({ cls := "LineCalls", name := "tear", desc := "()I" } : Jvm.MethodName)) ∈ lw_all := lw_g (lw_at lw_m5 119 rfl) rfl
theorem q1169 : (Jvm.Cond.selects "LineCalls" ({ cls := "LineCalls", name := "tear", desc := "()I" } : Jvm.MethodName) ({ cls := "LineCalls", name := "tear", desc := "()I" } : Jvm.MethodName)) ∈ lw_all := lw_g (lw_at lw_m5 120 rfl) rfl
theorem q1170 : (Jvm.Cond.code ({ cls := "LineCalls", name := "tear", desc := "()I" } : Jvm.MethodName) prog_1_method_101_code (2 : Nat) (Option.some Jvm.ClassFile.FieldType.int)) ∈ lw_all := lw_g (lw_at lw_m5 121 rfl) rfl
theorem q1172 : (Jvm.Cond.instanceMethod ({ cls := "LineCalls", name := "count", desc := "(I)I" } : Jvm.MethodName)) ∈ lw_all := lw_g (lw_at lw_m5 123 rfl) rfl
theorem q1173 : (Jvm.Cond.selects "LineCalls" ({ cls := "LineCalls", name := "count", desc := "(I)I" } : Jvm.MethodName) ({ cls := "LineCalls", name := "count", desc := "(I)I" } : Jvm.MethodName)) ∈ lw_all := lw_g (lw_at lw_m5 124 rfl) rfl
theorem q1174 : (Jvm.Cond.code ({ cls := "LineCalls", name := "count", desc := "(I)I" } : Jvm.MethodName) prog_1_method_102_code (2 : Nat) (Option.some Jvm.ClassFile.FieldType.int)) ∈ lw_all := lw_g (lw_at lw_m5 125 rfl) rfl
theorem q1175 : (Jvm.Cond.methodLink "LineCalls" (409 : Nat) ({ cls := "LineCalls", name := "holding", desc := "()I" } : Jvm.MethodName)) ∈ lw_all := lw_g (lw_at lw_m5 126 rfl) rfl
theorem q1176 : (Jvm.Cond.privateMethod ({ cls := "LineCalls", name := "holding", desc := "()I" } : Jvm.MethodName)) ∈ lw_tbl := lw_at lw_m5 127 rfl
theorem q1177 : (Jvm.Cond.instanceMethod ({ cls := "LineCalls", name := "holding", desc := "()I" } : Jvm.MethodName)) ∈ lw_all := lw_g (lw_at lw_m5 128 rfl) rfl
theorem q1178 : (Jvm.Cond.code ({ cls := "LineCalls", name := "holding", desc := "()I" } : Jvm.MethodName) prog_1_method_83_code (6 : Nat) (Option.some Jvm.ClassFile.FieldType.int)) ∈ lw_all := lw_g (lw_at lw_m5 129 rfl) rfl
theorem q1180 : (Jvm.Cond.instanceMethod ({ cls := "LineCalls", name := "status", desc := "(I)I" } : Jvm.MethodName)) ∈ lw_all := lw_g (lw_at lw_m5 131 rfl) rfl
theorem q1181 : (Jvm.Cond.selects "LineCalls" ({ cls := "LineCalls", name := "status", desc := "(I)I" } : Jvm.MethodName) ({ cls := "LineCalls", name := "status", desc := "(I)I" } : Jvm.MethodName)) ∈ lw_all := lw_g (lw_at lw_m5 132 rfl) rfl
theorem q1182 : (Jvm.Cond.code ({ cls := "LineCalls", name := "status", desc := "(I)I" } : Jvm.MethodName) prog_1_method_103_code (4 : Nat) (Option.some Jvm.ClassFile.FieldType.int)) ∈ lw_all := lw_g (lw_at lw_m5 133 rfl) rfl
theorem in_X0 : ∀ w ∈ wsX00, w ∈ lw_all := lw_in wsX00 [427, 429, 431, 433, 435, 437, 439, 441, 443, 445, 447, 449] (by decide +kernel) (by decide +kernel)
