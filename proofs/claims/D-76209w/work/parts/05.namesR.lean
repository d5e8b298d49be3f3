/-! LineCalls$Reader -/
set_option maxRecDepth 100000
def RX2 : String := "LineCalls$Reader"
def TX2 : u_T := fun k => match k with
  | 0 => ("LineCalls$Reader", "wrong", "LLineCalls$Wrong;", true)
  | 1 => ("LineCalls$Reader", "tape", "[B", true)
  | 2 => ("LineCalls$Reader", "told", "LLineCalls$World;", true)
  | 3 => ("LineCalls$Reader", "length", "I", false)
  | 4 => ("LineCalls$Reader", "at", "I", false)
  | 5 => ("LineCalls$Reader", "begin", "I", false)
  | 6 => ("LineCalls$Reader", "token", "I", false)
  | _ => ("LineCalls$Reader", "value", "I", false)
def tyX2 : Nat → FieldType := fun k => match k with
  | 0 => .object "LineCalls$Wrong"
  | 1 => .array .byte
  | 2 => .object "LineCalls$World"
  | 3 => .int
  | 4 => .int
  | 5 => .int
  | 6 => .int
  | _ => .int
abbrev wsX20 : List Cond := u_ws RX2 TX2 8
theorem nmX2 : ∀ a, a < 8 → ∀ b, b < 8 → a ≠ b → (TX2 a).2.1 ≠ (TX2 b).2.1 := by decide +kernel
theorem tyX2_ok : ∀ k, k < 8 → parseFieldDescriptor (TX2 k).2.2.1 = some (tyX2 k) := by decide +kernel
abbrev cX2_init : ByteArray := prog_8_method_1_code
def yX2_init : MethodName := ⟨RX2, "<init>", "()V"⟩
def dkwX2_init_1 : List UInt8 := [187, 0, 22, 89, 183, 0, 24, 181, 0, 25, 177]
abbrev dktX2_init_1 : List UInt8 := dkwX2_init_1 ++ []
def dkwX2_init_0 : List UInt8 := [42, 183, 0, 3, 42, 187, 0, 9, 89, 183, 0, 11, 181, 0, 12, 42, 16, 120, 188, 8, 181, 0, 18, 42]
abbrev dktX2_init_0 : List UInt8 := dkwX2_init_0 ++ dktX2_init_1
theorem dksX2_init_0 : cX2_init.data.toList.drop 0 = dktX2_init_0 := by decide +kernel
theorem dksX2_init_1 : cX2_init.data.toList.drop 24 = dktX2_init_1 := dk_seg dksX2_init_0 24 rfl rfl
theorem dX2_init_0 : decode cX2_init 0 = .ok (.aload_n 0, 1) := dk_42 (dk_at dksX2_init_0 0 rfl rfl)
theorem dX2_init_1 : decode cX2_init 1 = .ok (.invokespecial 3, 3) := dk_183 0 3 (dk_at dksX2_init_0 1 rfl rfl)
theorem dX2_init_4 : decode cX2_init 4 = .ok (.aload_n 0, 1) := dk_42 (dk_at dksX2_init_0 4 rfl rfl)
theorem dX2_init_5 : decode cX2_init 5 = .ok (.new 9, 3) := dk_187 0 9 (dk_at dksX2_init_0 5 rfl rfl)
theorem dX2_init_8 : decode cX2_init 8 = .ok (.dup, 1) := dk_89 (dk_at dksX2_init_0 8 rfl rfl)
theorem dX2_init_9 : decode cX2_init 9 = .ok (.invokespecial 11, 3) := dk_183 0 11 (dk_at dksX2_init_0 9 rfl rfl)
theorem dX2_init_12 : decode cX2_init 12 = .ok (.putfield 12, 3) := dk_181 0 12 (dk_at dksX2_init_0 12 rfl rfl)
theorem dX2_init_15 : decode cX2_init 15 = .ok (.aload_n 0, 1) := dk_42 (dk_at dksX2_init_0 15 rfl rfl)
theorem dX2_init_16 : decode cX2_init 16 = .ok (.bipush 120, 2) := dk_16 120 (dk_at dksX2_init_0 16 rfl rfl)
theorem dX2_init_18 : decode cX2_init 18 = .ok (.newarray .byte, 2) := dk_188_8 (dk_at dksX2_init_0 18 rfl rfl)
theorem dX2_init_20 : decode cX2_init 20 = .ok (.putfield 18, 3) := dk_181 0 18 (dk_at dksX2_init_0 20 rfl rfl)
theorem dX2_init_23 : decode cX2_init 23 = .ok (.aload_n 0, 1) := dk_42 (dk_at dksX2_init_0 23 rfl rfl)
theorem dX2_init_24 : decode cX2_init 24 = .ok (.new 22, 3) := dk_187 0 22 (dk_at dksX2_init_1 0 rfl rfl)
theorem dX2_init_27 : decode cX2_init 27 = .ok (.dup, 1) := dk_89 (dk_at dksX2_init_1 3 rfl rfl)
theorem dX2_init_28 : decode cX2_init 28 = .ok (.invokespecial 24, 3) := dk_183 0 24 (dk_at dksX2_init_1 4 rfl rfl)
theorem dX2_init_31 : decode cX2_init 31 = .ok (.putfield 25, 3) := dk_181 0 25 (dk_at dksX2_init_1 7 rfl rfl)
theorem dX2_init_34 : decode cX2_init 34 = .ok (.return_, 1) := dk_177 (dk_at dksX2_init_1 10 rfl rfl)
abbrev cX2_whole : ByteArray := prog_8_method_18_code
def yX2_whole : MethodName := ⟨RX2, "whole", "()I"⟩
def dkwX2_whole_2 : List UInt8 := [167, 0, 4, 3, 182, 0, 63, 27, 172]
abbrev dktX2_whole_2 : List UInt8 := dkwX2_whole_2 ++ []
def dkwX2_whole_1 : List UInt8 := [182, 0, 82, 42, 182, 0, 131, 132, 1, 1, 167, 255, 237, 42, 42, 180, 0, 47, 154, 0, 7, 4]
abbrev dktX2_whole_1 : List UInt8 := dkwX2_whole_1 ++ dktX2_whole_2
def dkwX2_whole_0 : List UInt8 := [42, 3, 181, 0, 37, 42, 182, 0, 82, 42, 182, 0, 131, 4, 60, 42, 180, 0, 47, 6, 160, 0, 17, 42]
abbrev dktX2_whole_0 : List UInt8 := dkwX2_whole_0 ++ dktX2_whole_1
theorem dksX2_whole_0 : cX2_whole.data.toList.drop 0 = dktX2_whole_0 := by decide +kernel
theorem dksX2_whole_1 : cX2_whole.data.toList.drop 24 = dktX2_whole_1 := dk_seg dksX2_whole_0 24 rfl rfl
theorem dksX2_whole_2 : cX2_whole.data.toList.drop 46 = dktX2_whole_2 := dk_seg dksX2_whole_1 22 rfl rfl
theorem dX2_whole_0 : decode cX2_whole 0 = .ok (.aload_n 0, 1) := dk_42 (dk_at dksX2_whole_0 0 rfl rfl)
theorem dX2_whole_1 : decode cX2_whole 1 = .ok (.iconst 0, 1) := dk_3 (dk_at dksX2_whole_0 1 rfl rfl)
theorem dX2_whole_2 : decode cX2_whole 2 = .ok (.putfield 37, 3) := dk_181 0 37 (dk_at dksX2_whole_0 2 rfl rfl)
theorem dX2_whole_5 : decode cX2_whole 5 = .ok (.aload_n 0, 1) := dk_42 (dk_at dksX2_whole_0 5 rfl rfl)
theorem dX2_whole_6 : decode cX2_whole 6 = .ok (.invokevirtual 82, 3) := dk_182 0 82 (dk_at dksX2_whole_0 6 rfl rfl)
theorem dX2_whole_9 : decode cX2_whole 9 = .ok (.aload_n 0, 1) := dk_42 (dk_at dksX2_whole_0 9 rfl rfl)
theorem dX2_whole_10 : decode cX2_whole 10 = .ok (.invokevirtual 131, 3) := dk_182 0 131 (dk_at dksX2_whole_0 10 rfl rfl)
theorem dX2_whole_13 : decode cX2_whole 13 = .ok (.iconst 1, 1) := dk_4 (dk_at dksX2_whole_0 13 rfl rfl)
theorem dX2_whole_14 : decode cX2_whole 14 = .ok (.istore_n 1, 1) := dk_60 (dk_at dksX2_whole_0 14 rfl rfl)
theorem dX2_whole_15 : decode cX2_whole 15 = .ok (.aload_n 0, 1) := dk_42 (dk_at dksX2_whole_0 15 rfl rfl)
theorem dX2_whole_16 : decode cX2_whole 16 = .ok (.getfield 47, 3) := dk_180 0 47 (dk_at dksX2_whole_0 16 rfl rfl)
theorem dX2_whole_19 : decode cX2_whole 19 = .ok (.iconst 3, 1) := dk_6 (dk_at dksX2_whole_0 19 rfl rfl)
theorem dX2_whole_20 : decode cX2_whole 20 = .ok (.if_icmp .ne 17, 3) := dk_160 0 17 (dk_at dksX2_whole_0 20 rfl rfl)
theorem dX2_whole_23 : decode cX2_whole 23 = .ok (.aload_n 0, 1) := dk_42 (dk_at dksX2_whole_0 23 rfl rfl)
theorem dX2_whole_24 : decode cX2_whole 24 = .ok (.invokevirtual 82, 3) := dk_182 0 82 (dk_at dksX2_whole_1 0 rfl rfl)
theorem dX2_whole_27 : decode cX2_whole 27 = .ok (.aload_n 0, 1) := dk_42 (dk_at dksX2_whole_1 3 rfl rfl)
theorem dX2_whole_28 : decode cX2_whole 28 = .ok (.invokevirtual 131, 3) := dk_182 0 131 (dk_at dksX2_whole_1 4 rfl rfl)
theorem dX2_whole_31 : decode cX2_whole 31 = .ok (.iinc 1 1, 3) := dk_132 1 1 (dk_at dksX2_whole_1 7 rfl rfl)
theorem dX2_whole_34 : decode cX2_whole 34 = .ok (.goto (-19), 3) := dk_167 255 237 (dk_at dksX2_whole_1 10 rfl rfl)
theorem dX2_whole_37 : decode cX2_whole 37 = .ok (.aload_n 0, 1) := dk_42 (dk_at dksX2_whole_1 13 rfl rfl)
theorem dX2_whole_38 : decode cX2_whole 38 = .ok (.aload_n 0, 1) := dk_42 (dk_at dksX2_whole_1 14 rfl rfl)
theorem dX2_whole_39 : decode cX2_whole 39 = .ok (.getfield 47, 3) := dk_180 0 47 (dk_at dksX2_whole_1 15 rfl rfl)
theorem dX2_whole_42 : decode cX2_whole 42 = .ok (.ifCond .ne 7, 3) := dk_154 0 7 (dk_at dksX2_whole_1 18 rfl rfl)
theorem dX2_whole_45 : decode cX2_whole 45 = .ok (.iconst 1, 1) := dk_4 (dk_at dksX2_whole_1 21 rfl rfl)
theorem dX2_whole_46 : decode cX2_whole 46 = .ok (.goto 4, 3) := dk_167 0 4 (dk_at dksX2_whole_2 0 rfl rfl)
theorem dX2_whole_49 : decode cX2_whole 49 = .ok (.iconst 0, 1) := dk_3 (dk_at dksX2_whole_2 3 rfl rfl)
theorem dX2_whole_50 : decode cX2_whole 50 = .ok (.invokevirtual 63, 3) := dk_182 0 63 (dk_at dksX2_whole_2 4 rfl rfl)
theorem dX2_whole_53 : decode cX2_whole 53 = .ok (.iload_n 1, 1) := dk_27 (dk_at dksX2_whole_2 7 rfl rfl)
theorem dX2_whole_54 : decode cX2_whole 54 = .ok (.ireturn, 1) := dk_172 (dk_at dksX2_whole_2 8 rfl rfl)
abbrev cX2_next : ByteArray := prog_8_method_6_code
def yX2_next : MethodName := ⟨RX2, "next", "()V"⟩
def dkwX2_next_4 : List UInt8 := [3, 182, 0, 63, 42, 6, 181, 0, 47, 42, 89, 180, 0, 37, 4, 96, 181, 0, 37, 177]
abbrev dktX2_next_4 : List UInt8 := dkwX2_next_4 ++ []
def dkwX2_next_3 : List UInt8 := [184, 0, 57, 153, 0, 10, 42, 182, 0, 60, 167, 0, 33, 42, 27, 16, 59, 160, 0, 7, 4, 167, 0, 4]
abbrev dktX2_next_3 : List UInt8 := dkwX2_next_3 ++ dktX2_next_4
def dkwX2_next_2 : List UInt8 := [42, 3, 181, 0, 47, 167, 0, 61, 27, 184, 0, 50, 153, 0, 10, 42, 182, 0, 54, 167, 0, 47, 27]
abbrev dktX2_next_2 : List UInt8 := dkwX2_next_2 ++ dktX2_next_3
def dkwX2_next_1 : List UInt8 := [167, 255, 233, 42, 42, 180, 0, 37, 181, 0, 44, 42, 42, 180, 0, 37, 182, 0, 40, 60, 27, 156, 0, 11]
abbrev dktX2_next_1 : List UInt8 := dkwX2_next_1 ++ dktX2_next_2
def dkwX2_next_0 : List UInt8 := [42, 42, 180, 0, 37, 182, 0, 40, 16, 32, 160, 0, 16, 42, 89, 180, 0, 37, 4, 96, 181, 0, 37]
abbrev dktX2_next_0 : List UInt8 := dkwX2_next_0 ++ dktX2_next_1
theorem dksX2_next_0 : cX2_next.data.toList.drop 0 = dktX2_next_0 := by decide +kernel
theorem dksX2_next_1 : cX2_next.data.toList.drop 23 = dktX2_next_1 := dk_seg dksX2_next_0 23 rfl rfl
theorem dksX2_next_2 : cX2_next.data.toList.drop 47 = dktX2_next_2 := dk_seg dksX2_next_1 24 rfl rfl
theorem dksX2_next_3 : cX2_next.data.toList.drop 70 = dktX2_next_3 := dk_seg dksX2_next_2 23 rfl rfl
theorem dksX2_next_4 : cX2_next.data.toList.drop 94 = dktX2_next_4 := dk_seg dksX2_next_3 24 rfl rfl
theorem dX2_next_0 : decode cX2_next 0 = .ok (.aload_n 0, 1) := dk_42 (dk_at dksX2_next_0 0 rfl rfl)
theorem dX2_next_1 : decode cX2_next 1 = .ok (.aload_n 0, 1) := dk_42 (dk_at dksX2_next_0 1 rfl rfl)
theorem dX2_next_2 : decode cX2_next 2 = .ok (.getfield 37, 3) := dk_180 0 37 (dk_at dksX2_next_0 2 rfl rfl)
theorem dX2_next_5 : decode cX2_next 5 = .ok (.invokevirtual 40, 3) := dk_182 0 40 (dk_at dksX2_next_0 5 rfl rfl)
theorem dX2_next_8 : decode cX2_next 8 = .ok (.bipush 32, 2) := dk_16 32 (dk_at dksX2_next_0 8 rfl rfl)
theorem dX2_next_10 : decode cX2_next 10 = .ok (.if_icmp .ne 16, 3) := dk_160 0 16 (dk_at dksX2_next_0 10 rfl rfl)
theorem dX2_next_13 : decode cX2_next 13 = .ok (.aload_n 0, 1) := dk_42 (dk_at dksX2_next_0 13 rfl rfl)
theorem dX2_next_14 : decode cX2_next 14 = .ok (.dup, 1) := dk_89 (dk_at dksX2_next_0 14 rfl rfl)
theorem dX2_next_15 : decode cX2_next 15 = .ok (.getfield 37, 3) := dk_180 0 37 (dk_at dksX2_next_0 15 rfl rfl)
theorem dX2_next_18 : decode cX2_next 18 = .ok (.iconst 1, 1) := dk_4 (dk_at dksX2_next_0 18 rfl rfl)
theorem dX2_next_19 : decode cX2_next 19 = .ok (.iadd, 1) := dk_96 (dk_at dksX2_next_0 19 rfl rfl)
theorem dX2_next_20 : decode cX2_next 20 = .ok (.putfield 37, 3) := dk_181 0 37 (dk_at dksX2_next_0 20 rfl rfl)
theorem dX2_next_23 : decode cX2_next 23 = .ok (.goto (-23), 3) := dk_167 255 233 (dk_at dksX2_next_1 0 rfl rfl)
theorem dX2_next_26 : decode cX2_next 26 = .ok (.aload_n 0, 1) := dk_42 (dk_at dksX2_next_1 3 rfl rfl)
theorem dX2_next_27 : decode cX2_next 27 = .ok (.aload_n 0, 1) := dk_42 (dk_at dksX2_next_1 4 rfl rfl)
theorem dX2_next_28 : decode cX2_next 28 = .ok (.getfield 37, 3) := dk_180 0 37 (dk_at dksX2_next_1 5 rfl rfl)
theorem dX2_next_31 : decode cX2_next 31 = .ok (.putfield 44, 3) := dk_181 0 44 (dk_at dksX2_next_1 8 rfl rfl)
theorem dX2_next_34 : decode cX2_next 34 = .ok (.aload_n 0, 1) := dk_42 (dk_at dksX2_next_1 11 rfl rfl)
theorem dX2_next_35 : decode cX2_next 35 = .ok (.aload_n 0, 1) := dk_42 (dk_at dksX2_next_1 12 rfl rfl)
theorem dX2_next_36 : decode cX2_next 36 = .ok (.getfield 37, 3) := dk_180 0 37 (dk_at dksX2_next_1 13 rfl rfl)
theorem dX2_next_39 : decode cX2_next 39 = .ok (.invokevirtual 40, 3) := dk_182 0 40 (dk_at dksX2_next_1 16 rfl rfl)
theorem dX2_next_42 : decode cX2_next 42 = .ok (.istore_n 1, 1) := dk_60 (dk_at dksX2_next_1 19 rfl rfl)
theorem dX2_next_43 : decode cX2_next 43 = .ok (.iload_n 1, 1) := dk_27 (dk_at dksX2_next_1 20 rfl rfl)
theorem dX2_next_44 : decode cX2_next 44 = .ok (.ifCond .ge 11, 3) := dk_156 0 11 (dk_at dksX2_next_1 21 rfl rfl)
theorem dX2_next_47 : decode cX2_next 47 = .ok (.aload_n 0, 1) := dk_42 (dk_at dksX2_next_2 0 rfl rfl)
theorem dX2_next_48 : decode cX2_next 48 = .ok (.iconst 0, 1) := dk_3 (dk_at dksX2_next_2 1 rfl rfl)
theorem dX2_next_49 : decode cX2_next 49 = .ok (.putfield 47, 3) := dk_181 0 47 (dk_at dksX2_next_2 2 rfl rfl)
theorem dX2_next_52 : decode cX2_next 52 = .ok (.goto 61, 3) := dk_167 0 61 (dk_at dksX2_next_2 5 rfl rfl)
theorem dX2_next_55 : decode cX2_next 55 = .ok (.iload_n 1, 1) := dk_27 (dk_at dksX2_next_2 8 rfl rfl)
theorem dX2_next_56 : decode cX2_next 56 = .ok (.invokestatic 50, 3) := dk_184 0 50 (dk_at dksX2_next_2 9 rfl rfl)
theorem dX2_next_59 : decode cX2_next 59 = .ok (.ifCond .eq 10, 3) := dk_153 0 10 (dk_at dksX2_next_2 12 rfl rfl)
theorem dX2_next_62 : decode cX2_next 62 = .ok (.aload_n 0, 1) := dk_42 (dk_at dksX2_next_2 15 rfl rfl)
theorem dX2_next_63 : decode cX2_next 63 = .ok (.invokevirtual 54, 3) := dk_182 0 54 (dk_at dksX2_next_2 16 rfl rfl)
theorem dX2_next_66 : decode cX2_next 66 = .ok (.goto 47, 3) := dk_167 0 47 (dk_at dksX2_next_2 19 rfl rfl)
theorem dX2_next_69 : decode cX2_next 69 = .ok (.iload_n 1, 1) := dk_27 (dk_at dksX2_next_2 22 rfl rfl)
theorem dX2_next_70 : decode cX2_next 70 = .ok (.invokestatic 57, 3) := dk_184 0 57 (dk_at dksX2_next_3 0 rfl rfl)
theorem dX2_next_73 : decode cX2_next 73 = .ok (.ifCond .eq 10, 3) := dk_153 0 10 (dk_at dksX2_next_3 3 rfl rfl)
theorem dX2_next_76 : decode cX2_next 76 = .ok (.aload_n 0, 1) := dk_42 (dk_at dksX2_next_3 6 rfl rfl)
theorem dX2_next_77 : decode cX2_next 77 = .ok (.invokevirtual 60, 3) := dk_182 0 60 (dk_at dksX2_next_3 7 rfl rfl)
theorem dX2_next_80 : decode cX2_next 80 = .ok (.goto 33, 3) := dk_167 0 33 (dk_at dksX2_next_3 10 rfl rfl)
theorem dX2_next_83 : decode cX2_next 83 = .ok (.aload_n 0, 1) := dk_42 (dk_at dksX2_next_3 13 rfl rfl)
theorem dX2_next_84 : decode cX2_next 84 = .ok (.iload_n 1, 1) := dk_27 (dk_at dksX2_next_3 14 rfl rfl)
theorem dX2_next_85 : decode cX2_next 85 = .ok (.bipush 59, 2) := dk_16 59 (dk_at dksX2_next_3 15 rfl rfl)
theorem dX2_next_87 : decode cX2_next 87 = .ok (.if_icmp .ne 7, 3) := dk_160 0 7 (dk_at dksX2_next_3 17 rfl rfl)
theorem dX2_next_90 : decode cX2_next 90 = .ok (.iconst 1, 1) := dk_4 (dk_at dksX2_next_3 20 rfl rfl)
theorem dX2_next_91 : decode cX2_next 91 = .ok (.goto 4, 3) := dk_167 0 4 (dk_at dksX2_next_3 21 rfl rfl)
theorem dX2_next_94 : decode cX2_next 94 = .ok (.iconst 0, 1) := dk_3 (dk_at dksX2_next_4 0 rfl rfl)
theorem dX2_next_95 : decode cX2_next 95 = .ok (.invokevirtual 63, 3) := dk_182 0 63 (dk_at dksX2_next_4 1 rfl rfl)
theorem dX2_next_98 : decode cX2_next 98 = .ok (.aload_n 0, 1) := dk_42 (dk_at dksX2_next_4 4 rfl rfl)
theorem dX2_next_99 : decode cX2_next 99 = .ok (.iconst 3, 1) := dk_6 (dk_at dksX2_next_4 5 rfl rfl)
theorem dX2_next_100 : decode cX2_next 100 = .ok (.putfield 47, 3) := dk_181 0 47 (dk_at dksX2_next_4 6 rfl rfl)
theorem dX2_next_103 : decode cX2_next 103 = .ok (.aload_n 0, 1) := dk_42 (dk_at dksX2_next_4 9 rfl rfl)
theorem dX2_next_104 : decode cX2_next 104 = .ok (.dup, 1) := dk_89 (dk_at dksX2_next_4 10 rfl rfl)
theorem dX2_next_105 : decode cX2_next 105 = .ok (.getfield 37, 3) := dk_180 0 37 (dk_at dksX2_next_4 11 rfl rfl)
theorem dX2_next_108 : decode cX2_next 108 = .ok (.iconst 1, 1) := dk_4 (dk_at dksX2_next_4 14 rfl rfl)
theorem dX2_next_109 : decode cX2_next 109 = .ok (.iadd, 1) := dk_96 (dk_at dksX2_next_4 15 rfl rfl)
theorem dX2_next_110 : decode cX2_next 110 = .ok (.putfield 37, 3) := dk_181 0 37 (dk_at dksX2_next_4 16 rfl rfl)
theorem dX2_next_113 : decode cX2_next 113 = .ok (.return_, 1) := dk_177 (dk_at dksX2_next_4 19 rfl rfl)
abbrev cX2_byteAt : ByteArray := prog_8_method_3_code
def yX2_byteAt : MethodName := ⟨RX2, "byteAt", "(I)I"⟩
def dkwX2_byteAt_0 : List UInt8 := [27, 42, 180, 0, 29, 162, 0, 16, 42, 180, 0, 18, 27, 51, 17, 0, 255, 126, 167, 0, 4, 2, 172]
abbrev dktX2_byteAt_0 : List UInt8 := dkwX2_byteAt_0 ++ []
theorem dksX2_byteAt_0 : cX2_byteAt.data.toList.drop 0 = dktX2_byteAt_0 := by decide +kernel
theorem dX2_byteAt_0 : decode cX2_byteAt 0 = .ok (.iload_n 1, 1) := dk_27 (dk_at dksX2_byteAt_0 0 rfl rfl)
theorem dX2_byteAt_1 : decode cX2_byteAt 1 = .ok (.aload_n 0, 1) := dk_42 (dk_at dksX2_byteAt_0 1 rfl rfl)
theorem dX2_byteAt_2 : decode cX2_byteAt 2 = .ok (.getfield 29, 3) := dk_180 0 29 (dk_at dksX2_byteAt_0 2 rfl rfl)
theorem dX2_byteAt_5 : decode cX2_byteAt 5 = .ok (.if_icmp .ge 16, 3) := dk_162 0 16 (dk_at dksX2_byteAt_0 5 rfl rfl)
theorem dX2_byteAt_8 : decode cX2_byteAt 8 = .ok (.aload_n 0, 1) := dk_42 (dk_at dksX2_byteAt_0 8 rfl rfl)
theorem dX2_byteAt_9 : decode cX2_byteAt 9 = .ok (.getfield 18, 3) := dk_180 0 18 (dk_at dksX2_byteAt_0 9 rfl rfl)
theorem dX2_byteAt_12 : decode cX2_byteAt 12 = .ok (.iload_n 1, 1) := dk_27 (dk_at dksX2_byteAt_0 12 rfl rfl)
theorem dX2_byteAt_13 : decode cX2_byteAt 13 = .ok (.baload, 1) := dk_51 (dk_at dksX2_byteAt_0 13 rfl rfl)
theorem dX2_byteAt_14 : decode cX2_byteAt 14 = .ok (.sipush 255, 3) := dk_17 0 255 (dk_at dksX2_byteAt_0 14 rfl rfl)
theorem dX2_byteAt_17 : decode cX2_byteAt 17 = .ok (.iand, 1) := dk_126 (dk_at dksX2_byteAt_0 17 rfl rfl)
theorem dX2_byteAt_18 : decode cX2_byteAt 18 = .ok (.goto 4, 3) := dk_167 0 4 (dk_at dksX2_byteAt_0 18 rfl rfl)
theorem dX2_byteAt_21 : decode cX2_byteAt 21 = .ok (.iconst (-1), 1) := dk_2 (dk_at dksX2_byteAt_0 21 rfl rfl)
theorem dX2_byteAt_22 : decode cX2_byteAt 22 = .ok (.ireturn, 1) := dk_172 (dk_at dksX2_byteAt_0 22 rfl rfl)
abbrev cX2_isLetter : ByteArray := prog_8_method_5_code
def yX2_isLetter : MethodName := ⟨RX2, "isLetter", "(I)Z"⟩
def dkwX2_isLetter_0 : List UInt8 := [26, 16, 97, 16, 122, 184, 0, 33, 172]
abbrev dktX2_isLetter_0 : List UInt8 := dkwX2_isLetter_0 ++ []
theorem dksX2_isLetter_0 : cX2_isLetter.data.toList.drop 0 = dktX2_isLetter_0 := by decide +kernel
theorem dX2_isLetter_0 : decode cX2_isLetter 0 = .ok (.iload_n 0, 1) := dk_26 (dk_at dksX2_isLetter_0 0 rfl rfl)
theorem dX2_isLetter_1 : decode cX2_isLetter 1 = .ok (.bipush 97, 2) := dk_16 97 (dk_at dksX2_isLetter_0 1 rfl rfl)
theorem dX2_isLetter_3 : decode cX2_isLetter 3 = .ok (.bipush 122, 2) := dk_16 122 (dk_at dksX2_isLetter_0 3 rfl rfl)
theorem dX2_isLetter_5 : decode cX2_isLetter 5 = .ok (.invokestatic 33, 3) := dk_184 0 33 (dk_at dksX2_isLetter_0 5 rfl rfl)
theorem dX2_isLetter_8 : decode cX2_isLetter 8 = .ok (.ireturn, 1) := dk_172 (dk_at dksX2_isLetter_0 8 rfl rfl)
abbrev cX2_word : ByteArray := prog_8_method_8_code
def yX2_word : MethodName := ⟨RX2, "word", "()V"⟩
def dkwX2_word_3 : List UInt8 := [182, 0, 63, 42, 5, 181, 0, 47, 42, 27, 181, 0, 67, 177]
abbrev dktX2_word_3 : List UInt8 := dkwX2_word_3 ++ []
def dkwX2_word_2 : List UInt8 := [182, 0, 70, 154, 0, 9, 132, 1, 1, 167, 255, 230, 42, 27, 16, 14, 162, 0, 7, 4, 167, 0, 4, 3]
abbrev dktX2_word_2 : List UInt8 := dkwX2_word_2 ++ dktX2_word_3
def dkwX2_word_1 : List UInt8 := [167, 255, 232, 3, 60, 27, 16, 14, 162, 0, 26, 42, 27, 42, 180, 0, 37, 42, 180, 0, 44, 100]
abbrev dktX2_word_1 : List UInt8 := dkwX2_word_1 ++ dktX2_word_2
def dkwX2_word_0 : List UInt8 := [42, 42, 180, 0, 37, 182, 0, 40, 184, 0, 50, 153, 0, 16, 42, 89, 180, 0, 37, 4, 96, 181, 0, 37]
abbrev dktX2_word_0 : List UInt8 := dkwX2_word_0 ++ dktX2_word_1
theorem dksX2_word_0 : cX2_word.data.toList.drop 0 = dktX2_word_0 := by decide +kernel
theorem dksX2_word_1 : cX2_word.data.toList.drop 24 = dktX2_word_1 := dk_seg dksX2_word_0 24 rfl rfl
theorem dksX2_word_2 : cX2_word.data.toList.drop 46 = dktX2_word_2 := dk_seg dksX2_word_1 22 rfl rfl
theorem dksX2_word_3 : cX2_word.data.toList.drop 70 = dktX2_word_3 := dk_seg dksX2_word_2 24 rfl rfl
theorem dX2_word_0 : decode cX2_word 0 = .ok (.aload_n 0, 1) := dk_42 (dk_at dksX2_word_0 0 rfl rfl)
theorem dX2_word_1 : decode cX2_word 1 = .ok (.aload_n 0, 1) := dk_42 (dk_at dksX2_word_0 1 rfl rfl)
theorem dX2_word_2 : decode cX2_word 2 = .ok (.getfield 37, 3) := dk_180 0 37 (dk_at dksX2_word_0 2 rfl rfl)
theorem dX2_word_5 : decode cX2_word 5 = .ok (.invokevirtual 40, 3) := dk_182 0 40 (dk_at dksX2_word_0 5 rfl rfl)
theorem dX2_word_8 : decode cX2_word 8 = .ok (.invokestatic 50, 3) := dk_184 0 50 (dk_at dksX2_word_0 8 rfl rfl)
theorem dX2_word_11 : decode cX2_word 11 = .ok (.ifCond .eq 16, 3) := dk_153 0 16 (dk_at dksX2_word_0 11 rfl rfl)
theorem dX2_word_14 : decode cX2_word 14 = .ok (.aload_n 0, 1) := dk_42 (dk_at dksX2_word_0 14 rfl rfl)
theorem dX2_word_15 : decode cX2_word 15 = .ok (.dup, 1) := dk_89 (dk_at dksX2_word_0 15 rfl rfl)
theorem dX2_word_16 : decode cX2_word 16 = .ok (.getfield 37, 3) := dk_180 0 37 (dk_at dksX2_word_0 16 rfl rfl)
theorem dX2_word_19 : decode cX2_word 19 = .ok (.iconst 1, 1) := dk_4 (dk_at dksX2_word_0 19 rfl rfl)
theorem dX2_word_20 : decode cX2_word 20 = .ok (.iadd, 1) := dk_96 (dk_at dksX2_word_0 20 rfl rfl)
theorem dX2_word_21 : decode cX2_word 21 = .ok (.putfield 37, 3) := dk_181 0 37 (dk_at dksX2_word_0 21 rfl rfl)
theorem dX2_word_24 : decode cX2_word 24 = .ok (.goto (-24), 3) := dk_167 255 232 (dk_at dksX2_word_1 0 rfl rfl)
theorem dX2_word_27 : decode cX2_word 27 = .ok (.iconst 0, 1) := dk_3 (dk_at dksX2_word_1 3 rfl rfl)
theorem dX2_word_28 : decode cX2_word 28 = .ok (.istore_n 1, 1) := dk_60 (dk_at dksX2_word_1 4 rfl rfl)
theorem dX2_word_29 : decode cX2_word 29 = .ok (.iload_n 1, 1) := dk_27 (dk_at dksX2_word_1 5 rfl rfl)
theorem dX2_word_30 : decode cX2_word 30 = .ok (.bipush 14, 2) := dk_16 14 (dk_at dksX2_word_1 6 rfl rfl)
theorem dX2_word_32 : decode cX2_word 32 = .ok (.if_icmp .ge 26, 3) := dk_162 0 26 (dk_at dksX2_word_1 8 rfl rfl)
theorem dX2_word_35 : decode cX2_word 35 = .ok (.aload_n 0, 1) := dk_42 (dk_at dksX2_word_1 11 rfl rfl)
theorem dX2_word_36 : decode cX2_word 36 = .ok (.iload_n 1, 1) := dk_27 (dk_at dksX2_word_1 12 rfl rfl)
theorem dX2_word_37 : decode cX2_word 37 = .ok (.aload_n 0, 1) := dk_42 (dk_at dksX2_word_1 13 rfl rfl)
theorem dX2_word_38 : decode cX2_word 38 = .ok (.getfield 37, 3) := dk_180 0 37 (dk_at dksX2_word_1 14 rfl rfl)
theorem dX2_word_41 : decode cX2_word 41 = .ok (.aload_n 0, 1) := dk_42 (dk_at dksX2_word_1 17 rfl rfl)
theorem dX2_word_42 : decode cX2_word 42 = .ok (.getfield 44, 3) := dk_180 0 44 (dk_at dksX2_word_1 18 rfl rfl)
theorem dX2_word_45 : decode cX2_word 45 = .ok (.isub, 1) := dk_100 (dk_at dksX2_word_1 21 rfl rfl)
theorem dX2_word_46 : decode cX2_word 46 = .ok (.invokevirtual 70, 3) := dk_182 0 70 (dk_at dksX2_word_2 0 rfl rfl)
theorem dX2_word_49 : decode cX2_word 49 = .ok (.ifCond .ne 9, 3) := dk_154 0 9 (dk_at dksX2_word_2 3 rfl rfl)
theorem dX2_word_52 : decode cX2_word 52 = .ok (.iinc 1 1, 3) := dk_132 1 1 (dk_at dksX2_word_2 6 rfl rfl)
theorem dX2_word_55 : decode cX2_word 55 = .ok (.goto (-26), 3) := dk_167 255 230 (dk_at dksX2_word_2 9 rfl rfl)
theorem dX2_word_58 : decode cX2_word 58 = .ok (.aload_n 0, 1) := dk_42 (dk_at dksX2_word_2 12 rfl rfl)
theorem dX2_word_59 : decode cX2_word 59 = .ok (.iload_n 1, 1) := dk_27 (dk_at dksX2_word_2 13 rfl rfl)
theorem dX2_word_60 : decode cX2_word 60 = .ok (.bipush 14, 2) := dk_16 14 (dk_at dksX2_word_2 14 rfl rfl)
theorem dX2_word_62 : decode cX2_word 62 = .ok (.if_icmp .ge 7, 3) := dk_162 0 7 (dk_at dksX2_word_2 16 rfl rfl)
theorem dX2_word_65 : decode cX2_word 65 = .ok (.iconst 1, 1) := dk_4 (dk_at dksX2_word_2 19 rfl rfl)
theorem dX2_word_66 : decode cX2_word 66 = .ok (.goto 4, 3) := dk_167 0 4 (dk_at dksX2_word_2 20 rfl rfl)
theorem dX2_word_69 : decode cX2_word 69 = .ok (.iconst 0, 1) := dk_3 (dk_at dksX2_word_2 23 rfl rfl)
theorem dX2_word_70 : decode cX2_word 70 = .ok (.invokevirtual 63, 3) := dk_182 0 63 (dk_at dksX2_word_3 0 rfl rfl)
theorem dX2_word_73 : decode cX2_word 73 = .ok (.aload_n 0, 1) := dk_42 (dk_at dksX2_word_3 3 rfl rfl)
theorem dX2_word_74 : decode cX2_word 74 = .ok (.iconst 2, 1) := dk_5 (dk_at dksX2_word_3 4 rfl rfl)
theorem dX2_word_75 : decode cX2_word 75 = .ok (.putfield 47, 3) := dk_181 0 47 (dk_at dksX2_word_3 5 rfl rfl)
theorem dX2_word_78 : decode cX2_word 78 = .ok (.aload_n 0, 1) := dk_42 (dk_at dksX2_word_3 8 rfl rfl)
theorem dX2_word_79 : decode cX2_word 79 = .ok (.iload_n 1, 1) := dk_27 (dk_at dksX2_word_3 9 rfl rfl)
theorem dX2_word_80 : decode cX2_word 80 = .ok (.putfield 67, 3) := dk_181 0 67 (dk_at dksX2_word_3 10 rfl rfl)
theorem dX2_word_83 : decode cX2_word 83 = .ok (.return_, 1) := dk_177 (dk_at dksX2_word_3 13 rfl rfl)
abbrev cX2_isKey : ByteArray := prog_8_method_9_code
def yX2_isKey : MethodName := ⟨RX2, "isKey", "(II)Z"⟩
def dkwX2_isKey_3 : List UInt8 := [160, 0, 7, 4, 167, 0, 4, 3, 62, 132, 4, 1, 167, 255, 211, 29, 172]
abbrev dktX2_isKey_3 : List UInt8 := dkwX2_isKey_3 ++ []
def dkwX2_isKey_2 : List UInt8 := [18, 74, 16, 7, 27, 104, 21, 4, 96, 182, 0, 76, 42, 42, 180, 0, 44, 21, 4, 96, 182, 0, 40]
abbrev dktX2_isKey_2 : List UInt8 := dkwX2_isKey_2 ++ dktX2_isKey_3
def dkwX2_isKey_1 : List UInt8 := [16, 32, 160, 0, 7, 4, 167, 0, 4, 3, 62, 3, 54, 4, 21, 4, 28, 162, 0, 45, 29, 153, 0, 41]
abbrev dktX2_isKey_1 : List UInt8 := dkwX2_isKey_1 ++ dktX2_isKey_2
def dkwX2_isKey_0 : List UInt8 := [28, 16, 7, 163, 0, 29, 28, 16, 7, 159, 0, 19, 18, 74, 16, 7, 27, 104, 28, 96, 182, 0, 76]
abbrev dktX2_isKey_0 : List UInt8 := dkwX2_isKey_0 ++ dktX2_isKey_1
theorem dksX2_isKey_0 : cX2_isKey.data.toList.drop 0 = dktX2_isKey_0 := by decide +kernel
theorem dksX2_isKey_1 : cX2_isKey.data.toList.drop 23 = dktX2_isKey_1 := dk_seg dksX2_isKey_0 23 rfl rfl
theorem dksX2_isKey_2 : cX2_isKey.data.toList.drop 47 = dktX2_isKey_2 := dk_seg dksX2_isKey_1 24 rfl rfl
theorem dksX2_isKey_3 : cX2_isKey.data.toList.drop 70 = dktX2_isKey_3 := dk_seg dksX2_isKey_2 23 rfl rfl
theorem dX2_isKey_0 : decode cX2_isKey 0 = .ok (.iload_n 2, 1) := dk_28 (dk_at dksX2_isKey_0 0 rfl rfl)
theorem dX2_isKey_1 : decode cX2_isKey 1 = .ok (.bipush 7, 2) := dk_16 7 (dk_at dksX2_isKey_0 1 rfl rfl)
theorem dX2_isKey_3 : decode cX2_isKey 3 = .ok (.if_icmp .gt 29, 3) := dk_163 0 29 (dk_at dksX2_isKey_0 3 rfl rfl)
theorem dX2_isKey_6 : decode cX2_isKey 6 = .ok (.iload_n 2, 1) := dk_28 (dk_at dksX2_isKey_0 6 rfl rfl)
theorem dX2_isKey_7 : decode cX2_isKey 7 = .ok (.bipush 7, 2) := dk_16 7 (dk_at dksX2_isKey_0 7 rfl rfl)
theorem dX2_isKey_9 : decode cX2_isKey 9 = .ok (.if_icmp .eq 19, 3) := dk_159 0 19 (dk_at dksX2_isKey_0 9 rfl rfl)
theorem dX2_isKey_12 : decode cX2_isKey 12 = .ok (.ldc 74, 2) := dk_18 74 (dk_at dksX2_isKey_0 12 rfl rfl)
theorem dX2_isKey_14 : decode cX2_isKey 14 = .ok (.bipush 7, 2) := dk_16 7 (dk_at dksX2_isKey_0 14 rfl rfl)
theorem dX2_isKey_16 : decode cX2_isKey 16 = .ok (.iload_n 1, 1) := dk_27 (dk_at dksX2_isKey_0 16 rfl rfl)
theorem dX2_isKey_17 : decode cX2_isKey 17 = .ok (.imul, 1) := dk_104 (dk_at dksX2_isKey_0 17 rfl rfl)
theorem dX2_isKey_18 : decode cX2_isKey 18 = .ok (.iload_n 2, 1) := dk_28 (dk_at dksX2_isKey_0 18 rfl rfl)
theorem dX2_isKey_19 : decode cX2_isKey 19 = .ok (.iadd, 1) := dk_96 (dk_at dksX2_isKey_0 19 rfl rfl)
theorem dX2_isKey_20 : decode cX2_isKey 20 = .ok (.invokevirtual 76, 3) := dk_182 0 76 (dk_at dksX2_isKey_0 20 rfl rfl)
theorem dX2_isKey_23 : decode cX2_isKey 23 = .ok (.bipush 32, 2) := dk_16 32 (dk_at dksX2_isKey_1 0 rfl rfl)
theorem dX2_isKey_25 : decode cX2_isKey 25 = .ok (.if_icmp .ne 7, 3) := dk_160 0 7 (dk_at dksX2_isKey_1 2 rfl rfl)
theorem dX2_isKey_28 : decode cX2_isKey 28 = .ok (.iconst 1, 1) := dk_4 (dk_at dksX2_isKey_1 5 rfl rfl)
theorem dX2_isKey_29 : decode cX2_isKey 29 = .ok (.goto 4, 3) := dk_167 0 4 (dk_at dksX2_isKey_1 6 rfl rfl)
theorem dX2_isKey_32 : decode cX2_isKey 32 = .ok (.iconst 0, 1) := dk_3 (dk_at dksX2_isKey_1 9 rfl rfl)
theorem dX2_isKey_33 : decode cX2_isKey 33 = .ok (.istore_n 3, 1) := dk_62 (dk_at dksX2_isKey_1 10 rfl rfl)
theorem dX2_isKey_34 : decode cX2_isKey 34 = .ok (.iconst 0, 1) := dk_3 (dk_at dksX2_isKey_1 11 rfl rfl)
theorem dX2_isKey_35 : decode cX2_isKey 35 = .ok (.istore 4, 2) := dk_54 4 (dk_at dksX2_isKey_1 12 rfl rfl)
theorem dX2_isKey_37 : decode cX2_isKey 37 = .ok (.iload 4, 2) := dk_21 4 (dk_at dksX2_isKey_1 14 rfl rfl)
theorem dX2_isKey_39 : decode cX2_isKey 39 = .ok (.iload_n 2, 1) := dk_28 (dk_at dksX2_isKey_1 16 rfl rfl)
theorem dX2_isKey_40 : decode cX2_isKey 40 = .ok (.if_icmp .ge 45, 3) := dk_162 0 45 (dk_at dksX2_isKey_1 17 rfl rfl)
theorem dX2_isKey_43 : decode cX2_isKey 43 = .ok (.iload_n 3, 1) := dk_29 (dk_at dksX2_isKey_1 20 rfl rfl)
theorem dX2_isKey_44 : decode cX2_isKey 44 = .ok (.ifCond .eq 41, 3) := dk_153 0 41 (dk_at dksX2_isKey_1 21 rfl rfl)
theorem dX2_isKey_47 : decode cX2_isKey 47 = .ok (.ldc 74, 2) := dk_18 74 (dk_at dksX2_isKey_2 0 rfl rfl)
theorem dX2_isKey_49 : decode cX2_isKey 49 = .ok (.bipush 7, 2) := dk_16 7 (dk_at dksX2_isKey_2 2 rfl rfl)
theorem dX2_isKey_51 : decode cX2_isKey 51 = .ok (.iload_n 1, 1) := dk_27 (dk_at dksX2_isKey_2 4 rfl rfl)
theorem dX2_isKey_52 : decode cX2_isKey 52 = .ok (.imul, 1) := dk_104 (dk_at dksX2_isKey_2 5 rfl rfl)
theorem dX2_isKey_53 : decode cX2_isKey 53 = .ok (.iload 4, 2) := dk_21 4 (dk_at dksX2_isKey_2 6 rfl rfl)
theorem dX2_isKey_55 : decode cX2_isKey 55 = .ok (.iadd, 1) := dk_96 (dk_at dksX2_isKey_2 8 rfl rfl)
theorem dX2_isKey_56 : decode cX2_isKey 56 = .ok (.invokevirtual 76, 3) := dk_182 0 76 (dk_at dksX2_isKey_2 9 rfl rfl)
theorem dX2_isKey_59 : decode cX2_isKey 59 = .ok (.aload_n 0, 1) := dk_42 (dk_at dksX2_isKey_2 12 rfl rfl)
theorem dX2_isKey_60 : decode cX2_isKey 60 = .ok (.aload_n 0, 1) := dk_42 (dk_at dksX2_isKey_2 13 rfl rfl)
theorem dX2_isKey_61 : decode cX2_isKey 61 = .ok (.getfield 44, 3) := dk_180 0 44 (dk_at dksX2_isKey_2 14 rfl rfl)
theorem dX2_isKey_64 : decode cX2_isKey 64 = .ok (.iload 4, 2) := dk_21 4 (dk_at dksX2_isKey_2 17 rfl rfl)
theorem dX2_isKey_66 : decode cX2_isKey 66 = .ok (.iadd, 1) := dk_96 (dk_at dksX2_isKey_2 19 rfl rfl)
theorem dX2_isKey_67 : decode cX2_isKey 67 = .ok (.invokevirtual 40, 3) := dk_182 0 40 (dk_at dksX2_isKey_2 20 rfl rfl)
theorem dX2_isKey_70 : decode cX2_isKey 70 = .ok (.if_icmp .ne 7, 3) := dk_160 0 7 (dk_at dksX2_isKey_3 0 rfl rfl)
theorem dX2_isKey_73 : decode cX2_isKey 73 = .ok (.iconst 1, 1) := dk_4 (dk_at dksX2_isKey_3 3 rfl rfl)
theorem dX2_isKey_74 : decode cX2_isKey 74 = .ok (.goto 4, 3) := dk_167 0 4 (dk_at dksX2_isKey_3 4 rfl rfl)
theorem dX2_isKey_77 : decode cX2_isKey 77 = .ok (.iconst 0, 1) := dk_3 (dk_at dksX2_isKey_3 7 rfl rfl)
theorem dX2_isKey_78 : decode cX2_isKey 78 = .ok (.istore_n 3, 1) := dk_62 (dk_at dksX2_isKey_3 8 rfl rfl)
theorem dX2_isKey_79 : decode cX2_isKey 79 = .ok (.iinc 4 1, 3) := dk_132 4 1 (dk_at dksX2_isKey_3 9 rfl rfl)
theorem dX2_isKey_82 : decode cX2_isKey 82 = .ok (.goto (-45), 3) := dk_167 255 211 (dk_at dksX2_isKey_3 12 rfl rfl)
theorem dX2_isKey_85 : decode cX2_isKey 85 = .ok (.iload_n 3, 1) := dk_29 (dk_at dksX2_isKey_3 15 rfl rfl)
theorem dX2_isKey_86 : decode cX2_isKey 86 = .ok (.ireturn, 1) := dk_172 (dk_at dksX2_isKey_3 16 rfl rfl)
abbrev cX2_need : ByteArray := prog_8_method_2_code
def yX2_need : MethodName := ⟨RX2, "need", "(Z)V"⟩
def dkwX2_need_0 : List UInt8 := [27, 154, 0, 8, 42, 180, 0, 12, 191, 177]
abbrev dktX2_need_0 : List UInt8 := dkwX2_need_0 ++ []
theorem dksX2_need_0 : cX2_need.data.toList.drop 0 = dktX2_need_0 := by decide +kernel
theorem dX2_need_0 : decode cX2_need 0 = .ok (.iload_n 1, 1) := dk_27 (dk_at dksX2_need_0 0 rfl rfl)
theorem dX2_need_1 : decode cX2_need 1 = .ok (.ifCond .ne 8, 3) := dk_154 0 8 (dk_at dksX2_need_0 1 rfl rfl)
theorem dX2_need_4 : decode cX2_need 4 = .ok (.aload_n 0, 1) := dk_42 (dk_at dksX2_need_0 4 rfl rfl)
theorem dX2_need_5 : decode cX2_need 5 = .ok (.getfield 12, 3) := dk_180 0 12 (dk_at dksX2_need_0 5 rfl rfl)
theorem dX2_need_8 : decode cX2_need 8 = .ok (.athrow, 1) := dk_191 (dk_at dksX2_need_0 8 rfl rfl)
theorem dX2_need_9 : decode cX2_need 9 = .ok (.return_, 1) := dk_177 (dk_at dksX2_need_0 9 rfl rfl)
abbrev cX2_isDigit : ByteArray := prog_8_method_4_code
def yX2_isDigit : MethodName := ⟨RX2, "isDigit", "(I)Z"⟩
def dkwX2_isDigit_0 : List UInt8 := [26, 16, 48, 16, 57, 184, 0, 33, 172]
abbrev dktX2_isDigit_0 : List UInt8 := dkwX2_isDigit_0 ++ []
theorem dksX2_isDigit_0 : cX2_isDigit.data.toList.drop 0 = dktX2_isDigit_0 := by decide +kernel
theorem dX2_isDigit_0 : decode cX2_isDigit 0 = .ok (.iload_n 0, 1) := dk_26 (dk_at dksX2_isDigit_0 0 rfl rfl)
theorem dX2_isDigit_1 : decode cX2_isDigit 1 = .ok (.bipush 48, 2) := dk_16 48 (dk_at dksX2_isDigit_0 1 rfl rfl)
theorem dX2_isDigit_3 : decode cX2_isDigit 3 = .ok (.bipush 57, 2) := dk_16 57 (dk_at dksX2_isDigit_0 3 rfl rfl)
theorem dX2_isDigit_5 : decode cX2_isDigit 5 = .ok (.invokestatic 33, 3) := dk_184 0 33 (dk_at dksX2_isDigit_0 5 rfl rfl)
theorem dX2_isDigit_8 : decode cX2_isDigit 8 = .ok (.ireturn, 1) := dk_172 (dk_at dksX2_isDigit_0 8 rfl rfl)
abbrev cX2_digits : ByteArray := prog_8_method_7_code
def yX2_digits : MethodName := ⟨RX2, "digits", "()V"⟩
def dkwX2_digits_3 : List UInt8 := [17, 3, 231, 163, 0, 7, 4, 167, 0, 4, 3, 182, 0, 63, 177]
abbrev dktX2_digits_3 : List UInt8 := dkwX2_digits_3 ++ []
def dkwX2_digits_2 : List UInt8 := [180, 0, 37, 4, 96, 181, 0, 37, 167, 255, 204, 42, 4, 181, 0, 47, 42, 27, 181, 0, 67, 42, 27]
abbrev dktX2_digits_2 : List UInt8 := dkwX2_digits_2 ++ dktX2_digits_3
def dkwX2_digits_1 : List UInt8 := [167, 0, 19, 16, 10, 27, 104, 42, 42, 180, 0, 37, 182, 0, 40, 96, 16, 48, 100, 60, 42, 89]
abbrev dktX2_digits_1 : List UInt8 := dkwX2_digits_1 ++ dktX2_digits_2
def dkwX2_digits_0 : List UInt8 := [3, 60, 42, 42, 180, 0, 37, 182, 0, 40, 184, 0, 57, 153, 0, 44, 27, 17, 3, 231, 164, 0, 7, 27]
abbrev dktX2_digits_0 : List UInt8 := dkwX2_digits_0 ++ dktX2_digits_1
theorem dksX2_digits_0 : cX2_digits.data.toList.drop 0 = dktX2_digits_0 := by decide +kernel
theorem dksX2_digits_1 : cX2_digits.data.toList.drop 24 = dktX2_digits_1 := dk_seg dksX2_digits_0 24 rfl rfl
theorem dksX2_digits_2 : cX2_digits.data.toList.drop 46 = dktX2_digits_2 := dk_seg dksX2_digits_1 22 rfl rfl
theorem dksX2_digits_3 : cX2_digits.data.toList.drop 69 = dktX2_digits_3 := dk_seg dksX2_digits_2 23 rfl rfl
theorem dX2_digits_0 : decode cX2_digits 0 = .ok (.iconst 0, 1) := dk_3 (dk_at dksX2_digits_0 0 rfl rfl)
theorem dX2_digits_1 : decode cX2_digits 1 = .ok (.istore_n 1, 1) := dk_60 (dk_at dksX2_digits_0 1 rfl rfl)
theorem dX2_digits_2 : decode cX2_digits 2 = .ok (.aload_n 0, 1) := dk_42 (dk_at dksX2_digits_0 2 rfl rfl)
theorem dX2_digits_3 : decode cX2_digits 3 = .ok (.aload_n 0, 1) := dk_42 (dk_at dksX2_digits_0 3 rfl rfl)
theorem dX2_digits_4 : decode cX2_digits 4 = .ok (.getfield 37, 3) := dk_180 0 37 (dk_at dksX2_digits_0 4 rfl rfl)
theorem dX2_digits_7 : decode cX2_digits 7 = .ok (.invokevirtual 40, 3) := dk_182 0 40 (dk_at dksX2_digits_0 7 rfl rfl)
theorem dX2_digits_10 : decode cX2_digits 10 = .ok (.invokestatic 57, 3) := dk_184 0 57 (dk_at dksX2_digits_0 10 rfl rfl)
theorem dX2_digits_13 : decode cX2_digits 13 = .ok (.ifCond .eq 44, 3) := dk_153 0 44 (dk_at dksX2_digits_0 13 rfl rfl)
theorem dX2_digits_16 : decode cX2_digits 16 = .ok (.iload_n 1, 1) := dk_27 (dk_at dksX2_digits_0 16 rfl rfl)
theorem dX2_digits_17 : decode cX2_digits 17 = .ok (.sipush 999, 3) := dk_17 3 231 (dk_at dksX2_digits_0 17 rfl rfl)
theorem dX2_digits_20 : decode cX2_digits 20 = .ok (.if_icmp .le 7, 3) := dk_164 0 7 (dk_at dksX2_digits_0 20 rfl rfl)
theorem dX2_digits_23 : decode cX2_digits 23 = .ok (.iload_n 1, 1) := dk_27 (dk_at dksX2_digits_0 23 rfl rfl)
theorem dX2_digits_24 : decode cX2_digits 24 = .ok (.goto 19, 3) := dk_167 0 19 (dk_at dksX2_digits_1 0 rfl rfl)
theorem dX2_digits_27 : decode cX2_digits 27 = .ok (.bipush 10, 2) := dk_16 10 (dk_at dksX2_digits_1 3 rfl rfl)
theorem dX2_digits_29 : decode cX2_digits 29 = .ok (.iload_n 1, 1) := dk_27 (dk_at dksX2_digits_1 5 rfl rfl)
theorem dX2_digits_30 : decode cX2_digits 30 = .ok (.imul, 1) := dk_104 (dk_at dksX2_digits_1 6 rfl rfl)
theorem dX2_digits_31 : decode cX2_digits 31 = .ok (.aload_n 0, 1) := dk_42 (dk_at dksX2_digits_1 7 rfl rfl)
theorem dX2_digits_32 : decode cX2_digits 32 = .ok (.aload_n 0, 1) := dk_42 (dk_at dksX2_digits_1 8 rfl rfl)
theorem dX2_digits_33 : decode cX2_digits 33 = .ok (.getfield 37, 3) := dk_180 0 37 (dk_at dksX2_digits_1 9 rfl rfl)
theorem dX2_digits_36 : decode cX2_digits 36 = .ok (.invokevirtual 40, 3) := dk_182 0 40 (dk_at dksX2_digits_1 12 rfl rfl)
theorem dX2_digits_39 : decode cX2_digits 39 = .ok (.iadd, 1) := dk_96 (dk_at dksX2_digits_1 15 rfl rfl)
theorem dX2_digits_40 : decode cX2_digits 40 = .ok (.bipush 48, 2) := dk_16 48 (dk_at dksX2_digits_1 16 rfl rfl)
theorem dX2_digits_42 : decode cX2_digits 42 = .ok (.isub, 1) := dk_100 (dk_at dksX2_digits_1 18 rfl rfl)
theorem dX2_digits_43 : decode cX2_digits 43 = .ok (.istore_n 1, 1) := dk_60 (dk_at dksX2_digits_1 19 rfl rfl)
theorem dX2_digits_44 : decode cX2_digits 44 = .ok (.aload_n 0, 1) := dk_42 (dk_at dksX2_digits_1 20 rfl rfl)
theorem dX2_digits_45 : decode cX2_digits 45 = .ok (.dup, 1) := dk_89 (dk_at dksX2_digits_1 21 rfl rfl)
theorem dX2_digits_46 : decode cX2_digits 46 = .ok (.getfield 37, 3) := dk_180 0 37 (dk_at dksX2_digits_2 0 rfl rfl)
theorem dX2_digits_49 : decode cX2_digits 49 = .ok (.iconst 1, 1) := dk_4 (dk_at dksX2_digits_2 3 rfl rfl)
theorem dX2_digits_50 : decode cX2_digits 50 = .ok (.iadd, 1) := dk_96 (dk_at dksX2_digits_2 4 rfl rfl)
theorem dX2_digits_51 : decode cX2_digits 51 = .ok (.putfield 37, 3) := dk_181 0 37 (dk_at dksX2_digits_2 5 rfl rfl)
theorem dX2_digits_54 : decode cX2_digits 54 = .ok (.goto (-52), 3) := dk_167 255 204 (dk_at dksX2_digits_2 8 rfl rfl)
theorem dX2_digits_57 : decode cX2_digits 57 = .ok (.aload_n 0, 1) := dk_42 (dk_at dksX2_digits_2 11 rfl rfl)
theorem dX2_digits_58 : decode cX2_digits 58 = .ok (.iconst 1, 1) := dk_4 (dk_at dksX2_digits_2 12 rfl rfl)
theorem dX2_digits_59 : decode cX2_digits 59 = .ok (.putfield 47, 3) := dk_181 0 47 (dk_at dksX2_digits_2 13 rfl rfl)
theorem dX2_digits_62 : decode cX2_digits 62 = .ok (.aload_n 0, 1) := dk_42 (dk_at dksX2_digits_2 16 rfl rfl)
theorem dX2_digits_63 : decode cX2_digits 63 = .ok (.iload_n 1, 1) := dk_27 (dk_at dksX2_digits_2 17 rfl rfl)
theorem dX2_digits_64 : decode cX2_digits 64 = .ok (.putfield 67, 3) := dk_181 0 67 (dk_at dksX2_digits_2 18 rfl rfl)
theorem dX2_digits_67 : decode cX2_digits 67 = .ok (.aload_n 0, 1) := dk_42 (dk_at dksX2_digits_2 21 rfl rfl)
theorem dX2_digits_68 : decode cX2_digits 68 = .ok (.iload_n 1, 1) := dk_27 (dk_at dksX2_digits_2 22 rfl rfl)
theorem dX2_digits_69 : decode cX2_digits 69 = .ok (.sipush 999, 3) := dk_17 3 231 (dk_at dksX2_digits_3 0 rfl rfl)
theorem dX2_digits_72 : decode cX2_digits 72 = .ok (.if_icmp .gt 7, 3) := dk_163 0 7 (dk_at dksX2_digits_3 3 rfl rfl)
theorem dX2_digits_75 : decode cX2_digits 75 = .ok (.iconst 1, 1) := dk_4 (dk_at dksX2_digits_3 6 rfl rfl)
theorem dX2_digits_76 : decode cX2_digits 76 = .ok (.goto 4, 3) := dk_167 0 4 (dk_at dksX2_digits_3 7 rfl rfl)
theorem dX2_digits_79 : decode cX2_digits 79 = .ok (.iconst 0, 1) := dk_3 (dk_at dksX2_digits_3 10 rfl rfl)
theorem dX2_digits_80 : decode cX2_digits 80 = .ok (.invokevirtual 63, 3) := dk_182 0 63 (dk_at dksX2_digits_3 11 rfl rfl)
theorem dX2_digits_83 : decode cX2_digits 83 = .ok (.return_, 1) := dk_177 (dk_at dksX2_digits_3 14 rfl rfl)
abbrev cX2_item : ByteArray := prog_8_method_17_code
def yX2_item : MethodName := ⟨RX2, "item", "()V"⟩
def dkwX2_item_6 : List UInt8 := [180, 0, 67, 182, 0, 128, 177]
abbrev dktX2_item_6 : List UInt8 := dkwX2_item_6 ++ []
def dkwX2_item_5 : List UInt8 := [167, 0, 30, 42, 180, 0, 25, 180, 0, 125, 4, 42, 3, 16, 9, 182, 0, 111, 79, 167, 0, 11, 42, 42]
abbrev dktX2_item_5 : List UInt8 := dkwX2_item_5 ++ dktX2_item_6
def dkwX2_item_4 : List UInt8 := [7, 182, 0, 111, 79, 167, 0, 49, 42, 180, 0, 25, 180, 0, 125, 3, 42, 3, 16, 9, 182, 0, 111, 79]
abbrev dktX2_item_4 : List UInt8 := dkwX2_item_4 ++ dktX2_item_5
def dkwX2_item_3 : List UInt8 := [42, 182, 0, 120, 167, 0, 74, 42, 182, 0, 122, 167, 0, 67, 42, 180, 0, 25, 180, 0, 125, 5, 42, 3]
abbrev dktX2_item_3 : List UInt8 := dkwX2_item_3 ++ dktX2_item_4
def dkwX2_item_2 : List UInt8 := [170, 0, 0, 0, 0, 104, 0, 0, 0, 7, 0, 0, 0, 11, 0, 0, 0, 34, 0, 0, 0, 41, 0, 0, 0, 48, 0, 0, 0, 66, 0, 0, 0, 85]
abbrev dktX2_item_2 : List UInt8 := dkwX2_item_2 ++ dktX2_item_3
def dkwX2_item_1 : List UInt8 := [182, 0, 63, 42, 180, 0, 67]
abbrev dktX2_item_1 : List UInt8 := dkwX2_item_1 ++ dktX2_item_2
def dkwX2_item_0 : List UInt8 := [42, 42, 180, 0, 47, 5, 160, 0, 16, 42, 180, 0, 67, 16, 11, 163, 0, 7, 4, 167, 0, 4, 3]
abbrev dktX2_item_0 : List UInt8 := dkwX2_item_0 ++ dktX2_item_1
theorem dksX2_item_0 : cX2_item.data.toList.drop 0 = dktX2_item_0 := by decide +kernel
theorem dksX2_item_1 : cX2_item.data.toList.drop 23 = dktX2_item_1 := dk_seg dksX2_item_0 23 rfl rfl
theorem dksX2_item_2 : cX2_item.data.toList.drop 30 = dktX2_item_2 := dk_seg dksX2_item_1 7 rfl rfl
theorem dksX2_item_3 : cX2_item.data.toList.drop 64 = dktX2_item_3 := dk_seg dksX2_item_2 34 rfl rfl
theorem dksX2_item_4 : cX2_item.data.toList.drop 88 = dktX2_item_4 := dk_seg dksX2_item_3 24 rfl rfl
theorem dksX2_item_5 : cX2_item.data.toList.drop 112 = dktX2_item_5 := dk_seg dksX2_item_4 24 rfl rfl
theorem dksX2_item_6 : cX2_item.data.toList.drop 136 = dktX2_item_6 := dk_seg dksX2_item_5 24 rfl rfl
theorem dX2_item_0 : decode cX2_item 0 = .ok (.aload_n 0, 1) := dk_42 (dk_at dksX2_item_0 0 rfl rfl)
theorem dX2_item_1 : decode cX2_item 1 = .ok (.aload_n 0, 1) := dk_42 (dk_at dksX2_item_0 1 rfl rfl)
theorem dX2_item_2 : decode cX2_item 2 = .ok (.getfield 47, 3) := dk_180 0 47 (dk_at dksX2_item_0 2 rfl rfl)
theorem dX2_item_5 : decode cX2_item 5 = .ok (.iconst 2, 1) := dk_5 (dk_at dksX2_item_0 5 rfl rfl)
theorem dX2_item_6 : decode cX2_item 6 = .ok (.if_icmp .ne 16, 3) := dk_160 0 16 (dk_at dksX2_item_0 6 rfl rfl)
theorem dX2_item_9 : decode cX2_item 9 = .ok (.aload_n 0, 1) := dk_42 (dk_at dksX2_item_0 9 rfl rfl)
theorem dX2_item_10 : decode cX2_item 10 = .ok (.getfield 67, 3) := dk_180 0 67 (dk_at dksX2_item_0 10 rfl rfl)
theorem dX2_item_13 : decode cX2_item 13 = .ok (.bipush 11, 2) := dk_16 11 (dk_at dksX2_item_0 13 rfl rfl)
theorem dX2_item_15 : decode cX2_item 15 = .ok (.if_icmp .gt 7, 3) := dk_163 0 7 (dk_at dksX2_item_0 15 rfl rfl)
theorem dX2_item_18 : decode cX2_item 18 = .ok (.iconst 1, 1) := dk_4 (dk_at dksX2_item_0 18 rfl rfl)
theorem dX2_item_19 : decode cX2_item 19 = .ok (.goto 4, 3) := dk_167 0 4 (dk_at dksX2_item_0 19 rfl rfl)
theorem dX2_item_22 : decode cX2_item 22 = .ok (.iconst 0, 1) := dk_3 (dk_at dksX2_item_0 22 rfl rfl)
theorem dX2_item_23 : decode cX2_item 23 = .ok (.invokevirtual 63, 3) := dk_182 0 63 (dk_at dksX2_item_1 0 rfl rfl)
theorem dX2_item_26 : decode cX2_item 26 = .ok (.aload_n 0, 1) := dk_42 (dk_at dksX2_item_1 3 rfl rfl)
theorem dX2_item_27 : decode cX2_item 27 = .ok (.getfield 67, 3) := dk_180 0 67 (dk_at dksX2_item_1 4 rfl rfl)
theorem dX2_item_30 : decode cX2_item 30 = .ok (.tableswitch 104 7 11 #[34, 41, 48, 66, 85], 34) := by decide +kernel
theorem dX2_item_64 : decode cX2_item 64 = .ok (.aload_n 0, 1) := dk_42 (dk_at dksX2_item_3 0 rfl rfl)
theorem dX2_item_65 : decode cX2_item 65 = .ok (.invokevirtual 120, 3) := dk_182 0 120 (dk_at dksX2_item_3 1 rfl rfl)
theorem dX2_item_68 : decode cX2_item 68 = .ok (.goto 74, 3) := dk_167 0 74 (dk_at dksX2_item_3 4 rfl rfl)
theorem dX2_item_71 : decode cX2_item 71 = .ok (.aload_n 0, 1) := dk_42 (dk_at dksX2_item_3 7 rfl rfl)
theorem dX2_item_72 : decode cX2_item 72 = .ok (.invokevirtual 122, 3) := dk_182 0 122 (dk_at dksX2_item_3 8 rfl rfl)
theorem dX2_item_75 : decode cX2_item 75 = .ok (.goto 67, 3) := dk_167 0 67 (dk_at dksX2_item_3 11 rfl rfl)
theorem dX2_item_78 : decode cX2_item 78 = .ok (.aload_n 0, 1) := dk_42 (dk_at dksX2_item_3 14 rfl rfl)
theorem dX2_item_79 : decode cX2_item 79 = .ok (.getfield 25, 3) := dk_180 0 25 (dk_at dksX2_item_3 15 rfl rfl)
theorem dX2_item_82 : decode cX2_item 82 = .ok (.getfield 125, 3) := dk_180 0 125 (dk_at dksX2_item_3 18 rfl rfl)
theorem dX2_item_85 : decode cX2_item 85 = .ok (.iconst 2, 1) := dk_5 (dk_at dksX2_item_3 21 rfl rfl)
theorem dX2_item_86 : decode cX2_item 86 = .ok (.aload_n 0, 1) := dk_42 (dk_at dksX2_item_3 22 rfl rfl)
theorem dX2_item_87 : decode cX2_item 87 = .ok (.iconst 0, 1) := dk_3 (dk_at dksX2_item_3 23 rfl rfl)
theorem dX2_item_88 : decode cX2_item 88 = .ok (.iconst 4, 1) := dk_7 (dk_at dksX2_item_4 0 rfl rfl)
theorem dX2_item_89 : decode cX2_item 89 = .ok (.invokevirtual 111, 3) := dk_182 0 111 (dk_at dksX2_item_4 1 rfl rfl)
theorem dX2_item_92 : decode cX2_item 92 = .ok (.iastore, 1) := dk_79 (dk_at dksX2_item_4 4 rfl rfl)
theorem dX2_item_93 : decode cX2_item 93 = .ok (.goto 49, 3) := dk_167 0 49 (dk_at dksX2_item_4 5 rfl rfl)
theorem dX2_item_96 : decode cX2_item 96 = .ok (.aload_n 0, 1) := dk_42 (dk_at dksX2_item_4 8 rfl rfl)
theorem dX2_item_97 : decode cX2_item 97 = .ok (.getfield 25, 3) := dk_180 0 25 (dk_at dksX2_item_4 9 rfl rfl)
theorem dX2_item_100 : decode cX2_item 100 = .ok (.getfield 125, 3) := dk_180 0 125 (dk_at dksX2_item_4 12 rfl rfl)
theorem dX2_item_103 : decode cX2_item 103 = .ok (.iconst 0, 1) := dk_3 (dk_at dksX2_item_4 15 rfl rfl)
theorem dX2_item_104 : decode cX2_item 104 = .ok (.aload_n 0, 1) := dk_42 (dk_at dksX2_item_4 16 rfl rfl)
theorem dX2_item_105 : decode cX2_item 105 = .ok (.iconst 0, 1) := dk_3 (dk_at dksX2_item_4 17 rfl rfl)
theorem dX2_item_106 : decode cX2_item 106 = .ok (.bipush 9, 2) := dk_16 9 (dk_at dksX2_item_4 18 rfl rfl)
theorem dX2_item_108 : decode cX2_item 108 = .ok (.invokevirtual 111, 3) := dk_182 0 111 (dk_at dksX2_item_4 20 rfl rfl)
theorem dX2_item_111 : decode cX2_item 111 = .ok (.iastore, 1) := dk_79 (dk_at dksX2_item_4 23 rfl rfl)
theorem dX2_item_112 : decode cX2_item 112 = .ok (.goto 30, 3) := dk_167 0 30 (dk_at dksX2_item_5 0 rfl rfl)
theorem dX2_item_115 : decode cX2_item 115 = .ok (.aload_n 0, 1) := dk_42 (dk_at dksX2_item_5 3 rfl rfl)
theorem dX2_item_116 : decode cX2_item 116 = .ok (.getfield 25, 3) := dk_180 0 25 (dk_at dksX2_item_5 4 rfl rfl)
theorem dX2_item_119 : decode cX2_item 119 = .ok (.getfield 125, 3) := dk_180 0 125 (dk_at dksX2_item_5 7 rfl rfl)
theorem dX2_item_122 : decode cX2_item 122 = .ok (.iconst 1, 1) := dk_4 (dk_at dksX2_item_5 10 rfl rfl)
theorem dX2_item_123 : decode cX2_item 123 = .ok (.aload_n 0, 1) := dk_42 (dk_at dksX2_item_5 11 rfl rfl)
theorem dX2_item_124 : decode cX2_item 124 = .ok (.iconst 0, 1) := dk_3 (dk_at dksX2_item_5 12 rfl rfl)
theorem dX2_item_125 : decode cX2_item 125 = .ok (.bipush 9, 2) := dk_16 9 (dk_at dksX2_item_5 13 rfl rfl)
theorem dX2_item_127 : decode cX2_item 127 = .ok (.invokevirtual 111, 3) := dk_182 0 111 (dk_at dksX2_item_5 15 rfl rfl)
theorem dX2_item_130 : decode cX2_item 130 = .ok (.iastore, 1) := dk_79 (dk_at dksX2_item_5 18 rfl rfl)
theorem dX2_item_131 : decode cX2_item 131 = .ok (.goto 11, 3) := dk_167 0 11 (dk_at dksX2_item_5 19 rfl rfl)
theorem dX2_item_134 : decode cX2_item 134 = .ok (.aload_n 0, 1) := dk_42 (dk_at dksX2_item_5 22 rfl rfl)
theorem dX2_item_135 : decode cX2_item 135 = .ok (.aload_n 0, 1) := dk_42 (dk_at dksX2_item_5 23 rfl rfl)
theorem dX2_item_136 : decode cX2_item 136 = .ok (.getfield 67, 3) := dk_180 0 67 (dk_at dksX2_item_6 0 rfl rfl)
theorem dX2_item_139 : decode cX2_item 139 = .ok (.invokevirtual 128, 3) := dk_182 0 128 (dk_at dksX2_item_6 3 rfl rfl)
theorem dX2_item_142 : decode cX2_item 142 = .ok (.return_, 1) := dk_177 (dk_at dksX2_item_6 6 rfl rfl)
abbrev cX2_theirs : ByteArray := prog_8_method_15_code
def yX2_theirs : MethodName := ⟨RX2, "theirs", "()V"⟩
def dkwX2_theirs_1 : List UInt8 := [182, 0, 85, 79, 177]
abbrev dktX2_theirs_1 : List UInt8 := dkwX2_theirs_1 ++ []
def dkwX2_theirs_0 : List UInt8 := [42, 3, 16, 6, 182, 0, 111, 60, 42, 180, 0, 25, 180, 0, 114, 3, 50, 27, 42, 3, 16, 99]
abbrev dktX2_theirs_0 : List UInt8 := dkwX2_theirs_0 ++ dktX2_theirs_1
theorem dksX2_theirs_0 : cX2_theirs.data.toList.drop 0 = dktX2_theirs_0 := by decide +kernel
theorem dksX2_theirs_1 : cX2_theirs.data.toList.drop 22 = dktX2_theirs_1 := dk_seg dksX2_theirs_0 22 rfl rfl
theorem dX2_theirs_0 : decode cX2_theirs 0 = .ok (.aload_n 0, 1) := dk_42 (dk_at dksX2_theirs_0 0 rfl rfl)
theorem dX2_theirs_1 : decode cX2_theirs 1 = .ok (.iconst 0, 1) := dk_3 (dk_at dksX2_theirs_0 1 rfl rfl)
theorem dX2_theirs_2 : decode cX2_theirs 2 = .ok (.bipush 6, 2) := dk_16 6 (dk_at dksX2_theirs_0 2 rfl rfl)
theorem dX2_theirs_4 : decode cX2_theirs 4 = .ok (.invokevirtual 111, 3) := dk_182 0 111 (dk_at dksX2_theirs_0 4 rfl rfl)
theorem dX2_theirs_7 : decode cX2_theirs 7 = .ok (.istore_n 1, 1) := dk_60 (dk_at dksX2_theirs_0 7 rfl rfl)
theorem dX2_theirs_8 : decode cX2_theirs 8 = .ok (.aload_n 0, 1) := dk_42 (dk_at dksX2_theirs_0 8 rfl rfl)
theorem dX2_theirs_9 : decode cX2_theirs 9 = .ok (.getfield 25, 3) := dk_180 0 25 (dk_at dksX2_theirs_0 9 rfl rfl)
theorem dX2_theirs_12 : decode cX2_theirs 12 = .ok (.getfield 114, 3) := dk_180 0 114 (dk_at dksX2_theirs_0 12 rfl rfl)
theorem dX2_theirs_15 : decode cX2_theirs 15 = .ok (.iconst 0, 1) := dk_3 (dk_at dksX2_theirs_0 15 rfl rfl)
theorem dX2_theirs_16 : decode cX2_theirs 16 = .ok (.aaload, 1) := dk_50 (dk_at dksX2_theirs_0 16 rfl rfl)
theorem dX2_theirs_17 : decode cX2_theirs 17 = .ok (.iload_n 1, 1) := dk_27 (dk_at dksX2_theirs_0 17 rfl rfl)
theorem dX2_theirs_18 : decode cX2_theirs 18 = .ok (.aload_n 0, 1) := dk_42 (dk_at dksX2_theirs_0 18 rfl rfl)
theorem dX2_theirs_19 : decode cX2_theirs 19 = .ok (.iconst 0, 1) := dk_3 (dk_at dksX2_theirs_0 19 rfl rfl)
theorem dX2_theirs_20 : decode cX2_theirs 20 = .ok (.bipush 99, 2) := dk_16 99 (dk_at dksX2_theirs_0 20 rfl rfl)
theorem dX2_theirs_22 : decode cX2_theirs 22 = .ok (.invokevirtual 85, 3) := dk_182 0 85 (dk_at dksX2_theirs_1 0 rfl rfl)
theorem dX2_theirs_25 : decode cX2_theirs 25 = .ok (.iastore, 1) := dk_79 (dk_at dksX2_theirs_1 3 rfl rfl)
theorem dX2_theirs_26 : decode cX2_theirs 26 = .ok (.return_, 1) := dk_177 (dk_at dksX2_theirs_1 4 rfl rfl)
abbrev cX2_behind : ByteArray := prog_8_method_12_code
def yX2_behind : MethodName := ⟨RX2, "behind", "(II)I"⟩
def dkwX2_behind_0 : List UInt8 := [42, 182, 0, 82, 42, 27, 28, 182, 0, 85, 172]
abbrev dktX2_behind_0 : List UInt8 := dkwX2_behind_0 ++ []
theorem dksX2_behind_0 : cX2_behind.data.toList.drop 0 = dktX2_behind_0 := by decide +kernel
theorem dX2_behind_0 : decode cX2_behind 0 = .ok (.aload_n 0, 1) := dk_42 (dk_at dksX2_behind_0 0 rfl rfl)
theorem dX2_behind_1 : decode cX2_behind 1 = .ok (.invokevirtual 82, 3) := dk_182 0 82 (dk_at dksX2_behind_0 1 rfl rfl)
theorem dX2_behind_4 : decode cX2_behind 4 = .ok (.aload_n 0, 1) := dk_42 (dk_at dksX2_behind_0 4 rfl rfl)
theorem dX2_behind_5 : decode cX2_behind 5 = .ok (.iload_n 1, 1) := dk_27 (dk_at dksX2_behind_0 5 rfl rfl)
theorem dX2_behind_6 : decode cX2_behind 6 = .ok (.iload_n 2, 1) := dk_28 (dk_at dksX2_behind_0 6 rfl rfl)
theorem dX2_behind_7 : decode cX2_behind 7 = .ok (.invokevirtual 85, 3) := dk_182 0 85 (dk_at dksX2_behind_0 7 rfl rfl)
theorem dX2_behind_10 : decode cX2_behind 10 = .ok (.ireturn, 1) := dk_172 (dk_at dksX2_behind_0 10 rfl rfl)
abbrev cX2_number : ByteArray := prog_8_method_11_code
def yX2_number : MethodName := ⟨RX2, "number", "(II)I"⟩
def dkwX2_number_1 : List UInt8 := [167, 0, 4, 3, 182, 0, 63, 42, 180, 0, 67, 62, 42, 182, 0, 82, 29, 172]
abbrev dktX2_number_1 : List UInt8 := dkwX2_number_1 ++ []
def dkwX2_number_0 : List UInt8 := [42, 42, 180, 0, 47, 4, 160, 0, 19, 42, 180, 0, 67, 27, 28, 184, 0, 33, 153, 0, 7, 4]
abbrev dktX2_number_0 : List UInt8 := dkwX2_number_0 ++ dktX2_number_1
theorem dksX2_number_0 : cX2_number.data.toList.drop 0 = dktX2_number_0 := by decide +kernel
theorem dksX2_number_1 : cX2_number.data.toList.drop 22 = dktX2_number_1 := dk_seg dksX2_number_0 22 rfl rfl
theorem dX2_number_0 : decode cX2_number 0 = .ok (.aload_n 0, 1) := dk_42 (dk_at dksX2_number_0 0 rfl rfl)
theorem dX2_number_1 : decode cX2_number 1 = .ok (.aload_n 0, 1) := dk_42 (dk_at dksX2_number_0 1 rfl rfl)
theorem dX2_number_2 : decode cX2_number 2 = .ok (.getfield 47, 3) := dk_180 0 47 (dk_at dksX2_number_0 2 rfl rfl)
theorem dX2_number_5 : decode cX2_number 5 = .ok (.iconst 1, 1) := dk_4 (dk_at dksX2_number_0 5 rfl rfl)
theorem dX2_number_6 : decode cX2_number 6 = .ok (.if_icmp .ne 19, 3) := dk_160 0 19 (dk_at dksX2_number_0 6 rfl rfl)
theorem dX2_number_9 : decode cX2_number 9 = .ok (.aload_n 0, 1) := dk_42 (dk_at dksX2_number_0 9 rfl rfl)
theorem dX2_number_10 : decode cX2_number 10 = .ok (.getfield 67, 3) := dk_180 0 67 (dk_at dksX2_number_0 10 rfl rfl)
theorem dX2_number_13 : decode cX2_number 13 = .ok (.iload_n 1, 1) := dk_27 (dk_at dksX2_number_0 13 rfl rfl)
theorem dX2_number_14 : decode cX2_number 14 = .ok (.iload_n 2, 1) := dk_28 (dk_at dksX2_number_0 14 rfl rfl)
theorem dX2_number_15 : decode cX2_number 15 = .ok (.invokestatic 33, 3) := dk_184 0 33 (dk_at dksX2_number_0 15 rfl rfl)
theorem dX2_number_18 : decode cX2_number 18 = .ok (.ifCond .eq 7, 3) := dk_153 0 7 (dk_at dksX2_number_0 18 rfl rfl)
theorem dX2_number_21 : decode cX2_number 21 = .ok (.iconst 1, 1) := dk_4 (dk_at dksX2_number_0 21 rfl rfl)
theorem dX2_number_22 : decode cX2_number 22 = .ok (.goto 4, 3) := dk_167 0 4 (dk_at dksX2_number_1 0 rfl rfl)
theorem dX2_number_25 : decode cX2_number 25 = .ok (.iconst 0, 1) := dk_3 (dk_at dksX2_number_1 3 rfl rfl)
theorem dX2_number_26 : decode cX2_number 26 = .ok (.invokevirtual 63, 3) := dk_182 0 63 (dk_at dksX2_number_1 4 rfl rfl)
theorem dX2_number_29 : decode cX2_number 29 = .ok (.aload_n 0, 1) := dk_42 (dk_at dksX2_number_1 7 rfl rfl)
theorem dX2_number_30 : decode cX2_number 30 = .ok (.getfield 67, 3) := dk_180 0 67 (dk_at dksX2_number_1 8 rfl rfl)
theorem dX2_number_33 : decode cX2_number 33 = .ok (.istore_n 3, 1) := dk_62 (dk_at dksX2_number_1 11 rfl rfl)
theorem dX2_number_34 : decode cX2_number 34 = .ok (.aload_n 0, 1) := dk_42 (dk_at dksX2_number_1 12 rfl rfl)
theorem dX2_number_35 : decode cX2_number 35 = .ok (.invokevirtual 82, 3) := dk_182 0 82 (dk_at dksX2_number_1 13 rfl rfl)
theorem dX2_number_38 : decode cX2_number 38 = .ok (.iload_n 3, 1) := dk_29 (dk_at dksX2_number_1 16 rfl rfl)
theorem dX2_number_39 : decode cX2_number 39 = .ok (.ireturn, 1) := dk_172 (dk_at dksX2_number_1 17 rfl rfl)
abbrev cX2_call : ByteArray := prog_8_method_16_code
def yX2_call : MethodName := ⟨RX2, "call", "()V"⟩
def dkwX2_call_1 : List UInt8 := [177]
abbrev dktX2_call_1 : List UInt8 := dkwX2_call_1 ++ []
def dkwX2_call_0 : List UInt8 := [42, 3, 8, 182, 0, 111, 60, 42, 180, 0, 25, 180, 0, 117, 27, 42, 3, 17, 3, 231, 182, 0, 85, 79]
abbrev dktX2_call_0 : List UInt8 := dkwX2_call_0 ++ dktX2_call_1
theorem dksX2_call_0 : cX2_call.data.toList.drop 0 = dktX2_call_0 := by decide +kernel
theorem dksX2_call_1 : cX2_call.data.toList.drop 24 = dktX2_call_1 := dk_seg dksX2_call_0 24 rfl rfl
theorem dX2_call_0 : decode cX2_call 0 = .ok (.aload_n 0, 1) := dk_42 (dk_at dksX2_call_0 0 rfl rfl)
theorem dX2_call_1 : decode cX2_call 1 = .ok (.iconst 0, 1) := dk_3 (dk_at dksX2_call_0 1 rfl rfl)
theorem dX2_call_2 : decode cX2_call 2 = .ok (.iconst 5, 1) := dk_8 (dk_at dksX2_call_0 2 rfl rfl)
theorem dX2_call_3 : decode cX2_call 3 = .ok (.invokevirtual 111, 3) := dk_182 0 111 (dk_at dksX2_call_0 3 rfl rfl)
theorem dX2_call_6 : decode cX2_call 6 = .ok (.istore_n 1, 1) := dk_60 (dk_at dksX2_call_0 6 rfl rfl)
theorem dX2_call_7 : decode cX2_call 7 = .ok (.aload_n 0, 1) := dk_42 (dk_at dksX2_call_0 7 rfl rfl)
theorem dX2_call_8 : decode cX2_call 8 = .ok (.getfield 25, 3) := dk_180 0 25 (dk_at dksX2_call_0 8 rfl rfl)
theorem dX2_call_11 : decode cX2_call 11 = .ok (.getfield 117, 3) := dk_180 0 117 (dk_at dksX2_call_0 11 rfl rfl)
theorem dX2_call_14 : decode cX2_call 14 = .ok (.iload_n 1, 1) := dk_27 (dk_at dksX2_call_0 14 rfl rfl)
theorem dX2_call_15 : decode cX2_call 15 = .ok (.aload_n 0, 1) := dk_42 (dk_at dksX2_call_0 15 rfl rfl)
theorem dX2_call_16 : decode cX2_call 16 = .ok (.iconst 0, 1) := dk_3 (dk_at dksX2_call_0 16 rfl rfl)
theorem dX2_call_17 : decode cX2_call 17 = .ok (.sipush 999, 3) := dk_17 3 231 (dk_at dksX2_call_0 17 rfl rfl)
theorem dX2_call_20 : decode cX2_call 20 = .ok (.invokevirtual 85, 3) := dk_182 0 85 (dk_at dksX2_call_0 20 rfl rfl)
theorem dX2_call_23 : decode cX2_call 23 = .ok (.iastore, 1) := dk_79 (dk_at dksX2_call_0 23 rfl rfl)
theorem dX2_call_24 : decode cX2_call 24 = .ok (.return_, 1) := dk_177 (dk_at dksX2_call_1 0 rfl rfl)
abbrev cX2_jumper : ByteArray := prog_8_method_14_code
def yX2_jumper : MethodName := ⟨RX2, "jumper", "(I)V"⟩
def dkwX2_jumper_4 : List UInt8 := [177]
abbrev dktX2_jumper_4 : List UInt8 := dkwX2_jumper_4 ++ []
def dkwX2_jumper_3 : List UInt8 := [182, 0, 100, 153, 0, 21, 42, 180, 0, 25, 180, 0, 107, 4, 50, 28, 42, 3, 16, 99, 182, 0, 111, 79]
abbrev dktX2_jumper_3 : List UInt8 := dkwX2_jumper_3 ++ dktX2_jumper_4
def dkwX2_jumper_2 : List UInt8 := [16, 12, 182, 0, 100, 153, 0, 16, 42, 180, 0, 25, 180, 0, 89, 42, 182, 0, 103, 28, 79, 42, 16, 13]
abbrev dktX2_jumper_2 : List UInt8 := dkwX2_jumper_2 ++ dktX2_jumper_3
def dkwX2_jumper_1 : List UInt8 := [182, 0, 82, 42, 180, 0, 25, 27, 16, 50, 182, 0, 96, 42, 180, 0, 25, 180, 0, 93, 4, 100, 61, 42]
abbrev dktX2_jumper_1 : List UInt8 := dkwX2_jumper_1 ++ dktX2_jumper_2
def dkwX2_jumper_0 : List UInt8 := [42, 42, 180, 0, 25, 180, 0, 93, 16, 8, 162, 0, 7, 4, 167, 0, 4, 3, 182, 0, 63, 42]
abbrev dktX2_jumper_0 : List UInt8 := dkwX2_jumper_0 ++ dktX2_jumper_1
theorem dksX2_jumper_0 : cX2_jumper.data.toList.drop 0 = dktX2_jumper_0 := by decide +kernel
theorem dksX2_jumper_1 : cX2_jumper.data.toList.drop 22 = dktX2_jumper_1 := dk_seg dksX2_jumper_0 22 rfl rfl
theorem dksX2_jumper_2 : cX2_jumper.data.toList.drop 46 = dktX2_jumper_2 := dk_seg dksX2_jumper_1 24 rfl rfl
theorem dksX2_jumper_3 : cX2_jumper.data.toList.drop 70 = dktX2_jumper_3 := dk_seg dksX2_jumper_2 24 rfl rfl
theorem dksX2_jumper_4 : cX2_jumper.data.toList.drop 94 = dktX2_jumper_4 := dk_seg dksX2_jumper_3 24 rfl rfl
theorem dX2_jumper_0 : decode cX2_jumper 0 = .ok (.aload_n 0, 1) := dk_42 (dk_at dksX2_jumper_0 0 rfl rfl)
theorem dX2_jumper_1 : decode cX2_jumper 1 = .ok (.aload_n 0, 1) := dk_42 (dk_at dksX2_jumper_0 1 rfl rfl)
theorem dX2_jumper_2 : decode cX2_jumper 2 = .ok (.getfield 25, 3) := dk_180 0 25 (dk_at dksX2_jumper_0 2 rfl rfl)
theorem dX2_jumper_5 : decode cX2_jumper 5 = .ok (.getfield 93, 3) := dk_180 0 93 (dk_at dksX2_jumper_0 5 rfl rfl)
theorem dX2_jumper_8 : decode cX2_jumper 8 = .ok (.bipush 8, 2) := dk_16 8 (dk_at dksX2_jumper_0 8 rfl rfl)
theorem dX2_jumper_10 : decode cX2_jumper 10 = .ok (.if_icmp .ge 7, 3) := dk_162 0 7 (dk_at dksX2_jumper_0 10 rfl rfl)
theorem dX2_jumper_13 : decode cX2_jumper 13 = .ok (.iconst 1, 1) := dk_4 (dk_at dksX2_jumper_0 13 rfl rfl)
theorem dX2_jumper_14 : decode cX2_jumper 14 = .ok (.goto 4, 3) := dk_167 0 4 (dk_at dksX2_jumper_0 14 rfl rfl)
theorem dX2_jumper_17 : decode cX2_jumper 17 = .ok (.iconst 0, 1) := dk_3 (dk_at dksX2_jumper_0 17 rfl rfl)
theorem dX2_jumper_18 : decode cX2_jumper 18 = .ok (.invokevirtual 63, 3) := dk_182 0 63 (dk_at dksX2_jumper_0 18 rfl rfl)
theorem dX2_jumper_21 : decode cX2_jumper 21 = .ok (.aload_n 0, 1) := dk_42 (dk_at dksX2_jumper_0 21 rfl rfl)
theorem dX2_jumper_22 : decode cX2_jumper 22 = .ok (.invokevirtual 82, 3) := dk_182 0 82 (dk_at dksX2_jumper_1 0 rfl rfl)
theorem dX2_jumper_25 : decode cX2_jumper 25 = .ok (.aload_n 0, 1) := dk_42 (dk_at dksX2_jumper_1 3 rfl rfl)
theorem dX2_jumper_26 : decode cX2_jumper 26 = .ok (.getfield 25, 3) := dk_180 0 25 (dk_at dksX2_jumper_1 4 rfl rfl)
theorem dX2_jumper_29 : decode cX2_jumper 29 = .ok (.iload_n 1, 1) := dk_27 (dk_at dksX2_jumper_1 7 rfl rfl)
theorem dX2_jumper_30 : decode cX2_jumper 30 = .ok (.bipush 50, 2) := dk_16 50 (dk_at dksX2_jumper_1 8 rfl rfl)
theorem dX2_jumper_32 : decode cX2_jumper 32 = .ok (.invokevirtual 96, 3) := dk_182 0 96 (dk_at dksX2_jumper_1 10 rfl rfl)
theorem dX2_jumper_35 : decode cX2_jumper 35 = .ok (.aload_n 0, 1) := dk_42 (dk_at dksX2_jumper_1 13 rfl rfl)
theorem dX2_jumper_36 : decode cX2_jumper 36 = .ok (.getfield 25, 3) := dk_180 0 25 (dk_at dksX2_jumper_1 14 rfl rfl)
theorem dX2_jumper_39 : decode cX2_jumper 39 = .ok (.getfield 93, 3) := dk_180 0 93 (dk_at dksX2_jumper_1 17 rfl rfl)
theorem dX2_jumper_42 : decode cX2_jumper 42 = .ok (.iconst 1, 1) := dk_4 (dk_at dksX2_jumper_1 20 rfl rfl)
theorem dX2_jumper_43 : decode cX2_jumper 43 = .ok (.isub, 1) := dk_100 (dk_at dksX2_jumper_1 21 rfl rfl)
theorem dX2_jumper_44 : decode cX2_jumper 44 = .ok (.istore_n 2, 1) := dk_61 (dk_at dksX2_jumper_1 22 rfl rfl)
theorem dX2_jumper_45 : decode cX2_jumper 45 = .ok (.aload_n 0, 1) := dk_42 (dk_at dksX2_jumper_1 23 rfl rfl)
theorem dX2_jumper_46 : decode cX2_jumper 46 = .ok (.bipush 12, 2) := dk_16 12 (dk_at dksX2_jumper_2 0 rfl rfl)
theorem dX2_jumper_48 : decode cX2_jumper 48 = .ok (.invokevirtual 100, 3) := dk_182 0 100 (dk_at dksX2_jumper_2 2 rfl rfl)
theorem dX2_jumper_51 : decode cX2_jumper 51 = .ok (.ifCond .eq 16, 3) := dk_153 0 16 (dk_at dksX2_jumper_2 5 rfl rfl)
theorem dX2_jumper_54 : decode cX2_jumper 54 = .ok (.aload_n 0, 1) := dk_42 (dk_at dksX2_jumper_2 8 rfl rfl)
theorem dX2_jumper_55 : decode cX2_jumper 55 = .ok (.getfield 25, 3) := dk_180 0 25 (dk_at dksX2_jumper_2 9 rfl rfl)
theorem dX2_jumper_58 : decode cX2_jumper 58 = .ok (.getfield 89, 3) := dk_180 0 89 (dk_at dksX2_jumper_2 12 rfl rfl)
theorem dX2_jumper_61 : decode cX2_jumper 61 = .ok (.aload_n 0, 1) := dk_42 (dk_at dksX2_jumper_2 15 rfl rfl)
theorem dX2_jumper_62 : decode cX2_jumper 62 = .ok (.invokevirtual 103, 3) := dk_182 0 103 (dk_at dksX2_jumper_2 16 rfl rfl)
theorem dX2_jumper_65 : decode cX2_jumper 65 = .ok (.iload_n 2, 1) := dk_28 (dk_at dksX2_jumper_2 19 rfl rfl)
theorem dX2_jumper_66 : decode cX2_jumper 66 = .ok (.iastore, 1) := dk_79 (dk_at dksX2_jumper_2 20 rfl rfl)
theorem dX2_jumper_67 : decode cX2_jumper 67 = .ok (.aload_n 0, 1) := dk_42 (dk_at dksX2_jumper_2 21 rfl rfl)
theorem dX2_jumper_68 : decode cX2_jumper 68 = .ok (.bipush 13, 2) := dk_16 13 (dk_at dksX2_jumper_2 22 rfl rfl)
theorem dX2_jumper_70 : decode cX2_jumper 70 = .ok (.invokevirtual 100, 3) := dk_182 0 100 (dk_at dksX2_jumper_3 0 rfl rfl)
theorem dX2_jumper_73 : decode cX2_jumper 73 = .ok (.ifCond .eq 21, 3) := dk_153 0 21 (dk_at dksX2_jumper_3 3 rfl rfl)
theorem dX2_jumper_76 : decode cX2_jumper 76 = .ok (.aload_n 0, 1) := dk_42 (dk_at dksX2_jumper_3 6 rfl rfl)
theorem dX2_jumper_77 : decode cX2_jumper 77 = .ok (.getfield 25, 3) := dk_180 0 25 (dk_at dksX2_jumper_3 7 rfl rfl)
theorem dX2_jumper_80 : decode cX2_jumper 80 = .ok (.getfield 107, 3) := dk_180 0 107 (dk_at dksX2_jumper_3 10 rfl rfl)
theorem dX2_jumper_83 : decode cX2_jumper 83 = .ok (.iconst 1, 1) := dk_4 (dk_at dksX2_jumper_3 13 rfl rfl)
theorem dX2_jumper_84 : decode cX2_jumper 84 = .ok (.aaload, 1) := dk_50 (dk_at dksX2_jumper_3 14 rfl rfl)
theorem dX2_jumper_85 : decode cX2_jumper 85 = .ok (.iload_n 2, 1) := dk_28 (dk_at dksX2_jumper_3 15 rfl rfl)
theorem dX2_jumper_86 : decode cX2_jumper 86 = .ok (.aload_n 0, 1) := dk_42 (dk_at dksX2_jumper_3 16 rfl rfl)
theorem dX2_jumper_87 : decode cX2_jumper 87 = .ok (.iconst 0, 1) := dk_3 (dk_at dksX2_jumper_3 17 rfl rfl)
theorem dX2_jumper_88 : decode cX2_jumper 88 = .ok (.bipush 99, 2) := dk_16 99 (dk_at dksX2_jumper_3 18 rfl rfl)
theorem dX2_jumper_90 : decode cX2_jumper 90 = .ok (.invokevirtual 111, 3) := dk_182 0 111 (dk_at dksX2_jumper_3 20 rfl rfl)
theorem dX2_jumper_93 : decode cX2_jumper 93 = .ok (.iastore, 1) := dk_79 (dk_at dksX2_jumper_3 23 rfl rfl)
theorem dX2_jumper_94 : decode cX2_jumper 94 = .ok (.return_, 1) := dk_177 (dk_at dksX2_jumper_4 0 rfl rfl)
abbrev cX2_isWord : ByteArray := prog_8_method_10_code
def yX2_isWord : MethodName := ⟨RX2, "isWord", "(I)Z"⟩
def dkwX2_isWord_0 : List UInt8 := [42, 180, 0, 47, 5, 160, 0, 15, 42, 180, 0, 67, 27, 160, 0, 7, 4, 167, 0, 4, 3, 172]
abbrev dktX2_isWord_0 : List UInt8 := dkwX2_isWord_0 ++ []
theorem dksX2_isWord_0 : cX2_isWord.data.toList.drop 0 = dktX2_isWord_0 := by decide +kernel
theorem dX2_isWord_0 : decode cX2_isWord 0 = .ok (.aload_n 0, 1) := dk_42 (dk_at dksX2_isWord_0 0 rfl rfl)
theorem dX2_isWord_1 : decode cX2_isWord 1 = .ok (.getfield 47, 3) := dk_180 0 47 (dk_at dksX2_isWord_0 1 rfl rfl)
theorem dX2_isWord_4 : decode cX2_isWord 4 = .ok (.iconst 2, 1) := dk_5 (dk_at dksX2_isWord_0 4 rfl rfl)
theorem dX2_isWord_5 : decode cX2_isWord 5 = .ok (.if_icmp .ne 15, 3) := dk_160 0 15 (dk_at dksX2_isWord_0 5 rfl rfl)
theorem dX2_isWord_8 : decode cX2_isWord 8 = .ok (.aload_n 0, 1) := dk_42 (dk_at dksX2_isWord_0 8 rfl rfl)
theorem dX2_isWord_9 : decode cX2_isWord 9 = .ok (.getfield 67, 3) := dk_180 0 67 (dk_at dksX2_isWord_0 9 rfl rfl)
theorem dX2_isWord_12 : decode cX2_isWord 12 = .ok (.iload_n 1, 1) := dk_27 (dk_at dksX2_isWord_0 12 rfl rfl)
theorem dX2_isWord_13 : decode cX2_isWord 13 = .ok (.if_icmp .ne 7, 3) := dk_160 0 7 (dk_at dksX2_isWord_0 13 rfl rfl)
theorem dX2_isWord_16 : decode cX2_isWord 16 = .ok (.iconst 1, 1) := dk_4 (dk_at dksX2_isWord_0 16 rfl rfl)
theorem dX2_isWord_17 : decode cX2_isWord 17 = .ok (.goto 4, 3) := dk_167 0 4 (dk_at dksX2_isWord_0 17 rfl rfl)
theorem dX2_isWord_20 : decode cX2_isWord 20 = .ok (.iconst 0, 1) := dk_3 (dk_at dksX2_isWord_0 20 rfl rfl)
theorem dX2_isWord_21 : decode cX2_isWord 21 = .ok (.ireturn, 1) := dk_172 (dk_at dksX2_isWord_0 21 rfl rfl)
abbrev cX2_free : ByteArray := prog_8_method_13_code
def yX2_free : MethodName := ⟨RX2, "free", "()I"⟩
def dkwX2_free_2 : List UInt8 := [3, 16, 6, 182, 0, 85, 172]
abbrev dktX2_free_2 : List UInt8 := dkwX2_free_2 ++ []
def dkwX2_free_1 : List UInt8 := [180, 0, 25, 180, 0, 89, 42, 180, 0, 67, 46, 2, 160, 0, 7, 4, 167, 0, 4, 3, 182, 0, 63, 42]
abbrev dktX2_free_1 : List UInt8 := dkwX2_free_1 ++ dktX2_free_2
def dkwX2_free_0 : List UInt8 := [42, 182, 0, 82, 42, 42, 180, 0, 47, 4, 160, 0, 32, 42, 180, 0, 67, 16, 6, 163, 0, 23, 42]
abbrev dktX2_free_0 : List UInt8 := dkwX2_free_0 ++ dktX2_free_1
theorem dksX2_free_0 : cX2_free.data.toList.drop 0 = dktX2_free_0 := by decide +kernel
theorem dksX2_free_1 : cX2_free.data.toList.drop 23 = dktX2_free_1 := dk_seg dksX2_free_0 23 rfl rfl
theorem dksX2_free_2 : cX2_free.data.toList.drop 47 = dktX2_free_2 := dk_seg dksX2_free_1 24 rfl rfl
theorem dX2_free_0 : decode cX2_free 0 = .ok (.aload_n 0, 1) := dk_42 (dk_at dksX2_free_0 0 rfl rfl)
theorem dX2_free_1 : decode cX2_free 1 = .ok (.invokevirtual 82, 3) := dk_182 0 82 (dk_at dksX2_free_0 1 rfl rfl)
theorem dX2_free_4 : decode cX2_free 4 = .ok (.aload_n 0, 1) := dk_42 (dk_at dksX2_free_0 4 rfl rfl)
theorem dX2_free_5 : decode cX2_free 5 = .ok (.aload_n 0, 1) := dk_42 (dk_at dksX2_free_0 5 rfl rfl)
theorem dX2_free_6 : decode cX2_free 6 = .ok (.getfield 47, 3) := dk_180 0 47 (dk_at dksX2_free_0 6 rfl rfl)
theorem dX2_free_9 : decode cX2_free 9 = .ok (.iconst 1, 1) := dk_4 (dk_at dksX2_free_0 9 rfl rfl)
theorem dX2_free_10 : decode cX2_free 10 = .ok (.if_icmp .ne 32, 3) := dk_160 0 32 (dk_at dksX2_free_0 10 rfl rfl)
theorem dX2_free_13 : decode cX2_free 13 = .ok (.aload_n 0, 1) := dk_42 (dk_at dksX2_free_0 13 rfl rfl)
theorem dX2_free_14 : decode cX2_free 14 = .ok (.getfield 67, 3) := dk_180 0 67 (dk_at dksX2_free_0 14 rfl rfl)
theorem dX2_free_17 : decode cX2_free 17 = .ok (.bipush 6, 2) := dk_16 6 (dk_at dksX2_free_0 17 rfl rfl)
theorem dX2_free_19 : decode cX2_free 19 = .ok (.if_icmp .gt 23, 3) := dk_163 0 23 (dk_at dksX2_free_0 19 rfl rfl)
theorem dX2_free_22 : decode cX2_free 22 = .ok (.aload_n 0, 1) := dk_42 (dk_at dksX2_free_0 22 rfl rfl)
theorem dX2_free_23 : decode cX2_free 23 = .ok (.getfield 25, 3) := dk_180 0 25 (dk_at dksX2_free_1 0 rfl rfl)
theorem dX2_free_26 : decode cX2_free 26 = .ok (.getfield 89, 3) := dk_180 0 89 (dk_at dksX2_free_1 3 rfl rfl)
theorem dX2_free_29 : decode cX2_free 29 = .ok (.aload_n 0, 1) := dk_42 (dk_at dksX2_free_1 6 rfl rfl)
theorem dX2_free_30 : decode cX2_free 30 = .ok (.getfield 67, 3) := dk_180 0 67 (dk_at dksX2_free_1 7 rfl rfl)
theorem dX2_free_33 : decode cX2_free 33 = .ok (.iaload, 1) := dk_46 (dk_at dksX2_free_1 10 rfl rfl)
theorem dX2_free_34 : decode cX2_free 34 = .ok (.iconst (-1), 1) := dk_2 (dk_at dksX2_free_1 11 rfl rfl)
theorem dX2_free_35 : decode cX2_free 35 = .ok (.if_icmp .ne 7, 3) := dk_160 0 7 (dk_at dksX2_free_1 12 rfl rfl)
theorem dX2_free_38 : decode cX2_free 38 = .ok (.iconst 1, 1) := dk_4 (dk_at dksX2_free_1 15 rfl rfl)
theorem dX2_free_39 : decode cX2_free 39 = .ok (.goto 4, 3) := dk_167 0 4 (dk_at dksX2_free_1 16 rfl rfl)
theorem dX2_free_42 : decode cX2_free 42 = .ok (.iconst 0, 1) := dk_3 (dk_at dksX2_free_1 19 rfl rfl)
theorem dX2_free_43 : decode cX2_free 43 = .ok (.invokevirtual 63, 3) := dk_182 0 63 (dk_at dksX2_free_1 20 rfl rfl)
theorem dX2_free_46 : decode cX2_free 46 = .ok (.aload_n 0, 1) := dk_42 (dk_at dksX2_free_1 23 rfl rfl)
theorem dX2_free_47 : decode cX2_free 47 = .ok (.iconst 0, 1) := dk_3 (dk_at dksX2_free_2 0 rfl rfl)
theorem dX2_free_48 : decode cX2_free 48 = .ok (.bipush 6, 2) := dk_16 6 (dk_at dksX2_free_2 1 rfl rfl)
theorem dX2_free_50 : decode cX2_free 50 = .ok (.invokevirtual 85, 3) := dk_182 0 85 (dk_at dksX2_free_2 3 rfl rfl)
theorem dX2_free_53 : decode cX2_free 53 = .ok (.ireturn, 1) := dk_172 (dk_at dksX2_free_2 6 rfl rfl)
theorem q95 : (Jvm.Cond.initialized "LineCalls$Reader") ∈ lw_all := lw_g (lw_at lw_m1 6 rfl) rfl
theorem q191 : (Jvm.Cond.instantiable "LineCalls$Reader" (8 : Nat)) ∈ lw_all := lw_g (lw_at lw_m1 102 rfl) rfl
theorem q193 : (Jvm.Cond.instanceMethod ({ cls := "LineCalls$Reader", name := "<init>", desc := "()V" } : Jvm.MethodName)) ∈ lw_all := lw_g (lw_at lw_m1 104 rfl) rfl
theorem q194 : (Jvm.Cond.code ({ cls := "LineCalls$Reader", name := "<init>", desc := "()V" } : Jvm.MethodName) prog_8_method_1_code (1 : Nat) (Option.none : Option Jvm.ClassFile.FieldType)) ∈ lw_all := lw_g (lw_at lw_m1 105 rfl) rfl
theorem q195 : (Jvm.Cond.methodLink "LineCalls$Reader" (3 : Nat) ({ cls := "java/lang/Object", name := "<init>", desc := "()V" } : Jvm.MethodName)) ∈ lw_all := lw_g (lw_at lw_m1 106 rfl) rfl
theorem q196 : (Jvm.Cond.classLink "LineCalls$Reader" (9 : Nat) "LineCalls$Wrong") ∈ lw_all := lw_g (lw_at lw_m1 107 rfl) rfl
theorem q205 : (Jvm.Cond.methodLink "LineCalls$Reader" (11 : Nat) ({ cls := "LineCalls$Wrong", name := "<init>", desc := "()V" } : Jvm.MethodName)) ∈ lw_all := lw_g (lw_at lw_m1 116 rfl) rfl
theorem q211 : (Jvm.Cond.classLink "LineCalls$Reader" (22 : Nat) "LineCalls$World") ∈ lw_all := lw_g (lw_at lw_m1 122 rfl) rfl
theorem q213 : (Jvm.Cond.methodLink "LineCalls$Reader" (24 : Nat) ({ cls := "LineCalls$World", name := "<init>", desc := "()V" } : Jvm.MethodName)) ∈ lw_all := lw_g (lw_at lw_m1 124 rfl) rfl
theorem q220 : (Jvm.Cond.fieldLinkNest "LineCalls$Reader" (89 : Nat) "LineCalls$World" "line" "[I" "LineCalls") ∈ lw_tbl := lw_at lw_m1 131 rfl
theorem q223 : (Jvm.Cond.fieldLinkNest "LineCalls$Reader" (114 : Nat) "LineCalls$World" "theirs" "[[I" "LineCalls") ∈ lw_tbl := lw_at lw_m1 134 rfl
theorem q230 : (Jvm.Cond.fieldLinkNest "LineCalls$Reader" (125 : Nat) "LineCalls$World" "sets" "[I" "LineCalls") ∈ lw_tbl := lw_at lw_m1 141 rfl
theorem q233 : (Jvm.Cond.fieldLinkNest "LineCalls$Reader" (117 : Nat) "LineCalls$World" "list" "[I" "LineCalls") ∈ lw_tbl := lw_at lw_m1 144 rfl
theorem q238 : (Jvm.Cond.fieldLinkNest "LineCalls$Reader" (93 : Nat) "LineCalls$World" "jumpers" "I" "LineCalls") ∈ lw_tbl := lw_at lw_m1 149 rfl
theorem q242 : (Jvm.Cond.fieldLinkNest "LineCalls$Reader" (107 : Nat) "LineCalls$World" "jumper" "[[I" "LineCalls") ∈ lw_tbl := lw_at lw_m1 153 rfl
theorem q274 : (Jvm.Cond.fieldLink "LineCalls$Reader" (12 : Nat) "LineCalls$Reader" "wrong" "LLineCalls$Wrong;") ∈ lw_all := lw_g (lw_at lw_m1 185 rfl) rfl
theorem q275 : (Jvm.Cond.fieldLink "LineCalls$Reader" (18 : Nat) "LineCalls$Reader" "tape" "[B") ∈ lw_all := lw_g (lw_at lw_m1 186 rfl) rfl
theorem q277 : (Jvm.Cond.fieldLink "LineCalls$Reader" (25 : Nat) "LineCalls$Reader" "told" "LLineCalls$World;") ∈ lw_all := lw_g (lw_at lw_m1 188 rfl) rfl
theorem q279 : (Jvm.Cond.fieldLink "LineCalls$Reader" (29 : Nat) "LineCalls$Reader" "length" "I") ∈ lw_all := lw_g (lw_at lw_m1 190 rfl) rfl
theorem q281 : (Jvm.Cond.fieldLink "LineCalls$Reader" (37 : Nat) "LineCalls$Reader" "at" "I") ∈ lw_all := lw_g (lw_at lw_m1 192 rfl) rfl
theorem q282 : (Jvm.Cond.fieldLink "LineCalls$Reader" (44 : Nat) "LineCalls$Reader" "begin" "I") ∈ lw_all := lw_g (lw_at lw_m1 193 rfl) rfl
theorem q284 : (Jvm.Cond.fieldLink "LineCalls$Reader" (47 : Nat) "LineCalls$Reader" "token" "I") ∈ lw_all := lw_g (lw_at lw_m1 195 rfl) rfl
theorem q285 : (Jvm.Cond.fieldLink "LineCalls$Reader" (67 : Nat) "LineCalls$Reader" "value" "I") ∈ lw_all := lw_g (lw_at lw_m1 196 rfl) rfl
theorem q286 : (Jvm.Cond.laysFinal "LineCalls$Reader" "LineCalls$Reader" "wrong" "LLineCalls$Wrong;") ∈ lw_all := lw_g (lw_at lw_m1 197 rfl) rfl
theorem q287 : (Jvm.Cond.soleField "LineCalls$Reader" "wrong") ∈ lw_all := lw_g (lw_at lw_m1 198 rfl) rfl
theorem q288 : (Jvm.Cond.laysFinal "LineCalls$Reader" "LineCalls$Reader" "tape" "[B") ∈ lw_all := lw_g (lw_at lw_m1 199 rfl) rfl
theorem q289 : (Jvm.Cond.soleField "LineCalls$Reader" "tape") ∈ lw_all := lw_g (lw_at lw_m1 200 rfl) rfl
theorem q290 : (Jvm.Cond.laysFinal "LineCalls$Reader" "LineCalls$Reader" "told" "LLineCalls$World;") ∈ lw_all := lw_g (lw_at lw_m1 201 rfl) rfl
theorem q291 : (Jvm.Cond.soleField "LineCalls$Reader" "told") ∈ lw_all := lw_g (lw_at lw_m1 202 rfl) rfl
theorem q292 : (Jvm.Cond.lays "LineCalls$Reader" "LineCalls$Reader" "length" "I") ∈ lw_all := lw_g (lw_at lw_m1 203 rfl) rfl
theorem q293 : (Jvm.Cond.soleField "LineCalls$Reader" "length") ∈ lw_all := lw_g (lw_at lw_m1 204 rfl) rfl
theorem q294 : (Jvm.Cond.lays "LineCalls$Reader" "LineCalls$Reader" "at" "I") ∈ lw_all := lw_g (lw_at lw_m1 205 rfl) rfl
theorem q295 : (Jvm.Cond.soleField "LineCalls$Reader" "at") ∈ lw_all := lw_g (lw_at lw_m1 206 rfl) rfl
theorem q296 : (Jvm.Cond.lays "LineCalls$Reader" "LineCalls$Reader" "begin" "I") ∈ lw_all := lw_g (lw_at lw_m1 207 rfl) rfl
theorem q297 : (Jvm.Cond.soleField "LineCalls$Reader" "begin") ∈ lw_all := lw_g (lw_at lw_m1 208 rfl) rfl
theorem q298 : (Jvm.Cond.lays "LineCalls$Reader" "LineCalls$Reader" "token" "I") ∈ lw_all := lw_g (lw_at lw_m1 209 rfl) rfl
theorem q299 : (Jvm.Cond.soleField "LineCalls$Reader" "token") ∈ lw_all := lw_g (lw_at lw_m1 210 rfl) rfl
theorem q300 : (Jvm.Cond.lays "LineCalls$Reader" "LineCalls$Reader" "value" "I") ∈ lw_all := lw_g (lw_at lw_m1 211 rfl) rfl
theorem q301 : (Jvm.Cond.soleField "LineCalls$Reader" "value") ∈ lw_all := lw_g (lw_at lw_m1 212 rfl) rfl
theorem q302 : (Jvm.Cond.superclass "LineCalls$Reader" "java/lang/Object") ∈ lw_all := lw_g (lw_at lw_m1 213 rfl) rfl
theorem q977 : (Jvm.Cond.instanceMethod ({ cls := "LineCalls$Reader", name := "whole", desc := "()I" } : Jvm.MethodName)) ∈ lw_all := lw_g (lw_at lw_m4 168 rfl) rfl
theorem q978 : (Jvm.Cond.selects "LineCalls$Reader" ({ cls := "LineCalls$Reader", name := "whole", desc := "()I" } : Jvm.MethodName) ({ cls := "LineCalls$Reader", name := "whole", desc := "()I" } : Jvm.MethodName)) ∈ lw_all := lw_g (lw_at lw_m4 169 rfl) rfl
theorem q979 : (Jvm.Cond.code ({ cls := "LineCalls$Reader", name := "whole", desc := "()I" } : Jvm.MethodName) prog_8_method_18_code (2 : Nat) (Option.some Jvm.ClassFile.FieldType.int)) ∈ lw_all := lw_g (lw_at lw_m4 170 rfl) rfl
theorem q980 : (Jvm.Cond.methodLink "LineCalls$Reader" (82 : Nat) ({ cls := "LineCalls$Reader", name := "next", desc := "()V" } : Jvm.MethodName)) ∈ lw_all := lw_g (lw_at lw_m4 171 rfl) rfl
theorem q981 : (Jvm.Cond.privateMethod ({ cls := "LineCalls$Reader", name := "next", desc := "()V" } : Jvm.MethodName)) ∈ lw_tbl := lw_at lw_m4 172 rfl
theorem q982 : (Jvm.Cond.instanceMethod ({ cls := "LineCalls$Reader", name := "next", desc := "()V" } : Jvm.MethodName)) ∈ lw_all := lw_g (lw_at lw_m4 173 rfl) rfl
theorem q983 : (Jvm.Cond.code ({ cls := "LineCalls$Reader", name := "next", desc := "()V" } : Jvm.MethodName) prog_8_method_6_code (2 : Nat) (Option.none : Option Jvm.ClassFile.FieldType)) ∈ lw_all := lw_g (lw_at lw_m4 174 rfl) rfl
theorem q984 : (Jvm.Cond.methodLink "LineCalls$Reader" (40 : Nat) ({ cls := "LineCalls$Reader", name := "byteAt", desc := "(I)I" } : Jvm.MethodName)) ∈ lw_all := lw_g (lw_at lw_m4 175 rfl) rfl
theorem q985 : (Jvm.Cond.privateMethod ({ cls := "LineCalls$Reader", name := "byteAt", desc := "(I)I" } : Jvm.MethodName)) ∈ lw_tbl := lw_at lw_m4 176 rfl
theorem q986 : (Jvm.Cond.instanceMethod ({ cls := "LineCalls$Reader", name := "byteAt", desc := "(I)I" } : Jvm.MethodName)) ∈ lw_all := lw_g (lw_at lw_m4 177 rfl) rfl
theorem q987 : (Jvm.Cond.code ({ cls := "LineCalls$Reader", name := "byteAt", desc := "(I)I" } : Jvm.MethodName) prog_8_method_3_code (2 : Nat) (Option.some Jvm.ClassFile.FieldType.int)) ∈ lw_all := lw_g (lw_at lw_m4 178 rfl) rfl
theorem q988 : (Jvm.Cond.methodLink "LineCalls$Reader" (50 : Nat) ({ cls := "LineCalls$Reader", name := "isLetter", desc := "(I)Z" } : Jvm.MethodName)) ∈ lw_all := lw_g (lw_at lw_m4 179 rfl) rfl
theorem q989 : (Jvm.Cond.static ({ cls := "LineCalls$Reader", name := "isLetter", desc := "(I)Z" } : Jvm.MethodName)) ∈ lw_all := lw_g (lw_at lw_m4 180 rfl) rfl
theorem q990 : (Jvm.Cond.code ({ cls := "LineCalls$Reader", name := "isLetter", desc := "(I)Z" } : Jvm.MethodName) prog_8_method_5_code (1 : Nat) (Option.some Jvm.ClassFile.FieldType.boolean)) ∈ lw_all := lw_g (lw_at lw_m4 181 rfl) rfl
theorem q991 : (Jvm.Cond.methodLinkNest "LineCalls$Reader" (33 : Nat) ({ cls := "LineCalls", name := "in", desc := "(III)Z" } : Jvm.MethodName) "LineCalls") ∈ lw_tbl := lw_at lw_m4 182 rfl
theorem q992 : (Jvm.Cond.methodLink "LineCalls$Reader" (54 : Nat) ({ cls := "LineCalls$Reader", name := "word", desc := "()V" } : Jvm.MethodName)) ∈ lw_all := lw_g (lw_at lw_m4 183 rfl) rfl
theorem q993 : (Jvm.Cond.privateMethod ({ cls := "LineCalls$Reader", name := "word", desc := "()V" } : Jvm.MethodName)) ∈ lw_tbl := lw_at lw_m4 184 rfl
theorem q994 : (Jvm.Cond.instanceMethod ({ cls := "LineCalls$Reader", name := "word", desc := "()V" } : Jvm.MethodName)) ∈ lw_all := lw_g (lw_at lw_m4 185 rfl) rfl
theorem q995 : (Jvm.Cond.code ({ cls := "LineCalls$Reader", name := "word", desc := "()V" } : Jvm.MethodName) prog_8_method_8_code (2 : Nat) (Option.none : Option Jvm.ClassFile.FieldType)) ∈ lw_all := lw_g (lw_at lw_m4 186 rfl) rfl
theorem q996 : (Jvm.Cond.methodLink "LineCalls$Reader" (70 : Nat) ({ cls := "LineCalls$Reader", name := "isKey", desc := "(II)Z" } : Jvm.MethodName)) ∈ lw_all := lw_g (lw_at lw_m4 187 rfl) rfl
theorem q997 : (Jvm.Cond.privateMethod ({ cls := "LineCalls$Reader", name := "isKey", desc := "(II)Z" } : Jvm.MethodName)) ∈ lw_tbl := lw_at lw_m4 188 rfl
theorem q998 : (Jvm.Cond.instanceMethod ({ cls := "LineCalls$Reader", name := "isKey", desc := "(II)Z" } : Jvm.MethodName)) ∈ lw_all := lw_g (lw_at lw_m4 189 rfl) rfl
theorem q999 : (Jvm.Cond.code ({ cls := "LineCalls$Reader", name := "isKey", desc := "(II)Z" } : Jvm.MethodName) prog_8_method_9_code (5 : Nat) (Option.some Jvm.ClassFile.FieldType.boolean)) ∈ lw_all := lw_g (lw_at lw_m4 190 rfl) rfl
theorem q1000 : (Jvm.Cond.stringRef "LineCalls$Reader" (74 : Nat) "jumper prop   lock   tower  giant  rookie flankertheirs call   code   wind   wet    in     tall   ") ∈ lw_tbl := lw_at lw_m4 191 rfl
theorem q1001 : (Jvm.Cond.methodLink "LineCalls$Reader" (76 : Nat) ({ cls := "java/lang/String", name := "charAt", desc := "(I)C" } : Jvm.MethodName)) ∈ lw_all := lw_g (lw_at lw_m4 192 rfl) rfl
theorem q1041 : (Jvm.Cond.methodLink "LineCalls$Reader" (63 : Nat) ({ cls := "LineCalls$Reader", name := "need", desc := "(Z)V" } : Jvm.MethodName)) ∈ lw_all := lw_g (lw_at lw_m4 232 rfl) rfl
theorem q1042 : (Jvm.Cond.privateMethod ({ cls := "LineCalls$Reader", name := "need", desc := "(Z)V" } : Jvm.MethodName)) ∈ lw_tbl := lw_at lw_m4 233 rfl
theorem q1043 : (Jvm.Cond.instanceMethod ({ cls := "LineCalls$Reader", name := "need", desc := "(Z)V" } : Jvm.MethodName)) ∈ lw_all := lw_g (lw_at lw_m4 234 rfl) rfl
theorem q1044 : (Jvm.Cond.code ({ cls := "LineCalls$Reader", name := "need", desc := "(Z)V" } : Jvm.MethodName) prog_8_method_2_code (2 : Nat) (Option.none : Option Jvm.ClassFile.FieldType)) ∈ lw_all := lw_g (lw_at lw_m4 235 rfl) rfl
theorem q1045 : (Jvm.Cond.methodLink "LineCalls$Reader" (57 : Nat) ({ cls := "LineCalls$Reader", name := "isDigit", desc := "(I)Z" } : Jvm.MethodName)) ∈ lw_all := lw_g (lw_at lw_m4 236 rfl) rfl
theorem q1046 : (Jvm.Cond.static ({ cls := "LineCalls$Reader", name := "isDigit", desc := "(I)Z" } : Jvm.MethodName)) ∈ lw_all := lw_g (lw_at lw_m4 237 rfl) rfl
theorem q1047 : (Jvm.Cond.code ({ cls := "LineCalls$Reader", name := "isDigit", desc := "(I)Z" } : Jvm.MethodName) prog_8_method_4_code (1 : Nat) (Option.some Jvm.ClassFile.FieldType.boolean)) ∈ lw_all := lw_g (lw_at lw_m4 238 rfl) rfl
theorem q1048 : (Jvm.Cond.methodLink "LineCalls$Reader" (60 : Nat) ({ cls := "LineCalls$Reader", name := "digits", desc := "()V" } : Jvm.MethodName)) ∈ lw_all := lw_g (lw_at lw_m4 239 rfl) rfl
theorem q1049 : (Jvm.Cond.privateMethod ({ cls := "LineCalls$Reader", name := "digits", desc := "()V" } : Jvm.MethodName)) ∈ lw_tbl := lw_at lw_m5 0 rfl
theorem q1050 : (Jvm.Cond.instanceMethod ({ cls := "LineCalls$Reader", name := "digits", desc := "()V" } : Jvm.MethodName)) ∈ lw_all := lw_g (lw_at lw_m5 1 rfl) rfl
theorem q1051 : (Jvm.Cond.code ({ cls := "LineCalls$Reader", name := "digits", desc := "()V" } : Jvm.MethodName) prog_8_method_7_code (2 : Nat) (Option.none : Option Jvm.ClassFile.FieldType)) ∈ lw_all := lw_g (lw_at lw_m5 2 rfl) rfl
theorem q1052 : (Jvm.Cond.methodLink "LineCalls$Reader" (131 : Nat) ({ cls := "LineCalls$Reader", name := "item", desc := "()V" } : Jvm.MethodName)) ∈ lw_all := lw_g (lw_at lw_m5 3 rfl) rfl
theorem q1053 : (Jvm.Cond.privateMethod ({ cls := "LineCalls$Reader", name := "item", desc := "()V" } : Jvm.MethodName)) ∈ lw_tbl := lw_at lw_m5 4 rfl
theorem q1054 : (Jvm.Cond.instanceMethod ({ cls := "LineCalls$Reader", name := "item", desc := "()V" } : Jvm.MethodName)) ∈ lw_all := lw_g (lw_at lw_m5 5 rfl) rfl
theorem q1055 : (Jvm.Cond.code ({ cls := "LineCalls$Reader", name := "item", desc := "()V" } : Jvm.MethodName) prog_8_method_17_code (1 : Nat) (Option.none : Option Jvm.ClassFile.FieldType)) ∈ lw_all := lw_g (lw_at lw_m5 6 rfl) rfl
theorem q1056 : (Jvm.Cond.methodLink "LineCalls$Reader" (120 : Nat) ({ cls := "LineCalls$Reader", name := "theirs", desc := "()V" } : Jvm.MethodName)) ∈ lw_all := lw_g (lw_at lw_m5 7 rfl) rfl
theorem q1057 : (Jvm.Cond.privateMethod ({ cls := "LineCalls$Reader", name := "theirs", desc := "()V" } : Jvm.MethodName)) ∈ lw_tbl := lw_at lw_m5 8 rfl
theorem q1058 : (Jvm.Cond.instanceMethod ({ cls := "LineCalls$Reader", name := "theirs", desc := "()V" } : Jvm.MethodName)) ∈ lw_all := lw_g (lw_at lw_m5 9 rfl) rfl
theorem q1059 : (Jvm.Cond.code ({ cls := "LineCalls$Reader", name := "theirs", desc := "()V" } : Jvm.MethodName) prog_8_method_15_code (2 : Nat) (Option.none : Option Jvm.ClassFile.FieldType)) ∈ lw_all := lw_g (lw_at lw_m5 10 rfl) rfl
theorem q1060 : (Jvm.Cond.methodLink "LineCalls$Reader" (111 : Nat) ({ cls := "LineCalls$Reader", name := "behind", desc := "(II)I" } : Jvm.MethodName)) ∈ lw_all := lw_g (lw_at lw_m5 11 rfl) rfl
theorem q1061 : (Jvm.Cond.privateMethod ({ cls := "LineCalls$Reader", name := "behind", desc := "(II)I" } : Jvm.MethodName)) ∈ lw_tbl := lw_at lw_m5 12 rfl
theorem q1062 : (Jvm.Cond.instanceMethod ({ cls := "LineCalls$Reader", name := "behind", desc := "(II)I" } : Jvm.MethodName)) ∈ lw_all := lw_g (lw_at lw_m5 13 rfl) rfl
theorem q1063 : (Jvm.Cond.code ({ cls := "LineCalls$Reader", name := "behind", desc := "(II)I" } : Jvm.MethodName) prog_8_method_12_code (3 : Nat) (Option.some Jvm.ClassFile.FieldType.int)) ∈ lw_all := lw_g (lw_at lw_m5 14 rfl) rfl
theorem q1064 : (Jvm.Cond.methodLink "LineCalls$Reader" (85 : Nat) ({ cls := "LineCalls$Reader", name := "number", desc := "(II)I" } : Jvm.MethodName)) ∈ lw_all := lw_g (lw_at lw_m5 15 rfl) rfl
theorem q1065 : (Jvm.Cond.privateMethod ({ cls := "LineCalls$Reader", name := "number", desc := "(II)I" } : Jvm.MethodName)) ∈ lw_tbl := lw_at lw_m5 16 rfl
theorem q1066 : (Jvm.Cond.instanceMethod ({ cls := "LineCalls$Reader", name := "number", desc := "(II)I" } : Jvm.MethodName)) ∈ lw_all := lw_g (lw_at lw_m5 17 rfl) rfl
theorem q1067 : (Jvm.Cond.code ({ cls := "LineCalls$Reader", name := "number", desc := "(II)I" } : Jvm.MethodName) prog_8_method_11_code (4 : Nat) (Option.some Jvm.ClassFile.FieldType.int)) ∈ lw_all := lw_g (lw_at lw_m5 18 rfl) rfl
theorem q1068 : (Jvm.Cond.methodLink "LineCalls$Reader" (122 : Nat) ({ cls := "LineCalls$Reader", name := "call", desc := "()V" } : Jvm.MethodName)) ∈ lw_all := lw_g (lw_at lw_m5 19 rfl) rfl
theorem q1069 : (Jvm.Cond.privateMethod ({ cls := "LineCalls$Reader", name := "call", desc := "()V" } : Jvm.MethodName)) ∈ lw_tbl := lw_at lw_m5 20 rfl
theorem q1070 : (Jvm.Cond.instanceMethod ({ cls := "LineCalls$Reader", name := "call", desc := "()V" } : Jvm.MethodName)) ∈ lw_all := lw_g (lw_at lw_m5 21 rfl) rfl
theorem q1071 : (Jvm.Cond.code ({ cls := "LineCalls$Reader", name := "call", desc := "()V" } : Jvm.MethodName) prog_8_method_16_code (2 : Nat) (Option.none : Option Jvm.ClassFile.FieldType)) ∈ lw_all := lw_g (lw_at lw_m5 22 rfl) rfl
theorem q1072 : (Jvm.Cond.methodLink "LineCalls$Reader" (128 : Nat) ({ cls := "LineCalls$Reader", name := "jumper", desc := "(I)V" } : Jvm.MethodName)) ∈ lw_all := lw_g (lw_at lw_m5 23 rfl) rfl
theorem q1073 : (Jvm.Cond.privateMethod ({ cls := "LineCalls$Reader", name := "jumper", desc := "(I)V" } : Jvm.MethodName)) ∈ lw_tbl := lw_at lw_m5 24 rfl
theorem q1074 : (Jvm.Cond.instanceMethod ({ cls := "LineCalls$Reader", name := "jumper", desc := "(I)V" } : Jvm.MethodName)) ∈ lw_all := lw_g (lw_at lw_m5 25 rfl) rfl
theorem q1075 : (Jvm.Cond.code ({ cls := "LineCalls$Reader", name := "jumper", desc := "(I)V" } : Jvm.MethodName) prog_8_method_14_code (3 : Nat) (Option.none : Option Jvm.ClassFile.FieldType)) ∈ lw_all := lw_g (lw_at lw_m5 26 rfl) rfl
theorem q1076 : (Jvm.Cond.methodLink "LineCalls$Reader" (96 : Nat) ({ cls := "LineCalls$World", name := "add", desc := "(II)V" } : Jvm.MethodName)) ∈ lw_all := lw_g (lw_at lw_m5 27 rfl) rfl
theorem q1077 : (Jvm.Cond.methodLink "LineCalls$Reader" (100 : Nat) ({ cls := "LineCalls$Reader", name := "isWord", desc := "(I)Z" } : Jvm.MethodName)) ∈ lw_all := lw_g (lw_at lw_m5 28 rfl) rfl
theorem q1078 : (Jvm.Cond.privateMethod ({ cls := "LineCalls$Reader", name := "isWord", desc := "(I)Z" } : Jvm.MethodName)) ∈ lw_tbl := lw_at lw_m5 29 rfl
theorem q1079 : (Jvm.Cond.instanceMethod ({ cls := "LineCalls$Reader", name := "isWord", desc := "(I)Z" } : Jvm.MethodName)) ∈ lw_all := lw_g (lw_at lw_m5 30 rfl) rfl
theorem q1080 : (Jvm.Cond.code ({ cls := "LineCalls$Reader", name := "isWord", desc := "(I)Z" } : Jvm.MethodName) prog_8_method_10_code (2 : Nat) (Option.some Jvm.ClassFile.FieldType.boolean)) ∈ lw_all := lw_g (lw_at lw_m5 31 rfl) rfl
theorem q1081 : (Jvm.Cond.methodLink "LineCalls$Reader" (103 : Nat) ({ cls := "LineCalls$Reader", name := "free", desc := "()I" } : Jvm.MethodName)) ∈ lw_all := lw_g (lw_at lw_m5 32 rfl) rfl
theorem q1082 : (Jvm.Cond.privateMethod ({ cls := "LineCalls$Reader", name := "free", desc := "()I" } : Jvm.MethodName)) ∈ lw_tbl := lw_at lw_m5 33 rfl
theorem q1083 : (Jvm.Cond.instanceMethod ({ cls := "LineCalls$Reader", name := "free", desc := "()I" } : Jvm.MethodName)) ∈ lw_all := lw_g (lw_at lw_m5 34 rfl) rfl
theorem q1084 : (Jvm.Cond.code ({ cls := "LineCalls$Reader", name := "free", desc := "()I" } : Jvm.MethodName) prog_8_method_13_code (1 : Nat) (Option.some Jvm.ClassFile.FieldType.int)) ∈ lw_all := lw_g (lw_at lw_m5 35 rfl) rfl
theorem in_X2 : ∀ w ∈ wsX20, w ∈ lw_all := lw_in wsX20 [286, 288, 290, 292, 294, 296, 298, 300] (by decide +kernel) (by decide +kernel)

/-! LineCalls$World -/
set_option maxRecDepth 100000
def RX4 : String := "LineCalls$World"
def TX4 : u_T := fun k => match k with
  | 0 => ("LineCalls$World", "line", "[I", true)
  | 1 => ("LineCalls$World", "theirs", "[[I", true)
  | 2 => ("LineCalls$World", "sets", "[I", true)
  | 3 => ("LineCalls$World", "list", "[I", true)
  | 4 => ("LineCalls$World", "metres", "I", false)
  | 5 => ("LineCalls$World", "jumpers", "I", false)
  | 6 => ("LineCalls$World", "jumper", "[[I", true)
  | 7 => ("LineCalls$World", "thrown", "I", false)
  | 8 => ("LineCalls$World", "z", "I", false)
  | _ => ("LineCalls$World", "holds", "[I", true)
def tyX4 : Nat → FieldType := fun k => match k with
  | 0 => .array .int
  | 1 => .array (.array .int)
  | 2 => .array .int
  | 3 => .array .int
  | 4 => .int
  | 5 => .int
  | 6 => .array (.array .int)
  | 7 => .int
  | 8 => .int
  | _ => .array .int
abbrev wsX40 : List Cond := u_ws RX4 TX4 10
theorem nmX4 : ∀ a, a < 10 → ∀ b, b < 10 → a ≠ b → (TX4 a).2.1 ≠ (TX4 b).2.1 := by decide +kernel
theorem tyX4_ok : ∀ k, k < 10 → parseFieldDescriptor (TX4 k).2.2.1 = some (tyX4 k) := by decide +kernel
abbrev cX4_init : ByteArray := prog_13_method_1_code
def yX4_init : MethodName := ⟨RX4, "<init>", "()V"⟩
def dkwX4_init_5 : List UInt8 := [60, 27, 16, 10, 162, 0, 16, 42, 180, 0, 33, 27, 2, 79, 132, 1, 1, 167, 255, 240, 177]
abbrev dktX4_init_5 : List UInt8 := dkwX4_init_5 ++ []
def dkwX4_init_4 : List UInt8 := [60, 27, 16, 6, 162, 0, 19, 42, 180, 0, 23, 27, 16, 11, 27, 104, 79, 132, 1, 1, 167, 255, 237, 3]
abbrev dktX4_init_4 : List UInt8 := dkwX4_init_4 ++ dktX4_init_5
def dkwX4_init_3 : List UInt8 := [42, 180, 0, 9, 27, 2, 79, 42, 180, 0, 17, 3, 50, 27, 16, 40, 79, 132, 1, 1, 167, 255, 230, 3]
abbrev dktX4_init_3 : List UInt8 := dkwX4_init_3 ++ dktX4_init_4
def dkwX4_init_2 : List UInt8 := [181, 0, 26, 42, 4, 181, 0, 29, 42, 16, 10, 188, 10, 181, 0, 33, 3, 60, 27, 16, 7, 162, 0, 26]
abbrev dktX4_init_2 : List UInt8 := dkwX4_init_2 ++ dktX4_init_3
def dkwX4_init_1 : List UInt8 := [6, 188, 10, 181, 0, 20, 42, 16, 6, 188, 10, 181, 0, 23, 42, 8, 16, 8, 197, 0, 15, 2]
abbrev dktX4_init_1 : List UInt8 := dkwX4_init_1 ++ dktX4_init_2
def dkwX4_init_0 : List UInt8 := [42, 183, 0, 3, 42, 16, 7, 188, 10, 181, 0, 9, 42, 5, 16, 7, 197, 0, 15, 2, 181, 0, 17, 42]
abbrev dktX4_init_0 : List UInt8 := dkwX4_init_0 ++ dktX4_init_1
theorem dksX4_init_0 : cX4_init.data.toList.drop 0 = dktX4_init_0 := by decide +kernel
theorem dksX4_init_1 : cX4_init.data.toList.drop 24 = dktX4_init_1 := dk_seg dksX4_init_0 24 rfl rfl
theorem dksX4_init_2 : cX4_init.data.toList.drop 46 = dktX4_init_2 := dk_seg dksX4_init_1 22 rfl rfl
theorem dksX4_init_3 : cX4_init.data.toList.drop 70 = dktX4_init_3 := dk_seg dksX4_init_2 24 rfl rfl
theorem dksX4_init_4 : cX4_init.data.toList.drop 94 = dktX4_init_4 := dk_seg dksX4_init_3 24 rfl rfl
theorem dksX4_init_5 : cX4_init.data.toList.drop 118 = dktX4_init_5 := dk_seg dksX4_init_4 24 rfl rfl
theorem dX4_init_0 : decode cX4_init 0 = .ok (.aload_n 0, 1) := dk_42 (dk_at dksX4_init_0 0 rfl rfl)
theorem dX4_init_1 : decode cX4_init 1 = .ok (.invokespecial 3, 3) := dk_183 0 3 (dk_at dksX4_init_0 1 rfl rfl)
theorem dX4_init_4 : decode cX4_init 4 = .ok (.aload_n 0, 1) := dk_42 (dk_at dksX4_init_0 4 rfl rfl)
theorem dX4_init_5 : decode cX4_init 5 = .ok (.bipush 7, 2) := dk_16 7 (dk_at dksX4_init_0 5 rfl rfl)
theorem dX4_init_7 : decode cX4_init 7 = .ok (.newarray .int, 2) := dk_188_10 (dk_at dksX4_init_0 7 rfl rfl)
theorem dX4_init_9 : decode cX4_init 9 = .ok (.putfield 9, 3) := dk_181 0 9 (dk_at dksX4_init_0 9 rfl rfl)
theorem dX4_init_12 : decode cX4_init 12 = .ok (.aload_n 0, 1) := dk_42 (dk_at dksX4_init_0 12 rfl rfl)
theorem dX4_init_13 : decode cX4_init 13 = .ok (.iconst 2, 1) := dk_5 (dk_at dksX4_init_0 13 rfl rfl)
theorem dX4_init_14 : decode cX4_init 14 = .ok (.bipush 7, 2) := dk_16 7 (dk_at dksX4_init_0 14 rfl rfl)
theorem dX4_init_16 : decode cX4_init 16 = .ok (.multianewarray 15 2, 4) := by decide +kernel
theorem dX4_init_20 : decode cX4_init 20 = .ok (.putfield 17, 3) := dk_181 0 17 (dk_at dksX4_init_0 20 rfl rfl)
theorem dX4_init_23 : decode cX4_init 23 = .ok (.aload_n 0, 1) := dk_42 (dk_at dksX4_init_0 23 rfl rfl)
theorem dX4_init_24 : decode cX4_init 24 = .ok (.iconst 3, 1) := dk_6 (dk_at dksX4_init_1 0 rfl rfl)
theorem dX4_init_25 : decode cX4_init 25 = .ok (.newarray .int, 2) := dk_188_10 (dk_at dksX4_init_1 1 rfl rfl)
theorem dX4_init_27 : decode cX4_init 27 = .ok (.putfield 20, 3) := dk_181 0 20 (dk_at dksX4_init_1 3 rfl rfl)
theorem dX4_init_30 : decode cX4_init 30 = .ok (.aload_n 0, 1) := dk_42 (dk_at dksX4_init_1 6 rfl rfl)
theorem dX4_init_31 : decode cX4_init 31 = .ok (.bipush 6, 2) := dk_16 6 (dk_at dksX4_init_1 7 rfl rfl)
theorem dX4_init_33 : decode cX4_init 33 = .ok (.newarray .int, 2) := dk_188_10 (dk_at dksX4_init_1 9 rfl rfl)
theorem dX4_init_35 : decode cX4_init 35 = .ok (.putfield 23, 3) := dk_181 0 23 (dk_at dksX4_init_1 11 rfl rfl)
theorem dX4_init_38 : decode cX4_init 38 = .ok (.aload_n 0, 1) := dk_42 (dk_at dksX4_init_1 14 rfl rfl)
theorem dX4_init_39 : decode cX4_init 39 = .ok (.iconst 5, 1) := dk_8 (dk_at dksX4_init_1 15 rfl rfl)
theorem dX4_init_40 : decode cX4_init 40 = .ok (.bipush 8, 2) := dk_16 8 (dk_at dksX4_init_1 16 rfl rfl)
theorem dX4_init_42 : decode cX4_init 42 = .ok (.multianewarray 15 2, 4) := by decide +kernel
theorem dX4_init_46 : decode cX4_init 46 = .ok (.putfield 26, 3) := dk_181 0 26 (dk_at dksX4_init_2 0 rfl rfl)
theorem dX4_init_49 : decode cX4_init 49 = .ok (.aload_n 0, 1) := dk_42 (dk_at dksX4_init_2 3 rfl rfl)
theorem dX4_init_50 : decode cX4_init 50 = .ok (.iconst 1, 1) := dk_4 (dk_at dksX4_init_2 4 rfl rfl)
theorem dX4_init_51 : decode cX4_init 51 = .ok (.putfield 29, 3) := dk_181 0 29 (dk_at dksX4_init_2 5 rfl rfl)
theorem dX4_init_54 : decode cX4_init 54 = .ok (.aload_n 0, 1) := dk_42 (dk_at dksX4_init_2 8 rfl rfl)
theorem dX4_init_55 : decode cX4_init 55 = .ok (.bipush 10, 2) := dk_16 10 (dk_at dksX4_init_2 9 rfl rfl)
theorem dX4_init_57 : decode cX4_init 57 = .ok (.newarray .int, 2) := dk_188_10 (dk_at dksX4_init_2 11 rfl rfl)
theorem dX4_init_59 : decode cX4_init 59 = .ok (.putfield 33, 3) := dk_181 0 33 (dk_at dksX4_init_2 13 rfl rfl)
theorem dX4_init_62 : decode cX4_init 62 = .ok (.iconst 0, 1) := dk_3 (dk_at dksX4_init_2 16 rfl rfl)
theorem dX4_init_63 : decode cX4_init 63 = .ok (.istore_n 1, 1) := dk_60 (dk_at dksX4_init_2 17 rfl rfl)
theorem dX4_init_64 : decode cX4_init 64 = .ok (.iload_n 1, 1) := dk_27 (dk_at dksX4_init_2 18 rfl rfl)
theorem dX4_init_65 : decode cX4_init 65 = .ok (.bipush 7, 2) := dk_16 7 (dk_at dksX4_init_2 19 rfl rfl)
theorem dX4_init_67 : decode cX4_init 67 = .ok (.if_icmp .ge 26, 3) := dk_162 0 26 (dk_at dksX4_init_2 21 rfl rfl)
theorem dX4_init_70 : decode cX4_init 70 = .ok (.aload_n 0, 1) := dk_42 (dk_at dksX4_init_3 0 rfl rfl)
theorem dX4_init_71 : decode cX4_init 71 = .ok (.getfield 9, 3) := dk_180 0 9 (dk_at dksX4_init_3 1 rfl rfl)
theorem dX4_init_74 : decode cX4_init 74 = .ok (.iload_n 1, 1) := dk_27 (dk_at dksX4_init_3 4 rfl rfl)
theorem dX4_init_75 : decode cX4_init 75 = .ok (.iconst (-1), 1) := dk_2 (dk_at dksX4_init_3 5 rfl rfl)
theorem dX4_init_76 : decode cX4_init 76 = .ok (.iastore, 1) := dk_79 (dk_at dksX4_init_3 6 rfl rfl)
theorem dX4_init_77 : decode cX4_init 77 = .ok (.aload_n 0, 1) := dk_42 (dk_at dksX4_init_3 7 rfl rfl)
theorem dX4_init_78 : decode cX4_init 78 = .ok (.getfield 17, 3) := dk_180 0 17 (dk_at dksX4_init_3 8 rfl rfl)
theorem dX4_init_81 : decode cX4_init 81 = .ok (.iconst 0, 1) := dk_3 (dk_at dksX4_init_3 11 rfl rfl)
theorem dX4_init_82 : decode cX4_init 82 = .ok (.aaload, 1) := dk_50 (dk_at dksX4_init_3 12 rfl rfl)
theorem dX4_init_83 : decode cX4_init 83 = .ok (.iload_n 1, 1) := dk_27 (dk_at dksX4_init_3 13 rfl rfl)
theorem dX4_init_84 : decode cX4_init 84 = .ok (.bipush 40, 2) := dk_16 40 (dk_at dksX4_init_3 14 rfl rfl)
theorem dX4_init_86 : decode cX4_init 86 = .ok (.iastore, 1) := dk_79 (dk_at dksX4_init_3 16 rfl rfl)
theorem dX4_init_87 : decode cX4_init 87 = .ok (.iinc 1 1, 3) := dk_132 1 1 (dk_at dksX4_init_3 17 rfl rfl)
theorem dX4_init_90 : decode cX4_init 90 = .ok (.goto (-26), 3) := dk_167 255 230 (dk_at dksX4_init_3 20 rfl rfl)
theorem dX4_init_93 : decode cX4_init 93 = .ok (.iconst 0, 1) := dk_3 (dk_at dksX4_init_3 23 rfl rfl)
theorem dX4_init_94 : decode cX4_init 94 = .ok (.istore_n 1, 1) := dk_60 (dk_at dksX4_init_4 0 rfl rfl)
theorem dX4_init_95 : decode cX4_init 95 = .ok (.iload_n 1, 1) := dk_27 (dk_at dksX4_init_4 1 rfl rfl)
theorem dX4_init_96 : decode cX4_init 96 = .ok (.bipush 6, 2) := dk_16 6 (dk_at dksX4_init_4 2 rfl rfl)
theorem dX4_init_98 : decode cX4_init 98 = .ok (.if_icmp .ge 19, 3) := dk_162 0 19 (dk_at dksX4_init_4 4 rfl rfl)
theorem dX4_init_101 : decode cX4_init 101 = .ok (.aload_n 0, 1) := dk_42 (dk_at dksX4_init_4 7 rfl rfl)
theorem dX4_init_102 : decode cX4_init 102 = .ok (.getfield 23, 3) := dk_180 0 23 (dk_at dksX4_init_4 8 rfl rfl)
theorem dX4_init_105 : decode cX4_init 105 = .ok (.iload_n 1, 1) := dk_27 (dk_at dksX4_init_4 11 rfl rfl)
theorem dX4_init_106 : decode cX4_init 106 = .ok (.bipush 11, 2) := dk_16 11 (dk_at dksX4_init_4 12 rfl rfl)
theorem dX4_init_108 : decode cX4_init 108 = .ok (.iload_n 1, 1) := dk_27 (dk_at dksX4_init_4 14 rfl rfl)
theorem dX4_init_109 : decode cX4_init 109 = .ok (.imul, 1) := dk_104 (dk_at dksX4_init_4 15 rfl rfl)
theorem dX4_init_110 : decode cX4_init 110 = .ok (.iastore, 1) := dk_79 (dk_at dksX4_init_4 16 rfl rfl)
theorem dX4_init_111 : decode cX4_init 111 = .ok (.iinc 1 1, 3) := dk_132 1 1 (dk_at dksX4_init_4 17 rfl rfl)
theorem dX4_init_114 : decode cX4_init 114 = .ok (.goto (-19), 3) := dk_167 255 237 (dk_at dksX4_init_4 20 rfl rfl)
theorem dX4_init_117 : decode cX4_init 117 = .ok (.iconst 0, 1) := dk_3 (dk_at dksX4_init_4 23 rfl rfl)
theorem dX4_init_118 : decode cX4_init 118 = .ok (.istore_n 1, 1) := dk_60 (dk_at dksX4_init_5 0 rfl rfl)
theorem dX4_init_119 : decode cX4_init 119 = .ok (.iload_n 1, 1) := dk_27 (dk_at dksX4_init_5 1 rfl rfl)
theorem dX4_init_120 : decode cX4_init 120 = .ok (.bipush 10, 2) := dk_16 10 (dk_at dksX4_init_5 2 rfl rfl)
theorem dX4_init_122 : decode cX4_init 122 = .ok (.if_icmp .ge 16, 3) := dk_162 0 16 (dk_at dksX4_init_5 4 rfl rfl)
theorem dX4_init_125 : decode cX4_init 125 = .ok (.aload_n 0, 1) := dk_42 (dk_at dksX4_init_5 7 rfl rfl)
theorem dX4_init_126 : decode cX4_init 126 = .ok (.getfield 33, 3) := dk_180 0 33 (dk_at dksX4_init_5 8 rfl rfl)
theorem dX4_init_129 : decode cX4_init 129 = .ok (.iload_n 1, 1) := dk_27 (dk_at dksX4_init_5 11 rfl rfl)
theorem dX4_init_130 : decode cX4_init 130 = .ok (.iconst (-1), 1) := dk_2 (dk_at dksX4_init_5 12 rfl rfl)
theorem dX4_init_131 : decode cX4_init 131 = .ok (.iastore, 1) := dk_79 (dk_at dksX4_init_5 13 rfl rfl)
theorem dX4_init_132 : decode cX4_init 132 = .ok (.iinc 1 1, 3) := dk_132 1 1 (dk_at dksX4_init_5 14 rfl rfl)
theorem dX4_init_135 : decode cX4_init 135 = .ok (.goto (-16), 3) := dk_167 255 240 (dk_at dksX4_init_5 17 rfl rfl)
theorem dX4_init_138 : decode cX4_init 138 = .ok (.return_, 1) := dk_177 (dk_at dksX4_init_5 20 rfl rfl)
abbrev cX4_stands : ByteArray := prog_13_method_9_code
def yX4_stands : MethodName := ⟨RX4, "stands", "(II)I"⟩
def dkwX4_stands_1 : List UInt8 := [21, 4, 2, 159, 0, 11, 42, 180, 0, 9, 21, 4, 2, 79, 42, 180, 0, 9, 27, 28, 79, 29, 172]
abbrev dktX4_stands_1 : List UInt8 := dkwX4_stands_1 ++ []
def dkwX4_stands_0 : List UInt8 := [42, 180, 0, 9, 27, 46, 62, 28, 2, 160, 0, 7, 2, 167, 0, 8, 42, 28, 182, 0, 60, 54, 4]
abbrev dktX4_stands_0 : List UInt8 := dkwX4_stands_0 ++ dktX4_stands_1
theorem dksX4_stands_0 : cX4_stands.data.toList.drop 0 = dktX4_stands_0 := by decide +kernel
theorem dksX4_stands_1 : cX4_stands.data.toList.drop 23 = dktX4_stands_1 := dk_seg dksX4_stands_0 23 rfl rfl
theorem dX4_stands_0 : decode cX4_stands 0 = .ok (.aload_n 0, 1) := dk_42 (dk_at dksX4_stands_0 0 rfl rfl)
theorem dX4_stands_1 : decode cX4_stands 1 = .ok (.getfield 9, 3) := dk_180 0 9 (dk_at dksX4_stands_0 1 rfl rfl)
theorem dX4_stands_4 : decode cX4_stands 4 = .ok (.iload_n 1, 1) := dk_27 (dk_at dksX4_stands_0 4 rfl rfl)
theorem dX4_stands_5 : decode cX4_stands 5 = .ok (.iaload, 1) := dk_46 (dk_at dksX4_stands_0 5 rfl rfl)
theorem dX4_stands_6 : decode cX4_stands 6 = .ok (.istore_n 3, 1) := dk_62 (dk_at dksX4_stands_0 6 rfl rfl)
theorem dX4_stands_7 : decode cX4_stands 7 = .ok (.iload_n 2, 1) := dk_28 (dk_at dksX4_stands_0 7 rfl rfl)
theorem dX4_stands_8 : decode cX4_stands 8 = .ok (.iconst (-1), 1) := dk_2 (dk_at dksX4_stands_0 8 rfl rfl)
theorem dX4_stands_9 : decode cX4_stands 9 = .ok (.if_icmp .ne 7, 3) := dk_160 0 7 (dk_at dksX4_stands_0 9 rfl rfl)
theorem dX4_stands_12 : decode cX4_stands 12 = .ok (.iconst (-1), 1) := dk_2 (dk_at dksX4_stands_0 12 rfl rfl)
theorem dX4_stands_13 : decode cX4_stands 13 = .ok (.goto 8, 3) := dk_167 0 8 (dk_at dksX4_stands_0 13 rfl rfl)
theorem dX4_stands_16 : decode cX4_stands 16 = .ok (.aload_n 0, 1) := dk_42 (dk_at dksX4_stands_0 16 rfl rfl)
theorem dX4_stands_17 : decode cX4_stands 17 = .ok (.iload_n 2, 1) := dk_28 (dk_at dksX4_stands_0 17 rfl rfl)
theorem dX4_stands_18 : decode cX4_stands 18 = .ok (.invokevirtual 60, 3) := dk_182 0 60 (dk_at dksX4_stands_0 18 rfl rfl)
theorem dX4_stands_21 : decode cX4_stands 21 = .ok (.istore 4, 2) := dk_54 4 (dk_at dksX4_stands_0 21 rfl rfl)
theorem dX4_stands_23 : decode cX4_stands 23 = .ok (.iload 4, 2) := dk_21 4 (dk_at dksX4_stands_1 0 rfl rfl)
theorem dX4_stands_25 : decode cX4_stands 25 = .ok (.iconst (-1), 1) := dk_2 (dk_at dksX4_stands_1 2 rfl rfl)
theorem dX4_stands_26 : decode cX4_stands 26 = .ok (.if_icmp .eq 11, 3) := dk_159 0 11 (dk_at dksX4_stands_1 3 rfl rfl)
theorem dX4_stands_29 : decode cX4_stands 29 = .ok (.aload_n 0, 1) := dk_42 (dk_at dksX4_stands_1 6 rfl rfl)
theorem dX4_stands_30 : decode cX4_stands 30 = .ok (.getfield 9, 3) := dk_180 0 9 (dk_at dksX4_stands_1 7 rfl rfl)
theorem dX4_stands_33 : decode cX4_stands 33 = .ok (.iload 4, 2) := dk_21 4 (dk_at dksX4_stands_1 10 rfl rfl)
theorem dX4_stands_35 : decode cX4_stands 35 = .ok (.iconst (-1), 1) := dk_2 (dk_at dksX4_stands_1 12 rfl rfl)
theorem dX4_stands_36 : decode cX4_stands 36 = .ok (.iastore, 1) := dk_79 (dk_at dksX4_stands_1 13 rfl rfl)
theorem dX4_stands_37 : decode cX4_stands 37 = .ok (.aload_n 0, 1) := dk_42 (dk_at dksX4_stands_1 14 rfl rfl)
theorem dX4_stands_38 : decode cX4_stands 38 = .ok (.getfield 9, 3) := dk_180 0 9 (dk_at dksX4_stands_1 15 rfl rfl)
theorem dX4_stands_41 : decode cX4_stands 41 = .ok (.iload_n 1, 1) := dk_27 (dk_at dksX4_stands_1 18 rfl rfl)
theorem dX4_stands_42 : decode cX4_stands 42 = .ok (.iload_n 2, 1) := dk_28 (dk_at dksX4_stands_1 19 rfl rfl)
theorem dX4_stands_43 : decode cX4_stands 43 = .ok (.iastore, 1) := dk_79 (dk_at dksX4_stands_1 20 rfl rfl)
theorem dX4_stands_44 : decode cX4_stands 44 = .ok (.iload_n 3, 1) := dk_29 (dk_at dksX4_stands_1 21 rfl rfl)
theorem dX4_stands_45 : decode cX4_stands 45 = .ok (.ireturn, 1) := dk_172 (dk_at dksX4_stands_1 22 rfl rfl)
abbrev cX4_standsIn : ByteArray := prog_13_method_8_code
def yX4_standsIn : MethodName := ⟨RX4, "standsIn", "(I)I"⟩
def dkwX4_standsIn_1 : List UInt8 := [28, 61, 132, 3, 1, 167, 255, 231, 28, 172]
abbrev dktX4_standsIn_1 : List UInt8 := dkwX4_standsIn_1 ++ []
def dkwX4_standsIn_0 : List UInt8 := [2, 61, 3, 62, 29, 16, 7, 162, 0, 25, 42, 180, 0, 9, 29, 46, 27, 160, 0, 7, 29, 167, 0, 4]
abbrev dktX4_standsIn_0 : List UInt8 := dkwX4_standsIn_0 ++ dktX4_standsIn_1
theorem dksX4_standsIn_0 : cX4_standsIn.data.toList.drop 0 = dktX4_standsIn_0 := by decide +kernel
theorem dksX4_standsIn_1 : cX4_standsIn.data.toList.drop 24 = dktX4_standsIn_1 := dk_seg dksX4_standsIn_0 24 rfl rfl
theorem dX4_standsIn_0 : decode cX4_standsIn 0 = .ok (.iconst (-1), 1) := dk_2 (dk_at dksX4_standsIn_0 0 rfl rfl)
theorem dX4_standsIn_1 : decode cX4_standsIn 1 = .ok (.istore_n 2, 1) := dk_61 (dk_at dksX4_standsIn_0 1 rfl rfl)
theorem dX4_standsIn_2 : decode cX4_standsIn 2 = .ok (.iconst 0, 1) := dk_3 (dk_at dksX4_standsIn_0 2 rfl rfl)
theorem dX4_standsIn_3 : decode cX4_standsIn 3 = .ok (.istore_n 3, 1) := dk_62 (dk_at dksX4_standsIn_0 3 rfl rfl)
theorem dX4_standsIn_4 : decode cX4_standsIn 4 = .ok (.iload_n 3, 1) := dk_29 (dk_at dksX4_standsIn_0 4 rfl rfl)
theorem dX4_standsIn_5 : decode cX4_standsIn 5 = .ok (.bipush 7, 2) := dk_16 7 (dk_at dksX4_standsIn_0 5 rfl rfl)
theorem dX4_standsIn_7 : decode cX4_standsIn 7 = .ok (.if_icmp .ge 25, 3) := dk_162 0 25 (dk_at dksX4_standsIn_0 7 rfl rfl)
theorem dX4_standsIn_10 : decode cX4_standsIn 10 = .ok (.aload_n 0, 1) := dk_42 (dk_at dksX4_standsIn_0 10 rfl rfl)
theorem dX4_standsIn_11 : decode cX4_standsIn 11 = .ok (.getfield 9, 3) := dk_180 0 9 (dk_at dksX4_standsIn_0 11 rfl rfl)
theorem dX4_standsIn_14 : decode cX4_standsIn 14 = .ok (.iload_n 3, 1) := dk_29 (dk_at dksX4_standsIn_0 14 rfl rfl)
theorem dX4_standsIn_15 : decode cX4_standsIn 15 = .ok (.iaload, 1) := dk_46 (dk_at dksX4_standsIn_0 15 rfl rfl)
theorem dX4_standsIn_16 : decode cX4_standsIn 16 = .ok (.iload_n 1, 1) := dk_27 (dk_at dksX4_standsIn_0 16 rfl rfl)
theorem dX4_standsIn_17 : decode cX4_standsIn 17 = .ok (.if_icmp .ne 7, 3) := dk_160 0 7 (dk_at dksX4_standsIn_0 17 rfl rfl)
theorem dX4_standsIn_20 : decode cX4_standsIn 20 = .ok (.iload_n 3, 1) := dk_29 (dk_at dksX4_standsIn_0 20 rfl rfl)
theorem dX4_standsIn_21 : decode cX4_standsIn 21 = .ok (.goto 4, 3) := dk_167 0 4 (dk_at dksX4_standsIn_0 21 rfl rfl)
theorem dX4_standsIn_24 : decode cX4_standsIn 24 = .ok (.iload_n 2, 1) := dk_28 (dk_at dksX4_standsIn_1 0 rfl rfl)
theorem dX4_standsIn_25 : decode cX4_standsIn 25 = .ok (.istore_n 2, 1) := dk_61 (dk_at dksX4_standsIn_1 1 rfl rfl)
theorem dX4_standsIn_26 : decode cX4_standsIn 26 = .ok (.iinc 3 1, 3) := dk_132 3 1 (dk_at dksX4_standsIn_1 2 rfl rfl)
theorem dX4_standsIn_29 : decode cX4_standsIn 29 = .ok (.goto (-25), 3) := dk_167 255 231 (dk_at dksX4_standsIn_1 5 rfl rfl)
theorem dX4_standsIn_32 : decode cX4_standsIn 32 = .ok (.iload_n 2, 1) := dk_28 (dk_at dksX4_standsIn_1 8 rfl rfl)
theorem dX4_standsIn_33 : decode cX4_standsIn 33 = .ok (.ireturn, 1) := dk_172 (dk_at dksX4_standsIn_1 9 rfl rfl)
abbrev cX4_force : ByteArray := prog_13_method_12_code
def yX4_force : MethodName := ⟨RX4, "force", "(I)I"⟩
def dkwX4_force_0 : List UInt8 := [42, 180, 0, 17, 3, 50, 27, 46, 42, 180, 0, 17, 4, 50, 27, 46, 5, 108, 96, 172]
abbrev dktX4_force_0 : List UInt8 := dkwX4_force_0 ++ []
theorem dksX4_force_0 : cX4_force.data.toList.drop 0 = dktX4_force_0 := by decide +kernel
theorem dX4_force_0 : decode cX4_force 0 = .ok (.aload_n 0, 1) := dk_42 (dk_at dksX4_force_0 0 rfl rfl)
theorem dX4_force_1 : decode cX4_force 1 = .ok (.getfield 17, 3) := dk_180 0 17 (dk_at dksX4_force_0 1 rfl rfl)
theorem dX4_force_4 : decode cX4_force 4 = .ok (.iconst 0, 1) := dk_3 (dk_at dksX4_force_0 4 rfl rfl)
theorem dX4_force_5 : decode cX4_force 5 = .ok (.aaload, 1) := dk_50 (dk_at dksX4_force_0 5 rfl rfl)
theorem dX4_force_6 : decode cX4_force 6 = .ok (.iload_n 1, 1) := dk_27 (dk_at dksX4_force_0 6 rfl rfl)
theorem dX4_force_7 : decode cX4_force 7 = .ok (.iaload, 1) := dk_46 (dk_at dksX4_force_0 7 rfl rfl)
theorem dX4_force_8 : decode cX4_force 8 = .ok (.aload_n 0, 1) := dk_42 (dk_at dksX4_force_0 8 rfl rfl)
theorem dX4_force_9 : decode cX4_force 9 = .ok (.getfield 17, 3) := dk_180 0 17 (dk_at dksX4_force_0 9 rfl rfl)
theorem dX4_force_12 : decode cX4_force 12 = .ok (.iconst 1, 1) := dk_4 (dk_at dksX4_force_0 12 rfl rfl)
theorem dX4_force_13 : decode cX4_force 13 = .ok (.aaload, 1) := dk_50 (dk_at dksX4_force_0 13 rfl rfl)
theorem dX4_force_14 : decode cX4_force 14 = .ok (.iload_n 1, 1) := dk_27 (dk_at dksX4_force_0 14 rfl rfl)
theorem dX4_force_15 : decode cX4_force 15 = .ok (.iaload, 1) := dk_46 (dk_at dksX4_force_0 15 rfl rfl)
theorem dX4_force_16 : decode cX4_force 16 = .ok (.iconst 2, 1) := dk_5 (dk_at dksX4_force_0 16 rfl rfl)
theorem dX4_force_17 : decode cX4_force 17 = .ok (.idiv, 1) := dk_108 (dk_at dksX4_force_0 17 rfl rfl)
theorem dX4_force_18 : decode cX4_force 18 = .ok (.iadd, 1) := dk_96 (dk_at dksX4_force_0 18 rfl rfl)
theorem dX4_force_19 : decode cX4_force 19 = .ok (.ireturn, 1) := dk_172 (dk_at dksX4_force_0 19 rfl rfl)
abbrev cX4_add : ByteArray := prog_13_method_6_code
def yX4_add : MethodName := ⟨RX4, "add", "(II)V"⟩
def dkwX4_add_2 : List UInt8 := [180, 0, 53, 28, 79, 42, 89, 180, 0, 53, 4, 96, 181, 0, 53, 177]
abbrev dktX4_add_2 : List UInt8 := dkwX4_add_2 ++ []
def dkwX4_add_1 : List UInt8 := [167, 255, 236, 42, 180, 0, 26, 3, 50, 42, 180, 0, 53, 27, 79, 42, 180, 0, 26, 4, 50, 42]
abbrev dktX4_add_1 : List UInt8 := dkwX4_add_1 ++ dktX4_add_2
def dkwX4_add_0 : List UInt8 := [3, 62, 29, 8, 162, 0, 21, 42, 180, 0, 26, 29, 50, 42, 180, 0, 53, 3, 79, 132, 3, 1]
abbrev dktX4_add_0 : List UInt8 := dkwX4_add_0 ++ dktX4_add_1
theorem dksX4_add_0 : cX4_add.data.toList.drop 0 = dktX4_add_0 := by decide +kernel
theorem dksX4_add_1 : cX4_add.data.toList.drop 22 = dktX4_add_1 := dk_seg dksX4_add_0 22 rfl rfl
theorem dksX4_add_2 : cX4_add.data.toList.drop 44 = dktX4_add_2 := dk_seg dksX4_add_1 22 rfl rfl
theorem dX4_add_0 : decode cX4_add 0 = .ok (.iconst 0, 1) := dk_3 (dk_at dksX4_add_0 0 rfl rfl)
theorem dX4_add_1 : decode cX4_add 1 = .ok (.istore_n 3, 1) := dk_62 (dk_at dksX4_add_0 1 rfl rfl)
theorem dX4_add_2 : decode cX4_add 2 = .ok (.iload_n 3, 1) := dk_29 (dk_at dksX4_add_0 2 rfl rfl)
theorem dX4_add_3 : decode cX4_add 3 = .ok (.iconst 5, 1) := dk_8 (dk_at dksX4_add_0 3 rfl rfl)
theorem dX4_add_4 : decode cX4_add 4 = .ok (.if_icmp .ge 21, 3) := dk_162 0 21 (dk_at dksX4_add_0 4 rfl rfl)
theorem dX4_add_7 : decode cX4_add 7 = .ok (.aload_n 0, 1) := dk_42 (dk_at dksX4_add_0 7 rfl rfl)
theorem dX4_add_8 : decode cX4_add 8 = .ok (.getfield 26, 3) := dk_180 0 26 (dk_at dksX4_add_0 8 rfl rfl)
theorem dX4_add_11 : decode cX4_add 11 = .ok (.iload_n 3, 1) := dk_29 (dk_at dksX4_add_0 11 rfl rfl)
theorem dX4_add_12 : decode cX4_add 12 = .ok (.aaload, 1) := dk_50 (dk_at dksX4_add_0 12 rfl rfl)
theorem dX4_add_13 : decode cX4_add 13 = .ok (.aload_n 0, 1) := dk_42 (dk_at dksX4_add_0 13 rfl rfl)
theorem dX4_add_14 : decode cX4_add 14 = .ok (.getfield 53, 3) := dk_180 0 53 (dk_at dksX4_add_0 14 rfl rfl)
theorem dX4_add_17 : decode cX4_add 17 = .ok (.iconst 0, 1) := dk_3 (dk_at dksX4_add_0 17 rfl rfl)
theorem dX4_add_18 : decode cX4_add 18 = .ok (.iastore, 1) := dk_79 (dk_at dksX4_add_0 18 rfl rfl)
theorem dX4_add_19 : decode cX4_add 19 = .ok (.iinc 3 1, 3) := dk_132 3 1 (dk_at dksX4_add_0 19 rfl rfl)
theorem dX4_add_22 : decode cX4_add 22 = .ok (.goto (-20), 3) := dk_167 255 236 (dk_at dksX4_add_1 0 rfl rfl)
theorem dX4_add_25 : decode cX4_add 25 = .ok (.aload_n 0, 1) := dk_42 (dk_at dksX4_add_1 3 rfl rfl)
theorem dX4_add_26 : decode cX4_add 26 = .ok (.getfield 26, 3) := dk_180 0 26 (dk_at dksX4_add_1 4 rfl rfl)
theorem dX4_add_29 : decode cX4_add 29 = .ok (.iconst 0, 1) := dk_3 (dk_at dksX4_add_1 7 rfl rfl)
theorem dX4_add_30 : decode cX4_add 30 = .ok (.aaload, 1) := dk_50 (dk_at dksX4_add_1 8 rfl rfl)
theorem dX4_add_31 : decode cX4_add 31 = .ok (.aload_n 0, 1) := dk_42 (dk_at dksX4_add_1 9 rfl rfl)
theorem dX4_add_32 : decode cX4_add 32 = .ok (.getfield 53, 3) := dk_180 0 53 (dk_at dksX4_add_1 10 rfl rfl)
theorem dX4_add_35 : decode cX4_add 35 = .ok (.iload_n 1, 1) := dk_27 (dk_at dksX4_add_1 13 rfl rfl)
theorem dX4_add_36 : decode cX4_add 36 = .ok (.iastore, 1) := dk_79 (dk_at dksX4_add_1 14 rfl rfl)
theorem dX4_add_37 : decode cX4_add 37 = .ok (.aload_n 0, 1) := dk_42 (dk_at dksX4_add_1 15 rfl rfl)
theorem dX4_add_38 : decode cX4_add 38 = .ok (.getfield 26, 3) := dk_180 0 26 (dk_at dksX4_add_1 16 rfl rfl)
theorem dX4_add_41 : decode cX4_add 41 = .ok (.iconst 1, 1) := dk_4 (dk_at dksX4_add_1 19 rfl rfl)
theorem dX4_add_42 : decode cX4_add 42 = .ok (.aaload, 1) := dk_50 (dk_at dksX4_add_1 20 rfl rfl)
theorem dX4_add_43 : decode cX4_add 43 = .ok (.aload_n 0, 1) := dk_42 (dk_at dksX4_add_1 21 rfl rfl)
theorem dX4_add_44 : decode cX4_add 44 = .ok (.getfield 53, 3) := dk_180 0 53 (dk_at dksX4_add_2 0 rfl rfl)
theorem dX4_add_47 : decode cX4_add 47 = .ok (.iload_n 2, 1) := dk_28 (dk_at dksX4_add_2 3 rfl rfl)
theorem dX4_add_48 : decode cX4_add 48 = .ok (.iastore, 1) := dk_79 (dk_at dksX4_add_2 4 rfl rfl)
theorem dX4_add_49 : decode cX4_add 49 = .ok (.aload_n 0, 1) := dk_42 (dk_at dksX4_add_2 5 rfl rfl)
theorem dX4_add_50 : decode cX4_add 50 = .ok (.dup, 1) := dk_89 (dk_at dksX4_add_2 6 rfl rfl)
theorem dX4_add_51 : decode cX4_add 51 = .ok (.getfield 53, 3) := dk_180 0 53 (dk_at dksX4_add_2 7 rfl rfl)
theorem dX4_add_54 : decode cX4_add 54 = .ok (.iconst 1, 1) := dk_4 (dk_at dksX4_add_2 10 rfl rfl)
theorem dX4_add_55 : decode cX4_add 55 = .ok (.iadd, 1) := dk_96 (dk_at dksX4_add_2 11 rfl rfl)
theorem dX4_add_56 : decode cX4_add 56 = .ok (.putfield 53, 3) := dk_181 0 53 (dk_at dksX4_add_2 12 rfl rfl)
theorem dX4_add_59 : decode cX4_add 59 = .ok (.return_, 1) := dk_177 (dk_at dksX4_add_2 15 rfl rfl)
abbrev cX4_isLate : ByteArray := prog_13_method_18_code
def yX4_isLate : MethodName := ⟨RX4, "isLate", "(I)Z"⟩
def dkwX4_isLate_0 : List UInt8 := [42, 180, 0, 56, 27, 96, 18, 72, 164, 0, 7, 4, 167, 0, 4, 3, 172]
abbrev dktX4_isLate_0 : List UInt8 := dkwX4_isLate_0 ++ []
theorem dksX4_isLate_0 : cX4_isLate.data.toList.drop 0 = dktX4_isLate_0 := by decide +kernel
theorem dX4_isLate_0 : decode cX4_isLate 0 = .ok (.aload_n 0, 1) := dk_42 (dk_at dksX4_isLate_0 0 rfl rfl)
theorem dX4_isLate_1 : decode cX4_isLate 1 = .ok (.getfield 56, 3) := dk_180 0 56 (dk_at dksX4_isLate_0 1 rfl rfl)
theorem dX4_isLate_4 : decode cX4_isLate 4 = .ok (.iload_n 1, 1) := dk_27 (dk_at dksX4_isLate_0 4 rfl rfl)
theorem dX4_isLate_5 : decode cX4_isLate 5 = .ok (.iadd, 1) := dk_96 (dk_at dksX4_isLate_0 5 rfl rfl)
theorem dX4_isLate_6 : decode cX4_isLate 6 = .ok (.ldc 72, 2) := dk_18 72 (dk_at dksX4_isLate_0 6 rfl rfl)
theorem dX4_isLate_8 : decode cX4_isLate 8 = .ok (.if_icmp .le 7, 3) := dk_164 0 7 (dk_at dksX4_isLate_0 8 rfl rfl)
theorem dX4_isLate_11 : decode cX4_isLate 11 = .ok (.iconst 1, 1) := dk_4 (dk_at dksX4_isLate_0 11 rfl rfl)
theorem dX4_isLate_12 : decode cX4_isLate 12 = .ok (.goto 4, 3) := dk_167 0 4 (dk_at dksX4_isLate_0 12 rfl rfl)
theorem dX4_isLate_15 : decode cX4_isLate 15 = .ok (.iconst 0, 1) := dk_3 (dk_at dksX4_isLate_0 15 rfl rfl)
theorem dX4_isLate_16 : decode cX4_isLate 16 = .ok (.ireturn, 1) := dk_172 (dk_at dksX4_isLate_0 16 rfl rfl)
abbrev cX4_next : ByteArray := prog_13_method_11_code
def yX4_next : MethodName := ⟨RX4, "next", "()I"⟩
def dkwX4_next_0 : List UInt8 := [42, 180, 0, 23, 42, 180, 0, 56, 16, 6, 112, 46, 42, 180, 0, 20, 5, 46, 184, 0, 64, 172]
abbrev dktX4_next_0 : List UInt8 := dkwX4_next_0 ++ []
theorem dksX4_next_0 : cX4_next.data.toList.drop 0 = dktX4_next_0 := by decide +kernel
theorem dX4_next_0 : decode cX4_next 0 = .ok (.aload_n 0, 1) := dk_42 (dk_at dksX4_next_0 0 rfl rfl)
theorem dX4_next_1 : decode cX4_next 1 = .ok (.getfield 23, 3) := dk_180 0 23 (dk_at dksX4_next_0 1 rfl rfl)
theorem dX4_next_4 : decode cX4_next 4 = .ok (.aload_n 0, 1) := dk_42 (dk_at dksX4_next_0 4 rfl rfl)
theorem dX4_next_5 : decode cX4_next 5 = .ok (.getfield 56, 3) := dk_180 0 56 (dk_at dksX4_next_0 5 rfl rfl)
theorem dX4_next_8 : decode cX4_next 8 = .ok (.bipush 6, 2) := dk_16 6 (dk_at dksX4_next_0 8 rfl rfl)
theorem dX4_next_10 : decode cX4_next 10 = .ok (.irem, 1) := dk_112 (dk_at dksX4_next_0 10 rfl rfl)
theorem dX4_next_11 : decode cX4_next 11 = .ok (.iaload, 1) := dk_46 (dk_at dksX4_next_0 11 rfl rfl)
theorem dX4_next_12 : decode cX4_next 12 = .ok (.aload_n 0, 1) := dk_42 (dk_at dksX4_next_0 12 rfl rfl)
theorem dX4_next_13 : decode cX4_next 13 = .ok (.getfield 20, 3) := dk_180 0 20 (dk_at dksX4_next_0 13 rfl rfl)
theorem dX4_next_16 : decode cX4_next 16 = .ok (.iconst 2, 1) := dk_5 (dk_at dksX4_next_0 16 rfl rfl)
theorem dX4_next_17 : decode cX4_next 17 = .ok (.iaload, 1) := dk_46 (dk_at dksX4_next_0 17 rfl rfl)
theorem dX4_next_18 : decode cX4_next 18 = .ok (.invokestatic 64, 3) := dk_184 0 64 (dk_at dksX4_next_0 18 rfl rfl)
theorem dX4_next_21 : decode cX4_next 21 = .ok (.ireturn, 1) := dk_172 (dk_at dksX4_next_0 21 rfl rfl)
abbrev cX4_goesBack : ByteArray := prog_13_method_15_code
def yX4_goesBack : MethodName := ⟨RX4, "goesBack", "(I)V"⟩
def dkwX4_goesBack_0 : List UInt8 := [42, 3, 42, 180, 0, 50, 27, 100, 184, 0, 78, 181, 0, 50, 177]
abbrev dktX4_goesBack_0 : List UInt8 := dkwX4_goesBack_0 ++ []
theorem dksX4_goesBack_0 : cX4_goesBack.data.toList.drop 0 = dktX4_goesBack_0 := by decide +kernel
theorem dX4_goesBack_0 : decode cX4_goesBack 0 = .ok (.aload_n 0, 1) := dk_42 (dk_at dksX4_goesBack_0 0 rfl rfl)
theorem dX4_goesBack_1 : decode cX4_goesBack 1 = .ok (.iconst 0, 1) := dk_3 (dk_at dksX4_goesBack_0 1 rfl rfl)
theorem dX4_goesBack_2 : decode cX4_goesBack 2 = .ok (.aload_n 0, 1) := dk_42 (dk_at dksX4_goesBack_0 2 rfl rfl)
theorem dX4_goesBack_3 : decode cX4_goesBack 3 = .ok (.getfield 50, 3) := dk_180 0 50 (dk_at dksX4_goesBack_0 3 rfl rfl)
theorem dX4_goesBack_6 : decode cX4_goesBack 6 = .ok (.iload_n 1, 1) := dk_27 (dk_at dksX4_goesBack_0 6 rfl rfl)
theorem dX4_goesBack_7 : decode cX4_goesBack 7 = .ok (.isub, 1) := dk_100 (dk_at dksX4_goesBack_0 7 rfl rfl)
theorem dX4_goesBack_8 : decode cX4_goesBack 8 = .ok (.invokestatic 78, 3) := dk_184 0 78 (dk_at dksX4_goesBack_0 8 rfl rfl)
theorem dX4_goesBack_11 : decode cX4_goesBack 11 = .ok (.putfield 50, 3) := dk_181 0 50 (dk_at dksX4_goesBack_0 11 rfl rfl)
theorem dX4_goesBack_14 : decode cX4_goesBack 14 = .ok (.return_, 1) := dk_177 (dk_at dksX4_goesBack_0 14 rfl rfl)
abbrev cX4_wins : ByteArray := prog_13_method_14_code
def yX4_wins : MethodName := ⟨RX4, "wins", "(II)V"⟩
def dkwX4_wins_1 : List UInt8 := [17, 39, 15, 42, 180, 0, 26, 6, 50, 27, 46, 4, 96, 184, 0, 73, 79, 177]
abbrev dktX4_wins_1 : List UInt8 := dkwX4_wins_1 ++ []
def dkwX4_wins_0 : List UInt8 := [42, 18, 72, 42, 180, 0, 50, 28, 96, 184, 0, 73, 181, 0, 50, 42, 180, 0, 26, 6, 50, 27]
abbrev dktX4_wins_0 : List UInt8 := dkwX4_wins_0 ++ dktX4_wins_1
theorem dksX4_wins_0 : cX4_wins.data.toList.drop 0 = dktX4_wins_0 := by decide +kernel
theorem dksX4_wins_1 : cX4_wins.data.toList.drop 22 = dktX4_wins_1 := dk_seg dksX4_wins_0 22 rfl rfl
theorem dX4_wins_0 : decode cX4_wins 0 = .ok (.aload_n 0, 1) := dk_42 (dk_at dksX4_wins_0 0 rfl rfl)
theorem dX4_wins_1 : decode cX4_wins 1 = .ok (.ldc 72, 2) := dk_18 72 (dk_at dksX4_wins_0 1 rfl rfl)
theorem dX4_wins_3 : decode cX4_wins 3 = .ok (.aload_n 0, 1) := dk_42 (dk_at dksX4_wins_0 3 rfl rfl)
theorem dX4_wins_4 : decode cX4_wins 4 = .ok (.getfield 50, 3) := dk_180 0 50 (dk_at dksX4_wins_0 4 rfl rfl)
theorem dX4_wins_7 : decode cX4_wins 7 = .ok (.iload_n 2, 1) := dk_28 (dk_at dksX4_wins_0 7 rfl rfl)
theorem dX4_wins_8 : decode cX4_wins 8 = .ok (.iadd, 1) := dk_96 (dk_at dksX4_wins_0 8 rfl rfl)
theorem dX4_wins_9 : decode cX4_wins 9 = .ok (.invokestatic 73, 3) := dk_184 0 73 (dk_at dksX4_wins_0 9 rfl rfl)
theorem dX4_wins_12 : decode cX4_wins 12 = .ok (.putfield 50, 3) := dk_181 0 50 (dk_at dksX4_wins_0 12 rfl rfl)
theorem dX4_wins_15 : decode cX4_wins 15 = .ok (.aload_n 0, 1) := dk_42 (dk_at dksX4_wins_0 15 rfl rfl)
theorem dX4_wins_16 : decode cX4_wins 16 = .ok (.getfield 26, 3) := dk_180 0 26 (dk_at dksX4_wins_0 16 rfl rfl)
theorem dX4_wins_19 : decode cX4_wins 19 = .ok (.iconst 3, 1) := dk_6 (dk_at dksX4_wins_0 19 rfl rfl)
theorem dX4_wins_20 : decode cX4_wins 20 = .ok (.aaload, 1) := dk_50 (dk_at dksX4_wins_0 20 rfl rfl)
theorem dX4_wins_21 : decode cX4_wins 21 = .ok (.iload_n 1, 1) := dk_27 (dk_at dksX4_wins_0 21 rfl rfl)
theorem dX4_wins_22 : decode cX4_wins 22 = .ok (.sipush 9999, 3) := dk_17 39 15 (dk_at dksX4_wins_1 0 rfl rfl)
theorem dX4_wins_25 : decode cX4_wins 25 = .ok (.aload_n 0, 1) := dk_42 (dk_at dksX4_wins_1 3 rfl rfl)
theorem dX4_wins_26 : decode cX4_wins 26 = .ok (.getfield 26, 3) := dk_180 0 26 (dk_at dksX4_wins_1 4 rfl rfl)
theorem dX4_wins_29 : decode cX4_wins 29 = .ok (.iconst 3, 1) := dk_6 (dk_at dksX4_wins_1 7 rfl rfl)
theorem dX4_wins_30 : decode cX4_wins 30 = .ok (.aaload, 1) := dk_50 (dk_at dksX4_wins_1 8 rfl rfl)
theorem dX4_wins_31 : decode cX4_wins 31 = .ok (.iload_n 1, 1) := dk_27 (dk_at dksX4_wins_1 9 rfl rfl)
theorem dX4_wins_32 : decode cX4_wins 32 = .ok (.iaload, 1) := dk_46 (dk_at dksX4_wins_1 10 rfl rfl)
theorem dX4_wins_33 : decode cX4_wins 33 = .ok (.iconst 1, 1) := dk_4 (dk_at dksX4_wins_1 11 rfl rfl)
theorem dX4_wins_34 : decode cX4_wins 34 = .ok (.iadd, 1) := dk_96 (dk_at dksX4_wins_1 12 rfl rfl)
theorem dX4_wins_35 : decode cX4_wins 35 = .ok (.invokestatic 73, 3) := dk_184 0 73 (dk_at dksX4_wins_1 13 rfl rfl)
theorem dX4_wins_38 : decode cX4_wins 38 = .ok (.iastore, 1) := dk_79 (dk_at dksX4_wins_1 16 rfl rfl)
theorem dX4_wins_39 : decode cX4_wins 39 = .ok (.return_, 1) := dk_177 (dk_at dksX4_wins_1 17 rfl rfl)
abbrev cX4_loses : ByteArray := prog_13_method_16_code
def yX4_loses : MethodName := ⟨RX4, "loses", "(I)V"⟩
def dkwX4_loses_1 : List UInt8 := [42, 6, 182, 0, 81, 177]
abbrev dktX4_loses_1 : List UInt8 := dkwX4_loses_1 ++ []
def dkwX4_loses_0 : List UInt8 := [42, 180, 0, 26, 7, 50, 27, 17, 39, 15, 42, 180, 0, 26, 7, 50, 27, 46, 4, 96, 184, 0, 73, 79]
abbrev dktX4_loses_0 : List UInt8 := dkwX4_loses_0 ++ dktX4_loses_1
theorem dksX4_loses_0 : cX4_loses.data.toList.drop 0 = dktX4_loses_0 := by decide +kernel
theorem dksX4_loses_1 : cX4_loses.data.toList.drop 24 = dktX4_loses_1 := dk_seg dksX4_loses_0 24 rfl rfl
theorem dX4_loses_0 : decode cX4_loses 0 = .ok (.aload_n 0, 1) := dk_42 (dk_at dksX4_loses_0 0 rfl rfl)
theorem dX4_loses_1 : decode cX4_loses 1 = .ok (.getfield 26, 3) := dk_180 0 26 (dk_at dksX4_loses_0 1 rfl rfl)
theorem dX4_loses_4 : decode cX4_loses 4 = .ok (.iconst 4, 1) := dk_7 (dk_at dksX4_loses_0 4 rfl rfl)
theorem dX4_loses_5 : decode cX4_loses 5 = .ok (.aaload, 1) := dk_50 (dk_at dksX4_loses_0 5 rfl rfl)
theorem dX4_loses_6 : decode cX4_loses 6 = .ok (.iload_n 1, 1) := dk_27 (dk_at dksX4_loses_0 6 rfl rfl)
theorem dX4_loses_7 : decode cX4_loses 7 = .ok (.sipush 9999, 3) := dk_17 39 15 (dk_at dksX4_loses_0 7 rfl rfl)
theorem dX4_loses_10 : decode cX4_loses 10 = .ok (.aload_n 0, 1) := dk_42 (dk_at dksX4_loses_0 10 rfl rfl)
theorem dX4_loses_11 : decode cX4_loses 11 = .ok (.getfield 26, 3) := dk_180 0 26 (dk_at dksX4_loses_0 11 rfl rfl)
theorem dX4_loses_14 : decode cX4_loses 14 = .ok (.iconst 4, 1) := dk_7 (dk_at dksX4_loses_0 14 rfl rfl)
theorem dX4_loses_15 : decode cX4_loses 15 = .ok (.aaload, 1) := dk_50 (dk_at dksX4_loses_0 15 rfl rfl)
theorem dX4_loses_16 : decode cX4_loses 16 = .ok (.iload_n 1, 1) := dk_27 (dk_at dksX4_loses_0 16 rfl rfl)
theorem dX4_loses_17 : decode cX4_loses 17 = .ok (.iaload, 1) := dk_46 (dk_at dksX4_loses_0 17 rfl rfl)
theorem dX4_loses_18 : decode cX4_loses 18 = .ok (.iconst 1, 1) := dk_4 (dk_at dksX4_loses_0 18 rfl rfl)
theorem dX4_loses_19 : decode cX4_loses 19 = .ok (.iadd, 1) := dk_96 (dk_at dksX4_loses_0 19 rfl rfl)
theorem dX4_loses_20 : decode cX4_loses 20 = .ok (.invokestatic 73, 3) := dk_184 0 73 (dk_at dksX4_loses_0 20 rfl rfl)
theorem dX4_loses_23 : decode cX4_loses 23 = .ok (.iastore, 1) := dk_79 (dk_at dksX4_loses_0 23 rfl rfl)
theorem dX4_loses_24 : decode cX4_loses 24 = .ok (.aload_n 0, 1) := dk_42 (dk_at dksX4_loses_1 0 rfl rfl)
theorem dX4_loses_25 : decode cX4_loses 25 = .ok (.iconst 3, 1) := dk_6 (dk_at dksX4_loses_1 1 rfl rfl)
theorem dX4_loses_26 : decode cX4_loses 26 = .ok (.invokevirtual 81, 3) := dk_182 0 81 (dk_at dksX4_loses_1 2 rfl rfl)
theorem dX4_loses_29 : decode cX4_loses 29 = .ok (.return_, 1) := dk_177 (dk_at dksX4_loses_1 5 rfl rfl)
abbrev cX4_ends : ByteArray := prog_13_method_17_code
def yX4_ends : MethodName := ⟨RX4, "ends", "(III)V"⟩
def dkwX4_ends_5 : List UInt8 := [167, 255, 202, 42, 89, 180, 0, 56, 4, 96, 181, 0, 56, 177]
abbrev dktX4_ends_5 : List UInt8 := dkwX4_ends_5 ++ []
def dkwX4_ends_4 : List UInt8 := [16, 99, 42, 180, 0, 17, 4, 50, 21, 4, 46, 21, 5, 96, 184, 0, 73, 184, 0, 78, 79, 132, 4, 1]
abbrev dktX4_ends_4 : List UInt8 := dkwX4_ends_4 ++ dktX4_ends_5
def dkwX4_ends_3 : List UInt8 := [21, 4, 27, 160, 0, 8, 16, 6, 167, 0, 4, 2, 54, 5, 42, 180, 0, 17, 4, 50, 21, 4, 3]
abbrev dktX4_ends_3 : List UInt8 := dkwX4_ends_3 ++ dktX4_ends_4
def dkwX4_ends_2 : List UInt8 := [96, 184, 0, 73, 184, 0, 78, 79, 132, 4, 1, 167, 255, 200, 3, 54, 4, 21, 4, 16, 7, 162, 0, 53]
abbrev dktX4_ends_2 : List UInt8 := dkwX4_ends_2 ++ dktX4_ends_3
def dkwX4_ends_1 : List UInt8 := [54, 5, 42, 180, 0, 26, 5, 50, 21, 4, 3, 16, 99, 42, 180, 0, 26, 5, 50, 21, 4, 46, 21, 5]
abbrev dktX4_ends_1 : List UInt8 := dkwX4_ends_1 ++ dktX4_ends_2
def dkwX4_ends_0 : List UInt8 := [3, 54, 4, 21, 4, 42, 180, 0, 53, 162, 0, 53, 21, 4, 28, 160, 0, 7, 29, 167, 0, 5, 16, 254]
abbrev dktX4_ends_0 : List UInt8 := dkwX4_ends_0 ++ dktX4_ends_1
theorem dksX4_ends_0 : cX4_ends.data.toList.drop 0 = dktX4_ends_0 := by decide +kernel
theorem dksX4_ends_1 : cX4_ends.data.toList.drop 24 = dktX4_ends_1 := dk_seg dksX4_ends_0 24 rfl rfl
theorem dksX4_ends_2 : cX4_ends.data.toList.drop 48 = dktX4_ends_2 := dk_seg dksX4_ends_1 24 rfl rfl
theorem dksX4_ends_3 : cX4_ends.data.toList.drop 72 = dktX4_ends_3 := dk_seg dksX4_ends_2 24 rfl rfl
theorem dksX4_ends_4 : cX4_ends.data.toList.drop 95 = dktX4_ends_4 := dk_seg dksX4_ends_3 23 rfl rfl
theorem dksX4_ends_5 : cX4_ends.data.toList.drop 119 = dktX4_ends_5 := dk_seg dksX4_ends_4 24 rfl rfl
theorem dX4_ends_0 : decode cX4_ends 0 = .ok (.iconst 0, 1) := dk_3 (dk_at dksX4_ends_0 0 rfl rfl)
theorem dX4_ends_1 : decode cX4_ends 1 = .ok (.istore 4, 2) := dk_54 4 (dk_at dksX4_ends_0 1 rfl rfl)
theorem dX4_ends_3 : decode cX4_ends 3 = .ok (.iload 4, 2) := dk_21 4 (dk_at dksX4_ends_0 3 rfl rfl)
theorem dX4_ends_5 : decode cX4_ends 5 = .ok (.aload_n 0, 1) := dk_42 (dk_at dksX4_ends_0 5 rfl rfl)
theorem dX4_ends_6 : decode cX4_ends 6 = .ok (.getfield 53, 3) := dk_180 0 53 (dk_at dksX4_ends_0 6 rfl rfl)
theorem dX4_ends_9 : decode cX4_ends 9 = .ok (.if_icmp .ge 53, 3) := dk_162 0 53 (dk_at dksX4_ends_0 9 rfl rfl)
theorem dX4_ends_12 : decode cX4_ends 12 = .ok (.iload 4, 2) := dk_21 4 (dk_at dksX4_ends_0 12 rfl rfl)
theorem dX4_ends_14 : decode cX4_ends 14 = .ok (.iload_n 2, 1) := dk_28 (dk_at dksX4_ends_0 14 rfl rfl)
theorem dX4_ends_15 : decode cX4_ends 15 = .ok (.if_icmp .ne 7, 3) := dk_160 0 7 (dk_at dksX4_ends_0 15 rfl rfl)
theorem dX4_ends_18 : decode cX4_ends 18 = .ok (.iload_n 3, 1) := dk_29 (dk_at dksX4_ends_0 18 rfl rfl)
theorem dX4_ends_19 : decode cX4_ends 19 = .ok (.goto 5, 3) := dk_167 0 5 (dk_at dksX4_ends_0 19 rfl rfl)
theorem dX4_ends_22 : decode cX4_ends 22 = .ok (.bipush (-2), 2) := dk_16 254 (dk_at dksX4_ends_0 22 rfl rfl)
theorem dX4_ends_24 : decode cX4_ends 24 = .ok (.istore 5, 2) := dk_54 5 (dk_at dksX4_ends_1 0 rfl rfl)
theorem dX4_ends_26 : decode cX4_ends 26 = .ok (.aload_n 0, 1) := dk_42 (dk_at dksX4_ends_1 2 rfl rfl)
theorem dX4_ends_27 : decode cX4_ends 27 = .ok (.getfield 26, 3) := dk_180 0 26 (dk_at dksX4_ends_1 3 rfl rfl)
theorem dX4_ends_30 : decode cX4_ends 30 = .ok (.iconst 2, 1) := dk_5 (dk_at dksX4_ends_1 6 rfl rfl)
theorem dX4_ends_31 : decode cX4_ends 31 = .ok (.aaload, 1) := dk_50 (dk_at dksX4_ends_1 7 rfl rfl)
theorem dX4_ends_32 : decode cX4_ends 32 = .ok (.iload 4, 2) := dk_21 4 (dk_at dksX4_ends_1 8 rfl rfl)
theorem dX4_ends_34 : decode cX4_ends 34 = .ok (.iconst 0, 1) := dk_3 (dk_at dksX4_ends_1 10 rfl rfl)
theorem dX4_ends_35 : decode cX4_ends 35 = .ok (.bipush 99, 2) := dk_16 99 (dk_at dksX4_ends_1 11 rfl rfl)
theorem dX4_ends_37 : decode cX4_ends 37 = .ok (.aload_n 0, 1) := dk_42 (dk_at dksX4_ends_1 13 rfl rfl)
theorem dX4_ends_38 : decode cX4_ends 38 = .ok (.getfield 26, 3) := dk_180 0 26 (dk_at dksX4_ends_1 14 rfl rfl)
theorem dX4_ends_41 : decode cX4_ends 41 = .ok (.iconst 2, 1) := dk_5 (dk_at dksX4_ends_1 17 rfl rfl)
theorem dX4_ends_42 : decode cX4_ends 42 = .ok (.aaload, 1) := dk_50 (dk_at dksX4_ends_1 18 rfl rfl)
theorem dX4_ends_43 : decode cX4_ends 43 = .ok (.iload 4, 2) := dk_21 4 (dk_at dksX4_ends_1 19 rfl rfl)
theorem dX4_ends_45 : decode cX4_ends 45 = .ok (.iaload, 1) := dk_46 (dk_at dksX4_ends_1 21 rfl rfl)
theorem dX4_ends_46 : decode cX4_ends 46 = .ok (.iload 5, 2) := dk_21 5 (dk_at dksX4_ends_1 22 rfl rfl)
theorem dX4_ends_48 : decode cX4_ends 48 = .ok (.iadd, 1) := dk_96 (dk_at dksX4_ends_2 0 rfl rfl)
theorem dX4_ends_49 : decode cX4_ends 49 = .ok (.invokestatic 73, 3) := dk_184 0 73 (dk_at dksX4_ends_2 1 rfl rfl)
theorem dX4_ends_52 : decode cX4_ends 52 = .ok (.invokestatic 78, 3) := dk_184 0 78 (dk_at dksX4_ends_2 4 rfl rfl)
theorem dX4_ends_55 : decode cX4_ends 55 = .ok (.iastore, 1) := dk_79 (dk_at dksX4_ends_2 7 rfl rfl)
theorem dX4_ends_56 : decode cX4_ends 56 = .ok (.iinc 4 1, 3) := dk_132 4 1 (dk_at dksX4_ends_2 8 rfl rfl)
theorem dX4_ends_59 : decode cX4_ends 59 = .ok (.goto (-56), 3) := dk_167 255 200 (dk_at dksX4_ends_2 11 rfl rfl)
theorem dX4_ends_62 : decode cX4_ends 62 = .ok (.iconst 0, 1) := dk_3 (dk_at dksX4_ends_2 14 rfl rfl)
theorem dX4_ends_63 : decode cX4_ends 63 = .ok (.istore 4, 2) := dk_54 4 (dk_at dksX4_ends_2 15 rfl rfl)
theorem dX4_ends_65 : decode cX4_ends 65 = .ok (.iload 4, 2) := dk_21 4 (dk_at dksX4_ends_2 17 rfl rfl)
theorem dX4_ends_67 : decode cX4_ends 67 = .ok (.bipush 7, 2) := dk_16 7 (dk_at dksX4_ends_2 19 rfl rfl)
theorem dX4_ends_69 : decode cX4_ends 69 = .ok (.if_icmp .ge 53, 3) := dk_162 0 53 (dk_at dksX4_ends_2 21 rfl rfl)
theorem dX4_ends_72 : decode cX4_ends 72 = .ok (.iload 4, 2) := dk_21 4 (dk_at dksX4_ends_3 0 rfl rfl)
theorem dX4_ends_74 : decode cX4_ends 74 = .ok (.iload_n 1, 1) := dk_27 (dk_at dksX4_ends_3 2 rfl rfl)
theorem dX4_ends_75 : decode cX4_ends 75 = .ok (.if_icmp .ne 8, 3) := dk_160 0 8 (dk_at dksX4_ends_3 3 rfl rfl)
theorem dX4_ends_78 : decode cX4_ends 78 = .ok (.bipush 6, 2) := dk_16 6 (dk_at dksX4_ends_3 6 rfl rfl)
theorem dX4_ends_80 : decode cX4_ends 80 = .ok (.goto 4, 3) := dk_167 0 4 (dk_at dksX4_ends_3 8 rfl rfl)
theorem dX4_ends_83 : decode cX4_ends 83 = .ok (.iconst (-1), 1) := dk_2 (dk_at dksX4_ends_3 11 rfl rfl)
theorem dX4_ends_84 : decode cX4_ends 84 = .ok (.istore 5, 2) := dk_54 5 (dk_at dksX4_ends_3 12 rfl rfl)
theorem dX4_ends_86 : decode cX4_ends 86 = .ok (.aload_n 0, 1) := dk_42 (dk_at dksX4_ends_3 14 rfl rfl)
theorem dX4_ends_87 : decode cX4_ends 87 = .ok (.getfield 17, 3) := dk_180 0 17 (dk_at dksX4_ends_3 15 rfl rfl)
theorem dX4_ends_90 : decode cX4_ends 90 = .ok (.iconst 1, 1) := dk_4 (dk_at dksX4_ends_3 18 rfl rfl)
theorem dX4_ends_91 : decode cX4_ends 91 = .ok (.aaload, 1) := dk_50 (dk_at dksX4_ends_3 19 rfl rfl)
theorem dX4_ends_92 : decode cX4_ends 92 = .ok (.iload 4, 2) := dk_21 4 (dk_at dksX4_ends_3 20 rfl rfl)
theorem dX4_ends_94 : decode cX4_ends 94 = .ok (.iconst 0, 1) := dk_3 (dk_at dksX4_ends_3 22 rfl rfl)
theorem dX4_ends_95 : decode cX4_ends 95 = .ok (.bipush 99, 2) := dk_16 99 (dk_at dksX4_ends_4 0 rfl rfl)
theorem dX4_ends_97 : decode cX4_ends 97 = .ok (.aload_n 0, 1) := dk_42 (dk_at dksX4_ends_4 2 rfl rfl)
theorem dX4_ends_98 : decode cX4_ends 98 = .ok (.getfield 17, 3) := dk_180 0 17 (dk_at dksX4_ends_4 3 rfl rfl)
theorem dX4_ends_101 : decode cX4_ends 101 = .ok (.iconst 1, 1) := dk_4 (dk_at dksX4_ends_4 6 rfl rfl)
theorem dX4_ends_102 : decode cX4_ends 102 = .ok (.aaload, 1) := dk_50 (dk_at dksX4_ends_4 7 rfl rfl)
theorem dX4_ends_103 : decode cX4_ends 103 = .ok (.iload 4, 2) := dk_21 4 (dk_at dksX4_ends_4 8 rfl rfl)
theorem dX4_ends_105 : decode cX4_ends 105 = .ok (.iaload, 1) := dk_46 (dk_at dksX4_ends_4 10 rfl rfl)
theorem dX4_ends_106 : decode cX4_ends 106 = .ok (.iload 5, 2) := dk_21 5 (dk_at dksX4_ends_4 11 rfl rfl)
theorem dX4_ends_108 : decode cX4_ends 108 = .ok (.iadd, 1) := dk_96 (dk_at dksX4_ends_4 13 rfl rfl)
theorem dX4_ends_109 : decode cX4_ends 109 = .ok (.invokestatic 73, 3) := dk_184 0 73 (dk_at dksX4_ends_4 14 rfl rfl)
theorem dX4_ends_112 : decode cX4_ends 112 = .ok (.invokestatic 78, 3) := dk_184 0 78 (dk_at dksX4_ends_4 17 rfl rfl)
theorem dX4_ends_115 : decode cX4_ends 115 = .ok (.iastore, 1) := dk_79 (dk_at dksX4_ends_4 20 rfl rfl)
theorem dX4_ends_116 : decode cX4_ends 116 = .ok (.iinc 4 1, 3) := dk_132 4 1 (dk_at dksX4_ends_4 21 rfl rfl)
theorem dX4_ends_119 : decode cX4_ends 119 = .ok (.goto (-54), 3) := dk_167 255 202 (dk_at dksX4_ends_5 0 rfl rfl)
theorem dX4_ends_122 : decode cX4_ends 122 = .ok (.aload_n 0, 1) := dk_42 (dk_at dksX4_ends_5 3 rfl rfl)
theorem dX4_ends_123 : decode cX4_ends 123 = .ok (.dup, 1) := dk_89 (dk_at dksX4_ends_5 4 rfl rfl)
theorem dX4_ends_124 : decode cX4_ends 124 = .ok (.getfield 56, 3) := dk_180 0 56 (dk_at dksX4_ends_5 5 rfl rfl)
theorem dX4_ends_127 : decode cX4_ends 127 = .ok (.iconst 1, 1) := dk_4 (dk_at dksX4_ends_5 8 rfl rfl)
theorem dX4_ends_128 : decode cX4_ends 128 = .ok (.iadd, 1) := dk_96 (dk_at dksX4_ends_5 9 rfl rfl)
theorem dX4_ends_129 : decode cX4_ends 129 = .ok (.putfield 56, 3) := dk_181 0 56 (dk_at dksX4_ends_5 10 rfl rfl)
theorem dX4_ends_132 : decode cX4_ends 132 = .ok (.return_, 1) := dk_177 (dk_at dksX4_ends_5 13 rfl rfl)
abbrev cX4_sumOf : ByteArray := prog_13_method_7_code
def yX4_sumOf : MethodName := ⟨RX4, "sumOf", "(I)I"⟩
def dkwX4_sumOf_1 : List UInt8 := [132, 3, 1, 167, 255, 234, 28, 172]
abbrev dktX4_sumOf_1 : List UInt8 := dkwX4_sumOf_1 ++ []
def dkwX4_sumOf_0 : List UInt8 := [3, 61, 3, 62, 29, 42, 180, 0, 53, 162, 0, 20, 28, 42, 180, 0, 26, 27, 50, 29, 46, 96, 61]
abbrev dktX4_sumOf_0 : List UInt8 := dkwX4_sumOf_0 ++ dktX4_sumOf_1
theorem dksX4_sumOf_0 : cX4_sumOf.data.toList.drop 0 = dktX4_sumOf_0 := by decide +kernel
theorem dksX4_sumOf_1 : cX4_sumOf.data.toList.drop 23 = dktX4_sumOf_1 := dk_seg dksX4_sumOf_0 23 rfl rfl
theorem dX4_sumOf_0 : decode cX4_sumOf 0 = .ok (.iconst 0, 1) := dk_3 (dk_at dksX4_sumOf_0 0 rfl rfl)
theorem dX4_sumOf_1 : decode cX4_sumOf 1 = .ok (.istore_n 2, 1) := dk_61 (dk_at dksX4_sumOf_0 1 rfl rfl)
theorem dX4_sumOf_2 : decode cX4_sumOf 2 = .ok (.iconst 0, 1) := dk_3 (dk_at dksX4_sumOf_0 2 rfl rfl)
theorem dX4_sumOf_3 : decode cX4_sumOf 3 = .ok (.istore_n 3, 1) := dk_62 (dk_at dksX4_sumOf_0 3 rfl rfl)
theorem dX4_sumOf_4 : decode cX4_sumOf 4 = .ok (.iload_n 3, 1) := dk_29 (dk_at dksX4_sumOf_0 4 rfl rfl)
theorem dX4_sumOf_5 : decode cX4_sumOf 5 = .ok (.aload_n 0, 1) := dk_42 (dk_at dksX4_sumOf_0 5 rfl rfl)
theorem dX4_sumOf_6 : decode cX4_sumOf 6 = .ok (.getfield 53, 3) := dk_180 0 53 (dk_at dksX4_sumOf_0 6 rfl rfl)
theorem dX4_sumOf_9 : decode cX4_sumOf 9 = .ok (.if_icmp .ge 20, 3) := dk_162 0 20 (dk_at dksX4_sumOf_0 9 rfl rfl)
theorem dX4_sumOf_12 : decode cX4_sumOf 12 = .ok (.iload_n 2, 1) := dk_28 (dk_at dksX4_sumOf_0 12 rfl rfl)
theorem dX4_sumOf_13 : decode cX4_sumOf 13 = .ok (.aload_n 0, 1) := dk_42 (dk_at dksX4_sumOf_0 13 rfl rfl)
theorem dX4_sumOf_14 : decode cX4_sumOf 14 = .ok (.getfield 26, 3) := dk_180 0 26 (dk_at dksX4_sumOf_0 14 rfl rfl)
theorem dX4_sumOf_17 : decode cX4_sumOf 17 = .ok (.iload_n 1, 1) := dk_27 (dk_at dksX4_sumOf_0 17 rfl rfl)
theorem dX4_sumOf_18 : decode cX4_sumOf 18 = .ok (.aaload, 1) := dk_50 (dk_at dksX4_sumOf_0 18 rfl rfl)
theorem dX4_sumOf_19 : decode cX4_sumOf 19 = .ok (.iload_n 3, 1) := dk_29 (dk_at dksX4_sumOf_0 19 rfl rfl)
theorem dX4_sumOf_20 : decode cX4_sumOf 20 = .ok (.iaload, 1) := dk_46 (dk_at dksX4_sumOf_0 20 rfl rfl)
theorem dX4_sumOf_21 : decode cX4_sumOf 21 = .ok (.iadd, 1) := dk_96 (dk_at dksX4_sumOf_0 21 rfl rfl)
theorem dX4_sumOf_22 : decode cX4_sumOf 22 = .ok (.istore_n 2, 1) := dk_61 (dk_at dksX4_sumOf_0 22 rfl rfl)
theorem dX4_sumOf_23 : decode cX4_sumOf 23 = .ok (.iinc 3 1, 3) := dk_132 3 1 (dk_at dksX4_sumOf_1 0 rfl rfl)
theorem dX4_sumOf_26 : decode cX4_sumOf 26 = .ok (.goto (-22), 3) := dk_167 255 234 (dk_at dksX4_sumOf_1 3 rfl rfl)
theorem dX4_sumOf_29 : decode cX4_sumOf 29 = .ok (.iload_n 2, 1) := dk_28 (dk_at dksX4_sumOf_1 6 rfl rfl)
theorem dX4_sumOf_30 : decode cX4_sumOf 30 = .ok (.ireturn, 1) := dk_172 (dk_at dksX4_sumOf_1 7 rfl rfl)
abbrev cX4_said : ByteArray := prog_13_method_13_code
def yX4_said : MethodName := ⟨RX4, "said", "(I)I"⟩
def dkwX4_said_2 : List UInt8 := [28, 172]
abbrev dktX4_said_2 : List UInt8 := dkwX4_said_2 ++ []
def dkwX4_said_1 : List UInt8 := [29, 46, 42, 180, 0, 20, 5, 46, 184, 0, 64, 120, 167, 0, 4, 3, 128, 61, 132, 3, 1, 167, 255, 215]
abbrev dktX4_said_1 : List UInt8 := dkwX4_said_1 ++ dktX4_said_2
def dkwX4_said_0 : List UInt8 := [3, 61, 3, 62, 29, 16, 6, 162, 0, 41, 28, 27, 29, 184, 0, 68, 153, 0, 23, 4, 42, 180, 0, 23]
abbrev dktX4_said_0 : List UInt8 := dkwX4_said_0 ++ dktX4_said_1
theorem dksX4_said_0 : cX4_said.data.toList.drop 0 = dktX4_said_0 := by decide +kernel
theorem dksX4_said_1 : cX4_said.data.toList.drop 24 = dktX4_said_1 := dk_seg dksX4_said_0 24 rfl rfl
theorem dksX4_said_2 : cX4_said.data.toList.drop 48 = dktX4_said_2 := dk_seg dksX4_said_1 24 rfl rfl
theorem dX4_said_0 : decode cX4_said 0 = .ok (.iconst 0, 1) := dk_3 (dk_at dksX4_said_0 0 rfl rfl)
theorem dX4_said_1 : decode cX4_said 1 = .ok (.istore_n 2, 1) := dk_61 (dk_at dksX4_said_0 1 rfl rfl)
theorem dX4_said_2 : decode cX4_said 2 = .ok (.iconst 0, 1) := dk_3 (dk_at dksX4_said_0 2 rfl rfl)
theorem dX4_said_3 : decode cX4_said 3 = .ok (.istore_n 3, 1) := dk_62 (dk_at dksX4_said_0 3 rfl rfl)
theorem dX4_said_4 : decode cX4_said 4 = .ok (.iload_n 3, 1) := dk_29 (dk_at dksX4_said_0 4 rfl rfl)
theorem dX4_said_5 : decode cX4_said 5 = .ok (.bipush 6, 2) := dk_16 6 (dk_at dksX4_said_0 5 rfl rfl)
theorem dX4_said_7 : decode cX4_said 7 = .ok (.if_icmp .ge 41, 3) := dk_162 0 41 (dk_at dksX4_said_0 7 rfl rfl)
theorem dX4_said_10 : decode cX4_said 10 = .ok (.iload_n 2, 1) := dk_28 (dk_at dksX4_said_0 10 rfl rfl)
theorem dX4_said_11 : decode cX4_said 11 = .ok (.iload_n 1, 1) := dk_27 (dk_at dksX4_said_0 11 rfl rfl)
theorem dX4_said_12 : decode cX4_said 12 = .ok (.iload_n 3, 1) := dk_29 (dk_at dksX4_said_0 12 rfl rfl)
theorem dX4_said_13 : decode cX4_said 13 = .ok (.invokestatic 68, 3) := dk_184 0 68 (dk_at dksX4_said_0 13 rfl rfl)
theorem dX4_said_16 : decode cX4_said 16 = .ok (.ifCond .eq 23, 3) := dk_153 0 23 (dk_at dksX4_said_0 16 rfl rfl)
theorem dX4_said_19 : decode cX4_said 19 = .ok (.iconst 1, 1) := dk_4 (dk_at dksX4_said_0 19 rfl rfl)
theorem dX4_said_20 : decode cX4_said 20 = .ok (.aload_n 0, 1) := dk_42 (dk_at dksX4_said_0 20 rfl rfl)
theorem dX4_said_21 : decode cX4_said 21 = .ok (.getfield 23, 3) := dk_180 0 23 (dk_at dksX4_said_0 21 rfl rfl)
theorem dX4_said_24 : decode cX4_said 24 = .ok (.iload_n 3, 1) := dk_29 (dk_at dksX4_said_1 0 rfl rfl)
theorem dX4_said_25 : decode cX4_said 25 = .ok (.iaload, 1) := dk_46 (dk_at dksX4_said_1 1 rfl rfl)
theorem dX4_said_26 : decode cX4_said 26 = .ok (.aload_n 0, 1) := dk_42 (dk_at dksX4_said_1 2 rfl rfl)
theorem dX4_said_27 : decode cX4_said 27 = .ok (.getfield 20, 3) := dk_180 0 20 (dk_at dksX4_said_1 3 rfl rfl)
theorem dX4_said_30 : decode cX4_said 30 = .ok (.iconst 2, 1) := dk_5 (dk_at dksX4_said_1 6 rfl rfl)
theorem dX4_said_31 : decode cX4_said 31 = .ok (.iaload, 1) := dk_46 (dk_at dksX4_said_1 7 rfl rfl)
theorem dX4_said_32 : decode cX4_said 32 = .ok (.invokestatic 64, 3) := dk_184 0 64 (dk_at dksX4_said_1 8 rfl rfl)
theorem dX4_said_35 : decode cX4_said 35 = .ok (.ishl, 1) := dk_120 (dk_at dksX4_said_1 11 rfl rfl)
theorem dX4_said_36 : decode cX4_said 36 = .ok (.goto 4, 3) := dk_167 0 4 (dk_at dksX4_said_1 12 rfl rfl)
theorem dX4_said_39 : decode cX4_said 39 = .ok (.iconst 0, 1) := dk_3 (dk_at dksX4_said_1 15 rfl rfl)
theorem dX4_said_40 : decode cX4_said 40 = .ok (.ior, 1) := dk_128 (dk_at dksX4_said_1 16 rfl rfl)
theorem dX4_said_41 : decode cX4_said 41 = .ok (.istore_n 2, 1) := dk_61 (dk_at dksX4_said_1 17 rfl rfl)
theorem dX4_said_42 : decode cX4_said 42 = .ok (.iinc 3 1, 3) := dk_132 3 1 (dk_at dksX4_said_1 18 rfl rfl)
theorem dX4_said_45 : decode cX4_said 45 = .ok (.goto (-41), 3) := dk_167 255 215 (dk_at dksX4_said_1 21 rfl rfl)
theorem dX4_said_48 : decode cX4_said 48 = .ok (.iload_n 2, 1) := dk_28 (dk_at dksX4_said_2 0 rfl rfl)
theorem dX4_said_49 : decode cX4_said 49 = .ok (.ireturn, 1) := dk_172 (dk_at dksX4_said_2 1 rfl rfl)
abbrev cX4_become : ByteArray := prog_13_method_4_code
def yX4_become : MethodName := ⟨RX4, "become", "(LLineCalls$World;)V"⟩
def dkwX4_become_4 : List UInt8 := [180, 0, 33, 184, 0, 42, 177]
abbrev dktX4_become_4 : List UInt8 := dkwX4_become_4 ++ []
def dkwX4_become_3 : List UInt8 := [184, 0, 46, 42, 43, 180, 0, 56, 181, 0, 56, 42, 43, 180, 0, 29, 181, 0, 29, 43, 180, 0, 33, 42]
abbrev dktX4_become_3 : List UInt8 := dkwX4_become_3 ++ dktX4_become_4
def dkwX4_become_2 : List UInt8 := [180, 0, 50, 181, 0, 50, 42, 43, 180, 0, 53, 181, 0, 53, 43, 180, 0, 26, 42, 180, 0, 26]
abbrev dktX4_become_2 : List UInt8 := dkwX4_become_2 ++ dktX4_become_3
def dkwX4_become_1 : List UInt8 := [180, 0, 20, 42, 180, 0, 20, 184, 0, 42, 43, 180, 0, 23, 42, 180, 0, 23, 184, 0, 42, 42, 43]
abbrev dktX4_become_1 : List UInt8 := dkwX4_become_1 ++ dktX4_become_2
def dkwX4_become_0 : List UInt8 := [43, 180, 0, 9, 42, 180, 0, 9, 184, 0, 42, 43, 180, 0, 17, 42, 180, 0, 17, 184, 0, 46, 43]
abbrev dktX4_become_0 : List UInt8 := dkwX4_become_0 ++ dktX4_become_1
theorem dksX4_become_0 : cX4_become.data.toList.drop 0 = dktX4_become_0 := by decide +kernel
theorem dksX4_become_1 : cX4_become.data.toList.drop 23 = dktX4_become_1 := dk_seg dksX4_become_0 23 rfl rfl
theorem dksX4_become_2 : cX4_become.data.toList.drop 46 = dktX4_become_2 := dk_seg dksX4_become_1 23 rfl rfl
theorem dksX4_become_3 : cX4_become.data.toList.drop 68 = dktX4_become_3 := dk_seg dksX4_become_2 22 rfl rfl
theorem dksX4_become_4 : cX4_become.data.toList.drop 92 = dktX4_become_4 := dk_seg dksX4_become_3 24 rfl rfl
theorem dX4_become_0 : decode cX4_become 0 = .ok (.aload_n 1, 1) := dk_43 (dk_at dksX4_become_0 0 rfl rfl)
theorem dX4_become_1 : decode cX4_become 1 = .ok (.getfield 9, 3) := dk_180 0 9 (dk_at dksX4_become_0 1 rfl rfl)
theorem dX4_become_4 : decode cX4_become 4 = .ok (.aload_n 0, 1) := dk_42 (dk_at dksX4_become_0 4 rfl rfl)
theorem dX4_become_5 : decode cX4_become 5 = .ok (.getfield 9, 3) := dk_180 0 9 (dk_at dksX4_become_0 5 rfl rfl)
theorem dX4_become_8 : decode cX4_become 8 = .ok (.invokestatic 42, 3) := dk_184 0 42 (dk_at dksX4_become_0 8 rfl rfl)
theorem dX4_become_11 : decode cX4_become 11 = .ok (.aload_n 1, 1) := dk_43 (dk_at dksX4_become_0 11 rfl rfl)
theorem dX4_become_12 : decode cX4_become 12 = .ok (.getfield 17, 3) := dk_180 0 17 (dk_at dksX4_become_0 12 rfl rfl)
theorem dX4_become_15 : decode cX4_become 15 = .ok (.aload_n 0, 1) := dk_42 (dk_at dksX4_become_0 15 rfl rfl)
theorem dX4_become_16 : decode cX4_become 16 = .ok (.getfield 17, 3) := dk_180 0 17 (dk_at dksX4_become_0 16 rfl rfl)
theorem dX4_become_19 : decode cX4_become 19 = .ok (.invokestatic 46, 3) := dk_184 0 46 (dk_at dksX4_become_0 19 rfl rfl)
theorem dX4_become_22 : decode cX4_become 22 = .ok (.aload_n 1, 1) := dk_43 (dk_at dksX4_become_0 22 rfl rfl)
theorem dX4_become_23 : decode cX4_become 23 = .ok (.getfield 20, 3) := dk_180 0 20 (dk_at dksX4_become_1 0 rfl rfl)
theorem dX4_become_26 : decode cX4_become 26 = .ok (.aload_n 0, 1) := dk_42 (dk_at dksX4_become_1 3 rfl rfl)
theorem dX4_become_27 : decode cX4_become 27 = .ok (.getfield 20, 3) := dk_180 0 20 (dk_at dksX4_become_1 4 rfl rfl)
theorem dX4_become_30 : decode cX4_become 30 = .ok (.invokestatic 42, 3) := dk_184 0 42 (dk_at dksX4_become_1 7 rfl rfl)
theorem dX4_become_33 : decode cX4_become 33 = .ok (.aload_n 1, 1) := dk_43 (dk_at dksX4_become_1 10 rfl rfl)
theorem dX4_become_34 : decode cX4_become 34 = .ok (.getfield 23, 3) := dk_180 0 23 (dk_at dksX4_become_1 11 rfl rfl)
theorem dX4_become_37 : decode cX4_become 37 = .ok (.aload_n 0, 1) := dk_42 (dk_at dksX4_become_1 14 rfl rfl)
theorem dX4_become_38 : decode cX4_become 38 = .ok (.getfield 23, 3) := dk_180 0 23 (dk_at dksX4_become_1 15 rfl rfl)
theorem dX4_become_41 : decode cX4_become 41 = .ok (.invokestatic 42, 3) := dk_184 0 42 (dk_at dksX4_become_1 18 rfl rfl)
theorem dX4_become_44 : decode cX4_become 44 = .ok (.aload_n 0, 1) := dk_42 (dk_at dksX4_become_1 21 rfl rfl)
theorem dX4_become_45 : decode cX4_become 45 = .ok (.aload_n 1, 1) := dk_43 (dk_at dksX4_become_1 22 rfl rfl)
theorem dX4_become_46 : decode cX4_become 46 = .ok (.getfield 50, 3) := dk_180 0 50 (dk_at dksX4_become_2 0 rfl rfl)
theorem dX4_become_49 : decode cX4_become 49 = .ok (.putfield 50, 3) := dk_181 0 50 (dk_at dksX4_become_2 3 rfl rfl)
theorem dX4_become_52 : decode cX4_become 52 = .ok (.aload_n 0, 1) := dk_42 (dk_at dksX4_become_2 6 rfl rfl)
theorem dX4_become_53 : decode cX4_become 53 = .ok (.aload_n 1, 1) := dk_43 (dk_at dksX4_become_2 7 rfl rfl)
theorem dX4_become_54 : decode cX4_become 54 = .ok (.getfield 53, 3) := dk_180 0 53 (dk_at dksX4_become_2 8 rfl rfl)
theorem dX4_become_57 : decode cX4_become 57 = .ok (.putfield 53, 3) := dk_181 0 53 (dk_at dksX4_become_2 11 rfl rfl)
theorem dX4_become_60 : decode cX4_become 60 = .ok (.aload_n 1, 1) := dk_43 (dk_at dksX4_become_2 14 rfl rfl)
theorem dX4_become_61 : decode cX4_become 61 = .ok (.getfield 26, 3) := dk_180 0 26 (dk_at dksX4_become_2 15 rfl rfl)
theorem dX4_become_64 : decode cX4_become 64 = .ok (.aload_n 0, 1) := dk_42 (dk_at dksX4_become_2 18 rfl rfl)
theorem dX4_become_65 : decode cX4_become 65 = .ok (.getfield 26, 3) := dk_180 0 26 (dk_at dksX4_become_2 19 rfl rfl)
theorem dX4_become_68 : decode cX4_become 68 = .ok (.invokestatic 46, 3) := dk_184 0 46 (dk_at dksX4_become_3 0 rfl rfl)
theorem dX4_become_71 : decode cX4_become 71 = .ok (.aload_n 0, 1) := dk_42 (dk_at dksX4_become_3 3 rfl rfl)
theorem dX4_become_72 : decode cX4_become 72 = .ok (.aload_n 1, 1) := dk_43 (dk_at dksX4_become_3 4 rfl rfl)
theorem dX4_become_73 : decode cX4_become 73 = .ok (.getfield 56, 3) := dk_180 0 56 (dk_at dksX4_become_3 5 rfl rfl)
theorem dX4_become_76 : decode cX4_become 76 = .ok (.putfield 56, 3) := dk_181 0 56 (dk_at dksX4_become_3 8 rfl rfl)
theorem dX4_become_79 : decode cX4_become 79 = .ok (.aload_n 0, 1) := dk_42 (dk_at dksX4_become_3 11 rfl rfl)
theorem dX4_become_80 : decode cX4_become 80 = .ok (.aload_n 1, 1) := dk_43 (dk_at dksX4_become_3 12 rfl rfl)
theorem dX4_become_81 : decode cX4_become 81 = .ok (.getfield 29, 3) := dk_180 0 29 (dk_at dksX4_become_3 13 rfl rfl)
theorem dX4_become_84 : decode cX4_become 84 = .ok (.putfield 29, 3) := dk_181 0 29 (dk_at dksX4_become_3 16 rfl rfl)
theorem dX4_become_87 : decode cX4_become 87 = .ok (.aload_n 1, 1) := dk_43 (dk_at dksX4_become_3 19 rfl rfl)
theorem dX4_become_88 : decode cX4_become 88 = .ok (.getfield 33, 3) := dk_180 0 33 (dk_at dksX4_become_3 20 rfl rfl)
theorem dX4_become_91 : decode cX4_become 91 = .ok (.aload_n 0, 1) := dk_42 (dk_at dksX4_become_3 23 rfl rfl)
theorem dX4_become_92 : decode cX4_become 92 = .ok (.getfield 33, 3) := dk_180 0 33 (dk_at dksX4_become_4 0 rfl rfl)
theorem dX4_become_95 : decode cX4_become 95 = .ok (.invokestatic 42, 3) := dk_184 0 42 (dk_at dksX4_become_4 3 rfl rfl)
theorem dX4_become_98 : decode cX4_become 98 = .ok (.return_, 1) := dk_177 (dk_at dksX4_become_4 6 rfl rfl)
abbrev cX4_copy : ByteArray := prog_13_method_2_code
def yX4_copy : MethodName := ⟨RX4, "copy", "([I[I)V"⟩
def dkwX4_copy_0 : List UInt8 := [42, 3, 43, 3, 43, 190, 184, 0, 36, 177]
abbrev dktX4_copy_0 : List UInt8 := dkwX4_copy_0 ++ []
theorem dksX4_copy_0 : cX4_copy.data.toList.drop 0 = dktX4_copy_0 := by decide +kernel
theorem dX4_copy_0 : decode cX4_copy 0 = .ok (.aload_n 0, 1) := dk_42 (dk_at dksX4_copy_0 0 rfl rfl)
theorem dX4_copy_1 : decode cX4_copy 1 = .ok (.iconst 0, 1) := dk_3 (dk_at dksX4_copy_0 1 rfl rfl)
theorem dX4_copy_2 : decode cX4_copy 2 = .ok (.aload_n 1, 1) := dk_43 (dk_at dksX4_copy_0 2 rfl rfl)
theorem dX4_copy_3 : decode cX4_copy 3 = .ok (.iconst 0, 1) := dk_3 (dk_at dksX4_copy_0 3 rfl rfl)
theorem dX4_copy_4 : decode cX4_copy 4 = .ok (.aload_n 1, 1) := dk_43 (dk_at dksX4_copy_0 4 rfl rfl)
theorem dX4_copy_5 : decode cX4_copy 5 = .ok (.arraylength, 1) := dk_190 (dk_at dksX4_copy_0 5 rfl rfl)
theorem dX4_copy_6 : decode cX4_copy 6 = .ok (.invokestatic 36, 3) := dk_184 0 36 (dk_at dksX4_copy_0 6 rfl rfl)
theorem dX4_copy_9 : decode cX4_copy 9 = .ok (.return_, 1) := dk_177 (dk_at dksX4_copy_0 9 rfl rfl)
abbrev cX4_copyAll : ByteArray := prog_13_method_3_code
def yX4_copyAll : MethodName := ⟨RX4, "copyAll", "([[I[[I)V"⟩
def dkwX4_copyAll_0 : List UInt8 := [3, 61, 28, 43, 190, 162, 0, 18, 42, 28, 50, 43, 28, 50, 184, 0, 42, 132, 2, 1, 167, 255, 238, 177]
abbrev dktX4_copyAll_0 : List UInt8 := dkwX4_copyAll_0 ++ []
theorem dksX4_copyAll_0 : cX4_copyAll.data.toList.drop 0 = dktX4_copyAll_0 := by decide +kernel
theorem dX4_copyAll_0 : decode cX4_copyAll 0 = .ok (.iconst 0, 1) := dk_3 (dk_at dksX4_copyAll_0 0 rfl rfl)
theorem dX4_copyAll_1 : decode cX4_copyAll 1 = .ok (.istore_n 2, 1) := dk_61 (dk_at dksX4_copyAll_0 1 rfl rfl)
theorem dX4_copyAll_2 : decode cX4_copyAll 2 = .ok (.iload_n 2, 1) := dk_28 (dk_at dksX4_copyAll_0 2 rfl rfl)
theorem dX4_copyAll_3 : decode cX4_copyAll 3 = .ok (.aload_n 1, 1) := dk_43 (dk_at dksX4_copyAll_0 3 rfl rfl)
theorem dX4_copyAll_4 : decode cX4_copyAll 4 = .ok (.arraylength, 1) := dk_190 (dk_at dksX4_copyAll_0 4 rfl rfl)
theorem dX4_copyAll_5 : decode cX4_copyAll 5 = .ok (.if_icmp .ge 18, 3) := dk_162 0 18 (dk_at dksX4_copyAll_0 5 rfl rfl)
theorem dX4_copyAll_8 : decode cX4_copyAll 8 = .ok (.aload_n 0, 1) := dk_42 (dk_at dksX4_copyAll_0 8 rfl rfl)
theorem dX4_copyAll_9 : decode cX4_copyAll 9 = .ok (.iload_n 2, 1) := dk_28 (dk_at dksX4_copyAll_0 9 rfl rfl)
theorem dX4_copyAll_10 : decode cX4_copyAll 10 = .ok (.aaload, 1) := dk_50 (dk_at dksX4_copyAll_0 10 rfl rfl)
theorem dX4_copyAll_11 : decode cX4_copyAll 11 = .ok (.aload_n 1, 1) := dk_43 (dk_at dksX4_copyAll_0 11 rfl rfl)
theorem dX4_copyAll_12 : decode cX4_copyAll 12 = .ok (.iload_n 2, 1) := dk_28 (dk_at dksX4_copyAll_0 12 rfl rfl)
theorem dX4_copyAll_13 : decode cX4_copyAll 13 = .ok (.aaload, 1) := dk_50 (dk_at dksX4_copyAll_0 13 rfl rfl)
theorem dX4_copyAll_14 : decode cX4_copyAll 14 = .ok (.invokestatic 42, 3) := dk_184 0 42 (dk_at dksX4_copyAll_0 14 rfl rfl)
theorem dX4_copyAll_17 : decode cX4_copyAll 17 = .ok (.iinc 2 1, 3) := dk_132 2 1 (dk_at dksX4_copyAll_0 17 rfl rfl)
theorem dX4_copyAll_20 : decode cX4_copyAll 20 = .ok (.goto (-18), 3) := dk_167 255 238 (dk_at dksX4_copyAll_0 20 rfl rfl)
theorem dX4_copyAll_23 : decode cX4_copyAll 23 = .ok (.return_, 1) := dk_177 (dk_at dksX4_copyAll_0 23 rfl rfl)
abbrev cX4_changes : ByteArray := prog_13_method_10_code
def yX4_changes : MethodName := ⟨RX4, "changes", "(II)V"⟩
def dkwX4_changes_1 : List UInt8 := [159, 0, 16, 29, 27, 159, 0, 11, 42, 180, 0, 9, 29, 21, 4, 79, 177]
abbrev dktX4_changes_1 : List UInt8 := dkwX4_changes_1 ++ []
def dkwX4_changes_0 : List UInt8 := [42, 28, 182, 0, 60, 62, 42, 180, 0, 9, 27, 46, 54, 4, 42, 180, 0, 9, 27, 28, 79, 29, 2]
abbrev dktX4_changes_0 : List UInt8 := dkwX4_changes_0 ++ dktX4_changes_1
theorem dksX4_changes_0 : cX4_changes.data.toList.drop 0 = dktX4_changes_0 := by decide +kernel
theorem dksX4_changes_1 : cX4_changes.data.toList.drop 23 = dktX4_changes_1 := dk_seg dksX4_changes_0 23 rfl rfl
theorem dX4_changes_0 : decode cX4_changes 0 = .ok (.aload_n 0, 1) := dk_42 (dk_at dksX4_changes_0 0 rfl rfl)
theorem dX4_changes_1 : decode cX4_changes 1 = .ok (.iload_n 2, 1) := dk_28 (dk_at dksX4_changes_0 1 rfl rfl)
theorem dX4_changes_2 : decode cX4_changes 2 = .ok (.invokevirtual 60, 3) := dk_182 0 60 (dk_at dksX4_changes_0 2 rfl rfl)
theorem dX4_changes_5 : decode cX4_changes 5 = .ok (.istore_n 3, 1) := dk_62 (dk_at dksX4_changes_0 5 rfl rfl)
theorem dX4_changes_6 : decode cX4_changes 6 = .ok (.aload_n 0, 1) := dk_42 (dk_at dksX4_changes_0 6 rfl rfl)
theorem dX4_changes_7 : decode cX4_changes 7 = .ok (.getfield 9, 3) := dk_180 0 9 (dk_at dksX4_changes_0 7 rfl rfl)
theorem dX4_changes_10 : decode cX4_changes 10 = .ok (.iload_n 1, 1) := dk_27 (dk_at dksX4_changes_0 10 rfl rfl)
theorem dX4_changes_11 : decode cX4_changes 11 = .ok (.iaload, 1) := dk_46 (dk_at dksX4_changes_0 11 rfl rfl)
theorem dX4_changes_12 : decode cX4_changes 12 = .ok (.istore 4, 2) := dk_54 4 (dk_at dksX4_changes_0 12 rfl rfl)
theorem dX4_changes_14 : decode cX4_changes 14 = .ok (.aload_n 0, 1) := dk_42 (dk_at dksX4_changes_0 14 rfl rfl)
theorem dX4_changes_15 : decode cX4_changes 15 = .ok (.getfield 9, 3) := dk_180 0 9 (dk_at dksX4_changes_0 15 rfl rfl)
theorem dX4_changes_18 : decode cX4_changes 18 = .ok (.iload_n 1, 1) := dk_27 (dk_at dksX4_changes_0 18 rfl rfl)
theorem dX4_changes_19 : decode cX4_changes 19 = .ok (.iload_n 2, 1) := dk_28 (dk_at dksX4_changes_0 19 rfl rfl)
theorem dX4_changes_20 : decode cX4_changes 20 = .ok (.iastore, 1) := dk_79 (dk_at dksX4_changes_0 20 rfl rfl)
theorem dX4_changes_21 : decode cX4_changes 21 = .ok (.iload_n 3, 1) := dk_29 (dk_at dksX4_changes_0 21 rfl rfl)
theorem dX4_changes_22 : decode cX4_changes 22 = .ok (.iconst (-1), 1) := dk_2 (dk_at dksX4_changes_0 22 rfl rfl)
theorem dX4_changes_23 : decode cX4_changes 23 = .ok (.if_icmp .eq 16, 3) := dk_159 0 16 (dk_at dksX4_changes_1 0 rfl rfl)
theorem dX4_changes_26 : decode cX4_changes 26 = .ok (.iload_n 3, 1) := dk_29 (dk_at dksX4_changes_1 3 rfl rfl)
theorem dX4_changes_27 : decode cX4_changes 27 = .ok (.iload_n 1, 1) := dk_27 (dk_at dksX4_changes_1 4 rfl rfl)
theorem dX4_changes_28 : decode cX4_changes 28 = .ok (.if_icmp .eq 11, 3) := dk_159 0 11 (dk_at dksX4_changes_1 5 rfl rfl)
theorem dX4_changes_31 : decode cX4_changes 31 = .ok (.aload_n 0, 1) := dk_42 (dk_at dksX4_changes_1 8 rfl rfl)
theorem dX4_changes_32 : decode cX4_changes 32 = .ok (.getfield 9, 3) := dk_180 0 9 (dk_at dksX4_changes_1 9 rfl rfl)
theorem dX4_changes_35 : decode cX4_changes 35 = .ok (.iload_n 3, 1) := dk_29 (dk_at dksX4_changes_1 12 rfl rfl)
theorem dX4_changes_36 : decode cX4_changes 36 = .ok (.iload 4, 2) := dk_21 4 (dk_at dksX4_changes_1 13 rfl rfl)
theorem dX4_changes_38 : decode cX4_changes 38 = .ok (.iastore, 1) := dk_79 (dk_at dksX4_changes_1 15 rfl rfl)
theorem dX4_changes_39 : decode cX4_changes 39 = .ok (.return_, 1) := dk_177 (dk_at dksX4_changes_1 16 rfl rfl)
abbrev cX4_draw : ByteArray := prog_13_method_5_code
def yX4_draw : MethodName := ⟨RX4, "draw", "()I"⟩
def dkwX4_draw_0 : List UInt8 := [42, 42, 180, 0, 29, 18, 59, 104, 17, 48, 57, 96, 181, 0, 29, 42, 180, 0, 29, 16, 8, 124, 172]
abbrev dktX4_draw_0 : List UInt8 := dkwX4_draw_0 ++ []
theorem dksX4_draw_0 : cX4_draw.data.toList.drop 0 = dktX4_draw_0 := by decide +kernel
theorem dX4_draw_0 : decode cX4_draw 0 = .ok (.aload_n 0, 1) := dk_42 (dk_at dksX4_draw_0 0 rfl rfl)
theorem dX4_draw_1 : decode cX4_draw 1 = .ok (.aload_n 0, 1) := dk_42 (dk_at dksX4_draw_0 1 rfl rfl)
theorem dX4_draw_2 : decode cX4_draw 2 = .ok (.getfield 29, 3) := dk_180 0 29 (dk_at dksX4_draw_0 2 rfl rfl)
theorem dX4_draw_5 : decode cX4_draw 5 = .ok (.ldc 59, 2) := dk_18 59 (dk_at dksX4_draw_0 5 rfl rfl)
theorem dX4_draw_7 : decode cX4_draw 7 = .ok (.imul, 1) := dk_104 (dk_at dksX4_draw_0 7 rfl rfl)
theorem dX4_draw_8 : decode cX4_draw 8 = .ok (.sipush 12345, 3) := dk_17 48 57 (dk_at dksX4_draw_0 8 rfl rfl)
theorem dX4_draw_11 : decode cX4_draw 11 = .ok (.iadd, 1) := dk_96 (dk_at dksX4_draw_0 11 rfl rfl)
theorem dX4_draw_12 : decode cX4_draw 12 = .ok (.putfield 29, 3) := dk_181 0 29 (dk_at dksX4_draw_0 12 rfl rfl)
theorem dX4_draw_15 : decode cX4_draw 15 = .ok (.aload_n 0, 1) := dk_42 (dk_at dksX4_draw_0 15 rfl rfl)
theorem dX4_draw_16 : decode cX4_draw 16 = .ok (.getfield 29, 3) := dk_180 0 29 (dk_at dksX4_draw_0 16 rfl rfl)
theorem dX4_draw_19 : decode cX4_draw 19 = .ok (.bipush 8, 2) := dk_16 8 (dk_at dksX4_draw_0 19 rfl rfl)
theorem dX4_draw_21 : decode cX4_draw 21 = .ok (.iushr, 1) := dk_124 (dk_at dksX4_draw_0 21 rfl rfl)
theorem dX4_draw_22 : decode cX4_draw 22 = .ok (.ireturn, 1) := dk_172 (dk_at dksX4_draw_0 22 rfl rfl)
theorem q97 : (Jvm.Cond.initialized "LineCalls$World") ∈ lw_all := lw_g (lw_at lw_m1 8 rfl) rfl
theorem q212 : (Jvm.Cond.instantiable "LineCalls$World" (10 : Nat)) ∈ lw_all := lw_g (lw_at lw_m1 123 rfl) rfl
theorem q214 : (Jvm.Cond.instanceMethod ({ cls := "LineCalls$World", name := "<init>", desc := "()V" } : Jvm.MethodName)) ∈ lw_all := lw_g (lw_at lw_m1 125 rfl) rfl
theorem q215 : (Jvm.Cond.code ({ cls := "LineCalls$World", name := "<init>", desc := "()V" } : Jvm.MethodName) prog_13_method_1_code (2 : Nat) (Option.none : Option Jvm.ClassFile.FieldType)) ∈ lw_all := lw_g (lw_at lw_m1 126 rfl) rfl
theorem q216 : (Jvm.Cond.methodLink "LineCalls$World" (3 : Nat) ({ cls := "java/lang/Object", name := "<init>", desc := "()V" } : Jvm.MethodName)) ∈ lw_all := lw_g (lw_at lw_m1 127 rfl) rfl
theorem q217 : (Jvm.Cond.classLink "LineCalls$World" (15 : Nat) "[[I") ∈ lw_all := lw_g (lw_at lw_m1 128 rfl) rfl
theorem q219 : (Jvm.Cond.fieldLink "LineCalls$World" (9 : Nat) "LineCalls$World" "line" "[I") ∈ lw_all := lw_g (lw_at lw_m1 130 rfl) rfl
theorem q222 : (Jvm.Cond.fieldLink "LineCalls$World" (17 : Nat) "LineCalls$World" "theirs" "[[I") ∈ lw_all := lw_g (lw_at lw_m1 133 rfl) rfl
theorem q225 : (Jvm.Cond.fieldLink "LineCalls$World" (20 : Nat) "LineCalls$World" "sets" "[I") ∈ lw_all := lw_g (lw_at lw_m1 136 rfl) rfl
theorem q232 : (Jvm.Cond.fieldLink "LineCalls$World" (23 : Nat) "LineCalls$World" "list" "[I") ∈ lw_all := lw_g (lw_at lw_m1 143 rfl) rfl
theorem q235 : (Jvm.Cond.fieldLink "LineCalls$World" (50 : Nat) "LineCalls$World" "metres" "I") ∈ lw_all := lw_g (lw_at lw_m1 146 rfl) rfl
theorem q237 : (Jvm.Cond.fieldLink "LineCalls$World" (53 : Nat) "LineCalls$World" "jumpers" "I") ∈ lw_all := lw_g (lw_at lw_m1 148 rfl) rfl
theorem q240 : (Jvm.Cond.fieldLink "LineCalls$World" (26 : Nat) "LineCalls$World" "jumper" "[[I") ∈ lw_all := lw_g (lw_at lw_m1 151 rfl) rfl
theorem q245 : (Jvm.Cond.fieldLink "LineCalls$World" (56 : Nat) "LineCalls$World" "thrown" "I") ∈ lw_all := lw_g (lw_at lw_m1 156 rfl) rfl
theorem q247 : (Jvm.Cond.fieldLink "LineCalls$World" (29 : Nat) "LineCalls$World" "z" "I") ∈ lw_all := lw_g (lw_at lw_m1 158 rfl) rfl
theorem q249 : (Jvm.Cond.fieldLink "LineCalls$World" (33 : Nat) "LineCalls$World" "holds" "[I") ∈ lw_all := lw_g (lw_at lw_m1 160 rfl) rfl
theorem q251 : (Jvm.Cond.laysFinal "LineCalls$World" "LineCalls$World" "line" "[I") ∈ lw_all := lw_g (lw_at lw_m1 162 rfl) rfl
theorem q252 : (Jvm.Cond.soleField "LineCalls$World" "line") ∈ lw_all := lw_g (lw_at lw_m1 163 rfl) rfl
theorem q253 : (Jvm.Cond.laysFinal "LineCalls$World" "LineCalls$World" "theirs" "[[I") ∈ lw_all := lw_g (lw_at lw_m1 164 rfl) rfl
theorem q254 : (Jvm.Cond.soleField "LineCalls$World" "theirs") ∈ lw_all := lw_g (lw_at lw_m1 165 rfl) rfl
theorem q255 : (Jvm.Cond.laysFinal "LineCalls$World" "LineCalls$World" "sets" "[I") ∈ lw_all := lw_g (lw_at lw_m1 166 rfl) rfl
theorem q256 : (Jvm.Cond.soleField "LineCalls$World" "sets") ∈ lw_all := lw_g (lw_at lw_m1 167 rfl) rfl
theorem q257 : (Jvm.Cond.laysFinal "LineCalls$World" "LineCalls$World" "list" "[I") ∈ lw_all := lw_g (lw_at lw_m1 168 rfl) rfl
theorem q258 : (Jvm.Cond.soleField "LineCalls$World" "list") ∈ lw_all := lw_g (lw_at lw_m1 169 rfl) rfl
theorem q259 : (Jvm.Cond.lays "LineCalls$World" "LineCalls$World" "metres" "I") ∈ lw_all := lw_g (lw_at lw_m1 170 rfl) rfl
theorem q260 : (Jvm.Cond.soleField "LineCalls$World" "metres") ∈ lw_all := lw_g (lw_at lw_m1 171 rfl) rfl
theorem q261 : (Jvm.Cond.lays "LineCalls$World" "LineCalls$World" "jumpers" "I") ∈ lw_all := lw_g (lw_at lw_m1 172 rfl) rfl
theorem q262 : (Jvm.Cond.soleField "LineCalls$World" "jumpers") ∈ lw_all := lw_g (lw_at lw_m1 173 rfl) rfl
theorem q263 : (Jvm.Cond.laysFinal "LineCalls$World" "LineCalls$World" "jumper" "[[I") ∈ lw_all := lw_g (lw_at lw_m1 174 rfl) rfl
theorem q264 : (Jvm.Cond.soleField "LineCalls$World" "jumper") ∈ lw_all := lw_g (lw_at lw_m1 175 rfl) rfl
theorem q265 : (Jvm.Cond.lays "LineCalls$World" "LineCalls$World" "thrown" "I") ∈ lw_all := lw_g (lw_at lw_m1 176 rfl) rfl
theorem q266 : (Jvm.Cond.soleField "LineCalls$World" "thrown") ∈ lw_all := lw_g (lw_at lw_m1 177 rfl) rfl
theorem q267 : (Jvm.Cond.lays "LineCalls$World" "LineCalls$World" "z" "I") ∈ lw_all := lw_g (lw_at lw_m1 178 rfl) rfl
theorem q268 : (Jvm.Cond.soleField "LineCalls$World" "z") ∈ lw_all := lw_g (lw_at lw_m1 179 rfl) rfl
theorem q269 : (Jvm.Cond.laysFinal "LineCalls$World" "LineCalls$World" "holds" "[I") ∈ lw_all := lw_g (lw_at lw_m1 180 rfl) rfl
theorem q270 : (Jvm.Cond.soleField "LineCalls$World" "holds") ∈ lw_all := lw_g (lw_at lw_m1 181 rfl) rfl
theorem q271 : (Jvm.Cond.superclass "LineCalls$World" "java/lang/Object") ∈ lw_all := lw_g (lw_at lw_m1 182 rfl) rfl
theorem q472 : (Jvm.Cond.instanceMethod ({ cls := "LineCalls$World", name := "stands", desc := "(II)I" } : Jvm.MethodName)) ∈ lw_all := lw_g (lw_at lw_m2 143 rfl) rfl
theorem q473 : (Jvm.Cond.selects "LineCalls$World" ({ cls := "LineCalls$World", name := "stands", desc := "(II)I" } : Jvm.MethodName) ({ cls := "LineCalls$World", name := "stands", desc := "(II)I" } : Jvm.MethodName)) ∈ lw_all := lw_g (lw_at lw_m2 144 rfl) rfl
theorem q474 : (Jvm.Cond.code ({ cls := "LineCalls$World", name := "stands", desc := "(II)I" } : Jvm.MethodName) prog_13_method_9_code (5 : Nat) (Option.some Jvm.ClassFile.FieldType.int)) ∈ lw_all := lw_g (lw_at lw_m2 145 rfl) rfl
theorem q475 : (Jvm.Cond.methodLink "LineCalls$World" (60 : Nat) ({ cls := "LineCalls$World", name := "standsIn", desc := "(I)I" } : Jvm.MethodName)) ∈ lw_all := lw_g (lw_at lw_m2 146 rfl) rfl
theorem q476 : (Jvm.Cond.instanceMethod ({ cls := "LineCalls$World", name := "standsIn", desc := "(I)I" } : Jvm.MethodName)) ∈ lw_all := lw_g (lw_at lw_m2 147 rfl) rfl
theorem q477 : (Jvm.Cond.selects "LineCalls$World" ({ cls := "LineCalls$World", name := "standsIn", desc := "(I)I" } : Jvm.MethodName) ({ cls := "LineCalls$World", name := "standsIn", desc := "(I)I" } : Jvm.MethodName)) ∈ lw_all := lw_g (lw_at lw_m2 148 rfl) rfl
theorem q478 : (Jvm.Cond.code ({ cls := "LineCalls$World", name := "standsIn", desc := "(I)I" } : Jvm.MethodName) prog_13_method_8_code (4 : Nat) (Option.some Jvm.ClassFile.FieldType.int)) ∈ lw_all := lw_g (lw_at lw_m2 149 rfl) rfl
theorem q484 : (Jvm.Cond.instanceMethod ({ cls := "LineCalls$World", name := "force", desc := "(I)I" } : Jvm.MethodName)) ∈ lw_all := lw_g (lw_at lw_m2 155 rfl) rfl
theorem q485 : (Jvm.Cond.selects "LineCalls$World" ({ cls := "LineCalls$World", name := "force", desc := "(I)I" } : Jvm.MethodName) ({ cls := "LineCalls$World", name := "force", desc := "(I)I" } : Jvm.MethodName)) ∈ lw_all := lw_g (lw_at lw_m2 156 rfl) rfl
theorem q486 : (Jvm.Cond.code ({ cls := "LineCalls$World", name := "force", desc := "(I)I" } : Jvm.MethodName) prog_13_method_12_code (2 : Nat) (Option.some Jvm.ClassFile.FieldType.int)) ∈ lw_all := lw_g (lw_at lw_m2 157 rfl) rfl
theorem q542 : (Jvm.Cond.instanceMethod ({ cls := "LineCalls$World", name := "add", desc := "(II)V" } : Jvm.MethodName)) ∈ lw_all := lw_g (lw_at lw_m2 213 rfl) rfl
theorem q543 : (Jvm.Cond.selects "LineCalls$World" ({ cls := "LineCalls$World", name := "add", desc := "(II)V" } : Jvm.MethodName) ({ cls := "LineCalls$World", name := "add", desc := "(II)V" } : Jvm.MethodName)) ∈ lw_all := lw_g (lw_at lw_m2 214 rfl) rfl
theorem q544 : (Jvm.Cond.code ({ cls := "LineCalls$World", name := "add", desc := "(II)V" } : Jvm.MethodName) prog_13_method_6_code (4 : Nat) (Option.none : Option Jvm.ClassFile.FieldType)) ∈ lw_all := lw_g (lw_at lw_m2 215 rfl) rfl
theorem q700 : (Jvm.Cond.instanceMethod ({ cls := "LineCalls$World", name := "isLate", desc := "(I)Z" } : Jvm.MethodName)) ∈ lw_all := lw_g (lw_at lw_m3 131 rfl) rfl
theorem q701 : (Jvm.Cond.selects "LineCalls$World" ({ cls := "LineCalls$World", name := "isLate", desc := "(I)Z" } : Jvm.MethodName) ({ cls := "LineCalls$World", name := "isLate", desc := "(I)Z" } : Jvm.MethodName)) ∈ lw_all := lw_g (lw_at lw_m3 132 rfl) rfl
theorem q702 : (Jvm.Cond.code ({ cls := "LineCalls$World", name := "isLate", desc := "(I)Z" } : Jvm.MethodName) prog_13_method_18_code (2 : Nat) (Option.some Jvm.ClassFile.FieldType.boolean)) ∈ lw_all := lw_g (lw_at lw_m3 133 rfl) rfl
theorem q703 : (Jvm.Cond.constant "LineCalls$World" (72 : Nat) (99999 : Int32)) ∈ lw_all := lw_g (lw_at lw_m3 134 rfl) rfl
theorem q717 : (Jvm.Cond.instanceMethod ({ cls := "LineCalls$World", name := "next", desc := "()I" } : Jvm.MethodName)) ∈ lw_all := lw_g (lw_at lw_m3 148 rfl) rfl
theorem q718 : (Jvm.Cond.selects "LineCalls$World" ({ cls := "LineCalls$World", name := "next", desc := "()I" } : Jvm.MethodName) ({ cls := "LineCalls$World", name := "next", desc := "()I" } : Jvm.MethodName)) ∈ lw_all := lw_g (lw_at lw_m3 149 rfl) rfl
theorem q719 : (Jvm.Cond.code ({ cls := "LineCalls$World", name := "next", desc := "()I" } : Jvm.MethodName) prog_13_method_11_code (1 : Nat) (Option.some Jvm.ClassFile.FieldType.int)) ∈ lw_all := lw_g (lw_at lw_m3 150 rfl) rfl
theorem q720 : (Jvm.Cond.methodLinkNest "LineCalls$World" (64 : Nat) ({ cls := "LineCalls", name := "placeOf", desc := "(II)I" } : Jvm.MethodName) "LineCalls") ∈ lw_tbl := lw_at lw_m3 151 rfl
theorem q722 : (Jvm.Cond.instanceMethod ({ cls := "LineCalls$World", name := "goesBack", desc := "(I)V" } : Jvm.MethodName)) ∈ lw_all := lw_g (lw_at lw_m3 153 rfl) rfl
theorem q723 : (Jvm.Cond.selects "LineCalls$World" ({ cls := "LineCalls$World", name := "goesBack", desc := "(I)V" } : Jvm.MethodName) ({ cls := "LineCalls$World", name := "goesBack", desc := "(I)V" } : Jvm.MethodName)) ∈ lw_all := lw_g (lw_at lw_m3 154 rfl) rfl
theorem q724 : (Jvm.Cond.code ({ cls := "LineCalls$World", name := "goesBack", desc := "(I)V" } : Jvm.MethodName) prog_13_method_15_code (2 : Nat) (Option.none : Option Jvm.ClassFile.FieldType)) ∈ lw_all := lw_g (lw_at lw_m3 155 rfl) rfl
theorem q725 : (Jvm.Cond.methodLink "LineCalls$World" (78 : Nat) ({ cls := "java/lang/Math", name := "max", desc := "(II)I" } : Jvm.MethodName)) ∈ lw_all := lw_g (lw_at lw_m3 156 rfl) rfl
theorem q731 : (Jvm.Cond.instanceMethod ({ cls := "LineCalls$World", name := "wins", desc := "(II)V" } : Jvm.MethodName)) ∈ lw_all := lw_g (lw_at lw_m3 162 rfl) rfl
theorem q732 : (Jvm.Cond.selects "LineCalls$World" ({ cls := "LineCalls$World", name := "wins", desc := "(II)V" } : Jvm.MethodName) ({ cls := "LineCalls$World", name := "wins", desc := "(II)V" } : Jvm.MethodName)) ∈ lw_all := lw_g (lw_at lw_m3 163 rfl) rfl
theorem q733 : (Jvm.Cond.code ({ cls := "LineCalls$World", name := "wins", desc := "(II)V" } : Jvm.MethodName) prog_13_method_14_code (3 : Nat) (Option.none : Option Jvm.ClassFile.FieldType)) ∈ lw_all := lw_g (lw_at lw_m3 164 rfl) rfl
theorem q734 : (Jvm.Cond.methodLink "LineCalls$World" (73 : Nat) ({ cls := "java/lang/Math", name := "min", desc := "(II)I" } : Jvm.MethodName)) ∈ lw_all := lw_g (lw_at lw_m3 165 rfl) rfl
theorem q738 : (Jvm.Cond.instanceMethod ({ cls := "LineCalls$World", name := "loses", desc := "(I)V" } : Jvm.MethodName)) ∈ lw_all := lw_g (lw_at lw_m3 169 rfl) rfl
theorem q739 : (Jvm.Cond.selects "LineCalls$World" ({ cls := "LineCalls$World", name := "loses", desc := "(I)V" } : Jvm.MethodName) ({ cls := "LineCalls$World", name := "loses", desc := "(I)V" } : Jvm.MethodName)) ∈ lw_all := lw_g (lw_at lw_m3 170 rfl) rfl
theorem q740 : (Jvm.Cond.code ({ cls := "LineCalls$World", name := "loses", desc := "(I)V" } : Jvm.MethodName) prog_13_method_16_code (2 : Nat) (Option.none : Option Jvm.ClassFile.FieldType)) ∈ lw_all := lw_g (lw_at lw_m3 171 rfl) rfl
theorem q741 : (Jvm.Cond.methodLink "LineCalls$World" (81 : Nat) ({ cls := "LineCalls$World", name := "goesBack", desc := "(I)V" } : Jvm.MethodName)) ∈ lw_all := lw_g (lw_at lw_m3 172 rfl) rfl
theorem q743 : (Jvm.Cond.instanceMethod ({ cls := "LineCalls$World", name := "ends", desc := "(III)V" } : Jvm.MethodName)) ∈ lw_all := lw_g (lw_at lw_m3 174 rfl) rfl
theorem q744 : (Jvm.Cond.selects "LineCalls$World" ({ cls := "LineCalls$World", name := "ends", desc := "(III)V" } : Jvm.MethodName) ({ cls := "LineCalls$World", name := "ends", desc := "(III)V" } : Jvm.MethodName)) ∈ lw_all := lw_g (lw_at lw_m3 175 rfl) rfl
theorem q745 : (Jvm.Cond.code ({ cls := "LineCalls$World", name := "ends", desc := "(III)V" } : Jvm.MethodName) prog_13_method_17_code (6 : Nat) (Option.none : Option Jvm.ClassFile.FieldType)) ∈ lw_all := lw_g (lw_at lw_m3 176 rfl) rfl
theorem q751 : (Jvm.Cond.instanceMethod ({ cls := "LineCalls$World", name := "sumOf", desc := "(I)I" } : Jvm.MethodName)) ∈ lw_all := lw_g (lw_at lw_m3 182 rfl) rfl
theorem q752 : (Jvm.Cond.selects "LineCalls$World" ({ cls := "LineCalls$World", name := "sumOf", desc := "(I)I" } : Jvm.MethodName) ({ cls := "LineCalls$World", name := "sumOf", desc := "(I)I" } : Jvm.MethodName)) ∈ lw_all := lw_g (lw_at lw_m3 183 rfl) rfl
theorem q753 : (Jvm.Cond.code ({ cls := "LineCalls$World", name := "sumOf", desc := "(I)I" } : Jvm.MethodName) prog_13_method_7_code (4 : Nat) (Option.some Jvm.ClassFile.FieldType.int)) ∈ lw_all := lw_g (lw_at lw_m3 184 rfl) rfl
theorem q759 : (Jvm.Cond.instanceMethod ({ cls := "LineCalls$World", name := "said", desc := "(I)I" } : Jvm.MethodName)) ∈ lw_all := lw_g (lw_at lw_m3 190 rfl) rfl
theorem q760 : (Jvm.Cond.selects "LineCalls$World" ({ cls := "LineCalls$World", name := "said", desc := "(I)I" } : Jvm.MethodName) ({ cls := "LineCalls$World", name := "said", desc := "(I)I" } : Jvm.MethodName)) ∈ lw_all := lw_g (lw_at lw_m3 191 rfl) rfl
theorem q761 : (Jvm.Cond.code ({ cls := "LineCalls$World", name := "said", desc := "(I)I" } : Jvm.MethodName) prog_13_method_13_code (4 : Nat) (Option.some Jvm.ClassFile.FieldType.int)) ∈ lw_all := lw_g (lw_at lw_m3 192 rfl) rfl
theorem q762 : (Jvm.Cond.methodLinkNest "LineCalls$World" (68 : Nat) ({ cls := "LineCalls", name := "has", desc := "(II)Z" } : Jvm.MethodName) "LineCalls") ∈ lw_tbl := lw_at lw_m3 193 rfl
theorem q774 : (Jvm.Cond.instanceMethod ({ cls := "LineCalls$World", name := "become", desc := "(LLineCalls$World;)V" } : Jvm.MethodName)) ∈ lw_all := lw_g (lw_at lw_m3 205 rfl) rfl
theorem q775 : (Jvm.Cond.selects "LineCalls$World" ({ cls := "LineCalls$World", name := "become", desc := "(LLineCalls$World;)V" } : Jvm.MethodName) ({ cls := "LineCalls$World", name := "become", desc := "(LLineCalls$World;)V" } : Jvm.MethodName)) ∈ lw_all := lw_g (lw_at lw_m3 206 rfl) rfl
theorem q776 : (Jvm.Cond.code ({ cls := "LineCalls$World", name := "become", desc := "(LLineCalls$World;)V" } : Jvm.MethodName) prog_13_method_4_code (2 : Nat) (Option.none : Option Jvm.ClassFile.FieldType)) ∈ lw_all := lw_g (lw_at lw_m3 207 rfl) rfl
theorem q777 : (Jvm.Cond.methodLink "LineCalls$World" (42 : Nat) ({ cls := "LineCalls$World", name := "copy", desc := "([I[I)V" } : Jvm.MethodName)) ∈ lw_all := lw_g (lw_at lw_m3 208 rfl) rfl
theorem q778 : (Jvm.Cond.static ({ cls := "LineCalls$World", name := "copy", desc := "([I[I)V" } : Jvm.MethodName)) ∈ lw_all := lw_g (lw_at lw_m3 209 rfl) rfl
theorem q779 : (Jvm.Cond.code ({ cls := "LineCalls$World", name := "copy", desc := "([I[I)V" } : Jvm.MethodName) prog_13_method_2_code (2 : Nat) (Option.none : Option Jvm.ClassFile.FieldType)) ∈ lw_all := lw_g (lw_at lw_m3 210 rfl) rfl
theorem q780 : (Jvm.Cond.methodLink "LineCalls$World" (36 : Nat) ({ cls := "java/lang/System", name := "arraycopy", desc := "(Ljava/lang/Object;ILjava/lang/Object;II)V" } : Jvm.MethodName)) ∈ lw_all := lw_g (lw_at lw_m3 211 rfl) rfl
theorem q783 : (Jvm.Cond.methodLink "LineCalls$World" (46 : Nat) ({ cls := "LineCalls$World", name := "copyAll", desc := "([[I[[I)V" } : Jvm.MethodName)) ∈ lw_all := lw_g (lw_at lw_m3 214 rfl) rfl
theorem q784 : (Jvm.Cond.static ({ cls := "LineCalls$World", name := "copyAll", desc := "([[I[[I)V" } : Jvm.MethodName)) ∈ lw_all := lw_g (lw_at lw_m3 215 rfl) rfl
theorem q785 : (Jvm.Cond.code ({ cls := "LineCalls$World", name := "copyAll", desc := "([[I[[I)V" } : Jvm.MethodName) prog_13_method_3_code (3 : Nat) (Option.none : Option Jvm.ClassFile.FieldType)) ∈ lw_all := lw_g (lw_at lw_m3 216 rfl) rfl
theorem q852 : (Jvm.Cond.instanceMethod ({ cls := "LineCalls$World", name := "changes", desc := "(II)V" } : Jvm.MethodName)) ∈ lw_all := lw_g (lw_at lw_m4 43 rfl) rfl
theorem q853 : (Jvm.Cond.selects "LineCalls$World" ({ cls := "LineCalls$World", name := "changes", desc := "(II)V" } : Jvm.MethodName) ({ cls := "LineCalls$World", name := "changes", desc := "(II)V" } : Jvm.MethodName)) ∈ lw_all := lw_g (lw_at lw_m4 44 rfl) rfl
theorem q854 : (Jvm.Cond.code ({ cls := "LineCalls$World", name := "changes", desc := "(II)V" } : Jvm.MethodName) prog_13_method_10_code (5 : Nat) (Option.none : Option Jvm.ClassFile.FieldType)) ∈ lw_all := lw_g (lw_at lw_m4 45 rfl) rfl
theorem q944 : (Jvm.Cond.instanceMethod ({ cls := "LineCalls$World", name := "draw", desc := "()I" } : Jvm.MethodName)) ∈ lw_all := lw_g (lw_at lw_m4 135 rfl) rfl
theorem q945 : (Jvm.Cond.selects "LineCalls$World" ({ cls := "LineCalls$World", name := "draw", desc := "()I" } : Jvm.MethodName) ({ cls := "LineCalls$World", name := "draw", desc := "()I" } : Jvm.MethodName)) ∈ lw_all := lw_g (lw_at lw_m4 136 rfl) rfl
theorem q946 : (Jvm.Cond.code ({ cls := "LineCalls$World", name := "draw", desc := "()I" } : Jvm.MethodName) prog_13_method_5_code (1 : Nat) (Option.some Jvm.ClassFile.FieldType.int)) ∈ lw_all := lw_g (lw_at lw_m4 137 rfl) rfl
theorem q947 : (Jvm.Cond.constant "LineCalls$World" (59 : Nat) (1103515245 : Int32)) ∈ lw_all := lw_g (lw_at lw_m4 138 rfl) rfl
theorem in_X4 : ∀ w ∈ wsX40, w ∈ lw_all := lw_in wsX40 [251, 253, 255, 257, 259, 261, 263, 265, 267, 269] (by decide +kernel) (by decide +kernel)
