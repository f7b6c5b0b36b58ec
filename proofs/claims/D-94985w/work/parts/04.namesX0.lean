/-! BreathOnLoan -/
set_option maxRecDepth 100000
def RX0 : String := "BreathOnLoan"
def TX0 : u_T := fun k => match k with
  | 0 => ("BreathOnLoan", "now", "LBreathOnLoan$State;", true)
  | 1 => ("BreathOnLoan", "image", "LBreathOnLoan$State;", true)
  | 2 => ("BreathOnLoan", "tape", "[B", true)
  | 3 => ("BreathOnLoan", "taped", "I", false)
  | 4 => ("BreathOnLoan", "fault", "I", false)
  | 5 => ("BreathOnLoan", "faultAt", "I", false)
  | 6 => ("BreathOnLoan", "names", "[I", true)
  | 7 => ("BreathOnLoan", "share", "[I", true)
  | 8 => ("BreathOnLoan", "gain", "[[[I", true)
  | 9 => ("BreathOnLoan", "endIn", "[[[I", true)
  | 10 => ("BreathOnLoan", "work", "[I", true)
  | 11 => ("BreathOnLoan", "kindOf", "[I", true)
  | 12 => ("BreathOnLoan", "teamOf", "[I", true)
  | 13 => ("BreathOnLoan", "most", "[[I", true)
  | 14 => ("BreathOnLoan", "fewest", "[[I", true)
  | 15 => ("BreathOnLoan", "works", "I", false)
  | _ => ("BreathOnLoan", "hours", "I", false)
def tyX0 : Nat → FieldType := fun k => match k with
  | 0 => .object "BreathOnLoan$State"
  | 1 => .object "BreathOnLoan$State"
  | 2 => .array .byte
  | 3 => .int
  | 4 => .int
  | 5 => .int
  | 6 => .array .int
  | 7 => .array .int
  | 8 => .array (.array (.array .int))
  | 9 => .array (.array (.array .int))
  | 10 => .array .int
  | 11 => .array .int
  | 12 => .array .int
  | 13 => .array (.array .int)
  | 14 => .array (.array .int)
  | 15 => .int
  | _ => .int
abbrev wsX00 : List Cond := u_ws RX0 TX0 17
set_option maxRecDepth 100000 in
theorem nmX0 : ∀ a, a < 17 → ∀ b, b < 17 → a ≠ b → (TX0 a).2.1 ≠ (TX0 b).2.1 := by decide +kernel
set_option maxRecDepth 100000 in
theorem tyX0_ok : ∀ k, k < 17 → parseFieldDescriptor (TX0 k).2.2.1 = some (tyX0 k) := by decide +kernel
abbrev cX0_init : ByteArray := prog_1_method_2_code
def yX0_init : MethodName := ⟨RX0, "<init>", "()V"⟩
def dkwX0_init_6 : List UInt8 := [180, 0, 12, 182, 0, 62, 177]
abbrev dktX0_init_6 : List UInt8 := dkwX0_init_6 ++ []
def dkwX0_init_5 : List UInt8 := [197, 0, 54, 2, 181, 0, 56, 42, 16, 16, 16, 25, 197, 0, 54, 2, 181, 0, 59, 42, 180, 0, 16, 42]
abbrev dktX0_init_5 : List UInt8 := dkwX0_init_5 ++ dktX0_init_6
def dkwX0_init_4 : List UInt8 := [181, 0, 45, 42, 7, 188, 10, 181, 0, 48, 42, 7, 188, 10, 181, 0, 51, 42, 16, 16, 16, 25]
abbrev dktX0_init_4 : List UInt8 := dkwX0_init_4 ++ dktX0_init_5
def dkwX0_init_3 : List UInt8 := [197, 0, 37, 3, 181, 0, 39, 42, 7, 16, 60, 16, 24, 197, 0, 37, 3, 181, 0, 42, 42, 7, 188, 10]
abbrev dktX0_init_3 : List UInt8 := dkwX0_init_3 ++ dktX0_init_4
def dkwX0_init_2 : List UInt8 := [16, 11, 188, 10, 181, 0, 30, 42, 16, 6, 188, 10, 181, 0, 34, 42, 7, 16, 60, 16, 24]
abbrev dktX0_init_2 : List UInt8 := dkwX0_init_2 ++ dktX0_init_3
def dkwX0_init_1 : List UInt8 := [181, 0, 16, 42, 17, 1, 44, 188, 8, 181, 0, 19, 42, 2, 181, 0, 23, 42, 2, 181, 0, 27, 42]
abbrev dktX0_init_1 : List UInt8 := dkwX0_init_1 ++ dktX0_init_2
def dkwX0_init_0 : List UInt8 := [42, 183, 0, 3, 42, 187, 0, 9, 89, 183, 0, 11, 181, 0, 12, 42, 187, 0, 9, 89, 183, 0, 11]
abbrev dktX0_init_0 : List UInt8 := dkwX0_init_0 ++ dktX0_init_1
theorem dksX0_init_0 : cX0_init.data.toList.drop 0 = dktX0_init_0 := by decide +kernel
theorem dksX0_init_1 : cX0_init.data.toList.drop 23 = dktX0_init_1 := dk_seg dksX0_init_0 23 rfl rfl
theorem dksX0_init_2 : cX0_init.data.toList.drop 46 = dktX0_init_2 := dk_seg dksX0_init_1 23 rfl rfl
theorem dksX0_init_3 : cX0_init.data.toList.drop 67 = dktX0_init_3 := dk_seg dksX0_init_2 21 rfl rfl
theorem dksX0_init_4 : cX0_init.data.toList.drop 91 = dktX0_init_4 := dk_seg dksX0_init_3 24 rfl rfl
theorem dksX0_init_5 : cX0_init.data.toList.drop 113 = dktX0_init_5 := dk_seg dksX0_init_4 22 rfl rfl
theorem dksX0_init_6 : cX0_init.data.toList.drop 137 = dktX0_init_6 := dk_seg dksX0_init_5 24 rfl rfl
theorem dX0_init_0 : decode cX0_init 0 = .ok (.aload_n 0, 1) := dk_42 (dk_at dksX0_init_0 0 rfl rfl)
theorem dX0_init_1 : decode cX0_init 1 = .ok (.invokespecial 3, 3) := dk_183 0 3 (dk_at dksX0_init_0 1 rfl rfl)
theorem dX0_init_4 : decode cX0_init 4 = .ok (.aload_n 0, 1) := dk_42 (dk_at dksX0_init_0 4 rfl rfl)
theorem dX0_init_5 : decode cX0_init 5 = .ok (.new 9, 3) := dk_187 0 9 (dk_at dksX0_init_0 5 rfl rfl)
theorem dX0_init_8 : decode cX0_init 8 = .ok (.dup, 1) := dk_89 (dk_at dksX0_init_0 8 rfl rfl)
theorem dX0_init_9 : decode cX0_init 9 = .ok (.invokespecial 11, 3) := dk_183 0 11 (dk_at dksX0_init_0 9 rfl rfl)
theorem dX0_init_12 : decode cX0_init 12 = .ok (.putfield 12, 3) := dk_181 0 12 (dk_at dksX0_init_0 12 rfl rfl)
theorem dX0_init_15 : decode cX0_init 15 = .ok (.aload_n 0, 1) := dk_42 (dk_at dksX0_init_0 15 rfl rfl)
theorem dX0_init_16 : decode cX0_init 16 = .ok (.new 9, 3) := dk_187 0 9 (dk_at dksX0_init_0 16 rfl rfl)
theorem dX0_init_19 : decode cX0_init 19 = .ok (.dup, 1) := dk_89 (dk_at dksX0_init_0 19 rfl rfl)
theorem dX0_init_20 : decode cX0_init 20 = .ok (.invokespecial 11, 3) := dk_183 0 11 (dk_at dksX0_init_0 20 rfl rfl)
theorem dX0_init_23 : decode cX0_init 23 = .ok (.putfield 16, 3) := dk_181 0 16 (dk_at dksX0_init_1 0 rfl rfl)
theorem dX0_init_26 : decode cX0_init 26 = .ok (.aload_n 0, 1) := dk_42 (dk_at dksX0_init_1 3 rfl rfl)
theorem dX0_init_27 : decode cX0_init 27 = .ok (.sipush 300, 3) := dk_17 1 44 (dk_at dksX0_init_1 4 rfl rfl)
theorem dX0_init_30 : decode cX0_init 30 = .ok (.newarray .byte, 2) := dk_188_8 (dk_at dksX0_init_1 7 rfl rfl)
theorem dX0_init_32 : decode cX0_init 32 = .ok (.putfield 19, 3) := dk_181 0 19 (dk_at dksX0_init_1 9 rfl rfl)
theorem dX0_init_35 : decode cX0_init 35 = .ok (.aload_n 0, 1) := dk_42 (dk_at dksX0_init_1 12 rfl rfl)
theorem dX0_init_36 : decode cX0_init 36 = .ok (.iconst (-1), 1) := dk_2 (dk_at dksX0_init_1 13 rfl rfl)
theorem dX0_init_37 : decode cX0_init 37 = .ok (.putfield 23, 3) := dk_181 0 23 (dk_at dksX0_init_1 14 rfl rfl)
theorem dX0_init_40 : decode cX0_init 40 = .ok (.aload_n 0, 1) := dk_42 (dk_at dksX0_init_1 17 rfl rfl)
theorem dX0_init_41 : decode cX0_init 41 = .ok (.iconst (-1), 1) := dk_2 (dk_at dksX0_init_1 18 rfl rfl)
theorem dX0_init_42 : decode cX0_init 42 = .ok (.putfield 27, 3) := dk_181 0 27 (dk_at dksX0_init_1 19 rfl rfl)
theorem dX0_init_45 : decode cX0_init 45 = .ok (.aload_n 0, 1) := dk_42 (dk_at dksX0_init_1 22 rfl rfl)
theorem dX0_init_46 : decode cX0_init 46 = .ok (.bipush 11, 2) := dk_16 11 (dk_at dksX0_init_2 0 rfl rfl)
theorem dX0_init_48 : decode cX0_init 48 = .ok (.newarray .int, 2) := dk_188_10 (dk_at dksX0_init_2 2 rfl rfl)
theorem dX0_init_50 : decode cX0_init 50 = .ok (.putfield 30, 3) := dk_181 0 30 (dk_at dksX0_init_2 4 rfl rfl)
theorem dX0_init_53 : decode cX0_init 53 = .ok (.aload_n 0, 1) := dk_42 (dk_at dksX0_init_2 7 rfl rfl)
theorem dX0_init_54 : decode cX0_init 54 = .ok (.bipush 6, 2) := dk_16 6 (dk_at dksX0_init_2 8 rfl rfl)
theorem dX0_init_56 : decode cX0_init 56 = .ok (.newarray .int, 2) := dk_188_10 (dk_at dksX0_init_2 10 rfl rfl)
theorem dX0_init_58 : decode cX0_init 58 = .ok (.putfield 34, 3) := dk_181 0 34 (dk_at dksX0_init_2 12 rfl rfl)
theorem dX0_init_61 : decode cX0_init 61 = .ok (.aload_n 0, 1) := dk_42 (dk_at dksX0_init_2 15 rfl rfl)
theorem dX0_init_62 : decode cX0_init 62 = .ok (.iconst 4, 1) := dk_7 (dk_at dksX0_init_2 16 rfl rfl)
theorem dX0_init_63 : decode cX0_init 63 = .ok (.bipush 60, 2) := dk_16 60 (dk_at dksX0_init_2 17 rfl rfl)
theorem dX0_init_65 : decode cX0_init 65 = .ok (.bipush 24, 2) := dk_16 24 (dk_at dksX0_init_2 19 rfl rfl)
theorem dX0_init_67 : decode cX0_init 67 = .ok (.multianewarray 37 3, 4) := by decide +kernel
theorem dX0_init_71 : decode cX0_init 71 = .ok (.putfield 39, 3) := dk_181 0 39 (dk_at dksX0_init_3 4 rfl rfl)
theorem dX0_init_74 : decode cX0_init 74 = .ok (.aload_n 0, 1) := dk_42 (dk_at dksX0_init_3 7 rfl rfl)
theorem dX0_init_75 : decode cX0_init 75 = .ok (.iconst 4, 1) := dk_7 (dk_at dksX0_init_3 8 rfl rfl)
theorem dX0_init_76 : decode cX0_init 76 = .ok (.bipush 60, 2) := dk_16 60 (dk_at dksX0_init_3 9 rfl rfl)
theorem dX0_init_78 : decode cX0_init 78 = .ok (.bipush 24, 2) := dk_16 24 (dk_at dksX0_init_3 11 rfl rfl)
theorem dX0_init_80 : decode cX0_init 80 = .ok (.multianewarray 37 3, 4) := by decide +kernel
theorem dX0_init_84 : decode cX0_init 84 = .ok (.putfield 42, 3) := dk_181 0 42 (dk_at dksX0_init_3 17 rfl rfl)
theorem dX0_init_87 : decode cX0_init 87 = .ok (.aload_n 0, 1) := dk_42 (dk_at dksX0_init_3 20 rfl rfl)
theorem dX0_init_88 : decode cX0_init 88 = .ok (.iconst 4, 1) := dk_7 (dk_at dksX0_init_3 21 rfl rfl)
theorem dX0_init_89 : decode cX0_init 89 = .ok (.newarray .int, 2) := dk_188_10 (dk_at dksX0_init_3 22 rfl rfl)
theorem dX0_init_91 : decode cX0_init 91 = .ok (.putfield 45, 3) := dk_181 0 45 (dk_at dksX0_init_4 0 rfl rfl)
theorem dX0_init_94 : decode cX0_init 94 = .ok (.aload_n 0, 1) := dk_42 (dk_at dksX0_init_4 3 rfl rfl)
theorem dX0_init_95 : decode cX0_init 95 = .ok (.iconst 4, 1) := dk_7 (dk_at dksX0_init_4 4 rfl rfl)
theorem dX0_init_96 : decode cX0_init 96 = .ok (.newarray .int, 2) := dk_188_10 (dk_at dksX0_init_4 5 rfl rfl)
theorem dX0_init_98 : decode cX0_init 98 = .ok (.putfield 48, 3) := dk_181 0 48 (dk_at dksX0_init_4 7 rfl rfl)
theorem dX0_init_101 : decode cX0_init 101 = .ok (.aload_n 0, 1) := dk_42 (dk_at dksX0_init_4 10 rfl rfl)
theorem dX0_init_102 : decode cX0_init 102 = .ok (.iconst 4, 1) := dk_7 (dk_at dksX0_init_4 11 rfl rfl)
theorem dX0_init_103 : decode cX0_init 103 = .ok (.newarray .int, 2) := dk_188_10 (dk_at dksX0_init_4 12 rfl rfl)
theorem dX0_init_105 : decode cX0_init 105 = .ok (.putfield 51, 3) := dk_181 0 51 (dk_at dksX0_init_4 14 rfl rfl)
theorem dX0_init_108 : decode cX0_init 108 = .ok (.aload_n 0, 1) := dk_42 (dk_at dksX0_init_4 17 rfl rfl)
theorem dX0_init_109 : decode cX0_init 109 = .ok (.bipush 16, 2) := dk_16 16 (dk_at dksX0_init_4 18 rfl rfl)
theorem dX0_init_111 : decode cX0_init 111 = .ok (.bipush 25, 2) := dk_16 25 (dk_at dksX0_init_4 20 rfl rfl)
theorem dX0_init_113 : decode cX0_init 113 = .ok (.multianewarray 54 2, 4) := by decide +kernel
theorem dX0_init_117 : decode cX0_init 117 = .ok (.putfield 56, 3) := dk_181 0 56 (dk_at dksX0_init_5 4 rfl rfl)
theorem dX0_init_120 : decode cX0_init 120 = .ok (.aload_n 0, 1) := dk_42 (dk_at dksX0_init_5 7 rfl rfl)
theorem dX0_init_121 : decode cX0_init 121 = .ok (.bipush 16, 2) := dk_16 16 (dk_at dksX0_init_5 8 rfl rfl)
theorem dX0_init_123 : decode cX0_init 123 = .ok (.bipush 25, 2) := dk_16 25 (dk_at dksX0_init_5 10 rfl rfl)
theorem dX0_init_125 : decode cX0_init 125 = .ok (.multianewarray 54 2, 4) := by decide +kernel
theorem dX0_init_129 : decode cX0_init 129 = .ok (.putfield 59, 3) := dk_181 0 59 (dk_at dksX0_init_5 16 rfl rfl)
theorem dX0_init_132 : decode cX0_init 132 = .ok (.aload_n 0, 1) := dk_42 (dk_at dksX0_init_5 19 rfl rfl)
theorem dX0_init_133 : decode cX0_init 133 = .ok (.getfield 16, 3) := dk_180 0 16 (dk_at dksX0_init_5 20 rfl rfl)
theorem dX0_init_136 : decode cX0_init 136 = .ok (.aload_n 0, 1) := dk_42 (dk_at dksX0_init_5 23 rfl rfl)
theorem dX0_init_137 : decode cX0_init 137 = .ok (.getfield 12, 3) := dk_180 0 12 (dk_at dksX0_init_6 0 rfl rfl)
theorem dX0_init_140 : decode cX0_init 140 = .ok (.invokevirtual 62, 3) := dk_182 0 62 (dk_at dksX0_init_6 3 rfl rfl)
theorem dX0_init_143 : decode cX0_init 143 = .ok (.return_, 1) := dk_177 (dk_at dksX0_init_6 6 rfl rfl)
abbrev cX0_blower : ByteArray := prog_1_method_8_code
def yX0_blower : MethodName := ⟨RX0, "blower", "(III)I"⟩
def dkwX0_blower_6 : List UInt8 := [180, 0, 66, 3, 92, 46, 4, 96, 79, 21, 4, 172]
abbrev dktX0_blower_6 : List UInt8 := dkwX0_blower_6 ++ []
def dkwX0_blower_5 : List UInt8 := [180, 0, 87, 21, 6, 50, 3, 21, 4, 96, 29, 79, 132, 6, 1, 167, 255, 223, 42, 180, 0, 12]
abbrev dktX0_blower_5 : List UInt8 := dkwX0_blower_5 ++ dktX0_blower_6
def dkwX0_blower_4 : List UInt8 := [79, 3, 54, 6, 21, 6, 42, 180, 0, 12, 180, 0, 66, 7, 46, 162, 0, 25, 42, 180, 0, 12]
abbrev dktX0_blower_4 : List UInt8 := dkwX0_blower_4 ++ dktX0_blower_5
def dkwX0_blower_3 : List UInt8 := [180, 0, 12, 180, 0, 80, 21, 4, 50, 184, 0, 83, 42, 180, 0, 12, 180, 0, 73, 3, 21, 4, 96, 29]
abbrev dktX0_blower_3 : List UInt8 := dkwX0_blower_3 ++ dktX0_blower_4
def dkwX0_blower_2 : List UInt8 := [2, 172, 6, 188, 10, 89, 3, 27, 79, 89, 4, 28, 79, 89, 5, 3, 79, 58, 5, 25, 5, 42]
abbrev dktX0_blower_2 : List UInt8 := dkwX0_blower_2 ++ dktX0_blower_3
def dkwX0_blower_1 : List UInt8 := [184, 0, 69, 153, 0, 21, 29, 3, 17, 3, 231, 184, 0, 69, 153, 0, 10, 21, 4, 16, 6, 160, 0, 5]
abbrev dktX0_blower_1 : List UInt8 := dkwX0_blower_1 ++ dktX0_blower_2
def dkwX0_blower_0 : List UInt8 := [42, 180, 0, 12, 180, 0, 66, 3, 46, 54, 4, 27, 4, 16, 9, 184, 0, 69, 153, 0, 30, 28, 3, 6]
abbrev dktX0_blower_0 : List UInt8 := dkwX0_blower_0 ++ dktX0_blower_1
theorem dksX0_blower_0 : cX0_blower.data.toList.drop 0 = dktX0_blower_0 := by decide +kernel
theorem dksX0_blower_1 : cX0_blower.data.toList.drop 24 = dktX0_blower_1 := dk_seg dksX0_blower_0 24 rfl rfl
theorem dksX0_blower_2 : cX0_blower.data.toList.drop 48 = dktX0_blower_2 := dk_seg dksX0_blower_1 24 rfl rfl
theorem dksX0_blower_3 : cX0_blower.data.toList.drop 70 = dktX0_blower_3 := dk_seg dksX0_blower_2 22 rfl rfl
theorem dksX0_blower_4 : cX0_blower.data.toList.drop 94 = dktX0_blower_4 := dk_seg dksX0_blower_3 24 rfl rfl
theorem dksX0_blower_5 : cX0_blower.data.toList.drop 116 = dktX0_blower_5 := dk_seg dksX0_blower_4 22 rfl rfl
theorem dksX0_blower_6 : cX0_blower.data.toList.drop 138 = dktX0_blower_6 := dk_seg dksX0_blower_5 22 rfl rfl
theorem dX0_blower_0 : decode cX0_blower 0 = .ok (.aload_n 0, 1) := dk_42 (dk_at dksX0_blower_0 0 rfl rfl)
theorem dX0_blower_1 : decode cX0_blower 1 = .ok (.getfield 12, 3) := dk_180 0 12 (dk_at dksX0_blower_0 1 rfl rfl)
theorem dX0_blower_4 : decode cX0_blower 4 = .ok (.getfield 66, 3) := dk_180 0 66 (dk_at dksX0_blower_0 4 rfl rfl)
theorem dX0_blower_7 : decode cX0_blower 7 = .ok (.iconst 0, 1) := dk_3 (dk_at dksX0_blower_0 7 rfl rfl)
theorem dX0_blower_8 : decode cX0_blower 8 = .ok (.iaload, 1) := dk_46 (dk_at dksX0_blower_0 8 rfl rfl)
theorem dX0_blower_9 : decode cX0_blower 9 = .ok (.istore 4, 2) := dk_54 4 (dk_at dksX0_blower_0 9 rfl rfl)
theorem dX0_blower_11 : decode cX0_blower 11 = .ok (.iload_n 1, 1) := dk_27 (dk_at dksX0_blower_0 11 rfl rfl)
theorem dX0_blower_12 : decode cX0_blower 12 = .ok (.iconst 1, 1) := dk_4 (dk_at dksX0_blower_0 12 rfl rfl)
theorem dX0_blower_13 : decode cX0_blower 13 = .ok (.bipush 9, 2) := dk_16 9 (dk_at dksX0_blower_0 13 rfl rfl)
theorem dX0_blower_15 : decode cX0_blower 15 = .ok (.invokestatic 69, 3) := dk_184 0 69 (dk_at dksX0_blower_0 15 rfl rfl)
theorem dX0_blower_18 : decode cX0_blower 18 = .ok (.ifCond .eq 30, 3) := dk_153 0 30 (dk_at dksX0_blower_0 18 rfl rfl)
theorem dX0_blower_21 : decode cX0_blower 21 = .ok (.iload_n 2, 1) := dk_28 (dk_at dksX0_blower_0 21 rfl rfl)
theorem dX0_blower_22 : decode cX0_blower 22 = .ok (.iconst 0, 1) := dk_3 (dk_at dksX0_blower_0 22 rfl rfl)
theorem dX0_blower_23 : decode cX0_blower 23 = .ok (.iconst 3, 1) := dk_6 (dk_at dksX0_blower_0 23 rfl rfl)
theorem dX0_blower_24 : decode cX0_blower 24 = .ok (.invokestatic 69, 3) := dk_184 0 69 (dk_at dksX0_blower_1 0 rfl rfl)
theorem dX0_blower_27 : decode cX0_blower 27 = .ok (.ifCond .eq 21, 3) := dk_153 0 21 (dk_at dksX0_blower_1 3 rfl rfl)
theorem dX0_blower_30 : decode cX0_blower 30 = .ok (.iload_n 3, 1) := dk_29 (dk_at dksX0_blower_1 6 rfl rfl)
theorem dX0_blower_31 : decode cX0_blower 31 = .ok (.iconst 0, 1) := dk_3 (dk_at dksX0_blower_1 7 rfl rfl)
theorem dX0_blower_32 : decode cX0_blower 32 = .ok (.sipush 999, 3) := dk_17 3 231 (dk_at dksX0_blower_1 8 rfl rfl)
theorem dX0_blower_35 : decode cX0_blower 35 = .ok (.invokestatic 69, 3) := dk_184 0 69 (dk_at dksX0_blower_1 11 rfl rfl)
theorem dX0_blower_38 : decode cX0_blower 38 = .ok (.ifCond .eq 10, 3) := dk_153 0 10 (dk_at dksX0_blower_1 14 rfl rfl)
theorem dX0_blower_41 : decode cX0_blower 41 = .ok (.iload 4, 2) := dk_21 4 (dk_at dksX0_blower_1 17 rfl rfl)
theorem dX0_blower_43 : decode cX0_blower 43 = .ok (.bipush 6, 2) := dk_16 6 (dk_at dksX0_blower_1 19 rfl rfl)
theorem dX0_blower_45 : decode cX0_blower 45 = .ok (.if_icmp .ne 5, 3) := dk_160 0 5 (dk_at dksX0_blower_1 21 rfl rfl)
theorem dX0_blower_48 : decode cX0_blower 48 = .ok (.iconst (-1), 1) := dk_2 (dk_at dksX0_blower_2 0 rfl rfl)
theorem dX0_blower_49 : decode cX0_blower 49 = .ok (.ireturn, 1) := dk_172 (dk_at dksX0_blower_2 1 rfl rfl)
theorem dX0_blower_50 : decode cX0_blower 50 = .ok (.iconst 3, 1) := dk_6 (dk_at dksX0_blower_2 2 rfl rfl)
theorem dX0_blower_51 : decode cX0_blower 51 = .ok (.newarray .int, 2) := dk_188_10 (dk_at dksX0_blower_2 3 rfl rfl)
theorem dX0_blower_53 : decode cX0_blower 53 = .ok (.dup, 1) := dk_89 (dk_at dksX0_blower_2 5 rfl rfl)
theorem dX0_blower_54 : decode cX0_blower 54 = .ok (.iconst 0, 1) := dk_3 (dk_at dksX0_blower_2 6 rfl rfl)
theorem dX0_blower_55 : decode cX0_blower 55 = .ok (.iload_n 1, 1) := dk_27 (dk_at dksX0_blower_2 7 rfl rfl)
theorem dX0_blower_56 : decode cX0_blower 56 = .ok (.iastore, 1) := dk_79 (dk_at dksX0_blower_2 8 rfl rfl)
theorem dX0_blower_57 : decode cX0_blower 57 = .ok (.dup, 1) := dk_89 (dk_at dksX0_blower_2 9 rfl rfl)
theorem dX0_blower_58 : decode cX0_blower 58 = .ok (.iconst 1, 1) := dk_4 (dk_at dksX0_blower_2 10 rfl rfl)
theorem dX0_blower_59 : decode cX0_blower 59 = .ok (.iload_n 2, 1) := dk_28 (dk_at dksX0_blower_2 11 rfl rfl)
theorem dX0_blower_60 : decode cX0_blower 60 = .ok (.iastore, 1) := dk_79 (dk_at dksX0_blower_2 12 rfl rfl)
theorem dX0_blower_61 : decode cX0_blower 61 = .ok (.dup, 1) := dk_89 (dk_at dksX0_blower_2 13 rfl rfl)
theorem dX0_blower_62 : decode cX0_blower 62 = .ok (.iconst 2, 1) := dk_5 (dk_at dksX0_blower_2 14 rfl rfl)
theorem dX0_blower_63 : decode cX0_blower 63 = .ok (.iconst 0, 1) := dk_3 (dk_at dksX0_blower_2 15 rfl rfl)
theorem dX0_blower_64 : decode cX0_blower 64 = .ok (.iastore, 1) := dk_79 (dk_at dksX0_blower_2 16 rfl rfl)
theorem dX0_blower_65 : decode cX0_blower 65 = .ok (.astore 5, 2) := dk_58 5 (dk_at dksX0_blower_2 17 rfl rfl)
theorem dX0_blower_67 : decode cX0_blower 67 = .ok (.aload 5, 2) := dk_25 5 (dk_at dksX0_blower_2 19 rfl rfl)
theorem dX0_blower_69 : decode cX0_blower 69 = .ok (.aload_n 0, 1) := dk_42 (dk_at dksX0_blower_2 21 rfl rfl)
theorem dX0_blower_70 : decode cX0_blower 70 = .ok (.getfield 12, 3) := dk_180 0 12 (dk_at dksX0_blower_3 0 rfl rfl)
theorem dX0_blower_73 : decode cX0_blower 73 = .ok (.getfield 80, 3) := dk_180 0 80 (dk_at dksX0_blower_3 3 rfl rfl)
theorem dX0_blower_76 : decode cX0_blower 76 = .ok (.iload 4, 2) := dk_21 4 (dk_at dksX0_blower_3 6 rfl rfl)
theorem dX0_blower_78 : decode cX0_blower 78 = .ok (.aaload, 1) := dk_50 (dk_at dksX0_blower_3 8 rfl rfl)
theorem dX0_blower_79 : decode cX0_blower 79 = .ok (.invokestatic 83, 3) := dk_184 0 83 (dk_at dksX0_blower_3 9 rfl rfl)
theorem dX0_blower_82 : decode cX0_blower 82 = .ok (.aload_n 0, 1) := dk_42 (dk_at dksX0_blower_3 12 rfl rfl)
theorem dX0_blower_83 : decode cX0_blower 83 = .ok (.getfield 12, 3) := dk_180 0 12 (dk_at dksX0_blower_3 13 rfl rfl)
theorem dX0_blower_86 : decode cX0_blower 86 = .ok (.getfield 73, 3) := dk_180 0 73 (dk_at dksX0_blower_3 16 rfl rfl)
theorem dX0_blower_89 : decode cX0_blower 89 = .ok (.iconst 0, 1) := dk_3 (dk_at dksX0_blower_3 19 rfl rfl)
theorem dX0_blower_90 : decode cX0_blower 90 = .ok (.iload 4, 2) := dk_21 4 (dk_at dksX0_blower_3 20 rfl rfl)
theorem dX0_blower_92 : decode cX0_blower 92 = .ok (.iadd, 1) := dk_96 (dk_at dksX0_blower_3 22 rfl rfl)
theorem dX0_blower_93 : decode cX0_blower 93 = .ok (.iload_n 3, 1) := dk_29 (dk_at dksX0_blower_3 23 rfl rfl)
theorem dX0_blower_94 : decode cX0_blower 94 = .ok (.iastore, 1) := dk_79 (dk_at dksX0_blower_4 0 rfl rfl)
theorem dX0_blower_95 : decode cX0_blower 95 = .ok (.iconst 0, 1) := dk_3 (dk_at dksX0_blower_4 1 rfl rfl)
theorem dX0_blower_96 : decode cX0_blower 96 = .ok (.istore 6, 2) := dk_54 6 (dk_at dksX0_blower_4 2 rfl rfl)
theorem dX0_blower_98 : decode cX0_blower 98 = .ok (.iload 6, 2) := dk_21 6 (dk_at dksX0_blower_4 4 rfl rfl)
theorem dX0_blower_100 : decode cX0_blower 100 = .ok (.aload_n 0, 1) := dk_42 (dk_at dksX0_blower_4 6 rfl rfl)
theorem dX0_blower_101 : decode cX0_blower 101 = .ok (.getfield 12, 3) := dk_180 0 12 (dk_at dksX0_blower_4 7 rfl rfl)
theorem dX0_blower_104 : decode cX0_blower 104 = .ok (.getfield 66, 3) := dk_180 0 66 (dk_at dksX0_blower_4 10 rfl rfl)
theorem dX0_blower_107 : decode cX0_blower 107 = .ok (.iconst 4, 1) := dk_7 (dk_at dksX0_blower_4 13 rfl rfl)
theorem dX0_blower_108 : decode cX0_blower 108 = .ok (.iaload, 1) := dk_46 (dk_at dksX0_blower_4 14 rfl rfl)
theorem dX0_blower_109 : decode cX0_blower 109 = .ok (.if_icmp .ge 25, 3) := dk_162 0 25 (dk_at dksX0_blower_4 15 rfl rfl)
theorem dX0_blower_112 : decode cX0_blower 112 = .ok (.aload_n 0, 1) := dk_42 (dk_at dksX0_blower_4 18 rfl rfl)
theorem dX0_blower_113 : decode cX0_blower 113 = .ok (.getfield 12, 3) := dk_180 0 12 (dk_at dksX0_blower_4 19 rfl rfl)
theorem dX0_blower_116 : decode cX0_blower 116 = .ok (.getfield 87, 3) := dk_180 0 87 (dk_at dksX0_blower_5 0 rfl rfl)
theorem dX0_blower_119 : decode cX0_blower 119 = .ok (.iload 6, 2) := dk_21 6 (dk_at dksX0_blower_5 3 rfl rfl)
theorem dX0_blower_121 : decode cX0_blower 121 = .ok (.aaload, 1) := dk_50 (dk_at dksX0_blower_5 5 rfl rfl)
theorem dX0_blower_122 : decode cX0_blower 122 = .ok (.iconst 0, 1) := dk_3 (dk_at dksX0_blower_5 6 rfl rfl)
theorem dX0_blower_123 : decode cX0_blower 123 = .ok (.iload 4, 2) := dk_21 4 (dk_at dksX0_blower_5 7 rfl rfl)
theorem dX0_blower_125 : decode cX0_blower 125 = .ok (.iadd, 1) := dk_96 (dk_at dksX0_blower_5 9 rfl rfl)
theorem dX0_blower_126 : decode cX0_blower 126 = .ok (.iload_n 3, 1) := dk_29 (dk_at dksX0_blower_5 10 rfl rfl)
theorem dX0_blower_127 : decode cX0_blower 127 = .ok (.iastore, 1) := dk_79 (dk_at dksX0_blower_5 11 rfl rfl)
theorem dX0_blower_128 : decode cX0_blower 128 = .ok (.iinc 6 1, 3) := dk_132 6 1 (dk_at dksX0_blower_5 12 rfl rfl)
theorem dX0_blower_131 : decode cX0_blower 131 = .ok (.goto (-33), 3) := dk_167 255 223 (dk_at dksX0_blower_5 15 rfl rfl)
theorem dX0_blower_134 : decode cX0_blower 134 = .ok (.aload_n 0, 1) := dk_42 (dk_at dksX0_blower_5 18 rfl rfl)
theorem dX0_blower_135 : decode cX0_blower 135 = .ok (.getfield 12, 3) := dk_180 0 12 (dk_at dksX0_blower_5 19 rfl rfl)
theorem dX0_blower_138 : decode cX0_blower 138 = .ok (.getfield 66, 3) := dk_180 0 66 (dk_at dksX0_blower_6 0 rfl rfl)
theorem dX0_blower_141 : decode cX0_blower 141 = .ok (.iconst 0, 1) := dk_3 (dk_at dksX0_blower_6 3 rfl rfl)
theorem dX0_blower_142 : decode cX0_blower 142 = .ok (.dup2, 1) := dk_92 (dk_at dksX0_blower_6 4 rfl rfl)
theorem dX0_blower_143 : decode cX0_blower 143 = .ok (.iaload, 1) := dk_46 (dk_at dksX0_blower_6 5 rfl rfl)
theorem dX0_blower_144 : decode cX0_blower 144 = .ok (.iconst 1, 1) := dk_4 (dk_at dksX0_blower_6 6 rfl rfl)
theorem dX0_blower_145 : decode cX0_blower 145 = .ok (.iadd, 1) := dk_96 (dk_at dksX0_blower_6 7 rfl rfl)
theorem dX0_blower_146 : decode cX0_blower 146 = .ok (.iastore, 1) := dk_79 (dk_at dksX0_blower_6 8 rfl rfl)
theorem dX0_blower_147 : decode cX0_blower 147 = .ok (.iload 4, 2) := dk_21 4 (dk_at dksX0_blower_6 9 rfl rfl)
theorem dX0_blower_149 : decode cX0_blower 149 = .ok (.ireturn, 1) := dk_172 (dk_at dksX0_blower_6 11 rfl rfl)
abbrev cX0_in : ByteArray := prog_1_method_1_code
def yX0_in : MethodName := ⟨RX0, "in", "(III)Z"⟩
def dkwX0_in_0 : List UInt8 := [26, 27, 161, 0, 12, 26, 28, 163, 0, 7, 4, 167, 0, 4, 3, 172]
abbrev dktX0_in_0 : List UInt8 := dkwX0_in_0 ++ []
theorem dksX0_in_0 : cX0_in.data.toList.drop 0 = dktX0_in_0 := by decide +kernel
theorem dX0_in_0 : decode cX0_in 0 = .ok (.iload_n 0, 1) := dk_26 (dk_at dksX0_in_0 0 rfl rfl)
theorem dX0_in_1 : decode cX0_in 1 = .ok (.iload_n 1, 1) := dk_27 (dk_at dksX0_in_0 1 rfl rfl)
theorem dX0_in_2 : decode cX0_in 2 = .ok (.if_icmp .lt 12, 3) := dk_161 0 12 (dk_at dksX0_in_0 2 rfl rfl)
theorem dX0_in_5 : decode cX0_in 5 = .ok (.iload_n 0, 1) := dk_26 (dk_at dksX0_in_0 5 rfl rfl)
theorem dX0_in_6 : decode cX0_in 6 = .ok (.iload_n 2, 1) := dk_28 (dk_at dksX0_in_0 6 rfl rfl)
theorem dX0_in_7 : decode cX0_in 7 = .ok (.if_icmp .gt 7, 3) := dk_163 0 7 (dk_at dksX0_in_0 7 rfl rfl)
theorem dX0_in_10 : decode cX0_in 10 = .ok (.iconst 1, 1) := dk_4 (dk_at dksX0_in_0 10 rfl rfl)
theorem dX0_in_11 : decode cX0_in 11 = .ok (.goto 4, 3) := dk_167 0 4 (dk_at dksX0_in_0 11 rfl rfl)
theorem dX0_in_14 : decode cX0_in 14 = .ok (.iconst 0, 1) := dk_3 (dk_at dksX0_in_0 14 rfl rfl)
theorem dX0_in_15 : decode cX0_in 15 = .ok (.ireturn, 1) := dk_172 (dk_at dksX0_in_0 15 rfl rfl)
abbrev cX0_quarrel : ByteArray := prog_1_method_9_code
def yX0_quarrel : MethodName := ⟨RX0, "quarrel", "(IIZ)Z"⟩
def dkwX0_quarrel_1 : List UInt8 := [27, 28, 29, 182, 0, 94, 42, 28, 27, 29, 182, 0, 94, 4, 172]
abbrev dktX0_quarrel_1 : List UInt8 := dkwX0_quarrel_1 ++ []
def dkwX0_quarrel_0 : List UInt8 := [42, 27, 182, 0, 90, 153, 0, 16, 42, 28, 182, 0, 90, 153, 0, 8, 27, 28, 160, 0, 5, 3, 172, 42]
abbrev dktX0_quarrel_0 : List UInt8 := dkwX0_quarrel_0 ++ dktX0_quarrel_1
theorem dksX0_quarrel_0 : cX0_quarrel.data.toList.drop 0 = dktX0_quarrel_0 := by decide +kernel
theorem dksX0_quarrel_1 : cX0_quarrel.data.toList.drop 24 = dktX0_quarrel_1 := dk_seg dksX0_quarrel_0 24 rfl rfl
theorem dX0_quarrel_0 : decode cX0_quarrel 0 = .ok (.aload_n 0, 1) := dk_42 (dk_at dksX0_quarrel_0 0 rfl rfl)
theorem dX0_quarrel_1 : decode cX0_quarrel 1 = .ok (.iload_n 1, 1) := dk_27 (dk_at dksX0_quarrel_0 1 rfl rfl)
theorem dX0_quarrel_2 : decode cX0_quarrel 2 = .ok (.invokevirtual 90, 3) := dk_182 0 90 (dk_at dksX0_quarrel_0 2 rfl rfl)
theorem dX0_quarrel_5 : decode cX0_quarrel 5 = .ok (.ifCond .eq 16, 3) := dk_153 0 16 (dk_at dksX0_quarrel_0 5 rfl rfl)
theorem dX0_quarrel_8 : decode cX0_quarrel 8 = .ok (.aload_n 0, 1) := dk_42 (dk_at dksX0_quarrel_0 8 rfl rfl)
theorem dX0_quarrel_9 : decode cX0_quarrel 9 = .ok (.iload_n 2, 1) := dk_28 (dk_at dksX0_quarrel_0 9 rfl rfl)
theorem dX0_quarrel_10 : decode cX0_quarrel 10 = .ok (.invokevirtual 90, 3) := dk_182 0 90 (dk_at dksX0_quarrel_0 10 rfl rfl)
theorem dX0_quarrel_13 : decode cX0_quarrel 13 = .ok (.ifCond .eq 8, 3) := dk_153 0 8 (dk_at dksX0_quarrel_0 13 rfl rfl)
theorem dX0_quarrel_16 : decode cX0_quarrel 16 = .ok (.iload_n 1, 1) := dk_27 (dk_at dksX0_quarrel_0 16 rfl rfl)
theorem dX0_quarrel_17 : decode cX0_quarrel 17 = .ok (.iload_n 2, 1) := dk_28 (dk_at dksX0_quarrel_0 17 rfl rfl)
theorem dX0_quarrel_18 : decode cX0_quarrel 18 = .ok (.if_icmp .ne 5, 3) := dk_160 0 5 (dk_at dksX0_quarrel_0 18 rfl rfl)
theorem dX0_quarrel_21 : decode cX0_quarrel 21 = .ok (.iconst 0, 1) := dk_3 (dk_at dksX0_quarrel_0 21 rfl rfl)
theorem dX0_quarrel_22 : decode cX0_quarrel 22 = .ok (.ireturn, 1) := dk_172 (dk_at dksX0_quarrel_0 22 rfl rfl)
theorem dX0_quarrel_23 : decode cX0_quarrel 23 = .ok (.aload_n 0, 1) := dk_42 (dk_at dksX0_quarrel_0 23 rfl rfl)
theorem dX0_quarrel_24 : decode cX0_quarrel 24 = .ok (.iload_n 1, 1) := dk_27 (dk_at dksX0_quarrel_1 0 rfl rfl)
theorem dX0_quarrel_25 : decode cX0_quarrel 25 = .ok (.iload_n 2, 1) := dk_28 (dk_at dksX0_quarrel_1 1 rfl rfl)
theorem dX0_quarrel_26 : decode cX0_quarrel 26 = .ok (.iload_n 3, 1) := dk_29 (dk_at dksX0_quarrel_1 2 rfl rfl)
theorem dX0_quarrel_27 : decode cX0_quarrel 27 = .ok (.invokevirtual 94, 3) := dk_182 0 94 (dk_at dksX0_quarrel_1 3 rfl rfl)
theorem dX0_quarrel_30 : decode cX0_quarrel 30 = .ok (.aload_n 0, 1) := dk_42 (dk_at dksX0_quarrel_1 6 rfl rfl)
theorem dX0_quarrel_31 : decode cX0_quarrel 31 = .ok (.iload_n 2, 1) := dk_28 (dk_at dksX0_quarrel_1 7 rfl rfl)
theorem dX0_quarrel_32 : decode cX0_quarrel 32 = .ok (.iload_n 1, 1) := dk_27 (dk_at dksX0_quarrel_1 8 rfl rfl)
theorem dX0_quarrel_33 : decode cX0_quarrel 33 = .ok (.iload_n 3, 1) := dk_29 (dk_at dksX0_quarrel_1 9 rfl rfl)
theorem dX0_quarrel_34 : decode cX0_quarrel 34 = .ok (.invokevirtual 94, 3) := dk_182 0 94 (dk_at dksX0_quarrel_1 10 rfl rfl)
theorem dX0_quarrel_37 : decode cX0_quarrel 37 = .ok (.iconst 1, 1) := dk_4 (dk_at dksX0_quarrel_1 13 rfl rfl)
theorem dX0_quarrel_38 : decode cX0_quarrel 38 = .ok (.ireturn, 1) := dk_172 (dk_at dksX0_quarrel_1 14 rfl rfl)
abbrev cX0_isBlower : ByteArray := prog_1_method_3_code
def yX0_isBlower : MethodName := ⟨RX0, "isBlower", "(I)Z"⟩
def dkwX0_isBlower_0 : List UInt8 := [27, 3, 42, 180, 0, 12, 180, 0, 66, 3, 46, 4, 100, 184, 0, 69, 172]
abbrev dktX0_isBlower_0 : List UInt8 := dkwX0_isBlower_0 ++ []
theorem dksX0_isBlower_0 : cX0_isBlower.data.toList.drop 0 = dktX0_isBlower_0 := by decide +kernel
theorem dX0_isBlower_0 : decode cX0_isBlower 0 = .ok (.iload_n 1, 1) := dk_27 (dk_at dksX0_isBlower_0 0 rfl rfl)
theorem dX0_isBlower_1 : decode cX0_isBlower 1 = .ok (.iconst 0, 1) := dk_3 (dk_at dksX0_isBlower_0 1 rfl rfl)
theorem dX0_isBlower_2 : decode cX0_isBlower 2 = .ok (.aload_n 0, 1) := dk_42 (dk_at dksX0_isBlower_0 2 rfl rfl)
theorem dX0_isBlower_3 : decode cX0_isBlower 3 = .ok (.getfield 12, 3) := dk_180 0 12 (dk_at dksX0_isBlower_0 3 rfl rfl)
theorem dX0_isBlower_6 : decode cX0_isBlower 6 = .ok (.getfield 66, 3) := dk_180 0 66 (dk_at dksX0_isBlower_0 6 rfl rfl)
theorem dX0_isBlower_9 : decode cX0_isBlower 9 = .ok (.iconst 0, 1) := dk_3 (dk_at dksX0_isBlower_0 9 rfl rfl)
theorem dX0_isBlower_10 : decode cX0_isBlower 10 = .ok (.iaload, 1) := dk_46 (dk_at dksX0_isBlower_0 10 rfl rfl)
theorem dX0_isBlower_11 : decode cX0_isBlower 11 = .ok (.iconst 1, 1) := dk_4 (dk_at dksX0_isBlower_0 11 rfl rfl)
theorem dX0_isBlower_12 : decode cX0_isBlower 12 = .ok (.isub, 1) := dk_100 (dk_at dksX0_isBlower_0 12 rfl rfl)
theorem dX0_isBlower_13 : decode cX0_isBlower 13 = .ok (.invokestatic 69, 3) := dk_184 0 69 (dk_at dksX0_isBlower_0 13 rfl rfl)
theorem dX0_isBlower_16 : decode cX0_isBlower 16 = .ok (.ireturn, 1) := dk_172 (dk_at dksX0_isBlower_0 16 rfl rfl)
abbrev cX0_quarrels : ByteArray := prog_1_method_10_code
def yX0_quarrels : MethodName := ⟨RX0, "quarrels", "(IIZ)V"⟩
def dkwX0_quarrels_2 : List UInt8 := [126, 79, 177]
abbrev dktX0_quarrels_2 : List UInt8 := dkwX0_quarrels_2 ++ []
def dkwX0_quarrels_1 : List UInt8 := [46, 4, 28, 120, 128, 167, 0, 20, 42, 180, 0, 12, 180, 0, 80, 27, 50, 5, 46, 4, 28, 120, 2, 130]
abbrev dktX0_quarrels_1 : List UInt8 := dkwX0_quarrels_1 ++ dktX0_quarrels_2
def dkwX0_quarrels_0 : List UInt8 := [42, 180, 0, 12, 180, 0, 80, 27, 50, 5, 29, 153, 0, 21, 42, 180, 0, 12, 180, 0, 80, 27, 50, 5]
abbrev dktX0_quarrels_0 : List UInt8 := dkwX0_quarrels_0 ++ dktX0_quarrels_1
theorem dksX0_quarrels_0 : cX0_quarrels.data.toList.drop 0 = dktX0_quarrels_0 := by decide +kernel
theorem dksX0_quarrels_1 : cX0_quarrels.data.toList.drop 24 = dktX0_quarrels_1 := dk_seg dksX0_quarrels_0 24 rfl rfl
theorem dksX0_quarrels_2 : cX0_quarrels.data.toList.drop 48 = dktX0_quarrels_2 := dk_seg dksX0_quarrels_1 24 rfl rfl
theorem dX0_quarrels_0 : decode cX0_quarrels 0 = .ok (.aload_n 0, 1) := dk_42 (dk_at dksX0_quarrels_0 0 rfl rfl)
theorem dX0_quarrels_1 : decode cX0_quarrels 1 = .ok (.getfield 12, 3) := dk_180 0 12 (dk_at dksX0_quarrels_0 1 rfl rfl)
theorem dX0_quarrels_4 : decode cX0_quarrels 4 = .ok (.getfield 80, 3) := dk_180 0 80 (dk_at dksX0_quarrels_0 4 rfl rfl)
theorem dX0_quarrels_7 : decode cX0_quarrels 7 = .ok (.iload_n 1, 1) := dk_27 (dk_at dksX0_quarrels_0 7 rfl rfl)
theorem dX0_quarrels_8 : decode cX0_quarrels 8 = .ok (.aaload, 1) := dk_50 (dk_at dksX0_quarrels_0 8 rfl rfl)
theorem dX0_quarrels_9 : decode cX0_quarrels 9 = .ok (.iconst 2, 1) := dk_5 (dk_at dksX0_quarrels_0 9 rfl rfl)
theorem dX0_quarrels_10 : decode cX0_quarrels 10 = .ok (.iload_n 3, 1) := dk_29 (dk_at dksX0_quarrels_0 10 rfl rfl)
theorem dX0_quarrels_11 : decode cX0_quarrels 11 = .ok (.ifCond .eq 21, 3) := dk_153 0 21 (dk_at dksX0_quarrels_0 11 rfl rfl)
theorem dX0_quarrels_14 : decode cX0_quarrels 14 = .ok (.aload_n 0, 1) := dk_42 (dk_at dksX0_quarrels_0 14 rfl rfl)
theorem dX0_quarrels_15 : decode cX0_quarrels 15 = .ok (.getfield 12, 3) := dk_180 0 12 (dk_at dksX0_quarrels_0 15 rfl rfl)
theorem dX0_quarrels_18 : decode cX0_quarrels 18 = .ok (.getfield 80, 3) := dk_180 0 80 (dk_at dksX0_quarrels_0 18 rfl rfl)
theorem dX0_quarrels_21 : decode cX0_quarrels 21 = .ok (.iload_n 1, 1) := dk_27 (dk_at dksX0_quarrels_0 21 rfl rfl)
theorem dX0_quarrels_22 : decode cX0_quarrels 22 = .ok (.aaload, 1) := dk_50 (dk_at dksX0_quarrels_0 22 rfl rfl)
theorem dX0_quarrels_23 : decode cX0_quarrels 23 = .ok (.iconst 2, 1) := dk_5 (dk_at dksX0_quarrels_0 23 rfl rfl)
theorem dX0_quarrels_24 : decode cX0_quarrels 24 = .ok (.iaload, 1) := dk_46 (dk_at dksX0_quarrels_1 0 rfl rfl)
theorem dX0_quarrels_25 : decode cX0_quarrels 25 = .ok (.iconst 1, 1) := dk_4 (dk_at dksX0_quarrels_1 1 rfl rfl)
theorem dX0_quarrels_26 : decode cX0_quarrels 26 = .ok (.iload_n 2, 1) := dk_28 (dk_at dksX0_quarrels_1 2 rfl rfl)
theorem dX0_quarrels_27 : decode cX0_quarrels 27 = .ok (.ishl, 1) := dk_120 (dk_at dksX0_quarrels_1 3 rfl rfl)
theorem dX0_quarrels_28 : decode cX0_quarrels 28 = .ok (.ior, 1) := dk_128 (dk_at dksX0_quarrels_1 4 rfl rfl)
theorem dX0_quarrels_29 : decode cX0_quarrels 29 = .ok (.goto 20, 3) := dk_167 0 20 (dk_at dksX0_quarrels_1 5 rfl rfl)
theorem dX0_quarrels_32 : decode cX0_quarrels 32 = .ok (.aload_n 0, 1) := dk_42 (dk_at dksX0_quarrels_1 8 rfl rfl)
theorem dX0_quarrels_33 : decode cX0_quarrels 33 = .ok (.getfield 12, 3) := dk_180 0 12 (dk_at dksX0_quarrels_1 9 rfl rfl)
theorem dX0_quarrels_36 : decode cX0_quarrels 36 = .ok (.getfield 80, 3) := dk_180 0 80 (dk_at dksX0_quarrels_1 12 rfl rfl)
theorem dX0_quarrels_39 : decode cX0_quarrels 39 = .ok (.iload_n 1, 1) := dk_27 (dk_at dksX0_quarrels_1 15 rfl rfl)
theorem dX0_quarrels_40 : decode cX0_quarrels 40 = .ok (.aaload, 1) := dk_50 (dk_at dksX0_quarrels_1 16 rfl rfl)
theorem dX0_quarrels_41 : decode cX0_quarrels 41 = .ok (.iconst 2, 1) := dk_5 (dk_at dksX0_quarrels_1 17 rfl rfl)
theorem dX0_quarrels_42 : decode cX0_quarrels 42 = .ok (.iaload, 1) := dk_46 (dk_at dksX0_quarrels_1 18 rfl rfl)
theorem dX0_quarrels_43 : decode cX0_quarrels 43 = .ok (.iconst 1, 1) := dk_4 (dk_at dksX0_quarrels_1 19 rfl rfl)
theorem dX0_quarrels_44 : decode cX0_quarrels 44 = .ok (.iload_n 2, 1) := dk_28 (dk_at dksX0_quarrels_1 20 rfl rfl)
theorem dX0_quarrels_45 : decode cX0_quarrels 45 = .ok (.ishl, 1) := dk_120 (dk_at dksX0_quarrels_1 21 rfl rfl)
theorem dX0_quarrels_46 : decode cX0_quarrels 46 = .ok (.iconst (-1), 1) := dk_2 (dk_at dksX0_quarrels_1 22 rfl rfl)
theorem dX0_quarrels_47 : decode cX0_quarrels 47 = .ok (.ixor, 1) := dk_130 (dk_at dksX0_quarrels_1 23 rfl rfl)
theorem dX0_quarrels_48 : decode cX0_quarrels 48 = .ok (.iand, 1) := dk_126 (dk_at dksX0_quarrels_2 0 rfl rfl)
theorem dX0_quarrels_49 : decode cX0_quarrels 49 = .ok (.iastore, 1) := dk_79 (dk_at dksX0_quarrels_2 1 rfl rfl)
theorem dX0_quarrels_50 : decode cX0_quarrels 50 = .ok (.return_, 1) := dk_177 (dk_at dksX0_quarrels_2 2 rfl rfl)
abbrev cX0_kind : ByteArray := prog_1_method_11_code
def yX0_kind : MethodName := ⟨RX0, "kind", "(III)I"⟩
def dkwX0_kind_4 : List UInt8 := [96, 79, 21, 4, 172]
abbrev dktX0_kind_4 : List UInt8 := dkwX0_kind_4 ++ []
def dkwX0_kind_3 : List UInt8 := [42, 180, 0, 12, 180, 0, 98, 21, 4, 50, 184, 0, 83, 42, 180, 0, 12, 180, 0, 66, 4, 92, 46, 4]
abbrev dktX0_kind_3 : List UInt8 := dkwX0_kind_3 ++ dktX0_kind_4
def dkwX0_kind_2 : List UInt8 := [160, 0, 5, 2, 172, 6, 188, 10, 89, 3, 27, 79, 89, 4, 28, 79, 89, 5, 29, 79, 58, 5, 25, 5]
abbrev dktX0_kind_2 : List UInt8 := dkwX0_kind_2 ++ dktX0_kind_3
def dkwX0_kind_1 : List UInt8 := [16, 15, 184, 0, 69, 153, 0, 21, 29, 3, 17, 3, 231, 184, 0, 69, 153, 0, 10, 21, 4, 16, 6]
abbrev dktX0_kind_1 : List UInt8 := dkwX0_kind_1 ++ dktX0_kind_2
def dkwX0_kind_0 : List UInt8 := [42, 180, 0, 12, 180, 0, 66, 4, 46, 54, 4, 27, 4, 16, 30, 184, 0, 69, 153, 0, 31, 28, 3]
abbrev dktX0_kind_0 : List UInt8 := dkwX0_kind_0 ++ dktX0_kind_1
theorem dksX0_kind_0 : cX0_kind.data.toList.drop 0 = dktX0_kind_0 := by decide +kernel
theorem dksX0_kind_1 : cX0_kind.data.toList.drop 23 = dktX0_kind_1 := dk_seg dksX0_kind_0 23 rfl rfl
theorem dksX0_kind_2 : cX0_kind.data.toList.drop 46 = dktX0_kind_2 := dk_seg dksX0_kind_1 23 rfl rfl
theorem dksX0_kind_3 : cX0_kind.data.toList.drop 70 = dktX0_kind_3 := dk_seg dksX0_kind_2 24 rfl rfl
theorem dksX0_kind_4 : cX0_kind.data.toList.drop 94 = dktX0_kind_4 := dk_seg dksX0_kind_3 24 rfl rfl
theorem dX0_kind_0 : decode cX0_kind 0 = .ok (.aload_n 0, 1) := dk_42 (dk_at dksX0_kind_0 0 rfl rfl)
theorem dX0_kind_1 : decode cX0_kind 1 = .ok (.getfield 12, 3) := dk_180 0 12 (dk_at dksX0_kind_0 1 rfl rfl)
theorem dX0_kind_4 : decode cX0_kind 4 = .ok (.getfield 66, 3) := dk_180 0 66 (dk_at dksX0_kind_0 4 rfl rfl)
theorem dX0_kind_7 : decode cX0_kind 7 = .ok (.iconst 1, 1) := dk_4 (dk_at dksX0_kind_0 7 rfl rfl)
theorem dX0_kind_8 : decode cX0_kind 8 = .ok (.iaload, 1) := dk_46 (dk_at dksX0_kind_0 8 rfl rfl)
theorem dX0_kind_9 : decode cX0_kind 9 = .ok (.istore 4, 2) := dk_54 4 (dk_at dksX0_kind_0 9 rfl rfl)
theorem dX0_kind_11 : decode cX0_kind 11 = .ok (.iload_n 1, 1) := dk_27 (dk_at dksX0_kind_0 11 rfl rfl)
theorem dX0_kind_12 : decode cX0_kind 12 = .ok (.iconst 1, 1) := dk_4 (dk_at dksX0_kind_0 12 rfl rfl)
theorem dX0_kind_13 : decode cX0_kind 13 = .ok (.bipush 30, 2) := dk_16 30 (dk_at dksX0_kind_0 13 rfl rfl)
theorem dX0_kind_15 : decode cX0_kind 15 = .ok (.invokestatic 69, 3) := dk_184 0 69 (dk_at dksX0_kind_0 15 rfl rfl)
theorem dX0_kind_18 : decode cX0_kind 18 = .ok (.ifCond .eq 31, 3) := dk_153 0 31 (dk_at dksX0_kind_0 18 rfl rfl)
theorem dX0_kind_21 : decode cX0_kind 21 = .ok (.iload_n 2, 1) := dk_28 (dk_at dksX0_kind_0 21 rfl rfl)
theorem dX0_kind_22 : decode cX0_kind 22 = .ok (.iconst 0, 1) := dk_3 (dk_at dksX0_kind_0 22 rfl rfl)
theorem dX0_kind_23 : decode cX0_kind 23 = .ok (.bipush 15, 2) := dk_16 15 (dk_at dksX0_kind_1 0 rfl rfl)
theorem dX0_kind_25 : decode cX0_kind 25 = .ok (.invokestatic 69, 3) := dk_184 0 69 (dk_at dksX0_kind_1 2 rfl rfl)
theorem dX0_kind_28 : decode cX0_kind 28 = .ok (.ifCond .eq 21, 3) := dk_153 0 21 (dk_at dksX0_kind_1 5 rfl rfl)
theorem dX0_kind_31 : decode cX0_kind 31 = .ok (.iload_n 3, 1) := dk_29 (dk_at dksX0_kind_1 8 rfl rfl)
theorem dX0_kind_32 : decode cX0_kind 32 = .ok (.iconst 0, 1) := dk_3 (dk_at dksX0_kind_1 9 rfl rfl)
theorem dX0_kind_33 : decode cX0_kind 33 = .ok (.sipush 999, 3) := dk_17 3 231 (dk_at dksX0_kind_1 10 rfl rfl)
theorem dX0_kind_36 : decode cX0_kind 36 = .ok (.invokestatic 69, 3) := dk_184 0 69 (dk_at dksX0_kind_1 13 rfl rfl)
theorem dX0_kind_39 : decode cX0_kind 39 = .ok (.ifCond .eq 10, 3) := dk_153 0 10 (dk_at dksX0_kind_1 16 rfl rfl)
theorem dX0_kind_42 : decode cX0_kind 42 = .ok (.iload 4, 2) := dk_21 4 (dk_at dksX0_kind_1 19 rfl rfl)
theorem dX0_kind_44 : decode cX0_kind 44 = .ok (.bipush 6, 2) := dk_16 6 (dk_at dksX0_kind_1 21 rfl rfl)
theorem dX0_kind_46 : decode cX0_kind 46 = .ok (.if_icmp .ne 5, 3) := dk_160 0 5 (dk_at dksX0_kind_2 0 rfl rfl)
theorem dX0_kind_49 : decode cX0_kind 49 = .ok (.iconst (-1), 1) := dk_2 (dk_at dksX0_kind_2 3 rfl rfl)
theorem dX0_kind_50 : decode cX0_kind 50 = .ok (.ireturn, 1) := dk_172 (dk_at dksX0_kind_2 4 rfl rfl)
theorem dX0_kind_51 : decode cX0_kind 51 = .ok (.iconst 3, 1) := dk_6 (dk_at dksX0_kind_2 5 rfl rfl)
theorem dX0_kind_52 : decode cX0_kind 52 = .ok (.newarray .int, 2) := dk_188_10 (dk_at dksX0_kind_2 6 rfl rfl)
theorem dX0_kind_54 : decode cX0_kind 54 = .ok (.dup, 1) := dk_89 (dk_at dksX0_kind_2 8 rfl rfl)
theorem dX0_kind_55 : decode cX0_kind 55 = .ok (.iconst 0, 1) := dk_3 (dk_at dksX0_kind_2 9 rfl rfl)
theorem dX0_kind_56 : decode cX0_kind 56 = .ok (.iload_n 1, 1) := dk_27 (dk_at dksX0_kind_2 10 rfl rfl)
theorem dX0_kind_57 : decode cX0_kind 57 = .ok (.iastore, 1) := dk_79 (dk_at dksX0_kind_2 11 rfl rfl)
theorem dX0_kind_58 : decode cX0_kind 58 = .ok (.dup, 1) := dk_89 (dk_at dksX0_kind_2 12 rfl rfl)
theorem dX0_kind_59 : decode cX0_kind 59 = .ok (.iconst 1, 1) := dk_4 (dk_at dksX0_kind_2 13 rfl rfl)
theorem dX0_kind_60 : decode cX0_kind 60 = .ok (.iload_n 2, 1) := dk_28 (dk_at dksX0_kind_2 14 rfl rfl)
theorem dX0_kind_61 : decode cX0_kind 61 = .ok (.iastore, 1) := dk_79 (dk_at dksX0_kind_2 15 rfl rfl)
theorem dX0_kind_62 : decode cX0_kind 62 = .ok (.dup, 1) := dk_89 (dk_at dksX0_kind_2 16 rfl rfl)
theorem dX0_kind_63 : decode cX0_kind 63 = .ok (.iconst 2, 1) := dk_5 (dk_at dksX0_kind_2 17 rfl rfl)
theorem dX0_kind_64 : decode cX0_kind 64 = .ok (.iload_n 3, 1) := dk_29 (dk_at dksX0_kind_2 18 rfl rfl)
theorem dX0_kind_65 : decode cX0_kind 65 = .ok (.iastore, 1) := dk_79 (dk_at dksX0_kind_2 19 rfl rfl)
theorem dX0_kind_66 : decode cX0_kind 66 = .ok (.astore 5, 2) := dk_58 5 (dk_at dksX0_kind_2 20 rfl rfl)
theorem dX0_kind_68 : decode cX0_kind 68 = .ok (.aload 5, 2) := dk_25 5 (dk_at dksX0_kind_2 22 rfl rfl)
theorem dX0_kind_70 : decode cX0_kind 70 = .ok (.aload_n 0, 1) := dk_42 (dk_at dksX0_kind_3 0 rfl rfl)
theorem dX0_kind_71 : decode cX0_kind 71 = .ok (.getfield 12, 3) := dk_180 0 12 (dk_at dksX0_kind_3 1 rfl rfl)
theorem dX0_kind_74 : decode cX0_kind 74 = .ok (.getfield 98, 3) := dk_180 0 98 (dk_at dksX0_kind_3 4 rfl rfl)
theorem dX0_kind_77 : decode cX0_kind 77 = .ok (.iload 4, 2) := dk_21 4 (dk_at dksX0_kind_3 7 rfl rfl)
theorem dX0_kind_79 : decode cX0_kind 79 = .ok (.aaload, 1) := dk_50 (dk_at dksX0_kind_3 9 rfl rfl)
theorem dX0_kind_80 : decode cX0_kind 80 = .ok (.invokestatic 83, 3) := dk_184 0 83 (dk_at dksX0_kind_3 10 rfl rfl)
theorem dX0_kind_83 : decode cX0_kind 83 = .ok (.aload_n 0, 1) := dk_42 (dk_at dksX0_kind_3 13 rfl rfl)
theorem dX0_kind_84 : decode cX0_kind 84 = .ok (.getfield 12, 3) := dk_180 0 12 (dk_at dksX0_kind_3 14 rfl rfl)
theorem dX0_kind_87 : decode cX0_kind 87 = .ok (.getfield 66, 3) := dk_180 0 66 (dk_at dksX0_kind_3 17 rfl rfl)
theorem dX0_kind_90 : decode cX0_kind 90 = .ok (.iconst 1, 1) := dk_4 (dk_at dksX0_kind_3 20 rfl rfl)
theorem dX0_kind_91 : decode cX0_kind 91 = .ok (.dup2, 1) := dk_92 (dk_at dksX0_kind_3 21 rfl rfl)
theorem dX0_kind_92 : decode cX0_kind 92 = .ok (.iaload, 1) := dk_46 (dk_at dksX0_kind_3 22 rfl rfl)
theorem dX0_kind_93 : decode cX0_kind 93 = .ok (.iconst 1, 1) := dk_4 (dk_at dksX0_kind_3 23 rfl rfl)
theorem dX0_kind_94 : decode cX0_kind 94 = .ok (.iadd, 1) := dk_96 (dk_at dksX0_kind_4 0 rfl rfl)
theorem dX0_kind_95 : decode cX0_kind 95 = .ok (.iastore, 1) := dk_79 (dk_at dksX0_kind_4 1 rfl rfl)
theorem dX0_kind_96 : decode cX0_kind 96 = .ok (.iload 4, 2) := dk_21 4 (dk_at dksX0_kind_4 2 rfl rfl)
theorem dX0_kind_98 : decode cX0_kind 98 = .ok (.ireturn, 1) := dk_172 (dk_at dksX0_kind_4 4 rfl rfl)
abbrev cX0_feed : ByteArray := prog_1_method_13_code
def yX0_feed : MethodName := ⟨RX0, "feed", "(IIIII)I"⟩
def dkwX0_feed_2 : List UInt8 := [172]
abbrev dktX0_feed_2 : List UInt8 := dkwX0_feed_2 ++ []
def dkwX0_feed_1 : List UInt8 := [182, 0, 104, 42, 29, 182, 0, 104, 42, 21, 4, 182, 0, 104, 42, 21, 5, 182, 0, 104, 42, 180, 0, 101]
abbrev dktX0_feed_1 : List UInt8 := dkwX0_feed_1 ++ dktX0_feed_2
def dkwX0_feed_0 : List UInt8 := [42, 180, 0, 101, 16, 20, 96, 17, 1, 44, 164, 0, 5, 2, 172, 42, 27, 182, 0, 104, 42, 28]
abbrev dktX0_feed_0 : List UInt8 := dkwX0_feed_0 ++ dktX0_feed_1
theorem dksX0_feed_0 : cX0_feed.data.toList.drop 0 = dktX0_feed_0 := by decide +kernel
theorem dksX0_feed_1 : cX0_feed.data.toList.drop 22 = dktX0_feed_1 := dk_seg dksX0_feed_0 22 rfl rfl
theorem dksX0_feed_2 : cX0_feed.data.toList.drop 46 = dktX0_feed_2 := dk_seg dksX0_feed_1 24 rfl rfl
theorem dX0_feed_0 : decode cX0_feed 0 = .ok (.aload_n 0, 1) := dk_42 (dk_at dksX0_feed_0 0 rfl rfl)
theorem dX0_feed_1 : decode cX0_feed 1 = .ok (.getfield 101, 3) := dk_180 0 101 (dk_at dksX0_feed_0 1 rfl rfl)
theorem dX0_feed_4 : decode cX0_feed 4 = .ok (.bipush 20, 2) := dk_16 20 (dk_at dksX0_feed_0 4 rfl rfl)
theorem dX0_feed_6 : decode cX0_feed 6 = .ok (.iadd, 1) := dk_96 (dk_at dksX0_feed_0 6 rfl rfl)
theorem dX0_feed_7 : decode cX0_feed 7 = .ok (.sipush 300, 3) := dk_17 1 44 (dk_at dksX0_feed_0 7 rfl rfl)
theorem dX0_feed_10 : decode cX0_feed 10 = .ok (.if_icmp .le 5, 3) := dk_164 0 5 (dk_at dksX0_feed_0 10 rfl rfl)
theorem dX0_feed_13 : decode cX0_feed 13 = .ok (.iconst (-1), 1) := dk_2 (dk_at dksX0_feed_0 13 rfl rfl)
theorem dX0_feed_14 : decode cX0_feed 14 = .ok (.ireturn, 1) := dk_172 (dk_at dksX0_feed_0 14 rfl rfl)
theorem dX0_feed_15 : decode cX0_feed 15 = .ok (.aload_n 0, 1) := dk_42 (dk_at dksX0_feed_0 15 rfl rfl)
theorem dX0_feed_16 : decode cX0_feed 16 = .ok (.iload_n 1, 1) := dk_27 (dk_at dksX0_feed_0 16 rfl rfl)
theorem dX0_feed_17 : decode cX0_feed 17 = .ok (.invokevirtual 104, 3) := dk_182 0 104 (dk_at dksX0_feed_0 17 rfl rfl)
theorem dX0_feed_20 : decode cX0_feed 20 = .ok (.aload_n 0, 1) := dk_42 (dk_at dksX0_feed_0 20 rfl rfl)
theorem dX0_feed_21 : decode cX0_feed 21 = .ok (.iload_n 2, 1) := dk_28 (dk_at dksX0_feed_0 21 rfl rfl)
theorem dX0_feed_22 : decode cX0_feed 22 = .ok (.invokevirtual 104, 3) := dk_182 0 104 (dk_at dksX0_feed_1 0 rfl rfl)
theorem dX0_feed_25 : decode cX0_feed 25 = .ok (.aload_n 0, 1) := dk_42 (dk_at dksX0_feed_1 3 rfl rfl)
theorem dX0_feed_26 : decode cX0_feed 26 = .ok (.iload_n 3, 1) := dk_29 (dk_at dksX0_feed_1 4 rfl rfl)
theorem dX0_feed_27 : decode cX0_feed 27 = .ok (.invokevirtual 104, 3) := dk_182 0 104 (dk_at dksX0_feed_1 5 rfl rfl)
theorem dX0_feed_30 : decode cX0_feed 30 = .ok (.aload_n 0, 1) := dk_42 (dk_at dksX0_feed_1 8 rfl rfl)
theorem dX0_feed_31 : decode cX0_feed 31 = .ok (.iload 4, 2) := dk_21 4 (dk_at dksX0_feed_1 9 rfl rfl)
theorem dX0_feed_33 : decode cX0_feed 33 = .ok (.invokevirtual 104, 3) := dk_182 0 104 (dk_at dksX0_feed_1 11 rfl rfl)
theorem dX0_feed_36 : decode cX0_feed 36 = .ok (.aload_n 0, 1) := dk_42 (dk_at dksX0_feed_1 14 rfl rfl)
theorem dX0_feed_37 : decode cX0_feed 37 = .ok (.iload 5, 2) := dk_21 5 (dk_at dksX0_feed_1 15 rfl rfl)
theorem dX0_feed_39 : decode cX0_feed 39 = .ok (.invokevirtual 104, 3) := dk_182 0 104 (dk_at dksX0_feed_1 17 rfl rfl)
theorem dX0_feed_42 : decode cX0_feed 42 = .ok (.aload_n 0, 1) := dk_42 (dk_at dksX0_feed_1 20 rfl rfl)
theorem dX0_feed_43 : decode cX0_feed 43 = .ok (.getfield 101, 3) := dk_180 0 101 (dk_at dksX0_feed_1 21 rfl rfl)
theorem dX0_feed_46 : decode cX0_feed 46 = .ok (.ireturn, 1) := dk_172 (dk_at dksX0_feed_2 0 rfl rfl)
abbrev cX0_put : ByteArray := prog_1_method_12_code
def yX0_put : MethodName := ⟨RX0, "put", "(I)V"⟩
def dkwX0_put_1 : List UInt8 := [180, 0, 101, 4, 96, 181, 0, 101, 132, 2, 248, 167, 255, 226, 177]
abbrev dktX0_put_1 : List UInt8 := dkwX0_put_1 ++ []
def dkwX0_put_0 : List UInt8 := [16, 24, 61, 28, 155, 0, 32, 42, 180, 0, 19, 42, 180, 0, 101, 27, 28, 122, 145, 84, 42, 89]
abbrev dktX0_put_0 : List UInt8 := dkwX0_put_0 ++ dktX0_put_1
theorem dksX0_put_0 : cX0_put.data.toList.drop 0 = dktX0_put_0 := by decide +kernel
theorem dksX0_put_1 : cX0_put.data.toList.drop 22 = dktX0_put_1 := dk_seg dksX0_put_0 22 rfl rfl
theorem dX0_put_0 : decode cX0_put 0 = .ok (.bipush 24, 2) := dk_16 24 (dk_at dksX0_put_0 0 rfl rfl)
theorem dX0_put_2 : decode cX0_put 2 = .ok (.istore_n 2, 1) := dk_61 (dk_at dksX0_put_0 2 rfl rfl)
theorem dX0_put_3 : decode cX0_put 3 = .ok (.iload_n 2, 1) := dk_28 (dk_at dksX0_put_0 3 rfl rfl)
theorem dX0_put_4 : decode cX0_put 4 = .ok (.ifCond .lt 32, 3) := dk_155 0 32 (dk_at dksX0_put_0 4 rfl rfl)
theorem dX0_put_7 : decode cX0_put 7 = .ok (.aload_n 0, 1) := dk_42 (dk_at dksX0_put_0 7 rfl rfl)
theorem dX0_put_8 : decode cX0_put 8 = .ok (.getfield 19, 3) := dk_180 0 19 (dk_at dksX0_put_0 8 rfl rfl)
theorem dX0_put_11 : decode cX0_put 11 = .ok (.aload_n 0, 1) := dk_42 (dk_at dksX0_put_0 11 rfl rfl)
theorem dX0_put_12 : decode cX0_put 12 = .ok (.getfield 101, 3) := dk_180 0 101 (dk_at dksX0_put_0 12 rfl rfl)
theorem dX0_put_15 : decode cX0_put 15 = .ok (.iload_n 1, 1) := dk_27 (dk_at dksX0_put_0 15 rfl rfl)
theorem dX0_put_16 : decode cX0_put 16 = .ok (.iload_n 2, 1) := dk_28 (dk_at dksX0_put_0 16 rfl rfl)
theorem dX0_put_17 : decode cX0_put 17 = .ok (.ishr, 1) := dk_122 (dk_at dksX0_put_0 17 rfl rfl)
theorem dX0_put_18 : decode cX0_put 18 = .ok (.i2b, 1) := dk_145 (dk_at dksX0_put_0 18 rfl rfl)
theorem dX0_put_19 : decode cX0_put 19 = .ok (.bastore, 1) := dk_84 (dk_at dksX0_put_0 19 rfl rfl)
theorem dX0_put_20 : decode cX0_put 20 = .ok (.aload_n 0, 1) := dk_42 (dk_at dksX0_put_0 20 rfl rfl)
theorem dX0_put_21 : decode cX0_put 21 = .ok (.dup, 1) := dk_89 (dk_at dksX0_put_0 21 rfl rfl)
theorem dX0_put_22 : decode cX0_put 22 = .ok (.getfield 101, 3) := dk_180 0 101 (dk_at dksX0_put_1 0 rfl rfl)
theorem dX0_put_25 : decode cX0_put 25 = .ok (.iconst 1, 1) := dk_4 (dk_at dksX0_put_1 3 rfl rfl)
theorem dX0_put_26 : decode cX0_put 26 = .ok (.iadd, 1) := dk_96 (dk_at dksX0_put_1 4 rfl rfl)
theorem dX0_put_27 : decode cX0_put 27 = .ok (.putfield 101, 3) := dk_181 0 101 (dk_at dksX0_put_1 5 rfl rfl)
theorem dX0_put_30 : decode cX0_put 30 = .ok (.iinc 2 (-8), 3) := dk_132 2 248 (dk_at dksX0_put_1 8 rfl rfl)
theorem dX0_put_33 : decode cX0_put 33 = .ok (.goto (-30), 3) := dk_167 255 226 (dk_at dksX0_put_1 11 rfl rfl)
theorem dX0_put_36 : decode cX0_put 36 = .ok (.return_, 1) := dk_177 (dk_at dksX0_put_1 14 rfl rfl)
abbrev cX0_end : ByteArray := prog_1_method_14_code
def yX0_end : MethodName := ⟨RX0, "end", "(I)I"⟩
def dkwX0_end_0 : List UInt8 := [27, 3, 42, 180, 0, 101, 184, 0, 69, 154, 0, 5, 2, 172, 42, 27, 181, 0, 101, 27, 172]
abbrev dktX0_end_0 : List UInt8 := dkwX0_end_0 ++ []
theorem dksX0_end_0 : cX0_end.data.toList.drop 0 = dktX0_end_0 := by decide +kernel
theorem dX0_end_0 : decode cX0_end 0 = .ok (.iload_n 1, 1) := dk_27 (dk_at dksX0_end_0 0 rfl rfl)
theorem dX0_end_1 : decode cX0_end 1 = .ok (.iconst 0, 1) := dk_3 (dk_at dksX0_end_0 1 rfl rfl)
theorem dX0_end_2 : decode cX0_end 2 = .ok (.aload_n 0, 1) := dk_42 (dk_at dksX0_end_0 2 rfl rfl)
theorem dX0_end_3 : decode cX0_end 3 = .ok (.getfield 101, 3) := dk_180 0 101 (dk_at dksX0_end_0 3 rfl rfl)
theorem dX0_end_6 : decode cX0_end 6 = .ok (.invokestatic 69, 3) := dk_184 0 69 (dk_at dksX0_end_0 6 rfl rfl)
theorem dX0_end_9 : decode cX0_end 9 = .ok (.ifCond .ne 5, 3) := dk_154 0 5 (dk_at dksX0_end_0 9 rfl rfl)
theorem dX0_end_12 : decode cX0_end 12 = .ok (.iconst (-1), 1) := dk_2 (dk_at dksX0_end_0 12 rfl rfl)
theorem dX0_end_13 : decode cX0_end 13 = .ok (.ireturn, 1) := dk_172 (dk_at dksX0_end_0 13 rfl rfl)
theorem dX0_end_14 : decode cX0_end 14 = .ok (.aload_n 0, 1) := dk_42 (dk_at dksX0_end_0 14 rfl rfl)
theorem dX0_end_15 : decode cX0_end 15 = .ok (.iload_n 1, 1) := dk_27 (dk_at dksX0_end_0 15 rfl rfl)
theorem dX0_end_16 : decode cX0_end 16 = .ok (.putfield 101, 3) := dk_181 0 101 (dk_at dksX0_end_0 16 rfl rfl)
theorem dX0_end_19 : decode cX0_end 19 = .ok (.iload_n 1, 1) := dk_27 (dk_at dksX0_end_0 19 rfl rfl)
theorem dX0_end_20 : decode cX0_end 20 = .ok (.ireturn, 1) := dk_172 (dk_at dksX0_end_0 20 rfl rfl)
abbrev cX0_text : ByteArray := prog_1_method_15_code
def yX0_text : MethodName := ⟨RX0, "text", "()I"⟩
def dkwX0_text_5 : List UInt8 := [79, 42, 180, 0, 12, 180, 0, 66, 5, 46, 4, 100, 172]
abbrev dktX0_text_5 : List UInt8 := dkwX0_text_5 ++ []
def dkwX0_text_4 : List UInt8 := [29, 172, 58, 4, 42, 3, 181, 0, 101, 25, 4, 191, 42, 180, 0, 12, 180, 0, 66, 5, 92, 46, 4, 96]
abbrev dktX0_text_4 : List UInt8 := dkwX0_text_4 ++ dktX0_text_5
def dkwX0_text_3 : List UInt8 := [77, 42, 44, 180, 0, 123, 181, 0, 23, 42, 44, 180, 0, 124, 181, 0, 27, 2, 62, 42, 3, 181, 0, 101]
abbrev dktX0_text_3 : List UInt8 := dkwX0_text_3 ++ dktX0_text_4
def dkwX0_text_2 : List UInt8 := [187, 0, 112, 89, 42, 180, 0, 19, 27, 183, 0, 114, 182, 0, 117, 83, 42, 3, 181, 0, 101, 167, 0, 39]
abbrev dktX0_text_2 : List UInt8 := dkwX0_text_2 ++ dktX0_text_3
def dkwX0_text_1 : List UInt8 := [181, 0, 23, 42, 2, 181, 0, 27, 42, 180, 0, 12, 180, 0, 108, 42, 180, 0, 12, 180, 0, 66, 5, 46]
abbrev dktX0_text_1 : List UInt8 := dkwX0_text_1 ++ dktX0_text_2
def dkwX0_text_0 : List UInt8 := [42, 180, 0, 12, 180, 0, 66, 5, 46, 7, 160, 0, 5, 2, 172, 42, 180, 0, 101, 60, 42, 3]
abbrev dktX0_text_0 : List UInt8 := dkwX0_text_0 ++ dktX0_text_1
theorem dksX0_text_0 : cX0_text.data.toList.drop 0 = dktX0_text_0 := by decide +kernel
theorem dksX0_text_1 : cX0_text.data.toList.drop 22 = dktX0_text_1 := dk_seg dksX0_text_0 22 rfl rfl
theorem dksX0_text_2 : cX0_text.data.toList.drop 46 = dktX0_text_2 := dk_seg dksX0_text_1 24 rfl rfl
theorem dksX0_text_3 : cX0_text.data.toList.drop 70 = dktX0_text_3 := dk_seg dksX0_text_2 24 rfl rfl
theorem dksX0_text_4 : cX0_text.data.toList.drop 94 = dktX0_text_4 := dk_seg dksX0_text_3 24 rfl rfl
theorem dksX0_text_5 : cX0_text.data.toList.drop 118 = dktX0_text_5 := dk_seg dksX0_text_4 24 rfl rfl
theorem dX0_text_0 : decode cX0_text 0 = .ok (.aload_n 0, 1) := dk_42 (dk_at dksX0_text_0 0 rfl rfl)
theorem dX0_text_1 : decode cX0_text 1 = .ok (.getfield 12, 3) := dk_180 0 12 (dk_at dksX0_text_0 1 rfl rfl)
theorem dX0_text_4 : decode cX0_text 4 = .ok (.getfield 66, 3) := dk_180 0 66 (dk_at dksX0_text_0 4 rfl rfl)
theorem dX0_text_7 : decode cX0_text 7 = .ok (.iconst 2, 1) := dk_5 (dk_at dksX0_text_0 7 rfl rfl)
theorem dX0_text_8 : decode cX0_text 8 = .ok (.iaload, 1) := dk_46 (dk_at dksX0_text_0 8 rfl rfl)
theorem dX0_text_9 : decode cX0_text 9 = .ok (.iconst 4, 1) := dk_7 (dk_at dksX0_text_0 9 rfl rfl)
theorem dX0_text_10 : decode cX0_text 10 = .ok (.if_icmp .ne 5, 3) := dk_160 0 5 (dk_at dksX0_text_0 10 rfl rfl)
theorem dX0_text_13 : decode cX0_text 13 = .ok (.iconst (-1), 1) := dk_2 (dk_at dksX0_text_0 13 rfl rfl)
theorem dX0_text_14 : decode cX0_text 14 = .ok (.ireturn, 1) := dk_172 (dk_at dksX0_text_0 14 rfl rfl)
theorem dX0_text_15 : decode cX0_text 15 = .ok (.aload_n 0, 1) := dk_42 (dk_at dksX0_text_0 15 rfl rfl)
theorem dX0_text_16 : decode cX0_text 16 = .ok (.getfield 101, 3) := dk_180 0 101 (dk_at dksX0_text_0 16 rfl rfl)
theorem dX0_text_19 : decode cX0_text 19 = .ok (.istore_n 1, 1) := dk_60 (dk_at dksX0_text_0 19 rfl rfl)
theorem dX0_text_20 : decode cX0_text 20 = .ok (.aload_n 0, 1) := dk_42 (dk_at dksX0_text_0 20 rfl rfl)
theorem dX0_text_21 : decode cX0_text 21 = .ok (.iconst 0, 1) := dk_3 (dk_at dksX0_text_0 21 rfl rfl)
theorem dX0_text_22 : decode cX0_text 22 = .ok (.putfield 23, 3) := dk_181 0 23 (dk_at dksX0_text_1 0 rfl rfl)
theorem dX0_text_25 : decode cX0_text 25 = .ok (.aload_n 0, 1) := dk_42 (dk_at dksX0_text_1 3 rfl rfl)
theorem dX0_text_26 : decode cX0_text 26 = .ok (.iconst (-1), 1) := dk_2 (dk_at dksX0_text_1 4 rfl rfl)
theorem dX0_text_27 : decode cX0_text 27 = .ok (.putfield 27, 3) := dk_181 0 27 (dk_at dksX0_text_1 5 rfl rfl)
theorem dX0_text_30 : decode cX0_text 30 = .ok (.aload_n 0, 1) := dk_42 (dk_at dksX0_text_1 8 rfl rfl)
theorem dX0_text_31 : decode cX0_text 31 = .ok (.getfield 12, 3) := dk_180 0 12 (dk_at dksX0_text_1 9 rfl rfl)
theorem dX0_text_34 : decode cX0_text 34 = .ok (.getfield 108, 3) := dk_180 0 108 (dk_at dksX0_text_1 12 rfl rfl)
theorem dX0_text_37 : decode cX0_text 37 = .ok (.aload_n 0, 1) := dk_42 (dk_at dksX0_text_1 15 rfl rfl)
theorem dX0_text_38 : decode cX0_text 38 = .ok (.getfield 12, 3) := dk_180 0 12 (dk_at dksX0_text_1 16 rfl rfl)
theorem dX0_text_41 : decode cX0_text 41 = .ok (.getfield 66, 3) := dk_180 0 66 (dk_at dksX0_text_1 19 rfl rfl)
theorem dX0_text_44 : decode cX0_text 44 = .ok (.iconst 2, 1) := dk_5 (dk_at dksX0_text_1 22 rfl rfl)
theorem dX0_text_45 : decode cX0_text 45 = .ok (.iaload, 1) := dk_46 (dk_at dksX0_text_1 23 rfl rfl)
theorem dX0_text_46 : decode cX0_text 46 = .ok (.new 112, 3) := dk_187 0 112 (dk_at dksX0_text_2 0 rfl rfl)
theorem dX0_text_49 : decode cX0_text 49 = .ok (.dup, 1) := dk_89 (dk_at dksX0_text_2 3 rfl rfl)
theorem dX0_text_50 : decode cX0_text 50 = .ok (.aload_n 0, 1) := dk_42 (dk_at dksX0_text_2 4 rfl rfl)
theorem dX0_text_51 : decode cX0_text 51 = .ok (.getfield 19, 3) := dk_180 0 19 (dk_at dksX0_text_2 5 rfl rfl)
theorem dX0_text_54 : decode cX0_text 54 = .ok (.iload_n 1, 1) := dk_27 (dk_at dksX0_text_2 8 rfl rfl)
theorem dX0_text_55 : decode cX0_text 55 = .ok (.invokespecial 114, 3) := dk_183 0 114 (dk_at dksX0_text_2 9 rfl rfl)
theorem dX0_text_58 : decode cX0_text 58 = .ok (.invokevirtual 117, 3) := dk_182 0 117 (dk_at dksX0_text_2 12 rfl rfl)
theorem dX0_text_61 : decode cX0_text 61 = .ok (.aastore, 1) := dk_83 (dk_at dksX0_text_2 15 rfl rfl)
theorem dX0_text_62 : decode cX0_text 62 = .ok (.aload_n 0, 1) := dk_42 (dk_at dksX0_text_2 16 rfl rfl)
theorem dX0_text_63 : decode cX0_text 63 = .ok (.iconst 0, 1) := dk_3 (dk_at dksX0_text_2 17 rfl rfl)
theorem dX0_text_64 : decode cX0_text 64 = .ok (.putfield 101, 3) := dk_181 0 101 (dk_at dksX0_text_2 18 rfl rfl)
theorem dX0_text_67 : decode cX0_text 67 = .ok (.goto 39, 3) := dk_167 0 39 (dk_at dksX0_text_2 21 rfl rfl)
theorem dX0_text_70 : decode cX0_text 70 = .ok (.astore_n 2, 1) := dk_77 (dk_at dksX0_text_3 0 rfl rfl)
theorem dX0_text_71 : decode cX0_text 71 = .ok (.aload_n 0, 1) := dk_42 (dk_at dksX0_text_3 1 rfl rfl)
theorem dX0_text_72 : decode cX0_text 72 = .ok (.aload_n 2, 1) := dk_44 (dk_at dksX0_text_3 2 rfl rfl)
theorem dX0_text_73 : decode cX0_text 73 = .ok (.getfield 123, 3) := dk_180 0 123 (dk_at dksX0_text_3 3 rfl rfl)
theorem dX0_text_76 : decode cX0_text 76 = .ok (.putfield 23, 3) := dk_181 0 23 (dk_at dksX0_text_3 6 rfl rfl)
theorem dX0_text_79 : decode cX0_text 79 = .ok (.aload_n 0, 1) := dk_42 (dk_at dksX0_text_3 9 rfl rfl)
theorem dX0_text_80 : decode cX0_text 80 = .ok (.aload_n 2, 1) := dk_44 (dk_at dksX0_text_3 10 rfl rfl)
theorem dX0_text_81 : decode cX0_text 81 = .ok (.getfield 124, 3) := dk_180 0 124 (dk_at dksX0_text_3 11 rfl rfl)
theorem dX0_text_84 : decode cX0_text 84 = .ok (.putfield 27, 3) := dk_181 0 27 (dk_at dksX0_text_3 14 rfl rfl)
theorem dX0_text_87 : decode cX0_text 87 = .ok (.iconst (-1), 1) := dk_2 (dk_at dksX0_text_3 17 rfl rfl)
theorem dX0_text_88 : decode cX0_text 88 = .ok (.istore_n 3, 1) := dk_62 (dk_at dksX0_text_3 18 rfl rfl)
theorem dX0_text_89 : decode cX0_text 89 = .ok (.aload_n 0, 1) := dk_42 (dk_at dksX0_text_3 19 rfl rfl)
theorem dX0_text_90 : decode cX0_text 90 = .ok (.iconst 0, 1) := dk_3 (dk_at dksX0_text_3 20 rfl rfl)
theorem dX0_text_91 : decode cX0_text 91 = .ok (.putfield 101, 3) := dk_181 0 101 (dk_at dksX0_text_3 21 rfl rfl)
theorem dX0_text_94 : decode cX0_text 94 = .ok (.iload_n 3, 1) := dk_29 (dk_at dksX0_text_4 0 rfl rfl)
theorem dX0_text_95 : decode cX0_text 95 = .ok (.ireturn, 1) := dk_172 (dk_at dksX0_text_4 1 rfl rfl)
theorem dX0_text_96 : decode cX0_text 96 = .ok (.astore 4, 2) := dk_58 4 (dk_at dksX0_text_4 2 rfl rfl)
theorem dX0_text_98 : decode cX0_text 98 = .ok (.aload_n 0, 1) := dk_42 (dk_at dksX0_text_4 4 rfl rfl)
theorem dX0_text_99 : decode cX0_text 99 = .ok (.iconst 0, 1) := dk_3 (dk_at dksX0_text_4 5 rfl rfl)
theorem dX0_text_100 : decode cX0_text 100 = .ok (.putfield 101, 3) := dk_181 0 101 (dk_at dksX0_text_4 6 rfl rfl)
theorem dX0_text_103 : decode cX0_text 103 = .ok (.aload 4, 2) := dk_25 4 (dk_at dksX0_text_4 9 rfl rfl)
theorem dX0_text_105 : decode cX0_text 105 = .ok (.athrow, 1) := dk_191 (dk_at dksX0_text_4 11 rfl rfl)
theorem dX0_text_106 : decode cX0_text 106 = .ok (.aload_n 0, 1) := dk_42 (dk_at dksX0_text_4 12 rfl rfl)
theorem dX0_text_107 : decode cX0_text 107 = .ok (.getfield 12, 3) := dk_180 0 12 (dk_at dksX0_text_4 13 rfl rfl)
theorem dX0_text_110 : decode cX0_text 110 = .ok (.getfield 66, 3) := dk_180 0 66 (dk_at dksX0_text_4 16 rfl rfl)
theorem dX0_text_113 : decode cX0_text 113 = .ok (.iconst 2, 1) := dk_5 (dk_at dksX0_text_4 19 rfl rfl)
theorem dX0_text_114 : decode cX0_text 114 = .ok (.dup2, 1) := dk_92 (dk_at dksX0_text_4 20 rfl rfl)
theorem dX0_text_115 : decode cX0_text 115 = .ok (.iaload, 1) := dk_46 (dk_at dksX0_text_4 21 rfl rfl)
theorem dX0_text_116 : decode cX0_text 116 = .ok (.iconst 1, 1) := dk_4 (dk_at dksX0_text_4 22 rfl rfl)
theorem dX0_text_117 : decode cX0_text 117 = .ok (.iadd, 1) := dk_96 (dk_at dksX0_text_4 23 rfl rfl)
theorem dX0_text_118 : decode cX0_text 118 = .ok (.iastore, 1) := dk_79 (dk_at dksX0_text_5 0 rfl rfl)
theorem dX0_text_119 : decode cX0_text 119 = .ok (.aload_n 0, 1) := dk_42 (dk_at dksX0_text_5 1 rfl rfl)
theorem dX0_text_120 : decode cX0_text 120 = .ok (.getfield 12, 3) := dk_180 0 12 (dk_at dksX0_text_5 2 rfl rfl)
theorem dX0_text_123 : decode cX0_text 123 = .ok (.getfield 66, 3) := dk_180 0 66 (dk_at dksX0_text_5 5 rfl rfl)
theorem dX0_text_126 : decode cX0_text 126 = .ok (.iconst 2, 1) := dk_5 (dk_at dksX0_text_5 8 rfl rfl)
theorem dX0_text_127 : decode cX0_text 127 = .ok (.iaload, 1) := dk_46 (dk_at dksX0_text_5 9 rfl rfl)
theorem dX0_text_128 : decode cX0_text 128 = .ok (.iconst 1, 1) := dk_4 (dk_at dksX0_text_5 10 rfl rfl)
theorem dX0_text_129 : decode cX0_text 129 = .ok (.isub, 1) := dk_100 (dk_at dksX0_text_5 11 rfl rfl)
theorem dX0_text_130 : decode cX0_text 130 = .ok (.ireturn, 1) := dk_172 (dk_at dksX0_text_5 12 rfl rfl)
abbrev cX0_fault : ByteArray := prog_1_method_16_code
def yX0_fault : MethodName := ⟨RX0, "fault", "(I)I"⟩
def dkwX0_fault_1 : List UInt8 := [172]
abbrev dktX0_fault_1 : List UInt8 := dkwX0_fault_1 ++ []
def dkwX0_fault_0 : List UInt8 := [27, 154, 0, 10, 42, 180, 0, 23, 167, 0, 16, 27, 4, 160, 0, 10, 42, 180, 0, 27, 167, 0, 4, 2]
abbrev dktX0_fault_0 : List UInt8 := dkwX0_fault_0 ++ dktX0_fault_1
theorem dksX0_fault_0 : cX0_fault.data.toList.drop 0 = dktX0_fault_0 := by decide +kernel
theorem dksX0_fault_1 : cX0_fault.data.toList.drop 24 = dktX0_fault_1 := dk_seg dksX0_fault_0 24 rfl rfl
theorem dX0_fault_0 : decode cX0_fault 0 = .ok (.iload_n 1, 1) := dk_27 (dk_at dksX0_fault_0 0 rfl rfl)
theorem dX0_fault_1 : decode cX0_fault 1 = .ok (.ifCond .ne 10, 3) := dk_154 0 10 (dk_at dksX0_fault_0 1 rfl rfl)
theorem dX0_fault_4 : decode cX0_fault 4 = .ok (.aload_n 0, 1) := dk_42 (dk_at dksX0_fault_0 4 rfl rfl)
theorem dX0_fault_5 : decode cX0_fault 5 = .ok (.getfield 23, 3) := dk_180 0 23 (dk_at dksX0_fault_0 5 rfl rfl)
theorem dX0_fault_8 : decode cX0_fault 8 = .ok (.goto 16, 3) := dk_167 0 16 (dk_at dksX0_fault_0 8 rfl rfl)
theorem dX0_fault_11 : decode cX0_fault 11 = .ok (.iload_n 1, 1) := dk_27 (dk_at dksX0_fault_0 11 rfl rfl)
theorem dX0_fault_12 : decode cX0_fault 12 = .ok (.iconst 1, 1) := dk_4 (dk_at dksX0_fault_0 12 rfl rfl)
theorem dX0_fault_13 : decode cX0_fault 13 = .ok (.if_icmp .ne 10, 3) := dk_160 0 10 (dk_at dksX0_fault_0 13 rfl rfl)
theorem dX0_fault_16 : decode cX0_fault 16 = .ok (.aload_n 0, 1) := dk_42 (dk_at dksX0_fault_0 16 rfl rfl)
theorem dX0_fault_17 : decode cX0_fault 17 = .ok (.getfield 27, 3) := dk_180 0 27 (dk_at dksX0_fault_0 17 rfl rfl)
theorem dX0_fault_20 : decode cX0_fault 20 = .ok (.goto 4, 3) := dk_167 0 4 (dk_at dksX0_fault_0 20 rfl rfl)
theorem dX0_fault_23 : decode cX0_fault 23 = .ok (.iconst (-1), 1) := dk_2 (dk_at dksX0_fault_0 23 rfl rfl)
theorem dX0_fault_24 : decode cX0_fault 24 = .ok (.ireturn, 1) := dk_172 (dk_at dksX0_fault_1 0 rfl rfl)
abbrev cX0_by : ByteArray := prog_1_method_18_code
def yX0_by : MethodName := ⟨RX0, "by", "(I)Z"⟩
def dkwX0_by_1 : List UInt8 := [79, 4, 172]
abbrev dktX0_by_1 : List UInt8 := dkwX0_by_1 ++ []
def dkwX0_by_0 : List UInt8 := [27, 2, 159, 0, 13, 42, 27, 182, 0, 127, 154, 0, 5, 3, 172, 42, 180, 0, 12, 180, 0, 66, 6, 27]
abbrev dktX0_by_0 : List UInt8 := dkwX0_by_0 ++ dktX0_by_1
theorem dksX0_by_0 : cX0_by.data.toList.drop 0 = dktX0_by_0 := by decide +kernel
theorem dksX0_by_1 : cX0_by.data.toList.drop 24 = dktX0_by_1 := dk_seg dksX0_by_0 24 rfl rfl
theorem dX0_by_0 : decode cX0_by 0 = .ok (.iload_n 1, 1) := dk_27 (dk_at dksX0_by_0 0 rfl rfl)
theorem dX0_by_1 : decode cX0_by 1 = .ok (.iconst (-1), 1) := dk_2 (dk_at dksX0_by_0 1 rfl rfl)
theorem dX0_by_2 : decode cX0_by 2 = .ok (.if_icmp .eq 13, 3) := dk_159 0 13 (dk_at dksX0_by_0 2 rfl rfl)
theorem dX0_by_5 : decode cX0_by 5 = .ok (.aload_n 0, 1) := dk_42 (dk_at dksX0_by_0 5 rfl rfl)
theorem dX0_by_6 : decode cX0_by 6 = .ok (.iload_n 1, 1) := dk_27 (dk_at dksX0_by_0 6 rfl rfl)
theorem dX0_by_7 : decode cX0_by 7 = .ok (.invokevirtual 127, 3) := dk_182 0 127 (dk_at dksX0_by_0 7 rfl rfl)
theorem dX0_by_10 : decode cX0_by 10 = .ok (.ifCond .ne 5, 3) := dk_154 0 5 (dk_at dksX0_by_0 10 rfl rfl)
theorem dX0_by_13 : decode cX0_by 13 = .ok (.iconst 0, 1) := dk_3 (dk_at dksX0_by_0 13 rfl rfl)
theorem dX0_by_14 : decode cX0_by 14 = .ok (.ireturn, 1) := dk_172 (dk_at dksX0_by_0 14 rfl rfl)
theorem dX0_by_15 : decode cX0_by 15 = .ok (.aload_n 0, 1) := dk_42 (dk_at dksX0_by_0 15 rfl rfl)
theorem dX0_by_16 : decode cX0_by 16 = .ok (.getfield 12, 3) := dk_180 0 12 (dk_at dksX0_by_0 16 rfl rfl)
theorem dX0_by_19 : decode cX0_by 19 = .ok (.getfield 66, 3) := dk_180 0 66 (dk_at dksX0_by_0 19 rfl rfl)
theorem dX0_by_22 : decode cX0_by 22 = .ok (.iconst 3, 1) := dk_6 (dk_at dksX0_by_0 22 rfl rfl)
theorem dX0_by_23 : decode cX0_by 23 = .ok (.iload_n 1, 1) := dk_27 (dk_at dksX0_by_0 23 rfl rfl)
theorem dX0_by_24 : decode cX0_by 24 = .ok (.iastore, 1) := dk_79 (dk_at dksX0_by_1 0 rfl rfl)
theorem dX0_by_25 : decode cX0_by 25 = .ok (.iconst 1, 1) := dk_4 (dk_at dksX0_by_1 1 rfl rfl)
theorem dX0_by_26 : decode cX0_by 26 = .ok (.ireturn, 1) := dk_172 (dk_at dksX0_by_1 2 rfl rfl)
abbrev cX0_isText : ByteArray := prog_1_method_17_code
def yX0_isText : MethodName := ⟨RX0, "isText", "(I)Z"⟩
def dkwX0_isText_0 : List UInt8 := [27, 3, 42, 180, 0, 12, 180, 0, 66, 5, 46, 4, 100, 184, 0, 69, 172]
abbrev dktX0_isText_0 : List UInt8 := dkwX0_isText_0 ++ []
theorem dksX0_isText_0 : cX0_isText.data.toList.drop 0 = dktX0_isText_0 := by decide +kernel
theorem dX0_isText_0 : decode cX0_isText 0 = .ok (.iload_n 1, 1) := dk_27 (dk_at dksX0_isText_0 0 rfl rfl)
theorem dX0_isText_1 : decode cX0_isText 1 = .ok (.iconst 0, 1) := dk_3 (dk_at dksX0_isText_0 1 rfl rfl)
theorem dX0_isText_2 : decode cX0_isText 2 = .ok (.aload_n 0, 1) := dk_42 (dk_at dksX0_isText_0 2 rfl rfl)
theorem dX0_isText_3 : decode cX0_isText 3 = .ok (.getfield 12, 3) := dk_180 0 12 (dk_at dksX0_isText_0 3 rfl rfl)
theorem dX0_isText_6 : decode cX0_isText 6 = .ok (.getfield 66, 3) := dk_180 0 66 (dk_at dksX0_isText_0 6 rfl rfl)
theorem dX0_isText_9 : decode cX0_isText 9 = .ok (.iconst 2, 1) := dk_5 (dk_at dksX0_isText_0 9 rfl rfl)
theorem dX0_isText_10 : decode cX0_isText 10 = .ok (.iaload, 1) := dk_46 (dk_at dksX0_isText_0 10 rfl rfl)
theorem dX0_isText_11 : decode cX0_isText 11 = .ok (.iconst 1, 1) := dk_4 (dk_at dksX0_isText_0 11 rfl rfl)
theorem dX0_isText_12 : decode cX0_isText 12 = .ok (.isub, 1) := dk_100 (dk_at dksX0_isText_0 12 rfl rfl)
theorem dX0_isText_13 : decode cX0_isText 13 = .ok (.invokestatic 69, 3) := dk_184 0 69 (dk_at dksX0_isText_0 13 rfl rfl)
theorem dX0_isText_16 : decode cX0_isText 16 = .ok (.ireturn, 1) := dk_172 (dk_at dksX0_isText_0 16 rfl rfl)
abbrev cX0_smoke : ByteArray := prog_1_method_24_code
def yX0_smoke : MethodName := ⟨RX0, "smoke", "(I)I"⟩
def dkwX0_smoke_0 : List UInt8 := [27, 3, 17, 3, 231, 184, 0, 69, 153, 0, 11, 42, 27, 182, 0, 157, 167, 0, 4, 2, 172]
abbrev dktX0_smoke_0 : List UInt8 := dkwX0_smoke_0 ++ []
theorem dksX0_smoke_0 : cX0_smoke.data.toList.drop 0 = dktX0_smoke_0 := by decide +kernel
theorem dX0_smoke_0 : decode cX0_smoke 0 = .ok (.iload_n 1, 1) := dk_27 (dk_at dksX0_smoke_0 0 rfl rfl)
theorem dX0_smoke_1 : decode cX0_smoke 1 = .ok (.iconst 0, 1) := dk_3 (dk_at dksX0_smoke_0 1 rfl rfl)
theorem dX0_smoke_2 : decode cX0_smoke 2 = .ok (.sipush 999, 3) := dk_17 3 231 (dk_at dksX0_smoke_0 2 rfl rfl)
theorem dX0_smoke_5 : decode cX0_smoke 5 = .ok (.invokestatic 69, 3) := dk_184 0 69 (dk_at dksX0_smoke_0 5 rfl rfl)
theorem dX0_smoke_8 : decode cX0_smoke 8 = .ok (.ifCond .eq 11, 3) := dk_153 0 11 (dk_at dksX0_smoke_0 8 rfl rfl)
theorem dX0_smoke_11 : decode cX0_smoke 11 = .ok (.aload_n 0, 1) := dk_42 (dk_at dksX0_smoke_0 11 rfl rfl)
theorem dX0_smoke_12 : decode cX0_smoke 12 = .ok (.iload_n 1, 1) := dk_27 (dk_at dksX0_smoke_0 12 rfl rfl)
theorem dX0_smoke_13 : decode cX0_smoke 13 = .ok (.invokevirtual 157, 3) := dk_182 0 157 (dk_at dksX0_smoke_0 13 rfl rfl)
theorem dX0_smoke_16 : decode cX0_smoke 16 = .ok (.goto 4, 3) := dk_167 0 4 (dk_at dksX0_smoke_0 16 rfl rfl)
theorem dX0_smoke_19 : decode cX0_smoke 19 = .ok (.iconst (-1), 1) := dk_2 (dk_at dksX0_smoke_0 19 rfl rfl)
theorem dX0_smoke_20 : decode cX0_smoke 20 = .ok (.ireturn, 1) := dk_172 (dk_at dksX0_smoke_0 20 rfl rfl)
abbrev cX0_smokeIn : ByteArray := prog_1_method_22_code
def yX0_smokeIn : MethodName := ⟨RX0, "smokeIn", "(I)I"⟩
def dkwX0_smokeIn_0 : List UInt8 := [42, 180, 0, 30, 3, 27, 79, 42, 3, 16, 40, 16, 40, 182, 0, 150, 172]
abbrev dktX0_smokeIn_0 : List UInt8 := dkwX0_smokeIn_0 ++ []
theorem dksX0_smokeIn_0 : cX0_smokeIn.data.toList.drop 0 = dktX0_smokeIn_0 := by decide +kernel
theorem dX0_smokeIn_0 : decode cX0_smokeIn 0 = .ok (.aload_n 0, 1) := dk_42 (dk_at dksX0_smokeIn_0 0 rfl rfl)
theorem dX0_smokeIn_1 : decode cX0_smokeIn 1 = .ok (.getfield 30, 3) := dk_180 0 30 (dk_at dksX0_smokeIn_0 1 rfl rfl)
theorem dX0_smokeIn_4 : decode cX0_smokeIn 4 = .ok (.iconst 0, 1) := dk_3 (dk_at dksX0_smokeIn_0 4 rfl rfl)
theorem dX0_smokeIn_5 : decode cX0_smokeIn 5 = .ok (.iload_n 1, 1) := dk_27 (dk_at dksX0_smokeIn_0 5 rfl rfl)
theorem dX0_smokeIn_6 : decode cX0_smokeIn 6 = .ok (.iastore, 1) := dk_79 (dk_at dksX0_smokeIn_0 6 rfl rfl)
theorem dX0_smokeIn_7 : decode cX0_smokeIn 7 = .ok (.aload_n 0, 1) := dk_42 (dk_at dksX0_smokeIn_0 7 rfl rfl)
theorem dX0_smokeIn_8 : decode cX0_smokeIn 8 = .ok (.iconst 0, 1) := dk_3 (dk_at dksX0_smokeIn_0 8 rfl rfl)
theorem dX0_smokeIn_9 : decode cX0_smokeIn 9 = .ok (.bipush 40, 2) := dk_16 40 (dk_at dksX0_smokeIn_0 9 rfl rfl)
theorem dX0_smokeIn_11 : decode cX0_smokeIn 11 = .ok (.bipush 40, 2) := dk_16 40 (dk_at dksX0_smokeIn_0 11 rfl rfl)
theorem dX0_smokeIn_13 : decode cX0_smokeIn 13 = .ok (.invokevirtual 150, 3) := dk_182 0 150 (dk_at dksX0_smokeIn_0 13 rfl rfl)
theorem dX0_smokeIn_16 : decode cX0_smokeIn 16 = .ok (.ireturn, 1) := dk_172 (dk_at dksX0_smokeIn_0 16 rfl rfl)
abbrev cX0_asks : ByteArray := prog_1_method_19_code
def yX0_asks : MethodName := ⟨RX0, "asks", "(III)I"⟩
def dkwX0_asks_3 : List UInt8 := [185, 0, 136, 2, 0, 184, 0, 141, 184, 0, 147, 136, 172]
abbrev dktX0_asks_3 : List UInt8 := dkwX0_asks_3 ++ []
def dkwX0_asks_2 : List UInt8 := [199, 0, 7, 29, 167, 0, 29, 9, 28, 133, 25, 4, 180, 0, 130, 27, 50, 42, 180, 0, 30]
abbrev dktX0_asks_2 : List UInt8 := dkwX0_asks_2 ++ dktX0_asks_3
def dkwX0_asks_1 : List UInt8 := [42, 180, 0, 12, 180, 0, 66, 6, 46, 50, 58, 4, 25, 4, 198, 0, 13, 25, 4, 180, 0, 130, 27, 50]
abbrev dktX0_asks_1 : List UInt8 := dkwX0_asks_1 ++ dktX0_asks_2
def dkwX0_asks_0 : List UInt8 := [42, 180, 0, 12, 180, 0, 66, 6, 46, 2, 160, 0, 7, 1, 167, 0, 20, 42, 180, 0, 12, 180, 0, 108]
abbrev dktX0_asks_0 : List UInt8 := dkwX0_asks_0 ++ dktX0_asks_1
theorem dksX0_asks_0 : cX0_asks.data.toList.drop 0 = dktX0_asks_0 := by decide +kernel
theorem dksX0_asks_1 : cX0_asks.data.toList.drop 24 = dktX0_asks_1 := dk_seg dksX0_asks_0 24 rfl rfl
theorem dksX0_asks_2 : cX0_asks.data.toList.drop 48 = dktX0_asks_2 := dk_seg dksX0_asks_1 24 rfl rfl
theorem dksX0_asks_3 : cX0_asks.data.toList.drop 69 = dktX0_asks_3 := dk_seg dksX0_asks_2 21 rfl rfl
theorem dX0_asks_0 : decode cX0_asks 0 = .ok (.aload_n 0, 1) := dk_42 (dk_at dksX0_asks_0 0 rfl rfl)
theorem dX0_asks_1 : decode cX0_asks 1 = .ok (.getfield 12, 3) := dk_180 0 12 (dk_at dksX0_asks_0 1 rfl rfl)
theorem dX0_asks_4 : decode cX0_asks 4 = .ok (.getfield 66, 3) := dk_180 0 66 (dk_at dksX0_asks_0 4 rfl rfl)
theorem dX0_asks_7 : decode cX0_asks 7 = .ok (.iconst 3, 1) := dk_6 (dk_at dksX0_asks_0 7 rfl rfl)
theorem dX0_asks_8 : decode cX0_asks 8 = .ok (.iaload, 1) := dk_46 (dk_at dksX0_asks_0 8 rfl rfl)
theorem dX0_asks_9 : decode cX0_asks 9 = .ok (.iconst (-1), 1) := dk_2 (dk_at dksX0_asks_0 9 rfl rfl)
theorem dX0_asks_10 : decode cX0_asks 10 = .ok (.if_icmp .ne 7, 3) := dk_160 0 7 (dk_at dksX0_asks_0 10 rfl rfl)
theorem dX0_asks_13 : decode cX0_asks 13 = .ok (.aconst_null, 1) := dk_1 (dk_at dksX0_asks_0 13 rfl rfl)
theorem dX0_asks_14 : decode cX0_asks 14 = .ok (.goto 20, 3) := dk_167 0 20 (dk_at dksX0_asks_0 14 rfl rfl)
theorem dX0_asks_17 : decode cX0_asks 17 = .ok (.aload_n 0, 1) := dk_42 (dk_at dksX0_asks_0 17 rfl rfl)
theorem dX0_asks_18 : decode cX0_asks 18 = .ok (.getfield 12, 3) := dk_180 0 12 (dk_at dksX0_asks_0 18 rfl rfl)
theorem dX0_asks_21 : decode cX0_asks 21 = .ok (.getfield 108, 3) := dk_180 0 108 (dk_at dksX0_asks_0 21 rfl rfl)
theorem dX0_asks_24 : decode cX0_asks 24 = .ok (.aload_n 0, 1) := dk_42 (dk_at dksX0_asks_1 0 rfl rfl)
theorem dX0_asks_25 : decode cX0_asks 25 = .ok (.getfield 12, 3) := dk_180 0 12 (dk_at dksX0_asks_1 1 rfl rfl)
theorem dX0_asks_28 : decode cX0_asks 28 = .ok (.getfield 66, 3) := dk_180 0 66 (dk_at dksX0_asks_1 4 rfl rfl)
theorem dX0_asks_31 : decode cX0_asks 31 = .ok (.iconst 3, 1) := dk_6 (dk_at dksX0_asks_1 7 rfl rfl)
theorem dX0_asks_32 : decode cX0_asks 32 = .ok (.iaload, 1) := dk_46 (dk_at dksX0_asks_1 8 rfl rfl)
theorem dX0_asks_33 : decode cX0_asks 33 = .ok (.aaload, 1) := dk_50 (dk_at dksX0_asks_1 9 rfl rfl)
theorem dX0_asks_34 : decode cX0_asks 34 = .ok (.astore 4, 2) := dk_58 4 (dk_at dksX0_asks_1 10 rfl rfl)
theorem dX0_asks_36 : decode cX0_asks 36 = .ok (.aload 4, 2) := dk_25 4 (dk_at dksX0_asks_1 12 rfl rfl)
theorem dX0_asks_38 : decode cX0_asks 38 = .ok (.ifnull 13, 3) := dk_198 0 13 (dk_at dksX0_asks_1 14 rfl rfl)
theorem dX0_asks_41 : decode cX0_asks 41 = .ok (.aload 4, 2) := dk_25 4 (dk_at dksX0_asks_1 17 rfl rfl)
theorem dX0_asks_43 : decode cX0_asks 43 = .ok (.getfield 130, 3) := dk_180 0 130 (dk_at dksX0_asks_1 19 rfl rfl)
theorem dX0_asks_46 : decode cX0_asks 46 = .ok (.iload_n 1, 1) := dk_27 (dk_at dksX0_asks_1 22 rfl rfl)
theorem dX0_asks_47 : decode cX0_asks 47 = .ok (.aaload, 1) := dk_50 (dk_at dksX0_asks_1 23 rfl rfl)
theorem dX0_asks_48 : decode cX0_asks 48 = .ok (.ifnonnull 7, 3) := dk_199 0 7 (dk_at dksX0_asks_2 0 rfl rfl)
theorem dX0_asks_51 : decode cX0_asks 51 = .ok (.iload_n 3, 1) := dk_29 (dk_at dksX0_asks_2 3 rfl rfl)
theorem dX0_asks_52 : decode cX0_asks 52 = .ok (.goto 29, 3) := dk_167 0 29 (dk_at dksX0_asks_2 4 rfl rfl)
theorem dX0_asks_55 : decode cX0_asks 55 = .ok (.lconst 0, 1) := dk_9 (dk_at dksX0_asks_2 7 rfl rfl)
theorem dX0_asks_56 : decode cX0_asks 56 = .ok (.iload_n 2, 1) := dk_28 (dk_at dksX0_asks_2 8 rfl rfl)
theorem dX0_asks_57 : decode cX0_asks 57 = .ok (.i2l, 1) := dk_133 (dk_at dksX0_asks_2 9 rfl rfl)
theorem dX0_asks_58 : decode cX0_asks 58 = .ok (.aload 4, 2) := dk_25 4 (dk_at dksX0_asks_2 10 rfl rfl)
theorem dX0_asks_60 : decode cX0_asks 60 = .ok (.getfield 130, 3) := dk_180 0 130 (dk_at dksX0_asks_2 12 rfl rfl)
theorem dX0_asks_63 : decode cX0_asks 63 = .ok (.iload_n 1, 1) := dk_27 (dk_at dksX0_asks_2 15 rfl rfl)
theorem dX0_asks_64 : decode cX0_asks 64 = .ok (.aaload, 1) := dk_50 (dk_at dksX0_asks_2 16 rfl rfl)
theorem dX0_asks_65 : decode cX0_asks 65 = .ok (.aload_n 0, 1) := dk_42 (dk_at dksX0_asks_2 17 rfl rfl)
theorem dX0_asks_66 : decode cX0_asks 66 = .ok (.getfield 30, 3) := dk_180 0 30 (dk_at dksX0_asks_2 18 rfl rfl)
theorem dX0_asks_69 : decode cX0_asks 69 = .ok (.invokeinterface 136 2, 5) := by decide +kernel
theorem dX0_asks_74 : decode cX0_asks 74 = .ok (.invokestatic 141, 3) := dk_184 0 141 (dk_at dksX0_asks_3 5 rfl rfl)
theorem dX0_asks_77 : decode cX0_asks 77 = .ok (.invokestatic 147, 3) := dk_184 0 147 (dk_at dksX0_asks_3 8 rfl rfl)
theorem dX0_asks_80 : decode cX0_asks 80 = .ok (.l2i, 1) := dk_136 (dk_at dksX0_asks_3 11 rfl rfl)
theorem dX0_asks_81 : decode cX0_asks 81 = .ok (.ireturn, 1) := dk_172 (dk_at dksX0_asks_3 12 rfl rfl)
abbrev cX0_cost : ByteArray := prog_1_method_25_code
def yX0_cost : MethodName := ⟨RX0, "cost", "(II)I"⟩
def dkwX0_cost_1 : List UInt8 := [182, 0, 161, 167, 0, 4, 2, 172]
abbrev dktX0_cost_1 : List UInt8 := dkwX0_cost_1 ++ []
def dkwX0_cost_0 : List UInt8 := [42, 27, 182, 0, 90, 153, 0, 23, 28, 3, 17, 3, 231, 184, 0, 69, 153, 0, 12, 42, 27, 28]
abbrev dktX0_cost_0 : List UInt8 := dkwX0_cost_0 ++ dktX0_cost_1
theorem dksX0_cost_0 : cX0_cost.data.toList.drop 0 = dktX0_cost_0 := by decide +kernel
theorem dksX0_cost_1 : cX0_cost.data.toList.drop 22 = dktX0_cost_1 := dk_seg dksX0_cost_0 22 rfl rfl
theorem dX0_cost_0 : decode cX0_cost 0 = .ok (.aload_n 0, 1) := dk_42 (dk_at dksX0_cost_0 0 rfl rfl)
theorem dX0_cost_1 : decode cX0_cost 1 = .ok (.iload_n 1, 1) := dk_27 (dk_at dksX0_cost_0 1 rfl rfl)
theorem dX0_cost_2 : decode cX0_cost 2 = .ok (.invokevirtual 90, 3) := dk_182 0 90 (dk_at dksX0_cost_0 2 rfl rfl)
theorem dX0_cost_5 : decode cX0_cost 5 = .ok (.ifCond .eq 23, 3) := dk_153 0 23 (dk_at dksX0_cost_0 5 rfl rfl)
theorem dX0_cost_8 : decode cX0_cost 8 = .ok (.iload_n 2, 1) := dk_28 (dk_at dksX0_cost_0 8 rfl rfl)
theorem dX0_cost_9 : decode cX0_cost 9 = .ok (.iconst 0, 1) := dk_3 (dk_at dksX0_cost_0 9 rfl rfl)
theorem dX0_cost_10 : decode cX0_cost 10 = .ok (.sipush 999, 3) := dk_17 3 231 (dk_at dksX0_cost_0 10 rfl rfl)
theorem dX0_cost_13 : decode cX0_cost 13 = .ok (.invokestatic 69, 3) := dk_184 0 69 (dk_at dksX0_cost_0 13 rfl rfl)
theorem dX0_cost_16 : decode cX0_cost 16 = .ok (.ifCond .eq 12, 3) := dk_153 0 12 (dk_at dksX0_cost_0 16 rfl rfl)
theorem dX0_cost_19 : decode cX0_cost 19 = .ok (.aload_n 0, 1) := dk_42 (dk_at dksX0_cost_0 19 rfl rfl)
theorem dX0_cost_20 : decode cX0_cost 20 = .ok (.iload_n 1, 1) := dk_27 (dk_at dksX0_cost_0 20 rfl rfl)
theorem dX0_cost_21 : decode cX0_cost 21 = .ok (.iload_n 2, 1) := dk_28 (dk_at dksX0_cost_0 21 rfl rfl)
theorem dX0_cost_22 : decode cX0_cost 22 = .ok (.invokevirtual 161, 3) := dk_182 0 161 (dk_at dksX0_cost_1 0 rfl rfl)
theorem dX0_cost_25 : decode cX0_cost 25 = .ok (.goto 4, 3) := dk_167 0 4 (dk_at dksX0_cost_1 3 rfl rfl)
theorem dX0_cost_28 : decode cX0_cost 28 = .ok (.iconst (-1), 1) := dk_2 (dk_at dksX0_cost_1 6 rfl rfl)
theorem dX0_cost_29 : decode cX0_cost 29 = .ok (.ireturn, 1) := dk_172 (dk_at dksX0_cost_1 7 rfl rfl)
abbrev cX0_costOf : ByteArray := prog_1_method_23_code
def yX0_costOf : MethodName := ⟨RX0, "costOf", "(II)I"⟩
def dkwX0_costOf_0 : List UInt8 := [42, 180, 0, 30, 3, 28, 79, 42, 27, 182, 0, 154, 42, 4, 16, 99, 4, 182, 0, 150, 172]
abbrev dktX0_costOf_0 : List UInt8 := dkwX0_costOf_0 ++ []
theorem dksX0_costOf_0 : cX0_costOf.data.toList.drop 0 = dktX0_costOf_0 := by decide +kernel
theorem dX0_costOf_0 : decode cX0_costOf 0 = .ok (.aload_n 0, 1) := dk_42 (dk_at dksX0_costOf_0 0 rfl rfl)
theorem dX0_costOf_1 : decode cX0_costOf 1 = .ok (.getfield 30, 3) := dk_180 0 30 (dk_at dksX0_costOf_0 1 rfl rfl)
theorem dX0_costOf_4 : decode cX0_costOf 4 = .ok (.iconst 0, 1) := dk_3 (dk_at dksX0_costOf_0 4 rfl rfl)
theorem dX0_costOf_5 : decode cX0_costOf 5 = .ok (.iload_n 2, 1) := dk_28 (dk_at dksX0_costOf_0 5 rfl rfl)
theorem dX0_costOf_6 : decode cX0_costOf 6 = .ok (.iastore, 1) := dk_79 (dk_at dksX0_costOf_0 6 rfl rfl)
theorem dX0_costOf_7 : decode cX0_costOf 7 = .ok (.aload_n 0, 1) := dk_42 (dk_at dksX0_costOf_0 7 rfl rfl)
theorem dX0_costOf_8 : decode cX0_costOf 8 = .ok (.iload_n 1, 1) := dk_27 (dk_at dksX0_costOf_0 8 rfl rfl)
theorem dX0_costOf_9 : decode cX0_costOf 9 = .ok (.invokevirtual 154, 3) := dk_182 0 154 (dk_at dksX0_costOf_0 9 rfl rfl)
theorem dX0_costOf_12 : decode cX0_costOf 12 = .ok (.aload_n 0, 1) := dk_42 (dk_at dksX0_costOf_0 12 rfl rfl)
theorem dX0_costOf_13 : decode cX0_costOf 13 = .ok (.iconst 1, 1) := dk_4 (dk_at dksX0_costOf_0 13 rfl rfl)
theorem dX0_costOf_14 : decode cX0_costOf 14 = .ok (.bipush 99, 2) := dk_16 99 (dk_at dksX0_costOf_0 14 rfl rfl)
theorem dX0_costOf_16 : decode cX0_costOf 16 = .ok (.iconst 1, 1) := dk_4 (dk_at dksX0_costOf_0 16 rfl rfl)
theorem dX0_costOf_17 : decode cX0_costOf 17 = .ok (.invokevirtual 150, 3) := dk_182 0 150 (dk_at dksX0_costOf_0 17 rfl rfl)
theorem dX0_costOf_20 : decode cX0_costOf 20 = .ok (.ireturn, 1) := dk_172 (dk_at dksX0_costOf_0 20 rfl rfl)
abbrev cX0_namesBlower : ByteArray := prog_1_method_20_code
def yX0_namesBlower : MethodName := ⟨RX0, "namesBlower", "(I)V"⟩
def dkwX0_namesBlower_2 : List UInt8 := [180, 0, 12, 180, 0, 73, 3, 27, 96, 46, 79, 177]
abbrev dktX0_namesBlower_2 : List UInt8 := dkwX0_namesBlower_2 ++ []
def dkwX0_namesBlower_1 : List UInt8 := [42, 180, 0, 30, 6, 42, 180, 0, 12, 180, 0, 80, 27, 50, 4, 46, 79, 42, 180, 0, 30, 7, 42]
abbrev dktX0_namesBlower_1 : List UInt8 := dkwX0_namesBlower_1 ++ dktX0_namesBlower_2
def dkwX0_namesBlower_0 : List UInt8 := [42, 180, 0, 30, 4, 27, 79, 42, 180, 0, 30, 5, 42, 180, 0, 12, 180, 0, 80, 27, 50, 3, 46, 79]
abbrev dktX0_namesBlower_0 : List UInt8 := dkwX0_namesBlower_0 ++ dktX0_namesBlower_1
theorem dksX0_namesBlower_0 : cX0_namesBlower.data.toList.drop 0 = dktX0_namesBlower_0 := by decide +kernel
theorem dksX0_namesBlower_1 : cX0_namesBlower.data.toList.drop 24 = dktX0_namesBlower_1 := dk_seg dksX0_namesBlower_0 24 rfl rfl
theorem dksX0_namesBlower_2 : cX0_namesBlower.data.toList.drop 47 = dktX0_namesBlower_2 := dk_seg dksX0_namesBlower_1 23 rfl rfl
theorem dX0_namesBlower_0 : decode cX0_namesBlower 0 = .ok (.aload_n 0, 1) := dk_42 (dk_at dksX0_namesBlower_0 0 rfl rfl)
theorem dX0_namesBlower_1 : decode cX0_namesBlower 1 = .ok (.getfield 30, 3) := dk_180 0 30 (dk_at dksX0_namesBlower_0 1 rfl rfl)
theorem dX0_namesBlower_4 : decode cX0_namesBlower 4 = .ok (.iconst 1, 1) := dk_4 (dk_at dksX0_namesBlower_0 4 rfl rfl)
theorem dX0_namesBlower_5 : decode cX0_namesBlower 5 = .ok (.iload_n 1, 1) := dk_27 (dk_at dksX0_namesBlower_0 5 rfl rfl)
theorem dX0_namesBlower_6 : decode cX0_namesBlower 6 = .ok (.iastore, 1) := dk_79 (dk_at dksX0_namesBlower_0 6 rfl rfl)
theorem dX0_namesBlower_7 : decode cX0_namesBlower 7 = .ok (.aload_n 0, 1) := dk_42 (dk_at dksX0_namesBlower_0 7 rfl rfl)
theorem dX0_namesBlower_8 : decode cX0_namesBlower 8 = .ok (.getfield 30, 3) := dk_180 0 30 (dk_at dksX0_namesBlower_0 8 rfl rfl)
theorem dX0_namesBlower_11 : decode cX0_namesBlower 11 = .ok (.iconst 2, 1) := dk_5 (dk_at dksX0_namesBlower_0 11 rfl rfl)
theorem dX0_namesBlower_12 : decode cX0_namesBlower 12 = .ok (.aload_n 0, 1) := dk_42 (dk_at dksX0_namesBlower_0 12 rfl rfl)
theorem dX0_namesBlower_13 : decode cX0_namesBlower 13 = .ok (.getfield 12, 3) := dk_180 0 12 (dk_at dksX0_namesBlower_0 13 rfl rfl)
theorem dX0_namesBlower_16 : decode cX0_namesBlower 16 = .ok (.getfield 80, 3) := dk_180 0 80 (dk_at dksX0_namesBlower_0 16 rfl rfl)
theorem dX0_namesBlower_19 : decode cX0_namesBlower 19 = .ok (.iload_n 1, 1) := dk_27 (dk_at dksX0_namesBlower_0 19 rfl rfl)
theorem dX0_namesBlower_20 : decode cX0_namesBlower 20 = .ok (.aaload, 1) := dk_50 (dk_at dksX0_namesBlower_0 20 rfl rfl)
theorem dX0_namesBlower_21 : decode cX0_namesBlower 21 = .ok (.iconst 0, 1) := dk_3 (dk_at dksX0_namesBlower_0 21 rfl rfl)
theorem dX0_namesBlower_22 : decode cX0_namesBlower 22 = .ok (.iaload, 1) := dk_46 (dk_at dksX0_namesBlower_0 22 rfl rfl)
theorem dX0_namesBlower_23 : decode cX0_namesBlower 23 = .ok (.iastore, 1) := dk_79 (dk_at dksX0_namesBlower_0 23 rfl rfl)
theorem dX0_namesBlower_24 : decode cX0_namesBlower 24 = .ok (.aload_n 0, 1) := dk_42 (dk_at dksX0_namesBlower_1 0 rfl rfl)
theorem dX0_namesBlower_25 : decode cX0_namesBlower 25 = .ok (.getfield 30, 3) := dk_180 0 30 (dk_at dksX0_namesBlower_1 1 rfl rfl)
theorem dX0_namesBlower_28 : decode cX0_namesBlower 28 = .ok (.iconst 3, 1) := dk_6 (dk_at dksX0_namesBlower_1 4 rfl rfl)
theorem dX0_namesBlower_29 : decode cX0_namesBlower 29 = .ok (.aload_n 0, 1) := dk_42 (dk_at dksX0_namesBlower_1 5 rfl rfl)
theorem dX0_namesBlower_30 : decode cX0_namesBlower 30 = .ok (.getfield 12, 3) := dk_180 0 12 (dk_at dksX0_namesBlower_1 6 rfl rfl)
theorem dX0_namesBlower_33 : decode cX0_namesBlower 33 = .ok (.getfield 80, 3) := dk_180 0 80 (dk_at dksX0_namesBlower_1 9 rfl rfl)
theorem dX0_namesBlower_36 : decode cX0_namesBlower 36 = .ok (.iload_n 1, 1) := dk_27 (dk_at dksX0_namesBlower_1 12 rfl rfl)
theorem dX0_namesBlower_37 : decode cX0_namesBlower 37 = .ok (.aaload, 1) := dk_50 (dk_at dksX0_namesBlower_1 13 rfl rfl)
theorem dX0_namesBlower_38 : decode cX0_namesBlower 38 = .ok (.iconst 1, 1) := dk_4 (dk_at dksX0_namesBlower_1 14 rfl rfl)
theorem dX0_namesBlower_39 : decode cX0_namesBlower 39 = .ok (.iaload, 1) := dk_46 (dk_at dksX0_namesBlower_1 15 rfl rfl)
theorem dX0_namesBlower_40 : decode cX0_namesBlower 40 = .ok (.iastore, 1) := dk_79 (dk_at dksX0_namesBlower_1 16 rfl rfl)
theorem dX0_namesBlower_41 : decode cX0_namesBlower 41 = .ok (.aload_n 0, 1) := dk_42 (dk_at dksX0_namesBlower_1 17 rfl rfl)
theorem dX0_namesBlower_42 : decode cX0_namesBlower 42 = .ok (.getfield 30, 3) := dk_180 0 30 (dk_at dksX0_namesBlower_1 18 rfl rfl)
theorem dX0_namesBlower_45 : decode cX0_namesBlower 45 = .ok (.iconst 4, 1) := dk_7 (dk_at dksX0_namesBlower_1 21 rfl rfl)
theorem dX0_namesBlower_46 : decode cX0_namesBlower 46 = .ok (.aload_n 0, 1) := dk_42 (dk_at dksX0_namesBlower_1 22 rfl rfl)
theorem dX0_namesBlower_47 : decode cX0_namesBlower 47 = .ok (.getfield 12, 3) := dk_180 0 12 (dk_at dksX0_namesBlower_2 0 rfl rfl)
theorem dX0_namesBlower_50 : decode cX0_namesBlower 50 = .ok (.getfield 73, 3) := dk_180 0 73 (dk_at dksX0_namesBlower_2 3 rfl rfl)
theorem dX0_namesBlower_53 : decode cX0_namesBlower 53 = .ok (.iconst 0, 1) := dk_3 (dk_at dksX0_namesBlower_2 6 rfl rfl)
theorem dX0_namesBlower_54 : decode cX0_namesBlower 54 = .ok (.iload_n 1, 1) := dk_27 (dk_at dksX0_namesBlower_2 7 rfl rfl)
theorem dX0_namesBlower_55 : decode cX0_namesBlower 55 = .ok (.iadd, 1) := dk_96 (dk_at dksX0_namesBlower_2 8 rfl rfl)
theorem dX0_namesBlower_56 : decode cX0_namesBlower 56 = .ok (.iaload, 1) := dk_46 (dk_at dksX0_namesBlower_2 9 rfl rfl)
theorem dX0_namesBlower_57 : decode cX0_namesBlower 57 = .ok (.iastore, 1) := dk_79 (dk_at dksX0_namesBlower_2 10 rfl rfl)
theorem dX0_namesBlower_58 : decode cX0_namesBlower 58 = .ok (.return_, 1) := dk_177 (dk_at dksX0_namesBlower_2 11 rfl rfl)
abbrev cX0_begin : ByteArray := prog_1_method_27_code
def yX0_begin : MethodName := ⟨RX0, "begin", "(I)I"⟩
def dkwX0_begin_3 : List UInt8 := [27, 79, 42, 180, 0, 12, 180, 0, 73, 16, 112, 92, 46, 4, 96, 79, 28, 172]
abbrev dktX0_begin_3 : List UInt8 := dkwX0_begin_3 ++ []
def dkwX0_begin_2 : List UInt8 := [28, 3, 184, 0, 76, 16, 10, 96, 3, 184, 0, 170, 42, 180, 0, 12, 180, 0, 73, 28, 3, 184, 0, 76]
abbrev dktX0_begin_2 : List UInt8 := dkwX0_begin_2 ++ dktX0_begin_3
def dkwX0_begin_1 : List UInt8 := [160, 0, 5, 2, 172, 42, 180, 0, 12, 182, 0, 167, 42, 180, 0, 12, 180, 0, 73, 28, 3, 184, 0, 76]
abbrev dktX0_begin_1 : List UInt8 := dkwX0_begin_1 ++ dktX0_begin_2
def dkwX0_begin_0 : List UInt8 := [42, 180, 0, 12, 180, 0, 73, 16, 112, 46, 61, 42, 27, 182, 0, 164, 153, 0, 9, 28, 16, 10]
abbrev dktX0_begin_0 : List UInt8 := dkwX0_begin_0 ++ dktX0_begin_1
theorem dksX0_begin_0 : cX0_begin.data.toList.drop 0 = dktX0_begin_0 := by decide +kernel
theorem dksX0_begin_1 : cX0_begin.data.toList.drop 22 = dktX0_begin_1 := dk_seg dksX0_begin_0 22 rfl rfl
theorem dksX0_begin_2 : cX0_begin.data.toList.drop 46 = dktX0_begin_2 := dk_seg dksX0_begin_1 24 rfl rfl
theorem dksX0_begin_3 : cX0_begin.data.toList.drop 70 = dktX0_begin_3 := dk_seg dksX0_begin_2 24 rfl rfl
theorem dX0_begin_0 : decode cX0_begin 0 = .ok (.aload_n 0, 1) := dk_42 (dk_at dksX0_begin_0 0 rfl rfl)
theorem dX0_begin_1 : decode cX0_begin 1 = .ok (.getfield 12, 3) := dk_180 0 12 (dk_at dksX0_begin_0 1 rfl rfl)
theorem dX0_begin_4 : decode cX0_begin 4 = .ok (.getfield 73, 3) := dk_180 0 73 (dk_at dksX0_begin_0 4 rfl rfl)
theorem dX0_begin_7 : decode cX0_begin 7 = .ok (.bipush 112, 2) := dk_16 112 (dk_at dksX0_begin_0 7 rfl rfl)
theorem dX0_begin_9 : decode cX0_begin 9 = .ok (.iaload, 1) := dk_46 (dk_at dksX0_begin_0 9 rfl rfl)
theorem dX0_begin_10 : decode cX0_begin 10 = .ok (.istore_n 2, 1) := dk_61 (dk_at dksX0_begin_0 10 rfl rfl)
theorem dX0_begin_11 : decode cX0_begin 11 = .ok (.aload_n 0, 1) := dk_42 (dk_at dksX0_begin_0 11 rfl rfl)
theorem dX0_begin_12 : decode cX0_begin 12 = .ok (.iload_n 1, 1) := dk_27 (dk_at dksX0_begin_0 12 rfl rfl)
theorem dX0_begin_13 : decode cX0_begin 13 = .ok (.invokevirtual 164, 3) := dk_182 0 164 (dk_at dksX0_begin_0 13 rfl rfl)
theorem dX0_begin_16 : decode cX0_begin 16 = .ok (.ifCond .eq 9, 3) := dk_153 0 9 (dk_at dksX0_begin_0 16 rfl rfl)
theorem dX0_begin_19 : decode cX0_begin 19 = .ok (.iload_n 2, 1) := dk_28 (dk_at dksX0_begin_0 19 rfl rfl)
theorem dX0_begin_20 : decode cX0_begin 20 = .ok (.bipush 10, 2) := dk_16 10 (dk_at dksX0_begin_0 20 rfl rfl)
theorem dX0_begin_22 : decode cX0_begin 22 = .ok (.if_icmp .ne 5, 3) := dk_160 0 5 (dk_at dksX0_begin_1 0 rfl rfl)
theorem dX0_begin_25 : decode cX0_begin 25 = .ok (.iconst (-1), 1) := dk_2 (dk_at dksX0_begin_1 3 rfl rfl)
theorem dX0_begin_26 : decode cX0_begin 26 = .ok (.ireturn, 1) := dk_172 (dk_at dksX0_begin_1 4 rfl rfl)
theorem dX0_begin_27 : decode cX0_begin 27 = .ok (.aload_n 0, 1) := dk_42 (dk_at dksX0_begin_1 5 rfl rfl)
theorem dX0_begin_28 : decode cX0_begin 28 = .ok (.getfield 12, 3) := dk_180 0 12 (dk_at dksX0_begin_1 6 rfl rfl)
theorem dX0_begin_31 : decode cX0_begin 31 = .ok (.invokevirtual 167, 3) := dk_182 0 167 (dk_at dksX0_begin_1 9 rfl rfl)
theorem dX0_begin_34 : decode cX0_begin 34 = .ok (.aload_n 0, 1) := dk_42 (dk_at dksX0_begin_1 12 rfl rfl)
theorem dX0_begin_35 : decode cX0_begin 35 = .ok (.getfield 12, 3) := dk_180 0 12 (dk_at dksX0_begin_1 13 rfl rfl)
theorem dX0_begin_38 : decode cX0_begin 38 = .ok (.getfield 73, 3) := dk_180 0 73 (dk_at dksX0_begin_1 16 rfl rfl)
theorem dX0_begin_41 : decode cX0_begin 41 = .ok (.iload_n 2, 1) := dk_28 (dk_at dksX0_begin_1 19 rfl rfl)
theorem dX0_begin_42 : decode cX0_begin 42 = .ok (.iconst 0, 1) := dk_3 (dk_at dksX0_begin_1 20 rfl rfl)
theorem dX0_begin_43 : decode cX0_begin 43 = .ok (.invokestatic 76, 3) := dk_184 0 76 (dk_at dksX0_begin_1 21 rfl rfl)
theorem dX0_begin_46 : decode cX0_begin 46 = .ok (.iload_n 2, 1) := dk_28 (dk_at dksX0_begin_2 0 rfl rfl)
theorem dX0_begin_47 : decode cX0_begin 47 = .ok (.iconst 0, 1) := dk_3 (dk_at dksX0_begin_2 1 rfl rfl)
theorem dX0_begin_48 : decode cX0_begin 48 = .ok (.invokestatic 76, 3) := dk_184 0 76 (dk_at dksX0_begin_2 2 rfl rfl)
theorem dX0_begin_51 : decode cX0_begin 51 = .ok (.bipush 10, 2) := dk_16 10 (dk_at dksX0_begin_2 5 rfl rfl)
theorem dX0_begin_53 : decode cX0_begin 53 = .ok (.iadd, 1) := dk_96 (dk_at dksX0_begin_2 7 rfl rfl)
theorem dX0_begin_54 : decode cX0_begin 54 = .ok (.iconst 0, 1) := dk_3 (dk_at dksX0_begin_2 8 rfl rfl)
theorem dX0_begin_55 : decode cX0_begin 55 = .ok (.invokestatic 170, 3) := dk_184 0 170 (dk_at dksX0_begin_2 9 rfl rfl)
theorem dX0_begin_58 : decode cX0_begin 58 = .ok (.aload_n 0, 1) := dk_42 (dk_at dksX0_begin_2 12 rfl rfl)
theorem dX0_begin_59 : decode cX0_begin 59 = .ok (.getfield 12, 3) := dk_180 0 12 (dk_at dksX0_begin_2 13 rfl rfl)
theorem dX0_begin_62 : decode cX0_begin 62 = .ok (.getfield 73, 3) := dk_180 0 73 (dk_at dksX0_begin_2 16 rfl rfl)
theorem dX0_begin_65 : decode cX0_begin 65 = .ok (.iload_n 2, 1) := dk_28 (dk_at dksX0_begin_2 19 rfl rfl)
theorem dX0_begin_66 : decode cX0_begin 66 = .ok (.iconst 0, 1) := dk_3 (dk_at dksX0_begin_2 20 rfl rfl)
theorem dX0_begin_67 : decode cX0_begin 67 = .ok (.invokestatic 76, 3) := dk_184 0 76 (dk_at dksX0_begin_2 21 rfl rfl)
theorem dX0_begin_70 : decode cX0_begin 70 = .ok (.iload_n 1, 1) := dk_27 (dk_at dksX0_begin_3 0 rfl rfl)
theorem dX0_begin_71 : decode cX0_begin 71 = .ok (.iastore, 1) := dk_79 (dk_at dksX0_begin_3 1 rfl rfl)
theorem dX0_begin_72 : decode cX0_begin 72 = .ok (.aload_n 0, 1) := dk_42 (dk_at dksX0_begin_3 2 rfl rfl)
theorem dX0_begin_73 : decode cX0_begin 73 = .ok (.getfield 12, 3) := dk_180 0 12 (dk_at dksX0_begin_3 3 rfl rfl)
theorem dX0_begin_76 : decode cX0_begin 76 = .ok (.getfield 73, 3) := dk_180 0 73 (dk_at dksX0_begin_3 6 rfl rfl)
theorem dX0_begin_79 : decode cX0_begin 79 = .ok (.bipush 112, 2) := dk_16 112 (dk_at dksX0_begin_3 9 rfl rfl)
theorem dX0_begin_81 : decode cX0_begin 81 = .ok (.dup2, 1) := dk_92 (dk_at dksX0_begin_3 11 rfl rfl)
theorem dX0_begin_82 : decode cX0_begin 82 = .ok (.iaload, 1) := dk_46 (dk_at dksX0_begin_3 12 rfl rfl)
theorem dX0_begin_83 : decode cX0_begin 83 = .ok (.iconst 1, 1) := dk_4 (dk_at dksX0_begin_3 13 rfl rfl)
theorem dX0_begin_84 : decode cX0_begin 84 = .ok (.iadd, 1) := dk_96 (dk_at dksX0_begin_3 14 rfl rfl)
theorem dX0_begin_85 : decode cX0_begin 85 = .ok (.iastore, 1) := dk_79 (dk_at dksX0_begin_3 15 rfl rfl)
theorem dX0_begin_86 : decode cX0_begin 86 = .ok (.iload_n 2, 1) := dk_28 (dk_at dksX0_begin_3 16 rfl rfl)
theorem dX0_begin_87 : decode cX0_begin 87 = .ok (.ireturn, 1) := dk_172 (dk_at dksX0_begin_3 17 rfl rfl)
abbrev cX0_isKind : ByteArray := prog_1_method_4_code
def yX0_isKind : MethodName := ⟨RX0, "isKind", "(I)Z"⟩
def dkwX0_isKind_0 : List UInt8 := [27, 3, 42, 180, 0, 12, 180, 0, 66, 4, 46, 4, 100, 184, 0, 69, 172]
abbrev dktX0_isKind_0 : List UInt8 := dkwX0_isKind_0 ++ []
theorem dksX0_isKind_0 : cX0_isKind.data.toList.drop 0 = dktX0_isKind_0 := by decide +kernel
theorem dX0_isKind_0 : decode cX0_isKind 0 = .ok (.iload_n 1, 1) := dk_27 (dk_at dksX0_isKind_0 0 rfl rfl)
theorem dX0_isKind_1 : decode cX0_isKind 1 = .ok (.iconst 0, 1) := dk_3 (dk_at dksX0_isKind_0 1 rfl rfl)
theorem dX0_isKind_2 : decode cX0_isKind 2 = .ok (.aload_n 0, 1) := dk_42 (dk_at dksX0_isKind_0 2 rfl rfl)
theorem dX0_isKind_3 : decode cX0_isKind 3 = .ok (.getfield 12, 3) := dk_180 0 12 (dk_at dksX0_isKind_0 3 rfl rfl)
theorem dX0_isKind_6 : decode cX0_isKind 6 = .ok (.getfield 66, 3) := dk_180 0 66 (dk_at dksX0_isKind_0 6 rfl rfl)
theorem dX0_isKind_9 : decode cX0_isKind 9 = .ok (.iconst 1, 1) := dk_4 (dk_at dksX0_isKind_0 9 rfl rfl)
theorem dX0_isKind_10 : decode cX0_isKind 10 = .ok (.iaload, 1) := dk_46 (dk_at dksX0_isKind_0 10 rfl rfl)
theorem dX0_isKind_11 : decode cX0_isKind 11 = .ok (.iconst 1, 1) := dk_4 (dk_at dksX0_isKind_0 11 rfl rfl)
theorem dX0_isKind_12 : decode cX0_isKind 12 = .ok (.isub, 1) := dk_100 (dk_at dksX0_isKind_0 12 rfl rfl)
theorem dX0_isKind_13 : decode cX0_isKind 13 = .ok (.invokestatic 69, 3) := dk_184 0 69 (dk_at dksX0_isKind_0 13 rfl rfl)
theorem dX0_isKind_16 : decode cX0_isKind 16 = .ok (.ireturn, 1) := dk_172 (dk_at dksX0_isKind_0 16 rfl rfl)
abbrev cX0_at : ByteArray := prog_1_method_6_code
def yX0_at : MethodName := ⟨RX0, "at", "(II)I"⟩
def dkwX0_at_0 : List UInt8 := [16, 12, 16, 10, 26, 104, 96, 27, 96, 172]
abbrev dktX0_at_0 : List UInt8 := dkwX0_at_0 ++ []
theorem dksX0_at_0 : cX0_at.data.toList.drop 0 = dktX0_at_0 := by decide +kernel
theorem dX0_at_0 : decode cX0_at 0 = .ok (.bipush 12, 2) := dk_16 12 (dk_at dksX0_at_0 0 rfl rfl)
theorem dX0_at_2 : decode cX0_at 2 = .ok (.bipush 10, 2) := dk_16 10 (dk_at dksX0_at_0 2 rfl rfl)
theorem dX0_at_4 : decode cX0_at 4 = .ok (.iload_n 0, 1) := dk_26 (dk_at dksX0_at_0 4 rfl rfl)
theorem dX0_at_5 : decode cX0_at 5 = .ok (.imul, 1) := dk_104 (dk_at dksX0_at_0 5 rfl rfl)
theorem dX0_at_6 : decode cX0_at 6 = .ok (.iadd, 1) := dk_96 (dk_at dksX0_at_0 6 rfl rfl)
theorem dX0_at_7 : decode cX0_at 7 = .ok (.iload_n 1, 1) := dk_27 (dk_at dksX0_at_0 7 rfl rfl)
theorem dX0_at_8 : decode cX0_at 8 = .ok (.iadd, 1) := dk_96 (dk_at dksX0_at_0 8 rfl rfl)
theorem dX0_at_9 : decode cX0_at 9 = .ok (.ireturn, 1) := dk_172 (dk_at dksX0_at_0 9 rfl rfl)
abbrev cX0_blow : ByteArray := prog_1_method_32_code
def yX0_blow : MethodName := ⟨RX0, "blow", "(III)I"⟩
def dkwX0_blow_8 : List UInt8 := [182, 0, 176, 172]
abbrev dktX0_blow_8 : List UInt8 := dkwX0_blow_8 ++ []
def dkwX0_blow_7 : List UInt8 := [96, 7, 184, 0, 198, 42, 180, 0, 12, 180, 0, 73, 16, 114, 92, 46, 4, 96, 79, 42, 27, 4]
abbrev dktX0_blow_7 : List UInt8 := dkwX0_blow_7 ++ dktX0_blow_8
def dkwX0_blow_6 : List UInt8 := [25, 5, 3, 42, 180, 0, 12, 180, 0, 73, 16, 115, 7, 42, 180, 0, 12, 180, 0, 73, 16, 114, 46, 104]
abbrev dktX0_blow_6 : List UInt8 := dkwX0_blow_6 ++ dktX0_blow_7
def dkwX0_blow_5 : List UInt8 := [188, 10, 89, 3, 27, 79, 89, 4, 28, 79, 89, 5, 29, 79, 89, 6, 42, 182, 0, 189, 79, 58, 5]
abbrev dktX0_blow_5 : List UInt8 := dkwX0_blow_5 ++ dktX0_blow_6
def dkwX0_blow_4 : List UInt8 := [92, 46, 29, 96, 79, 42, 180, 0, 12, 180, 0, 73, 27, 4, 184, 0, 76, 42, 27, 182, 0, 195, 79, 7]
abbrev dktX0_blow_4 : List UInt8 := dkwX0_blow_4 ++ dktX0_blow_5
def dkwX0_blow_3 : List UInt8 := [27, 5, 184, 0, 76, 92, 46, 29, 96, 79, 42, 180, 0, 12, 180, 0, 73, 27, 7, 28, 96, 184, 0, 76]
abbrev dktX0_blow_3 : List UInt8 := dkwX0_blow_3 ++ dktX0_blow_4
def dkwX0_blow_2 : List UInt8 := [79, 42, 180, 0, 12, 180, 0, 73, 16, 6, 28, 96, 92, 46, 29, 96, 79, 42, 180, 0, 12, 180, 0, 73]
abbrev dktX0_blow_2 : List UInt8 := dkwX0_blow_2 ++ dktX0_blow_3
def dkwX0_blow_1 : List UInt8 := [54, 4, 42, 180, 0, 12, 182, 0, 167, 42, 180, 0, 12, 180, 0, 73, 3, 28, 96, 92, 46, 21, 4, 100]
abbrev dktX0_blow_1 : List UInt8 := dkwX0_blow_1 ++ dktX0_blow_2
def dkwX0_blow_0 : List UInt8 := [42, 27, 28, 29, 182, 0, 192, 154, 0, 5, 2, 172, 42, 28, 42, 182, 0, 189, 182, 0, 161, 29, 104]
abbrev dktX0_blow_0 : List UInt8 := dkwX0_blow_0 ++ dktX0_blow_1
theorem dksX0_blow_0 : cX0_blow.data.toList.drop 0 = dktX0_blow_0 := by decide +kernel
theorem dksX0_blow_1 : cX0_blow.data.toList.drop 23 = dktX0_blow_1 := dk_seg dksX0_blow_0 23 rfl rfl
theorem dksX0_blow_2 : cX0_blow.data.toList.drop 47 = dktX0_blow_2 := dk_seg dksX0_blow_1 24 rfl rfl
theorem dksX0_blow_3 : cX0_blow.data.toList.drop 71 = dktX0_blow_3 := dk_seg dksX0_blow_2 24 rfl rfl
theorem dksX0_blow_4 : cX0_blow.data.toList.drop 95 = dktX0_blow_4 := dk_seg dksX0_blow_3 24 rfl rfl
theorem dksX0_blow_5 : cX0_blow.data.toList.drop 119 = dktX0_blow_5 := dk_seg dksX0_blow_4 24 rfl rfl
theorem dksX0_blow_6 : cX0_blow.data.toList.drop 142 = dktX0_blow_6 := dk_seg dksX0_blow_5 23 rfl rfl
theorem dksX0_blow_7 : cX0_blow.data.toList.drop 166 = dktX0_blow_7 := dk_seg dksX0_blow_6 24 rfl rfl
theorem dksX0_blow_8 : cX0_blow.data.toList.drop 188 = dktX0_blow_8 := dk_seg dksX0_blow_7 22 rfl rfl
theorem dX0_blow_0 : decode cX0_blow 0 = .ok (.aload_n 0, 1) := dk_42 (dk_at dksX0_blow_0 0 rfl rfl)
theorem dX0_blow_1 : decode cX0_blow 1 = .ok (.iload_n 1, 1) := dk_27 (dk_at dksX0_blow_0 1 rfl rfl)
theorem dX0_blow_2 : decode cX0_blow 2 = .ok (.iload_n 2, 1) := dk_28 (dk_at dksX0_blow_0 2 rfl rfl)
theorem dX0_blow_3 : decode cX0_blow 3 = .ok (.iload_n 3, 1) := dk_29 (dk_at dksX0_blow_0 3 rfl rfl)
theorem dX0_blow_4 : decode cX0_blow 4 = .ok (.invokevirtual 192, 3) := dk_182 0 192 (dk_at dksX0_blow_0 4 rfl rfl)
theorem dX0_blow_7 : decode cX0_blow 7 = .ok (.ifCond .ne 5, 3) := dk_154 0 5 (dk_at dksX0_blow_0 7 rfl rfl)
theorem dX0_blow_10 : decode cX0_blow 10 = .ok (.iconst (-1), 1) := dk_2 (dk_at dksX0_blow_0 10 rfl rfl)
theorem dX0_blow_11 : decode cX0_blow 11 = .ok (.ireturn, 1) := dk_172 (dk_at dksX0_blow_0 11 rfl rfl)
theorem dX0_blow_12 : decode cX0_blow 12 = .ok (.aload_n 0, 1) := dk_42 (dk_at dksX0_blow_0 12 rfl rfl)
theorem dX0_blow_13 : decode cX0_blow 13 = .ok (.iload_n 2, 1) := dk_28 (dk_at dksX0_blow_0 13 rfl rfl)
theorem dX0_blow_14 : decode cX0_blow 14 = .ok (.aload_n 0, 1) := dk_42 (dk_at dksX0_blow_0 14 rfl rfl)
theorem dX0_blow_15 : decode cX0_blow 15 = .ok (.invokevirtual 189, 3) := dk_182 0 189 (dk_at dksX0_blow_0 15 rfl rfl)
theorem dX0_blow_18 : decode cX0_blow 18 = .ok (.invokevirtual 161, 3) := dk_182 0 161 (dk_at dksX0_blow_0 18 rfl rfl)
theorem dX0_blow_21 : decode cX0_blow 21 = .ok (.iload_n 3, 1) := dk_29 (dk_at dksX0_blow_0 21 rfl rfl)
theorem dX0_blow_22 : decode cX0_blow 22 = .ok (.imul, 1) := dk_104 (dk_at dksX0_blow_0 22 rfl rfl)
theorem dX0_blow_23 : decode cX0_blow 23 = .ok (.istore 4, 2) := dk_54 4 (dk_at dksX0_blow_1 0 rfl rfl)
theorem dX0_blow_25 : decode cX0_blow 25 = .ok (.aload_n 0, 1) := dk_42 (dk_at dksX0_blow_1 2 rfl rfl)
theorem dX0_blow_26 : decode cX0_blow 26 = .ok (.getfield 12, 3) := dk_180 0 12 (dk_at dksX0_blow_1 3 rfl rfl)
theorem dX0_blow_29 : decode cX0_blow 29 = .ok (.invokevirtual 167, 3) := dk_182 0 167 (dk_at dksX0_blow_1 6 rfl rfl)
theorem dX0_blow_32 : decode cX0_blow 32 = .ok (.aload_n 0, 1) := dk_42 (dk_at dksX0_blow_1 9 rfl rfl)
theorem dX0_blow_33 : decode cX0_blow 33 = .ok (.getfield 12, 3) := dk_180 0 12 (dk_at dksX0_blow_1 10 rfl rfl)
theorem dX0_blow_36 : decode cX0_blow 36 = .ok (.getfield 73, 3) := dk_180 0 73 (dk_at dksX0_blow_1 13 rfl rfl)
theorem dX0_blow_39 : decode cX0_blow 39 = .ok (.iconst 0, 1) := dk_3 (dk_at dksX0_blow_1 16 rfl rfl)
theorem dX0_blow_40 : decode cX0_blow 40 = .ok (.iload_n 2, 1) := dk_28 (dk_at dksX0_blow_1 17 rfl rfl)
theorem dX0_blow_41 : decode cX0_blow 41 = .ok (.iadd, 1) := dk_96 (dk_at dksX0_blow_1 18 rfl rfl)
theorem dX0_blow_42 : decode cX0_blow 42 = .ok (.dup2, 1) := dk_92 (dk_at dksX0_blow_1 19 rfl rfl)
theorem dX0_blow_43 : decode cX0_blow 43 = .ok (.iaload, 1) := dk_46 (dk_at dksX0_blow_1 20 rfl rfl)
theorem dX0_blow_44 : decode cX0_blow 44 = .ok (.iload 4, 2) := dk_21 4 (dk_at dksX0_blow_1 21 rfl rfl)
theorem dX0_blow_46 : decode cX0_blow 46 = .ok (.isub, 1) := dk_100 (dk_at dksX0_blow_1 23 rfl rfl)
theorem dX0_blow_47 : decode cX0_blow 47 = .ok (.iastore, 1) := dk_79 (dk_at dksX0_blow_2 0 rfl rfl)
theorem dX0_blow_48 : decode cX0_blow 48 = .ok (.aload_n 0, 1) := dk_42 (dk_at dksX0_blow_2 1 rfl rfl)
theorem dX0_blow_49 : decode cX0_blow 49 = .ok (.getfield 12, 3) := dk_180 0 12 (dk_at dksX0_blow_2 2 rfl rfl)
theorem dX0_blow_52 : decode cX0_blow 52 = .ok (.getfield 73, 3) := dk_180 0 73 (dk_at dksX0_blow_2 5 rfl rfl)
theorem dX0_blow_55 : decode cX0_blow 55 = .ok (.bipush 6, 2) := dk_16 6 (dk_at dksX0_blow_2 8 rfl rfl)
theorem dX0_blow_57 : decode cX0_blow 57 = .ok (.iload_n 2, 1) := dk_28 (dk_at dksX0_blow_2 10 rfl rfl)
theorem dX0_blow_58 : decode cX0_blow 58 = .ok (.iadd, 1) := dk_96 (dk_at dksX0_blow_2 11 rfl rfl)
theorem dX0_blow_59 : decode cX0_blow 59 = .ok (.dup2, 1) := dk_92 (dk_at dksX0_blow_2 12 rfl rfl)
theorem dX0_blow_60 : decode cX0_blow 60 = .ok (.iaload, 1) := dk_46 (dk_at dksX0_blow_2 13 rfl rfl)
theorem dX0_blow_61 : decode cX0_blow 61 = .ok (.iload_n 3, 1) := dk_29 (dk_at dksX0_blow_2 14 rfl rfl)
theorem dX0_blow_62 : decode cX0_blow 62 = .ok (.iadd, 1) := dk_96 (dk_at dksX0_blow_2 15 rfl rfl)
theorem dX0_blow_63 : decode cX0_blow 63 = .ok (.iastore, 1) := dk_79 (dk_at dksX0_blow_2 16 rfl rfl)
theorem dX0_blow_64 : decode cX0_blow 64 = .ok (.aload_n 0, 1) := dk_42 (dk_at dksX0_blow_2 17 rfl rfl)
theorem dX0_blow_65 : decode cX0_blow 65 = .ok (.getfield 12, 3) := dk_180 0 12 (dk_at dksX0_blow_2 18 rfl rfl)
theorem dX0_blow_68 : decode cX0_blow 68 = .ok (.getfield 73, 3) := dk_180 0 73 (dk_at dksX0_blow_2 21 rfl rfl)
theorem dX0_blow_71 : decode cX0_blow 71 = .ok (.iload_n 1, 1) := dk_27 (dk_at dksX0_blow_3 0 rfl rfl)
theorem dX0_blow_72 : decode cX0_blow 72 = .ok (.iconst 2, 1) := dk_5 (dk_at dksX0_blow_3 1 rfl rfl)
theorem dX0_blow_73 : decode cX0_blow 73 = .ok (.invokestatic 76, 3) := dk_184 0 76 (dk_at dksX0_blow_3 2 rfl rfl)
theorem dX0_blow_76 : decode cX0_blow 76 = .ok (.dup2, 1) := dk_92 (dk_at dksX0_blow_3 5 rfl rfl)
theorem dX0_blow_77 : decode cX0_blow 77 = .ok (.iaload, 1) := dk_46 (dk_at dksX0_blow_3 6 rfl rfl)
theorem dX0_blow_78 : decode cX0_blow 78 = .ok (.iload_n 3, 1) := dk_29 (dk_at dksX0_blow_3 7 rfl rfl)
theorem dX0_blow_79 : decode cX0_blow 79 = .ok (.iadd, 1) := dk_96 (dk_at dksX0_blow_3 8 rfl rfl)
theorem dX0_blow_80 : decode cX0_blow 80 = .ok (.iastore, 1) := dk_79 (dk_at dksX0_blow_3 9 rfl rfl)
theorem dX0_blow_81 : decode cX0_blow 81 = .ok (.aload_n 0, 1) := dk_42 (dk_at dksX0_blow_3 10 rfl rfl)
theorem dX0_blow_82 : decode cX0_blow 82 = .ok (.getfield 12, 3) := dk_180 0 12 (dk_at dksX0_blow_3 11 rfl rfl)
theorem dX0_blow_85 : decode cX0_blow 85 = .ok (.getfield 73, 3) := dk_180 0 73 (dk_at dksX0_blow_3 14 rfl rfl)
theorem dX0_blow_88 : decode cX0_blow 88 = .ok (.iload_n 1, 1) := dk_27 (dk_at dksX0_blow_3 17 rfl rfl)
theorem dX0_blow_89 : decode cX0_blow 89 = .ok (.iconst 4, 1) := dk_7 (dk_at dksX0_blow_3 18 rfl rfl)
theorem dX0_blow_90 : decode cX0_blow 90 = .ok (.iload_n 2, 1) := dk_28 (dk_at dksX0_blow_3 19 rfl rfl)
theorem dX0_blow_91 : decode cX0_blow 91 = .ok (.iadd, 1) := dk_96 (dk_at dksX0_blow_3 20 rfl rfl)
theorem dX0_blow_92 : decode cX0_blow 92 = .ok (.invokestatic 76, 3) := dk_184 0 76 (dk_at dksX0_blow_3 21 rfl rfl)
theorem dX0_blow_95 : decode cX0_blow 95 = .ok (.dup2, 1) := dk_92 (dk_at dksX0_blow_4 0 rfl rfl)
theorem dX0_blow_96 : decode cX0_blow 96 = .ok (.iaload, 1) := dk_46 (dk_at dksX0_blow_4 1 rfl rfl)
theorem dX0_blow_97 : decode cX0_blow 97 = .ok (.iload_n 3, 1) := dk_29 (dk_at dksX0_blow_4 2 rfl rfl)
theorem dX0_blow_98 : decode cX0_blow 98 = .ok (.iadd, 1) := dk_96 (dk_at dksX0_blow_4 3 rfl rfl)
theorem dX0_blow_99 : decode cX0_blow 99 = .ok (.iastore, 1) := dk_79 (dk_at dksX0_blow_4 4 rfl rfl)
theorem dX0_blow_100 : decode cX0_blow 100 = .ok (.aload_n 0, 1) := dk_42 (dk_at dksX0_blow_4 5 rfl rfl)
theorem dX0_blow_101 : decode cX0_blow 101 = .ok (.getfield 12, 3) := dk_180 0 12 (dk_at dksX0_blow_4 6 rfl rfl)
theorem dX0_blow_104 : decode cX0_blow 104 = .ok (.getfield 73, 3) := dk_180 0 73 (dk_at dksX0_blow_4 9 rfl rfl)
theorem dX0_blow_107 : decode cX0_blow 107 = .ok (.iload_n 1, 1) := dk_27 (dk_at dksX0_blow_4 12 rfl rfl)
theorem dX0_blow_108 : decode cX0_blow 108 = .ok (.iconst 1, 1) := dk_4 (dk_at dksX0_blow_4 13 rfl rfl)
theorem dX0_blow_109 : decode cX0_blow 109 = .ok (.invokestatic 76, 3) := dk_184 0 76 (dk_at dksX0_blow_4 14 rfl rfl)
theorem dX0_blow_112 : decode cX0_blow 112 = .ok (.aload_n 0, 1) := dk_42 (dk_at dksX0_blow_4 17 rfl rfl)
theorem dX0_blow_113 : decode cX0_blow 113 = .ok (.iload_n 1, 1) := dk_27 (dk_at dksX0_blow_4 18 rfl rfl)
theorem dX0_blow_114 : decode cX0_blow 114 = .ok (.invokevirtual 195, 3) := dk_182 0 195 (dk_at dksX0_blow_4 19 rfl rfl)
theorem dX0_blow_117 : decode cX0_blow 117 = .ok (.iastore, 1) := dk_79 (dk_at dksX0_blow_4 22 rfl rfl)
theorem dX0_blow_118 : decode cX0_blow 118 = .ok (.iconst 4, 1) := dk_7 (dk_at dksX0_blow_4 23 rfl rfl)
theorem dX0_blow_119 : decode cX0_blow 119 = .ok (.newarray .int, 2) := dk_188_10 (dk_at dksX0_blow_5 0 rfl rfl)
theorem dX0_blow_121 : decode cX0_blow 121 = .ok (.dup, 1) := dk_89 (dk_at dksX0_blow_5 2 rfl rfl)
theorem dX0_blow_122 : decode cX0_blow 122 = .ok (.iconst 0, 1) := dk_3 (dk_at dksX0_blow_5 3 rfl rfl)
theorem dX0_blow_123 : decode cX0_blow 123 = .ok (.iload_n 1, 1) := dk_27 (dk_at dksX0_blow_5 4 rfl rfl)
theorem dX0_blow_124 : decode cX0_blow 124 = .ok (.iastore, 1) := dk_79 (dk_at dksX0_blow_5 5 rfl rfl)
theorem dX0_blow_125 : decode cX0_blow 125 = .ok (.dup, 1) := dk_89 (dk_at dksX0_blow_5 6 rfl rfl)
theorem dX0_blow_126 : decode cX0_blow 126 = .ok (.iconst 1, 1) := dk_4 (dk_at dksX0_blow_5 7 rfl rfl)
theorem dX0_blow_127 : decode cX0_blow 127 = .ok (.iload_n 2, 1) := dk_28 (dk_at dksX0_blow_5 8 rfl rfl)
theorem dX0_blow_128 : decode cX0_blow 128 = .ok (.iastore, 1) := dk_79 (dk_at dksX0_blow_5 9 rfl rfl)
theorem dX0_blow_129 : decode cX0_blow 129 = .ok (.dup, 1) := dk_89 (dk_at dksX0_blow_5 10 rfl rfl)
theorem dX0_blow_130 : decode cX0_blow 130 = .ok (.iconst 2, 1) := dk_5 (dk_at dksX0_blow_5 11 rfl rfl)
theorem dX0_blow_131 : decode cX0_blow 131 = .ok (.iload_n 3, 1) := dk_29 (dk_at dksX0_blow_5 12 rfl rfl)
theorem dX0_blow_132 : decode cX0_blow 132 = .ok (.iastore, 1) := dk_79 (dk_at dksX0_blow_5 13 rfl rfl)
theorem dX0_blow_133 : decode cX0_blow 133 = .ok (.dup, 1) := dk_89 (dk_at dksX0_blow_5 14 rfl rfl)
theorem dX0_blow_134 : decode cX0_blow 134 = .ok (.iconst 3, 1) := dk_6 (dk_at dksX0_blow_5 15 rfl rfl)
theorem dX0_blow_135 : decode cX0_blow 135 = .ok (.aload_n 0, 1) := dk_42 (dk_at dksX0_blow_5 16 rfl rfl)
theorem dX0_blow_136 : decode cX0_blow 136 = .ok (.invokevirtual 189, 3) := dk_182 0 189 (dk_at dksX0_blow_5 17 rfl rfl)
theorem dX0_blow_139 : decode cX0_blow 139 = .ok (.iastore, 1) := dk_79 (dk_at dksX0_blow_5 20 rfl rfl)
theorem dX0_blow_140 : decode cX0_blow 140 = .ok (.astore 5, 2) := dk_58 5 (dk_at dksX0_blow_5 21 rfl rfl)
theorem dX0_blow_142 : decode cX0_blow 142 = .ok (.aload 5, 2) := dk_25 5 (dk_at dksX0_blow_6 0 rfl rfl)
theorem dX0_blow_144 : decode cX0_blow 144 = .ok (.iconst 0, 1) := dk_3 (dk_at dksX0_blow_6 2 rfl rfl)
theorem dX0_blow_145 : decode cX0_blow 145 = .ok (.aload_n 0, 1) := dk_42 (dk_at dksX0_blow_6 3 rfl rfl)
theorem dX0_blow_146 : decode cX0_blow 146 = .ok (.getfield 12, 3) := dk_180 0 12 (dk_at dksX0_blow_6 4 rfl rfl)
theorem dX0_blow_149 : decode cX0_blow 149 = .ok (.getfield 73, 3) := dk_180 0 73 (dk_at dksX0_blow_6 7 rfl rfl)
theorem dX0_blow_152 : decode cX0_blow 152 = .ok (.bipush 115, 2) := dk_16 115 (dk_at dksX0_blow_6 10 rfl rfl)
theorem dX0_blow_154 : decode cX0_blow 154 = .ok (.iconst 4, 1) := dk_7 (dk_at dksX0_blow_6 12 rfl rfl)
theorem dX0_blow_155 : decode cX0_blow 155 = .ok (.aload_n 0, 1) := dk_42 (dk_at dksX0_blow_6 13 rfl rfl)
theorem dX0_blow_156 : decode cX0_blow 156 = .ok (.getfield 12, 3) := dk_180 0 12 (dk_at dksX0_blow_6 14 rfl rfl)
theorem dX0_blow_159 : decode cX0_blow 159 = .ok (.getfield 73, 3) := dk_180 0 73 (dk_at dksX0_blow_6 17 rfl rfl)
theorem dX0_blow_162 : decode cX0_blow 162 = .ok (.bipush 114, 2) := dk_16 114 (dk_at dksX0_blow_6 20 rfl rfl)
theorem dX0_blow_164 : decode cX0_blow 164 = .ok (.iaload, 1) := dk_46 (dk_at dksX0_blow_6 22 rfl rfl)
theorem dX0_blow_165 : decode cX0_blow 165 = .ok (.imul, 1) := dk_104 (dk_at dksX0_blow_6 23 rfl rfl)
theorem dX0_blow_166 : decode cX0_blow 166 = .ok (.iadd, 1) := dk_96 (dk_at dksX0_blow_7 0 rfl rfl)
theorem dX0_blow_167 : decode cX0_blow 167 = .ok (.iconst 4, 1) := dk_7 (dk_at dksX0_blow_7 1 rfl rfl)
theorem dX0_blow_168 : decode cX0_blow 168 = .ok (.invokestatic 198, 3) := dk_184 0 198 (dk_at dksX0_blow_7 2 rfl rfl)
theorem dX0_blow_171 : decode cX0_blow 171 = .ok (.aload_n 0, 1) := dk_42 (dk_at dksX0_blow_7 5 rfl rfl)
theorem dX0_blow_172 : decode cX0_blow 172 = .ok (.getfield 12, 3) := dk_180 0 12 (dk_at dksX0_blow_7 6 rfl rfl)
theorem dX0_blow_175 : decode cX0_blow 175 = .ok (.getfield 73, 3) := dk_180 0 73 (dk_at dksX0_blow_7 9 rfl rfl)
theorem dX0_blow_178 : decode cX0_blow 178 = .ok (.bipush 114, 2) := dk_16 114 (dk_at dksX0_blow_7 12 rfl rfl)
theorem dX0_blow_180 : decode cX0_blow 180 = .ok (.dup2, 1) := dk_92 (dk_at dksX0_blow_7 14 rfl rfl)
theorem dX0_blow_181 : decode cX0_blow 181 = .ok (.iaload, 1) := dk_46 (dk_at dksX0_blow_7 15 rfl rfl)
theorem dX0_blow_182 : decode cX0_blow 182 = .ok (.iconst 1, 1) := dk_4 (dk_at dksX0_blow_7 16 rfl rfl)
theorem dX0_blow_183 : decode cX0_blow 183 = .ok (.iadd, 1) := dk_96 (dk_at dksX0_blow_7 17 rfl rfl)
theorem dX0_blow_184 : decode cX0_blow 184 = .ok (.iastore, 1) := dk_79 (dk_at dksX0_blow_7 18 rfl rfl)
theorem dX0_blow_185 : decode cX0_blow 185 = .ok (.aload_n 0, 1) := dk_42 (dk_at dksX0_blow_7 19 rfl rfl)
theorem dX0_blow_186 : decode cX0_blow 186 = .ok (.iload_n 1, 1) := dk_27 (dk_at dksX0_blow_7 20 rfl rfl)
theorem dX0_blow_187 : decode cX0_blow 187 = .ok (.iconst 1, 1) := dk_4 (dk_at dksX0_blow_7 21 rfl rfl)
theorem dX0_blow_188 : decode cX0_blow 188 = .ok (.invokevirtual 176, 3) := dk_182 0 176 (dk_at dksX0_blow_8 0 rfl rfl)
theorem dX0_blow_191 : decode cX0_blow 191 = .ok (.ireturn, 1) := dk_172 (dk_at dksX0_blow_8 3 rfl rfl)
abbrev cX0_canBlow : ByteArray := prog_1_method_31_code
def yX0_canBlow : MethodName := ⟨RX0, "canBlow", "(III)Z"⟩
def dkwX0_canBlow_5 : List UInt8 := [46, 163, 0, 7, 4, 167, 0, 4, 3, 172]
abbrev dktX0_canBlow_5 : List UInt8 := dkwX0_canBlow_5 ++ []
def dkwX0_canBlow_4 : List UInt8 := [163, 0, 32, 42, 28, 42, 182, 0, 189, 182, 0, 161, 29, 104, 42, 180, 0, 12, 180, 0, 73, 3, 28, 96]
abbrev dktX0_canBlow_4 : List UInt8 := dkwX0_canBlow_4 ++ dktX0_canBlow_5
def dkwX0_canBlow_3 : List UInt8 := [180, 0, 80, 28, 50, 3, 46, 163, 0, 49, 42, 182, 0, 185, 29, 96, 42, 42, 182, 0, 189, 182, 0, 157]
abbrev dktX0_canBlow_3 : List UInt8 := dkwX0_canBlow_3 ++ dktX0_canBlow_4
def dkwX0_canBlow_2 : List UInt8 := [160, 0, 5, 3, 172, 42, 180, 0, 12, 180, 0, 73, 16, 6, 28, 96, 46, 29, 96, 42, 180, 0, 12]
abbrev dktX0_canBlow_2 : List UInt8 := dkwX0_canBlow_2 ++ dktX0_canBlow_3
def dkwX0_canBlow_1 : List UInt8 := [153, 0, 27, 42, 27, 4, 182, 0, 176, 154, 0, 18, 42, 180, 0, 12, 180, 0, 73, 16, 114, 46, 16, 40]
abbrev dktX0_canBlow_1 : List UInt8 := dkwX0_canBlow_1 ++ dktX0_canBlow_2
def dkwX0_canBlow_0 : List UInt8 := [42, 27, 182, 0, 182, 153, 0, 45, 42, 28, 182, 0, 90, 153, 0, 37, 29, 4, 16, 9, 184, 0, 69]
abbrev dktX0_canBlow_0 : List UInt8 := dkwX0_canBlow_0 ++ dktX0_canBlow_1
theorem dksX0_canBlow_0 : cX0_canBlow.data.toList.drop 0 = dktX0_canBlow_0 := by decide +kernel
theorem dksX0_canBlow_1 : cX0_canBlow.data.toList.drop 23 = dktX0_canBlow_1 := dk_seg dksX0_canBlow_0 23 rfl rfl
theorem dksX0_canBlow_2 : cX0_canBlow.data.toList.drop 47 = dktX0_canBlow_2 := dk_seg dksX0_canBlow_1 24 rfl rfl
theorem dksX0_canBlow_3 : cX0_canBlow.data.toList.drop 70 = dktX0_canBlow_3 := dk_seg dksX0_canBlow_2 23 rfl rfl
theorem dksX0_canBlow_4 : cX0_canBlow.data.toList.drop 94 = dktX0_canBlow_4 := dk_seg dksX0_canBlow_3 24 rfl rfl
theorem dksX0_canBlow_5 : cX0_canBlow.data.toList.drop 118 = dktX0_canBlow_5 := dk_seg dksX0_canBlow_4 24 rfl rfl
theorem dX0_canBlow_0 : decode cX0_canBlow 0 = .ok (.aload_n 0, 1) := dk_42 (dk_at dksX0_canBlow_0 0 rfl rfl)
theorem dX0_canBlow_1 : decode cX0_canBlow 1 = .ok (.iload_n 1, 1) := dk_27 (dk_at dksX0_canBlow_0 1 rfl rfl)
theorem dX0_canBlow_2 : decode cX0_canBlow 2 = .ok (.invokevirtual 182, 3) := dk_182 0 182 (dk_at dksX0_canBlow_0 2 rfl rfl)
theorem dX0_canBlow_5 : decode cX0_canBlow 5 = .ok (.ifCond .eq 45, 3) := dk_153 0 45 (dk_at dksX0_canBlow_0 5 rfl rfl)
theorem dX0_canBlow_8 : decode cX0_canBlow 8 = .ok (.aload_n 0, 1) := dk_42 (dk_at dksX0_canBlow_0 8 rfl rfl)
theorem dX0_canBlow_9 : decode cX0_canBlow 9 = .ok (.iload_n 2, 1) := dk_28 (dk_at dksX0_canBlow_0 9 rfl rfl)
theorem dX0_canBlow_10 : decode cX0_canBlow 10 = .ok (.invokevirtual 90, 3) := dk_182 0 90 (dk_at dksX0_canBlow_0 10 rfl rfl)
theorem dX0_canBlow_13 : decode cX0_canBlow 13 = .ok (.ifCond .eq 37, 3) := dk_153 0 37 (dk_at dksX0_canBlow_0 13 rfl rfl)
theorem dX0_canBlow_16 : decode cX0_canBlow 16 = .ok (.iload_n 3, 1) := dk_29 (dk_at dksX0_canBlow_0 16 rfl rfl)
theorem dX0_canBlow_17 : decode cX0_canBlow 17 = .ok (.iconst 1, 1) := dk_4 (dk_at dksX0_canBlow_0 17 rfl rfl)
theorem dX0_canBlow_18 : decode cX0_canBlow 18 = .ok (.bipush 9, 2) := dk_16 9 (dk_at dksX0_canBlow_0 18 rfl rfl)
theorem dX0_canBlow_20 : decode cX0_canBlow 20 = .ok (.invokestatic 69, 3) := dk_184 0 69 (dk_at dksX0_canBlow_0 20 rfl rfl)
theorem dX0_canBlow_23 : decode cX0_canBlow 23 = .ok (.ifCond .eq 27, 3) := dk_153 0 27 (dk_at dksX0_canBlow_1 0 rfl rfl)
theorem dX0_canBlow_26 : decode cX0_canBlow 26 = .ok (.aload_n 0, 1) := dk_42 (dk_at dksX0_canBlow_1 3 rfl rfl)
theorem dX0_canBlow_27 : decode cX0_canBlow 27 = .ok (.iload_n 1, 1) := dk_27 (dk_at dksX0_canBlow_1 4 rfl rfl)
theorem dX0_canBlow_28 : decode cX0_canBlow 28 = .ok (.iconst 1, 1) := dk_4 (dk_at dksX0_canBlow_1 5 rfl rfl)
theorem dX0_canBlow_29 : decode cX0_canBlow 29 = .ok (.invokevirtual 176, 3) := dk_182 0 176 (dk_at dksX0_canBlow_1 6 rfl rfl)
theorem dX0_canBlow_32 : decode cX0_canBlow 32 = .ok (.ifCond .ne 18, 3) := dk_154 0 18 (dk_at dksX0_canBlow_1 9 rfl rfl)
theorem dX0_canBlow_35 : decode cX0_canBlow 35 = .ok (.aload_n 0, 1) := dk_42 (dk_at dksX0_canBlow_1 12 rfl rfl)
theorem dX0_canBlow_36 : decode cX0_canBlow 36 = .ok (.getfield 12, 3) := dk_180 0 12 (dk_at dksX0_canBlow_1 13 rfl rfl)
theorem dX0_canBlow_39 : decode cX0_canBlow 39 = .ok (.getfield 73, 3) := dk_180 0 73 (dk_at dksX0_canBlow_1 16 rfl rfl)
theorem dX0_canBlow_42 : decode cX0_canBlow 42 = .ok (.bipush 114, 2) := dk_16 114 (dk_at dksX0_canBlow_1 19 rfl rfl)
theorem dX0_canBlow_44 : decode cX0_canBlow 44 = .ok (.iaload, 1) := dk_46 (dk_at dksX0_canBlow_1 21 rfl rfl)
theorem dX0_canBlow_45 : decode cX0_canBlow 45 = .ok (.bipush 40, 2) := dk_16 40 (dk_at dksX0_canBlow_1 22 rfl rfl)
theorem dX0_canBlow_47 : decode cX0_canBlow 47 = .ok (.if_icmp .ne 5, 3) := dk_160 0 5 (dk_at dksX0_canBlow_2 0 rfl rfl)
theorem dX0_canBlow_50 : decode cX0_canBlow 50 = .ok (.iconst 0, 1) := dk_3 (dk_at dksX0_canBlow_2 3 rfl rfl)
theorem dX0_canBlow_51 : decode cX0_canBlow 51 = .ok (.ireturn, 1) := dk_172 (dk_at dksX0_canBlow_2 4 rfl rfl)
theorem dX0_canBlow_52 : decode cX0_canBlow 52 = .ok (.aload_n 0, 1) := dk_42 (dk_at dksX0_canBlow_2 5 rfl rfl)
theorem dX0_canBlow_53 : decode cX0_canBlow 53 = .ok (.getfield 12, 3) := dk_180 0 12 (dk_at dksX0_canBlow_2 6 rfl rfl)
theorem dX0_canBlow_56 : decode cX0_canBlow 56 = .ok (.getfield 73, 3) := dk_180 0 73 (dk_at dksX0_canBlow_2 9 rfl rfl)
theorem dX0_canBlow_59 : decode cX0_canBlow 59 = .ok (.bipush 6, 2) := dk_16 6 (dk_at dksX0_canBlow_2 12 rfl rfl)
theorem dX0_canBlow_61 : decode cX0_canBlow 61 = .ok (.iload_n 2, 1) := dk_28 (dk_at dksX0_canBlow_2 14 rfl rfl)
theorem dX0_canBlow_62 : decode cX0_canBlow 62 = .ok (.iadd, 1) := dk_96 (dk_at dksX0_canBlow_2 15 rfl rfl)
theorem dX0_canBlow_63 : decode cX0_canBlow 63 = .ok (.iaload, 1) := dk_46 (dk_at dksX0_canBlow_2 16 rfl rfl)
theorem dX0_canBlow_64 : decode cX0_canBlow 64 = .ok (.iload_n 3, 1) := dk_29 (dk_at dksX0_canBlow_2 17 rfl rfl)
theorem dX0_canBlow_65 : decode cX0_canBlow 65 = .ok (.iadd, 1) := dk_96 (dk_at dksX0_canBlow_2 18 rfl rfl)
theorem dX0_canBlow_66 : decode cX0_canBlow 66 = .ok (.aload_n 0, 1) := dk_42 (dk_at dksX0_canBlow_2 19 rfl rfl)
theorem dX0_canBlow_67 : decode cX0_canBlow 67 = .ok (.getfield 12, 3) := dk_180 0 12 (dk_at dksX0_canBlow_2 20 rfl rfl)
theorem dX0_canBlow_70 : decode cX0_canBlow 70 = .ok (.getfield 80, 3) := dk_180 0 80 (dk_at dksX0_canBlow_3 0 rfl rfl)
theorem dX0_canBlow_73 : decode cX0_canBlow 73 = .ok (.iload_n 2, 1) := dk_28 (dk_at dksX0_canBlow_3 3 rfl rfl)
theorem dX0_canBlow_74 : decode cX0_canBlow 74 = .ok (.aaload, 1) := dk_50 (dk_at dksX0_canBlow_3 4 rfl rfl)
theorem dX0_canBlow_75 : decode cX0_canBlow 75 = .ok (.iconst 0, 1) := dk_3 (dk_at dksX0_canBlow_3 5 rfl rfl)
theorem dX0_canBlow_76 : decode cX0_canBlow 76 = .ok (.iaload, 1) := dk_46 (dk_at dksX0_canBlow_3 6 rfl rfl)
theorem dX0_canBlow_77 : decode cX0_canBlow 77 = .ok (.if_icmp .gt 49, 3) := dk_163 0 49 (dk_at dksX0_canBlow_3 7 rfl rfl)
theorem dX0_canBlow_80 : decode cX0_canBlow 80 = .ok (.aload_n 0, 1) := dk_42 (dk_at dksX0_canBlow_3 10 rfl rfl)
theorem dX0_canBlow_81 : decode cX0_canBlow 81 = .ok (.invokevirtual 185, 3) := dk_182 0 185 (dk_at dksX0_canBlow_3 11 rfl rfl)
theorem dX0_canBlow_84 : decode cX0_canBlow 84 = .ok (.iload_n 3, 1) := dk_29 (dk_at dksX0_canBlow_3 14 rfl rfl)
theorem dX0_canBlow_85 : decode cX0_canBlow 85 = .ok (.iadd, 1) := dk_96 (dk_at dksX0_canBlow_3 15 rfl rfl)
theorem dX0_canBlow_86 : decode cX0_canBlow 86 = .ok (.aload_n 0, 1) := dk_42 (dk_at dksX0_canBlow_3 16 rfl rfl)
theorem dX0_canBlow_87 : decode cX0_canBlow 87 = .ok (.aload_n 0, 1) := dk_42 (dk_at dksX0_canBlow_3 17 rfl rfl)
theorem dX0_canBlow_88 : decode cX0_canBlow 88 = .ok (.invokevirtual 189, 3) := dk_182 0 189 (dk_at dksX0_canBlow_3 18 rfl rfl)
theorem dX0_canBlow_91 : decode cX0_canBlow 91 = .ok (.invokevirtual 157, 3) := dk_182 0 157 (dk_at dksX0_canBlow_3 21 rfl rfl)
theorem dX0_canBlow_94 : decode cX0_canBlow 94 = .ok (.if_icmp .gt 32, 3) := dk_163 0 32 (dk_at dksX0_canBlow_4 0 rfl rfl)
theorem dX0_canBlow_97 : decode cX0_canBlow 97 = .ok (.aload_n 0, 1) := dk_42 (dk_at dksX0_canBlow_4 3 rfl rfl)
theorem dX0_canBlow_98 : decode cX0_canBlow 98 = .ok (.iload_n 2, 1) := dk_28 (dk_at dksX0_canBlow_4 4 rfl rfl)
theorem dX0_canBlow_99 : decode cX0_canBlow 99 = .ok (.aload_n 0, 1) := dk_42 (dk_at dksX0_canBlow_4 5 rfl rfl)
theorem dX0_canBlow_100 : decode cX0_canBlow 100 = .ok (.invokevirtual 189, 3) := dk_182 0 189 (dk_at dksX0_canBlow_4 6 rfl rfl)
theorem dX0_canBlow_103 : decode cX0_canBlow 103 = .ok (.invokevirtual 161, 3) := dk_182 0 161 (dk_at dksX0_canBlow_4 9 rfl rfl)
theorem dX0_canBlow_106 : decode cX0_canBlow 106 = .ok (.iload_n 3, 1) := dk_29 (dk_at dksX0_canBlow_4 12 rfl rfl)
theorem dX0_canBlow_107 : decode cX0_canBlow 107 = .ok (.imul, 1) := dk_104 (dk_at dksX0_canBlow_4 13 rfl rfl)
theorem dX0_canBlow_108 : decode cX0_canBlow 108 = .ok (.aload_n 0, 1) := dk_42 (dk_at dksX0_canBlow_4 14 rfl rfl)
theorem dX0_canBlow_109 : decode cX0_canBlow 109 = .ok (.getfield 12, 3) := dk_180 0 12 (dk_at dksX0_canBlow_4 15 rfl rfl)
theorem dX0_canBlow_112 : decode cX0_canBlow 112 = .ok (.getfield 73, 3) := dk_180 0 73 (dk_at dksX0_canBlow_4 18 rfl rfl)
theorem dX0_canBlow_115 : decode cX0_canBlow 115 = .ok (.iconst 0, 1) := dk_3 (dk_at dksX0_canBlow_4 21 rfl rfl)
theorem dX0_canBlow_116 : decode cX0_canBlow 116 = .ok (.iload_n 2, 1) := dk_28 (dk_at dksX0_canBlow_4 22 rfl rfl)
theorem dX0_canBlow_117 : decode cX0_canBlow 117 = .ok (.iadd, 1) := dk_96 (dk_at dksX0_canBlow_4 23 rfl rfl)
theorem dX0_canBlow_118 : decode cX0_canBlow 118 = .ok (.iaload, 1) := dk_46 (dk_at dksX0_canBlow_5 0 rfl rfl)
theorem dX0_canBlow_119 : decode cX0_canBlow 119 = .ok (.if_icmp .gt 7, 3) := dk_163 0 7 (dk_at dksX0_canBlow_5 1 rfl rfl)
theorem dX0_canBlow_122 : decode cX0_canBlow 122 = .ok (.iconst 1, 1) := dk_4 (dk_at dksX0_canBlow_5 4 rfl rfl)
theorem dX0_canBlow_123 : decode cX0_canBlow 123 = .ok (.goto 4, 3) := dk_167 0 4 (dk_at dksX0_canBlow_5 5 rfl rfl)
theorem dX0_canBlow_126 : decode cX0_canBlow 126 = .ok (.iconst 0, 1) := dk_3 (dk_at dksX0_canBlow_5 8 rfl rfl)
theorem dX0_canBlow_127 : decode cX0_canBlow 127 = .ok (.ireturn, 1) := dk_172 (dk_at dksX0_canBlow_5 9 rfl rfl)
abbrev cX0_isPiece : ByteArray := prog_1_method_5_code
def yX0_isPiece : MethodName := ⟨RX0, "isPiece", "(I)Z"⟩
def dkwX0_isPiece_0 : List UInt8 := [27, 3, 42, 180, 0, 12, 180, 0, 73, 16, 112, 46, 4, 100, 184, 0, 69, 172]
abbrev dktX0_isPiece_0 : List UInt8 := dkwX0_isPiece_0 ++ []
theorem dksX0_isPiece_0 : cX0_isPiece.data.toList.drop 0 = dktX0_isPiece_0 := by decide +kernel
theorem dX0_isPiece_0 : decode cX0_isPiece 0 = .ok (.iload_n 1, 1) := dk_27 (dk_at dksX0_isPiece_0 0 rfl rfl)
theorem dX0_isPiece_1 : decode cX0_isPiece 1 = .ok (.iconst 0, 1) := dk_3 (dk_at dksX0_isPiece_0 1 rfl rfl)
theorem dX0_isPiece_2 : decode cX0_isPiece 2 = .ok (.aload_n 0, 1) := dk_42 (dk_at dksX0_isPiece_0 2 rfl rfl)
theorem dX0_isPiece_3 : decode cX0_isPiece 3 = .ok (.getfield 12, 3) := dk_180 0 12 (dk_at dksX0_isPiece_0 3 rfl rfl)
theorem dX0_isPiece_6 : decode cX0_isPiece 6 = .ok (.getfield 73, 3) := dk_180 0 73 (dk_at dksX0_isPiece_0 6 rfl rfl)
theorem dX0_isPiece_9 : decode cX0_isPiece 9 = .ok (.bipush 112, 2) := dk_16 112 (dk_at dksX0_isPiece_0 9 rfl rfl)
theorem dX0_isPiece_11 : decode cX0_isPiece 11 = .ok (.iaload, 1) := dk_46 (dk_at dksX0_isPiece_0 11 rfl rfl)
theorem dX0_isPiece_12 : decode cX0_isPiece 12 = .ok (.iconst 1, 1) := dk_4 (dk_at dksX0_isPiece_0 12 rfl rfl)
theorem dX0_isPiece_13 : decode cX0_isPiece 13 = .ok (.isub, 1) := dk_100 (dk_at dksX0_isPiece_0 13 rfl rfl)
theorem dX0_isPiece_14 : decode cX0_isPiece 14 = .ok (.invokestatic 69, 3) := dk_184 0 69 (dk_at dksX0_isPiece_0 14 rfl rfl)
theorem dX0_isPiece_17 : decode cX0_isPiece 17 = .ok (.ireturn, 1) := dk_172 (dk_at dksX0_isPiece_0 17 rfl rfl)
abbrev cX0_ofPiece : ByteArray := prog_1_method_7_code
def yX0_ofPiece : MethodName := ⟨RX0, "ofPiece", "(II)I"⟩
def dkwX0_ofPiece_0 : List UInt8 := [42, 180, 0, 12, 180, 0, 73, 27, 28, 184, 0, 76, 46, 172]
abbrev dktX0_ofPiece_0 : List UInt8 := dkwX0_ofPiece_0 ++ []
theorem dksX0_ofPiece_0 : cX0_ofPiece.data.toList.drop 0 = dktX0_ofPiece_0 := by decide +kernel
theorem dX0_ofPiece_0 : decode cX0_ofPiece 0 = .ok (.aload_n 0, 1) := dk_42 (dk_at dksX0_ofPiece_0 0 rfl rfl)
theorem dX0_ofPiece_1 : decode cX0_ofPiece 1 = .ok (.getfield 12, 3) := dk_180 0 12 (dk_at dksX0_ofPiece_0 1 rfl rfl)
theorem dX0_ofPiece_4 : decode cX0_ofPiece 4 = .ok (.getfield 73, 3) := dk_180 0 73 (dk_at dksX0_ofPiece_0 4 rfl rfl)
theorem dX0_ofPiece_7 : decode cX0_ofPiece 7 = .ok (.iload_n 1, 1) := dk_27 (dk_at dksX0_ofPiece_0 7 rfl rfl)
theorem dX0_ofPiece_8 : decode cX0_ofPiece 8 = .ok (.iload_n 2, 1) := dk_28 (dk_at dksX0_ofPiece_0 8 rfl rfl)
theorem dX0_ofPiece_9 : decode cX0_ofPiece 9 = .ok (.invokestatic 76, 3) := dk_184 0 76 (dk_at dksX0_ofPiece_0 9 rfl rfl)
theorem dX0_ofPiece_12 : decode cX0_ofPiece 12 = .ok (.iaload, 1) := dk_46 (dk_at dksX0_ofPiece_0 12 rfl rfl)
theorem dX0_ofPiece_13 : decode cX0_ofPiece 13 = .ok (.ireturn, 1) := dk_172 (dk_at dksX0_ofPiece_0 13 rfl rfl)
abbrev cX0_givenNow : ByteArray := prog_1_method_28_code
def yX0_givenNow : MethodName := ⟨RX0, "givenNow", "()I"⟩
def dkwX0_givenNow_1 : List UInt8 := [60, 132, 2, 1, 167, 255, 232, 27, 172]
abbrev dktX0_givenNow_1 : List UInt8 := dkwX0_givenNow_1 ++ []
def dkwX0_givenNow_0 : List UInt8 := [3, 60, 3, 61, 28, 16, 6, 162, 0, 24, 27, 42, 180, 0, 12, 180, 0, 73, 16, 6, 28, 96, 46, 96]
abbrev dktX0_givenNow_0 : List UInt8 := dkwX0_givenNow_0 ++ dktX0_givenNow_1
theorem dksX0_givenNow_0 : cX0_givenNow.data.toList.drop 0 = dktX0_givenNow_0 := by decide +kernel
theorem dksX0_givenNow_1 : cX0_givenNow.data.toList.drop 24 = dktX0_givenNow_1 := dk_seg dksX0_givenNow_0 24 rfl rfl
theorem dX0_givenNow_0 : decode cX0_givenNow 0 = .ok (.iconst 0, 1) := dk_3 (dk_at dksX0_givenNow_0 0 rfl rfl)
theorem dX0_givenNow_1 : decode cX0_givenNow 1 = .ok (.istore_n 1, 1) := dk_60 (dk_at dksX0_givenNow_0 1 rfl rfl)
theorem dX0_givenNow_2 : decode cX0_givenNow 2 = .ok (.iconst 0, 1) := dk_3 (dk_at dksX0_givenNow_0 2 rfl rfl)
theorem dX0_givenNow_3 : decode cX0_givenNow 3 = .ok (.istore_n 2, 1) := dk_61 (dk_at dksX0_givenNow_0 3 rfl rfl)
theorem dX0_givenNow_4 : decode cX0_givenNow 4 = .ok (.iload_n 2, 1) := dk_28 (dk_at dksX0_givenNow_0 4 rfl rfl)
theorem dX0_givenNow_5 : decode cX0_givenNow 5 = .ok (.bipush 6, 2) := dk_16 6 (dk_at dksX0_givenNow_0 5 rfl rfl)
theorem dX0_givenNow_7 : decode cX0_givenNow 7 = .ok (.if_icmp .ge 24, 3) := dk_162 0 24 (dk_at dksX0_givenNow_0 7 rfl rfl)
theorem dX0_givenNow_10 : decode cX0_givenNow 10 = .ok (.iload_n 1, 1) := dk_27 (dk_at dksX0_givenNow_0 10 rfl rfl)
theorem dX0_givenNow_11 : decode cX0_givenNow 11 = .ok (.aload_n 0, 1) := dk_42 (dk_at dksX0_givenNow_0 11 rfl rfl)
theorem dX0_givenNow_12 : decode cX0_givenNow 12 = .ok (.getfield 12, 3) := dk_180 0 12 (dk_at dksX0_givenNow_0 12 rfl rfl)
theorem dX0_givenNow_15 : decode cX0_givenNow 15 = .ok (.getfield 73, 3) := dk_180 0 73 (dk_at dksX0_givenNow_0 15 rfl rfl)
theorem dX0_givenNow_18 : decode cX0_givenNow 18 = .ok (.bipush 6, 2) := dk_16 6 (dk_at dksX0_givenNow_0 18 rfl rfl)
theorem dX0_givenNow_20 : decode cX0_givenNow 20 = .ok (.iload_n 2, 1) := dk_28 (dk_at dksX0_givenNow_0 20 rfl rfl)
theorem dX0_givenNow_21 : decode cX0_givenNow 21 = .ok (.iadd, 1) := dk_96 (dk_at dksX0_givenNow_0 21 rfl rfl)
theorem dX0_givenNow_22 : decode cX0_givenNow 22 = .ok (.iaload, 1) := dk_46 (dk_at dksX0_givenNow_0 22 rfl rfl)
theorem dX0_givenNow_23 : decode cX0_givenNow 23 = .ok (.iadd, 1) := dk_96 (dk_at dksX0_givenNow_0 23 rfl rfl)
theorem dX0_givenNow_24 : decode cX0_givenNow 24 = .ok (.istore_n 1, 1) := dk_60 (dk_at dksX0_givenNow_1 0 rfl rfl)
theorem dX0_givenNow_25 : decode cX0_givenNow 25 = .ok (.iinc 2 1, 3) := dk_132 2 1 (dk_at dksX0_givenNow_1 1 rfl rfl)
theorem dX0_givenNow_28 : decode cX0_givenNow 28 = .ok (.goto (-24), 3) := dk_167 255 232 (dk_at dksX0_givenNow_1 4 rfl rfl)
theorem dX0_givenNow_31 : decode cX0_givenNow 31 = .ok (.iload_n 1, 1) := dk_27 (dk_at dksX0_givenNow_1 7 rfl rfl)
theorem dX0_givenNow_32 : decode cX0_givenNow 32 = .ok (.ireturn, 1) := dk_172 (dk_at dksX0_givenNow_1 8 rfl rfl)
abbrev cX0_hour : ByteArray := prog_1_method_26_code
def yX0_hour : MethodName := ⟨RX0, "hour", "()I"⟩
def dkwX0_hour_0 : List UInt8 := [42, 180, 0, 12, 180, 0, 73, 16, 113, 46, 172]
abbrev dktX0_hour_0 : List UInt8 := dkwX0_hour_0 ++ []
theorem dksX0_hour_0 : cX0_hour.data.toList.drop 0 = dktX0_hour_0 := by decide +kernel
theorem dX0_hour_0 : decode cX0_hour 0 = .ok (.aload_n 0, 1) := dk_42 (dk_at dksX0_hour_0 0 rfl rfl)
theorem dX0_hour_1 : decode cX0_hour 1 = .ok (.getfield 12, 3) := dk_180 0 12 (dk_at dksX0_hour_0 1 rfl rfl)
theorem dX0_hour_4 : decode cX0_hour 4 = .ok (.getfield 73, 3) := dk_180 0 73 (dk_at dksX0_hour_0 4 rfl rfl)
theorem dX0_hour_7 : decode cX0_hour 7 = .ok (.bipush 113, 2) := dk_16 113 (dk_at dksX0_hour_0 7 rfl rfl)
theorem dX0_hour_9 : decode cX0_hour 9 = .ok (.iaload, 1) := dk_46 (dk_at dksX0_hour_0 9 rfl rfl)
theorem dX0_hour_10 : decode cX0_hour 10 = .ok (.ireturn, 1) := dk_172 (dk_at dksX0_hour_0 10 rfl rfl)
abbrev cX0_stateOf : ByteArray := prog_1_method_30_code
def yX0_stateOf : MethodName := ⟨RX0, "stateOf", "(I)I"⟩
def dkwX0_stateOf_2 : List UInt8 := [2, 130, 126, 154, 0, 7, 4, 167, 0, 4, 5, 172]
abbrev dktX0_stateOf_2 : List UInt8 := dkwX0_stateOf_2 ++ []
def dkwX0_stateOf_1 : List UInt8 := [3, 46, 162, 0, 7, 3, 167, 0, 29, 29, 44, 3, 46, 160, 0, 21, 44, 4, 46, 42, 27, 182, 0, 179]
abbrev dktX0_stateOf_1 : List UInt8 := dkwX0_stateOf_1 ++ dktX0_stateOf_2
def dkwX0_stateOf_0 : List UInt8 := [42, 180, 0, 12, 180, 0, 98, 42, 27, 3, 182, 0, 176, 50, 77, 42, 27, 5, 182, 0, 176, 62, 29, 44]
abbrev dktX0_stateOf_0 : List UInt8 := dkwX0_stateOf_0 ++ dktX0_stateOf_1
theorem dksX0_stateOf_0 : cX0_stateOf.data.toList.drop 0 = dktX0_stateOf_0 := by decide +kernel
theorem dksX0_stateOf_1 : cX0_stateOf.data.toList.drop 24 = dktX0_stateOf_1 := dk_seg dksX0_stateOf_0 24 rfl rfl
theorem dksX0_stateOf_2 : cX0_stateOf.data.toList.drop 48 = dktX0_stateOf_2 := dk_seg dksX0_stateOf_1 24 rfl rfl
theorem dX0_stateOf_0 : decode cX0_stateOf 0 = .ok (.aload_n 0, 1) := dk_42 (dk_at dksX0_stateOf_0 0 rfl rfl)
theorem dX0_stateOf_1 : decode cX0_stateOf 1 = .ok (.getfield 12, 3) := dk_180 0 12 (dk_at dksX0_stateOf_0 1 rfl rfl)
theorem dX0_stateOf_4 : decode cX0_stateOf 4 = .ok (.getfield 98, 3) := dk_180 0 98 (dk_at dksX0_stateOf_0 4 rfl rfl)
theorem dX0_stateOf_7 : decode cX0_stateOf 7 = .ok (.aload_n 0, 1) := dk_42 (dk_at dksX0_stateOf_0 7 rfl rfl)
theorem dX0_stateOf_8 : decode cX0_stateOf 8 = .ok (.iload_n 1, 1) := dk_27 (dk_at dksX0_stateOf_0 8 rfl rfl)
theorem dX0_stateOf_9 : decode cX0_stateOf 9 = .ok (.iconst 0, 1) := dk_3 (dk_at dksX0_stateOf_0 9 rfl rfl)
theorem dX0_stateOf_10 : decode cX0_stateOf 10 = .ok (.invokevirtual 176, 3) := dk_182 0 176 (dk_at dksX0_stateOf_0 10 rfl rfl)
theorem dX0_stateOf_13 : decode cX0_stateOf 13 = .ok (.aaload, 1) := dk_50 (dk_at dksX0_stateOf_0 13 rfl rfl)
theorem dX0_stateOf_14 : decode cX0_stateOf 14 = .ok (.astore_n 2, 1) := dk_77 (dk_at dksX0_stateOf_0 14 rfl rfl)
theorem dX0_stateOf_15 : decode cX0_stateOf 15 = .ok (.aload_n 0, 1) := dk_42 (dk_at dksX0_stateOf_0 15 rfl rfl)
theorem dX0_stateOf_16 : decode cX0_stateOf 16 = .ok (.iload_n 1, 1) := dk_27 (dk_at dksX0_stateOf_0 16 rfl rfl)
theorem dX0_stateOf_17 : decode cX0_stateOf 17 = .ok (.iconst 2, 1) := dk_5 (dk_at dksX0_stateOf_0 17 rfl rfl)
theorem dX0_stateOf_18 : decode cX0_stateOf 18 = .ok (.invokevirtual 176, 3) := dk_182 0 176 (dk_at dksX0_stateOf_0 18 rfl rfl)
theorem dX0_stateOf_21 : decode cX0_stateOf 21 = .ok (.istore_n 3, 1) := dk_62 (dk_at dksX0_stateOf_0 21 rfl rfl)
theorem dX0_stateOf_22 : decode cX0_stateOf 22 = .ok (.iload_n 3, 1) := dk_29 (dk_at dksX0_stateOf_0 22 rfl rfl)
theorem dX0_stateOf_23 : decode cX0_stateOf 23 = .ok (.aload_n 2, 1) := dk_44 (dk_at dksX0_stateOf_0 23 rfl rfl)
theorem dX0_stateOf_24 : decode cX0_stateOf 24 = .ok (.iconst 0, 1) := dk_3 (dk_at dksX0_stateOf_1 0 rfl rfl)
theorem dX0_stateOf_25 : decode cX0_stateOf 25 = .ok (.iaload, 1) := dk_46 (dk_at dksX0_stateOf_1 1 rfl rfl)
theorem dX0_stateOf_26 : decode cX0_stateOf 26 = .ok (.if_icmp .ge 7, 3) := dk_162 0 7 (dk_at dksX0_stateOf_1 2 rfl rfl)
theorem dX0_stateOf_29 : decode cX0_stateOf 29 = .ok (.iconst 0, 1) := dk_3 (dk_at dksX0_stateOf_1 5 rfl rfl)
theorem dX0_stateOf_30 : decode cX0_stateOf 30 = .ok (.goto 29, 3) := dk_167 0 29 (dk_at dksX0_stateOf_1 6 rfl rfl)
theorem dX0_stateOf_33 : decode cX0_stateOf 33 = .ok (.iload_n 3, 1) := dk_29 (dk_at dksX0_stateOf_1 9 rfl rfl)
theorem dX0_stateOf_34 : decode cX0_stateOf 34 = .ok (.aload_n 2, 1) := dk_44 (dk_at dksX0_stateOf_1 10 rfl rfl)
theorem dX0_stateOf_35 : decode cX0_stateOf 35 = .ok (.iconst 0, 1) := dk_3 (dk_at dksX0_stateOf_1 11 rfl rfl)
theorem dX0_stateOf_36 : decode cX0_stateOf 36 = .ok (.iaload, 1) := dk_46 (dk_at dksX0_stateOf_1 12 rfl rfl)
theorem dX0_stateOf_37 : decode cX0_stateOf 37 = .ok (.if_icmp .ne 21, 3) := dk_160 0 21 (dk_at dksX0_stateOf_1 13 rfl rfl)
theorem dX0_stateOf_40 : decode cX0_stateOf 40 = .ok (.aload_n 2, 1) := dk_44 (dk_at dksX0_stateOf_1 16 rfl rfl)
theorem dX0_stateOf_41 : decode cX0_stateOf 41 = .ok (.iconst 1, 1) := dk_4 (dk_at dksX0_stateOf_1 17 rfl rfl)
theorem dX0_stateOf_42 : decode cX0_stateOf 42 = .ok (.iaload, 1) := dk_46 (dk_at dksX0_stateOf_1 18 rfl rfl)
theorem dX0_stateOf_43 : decode cX0_stateOf 43 = .ok (.aload_n 0, 1) := dk_42 (dk_at dksX0_stateOf_1 19 rfl rfl)
theorem dX0_stateOf_44 : decode cX0_stateOf 44 = .ok (.iload_n 1, 1) := dk_27 (dk_at dksX0_stateOf_1 20 rfl rfl)
theorem dX0_stateOf_45 : decode cX0_stateOf 45 = .ok (.invokevirtual 179, 3) := dk_182 0 179 (dk_at dksX0_stateOf_1 21 rfl rfl)
theorem dX0_stateOf_48 : decode cX0_stateOf 48 = .ok (.iconst (-1), 1) := dk_2 (dk_at dksX0_stateOf_2 0 rfl rfl)
theorem dX0_stateOf_49 : decode cX0_stateOf 49 = .ok (.ixor, 1) := dk_130 (dk_at dksX0_stateOf_2 1 rfl rfl)
theorem dX0_stateOf_50 : decode cX0_stateOf 50 = .ok (.iand, 1) := dk_126 (dk_at dksX0_stateOf_2 2 rfl rfl)
theorem dX0_stateOf_51 : decode cX0_stateOf 51 = .ok (.ifCond .ne 7, 3) := dk_154 0 7 (dk_at dksX0_stateOf_2 3 rfl rfl)
theorem dX0_stateOf_54 : decode cX0_stateOf 54 = .ok (.iconst 1, 1) := dk_4 (dk_at dksX0_stateOf_2 6 rfl rfl)
theorem dX0_stateOf_55 : decode cX0_stateOf 55 = .ok (.goto 4, 3) := dk_167 0 4 (dk_at dksX0_stateOf_2 7 rfl rfl)
theorem dX0_stateOf_58 : decode cX0_stateOf 58 = .ok (.iconst 2, 1) := dk_5 (dk_at dksX0_stateOf_2 10 rfl rfl)
theorem dX0_stateOf_59 : decode cX0_stateOf 59 = .ok (.ireturn, 1) := dk_172 (dk_at dksX0_stateOf_2 11 rfl rfl)
abbrev cX0_voicesOf : ByteArray := prog_1_method_29_code
def yX0_voicesOf : MethodName := ⟨RX0, "voicesOf", "(I)I"⟩
def dkwX0_voicesOf_2 : List UInt8 := [61, 132, 3, 1, 167, 255, 209, 28, 172]
abbrev dktX0_voicesOf_2 : List UInt8 := dkwX0_voicesOf_2 ++ []
def dkwX0_voicesOf_1 : List UInt8 := [182, 0, 176, 158, 0, 19, 4, 42, 180, 0, 12, 180, 0, 80, 29, 50, 4, 46, 120, 167, 0, 4, 3, 128]
abbrev dktX0_voicesOf_1 : List UInt8 := dkwX0_voicesOf_1 ++ dktX0_voicesOf_2
def dkwX0_voicesOf_0 : List UInt8 := [3, 61, 3, 62, 29, 42, 180, 0, 12, 180, 0, 66, 3, 46, 162, 0, 40, 28, 42, 27, 7, 29, 96]
abbrev dktX0_voicesOf_0 : List UInt8 := dkwX0_voicesOf_0 ++ dktX0_voicesOf_1
theorem dksX0_voicesOf_0 : cX0_voicesOf.data.toList.drop 0 = dktX0_voicesOf_0 := by decide +kernel
theorem dksX0_voicesOf_1 : cX0_voicesOf.data.toList.drop 23 = dktX0_voicesOf_1 := dk_seg dksX0_voicesOf_0 23 rfl rfl
theorem dksX0_voicesOf_2 : cX0_voicesOf.data.toList.drop 47 = dktX0_voicesOf_2 := dk_seg dksX0_voicesOf_1 24 rfl rfl
theorem dX0_voicesOf_0 : decode cX0_voicesOf 0 = .ok (.iconst 0, 1) := dk_3 (dk_at dksX0_voicesOf_0 0 rfl rfl)
theorem dX0_voicesOf_1 : decode cX0_voicesOf 1 = .ok (.istore_n 2, 1) := dk_61 (dk_at dksX0_voicesOf_0 1 rfl rfl)
theorem dX0_voicesOf_2 : decode cX0_voicesOf 2 = .ok (.iconst 0, 1) := dk_3 (dk_at dksX0_voicesOf_0 2 rfl rfl)
theorem dX0_voicesOf_3 : decode cX0_voicesOf 3 = .ok (.istore_n 3, 1) := dk_62 (dk_at dksX0_voicesOf_0 3 rfl rfl)
theorem dX0_voicesOf_4 : decode cX0_voicesOf 4 = .ok (.iload_n 3, 1) := dk_29 (dk_at dksX0_voicesOf_0 4 rfl rfl)
theorem dX0_voicesOf_5 : decode cX0_voicesOf 5 = .ok (.aload_n 0, 1) := dk_42 (dk_at dksX0_voicesOf_0 5 rfl rfl)
theorem dX0_voicesOf_6 : decode cX0_voicesOf 6 = .ok (.getfield 12, 3) := dk_180 0 12 (dk_at dksX0_voicesOf_0 6 rfl rfl)
theorem dX0_voicesOf_9 : decode cX0_voicesOf 9 = .ok (.getfield 66, 3) := dk_180 0 66 (dk_at dksX0_voicesOf_0 9 rfl rfl)
theorem dX0_voicesOf_12 : decode cX0_voicesOf 12 = .ok (.iconst 0, 1) := dk_3 (dk_at dksX0_voicesOf_0 12 rfl rfl)
theorem dX0_voicesOf_13 : decode cX0_voicesOf 13 = .ok (.iaload, 1) := dk_46 (dk_at dksX0_voicesOf_0 13 rfl rfl)
theorem dX0_voicesOf_14 : decode cX0_voicesOf 14 = .ok (.if_icmp .ge 40, 3) := dk_162 0 40 (dk_at dksX0_voicesOf_0 14 rfl rfl)
theorem dX0_voicesOf_17 : decode cX0_voicesOf 17 = .ok (.iload_n 2, 1) := dk_28 (dk_at dksX0_voicesOf_0 17 rfl rfl)
theorem dX0_voicesOf_18 : decode cX0_voicesOf 18 = .ok (.aload_n 0, 1) := dk_42 (dk_at dksX0_voicesOf_0 18 rfl rfl)
theorem dX0_voicesOf_19 : decode cX0_voicesOf 19 = .ok (.iload_n 1, 1) := dk_27 (dk_at dksX0_voicesOf_0 19 rfl rfl)
theorem dX0_voicesOf_20 : decode cX0_voicesOf 20 = .ok (.iconst 4, 1) := dk_7 (dk_at dksX0_voicesOf_0 20 rfl rfl)
theorem dX0_voicesOf_21 : decode cX0_voicesOf 21 = .ok (.iload_n 3, 1) := dk_29 (dk_at dksX0_voicesOf_0 21 rfl rfl)
theorem dX0_voicesOf_22 : decode cX0_voicesOf 22 = .ok (.iadd, 1) := dk_96 (dk_at dksX0_voicesOf_0 22 rfl rfl)
theorem dX0_voicesOf_23 : decode cX0_voicesOf 23 = .ok (.invokevirtual 176, 3) := dk_182 0 176 (dk_at dksX0_voicesOf_1 0 rfl rfl)
theorem dX0_voicesOf_26 : decode cX0_voicesOf 26 = .ok (.ifCond .le 19, 3) := dk_158 0 19 (dk_at dksX0_voicesOf_1 3 rfl rfl)
theorem dX0_voicesOf_29 : decode cX0_voicesOf 29 = .ok (.iconst 1, 1) := dk_4 (dk_at dksX0_voicesOf_1 6 rfl rfl)
theorem dX0_voicesOf_30 : decode cX0_voicesOf 30 = .ok (.aload_n 0, 1) := dk_42 (dk_at dksX0_voicesOf_1 7 rfl rfl)
theorem dX0_voicesOf_31 : decode cX0_voicesOf 31 = .ok (.getfield 12, 3) := dk_180 0 12 (dk_at dksX0_voicesOf_1 8 rfl rfl)
theorem dX0_voicesOf_34 : decode cX0_voicesOf 34 = .ok (.getfield 80, 3) := dk_180 0 80 (dk_at dksX0_voicesOf_1 11 rfl rfl)
theorem dX0_voicesOf_37 : decode cX0_voicesOf 37 = .ok (.iload_n 3, 1) := dk_29 (dk_at dksX0_voicesOf_1 14 rfl rfl)
theorem dX0_voicesOf_38 : decode cX0_voicesOf 38 = .ok (.aaload, 1) := dk_50 (dk_at dksX0_voicesOf_1 15 rfl rfl)
theorem dX0_voicesOf_39 : decode cX0_voicesOf 39 = .ok (.iconst 1, 1) := dk_4 (dk_at dksX0_voicesOf_1 16 rfl rfl)
theorem dX0_voicesOf_40 : decode cX0_voicesOf 40 = .ok (.iaload, 1) := dk_46 (dk_at dksX0_voicesOf_1 17 rfl rfl)
theorem dX0_voicesOf_41 : decode cX0_voicesOf 41 = .ok (.ishl, 1) := dk_120 (dk_at dksX0_voicesOf_1 18 rfl rfl)
theorem dX0_voicesOf_42 : decode cX0_voicesOf 42 = .ok (.goto 4, 3) := dk_167 0 4 (dk_at dksX0_voicesOf_1 19 rfl rfl)
theorem dX0_voicesOf_45 : decode cX0_voicesOf 45 = .ok (.iconst 0, 1) := dk_3 (dk_at dksX0_voicesOf_1 22 rfl rfl)
theorem dX0_voicesOf_46 : decode cX0_voicesOf 46 = .ok (.ior, 1) := dk_128 (dk_at dksX0_voicesOf_1 23 rfl rfl)
theorem dX0_voicesOf_47 : decode cX0_voicesOf 47 = .ok (.istore_n 2, 1) := dk_61 (dk_at dksX0_voicesOf_2 0 rfl rfl)
theorem dX0_voicesOf_48 : decode cX0_voicesOf 48 = .ok (.iinc 3 1, 3) := dk_132 3 1 (dk_at dksX0_voicesOf_2 1 rfl rfl)
theorem dX0_voicesOf_51 : decode cX0_voicesOf 51 = .ok (.goto (-47), 3) := dk_167 255 209 (dk_at dksX0_voicesOf_2 4 rfl rfl)
theorem dX0_voicesOf_54 : decode cX0_voicesOf 54 = .ok (.iload_n 2, 1) := dk_28 (dk_at dksX0_voicesOf_2 7 rfl rfl)
theorem dX0_voicesOf_55 : decode cX0_voicesOf 55 = .ok (.ireturn, 1) := dk_172 (dk_at dksX0_voicesOf_2 8 rfl rfl)
abbrev cX0_later : ByteArray := prog_1_method_33_code
def yX0_later : MethodName := ⟨RX0, "later", "(I)I"⟩
def dkwX0_later_3 : List UInt8 := [167, 255, 212, 42, 182, 0, 189, 172]
abbrev dktX0_later_3 : List UInt8 := dkwX0_later_3 ++ []
def dkwX0_later_2 : List UInt8 := [46, 4, 96, 79, 42, 180, 0, 12, 180, 0, 73, 16, 6, 16, 12, 3, 184, 0, 170, 132, 2, 1]
abbrev dktX0_later_2 : List UInt8 := dkwX0_later_2 ++ dktX0_later_3
def dkwX0_later_1 : List UInt8 := [3, 61, 28, 27, 162, 0, 45, 42, 180, 0, 12, 182, 0, 167, 42, 180, 0, 12, 180, 0, 73, 16, 113, 92]
abbrev dktX0_later_1 : List UInt8 := dkwX0_later_1 ++ dktX0_later_2
def dkwX0_later_0 : List UInt8 := [27, 4, 16, 99, 184, 0, 69, 153, 0, 15, 42, 182, 0, 189, 27, 96, 17, 3, 231, 164, 0, 5, 2, 172]
abbrev dktX0_later_0 : List UInt8 := dkwX0_later_0 ++ dktX0_later_1
theorem dksX0_later_0 : cX0_later.data.toList.drop 0 = dktX0_later_0 := by decide +kernel
theorem dksX0_later_1 : cX0_later.data.toList.drop 24 = dktX0_later_1 := dk_seg dksX0_later_0 24 rfl rfl
theorem dksX0_later_2 : cX0_later.data.toList.drop 48 = dktX0_later_2 := dk_seg dksX0_later_1 24 rfl rfl
theorem dksX0_later_3 : cX0_later.data.toList.drop 70 = dktX0_later_3 := dk_seg dksX0_later_2 22 rfl rfl
theorem dX0_later_0 : decode cX0_later 0 = .ok (.iload_n 1, 1) := dk_27 (dk_at dksX0_later_0 0 rfl rfl)
theorem dX0_later_1 : decode cX0_later 1 = .ok (.iconst 1, 1) := dk_4 (dk_at dksX0_later_0 1 rfl rfl)
theorem dX0_later_2 : decode cX0_later 2 = .ok (.bipush 99, 2) := dk_16 99 (dk_at dksX0_later_0 2 rfl rfl)
theorem dX0_later_4 : decode cX0_later 4 = .ok (.invokestatic 69, 3) := dk_184 0 69 (dk_at dksX0_later_0 4 rfl rfl)
theorem dX0_later_7 : decode cX0_later 7 = .ok (.ifCond .eq 15, 3) := dk_153 0 15 (dk_at dksX0_later_0 7 rfl rfl)
theorem dX0_later_10 : decode cX0_later 10 = .ok (.aload_n 0, 1) := dk_42 (dk_at dksX0_later_0 10 rfl rfl)
theorem dX0_later_11 : decode cX0_later 11 = .ok (.invokevirtual 189, 3) := dk_182 0 189 (dk_at dksX0_later_0 11 rfl rfl)
theorem dX0_later_14 : decode cX0_later 14 = .ok (.iload_n 1, 1) := dk_27 (dk_at dksX0_later_0 14 rfl rfl)
theorem dX0_later_15 : decode cX0_later 15 = .ok (.iadd, 1) := dk_96 (dk_at dksX0_later_0 15 rfl rfl)
theorem dX0_later_16 : decode cX0_later 16 = .ok (.sipush 999, 3) := dk_17 3 231 (dk_at dksX0_later_0 16 rfl rfl)
theorem dX0_later_19 : decode cX0_later 19 = .ok (.if_icmp .le 5, 3) := dk_164 0 5 (dk_at dksX0_later_0 19 rfl rfl)
theorem dX0_later_22 : decode cX0_later 22 = .ok (.iconst (-1), 1) := dk_2 (dk_at dksX0_later_0 22 rfl rfl)
theorem dX0_later_23 : decode cX0_later 23 = .ok (.ireturn, 1) := dk_172 (dk_at dksX0_later_0 23 rfl rfl)
theorem dX0_later_24 : decode cX0_later 24 = .ok (.iconst 0, 1) := dk_3 (dk_at dksX0_later_1 0 rfl rfl)
theorem dX0_later_25 : decode cX0_later 25 = .ok (.istore_n 2, 1) := dk_61 (dk_at dksX0_later_1 1 rfl rfl)
theorem dX0_later_26 : decode cX0_later 26 = .ok (.iload_n 2, 1) := dk_28 (dk_at dksX0_later_1 2 rfl rfl)
theorem dX0_later_27 : decode cX0_later 27 = .ok (.iload_n 1, 1) := dk_27 (dk_at dksX0_later_1 3 rfl rfl)
theorem dX0_later_28 : decode cX0_later 28 = .ok (.if_icmp .ge 45, 3) := dk_162 0 45 (dk_at dksX0_later_1 4 rfl rfl)
theorem dX0_later_31 : decode cX0_later 31 = .ok (.aload_n 0, 1) := dk_42 (dk_at dksX0_later_1 7 rfl rfl)
theorem dX0_later_32 : decode cX0_later 32 = .ok (.getfield 12, 3) := dk_180 0 12 (dk_at dksX0_later_1 8 rfl rfl)
theorem dX0_later_35 : decode cX0_later 35 = .ok (.invokevirtual 167, 3) := dk_182 0 167 (dk_at dksX0_later_1 11 rfl rfl)
theorem dX0_later_38 : decode cX0_later 38 = .ok (.aload_n 0, 1) := dk_42 (dk_at dksX0_later_1 14 rfl rfl)
theorem dX0_later_39 : decode cX0_later 39 = .ok (.getfield 12, 3) := dk_180 0 12 (dk_at dksX0_later_1 15 rfl rfl)
theorem dX0_later_42 : decode cX0_later 42 = .ok (.getfield 73, 3) := dk_180 0 73 (dk_at dksX0_later_1 18 rfl rfl)
theorem dX0_later_45 : decode cX0_later 45 = .ok (.bipush 113, 2) := dk_16 113 (dk_at dksX0_later_1 21 rfl rfl)
theorem dX0_later_47 : decode cX0_later 47 = .ok (.dup2, 1) := dk_92 (dk_at dksX0_later_1 23 rfl rfl)
theorem dX0_later_48 : decode cX0_later 48 = .ok (.iaload, 1) := dk_46 (dk_at dksX0_later_2 0 rfl rfl)
theorem dX0_later_49 : decode cX0_later 49 = .ok (.iconst 1, 1) := dk_4 (dk_at dksX0_later_2 1 rfl rfl)
theorem dX0_later_50 : decode cX0_later 50 = .ok (.iadd, 1) := dk_96 (dk_at dksX0_later_2 2 rfl rfl)
theorem dX0_later_51 : decode cX0_later 51 = .ok (.iastore, 1) := dk_79 (dk_at dksX0_later_2 3 rfl rfl)
theorem dX0_later_52 : decode cX0_later 52 = .ok (.aload_n 0, 1) := dk_42 (dk_at dksX0_later_2 4 rfl rfl)
theorem dX0_later_53 : decode cX0_later 53 = .ok (.getfield 12, 3) := dk_180 0 12 (dk_at dksX0_later_2 5 rfl rfl)
theorem dX0_later_56 : decode cX0_later 56 = .ok (.getfield 73, 3) := dk_180 0 73 (dk_at dksX0_later_2 8 rfl rfl)
theorem dX0_later_59 : decode cX0_later 59 = .ok (.bipush 6, 2) := dk_16 6 (dk_at dksX0_later_2 11 rfl rfl)
theorem dX0_later_61 : decode cX0_later 61 = .ok (.bipush 12, 2) := dk_16 12 (dk_at dksX0_later_2 13 rfl rfl)
theorem dX0_later_63 : decode cX0_later 63 = .ok (.iconst 0, 1) := dk_3 (dk_at dksX0_later_2 15 rfl rfl)
theorem dX0_later_64 : decode cX0_later 64 = .ok (.invokestatic 170, 3) := dk_184 0 170 (dk_at dksX0_later_2 16 rfl rfl)
theorem dX0_later_67 : decode cX0_later 67 = .ok (.iinc 2 1, 3) := dk_132 2 1 (dk_at dksX0_later_2 19 rfl rfl)
theorem dX0_later_70 : decode cX0_later 70 = .ok (.goto (-44), 3) := dk_167 255 212 (dk_at dksX0_later_3 0 rfl rfl)
theorem dX0_later_73 : decode cX0_later 73 = .ok (.aload_n 0, 1) := dk_42 (dk_at dksX0_later_3 3 rfl rfl)
theorem dX0_later_74 : decode cX0_later 74 = .ok (.invokevirtual 189, 3) := dk_182 0 189 (dk_at dksX0_later_3 4 rfl rfl)
theorem dX0_later_77 : decode cX0_later 77 = .ok (.ireturn, 1) := dk_172 (dk_at dksX0_later_3 7 rfl rfl)
abbrev cX0_sell : ByteArray := prog_1_method_34_code
def yX0_sell : MethodName := ⟨RX0, "sell", "(I)I"⟩
def dkwX0_sell_11 : List UInt8 := [21, 4, 96, 46, 21, 5, 100, 96, 62, 132, 4, 1, 167, 255, 156, 29, 172]
abbrev dktX0_sell_11 : List UInt8 := dkwX0_sell_11 ++ []
def dkwX0_sell_10 : List UInt8 := [180, 0, 34, 21, 4, 46, 104, 28, 108, 96, 184, 0, 207, 79, 29, 42, 180, 0, 12, 180, 0, 73, 3]
abbrev dktX0_sell_10 : List UInt8 := dkwX0_sell_10 ++ dktX0_sell_11
def dkwX0_sell_9 : List UInt8 := [17, 3, 231, 21, 5, 42, 180, 0, 12, 180, 0, 98, 42, 27, 3, 182, 0, 176, 50, 5, 46, 42]
abbrev dktX0_sell_9 : List UInt8 := dkwX0_sell_9 ++ dktX0_sell_10
def dkwX0_sell_8 : List UInt8 := [180, 0, 12, 180, 0, 73, 3, 21, 4, 96, 46, 54, 5, 42, 180, 0, 12, 180, 0, 73, 3, 21, 4, 96]
abbrev dktX0_sell_8 : List UInt8 := dkwX0_sell_8 ++ dktX0_sell_9
def dkwX0_sell_7 : List UInt8 := [3, 62, 3, 54, 4, 21, 4, 42, 180, 0, 12, 180, 0, 66, 3, 46, 162, 0, 92, 28, 158, 0, 88, 42]
abbrev dktX0_sell_7 : List UInt8 := dkwX0_sell_7 ++ dktX0_sell_8
def dkwX0_sell_6 : List UInt8 := [167, 255, 150, 42, 180, 0, 12, 182, 0, 167, 42, 180, 0, 12, 180, 0, 73, 27, 6, 184, 0, 76, 4, 79]
abbrev dktX0_sell_6 : List UInt8 := dkwX0_sell_6 ++ dktX0_sell_7
def dkwX0_sell_5 : List UInt8 := [180, 0, 30, 16, 8, 46, 182, 0, 150, 79, 28, 42, 180, 0, 34, 29, 46, 96, 61, 132, 3, 1]
abbrev dktX0_sell_5 : List UInt8 := dkwX0_sell_5 ++ dktX0_sell_6
def dkwX0_sell_4 : List UInt8 := [180, 0, 30, 16, 8, 42, 27, 7, 29, 96, 182, 0, 176, 79, 42, 180, 0, 34, 29, 42, 6, 16, 99, 42]
abbrev dktX0_sell_4 : List UInt8 := dkwX0_sell_4 ++ dktX0_sell_5
def dkwX0_sell_3 : List UInt8 := [3, 42, 182, 0, 189, 79, 42, 29, 182, 0, 154, 42, 42, 27, 3, 182, 0, 176, 182, 0, 204, 42]
abbrev dktX0_sell_3 : List UInt8 := dkwX0_sell_3 ++ dktX0_sell_4
def dkwX0_sell_2 : List UInt8 := [180, 0, 34, 29, 3, 79, 42, 27, 7, 29, 96, 182, 0, 176, 154, 0, 6, 167, 0, 72, 42, 180, 0, 30]
abbrev dktX0_sell_2 : List UInt8 := dkwX0_sell_2 ++ dktX0_sell_3
def dkwX0_sell_1 : List UInt8 := [4, 160, 0, 5, 2, 172, 3, 61, 3, 62, 29, 42, 180, 0, 12, 180, 0, 66, 3, 46, 162, 0, 99, 42]
abbrev dktX0_sell_1 : List UInt8 := dkwX0_sell_1 ++ dktX0_sell_2
def dkwX0_sell_0 : List UInt8 := [42, 27, 182, 0, 182, 153, 0, 23, 42, 27, 4, 182, 0, 176, 4, 160, 0, 13, 42, 27, 6, 182, 0, 176]
abbrev dktX0_sell_0 : List UInt8 := dkwX0_sell_0 ++ dktX0_sell_1
theorem dksX0_sell_0 : cX0_sell.data.toList.drop 0 = dktX0_sell_0 := by decide +kernel
theorem dksX0_sell_1 : cX0_sell.data.toList.drop 24 = dktX0_sell_1 := dk_seg dksX0_sell_0 24 rfl rfl
theorem dksX0_sell_2 : cX0_sell.data.toList.drop 48 = dktX0_sell_2 := dk_seg dksX0_sell_1 24 rfl rfl
theorem dksX0_sell_3 : cX0_sell.data.toList.drop 72 = dktX0_sell_3 := dk_seg dksX0_sell_2 24 rfl rfl
theorem dksX0_sell_4 : cX0_sell.data.toList.drop 94 = dktX0_sell_4 := dk_seg dksX0_sell_3 22 rfl rfl
theorem dksX0_sell_5 : cX0_sell.data.toList.drop 118 = dktX0_sell_5 := dk_seg dksX0_sell_4 24 rfl rfl
theorem dksX0_sell_6 : cX0_sell.data.toList.drop 140 = dktX0_sell_6 := dk_seg dksX0_sell_5 22 rfl rfl
theorem dksX0_sell_7 : cX0_sell.data.toList.drop 164 = dktX0_sell_7 := dk_seg dksX0_sell_6 24 rfl rfl
theorem dksX0_sell_8 : cX0_sell.data.toList.drop 188 = dktX0_sell_8 := dk_seg dksX0_sell_7 24 rfl rfl
theorem dksX0_sell_9 : cX0_sell.data.toList.drop 212 = dktX0_sell_9 := dk_seg dksX0_sell_8 24 rfl rfl
theorem dksX0_sell_10 : cX0_sell.data.toList.drop 234 = dktX0_sell_10 := dk_seg dksX0_sell_9 22 rfl rfl
theorem dksX0_sell_11 : cX0_sell.data.toList.drop 257 = dktX0_sell_11 := dk_seg dksX0_sell_10 23 rfl rfl
theorem dX0_sell_0 : decode cX0_sell 0 = .ok (.aload_n 0, 1) := dk_42 (dk_at dksX0_sell_0 0 rfl rfl)
theorem dX0_sell_1 : decode cX0_sell 1 = .ok (.iload_n 1, 1) := dk_27 (dk_at dksX0_sell_0 1 rfl rfl)
theorem dX0_sell_2 : decode cX0_sell 2 = .ok (.invokevirtual 182, 3) := dk_182 0 182 (dk_at dksX0_sell_0 2 rfl rfl)
theorem dX0_sell_5 : decode cX0_sell 5 = .ok (.ifCond .eq 23, 3) := dk_153 0 23 (dk_at dksX0_sell_0 5 rfl rfl)
theorem dX0_sell_8 : decode cX0_sell 8 = .ok (.aload_n 0, 1) := dk_42 (dk_at dksX0_sell_0 8 rfl rfl)
theorem dX0_sell_9 : decode cX0_sell 9 = .ok (.iload_n 1, 1) := dk_27 (dk_at dksX0_sell_0 9 rfl rfl)
theorem dX0_sell_10 : decode cX0_sell 10 = .ok (.iconst 1, 1) := dk_4 (dk_at dksX0_sell_0 10 rfl rfl)
theorem dX0_sell_11 : decode cX0_sell 11 = .ok (.invokevirtual 176, 3) := dk_182 0 176 (dk_at dksX0_sell_0 11 rfl rfl)
theorem dX0_sell_14 : decode cX0_sell 14 = .ok (.iconst 1, 1) := dk_4 (dk_at dksX0_sell_0 14 rfl rfl)
theorem dX0_sell_15 : decode cX0_sell 15 = .ok (.if_icmp .ne 13, 3) := dk_160 0 13 (dk_at dksX0_sell_0 15 rfl rfl)
theorem dX0_sell_18 : decode cX0_sell 18 = .ok (.aload_n 0, 1) := dk_42 (dk_at dksX0_sell_0 18 rfl rfl)
theorem dX0_sell_19 : decode cX0_sell 19 = .ok (.iload_n 1, 1) := dk_27 (dk_at dksX0_sell_0 19 rfl rfl)
theorem dX0_sell_20 : decode cX0_sell 20 = .ok (.iconst 3, 1) := dk_6 (dk_at dksX0_sell_0 20 rfl rfl)
theorem dX0_sell_21 : decode cX0_sell 21 = .ok (.invokevirtual 176, 3) := dk_182 0 176 (dk_at dksX0_sell_0 21 rfl rfl)
theorem dX0_sell_24 : decode cX0_sell 24 = .ok (.iconst 1, 1) := dk_4 (dk_at dksX0_sell_1 0 rfl rfl)
theorem dX0_sell_25 : decode cX0_sell 25 = .ok (.if_icmp .ne 5, 3) := dk_160 0 5 (dk_at dksX0_sell_1 1 rfl rfl)
theorem dX0_sell_28 : decode cX0_sell 28 = .ok (.iconst (-1), 1) := dk_2 (dk_at dksX0_sell_1 4 rfl rfl)
theorem dX0_sell_29 : decode cX0_sell 29 = .ok (.ireturn, 1) := dk_172 (dk_at dksX0_sell_1 5 rfl rfl)
theorem dX0_sell_30 : decode cX0_sell 30 = .ok (.iconst 0, 1) := dk_3 (dk_at dksX0_sell_1 6 rfl rfl)
theorem dX0_sell_31 : decode cX0_sell 31 = .ok (.istore_n 2, 1) := dk_61 (dk_at dksX0_sell_1 7 rfl rfl)
theorem dX0_sell_32 : decode cX0_sell 32 = .ok (.iconst 0, 1) := dk_3 (dk_at dksX0_sell_1 8 rfl rfl)
theorem dX0_sell_33 : decode cX0_sell 33 = .ok (.istore_n 3, 1) := dk_62 (dk_at dksX0_sell_1 9 rfl rfl)
theorem dX0_sell_34 : decode cX0_sell 34 = .ok (.iload_n 3, 1) := dk_29 (dk_at dksX0_sell_1 10 rfl rfl)
theorem dX0_sell_35 : decode cX0_sell 35 = .ok (.aload_n 0, 1) := dk_42 (dk_at dksX0_sell_1 11 rfl rfl)
theorem dX0_sell_36 : decode cX0_sell 36 = .ok (.getfield 12, 3) := dk_180 0 12 (dk_at dksX0_sell_1 12 rfl rfl)
theorem dX0_sell_39 : decode cX0_sell 39 = .ok (.getfield 66, 3) := dk_180 0 66 (dk_at dksX0_sell_1 15 rfl rfl)
theorem dX0_sell_42 : decode cX0_sell 42 = .ok (.iconst 0, 1) := dk_3 (dk_at dksX0_sell_1 18 rfl rfl)
theorem dX0_sell_43 : decode cX0_sell 43 = .ok (.iaload, 1) := dk_46 (dk_at dksX0_sell_1 19 rfl rfl)
theorem dX0_sell_44 : decode cX0_sell 44 = .ok (.if_icmp .ge 99, 3) := dk_162 0 99 (dk_at dksX0_sell_1 20 rfl rfl)
theorem dX0_sell_47 : decode cX0_sell 47 = .ok (.aload_n 0, 1) := dk_42 (dk_at dksX0_sell_1 23 rfl rfl)
theorem dX0_sell_48 : decode cX0_sell 48 = .ok (.getfield 34, 3) := dk_180 0 34 (dk_at dksX0_sell_2 0 rfl rfl)
theorem dX0_sell_51 : decode cX0_sell 51 = .ok (.iload_n 3, 1) := dk_29 (dk_at dksX0_sell_2 3 rfl rfl)
theorem dX0_sell_52 : decode cX0_sell 52 = .ok (.iconst 0, 1) := dk_3 (dk_at dksX0_sell_2 4 rfl rfl)
theorem dX0_sell_53 : decode cX0_sell 53 = .ok (.iastore, 1) := dk_79 (dk_at dksX0_sell_2 5 rfl rfl)
theorem dX0_sell_54 : decode cX0_sell 54 = .ok (.aload_n 0, 1) := dk_42 (dk_at dksX0_sell_2 6 rfl rfl)
theorem dX0_sell_55 : decode cX0_sell 55 = .ok (.iload_n 1, 1) := dk_27 (dk_at dksX0_sell_2 7 rfl rfl)
theorem dX0_sell_56 : decode cX0_sell 56 = .ok (.iconst 4, 1) := dk_7 (dk_at dksX0_sell_2 8 rfl rfl)
theorem dX0_sell_57 : decode cX0_sell 57 = .ok (.iload_n 3, 1) := dk_29 (dk_at dksX0_sell_2 9 rfl rfl)
theorem dX0_sell_58 : decode cX0_sell 58 = .ok (.iadd, 1) := dk_96 (dk_at dksX0_sell_2 10 rfl rfl)
theorem dX0_sell_59 : decode cX0_sell 59 = .ok (.invokevirtual 176, 3) := dk_182 0 176 (dk_at dksX0_sell_2 11 rfl rfl)
theorem dX0_sell_62 : decode cX0_sell 62 = .ok (.ifCond .ne 6, 3) := dk_154 0 6 (dk_at dksX0_sell_2 14 rfl rfl)
theorem dX0_sell_65 : decode cX0_sell 65 = .ok (.goto 72, 3) := dk_167 0 72 (dk_at dksX0_sell_2 17 rfl rfl)
theorem dX0_sell_68 : decode cX0_sell 68 = .ok (.aload_n 0, 1) := dk_42 (dk_at dksX0_sell_2 20 rfl rfl)
theorem dX0_sell_69 : decode cX0_sell 69 = .ok (.getfield 30, 3) := dk_180 0 30 (dk_at dksX0_sell_2 21 rfl rfl)
theorem dX0_sell_72 : decode cX0_sell 72 = .ok (.iconst 0, 1) := dk_3 (dk_at dksX0_sell_3 0 rfl rfl)
theorem dX0_sell_73 : decode cX0_sell 73 = .ok (.aload_n 0, 1) := dk_42 (dk_at dksX0_sell_3 1 rfl rfl)
theorem dX0_sell_74 : decode cX0_sell 74 = .ok (.invokevirtual 189, 3) := dk_182 0 189 (dk_at dksX0_sell_3 2 rfl rfl)
theorem dX0_sell_77 : decode cX0_sell 77 = .ok (.iastore, 1) := dk_79 (dk_at dksX0_sell_3 5 rfl rfl)
theorem dX0_sell_78 : decode cX0_sell 78 = .ok (.aload_n 0, 1) := dk_42 (dk_at dksX0_sell_3 6 rfl rfl)
theorem dX0_sell_79 : decode cX0_sell 79 = .ok (.iload_n 3, 1) := dk_29 (dk_at dksX0_sell_3 7 rfl rfl)
theorem dX0_sell_80 : decode cX0_sell 80 = .ok (.invokevirtual 154, 3) := dk_182 0 154 (dk_at dksX0_sell_3 8 rfl rfl)
theorem dX0_sell_83 : decode cX0_sell 83 = .ok (.aload_n 0, 1) := dk_42 (dk_at dksX0_sell_3 11 rfl rfl)
theorem dX0_sell_84 : decode cX0_sell 84 = .ok (.aload_n 0, 1) := dk_42 (dk_at dksX0_sell_3 12 rfl rfl)
theorem dX0_sell_85 : decode cX0_sell 85 = .ok (.iload_n 1, 1) := dk_27 (dk_at dksX0_sell_3 13 rfl rfl)
theorem dX0_sell_86 : decode cX0_sell 86 = .ok (.iconst 0, 1) := dk_3 (dk_at dksX0_sell_3 14 rfl rfl)
theorem dX0_sell_87 : decode cX0_sell 87 = .ok (.invokevirtual 176, 3) := dk_182 0 176 (dk_at dksX0_sell_3 15 rfl rfl)
theorem dX0_sell_90 : decode cX0_sell 90 = .ok (.invokevirtual 204, 3) := dk_182 0 204 (dk_at dksX0_sell_3 18 rfl rfl)
theorem dX0_sell_93 : decode cX0_sell 93 = .ok (.aload_n 0, 1) := dk_42 (dk_at dksX0_sell_3 21 rfl rfl)
theorem dX0_sell_94 : decode cX0_sell 94 = .ok (.getfield 30, 3) := dk_180 0 30 (dk_at dksX0_sell_4 0 rfl rfl)
theorem dX0_sell_97 : decode cX0_sell 97 = .ok (.bipush 8, 2) := dk_16 8 (dk_at dksX0_sell_4 3 rfl rfl)
theorem dX0_sell_99 : decode cX0_sell 99 = .ok (.aload_n 0, 1) := dk_42 (dk_at dksX0_sell_4 5 rfl rfl)
theorem dX0_sell_100 : decode cX0_sell 100 = .ok (.iload_n 1, 1) := dk_27 (dk_at dksX0_sell_4 6 rfl rfl)
theorem dX0_sell_101 : decode cX0_sell 101 = .ok (.iconst 4, 1) := dk_7 (dk_at dksX0_sell_4 7 rfl rfl)
theorem dX0_sell_102 : decode cX0_sell 102 = .ok (.iload_n 3, 1) := dk_29 (dk_at dksX0_sell_4 8 rfl rfl)
theorem dX0_sell_103 : decode cX0_sell 103 = .ok (.iadd, 1) := dk_96 (dk_at dksX0_sell_4 9 rfl rfl)
theorem dX0_sell_104 : decode cX0_sell 104 = .ok (.invokevirtual 176, 3) := dk_182 0 176 (dk_at dksX0_sell_4 10 rfl rfl)
theorem dX0_sell_107 : decode cX0_sell 107 = .ok (.iastore, 1) := dk_79 (dk_at dksX0_sell_4 13 rfl rfl)
theorem dX0_sell_108 : decode cX0_sell 108 = .ok (.aload_n 0, 1) := dk_42 (dk_at dksX0_sell_4 14 rfl rfl)
theorem dX0_sell_109 : decode cX0_sell 109 = .ok (.getfield 34, 3) := dk_180 0 34 (dk_at dksX0_sell_4 15 rfl rfl)
theorem dX0_sell_112 : decode cX0_sell 112 = .ok (.iload_n 3, 1) := dk_29 (dk_at dksX0_sell_4 18 rfl rfl)
theorem dX0_sell_113 : decode cX0_sell 113 = .ok (.aload_n 0, 1) := dk_42 (dk_at dksX0_sell_4 19 rfl rfl)
theorem dX0_sell_114 : decode cX0_sell 114 = .ok (.iconst 3, 1) := dk_6 (dk_at dksX0_sell_4 20 rfl rfl)
theorem dX0_sell_115 : decode cX0_sell 115 = .ok (.bipush 99, 2) := dk_16 99 (dk_at dksX0_sell_4 21 rfl rfl)
theorem dX0_sell_117 : decode cX0_sell 117 = .ok (.aload_n 0, 1) := dk_42 (dk_at dksX0_sell_4 23 rfl rfl)
theorem dX0_sell_118 : decode cX0_sell 118 = .ok (.getfield 30, 3) := dk_180 0 30 (dk_at dksX0_sell_5 0 rfl rfl)
theorem dX0_sell_121 : decode cX0_sell 121 = .ok (.bipush 8, 2) := dk_16 8 (dk_at dksX0_sell_5 3 rfl rfl)
theorem dX0_sell_123 : decode cX0_sell 123 = .ok (.iaload, 1) := dk_46 (dk_at dksX0_sell_5 5 rfl rfl)
theorem dX0_sell_124 : decode cX0_sell 124 = .ok (.invokevirtual 150, 3) := dk_182 0 150 (dk_at dksX0_sell_5 6 rfl rfl)
theorem dX0_sell_127 : decode cX0_sell 127 = .ok (.iastore, 1) := dk_79 (dk_at dksX0_sell_5 9 rfl rfl)
theorem dX0_sell_128 : decode cX0_sell 128 = .ok (.iload_n 2, 1) := dk_28 (dk_at dksX0_sell_5 10 rfl rfl)
theorem dX0_sell_129 : decode cX0_sell 129 = .ok (.aload_n 0, 1) := dk_42 (dk_at dksX0_sell_5 11 rfl rfl)
theorem dX0_sell_130 : decode cX0_sell 130 = .ok (.getfield 34, 3) := dk_180 0 34 (dk_at dksX0_sell_5 12 rfl rfl)
theorem dX0_sell_133 : decode cX0_sell 133 = .ok (.iload_n 3, 1) := dk_29 (dk_at dksX0_sell_5 15 rfl rfl)
theorem dX0_sell_134 : decode cX0_sell 134 = .ok (.iaload, 1) := dk_46 (dk_at dksX0_sell_5 16 rfl rfl)
theorem dX0_sell_135 : decode cX0_sell 135 = .ok (.iadd, 1) := dk_96 (dk_at dksX0_sell_5 17 rfl rfl)
theorem dX0_sell_136 : decode cX0_sell 136 = .ok (.istore_n 2, 1) := dk_61 (dk_at dksX0_sell_5 18 rfl rfl)
theorem dX0_sell_137 : decode cX0_sell 137 = .ok (.iinc 3 1, 3) := dk_132 3 1 (dk_at dksX0_sell_5 19 rfl rfl)
theorem dX0_sell_140 : decode cX0_sell 140 = .ok (.goto (-106), 3) := dk_167 255 150 (dk_at dksX0_sell_6 0 rfl rfl)
theorem dX0_sell_143 : decode cX0_sell 143 = .ok (.aload_n 0, 1) := dk_42 (dk_at dksX0_sell_6 3 rfl rfl)
theorem dX0_sell_144 : decode cX0_sell 144 = .ok (.getfield 12, 3) := dk_180 0 12 (dk_at dksX0_sell_6 4 rfl rfl)
theorem dX0_sell_147 : decode cX0_sell 147 = .ok (.invokevirtual 167, 3) := dk_182 0 167 (dk_at dksX0_sell_6 7 rfl rfl)
theorem dX0_sell_150 : decode cX0_sell 150 = .ok (.aload_n 0, 1) := dk_42 (dk_at dksX0_sell_6 10 rfl rfl)
theorem dX0_sell_151 : decode cX0_sell 151 = .ok (.getfield 12, 3) := dk_180 0 12 (dk_at dksX0_sell_6 11 rfl rfl)
theorem dX0_sell_154 : decode cX0_sell 154 = .ok (.getfield 73, 3) := dk_180 0 73 (dk_at dksX0_sell_6 14 rfl rfl)
theorem dX0_sell_157 : decode cX0_sell 157 = .ok (.iload_n 1, 1) := dk_27 (dk_at dksX0_sell_6 17 rfl rfl)
theorem dX0_sell_158 : decode cX0_sell 158 = .ok (.iconst 3, 1) := dk_6 (dk_at dksX0_sell_6 18 rfl rfl)
theorem dX0_sell_159 : decode cX0_sell 159 = .ok (.invokestatic 76, 3) := dk_184 0 76 (dk_at dksX0_sell_6 19 rfl rfl)
theorem dX0_sell_162 : decode cX0_sell 162 = .ok (.iconst 1, 1) := dk_4 (dk_at dksX0_sell_6 22 rfl rfl)
theorem dX0_sell_163 : decode cX0_sell 163 = .ok (.iastore, 1) := dk_79 (dk_at dksX0_sell_6 23 rfl rfl)
theorem dX0_sell_164 : decode cX0_sell 164 = .ok (.iconst 0, 1) := dk_3 (dk_at dksX0_sell_7 0 rfl rfl)
theorem dX0_sell_165 : decode cX0_sell 165 = .ok (.istore_n 3, 1) := dk_62 (dk_at dksX0_sell_7 1 rfl rfl)
theorem dX0_sell_166 : decode cX0_sell 166 = .ok (.iconst 0, 1) := dk_3 (dk_at dksX0_sell_7 2 rfl rfl)
theorem dX0_sell_167 : decode cX0_sell 167 = .ok (.istore 4, 2) := dk_54 4 (dk_at dksX0_sell_7 3 rfl rfl)
theorem dX0_sell_169 : decode cX0_sell 169 = .ok (.iload 4, 2) := dk_21 4 (dk_at dksX0_sell_7 5 rfl rfl)
theorem dX0_sell_171 : decode cX0_sell 171 = .ok (.aload_n 0, 1) := dk_42 (dk_at dksX0_sell_7 7 rfl rfl)
theorem dX0_sell_172 : decode cX0_sell 172 = .ok (.getfield 12, 3) := dk_180 0 12 (dk_at dksX0_sell_7 8 rfl rfl)
theorem dX0_sell_175 : decode cX0_sell 175 = .ok (.getfield 66, 3) := dk_180 0 66 (dk_at dksX0_sell_7 11 rfl rfl)
theorem dX0_sell_178 : decode cX0_sell 178 = .ok (.iconst 0, 1) := dk_3 (dk_at dksX0_sell_7 14 rfl rfl)
theorem dX0_sell_179 : decode cX0_sell 179 = .ok (.iaload, 1) := dk_46 (dk_at dksX0_sell_7 15 rfl rfl)
theorem dX0_sell_180 : decode cX0_sell 180 = .ok (.if_icmp .ge 92, 3) := dk_162 0 92 (dk_at dksX0_sell_7 16 rfl rfl)
theorem dX0_sell_183 : decode cX0_sell 183 = .ok (.iload_n 2, 1) := dk_28 (dk_at dksX0_sell_7 19 rfl rfl)
theorem dX0_sell_184 : decode cX0_sell 184 = .ok (.ifCond .le 88, 3) := dk_158 0 88 (dk_at dksX0_sell_7 20 rfl rfl)
theorem dX0_sell_187 : decode cX0_sell 187 = .ok (.aload_n 0, 1) := dk_42 (dk_at dksX0_sell_7 23 rfl rfl)
theorem dX0_sell_188 : decode cX0_sell 188 = .ok (.getfield 12, 3) := dk_180 0 12 (dk_at dksX0_sell_8 0 rfl rfl)
theorem dX0_sell_191 : decode cX0_sell 191 = .ok (.getfield 73, 3) := dk_180 0 73 (dk_at dksX0_sell_8 3 rfl rfl)
theorem dX0_sell_194 : decode cX0_sell 194 = .ok (.iconst 0, 1) := dk_3 (dk_at dksX0_sell_8 6 rfl rfl)
theorem dX0_sell_195 : decode cX0_sell 195 = .ok (.iload 4, 2) := dk_21 4 (dk_at dksX0_sell_8 7 rfl rfl)
theorem dX0_sell_197 : decode cX0_sell 197 = .ok (.iadd, 1) := dk_96 (dk_at dksX0_sell_8 9 rfl rfl)
theorem dX0_sell_198 : decode cX0_sell 198 = .ok (.iaload, 1) := dk_46 (dk_at dksX0_sell_8 10 rfl rfl)
theorem dX0_sell_199 : decode cX0_sell 199 = .ok (.istore 5, 2) := dk_54 5 (dk_at dksX0_sell_8 11 rfl rfl)
theorem dX0_sell_201 : decode cX0_sell 201 = .ok (.aload_n 0, 1) := dk_42 (dk_at dksX0_sell_8 13 rfl rfl)
theorem dX0_sell_202 : decode cX0_sell 202 = .ok (.getfield 12, 3) := dk_180 0 12 (dk_at dksX0_sell_8 14 rfl rfl)
theorem dX0_sell_205 : decode cX0_sell 205 = .ok (.getfield 73, 3) := dk_180 0 73 (dk_at dksX0_sell_8 17 rfl rfl)
theorem dX0_sell_208 : decode cX0_sell 208 = .ok (.iconst 0, 1) := dk_3 (dk_at dksX0_sell_8 20 rfl rfl)
theorem dX0_sell_209 : decode cX0_sell 209 = .ok (.iload 4, 2) := dk_21 4 (dk_at dksX0_sell_8 21 rfl rfl)
theorem dX0_sell_211 : decode cX0_sell 211 = .ok (.iadd, 1) := dk_96 (dk_at dksX0_sell_8 23 rfl rfl)
theorem dX0_sell_212 : decode cX0_sell 212 = .ok (.sipush 999, 3) := dk_17 3 231 (dk_at dksX0_sell_9 0 rfl rfl)
theorem dX0_sell_215 : decode cX0_sell 215 = .ok (.iload 5, 2) := dk_21 5 (dk_at dksX0_sell_9 3 rfl rfl)
theorem dX0_sell_217 : decode cX0_sell 217 = .ok (.aload_n 0, 1) := dk_42 (dk_at dksX0_sell_9 5 rfl rfl)
theorem dX0_sell_218 : decode cX0_sell 218 = .ok (.getfield 12, 3) := dk_180 0 12 (dk_at dksX0_sell_9 6 rfl rfl)
theorem dX0_sell_221 : decode cX0_sell 221 = .ok (.getfield 98, 3) := dk_180 0 98 (dk_at dksX0_sell_9 9 rfl rfl)
theorem dX0_sell_224 : decode cX0_sell 224 = .ok (.aload_n 0, 1) := dk_42 (dk_at dksX0_sell_9 12 rfl rfl)
theorem dX0_sell_225 : decode cX0_sell 225 = .ok (.iload_n 1, 1) := dk_27 (dk_at dksX0_sell_9 13 rfl rfl)
theorem dX0_sell_226 : decode cX0_sell 226 = .ok (.iconst 0, 1) := dk_3 (dk_at dksX0_sell_9 14 rfl rfl)
theorem dX0_sell_227 : decode cX0_sell 227 = .ok (.invokevirtual 176, 3) := dk_182 0 176 (dk_at dksX0_sell_9 15 rfl rfl)
theorem dX0_sell_230 : decode cX0_sell 230 = .ok (.aaload, 1) := dk_50 (dk_at dksX0_sell_9 18 rfl rfl)
theorem dX0_sell_231 : decode cX0_sell 231 = .ok (.iconst 2, 1) := dk_5 (dk_at dksX0_sell_9 19 rfl rfl)
theorem dX0_sell_232 : decode cX0_sell 232 = .ok (.iaload, 1) := dk_46 (dk_at dksX0_sell_9 20 rfl rfl)
theorem dX0_sell_233 : decode cX0_sell 233 = .ok (.aload_n 0, 1) := dk_42 (dk_at dksX0_sell_9 21 rfl rfl)
theorem dX0_sell_234 : decode cX0_sell 234 = .ok (.getfield 34, 3) := dk_180 0 34 (dk_at dksX0_sell_10 0 rfl rfl)
theorem dX0_sell_237 : decode cX0_sell 237 = .ok (.iload 4, 2) := dk_21 4 (dk_at dksX0_sell_10 3 rfl rfl)
theorem dX0_sell_239 : decode cX0_sell 239 = .ok (.iaload, 1) := dk_46 (dk_at dksX0_sell_10 5 rfl rfl)
theorem dX0_sell_240 : decode cX0_sell 240 = .ok (.imul, 1) := dk_104 (dk_at dksX0_sell_10 6 rfl rfl)
theorem dX0_sell_241 : decode cX0_sell 241 = .ok (.iload_n 2, 1) := dk_28 (dk_at dksX0_sell_10 7 rfl rfl)
theorem dX0_sell_242 : decode cX0_sell 242 = .ok (.idiv, 1) := dk_108 (dk_at dksX0_sell_10 8 rfl rfl)
theorem dX0_sell_243 : decode cX0_sell 243 = .ok (.iadd, 1) := dk_96 (dk_at dksX0_sell_10 9 rfl rfl)
theorem dX0_sell_244 : decode cX0_sell 244 = .ok (.invokestatic 207, 3) := dk_184 0 207 (dk_at dksX0_sell_10 10 rfl rfl)
theorem dX0_sell_247 : decode cX0_sell 247 = .ok (.iastore, 1) := dk_79 (dk_at dksX0_sell_10 13 rfl rfl)
theorem dX0_sell_248 : decode cX0_sell 248 = .ok (.iload_n 3, 1) := dk_29 (dk_at dksX0_sell_10 14 rfl rfl)
theorem dX0_sell_249 : decode cX0_sell 249 = .ok (.aload_n 0, 1) := dk_42 (dk_at dksX0_sell_10 15 rfl rfl)
theorem dX0_sell_250 : decode cX0_sell 250 = .ok (.getfield 12, 3) := dk_180 0 12 (dk_at dksX0_sell_10 16 rfl rfl)
theorem dX0_sell_253 : decode cX0_sell 253 = .ok (.getfield 73, 3) := dk_180 0 73 (dk_at dksX0_sell_10 19 rfl rfl)
theorem dX0_sell_256 : decode cX0_sell 256 = .ok (.iconst 0, 1) := dk_3 (dk_at dksX0_sell_10 22 rfl rfl)
theorem dX0_sell_257 : decode cX0_sell 257 = .ok (.iload 4, 2) := dk_21 4 (dk_at dksX0_sell_11 0 rfl rfl)
theorem dX0_sell_259 : decode cX0_sell 259 = .ok (.iadd, 1) := dk_96 (dk_at dksX0_sell_11 2 rfl rfl)
theorem dX0_sell_260 : decode cX0_sell 260 = .ok (.iaload, 1) := dk_46 (dk_at dksX0_sell_11 3 rfl rfl)
theorem dX0_sell_261 : decode cX0_sell 261 = .ok (.iload 5, 2) := dk_21 5 (dk_at dksX0_sell_11 4 rfl rfl)
theorem dX0_sell_263 : decode cX0_sell 263 = .ok (.isub, 1) := dk_100 (dk_at dksX0_sell_11 6 rfl rfl)
theorem dX0_sell_264 : decode cX0_sell 264 = .ok (.iadd, 1) := dk_96 (dk_at dksX0_sell_11 7 rfl rfl)
theorem dX0_sell_265 : decode cX0_sell 265 = .ok (.istore_n 3, 1) := dk_62 (dk_at dksX0_sell_11 8 rfl rfl)
theorem dX0_sell_266 : decode cX0_sell 266 = .ok (.iinc 4 1, 3) := dk_132 4 1 (dk_at dksX0_sell_11 9 rfl rfl)
theorem dX0_sell_269 : decode cX0_sell 269 = .ok (.goto (-100), 3) := dk_167 255 156 (dk_at dksX0_sell_11 12 rfl rfl)
theorem dX0_sell_272 : decode cX0_sell 272 = .ok (.iload_n 3, 1) := dk_29 (dk_at dksX0_sell_11 15 rfl rfl)
theorem dX0_sell_273 : decode cX0_sell 273 = .ok (.ireturn, 1) := dk_172 (dk_at dksX0_sell_11 16 rfl rfl)
abbrev cX0_namesKind : ByteArray := prog_1_method_21_code
def yX0_namesKind : MethodName := ⟨RX0, "namesKind", "(I)V"⟩
def dkwX0_namesKind_1 : List UInt8 := [79, 42, 180, 0, 30, 16, 7, 42, 180, 0, 12, 180, 0, 98, 27, 50, 5, 46, 79, 177]
abbrev dktX0_namesKind_1 : List UInt8 := dkwX0_namesKind_1 ++ []
def dkwX0_namesKind_0 : List UInt8 := [42, 180, 0, 30, 8, 27, 79, 42, 180, 0, 30, 16, 6, 42, 180, 0, 12, 180, 0, 98, 27, 50, 3, 46]
abbrev dktX0_namesKind_0 : List UInt8 := dkwX0_namesKind_0 ++ dktX0_namesKind_1
theorem dksX0_namesKind_0 : cX0_namesKind.data.toList.drop 0 = dktX0_namesKind_0 := by decide +kernel
theorem dksX0_namesKind_1 : cX0_namesKind.data.toList.drop 24 = dktX0_namesKind_1 := dk_seg dksX0_namesKind_0 24 rfl rfl
theorem dX0_namesKind_0 : decode cX0_namesKind 0 = .ok (.aload_n 0, 1) := dk_42 (dk_at dksX0_namesKind_0 0 rfl rfl)
theorem dX0_namesKind_1 : decode cX0_namesKind 1 = .ok (.getfield 30, 3) := dk_180 0 30 (dk_at dksX0_namesKind_0 1 rfl rfl)
theorem dX0_namesKind_4 : decode cX0_namesKind 4 = .ok (.iconst 5, 1) := dk_8 (dk_at dksX0_namesKind_0 4 rfl rfl)
theorem dX0_namesKind_5 : decode cX0_namesKind 5 = .ok (.iload_n 1, 1) := dk_27 (dk_at dksX0_namesKind_0 5 rfl rfl)
theorem dX0_namesKind_6 : decode cX0_namesKind 6 = .ok (.iastore, 1) := dk_79 (dk_at dksX0_namesKind_0 6 rfl rfl)
theorem dX0_namesKind_7 : decode cX0_namesKind 7 = .ok (.aload_n 0, 1) := dk_42 (dk_at dksX0_namesKind_0 7 rfl rfl)
theorem dX0_namesKind_8 : decode cX0_namesKind 8 = .ok (.getfield 30, 3) := dk_180 0 30 (dk_at dksX0_namesKind_0 8 rfl rfl)
theorem dX0_namesKind_11 : decode cX0_namesKind 11 = .ok (.bipush 6, 2) := dk_16 6 (dk_at dksX0_namesKind_0 11 rfl rfl)
theorem dX0_namesKind_13 : decode cX0_namesKind 13 = .ok (.aload_n 0, 1) := dk_42 (dk_at dksX0_namesKind_0 13 rfl rfl)
theorem dX0_namesKind_14 : decode cX0_namesKind 14 = .ok (.getfield 12, 3) := dk_180 0 12 (dk_at dksX0_namesKind_0 14 rfl rfl)
theorem dX0_namesKind_17 : decode cX0_namesKind 17 = .ok (.getfield 98, 3) := dk_180 0 98 (dk_at dksX0_namesKind_0 17 rfl rfl)
theorem dX0_namesKind_20 : decode cX0_namesKind 20 = .ok (.iload_n 1, 1) := dk_27 (dk_at dksX0_namesKind_0 20 rfl rfl)
theorem dX0_namesKind_21 : decode cX0_namesKind 21 = .ok (.aaload, 1) := dk_50 (dk_at dksX0_namesKind_0 21 rfl rfl)
theorem dX0_namesKind_22 : decode cX0_namesKind 22 = .ok (.iconst 0, 1) := dk_3 (dk_at dksX0_namesKind_0 22 rfl rfl)
theorem dX0_namesKind_23 : decode cX0_namesKind 23 = .ok (.iaload, 1) := dk_46 (dk_at dksX0_namesKind_0 23 rfl rfl)
theorem dX0_namesKind_24 : decode cX0_namesKind 24 = .ok (.iastore, 1) := dk_79 (dk_at dksX0_namesKind_1 0 rfl rfl)
theorem dX0_namesKind_25 : decode cX0_namesKind 25 = .ok (.aload_n 0, 1) := dk_42 (dk_at dksX0_namesKind_1 1 rfl rfl)
theorem dX0_namesKind_26 : decode cX0_namesKind 26 = .ok (.getfield 30, 3) := dk_180 0 30 (dk_at dksX0_namesKind_1 2 rfl rfl)
theorem dX0_namesKind_29 : decode cX0_namesKind 29 = .ok (.bipush 7, 2) := dk_16 7 (dk_at dksX0_namesKind_1 5 rfl rfl)
theorem dX0_namesKind_31 : decode cX0_namesKind 31 = .ok (.aload_n 0, 1) := dk_42 (dk_at dksX0_namesKind_1 7 rfl rfl)
theorem dX0_namesKind_32 : decode cX0_namesKind 32 = .ok (.getfield 12, 3) := dk_180 0 12 (dk_at dksX0_namesKind_1 8 rfl rfl)
theorem dX0_namesKind_35 : decode cX0_namesKind 35 = .ok (.getfield 98, 3) := dk_180 0 98 (dk_at dksX0_namesKind_1 11 rfl rfl)
theorem dX0_namesKind_38 : decode cX0_namesKind 38 = .ok (.iload_n 1, 1) := dk_27 (dk_at dksX0_namesKind_1 14 rfl rfl)
theorem dX0_namesKind_39 : decode cX0_namesKind 39 = .ok (.aaload, 1) := dk_50 (dk_at dksX0_namesKind_1 15 rfl rfl)
theorem dX0_namesKind_40 : decode cX0_namesKind 40 = .ok (.iconst 2, 1) := dk_5 (dk_at dksX0_namesKind_1 16 rfl rfl)
theorem dX0_namesKind_41 : decode cX0_namesKind 41 = .ok (.iaload, 1) := dk_46 (dk_at dksX0_namesKind_1 17 rfl rfl)
theorem dX0_namesKind_42 : decode cX0_namesKind 42 = .ok (.iastore, 1) := dk_79 (dk_at dksX0_namesKind_1 18 rfl rfl)
theorem dX0_namesKind_43 : decode cX0_namesKind 43 = .ok (.return_, 1) := dk_177 (dk_at dksX0_namesKind_1 19 rfl rfl)
abbrev cX0_played : ByteArray := prog_1_method_35_code
def yX0_played : MethodName := ⟨RX0, "played", "(I)I"⟩
def dkwX0_played_5 : List UInt8 := [160, 0, 9, 25, 4, 182, 0, 244, 172, 132, 3, 1, 167, 255, 156, 2, 172]
abbrev dktX0_played_5 : List UInt8 := dkwX0_played_5 ++ []
def dkwX0_played_4 : List UInt8 := [182, 0, 236, 182, 0, 238, 167, 0, 12, 42, 25, 4, 182, 0, 227, 182, 0, 241, 54, 5, 21, 5, 2]
abbrev dktX0_played_4 : List UInt8 := dkwX0_played_4 ++ dktX0_played_5
def dkwX0_played_3 : List UInt8 := [182, 0, 224, 17, 0, 205, 160, 0, 25, 42, 25, 4, 182, 0, 227, 25, 4, 182, 0, 233, 25, 4]
abbrev dktX0_played_3 : List UInt8 := dkwX0_played_3 ++ dktX0_played_4
def dkwX0_played_2 : List UInt8 := [182, 0, 224, 17, 0, 204, 160, 0, 15, 42, 25, 4, 182, 0, 227, 182, 0, 230, 167, 0, 45, 25, 4]
abbrev dktX0_played_2 : List UInt8 := dkwX0_played_2 ++ dktX0_played_3
def dkwX0_played_1 : List UInt8 := [3, 62, 29, 44, 182, 0, 213, 162, 0, 98, 44, 29, 182, 0, 218, 192, 0, 222, 58, 4, 25, 4]
abbrev dktX0_played_1 : List UInt8 := dkwX0_played_1 ++ dktX0_played_2
def dkwX0_played_0 : List UInt8 := [42, 27, 182, 0, 127, 154, 0, 6, 16, 254, 172, 42, 180, 0, 12, 180, 0, 108, 27, 50, 180, 0, 209, 77]
abbrev dktX0_played_0 : List UInt8 := dkwX0_played_0 ++ dktX0_played_1
theorem dksX0_played_0 : cX0_played.data.toList.drop 0 = dktX0_played_0 := by decide +kernel
theorem dksX0_played_1 : cX0_played.data.toList.drop 24 = dktX0_played_1 := dk_seg dksX0_played_0 24 rfl rfl
theorem dksX0_played_2 : cX0_played.data.toList.drop 46 = dktX0_played_2 := dk_seg dksX0_played_1 22 rfl rfl
theorem dksX0_played_3 : cX0_played.data.toList.drop 69 = dktX0_played_3 := dk_seg dksX0_played_2 23 rfl rfl
theorem dksX0_played_4 : cX0_played.data.toList.drop 91 = dktX0_played_4 := dk_seg dksX0_played_3 22 rfl rfl
theorem dksX0_played_5 : cX0_played.data.toList.drop 114 = dktX0_played_5 := dk_seg dksX0_played_4 23 rfl rfl
theorem dX0_played_0 : decode cX0_played 0 = .ok (.aload_n 0, 1) := dk_42 (dk_at dksX0_played_0 0 rfl rfl)
theorem dX0_played_1 : decode cX0_played 1 = .ok (.iload_n 1, 1) := dk_27 (dk_at dksX0_played_0 1 rfl rfl)
theorem dX0_played_2 : decode cX0_played 2 = .ok (.invokevirtual 127, 3) := dk_182 0 127 (dk_at dksX0_played_0 2 rfl rfl)
theorem dX0_played_5 : decode cX0_played 5 = .ok (.ifCond .ne 6, 3) := dk_154 0 6 (dk_at dksX0_played_0 5 rfl rfl)
theorem dX0_played_8 : decode cX0_played 8 = .ok (.bipush (-2), 2) := dk_16 254 (dk_at dksX0_played_0 8 rfl rfl)
theorem dX0_played_10 : decode cX0_played 10 = .ok (.ireturn, 1) := dk_172 (dk_at dksX0_played_0 10 rfl rfl)
theorem dX0_played_11 : decode cX0_played 11 = .ok (.aload_n 0, 1) := dk_42 (dk_at dksX0_played_0 11 rfl rfl)
theorem dX0_played_12 : decode cX0_played 12 = .ok (.getfield 12, 3) := dk_180 0 12 (dk_at dksX0_played_0 12 rfl rfl)
theorem dX0_played_15 : decode cX0_played 15 = .ok (.getfield 108, 3) := dk_180 0 108 (dk_at dksX0_played_0 15 rfl rfl)
theorem dX0_played_18 : decode cX0_played 18 = .ok (.iload_n 1, 1) := dk_27 (dk_at dksX0_played_0 18 rfl rfl)
theorem dX0_played_19 : decode cX0_played 19 = .ok (.aaload, 1) := dk_50 (dk_at dksX0_played_0 19 rfl rfl)
theorem dX0_played_20 : decode cX0_played 20 = .ok (.getfield 209, 3) := dk_180 0 209 (dk_at dksX0_played_0 20 rfl rfl)
theorem dX0_played_23 : decode cX0_played 23 = .ok (.astore_n 2, 1) := dk_77 (dk_at dksX0_played_0 23 rfl rfl)
theorem dX0_played_24 : decode cX0_played 24 = .ok (.iconst 0, 1) := dk_3 (dk_at dksX0_played_1 0 rfl rfl)
theorem dX0_played_25 : decode cX0_played 25 = .ok (.istore_n 3, 1) := dk_62 (dk_at dksX0_played_1 1 rfl rfl)
theorem dX0_played_26 : decode cX0_played 26 = .ok (.iload_n 3, 1) := dk_29 (dk_at dksX0_played_1 2 rfl rfl)
theorem dX0_played_27 : decode cX0_played 27 = .ok (.aload_n 2, 1) := dk_44 (dk_at dksX0_played_1 3 rfl rfl)
theorem dX0_played_28 : decode cX0_played 28 = .ok (.invokevirtual 213, 3) := dk_182 0 213 (dk_at dksX0_played_1 4 rfl rfl)
theorem dX0_played_31 : decode cX0_played 31 = .ok (.if_icmp .ge 98, 3) := dk_162 0 98 (dk_at dksX0_played_1 7 rfl rfl)
theorem dX0_played_34 : decode cX0_played 34 = .ok (.aload_n 2, 1) := dk_44 (dk_at dksX0_played_1 10 rfl rfl)
theorem dX0_played_35 : decode cX0_played 35 = .ok (.iload_n 3, 1) := dk_29 (dk_at dksX0_played_1 11 rfl rfl)
theorem dX0_played_36 : decode cX0_played 36 = .ok (.invokevirtual 218, 3) := dk_182 0 218 (dk_at dksX0_played_1 12 rfl rfl)
theorem dX0_played_39 : decode cX0_played 39 = .ok (.checkcast 222, 3) := dk_192 0 222 (dk_at dksX0_played_1 15 rfl rfl)
theorem dX0_played_42 : decode cX0_played 42 = .ok (.astore 4, 2) := dk_58 4 (dk_at dksX0_played_1 18 rfl rfl)
theorem dX0_played_44 : decode cX0_played 44 = .ok (.aload 4, 2) := dk_25 4 (dk_at dksX0_played_1 20 rfl rfl)
theorem dX0_played_46 : decode cX0_played 46 = .ok (.invokevirtual 224, 3) := dk_182 0 224 (dk_at dksX0_played_2 0 rfl rfl)
theorem dX0_played_49 : decode cX0_played 49 = .ok (.sipush 204, 3) := dk_17 0 204 (dk_at dksX0_played_2 3 rfl rfl)
theorem dX0_played_52 : decode cX0_played 52 = .ok (.if_icmp .ne 15, 3) := dk_160 0 15 (dk_at dksX0_played_2 6 rfl rfl)
theorem dX0_played_55 : decode cX0_played 55 = .ok (.aload_n 0, 1) := dk_42 (dk_at dksX0_played_2 9 rfl rfl)
theorem dX0_played_56 : decode cX0_played 56 = .ok (.aload 4, 2) := dk_25 4 (dk_at dksX0_played_2 10 rfl rfl)
theorem dX0_played_58 : decode cX0_played 58 = .ok (.invokevirtual 227, 3) := dk_182 0 227 (dk_at dksX0_played_2 12 rfl rfl)
theorem dX0_played_61 : decode cX0_played 61 = .ok (.invokevirtual 230, 3) := dk_182 0 230 (dk_at dksX0_played_2 15 rfl rfl)
theorem dX0_played_64 : decode cX0_played 64 = .ok (.goto 45, 3) := dk_167 0 45 (dk_at dksX0_played_2 18 rfl rfl)
theorem dX0_played_67 : decode cX0_played 67 = .ok (.aload 4, 2) := dk_25 4 (dk_at dksX0_played_2 21 rfl rfl)
theorem dX0_played_69 : decode cX0_played 69 = .ok (.invokevirtual 224, 3) := dk_182 0 224 (dk_at dksX0_played_3 0 rfl rfl)
theorem dX0_played_72 : decode cX0_played 72 = .ok (.sipush 205, 3) := dk_17 0 205 (dk_at dksX0_played_3 3 rfl rfl)
theorem dX0_played_75 : decode cX0_played 75 = .ok (.if_icmp .ne 25, 3) := dk_160 0 25 (dk_at dksX0_played_3 6 rfl rfl)
theorem dX0_played_78 : decode cX0_played 78 = .ok (.aload_n 0, 1) := dk_42 (dk_at dksX0_played_3 9 rfl rfl)
theorem dX0_played_79 : decode cX0_played 79 = .ok (.aload 4, 2) := dk_25 4 (dk_at dksX0_played_3 10 rfl rfl)
theorem dX0_played_81 : decode cX0_played 81 = .ok (.invokevirtual 227, 3) := dk_182 0 227 (dk_at dksX0_played_3 12 rfl rfl)
theorem dX0_played_84 : decode cX0_played 84 = .ok (.aload 4, 2) := dk_25 4 (dk_at dksX0_played_3 15 rfl rfl)
theorem dX0_played_86 : decode cX0_played 86 = .ok (.invokevirtual 233, 3) := dk_182 0 233 (dk_at dksX0_played_3 17 rfl rfl)
theorem dX0_played_89 : decode cX0_played 89 = .ok (.aload 4, 2) := dk_25 4 (dk_at dksX0_played_3 20 rfl rfl)
theorem dX0_played_91 : decode cX0_played 91 = .ok (.invokevirtual 236, 3) := dk_182 0 236 (dk_at dksX0_played_4 0 rfl rfl)
theorem dX0_played_94 : decode cX0_played 94 = .ok (.invokevirtual 238, 3) := dk_182 0 238 (dk_at dksX0_played_4 3 rfl rfl)
theorem dX0_played_97 : decode cX0_played 97 = .ok (.goto 12, 3) := dk_167 0 12 (dk_at dksX0_played_4 6 rfl rfl)
theorem dX0_played_100 : decode cX0_played 100 = .ok (.aload_n 0, 1) := dk_42 (dk_at dksX0_played_4 9 rfl rfl)
theorem dX0_played_101 : decode cX0_played 101 = .ok (.aload 4, 2) := dk_25 4 (dk_at dksX0_played_4 10 rfl rfl)
theorem dX0_played_103 : decode cX0_played 103 = .ok (.invokevirtual 227, 3) := dk_182 0 227 (dk_at dksX0_played_4 12 rfl rfl)
theorem dX0_played_106 : decode cX0_played 106 = .ok (.invokevirtual 241, 3) := dk_182 0 241 (dk_at dksX0_played_4 15 rfl rfl)
theorem dX0_played_109 : decode cX0_played 109 = .ok (.istore 5, 2) := dk_54 5 (dk_at dksX0_played_4 18 rfl rfl)
theorem dX0_played_111 : decode cX0_played 111 = .ok (.iload 5, 2) := dk_21 5 (dk_at dksX0_played_4 20 rfl rfl)
theorem dX0_played_113 : decode cX0_played 113 = .ok (.iconst (-1), 1) := dk_2 (dk_at dksX0_played_4 22 rfl rfl)
theorem dX0_played_114 : decode cX0_played 114 = .ok (.if_icmp .ne 9, 3) := dk_160 0 9 (dk_at dksX0_played_5 0 rfl rfl)
theorem dX0_played_117 : decode cX0_played 117 = .ok (.aload 4, 2) := dk_25 4 (dk_at dksX0_played_5 3 rfl rfl)
theorem dX0_played_119 : decode cX0_played 119 = .ok (.invokevirtual 244, 3) := dk_182 0 244 (dk_at dksX0_played_5 5 rfl rfl)
theorem dX0_played_122 : decode cX0_played 122 = .ok (.ireturn, 1) := dk_172 (dk_at dksX0_played_5 8 rfl rfl)
theorem dX0_played_123 : decode cX0_played 123 = .ok (.iinc 3 1, 3) := dk_132 3 1 (dk_at dksX0_played_5 9 rfl rfl)
theorem dX0_played_126 : decode cX0_played 126 = .ok (.goto (-100), 3) := dk_167 255 156 (dk_at dksX0_played_5 12 rfl rfl)
theorem dX0_played_129 : decode cX0_played 129 = .ok (.iconst (-1), 1) := dk_2 (dk_at dksX0_played_5 15 rfl rfl)
theorem dX0_played_130 : decode cX0_played 130 = .ok (.ireturn, 1) := dk_172 (dk_at dksX0_played_5 16 rfl rfl)
abbrev cX0_undo : ByteArray := prog_1_method_36_code
def yX0_undo : MethodName := ⟨RX0, "undo", "()I"⟩
def dkwX0_undo_2 : List UInt8 := [180, 0, 73, 184, 0, 83, 42, 180, 0, 12, 180, 0, 66, 7, 46, 172]
abbrev dktX0_undo_2 : List UInt8 := dkwX0_undo_2 ++ []
def dkwX0_undo_1 : List UInt8 := [4, 100, 79, 42, 180, 0, 12, 180, 0, 87, 42, 180, 0, 12, 180, 0, 66, 7, 46, 50, 42, 180, 0, 12]
abbrev dktX0_undo_1 : List UInt8 := dkwX0_undo_1 ++ dktX0_undo_2
def dkwX0_undo_0 : List UInt8 := [42, 180, 0, 12, 180, 0, 66, 7, 46, 154, 0, 5, 2, 172, 42, 180, 0, 12, 180, 0, 66, 7, 92, 46]
abbrev dktX0_undo_0 : List UInt8 := dkwX0_undo_0 ++ dktX0_undo_1
theorem dksX0_undo_0 : cX0_undo.data.toList.drop 0 = dktX0_undo_0 := by decide +kernel
theorem dksX0_undo_1 : cX0_undo.data.toList.drop 24 = dktX0_undo_1 := dk_seg dksX0_undo_0 24 rfl rfl
theorem dksX0_undo_2 : cX0_undo.data.toList.drop 48 = dktX0_undo_2 := dk_seg dksX0_undo_1 24 rfl rfl
theorem dX0_undo_0 : decode cX0_undo 0 = .ok (.aload_n 0, 1) := dk_42 (dk_at dksX0_undo_0 0 rfl rfl)
theorem dX0_undo_1 : decode cX0_undo 1 = .ok (.getfield 12, 3) := dk_180 0 12 (dk_at dksX0_undo_0 1 rfl rfl)
theorem dX0_undo_4 : decode cX0_undo 4 = .ok (.getfield 66, 3) := dk_180 0 66 (dk_at dksX0_undo_0 4 rfl rfl)
theorem dX0_undo_7 : decode cX0_undo 7 = .ok (.iconst 4, 1) := dk_7 (dk_at dksX0_undo_0 7 rfl rfl)
theorem dX0_undo_8 : decode cX0_undo 8 = .ok (.iaload, 1) := dk_46 (dk_at dksX0_undo_0 8 rfl rfl)
theorem dX0_undo_9 : decode cX0_undo 9 = .ok (.ifCond .ne 5, 3) := dk_154 0 5 (dk_at dksX0_undo_0 9 rfl rfl)
theorem dX0_undo_12 : decode cX0_undo 12 = .ok (.iconst (-1), 1) := dk_2 (dk_at dksX0_undo_0 12 rfl rfl)
theorem dX0_undo_13 : decode cX0_undo 13 = .ok (.ireturn, 1) := dk_172 (dk_at dksX0_undo_0 13 rfl rfl)
theorem dX0_undo_14 : decode cX0_undo 14 = .ok (.aload_n 0, 1) := dk_42 (dk_at dksX0_undo_0 14 rfl rfl)
theorem dX0_undo_15 : decode cX0_undo 15 = .ok (.getfield 12, 3) := dk_180 0 12 (dk_at dksX0_undo_0 15 rfl rfl)
theorem dX0_undo_18 : decode cX0_undo 18 = .ok (.getfield 66, 3) := dk_180 0 66 (dk_at dksX0_undo_0 18 rfl rfl)
theorem dX0_undo_21 : decode cX0_undo 21 = .ok (.iconst 4, 1) := dk_7 (dk_at dksX0_undo_0 21 rfl rfl)
theorem dX0_undo_22 : decode cX0_undo 22 = .ok (.dup2, 1) := dk_92 (dk_at dksX0_undo_0 22 rfl rfl)
theorem dX0_undo_23 : decode cX0_undo 23 = .ok (.iaload, 1) := dk_46 (dk_at dksX0_undo_0 23 rfl rfl)
theorem dX0_undo_24 : decode cX0_undo 24 = .ok (.iconst 1, 1) := dk_4 (dk_at dksX0_undo_1 0 rfl rfl)
theorem dX0_undo_25 : decode cX0_undo 25 = .ok (.isub, 1) := dk_100 (dk_at dksX0_undo_1 1 rfl rfl)
theorem dX0_undo_26 : decode cX0_undo 26 = .ok (.iastore, 1) := dk_79 (dk_at dksX0_undo_1 2 rfl rfl)
theorem dX0_undo_27 : decode cX0_undo 27 = .ok (.aload_n 0, 1) := dk_42 (dk_at dksX0_undo_1 3 rfl rfl)
theorem dX0_undo_28 : decode cX0_undo 28 = .ok (.getfield 12, 3) := dk_180 0 12 (dk_at dksX0_undo_1 4 rfl rfl)
theorem dX0_undo_31 : decode cX0_undo 31 = .ok (.getfield 87, 3) := dk_180 0 87 (dk_at dksX0_undo_1 7 rfl rfl)
theorem dX0_undo_34 : decode cX0_undo 34 = .ok (.aload_n 0, 1) := dk_42 (dk_at dksX0_undo_1 10 rfl rfl)
theorem dX0_undo_35 : decode cX0_undo 35 = .ok (.getfield 12, 3) := dk_180 0 12 (dk_at dksX0_undo_1 11 rfl rfl)
theorem dX0_undo_38 : decode cX0_undo 38 = .ok (.getfield 66, 3) := dk_180 0 66 (dk_at dksX0_undo_1 14 rfl rfl)
theorem dX0_undo_41 : decode cX0_undo 41 = .ok (.iconst 4, 1) := dk_7 (dk_at dksX0_undo_1 17 rfl rfl)
theorem dX0_undo_42 : decode cX0_undo 42 = .ok (.iaload, 1) := dk_46 (dk_at dksX0_undo_1 18 rfl rfl)
theorem dX0_undo_43 : decode cX0_undo 43 = .ok (.aaload, 1) := dk_50 (dk_at dksX0_undo_1 19 rfl rfl)
theorem dX0_undo_44 : decode cX0_undo 44 = .ok (.aload_n 0, 1) := dk_42 (dk_at dksX0_undo_1 20 rfl rfl)
theorem dX0_undo_45 : decode cX0_undo 45 = .ok (.getfield 12, 3) := dk_180 0 12 (dk_at dksX0_undo_1 21 rfl rfl)
theorem dX0_undo_48 : decode cX0_undo 48 = .ok (.getfield 73, 3) := dk_180 0 73 (dk_at dksX0_undo_2 0 rfl rfl)
theorem dX0_undo_51 : decode cX0_undo 51 = .ok (.invokestatic 83, 3) := dk_184 0 83 (dk_at dksX0_undo_2 3 rfl rfl)
theorem dX0_undo_54 : decode cX0_undo 54 = .ok (.aload_n 0, 1) := dk_42 (dk_at dksX0_undo_2 6 rfl rfl)
theorem dX0_undo_55 : decode cX0_undo 55 = .ok (.getfield 12, 3) := dk_180 0 12 (dk_at dksX0_undo_2 7 rfl rfl)
theorem dX0_undo_58 : decode cX0_undo 58 = .ok (.getfield 66, 3) := dk_180 0 66 (dk_at dksX0_undo_2 10 rfl rfl)
theorem dX0_undo_61 : decode cX0_undo 61 = .ok (.iconst 4, 1) := dk_7 (dk_at dksX0_undo_2 13 rfl rfl)
theorem dX0_undo_62 : decode cX0_undo 62 = .ok (.iaload, 1) := dk_46 (dk_at dksX0_undo_2 14 rfl rfl)
theorem dX0_undo_63 : decode cX0_undo 63 = .ok (.ireturn, 1) := dk_172 (dk_at dksX0_undo_2 15 rfl rfl)
abbrev cX0_of : ByteArray := prog_1_method_37_code
def yX0_of : MethodName := ⟨RX0, "of", "(II)I"⟩
def dkwX0_of_4 : List UInt8 := [172, 42, 180, 0, 12, 180, 0, 80, 27, 50, 5, 46, 172, 2, 172]
abbrev dktX0_of_4 : List UInt8 := dkwX0_of_4 ++ []
def dkwX0_of_3 : List UInt8 := [42, 180, 0, 12, 180, 0, 73, 3, 27, 96, 46, 172, 42, 180, 0, 12, 180, 0, 73, 16, 6, 27, 96, 46]
abbrev dktX0_of_3 : List UInt8 := dkwX0_of_3 ++ dktX0_of_4
def dkwX0_of_2 : List UInt8 := [42, 180, 0, 12, 180, 0, 80, 27, 50, 3, 46, 172, 42, 180, 0, 12, 180, 0, 80, 27, 50, 4, 46, 172]
abbrev dktX0_of_2 : List UInt8 := dkwX0_of_2 ++ dktX0_of_3
def dkwX0_of_1 : List UInt8 := [170, 0, 0, 0, 94, 0, 0, 0, 0, 0, 0, 0, 4, 0, 0, 0, 33, 0, 0, 0, 45, 0, 0, 0, 57, 0, 0, 0, 69, 0, 0, 0, 82]
abbrev dktX0_of_1 : List UInt8 := dkwX0_of_1 ++ dktX0_of_2
def dkwX0_of_0 : List UInt8 := [42, 27, 182, 0, 90, 154, 0, 5, 2, 172, 28]
abbrev dktX0_of_0 : List UInt8 := dkwX0_of_0 ++ dktX0_of_1
theorem dksX0_of_0 : cX0_of.data.toList.drop 0 = dktX0_of_0 := by decide +kernel
theorem dksX0_of_1 : cX0_of.data.toList.drop 11 = dktX0_of_1 := dk_seg dksX0_of_0 11 rfl rfl
theorem dksX0_of_2 : cX0_of.data.toList.drop 44 = dktX0_of_2 := dk_seg dksX0_of_1 33 rfl rfl
theorem dksX0_of_3 : cX0_of.data.toList.drop 68 = dktX0_of_3 := dk_seg dksX0_of_2 24 rfl rfl
theorem dksX0_of_4 : cX0_of.data.toList.drop 92 = dktX0_of_4 := dk_seg dksX0_of_3 24 rfl rfl
theorem dX0_of_0 : decode cX0_of 0 = .ok (.aload_n 0, 1) := dk_42 (dk_at dksX0_of_0 0 rfl rfl)
theorem dX0_of_1 : decode cX0_of 1 = .ok (.iload_n 1, 1) := dk_27 (dk_at dksX0_of_0 1 rfl rfl)
theorem dX0_of_2 : decode cX0_of 2 = .ok (.invokevirtual 90, 3) := dk_182 0 90 (dk_at dksX0_of_0 2 rfl rfl)
theorem dX0_of_5 : decode cX0_of 5 = .ok (.ifCond .ne 5, 3) := dk_154 0 5 (dk_at dksX0_of_0 5 rfl rfl)
theorem dX0_of_8 : decode cX0_of 8 = .ok (.iconst (-1), 1) := dk_2 (dk_at dksX0_of_0 8 rfl rfl)
theorem dX0_of_9 : decode cX0_of 9 = .ok (.ireturn, 1) := dk_172 (dk_at dksX0_of_0 9 rfl rfl)
theorem dX0_of_10 : decode cX0_of 10 = .ok (.iload_n 2, 1) := dk_28 (dk_at dksX0_of_0 10 rfl rfl)
theorem dX0_of_11 : decode cX0_of 11 = .ok (.tableswitch 94 0 4 #[33, 45, 57, 69, 82], 33) := by decide +kernel
theorem dX0_of_44 : decode cX0_of 44 = .ok (.aload_n 0, 1) := dk_42 (dk_at dksX0_of_2 0 rfl rfl)
theorem dX0_of_45 : decode cX0_of 45 = .ok (.getfield 12, 3) := dk_180 0 12 (dk_at dksX0_of_2 1 rfl rfl)
theorem dX0_of_48 : decode cX0_of 48 = .ok (.getfield 80, 3) := dk_180 0 80 (dk_at dksX0_of_2 4 rfl rfl)
theorem dX0_of_51 : decode cX0_of 51 = .ok (.iload_n 1, 1) := dk_27 (dk_at dksX0_of_2 7 rfl rfl)
theorem dX0_of_52 : decode cX0_of 52 = .ok (.aaload, 1) := dk_50 (dk_at dksX0_of_2 8 rfl rfl)
theorem dX0_of_53 : decode cX0_of 53 = .ok (.iconst 0, 1) := dk_3 (dk_at dksX0_of_2 9 rfl rfl)
theorem dX0_of_54 : decode cX0_of 54 = .ok (.iaload, 1) := dk_46 (dk_at dksX0_of_2 10 rfl rfl)
theorem dX0_of_55 : decode cX0_of 55 = .ok (.ireturn, 1) := dk_172 (dk_at dksX0_of_2 11 rfl rfl)
theorem dX0_of_56 : decode cX0_of 56 = .ok (.aload_n 0, 1) := dk_42 (dk_at dksX0_of_2 12 rfl rfl)
theorem dX0_of_57 : decode cX0_of 57 = .ok (.getfield 12, 3) := dk_180 0 12 (dk_at dksX0_of_2 13 rfl rfl)
theorem dX0_of_60 : decode cX0_of 60 = .ok (.getfield 80, 3) := dk_180 0 80 (dk_at dksX0_of_2 16 rfl rfl)
theorem dX0_of_63 : decode cX0_of 63 = .ok (.iload_n 1, 1) := dk_27 (dk_at dksX0_of_2 19 rfl rfl)
theorem dX0_of_64 : decode cX0_of 64 = .ok (.aaload, 1) := dk_50 (dk_at dksX0_of_2 20 rfl rfl)
theorem dX0_of_65 : decode cX0_of 65 = .ok (.iconst 1, 1) := dk_4 (dk_at dksX0_of_2 21 rfl rfl)
theorem dX0_of_66 : decode cX0_of 66 = .ok (.iaload, 1) := dk_46 (dk_at dksX0_of_2 22 rfl rfl)
theorem dX0_of_67 : decode cX0_of 67 = .ok (.ireturn, 1) := dk_172 (dk_at dksX0_of_2 23 rfl rfl)
theorem dX0_of_68 : decode cX0_of 68 = .ok (.aload_n 0, 1) := dk_42 (dk_at dksX0_of_3 0 rfl rfl)
theorem dX0_of_69 : decode cX0_of 69 = .ok (.getfield 12, 3) := dk_180 0 12 (dk_at dksX0_of_3 1 rfl rfl)
theorem dX0_of_72 : decode cX0_of 72 = .ok (.getfield 73, 3) := dk_180 0 73 (dk_at dksX0_of_3 4 rfl rfl)
theorem dX0_of_75 : decode cX0_of 75 = .ok (.iconst 0, 1) := dk_3 (dk_at dksX0_of_3 7 rfl rfl)
theorem dX0_of_76 : decode cX0_of 76 = .ok (.iload_n 1, 1) := dk_27 (dk_at dksX0_of_3 8 rfl rfl)
theorem dX0_of_77 : decode cX0_of 77 = .ok (.iadd, 1) := dk_96 (dk_at dksX0_of_3 9 rfl rfl)
theorem dX0_of_78 : decode cX0_of 78 = .ok (.iaload, 1) := dk_46 (dk_at dksX0_of_3 10 rfl rfl)
theorem dX0_of_79 : decode cX0_of 79 = .ok (.ireturn, 1) := dk_172 (dk_at dksX0_of_3 11 rfl rfl)
theorem dX0_of_80 : decode cX0_of 80 = .ok (.aload_n 0, 1) := dk_42 (dk_at dksX0_of_3 12 rfl rfl)
theorem dX0_of_81 : decode cX0_of 81 = .ok (.getfield 12, 3) := dk_180 0 12 (dk_at dksX0_of_3 13 rfl rfl)
theorem dX0_of_84 : decode cX0_of 84 = .ok (.getfield 73, 3) := dk_180 0 73 (dk_at dksX0_of_3 16 rfl rfl)
theorem dX0_of_87 : decode cX0_of 87 = .ok (.bipush 6, 2) := dk_16 6 (dk_at dksX0_of_3 19 rfl rfl)
theorem dX0_of_89 : decode cX0_of 89 = .ok (.iload_n 1, 1) := dk_27 (dk_at dksX0_of_3 21 rfl rfl)
theorem dX0_of_90 : decode cX0_of 90 = .ok (.iadd, 1) := dk_96 (dk_at dksX0_of_3 22 rfl rfl)
theorem dX0_of_91 : decode cX0_of 91 = .ok (.iaload, 1) := dk_46 (dk_at dksX0_of_3 23 rfl rfl)
theorem dX0_of_92 : decode cX0_of 92 = .ok (.ireturn, 1) := dk_172 (dk_at dksX0_of_4 0 rfl rfl)
theorem dX0_of_93 : decode cX0_of 93 = .ok (.aload_n 0, 1) := dk_42 (dk_at dksX0_of_4 1 rfl rfl)
theorem dX0_of_94 : decode cX0_of 94 = .ok (.getfield 12, 3) := dk_180 0 12 (dk_at dksX0_of_4 2 rfl rfl)
theorem dX0_of_97 : decode cX0_of 97 = .ok (.getfield 80, 3) := dk_180 0 80 (dk_at dksX0_of_4 5 rfl rfl)
theorem dX0_of_100 : decode cX0_of 100 = .ok (.iload_n 1, 1) := dk_27 (dk_at dksX0_of_4 8 rfl rfl)
theorem dX0_of_101 : decode cX0_of 101 = .ok (.aaload, 1) := dk_50 (dk_at dksX0_of_4 9 rfl rfl)
theorem dX0_of_102 : decode cX0_of 102 = .ok (.iconst 2, 1) := dk_5 (dk_at dksX0_of_4 10 rfl rfl)
theorem dX0_of_103 : decode cX0_of 103 = .ok (.iaload, 1) := dk_46 (dk_at dksX0_of_4 11 rfl rfl)
theorem dX0_of_104 : decode cX0_of 104 = .ok (.ireturn, 1) := dk_172 (dk_at dksX0_of_4 12 rfl rfl)
theorem dX0_of_105 : decode cX0_of 105 = .ok (.iconst (-1), 1) := dk_2 (dk_at dksX0_of_4 13 rfl rfl)
theorem dX0_of_106 : decode cX0_of 106 = .ok (.ireturn, 1) := dk_172 (dk_at dksX0_of_4 14 rfl rfl)
abbrev cX0_piece : ByteArray := prog_1_method_38_code
def yX0_piece : MethodName := ⟨RX0, "piece", "(II)I"⟩
def dkwX0_piece_2 : List UInt8 := [182, 0, 176, 167, 0, 4, 2, 172]
abbrev dktX0_piece_2 : List UInt8 := dkwX0_piece_2 ++ []
def dkwX0_piece_1 : List UInt8 := [182, 0, 176, 172, 42, 28, 16, 10, 100, 182, 0, 90, 153, 0, 17, 42, 27, 7, 28, 96, 16, 10, 100]
abbrev dktX0_piece_1 : List UInt8 := dkwX0_piece_1 ++ dktX0_piece_2
def dkwX0_piece_0 : List UInt8 := [42, 27, 182, 0, 182, 154, 0, 5, 2, 172, 28, 3, 6, 184, 0, 69, 153, 0, 10, 42, 27, 28]
abbrev dktX0_piece_0 : List UInt8 := dkwX0_piece_0 ++ dktX0_piece_1
theorem dksX0_piece_0 : cX0_piece.data.toList.drop 0 = dktX0_piece_0 := by decide +kernel
theorem dksX0_piece_1 : cX0_piece.data.toList.drop 22 = dktX0_piece_1 := dk_seg dksX0_piece_0 22 rfl rfl
theorem dksX0_piece_2 : cX0_piece.data.toList.drop 45 = dktX0_piece_2 := dk_seg dksX0_piece_1 23 rfl rfl
theorem dX0_piece_0 : decode cX0_piece 0 = .ok (.aload_n 0, 1) := dk_42 (dk_at dksX0_piece_0 0 rfl rfl)
theorem dX0_piece_1 : decode cX0_piece 1 = .ok (.iload_n 1, 1) := dk_27 (dk_at dksX0_piece_0 1 rfl rfl)
theorem dX0_piece_2 : decode cX0_piece 2 = .ok (.invokevirtual 182, 3) := dk_182 0 182 (dk_at dksX0_piece_0 2 rfl rfl)
theorem dX0_piece_5 : decode cX0_piece 5 = .ok (.ifCond .ne 5, 3) := dk_154 0 5 (dk_at dksX0_piece_0 5 rfl rfl)
theorem dX0_piece_8 : decode cX0_piece 8 = .ok (.iconst (-1), 1) := dk_2 (dk_at dksX0_piece_0 8 rfl rfl)
theorem dX0_piece_9 : decode cX0_piece 9 = .ok (.ireturn, 1) := dk_172 (dk_at dksX0_piece_0 9 rfl rfl)
theorem dX0_piece_10 : decode cX0_piece 10 = .ok (.iload_n 2, 1) := dk_28 (dk_at dksX0_piece_0 10 rfl rfl)
theorem dX0_piece_11 : decode cX0_piece 11 = .ok (.iconst 0, 1) := dk_3 (dk_at dksX0_piece_0 11 rfl rfl)
theorem dX0_piece_12 : decode cX0_piece 12 = .ok (.iconst 3, 1) := dk_6 (dk_at dksX0_piece_0 12 rfl rfl)
theorem dX0_piece_13 : decode cX0_piece 13 = .ok (.invokestatic 69, 3) := dk_184 0 69 (dk_at dksX0_piece_0 13 rfl rfl)
theorem dX0_piece_16 : decode cX0_piece 16 = .ok (.ifCond .eq 10, 3) := dk_153 0 10 (dk_at dksX0_piece_0 16 rfl rfl)
theorem dX0_piece_19 : decode cX0_piece 19 = .ok (.aload_n 0, 1) := dk_42 (dk_at dksX0_piece_0 19 rfl rfl)
theorem dX0_piece_20 : decode cX0_piece 20 = .ok (.iload_n 1, 1) := dk_27 (dk_at dksX0_piece_0 20 rfl rfl)
theorem dX0_piece_21 : decode cX0_piece 21 = .ok (.iload_n 2, 1) := dk_28 (dk_at dksX0_piece_0 21 rfl rfl)
theorem dX0_piece_22 : decode cX0_piece 22 = .ok (.invokevirtual 176, 3) := dk_182 0 176 (dk_at dksX0_piece_1 0 rfl rfl)
theorem dX0_piece_25 : decode cX0_piece 25 = .ok (.ireturn, 1) := dk_172 (dk_at dksX0_piece_1 3 rfl rfl)
theorem dX0_piece_26 : decode cX0_piece 26 = .ok (.aload_n 0, 1) := dk_42 (dk_at dksX0_piece_1 4 rfl rfl)
theorem dX0_piece_27 : decode cX0_piece 27 = .ok (.iload_n 2, 1) := dk_28 (dk_at dksX0_piece_1 5 rfl rfl)
theorem dX0_piece_28 : decode cX0_piece 28 = .ok (.bipush 10, 2) := dk_16 10 (dk_at dksX0_piece_1 6 rfl rfl)
theorem dX0_piece_30 : decode cX0_piece 30 = .ok (.isub, 1) := dk_100 (dk_at dksX0_piece_1 8 rfl rfl)
theorem dX0_piece_31 : decode cX0_piece 31 = .ok (.invokevirtual 90, 3) := dk_182 0 90 (dk_at dksX0_piece_1 9 rfl rfl)
theorem dX0_piece_34 : decode cX0_piece 34 = .ok (.ifCond .eq 17, 3) := dk_153 0 17 (dk_at dksX0_piece_1 12 rfl rfl)
theorem dX0_piece_37 : decode cX0_piece 37 = .ok (.aload_n 0, 1) := dk_42 (dk_at dksX0_piece_1 15 rfl rfl)
theorem dX0_piece_38 : decode cX0_piece 38 = .ok (.iload_n 1, 1) := dk_27 (dk_at dksX0_piece_1 16 rfl rfl)
theorem dX0_piece_39 : decode cX0_piece 39 = .ok (.iconst 4, 1) := dk_7 (dk_at dksX0_piece_1 17 rfl rfl)
theorem dX0_piece_40 : decode cX0_piece 40 = .ok (.iload_n 2, 1) := dk_28 (dk_at dksX0_piece_1 18 rfl rfl)
theorem dX0_piece_41 : decode cX0_piece 41 = .ok (.iadd, 1) := dk_96 (dk_at dksX0_piece_1 19 rfl rfl)
theorem dX0_piece_42 : decode cX0_piece 42 = .ok (.bipush 10, 2) := dk_16 10 (dk_at dksX0_piece_1 20 rfl rfl)
theorem dX0_piece_44 : decode cX0_piece 44 = .ok (.isub, 1) := dk_100 (dk_at dksX0_piece_1 22 rfl rfl)
theorem dX0_piece_45 : decode cX0_piece 45 = .ok (.invokevirtual 176, 3) := dk_182 0 176 (dk_at dksX0_piece_2 0 rfl rfl)
theorem dX0_piece_48 : decode cX0_piece 48 = .ok (.goto 4, 3) := dk_167 0 4 (dk_at dksX0_piece_2 3 rfl rfl)
theorem dX0_piece_51 : decode cX0_piece 51 = .ok (.iconst (-1), 1) := dk_2 (dk_at dksX0_piece_2 6 rfl rfl)
theorem dX0_piece_52 : decode cX0_piece 52 = .ok (.ireturn, 1) := dk_172 (dk_at dksX0_piece_2 7 rfl rfl)
abbrev cX0_bubble : ByteArray := prog_1_method_39_code
def yX0_bubble : MethodName := ⟨RX0, "bubble", "(II)I"⟩
def dkwX0_bubble_2 : List UInt8 := [180, 0, 12, 180, 0, 73, 16, 115, 7, 27, 104, 96, 28, 96, 46, 167, 0, 4, 2, 172]
abbrev dktX0_bubble_2 : List UInt8 := dkwX0_bubble_2 ++ []
def dkwX0_bubble_1 : List UInt8 := [180, 0, 73, 16, 114, 46, 4, 100, 184, 0, 69, 153, 0, 31, 28, 3, 6, 184, 0, 69, 153, 0, 22, 42]
abbrev dktX0_bubble_1 : List UInt8 := dkwX0_bubble_1 ++ dktX0_bubble_2
def dkwX0_bubble_0 : List UInt8 := [27, 2, 160, 0, 14, 42, 180, 0, 12, 180, 0, 73, 16, 114, 46, 172, 27, 3, 42, 180, 0, 12]
abbrev dktX0_bubble_0 : List UInt8 := dkwX0_bubble_0 ++ dktX0_bubble_1
theorem dksX0_bubble_0 : cX0_bubble.data.toList.drop 0 = dktX0_bubble_0 := by decide +kernel
theorem dksX0_bubble_1 : cX0_bubble.data.toList.drop 22 = dktX0_bubble_1 := dk_seg dksX0_bubble_0 22 rfl rfl
theorem dksX0_bubble_2 : cX0_bubble.data.toList.drop 46 = dktX0_bubble_2 := dk_seg dksX0_bubble_1 24 rfl rfl
theorem dX0_bubble_0 : decode cX0_bubble 0 = .ok (.iload_n 1, 1) := dk_27 (dk_at dksX0_bubble_0 0 rfl rfl)
theorem dX0_bubble_1 : decode cX0_bubble 1 = .ok (.iconst (-1), 1) := dk_2 (dk_at dksX0_bubble_0 1 rfl rfl)
theorem dX0_bubble_2 : decode cX0_bubble 2 = .ok (.if_icmp .ne 14, 3) := dk_160 0 14 (dk_at dksX0_bubble_0 2 rfl rfl)
theorem dX0_bubble_5 : decode cX0_bubble 5 = .ok (.aload_n 0, 1) := dk_42 (dk_at dksX0_bubble_0 5 rfl rfl)
theorem dX0_bubble_6 : decode cX0_bubble 6 = .ok (.getfield 12, 3) := dk_180 0 12 (dk_at dksX0_bubble_0 6 rfl rfl)
theorem dX0_bubble_9 : decode cX0_bubble 9 = .ok (.getfield 73, 3) := dk_180 0 73 (dk_at dksX0_bubble_0 9 rfl rfl)
theorem dX0_bubble_12 : decode cX0_bubble 12 = .ok (.bipush 114, 2) := dk_16 114 (dk_at dksX0_bubble_0 12 rfl rfl)
theorem dX0_bubble_14 : decode cX0_bubble 14 = .ok (.iaload, 1) := dk_46 (dk_at dksX0_bubble_0 14 rfl rfl)
theorem dX0_bubble_15 : decode cX0_bubble 15 = .ok (.ireturn, 1) := dk_172 (dk_at dksX0_bubble_0 15 rfl rfl)
theorem dX0_bubble_16 : decode cX0_bubble 16 = .ok (.iload_n 1, 1) := dk_27 (dk_at dksX0_bubble_0 16 rfl rfl)
theorem dX0_bubble_17 : decode cX0_bubble 17 = .ok (.iconst 0, 1) := dk_3 (dk_at dksX0_bubble_0 17 rfl rfl)
theorem dX0_bubble_18 : decode cX0_bubble 18 = .ok (.aload_n 0, 1) := dk_42 (dk_at dksX0_bubble_0 18 rfl rfl)
theorem dX0_bubble_19 : decode cX0_bubble 19 = .ok (.getfield 12, 3) := dk_180 0 12 (dk_at dksX0_bubble_0 19 rfl rfl)
theorem dX0_bubble_22 : decode cX0_bubble 22 = .ok (.getfield 73, 3) := dk_180 0 73 (dk_at dksX0_bubble_1 0 rfl rfl)
theorem dX0_bubble_25 : decode cX0_bubble 25 = .ok (.bipush 114, 2) := dk_16 114 (dk_at dksX0_bubble_1 3 rfl rfl)
theorem dX0_bubble_27 : decode cX0_bubble 27 = .ok (.iaload, 1) := dk_46 (dk_at dksX0_bubble_1 5 rfl rfl)
theorem dX0_bubble_28 : decode cX0_bubble 28 = .ok (.iconst 1, 1) := dk_4 (dk_at dksX0_bubble_1 6 rfl rfl)
theorem dX0_bubble_29 : decode cX0_bubble 29 = .ok (.isub, 1) := dk_100 (dk_at dksX0_bubble_1 7 rfl rfl)
theorem dX0_bubble_30 : decode cX0_bubble 30 = .ok (.invokestatic 69, 3) := dk_184 0 69 (dk_at dksX0_bubble_1 8 rfl rfl)
theorem dX0_bubble_33 : decode cX0_bubble 33 = .ok (.ifCond .eq 31, 3) := dk_153 0 31 (dk_at dksX0_bubble_1 11 rfl rfl)
theorem dX0_bubble_36 : decode cX0_bubble 36 = .ok (.iload_n 2, 1) := dk_28 (dk_at dksX0_bubble_1 14 rfl rfl)
theorem dX0_bubble_37 : decode cX0_bubble 37 = .ok (.iconst 0, 1) := dk_3 (dk_at dksX0_bubble_1 15 rfl rfl)
theorem dX0_bubble_38 : decode cX0_bubble 38 = .ok (.iconst 3, 1) := dk_6 (dk_at dksX0_bubble_1 16 rfl rfl)
theorem dX0_bubble_39 : decode cX0_bubble 39 = .ok (.invokestatic 69, 3) := dk_184 0 69 (dk_at dksX0_bubble_1 17 rfl rfl)
theorem dX0_bubble_42 : decode cX0_bubble 42 = .ok (.ifCond .eq 22, 3) := dk_153 0 22 (dk_at dksX0_bubble_1 20 rfl rfl)
theorem dX0_bubble_45 : decode cX0_bubble 45 = .ok (.aload_n 0, 1) := dk_42 (dk_at dksX0_bubble_1 23 rfl rfl)
theorem dX0_bubble_46 : decode cX0_bubble 46 = .ok (.getfield 12, 3) := dk_180 0 12 (dk_at dksX0_bubble_2 0 rfl rfl)
theorem dX0_bubble_49 : decode cX0_bubble 49 = .ok (.getfield 73, 3) := dk_180 0 73 (dk_at dksX0_bubble_2 3 rfl rfl)
theorem dX0_bubble_52 : decode cX0_bubble 52 = .ok (.bipush 115, 2) := dk_16 115 (dk_at dksX0_bubble_2 6 rfl rfl)
theorem dX0_bubble_54 : decode cX0_bubble 54 = .ok (.iconst 4, 1) := dk_7 (dk_at dksX0_bubble_2 8 rfl rfl)
theorem dX0_bubble_55 : decode cX0_bubble 55 = .ok (.iload_n 1, 1) := dk_27 (dk_at dksX0_bubble_2 9 rfl rfl)
theorem dX0_bubble_56 : decode cX0_bubble 56 = .ok (.imul, 1) := dk_104 (dk_at dksX0_bubble_2 10 rfl rfl)
theorem dX0_bubble_57 : decode cX0_bubble 57 = .ok (.iadd, 1) := dk_96 (dk_at dksX0_bubble_2 11 rfl rfl)
theorem dX0_bubble_58 : decode cX0_bubble 58 = .ok (.iload_n 2, 1) := dk_28 (dk_at dksX0_bubble_2 12 rfl rfl)
theorem dX0_bubble_59 : decode cX0_bubble 59 = .ok (.iadd, 1) := dk_96 (dk_at dksX0_bubble_2 13 rfl rfl)
theorem dX0_bubble_60 : decode cX0_bubble 60 = .ok (.iaload, 1) := dk_46 (dk_at dksX0_bubble_2 14 rfl rfl)
theorem dX0_bubble_61 : decode cX0_bubble 61 = .ok (.goto 4, 3) := dk_167 0 4 (dk_at dksX0_bubble_2 15 rfl rfl)
theorem dX0_bubble_64 : decode cX0_bubble 64 = .ok (.iconst (-1), 1) := dk_2 (dk_at dksX0_bubble_2 18 rfl rfl)
theorem dX0_bubble_65 : decode cX0_bubble 65 = .ok (.ireturn, 1) := dk_172 (dk_at dksX0_bubble_2 19 rfl rfl)
abbrev cX0_odds : ByteArray := prog_1_method_42_code
def yX0_odds : MethodName := ⟨RX0, "odds", "(II)J"⟩
def dkwX0_odds_5 : List UInt8 := [55, 7, 28, 154, 0, 10, 33, 22, 7, 109, 167, 0, 8, 22, 5, 22, 7, 109, 173]
abbrev dktX0_odds_5 : List UInt8 := dkwX0_odds_5 ++ []
def dkwX0_odds_4 : List UInt8 := [100, 133, 105, 66, 22, 5, 20, 0, 255, 105, 55, 5, 132, 7, 1, 167, 255, 190, 22, 5, 33, 184, 0, 247]
abbrev dktX0_odds_4 : List UInt8 := dkwX0_odds_4 ++ dktX0_odds_5
def dkwX0_odds_3 : List UInt8 := [42, 21, 7, 4, 182, 0, 176, 4, 159, 0, 7, 20, 0, 250, 173, 33, 16, 10, 42, 21, 7, 182, 0, 252]
abbrev dktX0_odds_3 : List UInt8 := dkwX0_odds_3 ++ dktX0_odds_4
def dkwX0_odds_2 : List UInt8 := [180, 0, 12, 180, 0, 73, 16, 112, 46, 162, 0, 57, 27, 21, 7, 122, 4, 126, 154, 0, 6, 167, 0, 39]
abbrev dktX0_odds_2 : List UInt8 := dkwX0_odds_2 ++ dktX0_odds_3
def dkwX0_odds_1 : List UInt8 := [4, 184, 0, 69, 154, 0, 7, 20, 0, 250, 173, 10, 66, 10, 55, 5, 3, 54, 7, 21, 7, 42]
abbrev dktX0_odds_1 : List UInt8 := dkwX0_odds_1 ++ dktX0_odds_2
def dkwX0_odds_0 : List UInt8 := [27, 3, 4, 42, 180, 0, 12, 180, 0, 73, 16, 112, 46, 120, 4, 100, 184, 0, 69, 153, 0, 12, 28, 3]
abbrev dktX0_odds_0 : List UInt8 := dkwX0_odds_0 ++ dktX0_odds_1
theorem dksX0_odds_0 : cX0_odds.data.toList.drop 0 = dktX0_odds_0 := by decide +kernel
theorem dksX0_odds_1 : cX0_odds.data.toList.drop 24 = dktX0_odds_1 := dk_seg dksX0_odds_0 24 rfl rfl
theorem dksX0_odds_2 : cX0_odds.data.toList.drop 46 = dktX0_odds_2 := dk_seg dksX0_odds_1 22 rfl rfl
theorem dksX0_odds_3 : cX0_odds.data.toList.drop 70 = dktX0_odds_3 := dk_seg dksX0_odds_2 24 rfl rfl
theorem dksX0_odds_4 : cX0_odds.data.toList.drop 94 = dktX0_odds_4 := dk_seg dksX0_odds_3 24 rfl rfl
theorem dksX0_odds_5 : cX0_odds.data.toList.drop 118 = dktX0_odds_5 := dk_seg dksX0_odds_4 24 rfl rfl
theorem dX0_odds_0 : decode cX0_odds 0 = .ok (.iload_n 1, 1) := dk_27 (dk_at dksX0_odds_0 0 rfl rfl)
theorem dX0_odds_1 : decode cX0_odds 1 = .ok (.iconst 0, 1) := dk_3 (dk_at dksX0_odds_0 1 rfl rfl)
theorem dX0_odds_2 : decode cX0_odds 2 = .ok (.iconst 1, 1) := dk_4 (dk_at dksX0_odds_0 2 rfl rfl)
theorem dX0_odds_3 : decode cX0_odds 3 = .ok (.aload_n 0, 1) := dk_42 (dk_at dksX0_odds_0 3 rfl rfl)
theorem dX0_odds_4 : decode cX0_odds 4 = .ok (.getfield 12, 3) := dk_180 0 12 (dk_at dksX0_odds_0 4 rfl rfl)
theorem dX0_odds_7 : decode cX0_odds 7 = .ok (.getfield 73, 3) := dk_180 0 73 (dk_at dksX0_odds_0 7 rfl rfl)
theorem dX0_odds_10 : decode cX0_odds 10 = .ok (.bipush 112, 2) := dk_16 112 (dk_at dksX0_odds_0 10 rfl rfl)
theorem dX0_odds_12 : decode cX0_odds 12 = .ok (.iaload, 1) := dk_46 (dk_at dksX0_odds_0 12 rfl rfl)
theorem dX0_odds_13 : decode cX0_odds 13 = .ok (.ishl, 1) := dk_120 (dk_at dksX0_odds_0 13 rfl rfl)
theorem dX0_odds_14 : decode cX0_odds 14 = .ok (.iconst 1, 1) := dk_4 (dk_at dksX0_odds_0 14 rfl rfl)
theorem dX0_odds_15 : decode cX0_odds 15 = .ok (.isub, 1) := dk_100 (dk_at dksX0_odds_0 15 rfl rfl)
theorem dX0_odds_16 : decode cX0_odds 16 = .ok (.invokestatic 69, 3) := dk_184 0 69 (dk_at dksX0_odds_0 16 rfl rfl)
theorem dX0_odds_19 : decode cX0_odds 19 = .ok (.ifCond .eq 12, 3) := dk_153 0 12 (dk_at dksX0_odds_0 19 rfl rfl)
theorem dX0_odds_22 : decode cX0_odds 22 = .ok (.iload_n 2, 1) := dk_28 (dk_at dksX0_odds_0 22 rfl rfl)
theorem dX0_odds_23 : decode cX0_odds 23 = .ok (.iconst 0, 1) := dk_3 (dk_at dksX0_odds_0 23 rfl rfl)
theorem dX0_odds_24 : decode cX0_odds 24 = .ok (.iconst 1, 1) := dk_4 (dk_at dksX0_odds_1 0 rfl rfl)
theorem dX0_odds_25 : decode cX0_odds 25 = .ok (.invokestatic 69, 3) := dk_184 0 69 (dk_at dksX0_odds_1 1 rfl rfl)
theorem dX0_odds_28 : decode cX0_odds 28 = .ok (.ifCond .ne 7, 3) := dk_154 0 7 (dk_at dksX0_odds_1 4 rfl rfl)
theorem dX0_odds_31 : decode cX0_odds 31 = .ok (.ldc2_w 250, 3) := dk_20 0 250 (dk_at dksX0_odds_1 7 rfl rfl)
theorem dX0_odds_34 : decode cX0_odds 34 = .ok (.lreturn, 1) := dk_173 (dk_at dksX0_odds_1 10 rfl rfl)
theorem dX0_odds_35 : decode cX0_odds 35 = .ok (.lconst 1, 1) := dk_10 (dk_at dksX0_odds_1 11 rfl rfl)
theorem dX0_odds_36 : decode cX0_odds 36 = .ok (.lstore_n 3, 1) := dk_66 (dk_at dksX0_odds_1 12 rfl rfl)
theorem dX0_odds_37 : decode cX0_odds 37 = .ok (.lconst 1, 1) := dk_10 (dk_at dksX0_odds_1 13 rfl rfl)
theorem dX0_odds_38 : decode cX0_odds 38 = .ok (.lstore 5, 2) := dk_55 5 (dk_at dksX0_odds_1 14 rfl rfl)
theorem dX0_odds_40 : decode cX0_odds 40 = .ok (.iconst 0, 1) := dk_3 (dk_at dksX0_odds_1 16 rfl rfl)
theorem dX0_odds_41 : decode cX0_odds 41 = .ok (.istore 7, 2) := dk_54 7 (dk_at dksX0_odds_1 17 rfl rfl)
theorem dX0_odds_43 : decode cX0_odds 43 = .ok (.iload 7, 2) := dk_21 7 (dk_at dksX0_odds_1 19 rfl rfl)
theorem dX0_odds_45 : decode cX0_odds 45 = .ok (.aload_n 0, 1) := dk_42 (dk_at dksX0_odds_1 21 rfl rfl)
theorem dX0_odds_46 : decode cX0_odds 46 = .ok (.getfield 12, 3) := dk_180 0 12 (dk_at dksX0_odds_2 0 rfl rfl)
theorem dX0_odds_49 : decode cX0_odds 49 = .ok (.getfield 73, 3) := dk_180 0 73 (dk_at dksX0_odds_2 3 rfl rfl)
theorem dX0_odds_52 : decode cX0_odds 52 = .ok (.bipush 112, 2) := dk_16 112 (dk_at dksX0_odds_2 6 rfl rfl)
theorem dX0_odds_54 : decode cX0_odds 54 = .ok (.iaload, 1) := dk_46 (dk_at dksX0_odds_2 8 rfl rfl)
theorem dX0_odds_55 : decode cX0_odds 55 = .ok (.if_icmp .ge 57, 3) := dk_162 0 57 (dk_at dksX0_odds_2 9 rfl rfl)
theorem dX0_odds_58 : decode cX0_odds 58 = .ok (.iload_n 1, 1) := dk_27 (dk_at dksX0_odds_2 12 rfl rfl)
theorem dX0_odds_59 : decode cX0_odds 59 = .ok (.iload 7, 2) := dk_21 7 (dk_at dksX0_odds_2 13 rfl rfl)
theorem dX0_odds_61 : decode cX0_odds 61 = .ok (.ishr, 1) := dk_122 (dk_at dksX0_odds_2 15 rfl rfl)
theorem dX0_odds_62 : decode cX0_odds 62 = .ok (.iconst 1, 1) := dk_4 (dk_at dksX0_odds_2 16 rfl rfl)
theorem dX0_odds_63 : decode cX0_odds 63 = .ok (.iand, 1) := dk_126 (dk_at dksX0_odds_2 17 rfl rfl)
theorem dX0_odds_64 : decode cX0_odds 64 = .ok (.ifCond .ne 6, 3) := dk_154 0 6 (dk_at dksX0_odds_2 18 rfl rfl)
theorem dX0_odds_67 : decode cX0_odds 67 = .ok (.goto 39, 3) := dk_167 0 39 (dk_at dksX0_odds_2 21 rfl rfl)
theorem dX0_odds_70 : decode cX0_odds 70 = .ok (.aload_n 0, 1) := dk_42 (dk_at dksX0_odds_3 0 rfl rfl)
theorem dX0_odds_71 : decode cX0_odds 71 = .ok (.iload 7, 2) := dk_21 7 (dk_at dksX0_odds_3 1 rfl rfl)
theorem dX0_odds_73 : decode cX0_odds 73 = .ok (.iconst 1, 1) := dk_4 (dk_at dksX0_odds_3 3 rfl rfl)
theorem dX0_odds_74 : decode cX0_odds 74 = .ok (.invokevirtual 176, 3) := dk_182 0 176 (dk_at dksX0_odds_3 4 rfl rfl)
theorem dX0_odds_77 : decode cX0_odds 77 = .ok (.iconst 1, 1) := dk_4 (dk_at dksX0_odds_3 7 rfl rfl)
theorem dX0_odds_78 : decode cX0_odds 78 = .ok (.if_icmp .eq 7, 3) := dk_159 0 7 (dk_at dksX0_odds_3 8 rfl rfl)
theorem dX0_odds_81 : decode cX0_odds 81 = .ok (.ldc2_w 250, 3) := dk_20 0 250 (dk_at dksX0_odds_3 11 rfl rfl)
theorem dX0_odds_84 : decode cX0_odds 84 = .ok (.lreturn, 1) := dk_173 (dk_at dksX0_odds_3 14 rfl rfl)
theorem dX0_odds_85 : decode cX0_odds 85 = .ok (.lload_n 3, 1) := dk_33 (dk_at dksX0_odds_3 15 rfl rfl)
theorem dX0_odds_86 : decode cX0_odds 86 = .ok (.bipush 10, 2) := dk_16 10 (dk_at dksX0_odds_3 16 rfl rfl)
theorem dX0_odds_88 : decode cX0_odds 88 = .ok (.aload_n 0, 1) := dk_42 (dk_at dksX0_odds_3 18 rfl rfl)
theorem dX0_odds_89 : decode cX0_odds 89 = .ok (.iload 7, 2) := dk_21 7 (dk_at dksX0_odds_3 19 rfl rfl)
theorem dX0_odds_91 : decode cX0_odds 91 = .ok (.invokevirtual 252, 3) := dk_182 0 252 (dk_at dksX0_odds_3 21 rfl rfl)
theorem dX0_odds_94 : decode cX0_odds 94 = .ok (.isub, 1) := dk_100 (dk_at dksX0_odds_4 0 rfl rfl)
theorem dX0_odds_95 : decode cX0_odds 95 = .ok (.i2l, 1) := dk_133 (dk_at dksX0_odds_4 1 rfl rfl)
theorem dX0_odds_96 : decode cX0_odds 96 = .ok (.lmul, 1) := dk_105 (dk_at dksX0_odds_4 2 rfl rfl)
theorem dX0_odds_97 : decode cX0_odds 97 = .ok (.lstore_n 3, 1) := dk_66 (dk_at dksX0_odds_4 3 rfl rfl)
theorem dX0_odds_98 : decode cX0_odds 98 = .ok (.lload 5, 2) := dk_22 5 (dk_at dksX0_odds_4 4 rfl rfl)
theorem dX0_odds_100 : decode cX0_odds 100 = .ok (.ldc2_w 255, 3) := dk_20 0 255 (dk_at dksX0_odds_4 6 rfl rfl)
theorem dX0_odds_103 : decode cX0_odds 103 = .ok (.lmul, 1) := dk_105 (dk_at dksX0_odds_4 9 rfl rfl)
theorem dX0_odds_104 : decode cX0_odds 104 = .ok (.lstore 5, 2) := dk_55 5 (dk_at dksX0_odds_4 10 rfl rfl)
theorem dX0_odds_106 : decode cX0_odds 106 = .ok (.iinc 7 1, 3) := dk_132 7 1 (dk_at dksX0_odds_4 12 rfl rfl)
theorem dX0_odds_109 : decode cX0_odds 109 = .ok (.goto (-66), 3) := dk_167 255 190 (dk_at dksX0_odds_4 15 rfl rfl)
theorem dX0_odds_112 : decode cX0_odds 112 = .ok (.lload 5, 2) := dk_22 5 (dk_at dksX0_odds_4 18 rfl rfl)
theorem dX0_odds_114 : decode cX0_odds 114 = .ok (.lload_n 3, 1) := dk_33 (dk_at dksX0_odds_4 20 rfl rfl)
theorem dX0_odds_115 : decode cX0_odds 115 = .ok (.invokestatic 247, 3) := dk_184 0 247 (dk_at dksX0_odds_4 21 rfl rfl)
theorem dX0_odds_118 : decode cX0_odds 118 = .ok (.lstore 7, 2) := dk_55 7 (dk_at dksX0_odds_5 0 rfl rfl)
theorem dX0_odds_120 : decode cX0_odds 120 = .ok (.iload_n 2, 1) := dk_28 (dk_at dksX0_odds_5 2 rfl rfl)
theorem dX0_odds_121 : decode cX0_odds 121 = .ok (.ifCond .ne 10, 3) := dk_154 0 10 (dk_at dksX0_odds_5 3 rfl rfl)
theorem dX0_odds_124 : decode cX0_odds 124 = .ok (.lload_n 3, 1) := dk_33 (dk_at dksX0_odds_5 6 rfl rfl)
theorem dX0_odds_125 : decode cX0_odds 125 = .ok (.lload 7, 2) := dk_22 7 (dk_at dksX0_odds_5 7 rfl rfl)
theorem dX0_odds_127 : decode cX0_odds 127 = .ok (.ldiv, 1) := dk_109 (dk_at dksX0_odds_5 9 rfl rfl)
theorem dX0_odds_128 : decode cX0_odds 128 = .ok (.goto 8, 3) := dk_167 0 8 (dk_at dksX0_odds_5 10 rfl rfl)
theorem dX0_odds_131 : decode cX0_odds 131 = .ok (.lload 5, 2) := dk_22 5 (dk_at dksX0_odds_5 13 rfl rfl)
theorem dX0_odds_133 : decode cX0_odds 133 = .ok (.lload 7, 2) := dk_22 7 (dk_at dksX0_odds_5 15 rfl rfl)
theorem dX0_odds_135 : decode cX0_odds 135 = .ok (.ldiv, 1) := dk_109 (dk_at dksX0_odds_5 17 rfl rfl)
theorem dX0_odds_136 : decode cX0_odds 136 = .ok (.lreturn, 1) := dk_173 (dk_at dksX0_odds_5 18 rfl rfl)
abbrev cX0_brittleOf : ByteArray := prog_1_method_40_code
def yX0_brittleOf : MethodName := ⟨RX0, "brittleOf", "(I)I"⟩
def dkwX0_brittleOf_6 : List UInt8 := [182, 0, 150, 172]
abbrev dktX0_brittleOf_6 : List UInt8 := dkwX0_brittleOf_6 ++ []
def dkwX0_brittleOf_5 : List UInt8 := [182, 0, 204, 42, 180, 0, 30, 16, 9, 29, 79, 42, 180, 0, 30, 16, 10, 28, 79, 42, 5, 16, 10, 3]
abbrev dktX0_brittleOf_5 : List UInt8 := dkwX0_brittleOf_5 ++ dktX0_brittleOf_6
def dkwX0_brittleOf_4 : List UInt8 := [132, 4, 1, 167, 255, 169, 42, 180, 0, 30, 3, 42, 182, 0, 189, 79, 42, 42, 27, 3, 182, 0, 176]
abbrev dktX0_brittleOf_4 : List UInt8 := dkwX0_brittleOf_4 ++ dktX0_brittleOf_5
def dkwX0_brittleOf_3 : List UInt8 := [21, 4, 50, 5, 46, 21, 5, 122, 4, 126, 167, 0, 4, 3, 96, 62, 132, 5, 1, 167, 255, 210]
abbrev dktX0_brittleOf_3 : List UInt8 := dkwX0_brittleOf_3 ++ dktX0_brittleOf_4
def dkwX0_brittleOf_2 : List UInt8 := [162, 0, 45, 29, 42, 27, 7, 21, 5, 96, 182, 0, 176, 158, 0, 23, 42, 180, 0, 12, 180, 0, 80]
abbrev dktX0_brittleOf_2 : List UInt8 := dkwX0_brittleOf_2 ++ dktX0_brittleOf_3
def dkwX0_brittleOf_1 : List UInt8 := [21, 4, 96, 182, 0, 176, 154, 0, 6, 167, 0, 58, 132, 2, 1, 3, 54, 5, 21, 5, 21, 4]
abbrev dktX0_brittleOf_1 : List UInt8 := dkwX0_brittleOf_1 ++ dktX0_brittleOf_2
def dkwX0_brittleOf_0 : List UInt8 := [3, 61, 3, 62, 3, 54, 4, 21, 4, 42, 180, 0, 12, 180, 0, 66, 3, 46, 162, 0, 79, 42, 27, 7]
abbrev dktX0_brittleOf_0 : List UInt8 := dkwX0_brittleOf_0 ++ dktX0_brittleOf_1
theorem dksX0_brittleOf_0 : cX0_brittleOf.data.toList.drop 0 = dktX0_brittleOf_0 := by decide +kernel
theorem dksX0_brittleOf_1 : cX0_brittleOf.data.toList.drop 24 = dktX0_brittleOf_1 := dk_seg dksX0_brittleOf_0 24 rfl rfl
theorem dksX0_brittleOf_2 : cX0_brittleOf.data.toList.drop 46 = dktX0_brittleOf_2 := dk_seg dksX0_brittleOf_1 22 rfl rfl
theorem dksX0_brittleOf_3 : cX0_brittleOf.data.toList.drop 69 = dktX0_brittleOf_3 := dk_seg dksX0_brittleOf_2 23 rfl rfl
theorem dksX0_brittleOf_4 : cX0_brittleOf.data.toList.drop 91 = dktX0_brittleOf_4 := dk_seg dksX0_brittleOf_3 22 rfl rfl
theorem dksX0_brittleOf_5 : cX0_brittleOf.data.toList.drop 114 = dktX0_brittleOf_5 := dk_seg dksX0_brittleOf_4 23 rfl rfl
theorem dksX0_brittleOf_6 : cX0_brittleOf.data.toList.drop 138 = dktX0_brittleOf_6 := dk_seg dksX0_brittleOf_5 24 rfl rfl
theorem dX0_brittleOf_0 : decode cX0_brittleOf 0 = .ok (.iconst 0, 1) := dk_3 (dk_at dksX0_brittleOf_0 0 rfl rfl)
theorem dX0_brittleOf_1 : decode cX0_brittleOf 1 = .ok (.istore_n 2, 1) := dk_61 (dk_at dksX0_brittleOf_0 1 rfl rfl)
theorem dX0_brittleOf_2 : decode cX0_brittleOf 2 = .ok (.iconst 0, 1) := dk_3 (dk_at dksX0_brittleOf_0 2 rfl rfl)
theorem dX0_brittleOf_3 : decode cX0_brittleOf 3 = .ok (.istore_n 3, 1) := dk_62 (dk_at dksX0_brittleOf_0 3 rfl rfl)
theorem dX0_brittleOf_4 : decode cX0_brittleOf 4 = .ok (.iconst 0, 1) := dk_3 (dk_at dksX0_brittleOf_0 4 rfl rfl)
theorem dX0_brittleOf_5 : decode cX0_brittleOf 5 = .ok (.istore 4, 2) := dk_54 4 (dk_at dksX0_brittleOf_0 5 rfl rfl)
theorem dX0_brittleOf_7 : decode cX0_brittleOf 7 = .ok (.iload 4, 2) := dk_21 4 (dk_at dksX0_brittleOf_0 7 rfl rfl)
theorem dX0_brittleOf_9 : decode cX0_brittleOf 9 = .ok (.aload_n 0, 1) := dk_42 (dk_at dksX0_brittleOf_0 9 rfl rfl)
theorem dX0_brittleOf_10 : decode cX0_brittleOf 10 = .ok (.getfield 12, 3) := dk_180 0 12 (dk_at dksX0_brittleOf_0 10 rfl rfl)
theorem dX0_brittleOf_13 : decode cX0_brittleOf 13 = .ok (.getfield 66, 3) := dk_180 0 66 (dk_at dksX0_brittleOf_0 13 rfl rfl)
theorem dX0_brittleOf_16 : decode cX0_brittleOf 16 = .ok (.iconst 0, 1) := dk_3 (dk_at dksX0_brittleOf_0 16 rfl rfl)
theorem dX0_brittleOf_17 : decode cX0_brittleOf 17 = .ok (.iaload, 1) := dk_46 (dk_at dksX0_brittleOf_0 17 rfl rfl)
theorem dX0_brittleOf_18 : decode cX0_brittleOf 18 = .ok (.if_icmp .ge 79, 3) := dk_162 0 79 (dk_at dksX0_brittleOf_0 18 rfl rfl)
theorem dX0_brittleOf_21 : decode cX0_brittleOf 21 = .ok (.aload_n 0, 1) := dk_42 (dk_at dksX0_brittleOf_0 21 rfl rfl)
theorem dX0_brittleOf_22 : decode cX0_brittleOf 22 = .ok (.iload_n 1, 1) := dk_27 (dk_at dksX0_brittleOf_0 22 rfl rfl)
theorem dX0_brittleOf_23 : decode cX0_brittleOf 23 = .ok (.iconst 4, 1) := dk_7 (dk_at dksX0_brittleOf_0 23 rfl rfl)
theorem dX0_brittleOf_24 : decode cX0_brittleOf 24 = .ok (.iload 4, 2) := dk_21 4 (dk_at dksX0_brittleOf_1 0 rfl rfl)
theorem dX0_brittleOf_26 : decode cX0_brittleOf 26 = .ok (.iadd, 1) := dk_96 (dk_at dksX0_brittleOf_1 2 rfl rfl)
theorem dX0_brittleOf_27 : decode cX0_brittleOf 27 = .ok (.invokevirtual 176, 3) := dk_182 0 176 (dk_at dksX0_brittleOf_1 3 rfl rfl)
theorem dX0_brittleOf_30 : decode cX0_brittleOf 30 = .ok (.ifCond .ne 6, 3) := dk_154 0 6 (dk_at dksX0_brittleOf_1 6 rfl rfl)
theorem dX0_brittleOf_33 : decode cX0_brittleOf 33 = .ok (.goto 58, 3) := dk_167 0 58 (dk_at dksX0_brittleOf_1 9 rfl rfl)
theorem dX0_brittleOf_36 : decode cX0_brittleOf 36 = .ok (.iinc 2 1, 3) := dk_132 2 1 (dk_at dksX0_brittleOf_1 12 rfl rfl)
theorem dX0_brittleOf_39 : decode cX0_brittleOf 39 = .ok (.iconst 0, 1) := dk_3 (dk_at dksX0_brittleOf_1 15 rfl rfl)
theorem dX0_brittleOf_40 : decode cX0_brittleOf 40 = .ok (.istore 5, 2) := dk_54 5 (dk_at dksX0_brittleOf_1 16 rfl rfl)
theorem dX0_brittleOf_42 : decode cX0_brittleOf 42 = .ok (.iload 5, 2) := dk_21 5 (dk_at dksX0_brittleOf_1 18 rfl rfl)
theorem dX0_brittleOf_44 : decode cX0_brittleOf 44 = .ok (.iload 4, 2) := dk_21 4 (dk_at dksX0_brittleOf_1 20 rfl rfl)
theorem dX0_brittleOf_46 : decode cX0_brittleOf 46 = .ok (.if_icmp .ge 45, 3) := dk_162 0 45 (dk_at dksX0_brittleOf_2 0 rfl rfl)
theorem dX0_brittleOf_49 : decode cX0_brittleOf 49 = .ok (.iload_n 3, 1) := dk_29 (dk_at dksX0_brittleOf_2 3 rfl rfl)
theorem dX0_brittleOf_50 : decode cX0_brittleOf 50 = .ok (.aload_n 0, 1) := dk_42 (dk_at dksX0_brittleOf_2 4 rfl rfl)
theorem dX0_brittleOf_51 : decode cX0_brittleOf 51 = .ok (.iload_n 1, 1) := dk_27 (dk_at dksX0_brittleOf_2 5 rfl rfl)
theorem dX0_brittleOf_52 : decode cX0_brittleOf 52 = .ok (.iconst 4, 1) := dk_7 (dk_at dksX0_brittleOf_2 6 rfl rfl)
theorem dX0_brittleOf_53 : decode cX0_brittleOf 53 = .ok (.iload 5, 2) := dk_21 5 (dk_at dksX0_brittleOf_2 7 rfl rfl)
theorem dX0_brittleOf_55 : decode cX0_brittleOf 55 = .ok (.iadd, 1) := dk_96 (dk_at dksX0_brittleOf_2 9 rfl rfl)
theorem dX0_brittleOf_56 : decode cX0_brittleOf 56 = .ok (.invokevirtual 176, 3) := dk_182 0 176 (dk_at dksX0_brittleOf_2 10 rfl rfl)
theorem dX0_brittleOf_59 : decode cX0_brittleOf 59 = .ok (.ifCond .le 23, 3) := dk_158 0 23 (dk_at dksX0_brittleOf_2 13 rfl rfl)
theorem dX0_brittleOf_62 : decode cX0_brittleOf 62 = .ok (.aload_n 0, 1) := dk_42 (dk_at dksX0_brittleOf_2 16 rfl rfl)
theorem dX0_brittleOf_63 : decode cX0_brittleOf 63 = .ok (.getfield 12, 3) := dk_180 0 12 (dk_at dksX0_brittleOf_2 17 rfl rfl)
theorem dX0_brittleOf_66 : decode cX0_brittleOf 66 = .ok (.getfield 80, 3) := dk_180 0 80 (dk_at dksX0_brittleOf_2 20 rfl rfl)
theorem dX0_brittleOf_69 : decode cX0_brittleOf 69 = .ok (.iload 4, 2) := dk_21 4 (dk_at dksX0_brittleOf_3 0 rfl rfl)
theorem dX0_brittleOf_71 : decode cX0_brittleOf 71 = .ok (.aaload, 1) := dk_50 (dk_at dksX0_brittleOf_3 2 rfl rfl)
theorem dX0_brittleOf_72 : decode cX0_brittleOf 72 = .ok (.iconst 2, 1) := dk_5 (dk_at dksX0_brittleOf_3 3 rfl rfl)
theorem dX0_brittleOf_73 : decode cX0_brittleOf 73 = .ok (.iaload, 1) := dk_46 (dk_at dksX0_brittleOf_3 4 rfl rfl)
theorem dX0_brittleOf_74 : decode cX0_brittleOf 74 = .ok (.iload 5, 2) := dk_21 5 (dk_at dksX0_brittleOf_3 5 rfl rfl)
theorem dX0_brittleOf_76 : decode cX0_brittleOf 76 = .ok (.ishr, 1) := dk_122 (dk_at dksX0_brittleOf_3 7 rfl rfl)
theorem dX0_brittleOf_77 : decode cX0_brittleOf 77 = .ok (.iconst 1, 1) := dk_4 (dk_at dksX0_brittleOf_3 8 rfl rfl)
theorem dX0_brittleOf_78 : decode cX0_brittleOf 78 = .ok (.iand, 1) := dk_126 (dk_at dksX0_brittleOf_3 9 rfl rfl)
theorem dX0_brittleOf_79 : decode cX0_brittleOf 79 = .ok (.goto 4, 3) := dk_167 0 4 (dk_at dksX0_brittleOf_3 10 rfl rfl)
theorem dX0_brittleOf_82 : decode cX0_brittleOf 82 = .ok (.iconst 0, 1) := dk_3 (dk_at dksX0_brittleOf_3 13 rfl rfl)
theorem dX0_brittleOf_83 : decode cX0_brittleOf 83 = .ok (.iadd, 1) := dk_96 (dk_at dksX0_brittleOf_3 14 rfl rfl)
theorem dX0_brittleOf_84 : decode cX0_brittleOf 84 = .ok (.istore_n 3, 1) := dk_62 (dk_at dksX0_brittleOf_3 15 rfl rfl)
theorem dX0_brittleOf_85 : decode cX0_brittleOf 85 = .ok (.iinc 5 1, 3) := dk_132 5 1 (dk_at dksX0_brittleOf_3 16 rfl rfl)
theorem dX0_brittleOf_88 : decode cX0_brittleOf 88 = .ok (.goto (-46), 3) := dk_167 255 210 (dk_at dksX0_brittleOf_3 19 rfl rfl)
theorem dX0_brittleOf_91 : decode cX0_brittleOf 91 = .ok (.iinc 4 1, 3) := dk_132 4 1 (dk_at dksX0_brittleOf_4 0 rfl rfl)
theorem dX0_brittleOf_94 : decode cX0_brittleOf 94 = .ok (.goto (-87), 3) := dk_167 255 169 (dk_at dksX0_brittleOf_4 3 rfl rfl)
theorem dX0_brittleOf_97 : decode cX0_brittleOf 97 = .ok (.aload_n 0, 1) := dk_42 (dk_at dksX0_brittleOf_4 6 rfl rfl)
theorem dX0_brittleOf_98 : decode cX0_brittleOf 98 = .ok (.getfield 30, 3) := dk_180 0 30 (dk_at dksX0_brittleOf_4 7 rfl rfl)
theorem dX0_brittleOf_101 : decode cX0_brittleOf 101 = .ok (.iconst 0, 1) := dk_3 (dk_at dksX0_brittleOf_4 10 rfl rfl)
theorem dX0_brittleOf_102 : decode cX0_brittleOf 102 = .ok (.aload_n 0, 1) := dk_42 (dk_at dksX0_brittleOf_4 11 rfl rfl)
theorem dX0_brittleOf_103 : decode cX0_brittleOf 103 = .ok (.invokevirtual 189, 3) := dk_182 0 189 (dk_at dksX0_brittleOf_4 12 rfl rfl)
theorem dX0_brittleOf_106 : decode cX0_brittleOf 106 = .ok (.iastore, 1) := dk_79 (dk_at dksX0_brittleOf_4 15 rfl rfl)
theorem dX0_brittleOf_107 : decode cX0_brittleOf 107 = .ok (.aload_n 0, 1) := dk_42 (dk_at dksX0_brittleOf_4 16 rfl rfl)
theorem dX0_brittleOf_108 : decode cX0_brittleOf 108 = .ok (.aload_n 0, 1) := dk_42 (dk_at dksX0_brittleOf_4 17 rfl rfl)
theorem dX0_brittleOf_109 : decode cX0_brittleOf 109 = .ok (.iload_n 1, 1) := dk_27 (dk_at dksX0_brittleOf_4 18 rfl rfl)
theorem dX0_brittleOf_110 : decode cX0_brittleOf 110 = .ok (.iconst 0, 1) := dk_3 (dk_at dksX0_brittleOf_4 19 rfl rfl)
theorem dX0_brittleOf_111 : decode cX0_brittleOf 111 = .ok (.invokevirtual 176, 3) := dk_182 0 176 (dk_at dksX0_brittleOf_4 20 rfl rfl)
theorem dX0_brittleOf_114 : decode cX0_brittleOf 114 = .ok (.invokevirtual 204, 3) := dk_182 0 204 (dk_at dksX0_brittleOf_5 0 rfl rfl)
theorem dX0_brittleOf_117 : decode cX0_brittleOf 117 = .ok (.aload_n 0, 1) := dk_42 (dk_at dksX0_brittleOf_5 3 rfl rfl)
theorem dX0_brittleOf_118 : decode cX0_brittleOf 118 = .ok (.getfield 30, 3) := dk_180 0 30 (dk_at dksX0_brittleOf_5 4 rfl rfl)
theorem dX0_brittleOf_121 : decode cX0_brittleOf 121 = .ok (.bipush 9, 2) := dk_16 9 (dk_at dksX0_brittleOf_5 7 rfl rfl)
theorem dX0_brittleOf_123 : decode cX0_brittleOf 123 = .ok (.iload_n 3, 1) := dk_29 (dk_at dksX0_brittleOf_5 9 rfl rfl)
theorem dX0_brittleOf_124 : decode cX0_brittleOf 124 = .ok (.iastore, 1) := dk_79 (dk_at dksX0_brittleOf_5 10 rfl rfl)
theorem dX0_brittleOf_125 : decode cX0_brittleOf 125 = .ok (.aload_n 0, 1) := dk_42 (dk_at dksX0_brittleOf_5 11 rfl rfl)
theorem dX0_brittleOf_126 : decode cX0_brittleOf 126 = .ok (.getfield 30, 3) := dk_180 0 30 (dk_at dksX0_brittleOf_5 12 rfl rfl)
theorem dX0_brittleOf_129 : decode cX0_brittleOf 129 = .ok (.bipush 10, 2) := dk_16 10 (dk_at dksX0_brittleOf_5 15 rfl rfl)
theorem dX0_brittleOf_131 : decode cX0_brittleOf 131 = .ok (.iload_n 2, 1) := dk_28 (dk_at dksX0_brittleOf_5 17 rfl rfl)
theorem dX0_brittleOf_132 : decode cX0_brittleOf 132 = .ok (.iastore, 1) := dk_79 (dk_at dksX0_brittleOf_5 18 rfl rfl)
theorem dX0_brittleOf_133 : decode cX0_brittleOf 133 = .ok (.aload_n 0, 1) := dk_42 (dk_at dksX0_brittleOf_5 19 rfl rfl)
theorem dX0_brittleOf_134 : decode cX0_brittleOf 134 = .ok (.iconst 2, 1) := dk_5 (dk_at dksX0_brittleOf_5 20 rfl rfl)
theorem dX0_brittleOf_135 : decode cX0_brittleOf 135 = .ok (.bipush 10, 2) := dk_16 10 (dk_at dksX0_brittleOf_5 21 rfl rfl)
theorem dX0_brittleOf_137 : decode cX0_brittleOf 137 = .ok (.iconst 0, 1) := dk_3 (dk_at dksX0_brittleOf_5 23 rfl rfl)
theorem dX0_brittleOf_138 : decode cX0_brittleOf 138 = .ok (.invokevirtual 150, 3) := dk_182 0 150 (dk_at dksX0_brittleOf_6 0 rfl rfl)
theorem dX0_brittleOf_141 : decode cX0_brittleOf 141 = .ok (.ireturn, 1) := dk_172 (dk_at dksX0_brittleOf_6 3 rfl rfl)
abbrev cX0_common : ByteArray := prog_1_method_41_code
def yX0_common : MethodName := ⟨RX0, "common", "(JJ)J"⟩
def dkwX0_common_0 : List UInt8 := [32, 9, 148, 154, 0, 7, 30, 167, 0, 10, 32, 30, 32, 113, 184, 0, 247, 173]
abbrev dktX0_common_0 : List UInt8 := dkwX0_common_0 ++ []
theorem dksX0_common_0 : cX0_common.data.toList.drop 0 = dktX0_common_0 := by decide +kernel
theorem dX0_common_0 : decode cX0_common 0 = .ok (.lload_n 2, 1) := dk_32 (dk_at dksX0_common_0 0 rfl rfl)
theorem dX0_common_1 : decode cX0_common 1 = .ok (.lconst 0, 1) := dk_9 (dk_at dksX0_common_0 1 rfl rfl)
theorem dX0_common_2 : decode cX0_common 2 = .ok (.lcmp, 1) := dk_148 (dk_at dksX0_common_0 2 rfl rfl)
theorem dX0_common_3 : decode cX0_common 3 = .ok (.ifCond .ne 7, 3) := dk_154 0 7 (dk_at dksX0_common_0 3 rfl rfl)
theorem dX0_common_6 : decode cX0_common 6 = .ok (.lload_n 0, 1) := dk_30 (dk_at dksX0_common_0 6 rfl rfl)
theorem dX0_common_7 : decode cX0_common 7 = .ok (.goto 10, 3) := dk_167 0 10 (dk_at dksX0_common_0 7 rfl rfl)
theorem dX0_common_10 : decode cX0_common 10 = .ok (.lload_n 2, 1) := dk_32 (dk_at dksX0_common_0 10 rfl rfl)
theorem dX0_common_11 : decode cX0_common 11 = .ok (.lload_n 0, 1) := dk_30 (dk_at dksX0_common_0 11 rfl rfl)
theorem dX0_common_12 : decode cX0_common 12 = .ok (.lload_n 2, 1) := dk_32 (dk_at dksX0_common_0 12 rfl rfl)
theorem dX0_common_13 : decode cX0_common 13 = .ok (.lrem, 1) := dk_113 (dk_at dksX0_common_0 13 rfl rfl)
theorem dX0_common_14 : decode cX0_common 14 = .ok (.invokestatic 247, 3) := dk_184 0 247 (dk_at dksX0_common_0 14 rfl rfl)
theorem dX0_common_17 : decode cX0_common 17 = .ok (.lreturn, 1) := dk_173 (dk_at dksX0_common_0 17 rfl rfl)
abbrev cX0_plan : ByteArray := prog_1_method_48_code
def yX0_plan : MethodName := ⟨RX0, "plan", "(III)I"⟩
def dkwX0_plan_8 : List UInt8 := [19, 1, 23, 172]
abbrev dktX0_plan_8 : List UInt8 := dkwX0_plan_8 ++ []
def dkwX0_plan_7 : List UInt8 := [162, 0, 22, 16, 100, 42, 180, 0, 48, 29, 46, 104, 42, 180, 0, 51, 29, 46, 96, 167, 0, 6]
abbrev dktX0_plan_7 : List UInt8 := dkwX0_plan_7 ++ dktX0_plan_8
def dkwX0_plan_6 : List UInt8 := [3, 50, 3, 46, 172, 42, 182, 1, 27, 54, 4, 29, 16, 254, 160, 0, 6, 21, 4, 172, 29, 21, 4]
abbrev dktX0_plan_6 : List UInt8 := dkwX0_plan_6 ++ dktX0_plan_7
def dkwX0_plan_5 : List UInt8 := [42, 182, 0, 189, 100, 184, 0, 207, 181, 1, 1, 42, 182, 1, 24, 29, 2, 160, 0, 12, 42, 180, 0, 56]
abbrev dktX0_plan_5 : List UInt8 := dkwX0_plan_5 ++ dktX0_plan_6
def dkwX0_plan_4 : List UInt8 := [21, 4, 79, 42, 89, 180, 1, 4, 4, 96, 181, 1, 4, 132, 4, 1, 167, 255, 206, 42, 28, 17, 3, 232]
abbrev dktX0_plan_4 : List UInt8 := dkwX0_plan_4 ++ dktX0_plan_5
def dkwX0_plan_3 : List UInt8 := [162, 0, 42, 27, 21, 4, 122, 4, 126, 154, 0, 6, 167, 0, 24, 42, 180, 0, 45, 42, 180, 1, 4]
abbrev dktX0_plan_3 : List UInt8 := dkwX0_plan_3 ++ dktX0_plan_4
def dkwX0_plan_2 : List UInt8 := [19, 1, 23, 172, 42, 3, 181, 1, 4, 3, 54, 4, 21, 4, 42, 180, 0, 12, 180, 0, 66, 4, 46]
abbrev dktX0_plan_2 : List UInt8 := dkwX0_plan_2 ++ dktX0_plan_3
def dkwX0_plan_1 : List UInt8 := [184, 1, 18, 7, 163, 0, 19, 28, 4, 16, 24, 184, 0, 69, 153, 0, 9, 29, 16, 254, 162, 0, 7]
abbrev dktX0_plan_1 : List UInt8 := dkwX0_plan_1 ++ dktX0_plan_2
def dkwX0_plan_0 : List UInt8 := [27, 3, 4, 42, 180, 0, 12, 180, 0, 66, 4, 46, 120, 4, 100, 184, 0, 69, 153, 0, 27, 27]
abbrev dktX0_plan_0 : List UInt8 := dkwX0_plan_0 ++ dktX0_plan_1
theorem dksX0_plan_0 : cX0_plan.data.toList.drop 0 = dktX0_plan_0 := by decide +kernel
theorem dksX0_plan_1 : cX0_plan.data.toList.drop 22 = dktX0_plan_1 := dk_seg dksX0_plan_0 22 rfl rfl
theorem dksX0_plan_2 : cX0_plan.data.toList.drop 45 = dktX0_plan_2 := dk_seg dksX0_plan_1 23 rfl rfl
theorem dksX0_plan_3 : cX0_plan.data.toList.drop 68 = dktX0_plan_3 := dk_seg dksX0_plan_2 23 rfl rfl
theorem dksX0_plan_4 : cX0_plan.data.toList.drop 91 = dktX0_plan_4 := dk_seg dksX0_plan_3 23 rfl rfl
theorem dksX0_plan_5 : cX0_plan.data.toList.drop 115 = dktX0_plan_5 := dk_seg dksX0_plan_4 24 rfl rfl
theorem dksX0_plan_6 : cX0_plan.data.toList.drop 139 = dktX0_plan_6 := dk_seg dksX0_plan_5 24 rfl rfl
theorem dksX0_plan_7 : cX0_plan.data.toList.drop 162 = dktX0_plan_7 := dk_seg dksX0_plan_6 23 rfl rfl
theorem dksX0_plan_8 : cX0_plan.data.toList.drop 184 = dktX0_plan_8 := dk_seg dksX0_plan_7 22 rfl rfl
theorem dX0_plan_0 : decode cX0_plan 0 = .ok (.iload_n 1, 1) := dk_27 (dk_at dksX0_plan_0 0 rfl rfl)
theorem dX0_plan_1 : decode cX0_plan 1 = .ok (.iconst 0, 1) := dk_3 (dk_at dksX0_plan_0 1 rfl rfl)
theorem dX0_plan_2 : decode cX0_plan 2 = .ok (.iconst 1, 1) := dk_4 (dk_at dksX0_plan_0 2 rfl rfl)
theorem dX0_plan_3 : decode cX0_plan 3 = .ok (.aload_n 0, 1) := dk_42 (dk_at dksX0_plan_0 3 rfl rfl)
theorem dX0_plan_4 : decode cX0_plan 4 = .ok (.getfield 12, 3) := dk_180 0 12 (dk_at dksX0_plan_0 4 rfl rfl)
theorem dX0_plan_7 : decode cX0_plan 7 = .ok (.getfield 66, 3) := dk_180 0 66 (dk_at dksX0_plan_0 7 rfl rfl)
theorem dX0_plan_10 : decode cX0_plan 10 = .ok (.iconst 1, 1) := dk_4 (dk_at dksX0_plan_0 10 rfl rfl)
theorem dX0_plan_11 : decode cX0_plan 11 = .ok (.iaload, 1) := dk_46 (dk_at dksX0_plan_0 11 rfl rfl)
theorem dX0_plan_12 : decode cX0_plan 12 = .ok (.ishl, 1) := dk_120 (dk_at dksX0_plan_0 12 rfl rfl)
theorem dX0_plan_13 : decode cX0_plan 13 = .ok (.iconst 1, 1) := dk_4 (dk_at dksX0_plan_0 13 rfl rfl)
theorem dX0_plan_14 : decode cX0_plan 14 = .ok (.isub, 1) := dk_100 (dk_at dksX0_plan_0 14 rfl rfl)
theorem dX0_plan_15 : decode cX0_plan 15 = .ok (.invokestatic 69, 3) := dk_184 0 69 (dk_at dksX0_plan_0 15 rfl rfl)
theorem dX0_plan_18 : decode cX0_plan 18 = .ok (.ifCond .eq 27, 3) := dk_153 0 27 (dk_at dksX0_plan_0 18 rfl rfl)
theorem dX0_plan_21 : decode cX0_plan 21 = .ok (.iload_n 1, 1) := dk_27 (dk_at dksX0_plan_0 21 rfl rfl)
theorem dX0_plan_22 : decode cX0_plan 22 = .ok (.invokestatic 274, 3) := dk_184 1 18 (dk_at dksX0_plan_1 0 rfl rfl)
theorem dX0_plan_25 : decode cX0_plan 25 = .ok (.iconst 4, 1) := dk_7 (dk_at dksX0_plan_1 3 rfl rfl)
theorem dX0_plan_26 : decode cX0_plan 26 = .ok (.if_icmp .gt 19, 3) := dk_163 0 19 (dk_at dksX0_plan_1 4 rfl rfl)
theorem dX0_plan_29 : decode cX0_plan 29 = .ok (.iload_n 2, 1) := dk_28 (dk_at dksX0_plan_1 7 rfl rfl)
theorem dX0_plan_30 : decode cX0_plan 30 = .ok (.iconst 1, 1) := dk_4 (dk_at dksX0_plan_1 8 rfl rfl)
theorem dX0_plan_31 : decode cX0_plan 31 = .ok (.bipush 24, 2) := dk_16 24 (dk_at dksX0_plan_1 9 rfl rfl)
theorem dX0_plan_33 : decode cX0_plan 33 = .ok (.invokestatic 69, 3) := dk_184 0 69 (dk_at dksX0_plan_1 11 rfl rfl)
theorem dX0_plan_36 : decode cX0_plan 36 = .ok (.ifCond .eq 9, 3) := dk_153 0 9 (dk_at dksX0_plan_1 14 rfl rfl)
theorem dX0_plan_39 : decode cX0_plan 39 = .ok (.iload_n 3, 1) := dk_29 (dk_at dksX0_plan_1 17 rfl rfl)
theorem dX0_plan_40 : decode cX0_plan 40 = .ok (.bipush (-2), 2) := dk_16 254 (dk_at dksX0_plan_1 18 rfl rfl)
theorem dX0_plan_42 : decode cX0_plan 42 = .ok (.if_icmp .ge 7, 3) := dk_162 0 7 (dk_at dksX0_plan_1 20 rfl rfl)
theorem dX0_plan_45 : decode cX0_plan 45 = .ok (.ldc_w 279, 3) := dk_19 1 23 (dk_at dksX0_plan_2 0 rfl rfl)
theorem dX0_plan_48 : decode cX0_plan 48 = .ok (.ireturn, 1) := dk_172 (dk_at dksX0_plan_2 3 rfl rfl)
theorem dX0_plan_49 : decode cX0_plan 49 = .ok (.aload_n 0, 1) := dk_42 (dk_at dksX0_plan_2 4 rfl rfl)
theorem dX0_plan_50 : decode cX0_plan 50 = .ok (.iconst 0, 1) := dk_3 (dk_at dksX0_plan_2 5 rfl rfl)
theorem dX0_plan_51 : decode cX0_plan 51 = .ok (.putfield 260, 3) := dk_181 1 4 (dk_at dksX0_plan_2 6 rfl rfl)
theorem dX0_plan_54 : decode cX0_plan 54 = .ok (.iconst 0, 1) := dk_3 (dk_at dksX0_plan_2 9 rfl rfl)
theorem dX0_plan_55 : decode cX0_plan 55 = .ok (.istore 4, 2) := dk_54 4 (dk_at dksX0_plan_2 10 rfl rfl)
theorem dX0_plan_57 : decode cX0_plan 57 = .ok (.iload 4, 2) := dk_21 4 (dk_at dksX0_plan_2 12 rfl rfl)
theorem dX0_plan_59 : decode cX0_plan 59 = .ok (.aload_n 0, 1) := dk_42 (dk_at dksX0_plan_2 14 rfl rfl)
theorem dX0_plan_60 : decode cX0_plan 60 = .ok (.getfield 12, 3) := dk_180 0 12 (dk_at dksX0_plan_2 15 rfl rfl)
theorem dX0_plan_63 : decode cX0_plan 63 = .ok (.getfield 66, 3) := dk_180 0 66 (dk_at dksX0_plan_2 18 rfl rfl)
theorem dX0_plan_66 : decode cX0_plan 66 = .ok (.iconst 1, 1) := dk_4 (dk_at dksX0_plan_2 21 rfl rfl)
theorem dX0_plan_67 : decode cX0_plan 67 = .ok (.iaload, 1) := dk_46 (dk_at dksX0_plan_2 22 rfl rfl)
theorem dX0_plan_68 : decode cX0_plan 68 = .ok (.if_icmp .ge 42, 3) := dk_162 0 42 (dk_at dksX0_plan_3 0 rfl rfl)
theorem dX0_plan_71 : decode cX0_plan 71 = .ok (.iload_n 1, 1) := dk_27 (dk_at dksX0_plan_3 3 rfl rfl)
theorem dX0_plan_72 : decode cX0_plan 72 = .ok (.iload 4, 2) := dk_21 4 (dk_at dksX0_plan_3 4 rfl rfl)
theorem dX0_plan_74 : decode cX0_plan 74 = .ok (.ishr, 1) := dk_122 (dk_at dksX0_plan_3 6 rfl rfl)
theorem dX0_plan_75 : decode cX0_plan 75 = .ok (.iconst 1, 1) := dk_4 (dk_at dksX0_plan_3 7 rfl rfl)
theorem dX0_plan_76 : decode cX0_plan 76 = .ok (.iand, 1) := dk_126 (dk_at dksX0_plan_3 8 rfl rfl)
theorem dX0_plan_77 : decode cX0_plan 77 = .ok (.ifCond .ne 6, 3) := dk_154 0 6 (dk_at dksX0_plan_3 9 rfl rfl)
theorem dX0_plan_80 : decode cX0_plan 80 = .ok (.goto 24, 3) := dk_167 0 24 (dk_at dksX0_plan_3 12 rfl rfl)
theorem dX0_plan_83 : decode cX0_plan 83 = .ok (.aload_n 0, 1) := dk_42 (dk_at dksX0_plan_3 15 rfl rfl)
theorem dX0_plan_84 : decode cX0_plan 84 = .ok (.getfield 45, 3) := dk_180 0 45 (dk_at dksX0_plan_3 16 rfl rfl)
theorem dX0_plan_87 : decode cX0_plan 87 = .ok (.aload_n 0, 1) := dk_42 (dk_at dksX0_plan_3 19 rfl rfl)
theorem dX0_plan_88 : decode cX0_plan 88 = .ok (.getfield 260, 3) := dk_180 1 4 (dk_at dksX0_plan_3 20 rfl rfl)
theorem dX0_plan_91 : decode cX0_plan 91 = .ok (.iload 4, 2) := dk_21 4 (dk_at dksX0_plan_4 0 rfl rfl)
theorem dX0_plan_93 : decode cX0_plan 93 = .ok (.iastore, 1) := dk_79 (dk_at dksX0_plan_4 2 rfl rfl)
theorem dX0_plan_94 : decode cX0_plan 94 = .ok (.aload_n 0, 1) := dk_42 (dk_at dksX0_plan_4 3 rfl rfl)
theorem dX0_plan_95 : decode cX0_plan 95 = .ok (.dup, 1) := dk_89 (dk_at dksX0_plan_4 4 rfl rfl)
theorem dX0_plan_96 : decode cX0_plan 96 = .ok (.getfield 260, 3) := dk_180 1 4 (dk_at dksX0_plan_4 5 rfl rfl)
theorem dX0_plan_99 : decode cX0_plan 99 = .ok (.iconst 1, 1) := dk_4 (dk_at dksX0_plan_4 8 rfl rfl)
theorem dX0_plan_100 : decode cX0_plan 100 = .ok (.iadd, 1) := dk_96 (dk_at dksX0_plan_4 9 rfl rfl)
theorem dX0_plan_101 : decode cX0_plan 101 = .ok (.putfield 260, 3) := dk_181 1 4 (dk_at dksX0_plan_4 10 rfl rfl)
theorem dX0_plan_104 : decode cX0_plan 104 = .ok (.iinc 4 1, 3) := dk_132 4 1 (dk_at dksX0_plan_4 13 rfl rfl)
theorem dX0_plan_107 : decode cX0_plan 107 = .ok (.goto (-50), 3) := dk_167 255 206 (dk_at dksX0_plan_4 16 rfl rfl)
theorem dX0_plan_110 : decode cX0_plan 110 = .ok (.aload_n 0, 1) := dk_42 (dk_at dksX0_plan_4 19 rfl rfl)
theorem dX0_plan_111 : decode cX0_plan 111 = .ok (.iload_n 2, 1) := dk_28 (dk_at dksX0_plan_4 20 rfl rfl)
theorem dX0_plan_112 : decode cX0_plan 112 = .ok (.sipush 1000, 3) := dk_17 3 232 (dk_at dksX0_plan_4 21 rfl rfl)
theorem dX0_plan_115 : decode cX0_plan 115 = .ok (.aload_n 0, 1) := dk_42 (dk_at dksX0_plan_5 0 rfl rfl)
theorem dX0_plan_116 : decode cX0_plan 116 = .ok (.invokevirtual 189, 3) := dk_182 0 189 (dk_at dksX0_plan_5 1 rfl rfl)
theorem dX0_plan_119 : decode cX0_plan 119 = .ok (.isub, 1) := dk_100 (dk_at dksX0_plan_5 4 rfl rfl)
theorem dX0_plan_120 : decode cX0_plan 120 = .ok (.invokestatic 207, 3) := dk_184 0 207 (dk_at dksX0_plan_5 5 rfl rfl)
theorem dX0_plan_123 : decode cX0_plan 123 = .ok (.putfield 257, 3) := dk_181 1 1 (dk_at dksX0_plan_5 8 rfl rfl)
theorem dX0_plan_126 : decode cX0_plan 126 = .ok (.aload_n 0, 1) := dk_42 (dk_at dksX0_plan_5 11 rfl rfl)
theorem dX0_plan_127 : decode cX0_plan 127 = .ok (.invokevirtual 280, 3) := dk_182 1 24 (dk_at dksX0_plan_5 12 rfl rfl)
theorem dX0_plan_130 : decode cX0_plan 130 = .ok (.iload_n 3, 1) := dk_29 (dk_at dksX0_plan_5 15 rfl rfl)
theorem dX0_plan_131 : decode cX0_plan 131 = .ok (.iconst (-1), 1) := dk_2 (dk_at dksX0_plan_5 16 rfl rfl)
theorem dX0_plan_132 : decode cX0_plan 132 = .ok (.if_icmp .ne 12, 3) := dk_160 0 12 (dk_at dksX0_plan_5 17 rfl rfl)
theorem dX0_plan_135 : decode cX0_plan 135 = .ok (.aload_n 0, 1) := dk_42 (dk_at dksX0_plan_5 20 rfl rfl)
theorem dX0_plan_136 : decode cX0_plan 136 = .ok (.getfield 56, 3) := dk_180 0 56 (dk_at dksX0_plan_5 21 rfl rfl)
theorem dX0_plan_139 : decode cX0_plan 139 = .ok (.iconst 0, 1) := dk_3 (dk_at dksX0_plan_6 0 rfl rfl)
theorem dX0_plan_140 : decode cX0_plan 140 = .ok (.aaload, 1) := dk_50 (dk_at dksX0_plan_6 1 rfl rfl)
theorem dX0_plan_141 : decode cX0_plan 141 = .ok (.iconst 0, 1) := dk_3 (dk_at dksX0_plan_6 2 rfl rfl)
theorem dX0_plan_142 : decode cX0_plan 142 = .ok (.iaload, 1) := dk_46 (dk_at dksX0_plan_6 3 rfl rfl)
theorem dX0_plan_143 : decode cX0_plan 143 = .ok (.ireturn, 1) := dk_172 (dk_at dksX0_plan_6 4 rfl rfl)
theorem dX0_plan_144 : decode cX0_plan 144 = .ok (.aload_n 0, 1) := dk_42 (dk_at dksX0_plan_6 5 rfl rfl)
theorem dX0_plan_145 : decode cX0_plan 145 = .ok (.invokevirtual 283, 3) := dk_182 1 27 (dk_at dksX0_plan_6 6 rfl rfl)
theorem dX0_plan_148 : decode cX0_plan 148 = .ok (.istore 4, 2) := dk_54 4 (dk_at dksX0_plan_6 9 rfl rfl)
theorem dX0_plan_150 : decode cX0_plan 150 = .ok (.iload_n 3, 1) := dk_29 (dk_at dksX0_plan_6 11 rfl rfl)
theorem dX0_plan_151 : decode cX0_plan 151 = .ok (.bipush (-2), 2) := dk_16 254 (dk_at dksX0_plan_6 12 rfl rfl)
theorem dX0_plan_153 : decode cX0_plan 153 = .ok (.if_icmp .ne 6, 3) := dk_160 0 6 (dk_at dksX0_plan_6 14 rfl rfl)
theorem dX0_plan_156 : decode cX0_plan 156 = .ok (.iload 4, 2) := dk_21 4 (dk_at dksX0_plan_6 17 rfl rfl)
theorem dX0_plan_158 : decode cX0_plan 158 = .ok (.ireturn, 1) := dk_172 (dk_at dksX0_plan_6 19 rfl rfl)
theorem dX0_plan_159 : decode cX0_plan 159 = .ok (.iload_n 3, 1) := dk_29 (dk_at dksX0_plan_6 20 rfl rfl)
theorem dX0_plan_160 : decode cX0_plan 160 = .ok (.iload 4, 2) := dk_21 4 (dk_at dksX0_plan_6 21 rfl rfl)
theorem dX0_plan_162 : decode cX0_plan 162 = .ok (.if_icmp .ge 22, 3) := dk_162 0 22 (dk_at dksX0_plan_7 0 rfl rfl)
theorem dX0_plan_165 : decode cX0_plan 165 = .ok (.bipush 100, 2) := dk_16 100 (dk_at dksX0_plan_7 3 rfl rfl)
theorem dX0_plan_167 : decode cX0_plan 167 = .ok (.aload_n 0, 1) := dk_42 (dk_at dksX0_plan_7 5 rfl rfl)
theorem dX0_plan_168 : decode cX0_plan 168 = .ok (.getfield 48, 3) := dk_180 0 48 (dk_at dksX0_plan_7 6 rfl rfl)
theorem dX0_plan_171 : decode cX0_plan 171 = .ok (.iload_n 3, 1) := dk_29 (dk_at dksX0_plan_7 9 rfl rfl)
theorem dX0_plan_172 : decode cX0_plan 172 = .ok (.iaload, 1) := dk_46 (dk_at dksX0_plan_7 10 rfl rfl)
theorem dX0_plan_173 : decode cX0_plan 173 = .ok (.imul, 1) := dk_104 (dk_at dksX0_plan_7 11 rfl rfl)
theorem dX0_plan_174 : decode cX0_plan 174 = .ok (.aload_n 0, 1) := dk_42 (dk_at dksX0_plan_7 12 rfl rfl)
theorem dX0_plan_175 : decode cX0_plan 175 = .ok (.getfield 51, 3) := dk_180 0 51 (dk_at dksX0_plan_7 13 rfl rfl)
theorem dX0_plan_178 : decode cX0_plan 178 = .ok (.iload_n 3, 1) := dk_29 (dk_at dksX0_plan_7 16 rfl rfl)
theorem dX0_plan_179 : decode cX0_plan 179 = .ok (.iaload, 1) := dk_46 (dk_at dksX0_plan_7 17 rfl rfl)
theorem dX0_plan_180 : decode cX0_plan 180 = .ok (.iadd, 1) := dk_96 (dk_at dksX0_plan_7 18 rfl rfl)
theorem dX0_plan_181 : decode cX0_plan 181 = .ok (.goto 6, 3) := dk_167 0 6 (dk_at dksX0_plan_7 19 rfl rfl)
theorem dX0_plan_184 : decode cX0_plan 184 = .ok (.ldc_w 279, 3) := dk_19 1 23 (dk_at dksX0_plan_8 0 rfl rfl)
theorem dX0_plan_187 : decode cX0_plan 187 = .ok (.ireturn, 1) := dk_172 (dk_at dksX0_plan_8 3 rfl rfl)
abbrev cX0_laysPlan : ByteArray := prog_1_method_46_code
def yX0_laysPlan : MethodName := ⟨RX0, "laysPlan", "()V"⟩
def dkwX0_laysPlan_11 : List UInt8 := [167, 255, 81, 132, 1, 255, 167, 255, 62, 177]
abbrev dktX0_laysPlan_11 : List UInt8 := dkwX0_laysPlan_11 ++ []
def dkwX0_laysPlan_10 : List UInt8 := [50, 21, 5, 4, 96, 46, 96, 79, 132, 4, 1, 167, 255, 148, 132, 3, 1, 167, 255, 111, 132, 2, 255]
abbrev dktX0_laysPlan_10 : List UInt8 := dkwX0_laysPlan_10 ++ dktX0_laysPlan_11
def dkwX0_laysPlan_9 : List UInt8 := [21, 5, 4, 96, 46, 96, 79, 42, 180, 0, 59, 28, 50, 27, 4, 42, 180, 0, 59, 28, 4, 29, 120, 128]
abbrev dktX0_laysPlan_9 : List UInt8 := dkwX0_laysPlan_9 ++ dktX0_laysPlan_10
def dkwX0_laysPlan_8 : List UInt8 := [50, 27, 42, 180, 0, 39, 29, 50, 21, 4, 50, 27, 46, 42, 180, 0, 56, 28, 4, 29, 120, 128, 50]
abbrev dktX0_laysPlan_8 : List UInt8 := dkwX0_laysPlan_8 ++ dktX0_laysPlan_9
def dkwX0_laysPlan_7 : List UInt8 := [154, 0, 6, 167, 0, 76, 42, 180, 0, 42, 29, 50, 21, 4, 50, 27, 46, 54, 5, 42, 180, 0, 56, 28]
abbrev dktX0_laysPlan_7 : List UInt8 := dkwX0_laysPlan_7 ++ dktX0_laysPlan_8
def dkwX0_laysPlan_6 : List UInt8 := [162, 0, 107, 42, 21, 4, 182, 1, 7, 153, 0, 92, 42, 28, 27, 29, 21, 4, 3, 182, 1, 14]
abbrev dktX0_laysPlan_6 : List UInt8 := dkwX0_laysPlan_6 ++ dktX0_laysPlan_7
def dkwX0_laysPlan_5 : List UInt8 := [162, 0, 135, 28, 29, 122, 4, 126, 4, 160, 0, 6, 167, 0, 117, 3, 54, 4, 21, 4, 16, 60]
abbrev dktX0_laysPlan_5 : List UInt8 := dkwX0_laysPlan_5 ++ dktX0_laysPlan_6
def dkwX0_laysPlan_4 : List UInt8 := [180, 0, 59, 28, 50, 27, 3, 79, 3, 62, 29, 42, 180, 1, 4, 162, 0, 143, 27, 42, 180, 1, 1]
abbrev dktX0_laysPlan_4 : List UInt8 := dkwX0_laysPlan_4 ++ dktX0_laysPlan_5
def dkwX0_laysPlan_3 : List UInt8 := [4, 42, 180, 1, 4, 120, 4, 100, 61, 28, 155, 0, 177, 42, 180, 0, 56, 28, 50, 27, 3, 79, 42]
abbrev dktX0_laysPlan_3 : List UInt8 := dkwX0_laysPlan_3 ++ dktX0_laysPlan_4
def dkwX0_laysPlan_2 : List UInt8 := [167, 255, 230, 132, 2, 1, 167, 255, 216, 132, 1, 1, 167, 255, 200, 42, 180, 1, 1, 60, 27, 155, 0, 196]
abbrev dktX0_laysPlan_2 : List UInt8 := dkwX0_laysPlan_2 ++ dktX0_laysPlan_3
def dkwX0_laysPlan_1 : List UInt8 := [180, 1, 1, 162, 0, 24, 42, 28, 182, 1, 7, 153, 0, 16, 42, 27, 28, 29, 182, 1, 10, 132, 3, 1]
abbrev dktX0_laysPlan_1 : List UInt8 := dkwX0_laysPlan_1 ++ dktX0_laysPlan_2
def dkwX0_laysPlan_0 : List UInt8 := [3, 60, 27, 42, 180, 1, 4, 162, 0, 54, 3, 61, 28, 16, 60, 162, 0, 40, 3, 62, 29, 42]
abbrev dktX0_laysPlan_0 : List UInt8 := dkwX0_laysPlan_0 ++ dktX0_laysPlan_1
theorem dksX0_laysPlan_0 : cX0_laysPlan.data.toList.drop 0 = dktX0_laysPlan_0 := by decide +kernel
theorem dksX0_laysPlan_1 : cX0_laysPlan.data.toList.drop 22 = dktX0_laysPlan_1 := dk_seg dksX0_laysPlan_0 22 rfl rfl
theorem dksX0_laysPlan_2 : cX0_laysPlan.data.toList.drop 46 = dktX0_laysPlan_2 := dk_seg dksX0_laysPlan_1 24 rfl rfl
theorem dksX0_laysPlan_3 : cX0_laysPlan.data.toList.drop 70 = dktX0_laysPlan_3 := dk_seg dksX0_laysPlan_2 24 rfl rfl
theorem dksX0_laysPlan_4 : cX0_laysPlan.data.toList.drop 93 = dktX0_laysPlan_4 := dk_seg dksX0_laysPlan_3 23 rfl rfl
theorem dksX0_laysPlan_5 : cX0_laysPlan.data.toList.drop 116 = dktX0_laysPlan_5 := dk_seg dksX0_laysPlan_4 23 rfl rfl
theorem dksX0_laysPlan_6 : cX0_laysPlan.data.toList.drop 138 = dktX0_laysPlan_6 := dk_seg dksX0_laysPlan_5 22 rfl rfl
theorem dksX0_laysPlan_7 : cX0_laysPlan.data.toList.drop 160 = dktX0_laysPlan_7 := dk_seg dksX0_laysPlan_6 22 rfl rfl
theorem dksX0_laysPlan_8 : cX0_laysPlan.data.toList.drop 184 = dktX0_laysPlan_8 := dk_seg dksX0_laysPlan_7 24 rfl rfl
theorem dksX0_laysPlan_9 : cX0_laysPlan.data.toList.drop 207 = dktX0_laysPlan_9 := dk_seg dksX0_laysPlan_8 23 rfl rfl
theorem dksX0_laysPlan_10 : cX0_laysPlan.data.toList.drop 231 = dktX0_laysPlan_10 := dk_seg dksX0_laysPlan_9 24 rfl rfl
theorem dksX0_laysPlan_11 : cX0_laysPlan.data.toList.drop 254 = dktX0_laysPlan_11 := dk_seg dksX0_laysPlan_10 23 rfl rfl
theorem dX0_laysPlan_0 : decode cX0_laysPlan 0 = .ok (.iconst 0, 1) := dk_3 (dk_at dksX0_laysPlan_0 0 rfl rfl)
theorem dX0_laysPlan_1 : decode cX0_laysPlan 1 = .ok (.istore_n 1, 1) := dk_60 (dk_at dksX0_laysPlan_0 1 rfl rfl)
theorem dX0_laysPlan_2 : decode cX0_laysPlan 2 = .ok (.iload_n 1, 1) := dk_27 (dk_at dksX0_laysPlan_0 2 rfl rfl)
theorem dX0_laysPlan_3 : decode cX0_laysPlan 3 = .ok (.aload_n 0, 1) := dk_42 (dk_at dksX0_laysPlan_0 3 rfl rfl)
theorem dX0_laysPlan_4 : decode cX0_laysPlan 4 = .ok (.getfield 260, 3) := dk_180 1 4 (dk_at dksX0_laysPlan_0 4 rfl rfl)
theorem dX0_laysPlan_7 : decode cX0_laysPlan 7 = .ok (.if_icmp .ge 54, 3) := dk_162 0 54 (dk_at dksX0_laysPlan_0 7 rfl rfl)
theorem dX0_laysPlan_10 : decode cX0_laysPlan 10 = .ok (.iconst 0, 1) := dk_3 (dk_at dksX0_laysPlan_0 10 rfl rfl)
theorem dX0_laysPlan_11 : decode cX0_laysPlan 11 = .ok (.istore_n 2, 1) := dk_61 (dk_at dksX0_laysPlan_0 11 rfl rfl)
theorem dX0_laysPlan_12 : decode cX0_laysPlan 12 = .ok (.iload_n 2, 1) := dk_28 (dk_at dksX0_laysPlan_0 12 rfl rfl)
theorem dX0_laysPlan_13 : decode cX0_laysPlan 13 = .ok (.bipush 60, 2) := dk_16 60 (dk_at dksX0_laysPlan_0 13 rfl rfl)
theorem dX0_laysPlan_15 : decode cX0_laysPlan 15 = .ok (.if_icmp .ge 40, 3) := dk_162 0 40 (dk_at dksX0_laysPlan_0 15 rfl rfl)
theorem dX0_laysPlan_18 : decode cX0_laysPlan 18 = .ok (.iconst 0, 1) := dk_3 (dk_at dksX0_laysPlan_0 18 rfl rfl)
theorem dX0_laysPlan_19 : decode cX0_laysPlan 19 = .ok (.istore_n 3, 1) := dk_62 (dk_at dksX0_laysPlan_0 19 rfl rfl)
theorem dX0_laysPlan_20 : decode cX0_laysPlan 20 = .ok (.iload_n 3, 1) := dk_29 (dk_at dksX0_laysPlan_0 20 rfl rfl)
theorem dX0_laysPlan_21 : decode cX0_laysPlan 21 = .ok (.aload_n 0, 1) := dk_42 (dk_at dksX0_laysPlan_0 21 rfl rfl)
theorem dX0_laysPlan_22 : decode cX0_laysPlan 22 = .ok (.getfield 257, 3) := dk_180 1 1 (dk_at dksX0_laysPlan_1 0 rfl rfl)
theorem dX0_laysPlan_25 : decode cX0_laysPlan 25 = .ok (.if_icmp .ge 24, 3) := dk_162 0 24 (dk_at dksX0_laysPlan_1 3 rfl rfl)
theorem dX0_laysPlan_28 : decode cX0_laysPlan 28 = .ok (.aload_n 0, 1) := dk_42 (dk_at dksX0_laysPlan_1 6 rfl rfl)
theorem dX0_laysPlan_29 : decode cX0_laysPlan 29 = .ok (.iload_n 2, 1) := dk_28 (dk_at dksX0_laysPlan_1 7 rfl rfl)
theorem dX0_laysPlan_30 : decode cX0_laysPlan 30 = .ok (.invokevirtual 263, 3) := dk_182 1 7 (dk_at dksX0_laysPlan_1 8 rfl rfl)
theorem dX0_laysPlan_33 : decode cX0_laysPlan 33 = .ok (.ifCond .eq 16, 3) := dk_153 0 16 (dk_at dksX0_laysPlan_1 11 rfl rfl)
theorem dX0_laysPlan_36 : decode cX0_laysPlan 36 = .ok (.aload_n 0, 1) := dk_42 (dk_at dksX0_laysPlan_1 14 rfl rfl)
theorem dX0_laysPlan_37 : decode cX0_laysPlan 37 = .ok (.iload_n 1, 1) := dk_27 (dk_at dksX0_laysPlan_1 15 rfl rfl)
theorem dX0_laysPlan_38 : decode cX0_laysPlan 38 = .ok (.iload_n 2, 1) := dk_28 (dk_at dksX0_laysPlan_1 16 rfl rfl)
theorem dX0_laysPlan_39 : decode cX0_laysPlan 39 = .ok (.iload_n 3, 1) := dk_29 (dk_at dksX0_laysPlan_1 17 rfl rfl)
theorem dX0_laysPlan_40 : decode cX0_laysPlan 40 = .ok (.invokevirtual 266, 3) := dk_182 1 10 (dk_at dksX0_laysPlan_1 18 rfl rfl)
theorem dX0_laysPlan_43 : decode cX0_laysPlan 43 = .ok (.iinc 3 1, 3) := dk_132 3 1 (dk_at dksX0_laysPlan_1 21 rfl rfl)
theorem dX0_laysPlan_46 : decode cX0_laysPlan 46 = .ok (.goto (-26), 3) := dk_167 255 230 (dk_at dksX0_laysPlan_2 0 rfl rfl)
theorem dX0_laysPlan_49 : decode cX0_laysPlan 49 = .ok (.iinc 2 1, 3) := dk_132 2 1 (dk_at dksX0_laysPlan_2 3 rfl rfl)
theorem dX0_laysPlan_52 : decode cX0_laysPlan 52 = .ok (.goto (-40), 3) := dk_167 255 216 (dk_at dksX0_laysPlan_2 6 rfl rfl)
theorem dX0_laysPlan_55 : decode cX0_laysPlan 55 = .ok (.iinc 1 1, 3) := dk_132 1 1 (dk_at dksX0_laysPlan_2 9 rfl rfl)
theorem dX0_laysPlan_58 : decode cX0_laysPlan 58 = .ok (.goto (-56), 3) := dk_167 255 200 (dk_at dksX0_laysPlan_2 12 rfl rfl)
theorem dX0_laysPlan_61 : decode cX0_laysPlan 61 = .ok (.aload_n 0, 1) := dk_42 (dk_at dksX0_laysPlan_2 15 rfl rfl)
theorem dX0_laysPlan_62 : decode cX0_laysPlan 62 = .ok (.getfield 257, 3) := dk_180 1 1 (dk_at dksX0_laysPlan_2 16 rfl rfl)
theorem dX0_laysPlan_65 : decode cX0_laysPlan 65 = .ok (.istore_n 1, 1) := dk_60 (dk_at dksX0_laysPlan_2 19 rfl rfl)
theorem dX0_laysPlan_66 : decode cX0_laysPlan 66 = .ok (.iload_n 1, 1) := dk_27 (dk_at dksX0_laysPlan_2 20 rfl rfl)
theorem dX0_laysPlan_67 : decode cX0_laysPlan 67 = .ok (.ifCond .lt 196, 3) := dk_155 0 196 (dk_at dksX0_laysPlan_2 21 rfl rfl)
theorem dX0_laysPlan_70 : decode cX0_laysPlan 70 = .ok (.iconst 1, 1) := dk_4 (dk_at dksX0_laysPlan_3 0 rfl rfl)
theorem dX0_laysPlan_71 : decode cX0_laysPlan 71 = .ok (.aload_n 0, 1) := dk_42 (dk_at dksX0_laysPlan_3 1 rfl rfl)
theorem dX0_laysPlan_72 : decode cX0_laysPlan 72 = .ok (.getfield 260, 3) := dk_180 1 4 (dk_at dksX0_laysPlan_3 2 rfl rfl)
theorem dX0_laysPlan_75 : decode cX0_laysPlan 75 = .ok (.ishl, 1) := dk_120 (dk_at dksX0_laysPlan_3 5 rfl rfl)
theorem dX0_laysPlan_76 : decode cX0_laysPlan 76 = .ok (.iconst 1, 1) := dk_4 (dk_at dksX0_laysPlan_3 6 rfl rfl)
theorem dX0_laysPlan_77 : decode cX0_laysPlan 77 = .ok (.isub, 1) := dk_100 (dk_at dksX0_laysPlan_3 7 rfl rfl)
theorem dX0_laysPlan_78 : decode cX0_laysPlan 78 = .ok (.istore_n 2, 1) := dk_61 (dk_at dksX0_laysPlan_3 8 rfl rfl)
theorem dX0_laysPlan_79 : decode cX0_laysPlan 79 = .ok (.iload_n 2, 1) := dk_28 (dk_at dksX0_laysPlan_3 9 rfl rfl)
theorem dX0_laysPlan_80 : decode cX0_laysPlan 80 = .ok (.ifCond .lt 177, 3) := dk_155 0 177 (dk_at dksX0_laysPlan_3 10 rfl rfl)
theorem dX0_laysPlan_83 : decode cX0_laysPlan 83 = .ok (.aload_n 0, 1) := dk_42 (dk_at dksX0_laysPlan_3 13 rfl rfl)
theorem dX0_laysPlan_84 : decode cX0_laysPlan 84 = .ok (.getfield 56, 3) := dk_180 0 56 (dk_at dksX0_laysPlan_3 14 rfl rfl)
theorem dX0_laysPlan_87 : decode cX0_laysPlan 87 = .ok (.iload_n 2, 1) := dk_28 (dk_at dksX0_laysPlan_3 17 rfl rfl)
theorem dX0_laysPlan_88 : decode cX0_laysPlan 88 = .ok (.aaload, 1) := dk_50 (dk_at dksX0_laysPlan_3 18 rfl rfl)
theorem dX0_laysPlan_89 : decode cX0_laysPlan 89 = .ok (.iload_n 1, 1) := dk_27 (dk_at dksX0_laysPlan_3 19 rfl rfl)
theorem dX0_laysPlan_90 : decode cX0_laysPlan 90 = .ok (.iconst 0, 1) := dk_3 (dk_at dksX0_laysPlan_3 20 rfl rfl)
theorem dX0_laysPlan_91 : decode cX0_laysPlan 91 = .ok (.iastore, 1) := dk_79 (dk_at dksX0_laysPlan_3 21 rfl rfl)
theorem dX0_laysPlan_92 : decode cX0_laysPlan 92 = .ok (.aload_n 0, 1) := dk_42 (dk_at dksX0_laysPlan_3 22 rfl rfl)
theorem dX0_laysPlan_93 : decode cX0_laysPlan 93 = .ok (.getfield 59, 3) := dk_180 0 59 (dk_at dksX0_laysPlan_4 0 rfl rfl)
theorem dX0_laysPlan_96 : decode cX0_laysPlan 96 = .ok (.iload_n 2, 1) := dk_28 (dk_at dksX0_laysPlan_4 3 rfl rfl)
theorem dX0_laysPlan_97 : decode cX0_laysPlan 97 = .ok (.aaload, 1) := dk_50 (dk_at dksX0_laysPlan_4 4 rfl rfl)
theorem dX0_laysPlan_98 : decode cX0_laysPlan 98 = .ok (.iload_n 1, 1) := dk_27 (dk_at dksX0_laysPlan_4 5 rfl rfl)
theorem dX0_laysPlan_99 : decode cX0_laysPlan 99 = .ok (.iconst 0, 1) := dk_3 (dk_at dksX0_laysPlan_4 6 rfl rfl)
theorem dX0_laysPlan_100 : decode cX0_laysPlan 100 = .ok (.iastore, 1) := dk_79 (dk_at dksX0_laysPlan_4 7 rfl rfl)
theorem dX0_laysPlan_101 : decode cX0_laysPlan 101 = .ok (.iconst 0, 1) := dk_3 (dk_at dksX0_laysPlan_4 8 rfl rfl)
theorem dX0_laysPlan_102 : decode cX0_laysPlan 102 = .ok (.istore_n 3, 1) := dk_62 (dk_at dksX0_laysPlan_4 9 rfl rfl)
theorem dX0_laysPlan_103 : decode cX0_laysPlan 103 = .ok (.iload_n 3, 1) := dk_29 (dk_at dksX0_laysPlan_4 10 rfl rfl)
theorem dX0_laysPlan_104 : decode cX0_laysPlan 104 = .ok (.aload_n 0, 1) := dk_42 (dk_at dksX0_laysPlan_4 11 rfl rfl)
theorem dX0_laysPlan_105 : decode cX0_laysPlan 105 = .ok (.getfield 260, 3) := dk_180 1 4 (dk_at dksX0_laysPlan_4 12 rfl rfl)
theorem dX0_laysPlan_108 : decode cX0_laysPlan 108 = .ok (.if_icmp .ge 143, 3) := dk_162 0 143 (dk_at dksX0_laysPlan_4 15 rfl rfl)
theorem dX0_laysPlan_111 : decode cX0_laysPlan 111 = .ok (.iload_n 1, 1) := dk_27 (dk_at dksX0_laysPlan_4 18 rfl rfl)
theorem dX0_laysPlan_112 : decode cX0_laysPlan 112 = .ok (.aload_n 0, 1) := dk_42 (dk_at dksX0_laysPlan_4 19 rfl rfl)
theorem dX0_laysPlan_113 : decode cX0_laysPlan 113 = .ok (.getfield 257, 3) := dk_180 1 1 (dk_at dksX0_laysPlan_4 20 rfl rfl)
theorem dX0_laysPlan_116 : decode cX0_laysPlan 116 = .ok (.if_icmp .ge 135, 3) := dk_162 0 135 (dk_at dksX0_laysPlan_5 0 rfl rfl)
theorem dX0_laysPlan_119 : decode cX0_laysPlan 119 = .ok (.iload_n 2, 1) := dk_28 (dk_at dksX0_laysPlan_5 3 rfl rfl)
theorem dX0_laysPlan_120 : decode cX0_laysPlan 120 = .ok (.iload_n 3, 1) := dk_29 (dk_at dksX0_laysPlan_5 4 rfl rfl)
theorem dX0_laysPlan_121 : decode cX0_laysPlan 121 = .ok (.ishr, 1) := dk_122 (dk_at dksX0_laysPlan_5 5 rfl rfl)
theorem dX0_laysPlan_122 : decode cX0_laysPlan 122 = .ok (.iconst 1, 1) := dk_4 (dk_at dksX0_laysPlan_5 6 rfl rfl)
theorem dX0_laysPlan_123 : decode cX0_laysPlan 123 = .ok (.iand, 1) := dk_126 (dk_at dksX0_laysPlan_5 7 rfl rfl)
theorem dX0_laysPlan_124 : decode cX0_laysPlan 124 = .ok (.iconst 1, 1) := dk_4 (dk_at dksX0_laysPlan_5 8 rfl rfl)
theorem dX0_laysPlan_125 : decode cX0_laysPlan 125 = .ok (.if_icmp .ne 6, 3) := dk_160 0 6 (dk_at dksX0_laysPlan_5 9 rfl rfl)
theorem dX0_laysPlan_128 : decode cX0_laysPlan 128 = .ok (.goto 117, 3) := dk_167 0 117 (dk_at dksX0_laysPlan_5 12 rfl rfl)
theorem dX0_laysPlan_131 : decode cX0_laysPlan 131 = .ok (.iconst 0, 1) := dk_3 (dk_at dksX0_laysPlan_5 15 rfl rfl)
theorem dX0_laysPlan_132 : decode cX0_laysPlan 132 = .ok (.istore 4, 2) := dk_54 4 (dk_at dksX0_laysPlan_5 16 rfl rfl)
theorem dX0_laysPlan_134 : decode cX0_laysPlan 134 = .ok (.iload 4, 2) := dk_21 4 (dk_at dksX0_laysPlan_5 18 rfl rfl)
theorem dX0_laysPlan_136 : decode cX0_laysPlan 136 = .ok (.bipush 60, 2) := dk_16 60 (dk_at dksX0_laysPlan_5 20 rfl rfl)
theorem dX0_laysPlan_138 : decode cX0_laysPlan 138 = .ok (.if_icmp .ge 107, 3) := dk_162 0 107 (dk_at dksX0_laysPlan_6 0 rfl rfl)
theorem dX0_laysPlan_141 : decode cX0_laysPlan 141 = .ok (.aload_n 0, 1) := dk_42 (dk_at dksX0_laysPlan_6 3 rfl rfl)
theorem dX0_laysPlan_142 : decode cX0_laysPlan 142 = .ok (.iload 4, 2) := dk_21 4 (dk_at dksX0_laysPlan_6 4 rfl rfl)
theorem dX0_laysPlan_144 : decode cX0_laysPlan 144 = .ok (.invokevirtual 263, 3) := dk_182 1 7 (dk_at dksX0_laysPlan_6 6 rfl rfl)
theorem dX0_laysPlan_147 : decode cX0_laysPlan 147 = .ok (.ifCond .eq 92, 3) := dk_153 0 92 (dk_at dksX0_laysPlan_6 9 rfl rfl)
theorem dX0_laysPlan_150 : decode cX0_laysPlan 150 = .ok (.aload_n 0, 1) := dk_42 (dk_at dksX0_laysPlan_6 12 rfl rfl)
theorem dX0_laysPlan_151 : decode cX0_laysPlan 151 = .ok (.iload_n 2, 1) := dk_28 (dk_at dksX0_laysPlan_6 13 rfl rfl)
theorem dX0_laysPlan_152 : decode cX0_laysPlan 152 = .ok (.iload_n 1, 1) := dk_27 (dk_at dksX0_laysPlan_6 14 rfl rfl)
theorem dX0_laysPlan_153 : decode cX0_laysPlan 153 = .ok (.iload_n 3, 1) := dk_29 (dk_at dksX0_laysPlan_6 15 rfl rfl)
theorem dX0_laysPlan_154 : decode cX0_laysPlan 154 = .ok (.iload 4, 2) := dk_21 4 (dk_at dksX0_laysPlan_6 16 rfl rfl)
theorem dX0_laysPlan_156 : decode cX0_laysPlan 156 = .ok (.iconst 0, 1) := dk_3 (dk_at dksX0_laysPlan_6 18 rfl rfl)
theorem dX0_laysPlan_157 : decode cX0_laysPlan 157 = .ok (.invokevirtual 270, 3) := dk_182 1 14 (dk_at dksX0_laysPlan_6 19 rfl rfl)
theorem dX0_laysPlan_160 : decode cX0_laysPlan 160 = .ok (.ifCond .ne 6, 3) := dk_154 0 6 (dk_at dksX0_laysPlan_7 0 rfl rfl)
theorem dX0_laysPlan_163 : decode cX0_laysPlan 163 = .ok (.goto 76, 3) := dk_167 0 76 (dk_at dksX0_laysPlan_7 3 rfl rfl)
theorem dX0_laysPlan_166 : decode cX0_laysPlan 166 = .ok (.aload_n 0, 1) := dk_42 (dk_at dksX0_laysPlan_7 6 rfl rfl)
theorem dX0_laysPlan_167 : decode cX0_laysPlan 167 = .ok (.getfield 42, 3) := dk_180 0 42 (dk_at dksX0_laysPlan_7 7 rfl rfl)
theorem dX0_laysPlan_170 : decode cX0_laysPlan 170 = .ok (.iload_n 3, 1) := dk_29 (dk_at dksX0_laysPlan_7 10 rfl rfl)
theorem dX0_laysPlan_171 : decode cX0_laysPlan 171 = .ok (.aaload, 1) := dk_50 (dk_at dksX0_laysPlan_7 11 rfl rfl)
theorem dX0_laysPlan_172 : decode cX0_laysPlan 172 = .ok (.iload 4, 2) := dk_21 4 (dk_at dksX0_laysPlan_7 12 rfl rfl)
theorem dX0_laysPlan_174 : decode cX0_laysPlan 174 = .ok (.aaload, 1) := dk_50 (dk_at dksX0_laysPlan_7 14 rfl rfl)
theorem dX0_laysPlan_175 : decode cX0_laysPlan 175 = .ok (.iload_n 1, 1) := dk_27 (dk_at dksX0_laysPlan_7 15 rfl rfl)
theorem dX0_laysPlan_176 : decode cX0_laysPlan 176 = .ok (.iaload, 1) := dk_46 (dk_at dksX0_laysPlan_7 16 rfl rfl)
theorem dX0_laysPlan_177 : decode cX0_laysPlan 177 = .ok (.istore 5, 2) := dk_54 5 (dk_at dksX0_laysPlan_7 17 rfl rfl)
theorem dX0_laysPlan_179 : decode cX0_laysPlan 179 = .ok (.aload_n 0, 1) := dk_42 (dk_at dksX0_laysPlan_7 19 rfl rfl)
theorem dX0_laysPlan_180 : decode cX0_laysPlan 180 = .ok (.getfield 56, 3) := dk_180 0 56 (dk_at dksX0_laysPlan_7 20 rfl rfl)
theorem dX0_laysPlan_183 : decode cX0_laysPlan 183 = .ok (.iload_n 2, 1) := dk_28 (dk_at dksX0_laysPlan_7 23 rfl rfl)
theorem dX0_laysPlan_184 : decode cX0_laysPlan 184 = .ok (.aaload, 1) := dk_50 (dk_at dksX0_laysPlan_8 0 rfl rfl)
theorem dX0_laysPlan_185 : decode cX0_laysPlan 185 = .ok (.iload_n 1, 1) := dk_27 (dk_at dksX0_laysPlan_8 1 rfl rfl)
theorem dX0_laysPlan_186 : decode cX0_laysPlan 186 = .ok (.aload_n 0, 1) := dk_42 (dk_at dksX0_laysPlan_8 2 rfl rfl)
theorem dX0_laysPlan_187 : decode cX0_laysPlan 187 = .ok (.getfield 39, 3) := dk_180 0 39 (dk_at dksX0_laysPlan_8 3 rfl rfl)
theorem dX0_laysPlan_190 : decode cX0_laysPlan 190 = .ok (.iload_n 3, 1) := dk_29 (dk_at dksX0_laysPlan_8 6 rfl rfl)
theorem dX0_laysPlan_191 : decode cX0_laysPlan 191 = .ok (.aaload, 1) := dk_50 (dk_at dksX0_laysPlan_8 7 rfl rfl)
theorem dX0_laysPlan_192 : decode cX0_laysPlan 192 = .ok (.iload 4, 2) := dk_21 4 (dk_at dksX0_laysPlan_8 8 rfl rfl)
theorem dX0_laysPlan_194 : decode cX0_laysPlan 194 = .ok (.aaload, 1) := dk_50 (dk_at dksX0_laysPlan_8 10 rfl rfl)
theorem dX0_laysPlan_195 : decode cX0_laysPlan 195 = .ok (.iload_n 1, 1) := dk_27 (dk_at dksX0_laysPlan_8 11 rfl rfl)
theorem dX0_laysPlan_196 : decode cX0_laysPlan 196 = .ok (.iaload, 1) := dk_46 (dk_at dksX0_laysPlan_8 12 rfl rfl)
theorem dX0_laysPlan_197 : decode cX0_laysPlan 197 = .ok (.aload_n 0, 1) := dk_42 (dk_at dksX0_laysPlan_8 13 rfl rfl)
theorem dX0_laysPlan_198 : decode cX0_laysPlan 198 = .ok (.getfield 56, 3) := dk_180 0 56 (dk_at dksX0_laysPlan_8 14 rfl rfl)
theorem dX0_laysPlan_201 : decode cX0_laysPlan 201 = .ok (.iload_n 2, 1) := dk_28 (dk_at dksX0_laysPlan_8 17 rfl rfl)
theorem dX0_laysPlan_202 : decode cX0_laysPlan 202 = .ok (.iconst 1, 1) := dk_4 (dk_at dksX0_laysPlan_8 18 rfl rfl)
theorem dX0_laysPlan_203 : decode cX0_laysPlan 203 = .ok (.iload_n 3, 1) := dk_29 (dk_at dksX0_laysPlan_8 19 rfl rfl)
theorem dX0_laysPlan_204 : decode cX0_laysPlan 204 = .ok (.ishl, 1) := dk_120 (dk_at dksX0_laysPlan_8 20 rfl rfl)
theorem dX0_laysPlan_205 : decode cX0_laysPlan 205 = .ok (.ior, 1) := dk_128 (dk_at dksX0_laysPlan_8 21 rfl rfl)
theorem dX0_laysPlan_206 : decode cX0_laysPlan 206 = .ok (.aaload, 1) := dk_50 (dk_at dksX0_laysPlan_8 22 rfl rfl)
theorem dX0_laysPlan_207 : decode cX0_laysPlan 207 = .ok (.iload 5, 2) := dk_21 5 (dk_at dksX0_laysPlan_9 0 rfl rfl)
theorem dX0_laysPlan_209 : decode cX0_laysPlan 209 = .ok (.iconst 1, 1) := dk_4 (dk_at dksX0_laysPlan_9 2 rfl rfl)
theorem dX0_laysPlan_210 : decode cX0_laysPlan 210 = .ok (.iadd, 1) := dk_96 (dk_at dksX0_laysPlan_9 3 rfl rfl)
theorem dX0_laysPlan_211 : decode cX0_laysPlan 211 = .ok (.iaload, 1) := dk_46 (dk_at dksX0_laysPlan_9 4 rfl rfl)
theorem dX0_laysPlan_212 : decode cX0_laysPlan 212 = .ok (.iadd, 1) := dk_96 (dk_at dksX0_laysPlan_9 5 rfl rfl)
theorem dX0_laysPlan_213 : decode cX0_laysPlan 213 = .ok (.iastore, 1) := dk_79 (dk_at dksX0_laysPlan_9 6 rfl rfl)
theorem dX0_laysPlan_214 : decode cX0_laysPlan 214 = .ok (.aload_n 0, 1) := dk_42 (dk_at dksX0_laysPlan_9 7 rfl rfl)
theorem dX0_laysPlan_215 : decode cX0_laysPlan 215 = .ok (.getfield 59, 3) := dk_180 0 59 (dk_at dksX0_laysPlan_9 8 rfl rfl)
theorem dX0_laysPlan_218 : decode cX0_laysPlan 218 = .ok (.iload_n 2, 1) := dk_28 (dk_at dksX0_laysPlan_9 11 rfl rfl)
theorem dX0_laysPlan_219 : decode cX0_laysPlan 219 = .ok (.aaload, 1) := dk_50 (dk_at dksX0_laysPlan_9 12 rfl rfl)
theorem dX0_laysPlan_220 : decode cX0_laysPlan 220 = .ok (.iload_n 1, 1) := dk_27 (dk_at dksX0_laysPlan_9 13 rfl rfl)
theorem dX0_laysPlan_221 : decode cX0_laysPlan 221 = .ok (.iconst 1, 1) := dk_4 (dk_at dksX0_laysPlan_9 14 rfl rfl)
theorem dX0_laysPlan_222 : decode cX0_laysPlan 222 = .ok (.aload_n 0, 1) := dk_42 (dk_at dksX0_laysPlan_9 15 rfl rfl)
theorem dX0_laysPlan_223 : decode cX0_laysPlan 223 = .ok (.getfield 59, 3) := dk_180 0 59 (dk_at dksX0_laysPlan_9 16 rfl rfl)
theorem dX0_laysPlan_226 : decode cX0_laysPlan 226 = .ok (.iload_n 2, 1) := dk_28 (dk_at dksX0_laysPlan_9 19 rfl rfl)
theorem dX0_laysPlan_227 : decode cX0_laysPlan 227 = .ok (.iconst 1, 1) := dk_4 (dk_at dksX0_laysPlan_9 20 rfl rfl)
theorem dX0_laysPlan_228 : decode cX0_laysPlan 228 = .ok (.iload_n 3, 1) := dk_29 (dk_at dksX0_laysPlan_9 21 rfl rfl)
theorem dX0_laysPlan_229 : decode cX0_laysPlan 229 = .ok (.ishl, 1) := dk_120 (dk_at dksX0_laysPlan_9 22 rfl rfl)
theorem dX0_laysPlan_230 : decode cX0_laysPlan 230 = .ok (.ior, 1) := dk_128 (dk_at dksX0_laysPlan_9 23 rfl rfl)
theorem dX0_laysPlan_231 : decode cX0_laysPlan 231 = .ok (.aaload, 1) := dk_50 (dk_at dksX0_laysPlan_10 0 rfl rfl)
theorem dX0_laysPlan_232 : decode cX0_laysPlan 232 = .ok (.iload 5, 2) := dk_21 5 (dk_at dksX0_laysPlan_10 1 rfl rfl)
theorem dX0_laysPlan_234 : decode cX0_laysPlan 234 = .ok (.iconst 1, 1) := dk_4 (dk_at dksX0_laysPlan_10 3 rfl rfl)
theorem dX0_laysPlan_235 : decode cX0_laysPlan 235 = .ok (.iadd, 1) := dk_96 (dk_at dksX0_laysPlan_10 4 rfl rfl)
theorem dX0_laysPlan_236 : decode cX0_laysPlan 236 = .ok (.iaload, 1) := dk_46 (dk_at dksX0_laysPlan_10 5 rfl rfl)
theorem dX0_laysPlan_237 : decode cX0_laysPlan 237 = .ok (.iadd, 1) := dk_96 (dk_at dksX0_laysPlan_10 6 rfl rfl)
theorem dX0_laysPlan_238 : decode cX0_laysPlan 238 = .ok (.iastore, 1) := dk_79 (dk_at dksX0_laysPlan_10 7 rfl rfl)
theorem dX0_laysPlan_239 : decode cX0_laysPlan 239 = .ok (.iinc 4 1, 3) := dk_132 4 1 (dk_at dksX0_laysPlan_10 8 rfl rfl)
theorem dX0_laysPlan_242 : decode cX0_laysPlan 242 = .ok (.goto (-108), 3) := dk_167 255 148 (dk_at dksX0_laysPlan_10 11 rfl rfl)
theorem dX0_laysPlan_245 : decode cX0_laysPlan 245 = .ok (.iinc 3 1, 3) := dk_132 3 1 (dk_at dksX0_laysPlan_10 14 rfl rfl)
theorem dX0_laysPlan_248 : decode cX0_laysPlan 248 = .ok (.goto (-145), 3) := dk_167 255 111 (dk_at dksX0_laysPlan_10 17 rfl rfl)
theorem dX0_laysPlan_251 : decode cX0_laysPlan 251 = .ok (.iinc 2 (-1), 3) := dk_132 2 255 (dk_at dksX0_laysPlan_10 20 rfl rfl)
theorem dX0_laysPlan_254 : decode cX0_laysPlan 254 = .ok (.goto (-175), 3) := dk_167 255 81 (dk_at dksX0_laysPlan_11 0 rfl rfl)
theorem dX0_laysPlan_257 : decode cX0_laysPlan 257 = .ok (.iinc 1 (-1), 3) := dk_132 1 255 (dk_at dksX0_laysPlan_11 3 rfl rfl)
theorem dX0_laysPlan_260 : decode cX0_laysPlan 260 = .ok (.goto (-194), 3) := dk_167 255 62 (dk_at dksX0_laysPlan_11 6 rfl rfl)
theorem dX0_laysPlan_263 : decode cX0_laysPlan 263 = .ok (.return_, 1) := dk_177 (dk_at dksX0_laysPlan_11 9 rfl rfl)
abbrev cX0_isTeam : ByteArray := prog_1_method_44_code
def yX0_isTeam : MethodName := ⟨RX0, "isTeam", "(I)Z"⟩
def dkwX0_isTeam_1 : List UInt8 := [16, 10, 108, 27, 16, 10, 112, 163, 0, 7, 4, 167, 0, 4, 3, 172]
abbrev dktX0_isTeam_1 : List UInt8 := dkwX0_isTeam_1 ++ []
def dkwX0_isTeam_0 : List UInt8 := [42, 27, 16, 10, 108, 182, 0, 90, 153, 0, 29, 42, 27, 16, 10, 112, 182, 0, 90, 153, 0, 18, 27]
abbrev dktX0_isTeam_0 : List UInt8 := dkwX0_isTeam_0 ++ dktX0_isTeam_1
theorem dksX0_isTeam_0 : cX0_isTeam.data.toList.drop 0 = dktX0_isTeam_0 := by decide +kernel
theorem dksX0_isTeam_1 : cX0_isTeam.data.toList.drop 23 = dktX0_isTeam_1 := dk_seg dksX0_isTeam_0 23 rfl rfl
theorem dX0_isTeam_0 : decode cX0_isTeam 0 = .ok (.aload_n 0, 1) := dk_42 (dk_at dksX0_isTeam_0 0 rfl rfl)
theorem dX0_isTeam_1 : decode cX0_isTeam 1 = .ok (.iload_n 1, 1) := dk_27 (dk_at dksX0_isTeam_0 1 rfl rfl)
theorem dX0_isTeam_2 : decode cX0_isTeam 2 = .ok (.bipush 10, 2) := dk_16 10 (dk_at dksX0_isTeam_0 2 rfl rfl)
theorem dX0_isTeam_4 : decode cX0_isTeam 4 = .ok (.idiv, 1) := dk_108 (dk_at dksX0_isTeam_0 4 rfl rfl)
theorem dX0_isTeam_5 : decode cX0_isTeam 5 = .ok (.invokevirtual 90, 3) := dk_182 0 90 (dk_at dksX0_isTeam_0 5 rfl rfl)
theorem dX0_isTeam_8 : decode cX0_isTeam 8 = .ok (.ifCond .eq 29, 3) := dk_153 0 29 (dk_at dksX0_isTeam_0 8 rfl rfl)
theorem dX0_isTeam_11 : decode cX0_isTeam 11 = .ok (.aload_n 0, 1) := dk_42 (dk_at dksX0_isTeam_0 11 rfl rfl)
theorem dX0_isTeam_12 : decode cX0_isTeam 12 = .ok (.iload_n 1, 1) := dk_27 (dk_at dksX0_isTeam_0 12 rfl rfl)
theorem dX0_isTeam_13 : decode cX0_isTeam 13 = .ok (.bipush 10, 2) := dk_16 10 (dk_at dksX0_isTeam_0 13 rfl rfl)
theorem dX0_isTeam_15 : decode cX0_isTeam 15 = .ok (.irem, 1) := dk_112 (dk_at dksX0_isTeam_0 15 rfl rfl)
theorem dX0_isTeam_16 : decode cX0_isTeam 16 = .ok (.invokevirtual 90, 3) := dk_182 0 90 (dk_at dksX0_isTeam_0 16 rfl rfl)
theorem dX0_isTeam_19 : decode cX0_isTeam 19 = .ok (.ifCond .eq 18, 3) := dk_153 0 18 (dk_at dksX0_isTeam_0 19 rfl rfl)
theorem dX0_isTeam_22 : decode cX0_isTeam 22 = .ok (.iload_n 1, 1) := dk_27 (dk_at dksX0_isTeam_0 22 rfl rfl)
theorem dX0_isTeam_23 : decode cX0_isTeam 23 = .ok (.bipush 10, 2) := dk_16 10 (dk_at dksX0_isTeam_1 0 rfl rfl)
theorem dX0_isTeam_25 : decode cX0_isTeam 25 = .ok (.idiv, 1) := dk_108 (dk_at dksX0_isTeam_1 2 rfl rfl)
theorem dX0_isTeam_26 : decode cX0_isTeam 26 = .ok (.iload_n 1, 1) := dk_27 (dk_at dksX0_isTeam_1 3 rfl rfl)
theorem dX0_isTeam_27 : decode cX0_isTeam 27 = .ok (.bipush 10, 2) := dk_16 10 (dk_at dksX0_isTeam_1 4 rfl rfl)
theorem dX0_isTeam_29 : decode cX0_isTeam 29 = .ok (.irem, 1) := dk_112 (dk_at dksX0_isTeam_1 6 rfl rfl)
theorem dX0_isTeam_30 : decode cX0_isTeam 30 = .ok (.if_icmp .gt 7, 3) := dk_163 0 7 (dk_at dksX0_isTeam_1 7 rfl rfl)
theorem dX0_isTeam_33 : decode cX0_isTeam 33 = .ok (.iconst 1, 1) := dk_4 (dk_at dksX0_isTeam_1 10 rfl rfl)
theorem dX0_isTeam_34 : decode cX0_isTeam 34 = .ok (.goto 4, 3) := dk_167 0 4 (dk_at dksX0_isTeam_1 11 rfl rfl)
theorem dX0_isTeam_37 : decode cX0_isTeam 37 = .ok (.iconst 0, 1) := dk_3 (dk_at dksX0_isTeam_1 14 rfl rfl)
theorem dX0_isTeam_38 : decode cX0_isTeam 38 = .ok (.ireturn, 1) := dk_172 (dk_at dksX0_isTeam_1 15 rfl rfl)
abbrev cX0_laysWork : ByteArray := prog_1_method_43_code
def yX0_laysWork : MethodName := ⟨RX0, "laysWork", "(III)V"⟩
def dkwX0_laysWork_12 : List UInt8 := [132, 10, 1, 167, 255, 24, 177]
abbrev dktX0_laysWork_12 : List UInt8 := dkwX0_laysWork_12 ++ []
def dkwX0_laysWork_11 : List UInt8 := [28, 50, 29, 21, 10, 79, 42, 180, 0, 39, 27, 50, 28, 50, 29, 25, 4, 5, 46, 21, 7, 100, 79, 177]
abbrev dktX0_laysWork_11 : List UInt8 := dkwX0_laysWork_11 ++ dktX0_laysWork_12
def dkwX0_laysWork_10 : List UInt8 := [158, 0, 6, 167, 0, 45, 25, 4, 4, 46, 21, 6, 2, 130, 126, 154, 0, 15, 42, 180, 0, 42, 27, 50]
abbrev dktX0_laysWork_10 : List UInt8 := dkwX0_laysWork_10 ++ dktX0_laysWork_11
def dkwX0_laysWork_9 : List UInt8 := [21, 10, 96, 182, 0, 161, 104, 96, 96, 54, 7, 21, 5, 21, 12, 21, 13, 96, 100, 54, 5, 21, 5]
abbrev dktX0_laysWork_9 : List UInt8 := dkwX0_laysWork_9 ++ dktX0_laysWork_10
def dkwX0_laysWork_8 : List UInt8 := [42, 21, 8, 42, 182, 0, 189, 21, 10, 96, 182, 0, 161, 104, 21, 13, 42, 21, 9, 42, 182, 0, 189]
abbrev dktX0_laysWork_8 : List UInt8 := dkwX0_laysWork_8 ++ dktX0_laysWork_9
def dkwX0_laysWork_7 : List UInt8 := [180, 0, 12, 180, 0, 80, 21, 9, 50, 4, 46, 120, 167, 0, 4, 3, 128, 128, 54, 6, 21, 7, 21, 12]
abbrev dktX0_laysWork_7 : List UInt8 := dkwX0_laysWork_7 ++ dktX0_laysWork_8
def dkwX0_laysWork_6 : List UInt8 := [42, 180, 0, 12, 180, 0, 80, 21, 8, 50, 4, 46, 120, 167, 0, 4, 3, 21, 13, 158, 0, 20, 4, 42]
abbrev dktX0_laysWork_6 : List UInt8 := dkwX0_laysWork_6 ++ dktX0_laysWork_7
def dkwX0_laysWork_5 : List UInt8 := [180, 0, 12, 180, 0, 80, 21, 9, 50, 3, 46, 184, 0, 207, 54, 13, 21, 6, 21, 12, 158, 0, 20, 4]
abbrev dktX0_laysWork_5 : List UInt8 := dkwX0_laysWork_5 ++ dktX0_laysWork_6
def dkwX0_laysWork_4 : List UInt8 := [46, 184, 0, 207, 54, 12, 21, 8, 21, 9, 160, 0, 7, 3, 167, 0, 23, 21, 11, 21, 12, 100, 42]
abbrev dktX0_laysWork_4 : List UInt8 := dkwX0_laysWork_4 ++ dktX0_laysWork_5
def dkwX0_laysWork_3 : List UInt8 := [21, 10, 96, 182, 0, 157, 184, 0, 207, 54, 11, 21, 11, 42, 180, 0, 12, 180, 0, 80, 21, 8, 50, 3]
abbrev dktX0_laysWork_3 : List UInt8 := dkwX0_laysWork_3 ++ dktX0_laysWork_4
def dkwX0_laysWork_2 : List UInt8 := [50, 29, 2, 79, 29, 54, 10, 21, 10, 42, 180, 1, 1, 162, 0, 229, 21, 5, 42, 42, 182, 0, 189]
abbrev dktX0_laysWork_2 : List UInt8 := dkwX0_laysWork_2 ++ dktX0_laysWork_3
def dkwX0_laysWork_1 : List UInt8 := [54, 6, 3, 54, 7, 28, 16, 10, 108, 54, 8, 28, 16, 10, 112, 54, 9, 42, 180, 0, 42, 27, 50, 28]
abbrev dktX0_laysWork_1 : List UInt8 := dkwX0_laysWork_1 ++ dktX0_laysWork_2
def dkwX0_laysWork_0 : List UInt8 := [42, 180, 0, 12, 180, 0, 98, 42, 180, 0, 45, 27, 46, 50, 58, 4, 25, 4, 3, 46, 54, 5, 3]
abbrev dktX0_laysWork_0 : List UInt8 := dkwX0_laysWork_0 ++ dktX0_laysWork_1
theorem dksX0_laysWork_0 : cX0_laysWork.data.toList.drop 0 = dktX0_laysWork_0 := by decide +kernel
theorem dksX0_laysWork_1 : cX0_laysWork.data.toList.drop 23 = dktX0_laysWork_1 := dk_seg dksX0_laysWork_0 23 rfl rfl
theorem dksX0_laysWork_2 : cX0_laysWork.data.toList.drop 47 = dktX0_laysWork_2 := dk_seg dksX0_laysWork_1 24 rfl rfl
theorem dksX0_laysWork_3 : cX0_laysWork.data.toList.drop 70 = dktX0_laysWork_3 := dk_seg dksX0_laysWork_2 23 rfl rfl
theorem dksX0_laysWork_4 : cX0_laysWork.data.toList.drop 94 = dktX0_laysWork_4 := dk_seg dksX0_laysWork_3 24 rfl rfl
theorem dksX0_laysWork_5 : cX0_laysWork.data.toList.drop 117 = dktX0_laysWork_5 := dk_seg dksX0_laysWork_4 23 rfl rfl
theorem dksX0_laysWork_6 : cX0_laysWork.data.toList.drop 141 = dktX0_laysWork_6 := dk_seg dksX0_laysWork_5 24 rfl rfl
theorem dksX0_laysWork_7 : cX0_laysWork.data.toList.drop 165 = dktX0_laysWork_7 := dk_seg dksX0_laysWork_6 24 rfl rfl
theorem dksX0_laysWork_8 : cX0_laysWork.data.toList.drop 189 = dktX0_laysWork_8 := dk_seg dksX0_laysWork_7 24 rfl rfl
theorem dksX0_laysWork_9 : cX0_laysWork.data.toList.drop 212 = dktX0_laysWork_9 := dk_seg dksX0_laysWork_8 23 rfl rfl
theorem dksX0_laysWork_10 : cX0_laysWork.data.toList.drop 235 = dktX0_laysWork_10 := dk_seg dksX0_laysWork_9 23 rfl rfl
theorem dksX0_laysWork_11 : cX0_laysWork.data.toList.drop 259 = dktX0_laysWork_11 := dk_seg dksX0_laysWork_10 24 rfl rfl
theorem dksX0_laysWork_12 : cX0_laysWork.data.toList.drop 283 = dktX0_laysWork_12 := dk_seg dksX0_laysWork_11 24 rfl rfl
theorem dX0_laysWork_0 : decode cX0_laysWork 0 = .ok (.aload_n 0, 1) := dk_42 (dk_at dksX0_laysWork_0 0 rfl rfl)
theorem dX0_laysWork_1 : decode cX0_laysWork 1 = .ok (.getfield 12, 3) := dk_180 0 12 (dk_at dksX0_laysWork_0 1 rfl rfl)
theorem dX0_laysWork_4 : decode cX0_laysWork 4 = .ok (.getfield 98, 3) := dk_180 0 98 (dk_at dksX0_laysWork_0 4 rfl rfl)
theorem dX0_laysWork_7 : decode cX0_laysWork 7 = .ok (.aload_n 0, 1) := dk_42 (dk_at dksX0_laysWork_0 7 rfl rfl)
theorem dX0_laysWork_8 : decode cX0_laysWork 8 = .ok (.getfield 45, 3) := dk_180 0 45 (dk_at dksX0_laysWork_0 8 rfl rfl)
theorem dX0_laysWork_11 : decode cX0_laysWork 11 = .ok (.iload_n 1, 1) := dk_27 (dk_at dksX0_laysWork_0 11 rfl rfl)
theorem dX0_laysWork_12 : decode cX0_laysWork 12 = .ok (.iaload, 1) := dk_46 (dk_at dksX0_laysWork_0 12 rfl rfl)
theorem dX0_laysWork_13 : decode cX0_laysWork 13 = .ok (.aaload, 1) := dk_50 (dk_at dksX0_laysWork_0 13 rfl rfl)
theorem dX0_laysWork_14 : decode cX0_laysWork 14 = .ok (.astore 4, 2) := dk_58 4 (dk_at dksX0_laysWork_0 14 rfl rfl)
theorem dX0_laysWork_16 : decode cX0_laysWork 16 = .ok (.aload 4, 2) := dk_25 4 (dk_at dksX0_laysWork_0 16 rfl rfl)
theorem dX0_laysWork_18 : decode cX0_laysWork 18 = .ok (.iconst 0, 1) := dk_3 (dk_at dksX0_laysWork_0 18 rfl rfl)
theorem dX0_laysWork_19 : decode cX0_laysWork 19 = .ok (.iaload, 1) := dk_46 (dk_at dksX0_laysWork_0 19 rfl rfl)
theorem dX0_laysWork_20 : decode cX0_laysWork 20 = .ok (.istore 5, 2) := dk_54 5 (dk_at dksX0_laysWork_0 20 rfl rfl)
theorem dX0_laysWork_22 : decode cX0_laysWork 22 = .ok (.iconst 0, 1) := dk_3 (dk_at dksX0_laysWork_0 22 rfl rfl)
theorem dX0_laysWork_23 : decode cX0_laysWork 23 = .ok (.istore 6, 2) := dk_54 6 (dk_at dksX0_laysWork_1 0 rfl rfl)
theorem dX0_laysWork_25 : decode cX0_laysWork 25 = .ok (.iconst 0, 1) := dk_3 (dk_at dksX0_laysWork_1 2 rfl rfl)
theorem dX0_laysWork_26 : decode cX0_laysWork 26 = .ok (.istore 7, 2) := dk_54 7 (dk_at dksX0_laysWork_1 3 rfl rfl)
theorem dX0_laysWork_28 : decode cX0_laysWork 28 = .ok (.iload_n 2, 1) := dk_28 (dk_at dksX0_laysWork_1 5 rfl rfl)
theorem dX0_laysWork_29 : decode cX0_laysWork 29 = .ok (.bipush 10, 2) := dk_16 10 (dk_at dksX0_laysWork_1 6 rfl rfl)
theorem dX0_laysWork_31 : decode cX0_laysWork 31 = .ok (.idiv, 1) := dk_108 (dk_at dksX0_laysWork_1 8 rfl rfl)
theorem dX0_laysWork_32 : decode cX0_laysWork 32 = .ok (.istore 8, 2) := dk_54 8 (dk_at dksX0_laysWork_1 9 rfl rfl)
theorem dX0_laysWork_34 : decode cX0_laysWork 34 = .ok (.iload_n 2, 1) := dk_28 (dk_at dksX0_laysWork_1 11 rfl rfl)
theorem dX0_laysWork_35 : decode cX0_laysWork 35 = .ok (.bipush 10, 2) := dk_16 10 (dk_at dksX0_laysWork_1 12 rfl rfl)
theorem dX0_laysWork_37 : decode cX0_laysWork 37 = .ok (.irem, 1) := dk_112 (dk_at dksX0_laysWork_1 14 rfl rfl)
theorem dX0_laysWork_38 : decode cX0_laysWork 38 = .ok (.istore 9, 2) := dk_54 9 (dk_at dksX0_laysWork_1 15 rfl rfl)
theorem dX0_laysWork_40 : decode cX0_laysWork 40 = .ok (.aload_n 0, 1) := dk_42 (dk_at dksX0_laysWork_1 17 rfl rfl)
theorem dX0_laysWork_41 : decode cX0_laysWork 41 = .ok (.getfield 42, 3) := dk_180 0 42 (dk_at dksX0_laysWork_1 18 rfl rfl)
theorem dX0_laysWork_44 : decode cX0_laysWork 44 = .ok (.iload_n 1, 1) := dk_27 (dk_at dksX0_laysWork_1 21 rfl rfl)
theorem dX0_laysWork_45 : decode cX0_laysWork 45 = .ok (.aaload, 1) := dk_50 (dk_at dksX0_laysWork_1 22 rfl rfl)
theorem dX0_laysWork_46 : decode cX0_laysWork 46 = .ok (.iload_n 2, 1) := dk_28 (dk_at dksX0_laysWork_1 23 rfl rfl)
theorem dX0_laysWork_47 : decode cX0_laysWork 47 = .ok (.aaload, 1) := dk_50 (dk_at dksX0_laysWork_2 0 rfl rfl)
theorem dX0_laysWork_48 : decode cX0_laysWork 48 = .ok (.iload_n 3, 1) := dk_29 (dk_at dksX0_laysWork_2 1 rfl rfl)
theorem dX0_laysWork_49 : decode cX0_laysWork 49 = .ok (.iconst (-1), 1) := dk_2 (dk_at dksX0_laysWork_2 2 rfl rfl)
theorem dX0_laysWork_50 : decode cX0_laysWork 50 = .ok (.iastore, 1) := dk_79 (dk_at dksX0_laysWork_2 3 rfl rfl)
theorem dX0_laysWork_51 : decode cX0_laysWork 51 = .ok (.iload_n 3, 1) := dk_29 (dk_at dksX0_laysWork_2 4 rfl rfl)
theorem dX0_laysWork_52 : decode cX0_laysWork 52 = .ok (.istore 10, 2) := dk_54 10 (dk_at dksX0_laysWork_2 5 rfl rfl)
theorem dX0_laysWork_54 : decode cX0_laysWork 54 = .ok (.iload 10, 2) := dk_21 10 (dk_at dksX0_laysWork_2 7 rfl rfl)
theorem dX0_laysWork_56 : decode cX0_laysWork 56 = .ok (.aload_n 0, 1) := dk_42 (dk_at dksX0_laysWork_2 9 rfl rfl)
theorem dX0_laysWork_57 : decode cX0_laysWork 57 = .ok (.getfield 257, 3) := dk_180 1 1 (dk_at dksX0_laysWork_2 10 rfl rfl)
theorem dX0_laysWork_60 : decode cX0_laysWork 60 = .ok (.if_icmp .ge 229, 3) := dk_162 0 229 (dk_at dksX0_laysWork_2 13 rfl rfl)
theorem dX0_laysWork_63 : decode cX0_laysWork 63 = .ok (.iload 5, 2) := dk_21 5 (dk_at dksX0_laysWork_2 16 rfl rfl)
theorem dX0_laysWork_65 : decode cX0_laysWork 65 = .ok (.aload_n 0, 1) := dk_42 (dk_at dksX0_laysWork_2 18 rfl rfl)
theorem dX0_laysWork_66 : decode cX0_laysWork 66 = .ok (.aload_n 0, 1) := dk_42 (dk_at dksX0_laysWork_2 19 rfl rfl)
theorem dX0_laysWork_67 : decode cX0_laysWork 67 = .ok (.invokevirtual 189, 3) := dk_182 0 189 (dk_at dksX0_laysWork_2 20 rfl rfl)
theorem dX0_laysWork_70 : decode cX0_laysWork 70 = .ok (.iload 10, 2) := dk_21 10 (dk_at dksX0_laysWork_3 0 rfl rfl)
theorem dX0_laysWork_72 : decode cX0_laysWork 72 = .ok (.iadd, 1) := dk_96 (dk_at dksX0_laysWork_3 2 rfl rfl)
theorem dX0_laysWork_73 : decode cX0_laysWork 73 = .ok (.invokevirtual 157, 3) := dk_182 0 157 (dk_at dksX0_laysWork_3 3 rfl rfl)
theorem dX0_laysWork_76 : decode cX0_laysWork 76 = .ok (.invokestatic 207, 3) := dk_184 0 207 (dk_at dksX0_laysWork_3 6 rfl rfl)
theorem dX0_laysWork_79 : decode cX0_laysWork 79 = .ok (.istore 11, 2) := dk_54 11 (dk_at dksX0_laysWork_3 9 rfl rfl)
theorem dX0_laysWork_81 : decode cX0_laysWork 81 = .ok (.iload 11, 2) := dk_21 11 (dk_at dksX0_laysWork_3 11 rfl rfl)
theorem dX0_laysWork_83 : decode cX0_laysWork 83 = .ok (.aload_n 0, 1) := dk_42 (dk_at dksX0_laysWork_3 13 rfl rfl)
theorem dX0_laysWork_84 : decode cX0_laysWork 84 = .ok (.getfield 12, 3) := dk_180 0 12 (dk_at dksX0_laysWork_3 14 rfl rfl)
theorem dX0_laysWork_87 : decode cX0_laysWork 87 = .ok (.getfield 80, 3) := dk_180 0 80 (dk_at dksX0_laysWork_3 17 rfl rfl)
theorem dX0_laysWork_90 : decode cX0_laysWork 90 = .ok (.iload 8, 2) := dk_21 8 (dk_at dksX0_laysWork_3 20 rfl rfl)
theorem dX0_laysWork_92 : decode cX0_laysWork 92 = .ok (.aaload, 1) := dk_50 (dk_at dksX0_laysWork_3 22 rfl rfl)
theorem dX0_laysWork_93 : decode cX0_laysWork 93 = .ok (.iconst 0, 1) := dk_3 (dk_at dksX0_laysWork_3 23 rfl rfl)
theorem dX0_laysWork_94 : decode cX0_laysWork 94 = .ok (.iaload, 1) := dk_46 (dk_at dksX0_laysWork_4 0 rfl rfl)
theorem dX0_laysWork_95 : decode cX0_laysWork 95 = .ok (.invokestatic 207, 3) := dk_184 0 207 (dk_at dksX0_laysWork_4 1 rfl rfl)
theorem dX0_laysWork_98 : decode cX0_laysWork 98 = .ok (.istore 12, 2) := dk_54 12 (dk_at dksX0_laysWork_4 4 rfl rfl)
theorem dX0_laysWork_100 : decode cX0_laysWork 100 = .ok (.iload 8, 2) := dk_21 8 (dk_at dksX0_laysWork_4 6 rfl rfl)
theorem dX0_laysWork_102 : decode cX0_laysWork 102 = .ok (.iload 9, 2) := dk_21 9 (dk_at dksX0_laysWork_4 8 rfl rfl)
theorem dX0_laysWork_104 : decode cX0_laysWork 104 = .ok (.if_icmp .ne 7, 3) := dk_160 0 7 (dk_at dksX0_laysWork_4 10 rfl rfl)
theorem dX0_laysWork_107 : decode cX0_laysWork 107 = .ok (.iconst 0, 1) := dk_3 (dk_at dksX0_laysWork_4 13 rfl rfl)
theorem dX0_laysWork_108 : decode cX0_laysWork 108 = .ok (.goto 23, 3) := dk_167 0 23 (dk_at dksX0_laysWork_4 14 rfl rfl)
theorem dX0_laysWork_111 : decode cX0_laysWork 111 = .ok (.iload 11, 2) := dk_21 11 (dk_at dksX0_laysWork_4 17 rfl rfl)
theorem dX0_laysWork_113 : decode cX0_laysWork 113 = .ok (.iload 12, 2) := dk_21 12 (dk_at dksX0_laysWork_4 19 rfl rfl)
theorem dX0_laysWork_115 : decode cX0_laysWork 115 = .ok (.isub, 1) := dk_100 (dk_at dksX0_laysWork_4 21 rfl rfl)
theorem dX0_laysWork_116 : decode cX0_laysWork 116 = .ok (.aload_n 0, 1) := dk_42 (dk_at dksX0_laysWork_4 22 rfl rfl)
theorem dX0_laysWork_117 : decode cX0_laysWork 117 = .ok (.getfield 12, 3) := dk_180 0 12 (dk_at dksX0_laysWork_5 0 rfl rfl)
theorem dX0_laysWork_120 : decode cX0_laysWork 120 = .ok (.getfield 80, 3) := dk_180 0 80 (dk_at dksX0_laysWork_5 3 rfl rfl)
theorem dX0_laysWork_123 : decode cX0_laysWork 123 = .ok (.iload 9, 2) := dk_21 9 (dk_at dksX0_laysWork_5 6 rfl rfl)
theorem dX0_laysWork_125 : decode cX0_laysWork 125 = .ok (.aaload, 1) := dk_50 (dk_at dksX0_laysWork_5 8 rfl rfl)
theorem dX0_laysWork_126 : decode cX0_laysWork 126 = .ok (.iconst 0, 1) := dk_3 (dk_at dksX0_laysWork_5 9 rfl rfl)
theorem dX0_laysWork_127 : decode cX0_laysWork 127 = .ok (.iaload, 1) := dk_46 (dk_at dksX0_laysWork_5 10 rfl rfl)
theorem dX0_laysWork_128 : decode cX0_laysWork 128 = .ok (.invokestatic 207, 3) := dk_184 0 207 (dk_at dksX0_laysWork_5 11 rfl rfl)
theorem dX0_laysWork_131 : decode cX0_laysWork 131 = .ok (.istore 13, 2) := dk_54 13 (dk_at dksX0_laysWork_5 14 rfl rfl)
theorem dX0_laysWork_133 : decode cX0_laysWork 133 = .ok (.iload 6, 2) := dk_21 6 (dk_at dksX0_laysWork_5 16 rfl rfl)
theorem dX0_laysWork_135 : decode cX0_laysWork 135 = .ok (.iload 12, 2) := dk_21 12 (dk_at dksX0_laysWork_5 18 rfl rfl)
theorem dX0_laysWork_137 : decode cX0_laysWork 137 = .ok (.ifCond .le 20, 3) := dk_158 0 20 (dk_at dksX0_laysWork_5 20 rfl rfl)
theorem dX0_laysWork_140 : decode cX0_laysWork 140 = .ok (.iconst 1, 1) := dk_4 (dk_at dksX0_laysWork_5 23 rfl rfl)
theorem dX0_laysWork_141 : decode cX0_laysWork 141 = .ok (.aload_n 0, 1) := dk_42 (dk_at dksX0_laysWork_6 0 rfl rfl)
theorem dX0_laysWork_142 : decode cX0_laysWork 142 = .ok (.getfield 12, 3) := dk_180 0 12 (dk_at dksX0_laysWork_6 1 rfl rfl)
theorem dX0_laysWork_145 : decode cX0_laysWork 145 = .ok (.getfield 80, 3) := dk_180 0 80 (dk_at dksX0_laysWork_6 4 rfl rfl)
theorem dX0_laysWork_148 : decode cX0_laysWork 148 = .ok (.iload 8, 2) := dk_21 8 (dk_at dksX0_laysWork_6 7 rfl rfl)
theorem dX0_laysWork_150 : decode cX0_laysWork 150 = .ok (.aaload, 1) := dk_50 (dk_at dksX0_laysWork_6 9 rfl rfl)
theorem dX0_laysWork_151 : decode cX0_laysWork 151 = .ok (.iconst 1, 1) := dk_4 (dk_at dksX0_laysWork_6 10 rfl rfl)
theorem dX0_laysWork_152 : decode cX0_laysWork 152 = .ok (.iaload, 1) := dk_46 (dk_at dksX0_laysWork_6 11 rfl rfl)
theorem dX0_laysWork_153 : decode cX0_laysWork 153 = .ok (.ishl, 1) := dk_120 (dk_at dksX0_laysWork_6 12 rfl rfl)
theorem dX0_laysWork_154 : decode cX0_laysWork 154 = .ok (.goto 4, 3) := dk_167 0 4 (dk_at dksX0_laysWork_6 13 rfl rfl)
theorem dX0_laysWork_157 : decode cX0_laysWork 157 = .ok (.iconst 0, 1) := dk_3 (dk_at dksX0_laysWork_6 16 rfl rfl)
theorem dX0_laysWork_158 : decode cX0_laysWork 158 = .ok (.iload 13, 2) := dk_21 13 (dk_at dksX0_laysWork_6 17 rfl rfl)
theorem dX0_laysWork_160 : decode cX0_laysWork 160 = .ok (.ifCond .le 20, 3) := dk_158 0 20 (dk_at dksX0_laysWork_6 19 rfl rfl)
theorem dX0_laysWork_163 : decode cX0_laysWork 163 = .ok (.iconst 1, 1) := dk_4 (dk_at dksX0_laysWork_6 22 rfl rfl)
theorem dX0_laysWork_164 : decode cX0_laysWork 164 = .ok (.aload_n 0, 1) := dk_42 (dk_at dksX0_laysWork_6 23 rfl rfl)
theorem dX0_laysWork_165 : decode cX0_laysWork 165 = .ok (.getfield 12, 3) := dk_180 0 12 (dk_at dksX0_laysWork_7 0 rfl rfl)
theorem dX0_laysWork_168 : decode cX0_laysWork 168 = .ok (.getfield 80, 3) := dk_180 0 80 (dk_at dksX0_laysWork_7 3 rfl rfl)
theorem dX0_laysWork_171 : decode cX0_laysWork 171 = .ok (.iload 9, 2) := dk_21 9 (dk_at dksX0_laysWork_7 6 rfl rfl)
theorem dX0_laysWork_173 : decode cX0_laysWork 173 = .ok (.aaload, 1) := dk_50 (dk_at dksX0_laysWork_7 8 rfl rfl)
theorem dX0_laysWork_174 : decode cX0_laysWork 174 = .ok (.iconst 1, 1) := dk_4 (dk_at dksX0_laysWork_7 9 rfl rfl)
theorem dX0_laysWork_175 : decode cX0_laysWork 175 = .ok (.iaload, 1) := dk_46 (dk_at dksX0_laysWork_7 10 rfl rfl)
theorem dX0_laysWork_176 : decode cX0_laysWork 176 = .ok (.ishl, 1) := dk_120 (dk_at dksX0_laysWork_7 11 rfl rfl)
theorem dX0_laysWork_177 : decode cX0_laysWork 177 = .ok (.goto 4, 3) := dk_167 0 4 (dk_at dksX0_laysWork_7 12 rfl rfl)
theorem dX0_laysWork_180 : decode cX0_laysWork 180 = .ok (.iconst 0, 1) := dk_3 (dk_at dksX0_laysWork_7 15 rfl rfl)
theorem dX0_laysWork_181 : decode cX0_laysWork 181 = .ok (.ior, 1) := dk_128 (dk_at dksX0_laysWork_7 16 rfl rfl)
theorem dX0_laysWork_182 : decode cX0_laysWork 182 = .ok (.ior, 1) := dk_128 (dk_at dksX0_laysWork_7 17 rfl rfl)
theorem dX0_laysWork_183 : decode cX0_laysWork 183 = .ok (.istore 6, 2) := dk_54 6 (dk_at dksX0_laysWork_7 18 rfl rfl)
theorem dX0_laysWork_185 : decode cX0_laysWork 185 = .ok (.iload 7, 2) := dk_21 7 (dk_at dksX0_laysWork_7 20 rfl rfl)
theorem dX0_laysWork_187 : decode cX0_laysWork 187 = .ok (.iload 12, 2) := dk_21 12 (dk_at dksX0_laysWork_7 22 rfl rfl)
theorem dX0_laysWork_189 : decode cX0_laysWork 189 = .ok (.aload_n 0, 1) := dk_42 (dk_at dksX0_laysWork_8 0 rfl rfl)
theorem dX0_laysWork_190 : decode cX0_laysWork 190 = .ok (.iload 8, 2) := dk_21 8 (dk_at dksX0_laysWork_8 1 rfl rfl)
theorem dX0_laysWork_192 : decode cX0_laysWork 192 = .ok (.aload_n 0, 1) := dk_42 (dk_at dksX0_laysWork_8 3 rfl rfl)
theorem dX0_laysWork_193 : decode cX0_laysWork 193 = .ok (.invokevirtual 189, 3) := dk_182 0 189 (dk_at dksX0_laysWork_8 4 rfl rfl)
theorem dX0_laysWork_196 : decode cX0_laysWork 196 = .ok (.iload 10, 2) := dk_21 10 (dk_at dksX0_laysWork_8 7 rfl rfl)
theorem dX0_laysWork_198 : decode cX0_laysWork 198 = .ok (.iadd, 1) := dk_96 (dk_at dksX0_laysWork_8 9 rfl rfl)
theorem dX0_laysWork_199 : decode cX0_laysWork 199 = .ok (.invokevirtual 161, 3) := dk_182 0 161 (dk_at dksX0_laysWork_8 10 rfl rfl)
theorem dX0_laysWork_202 : decode cX0_laysWork 202 = .ok (.imul, 1) := dk_104 (dk_at dksX0_laysWork_8 13 rfl rfl)
theorem dX0_laysWork_203 : decode cX0_laysWork 203 = .ok (.iload 13, 2) := dk_21 13 (dk_at dksX0_laysWork_8 14 rfl rfl)
theorem dX0_laysWork_205 : decode cX0_laysWork 205 = .ok (.aload_n 0, 1) := dk_42 (dk_at dksX0_laysWork_8 16 rfl rfl)
theorem dX0_laysWork_206 : decode cX0_laysWork 206 = .ok (.iload 9, 2) := dk_21 9 (dk_at dksX0_laysWork_8 17 rfl rfl)
theorem dX0_laysWork_208 : decode cX0_laysWork 208 = .ok (.aload_n 0, 1) := dk_42 (dk_at dksX0_laysWork_8 19 rfl rfl)
theorem dX0_laysWork_209 : decode cX0_laysWork 209 = .ok (.invokevirtual 189, 3) := dk_182 0 189 (dk_at dksX0_laysWork_8 20 rfl rfl)
theorem dX0_laysWork_212 : decode cX0_laysWork 212 = .ok (.iload 10, 2) := dk_21 10 (dk_at dksX0_laysWork_9 0 rfl rfl)
theorem dX0_laysWork_214 : decode cX0_laysWork 214 = .ok (.iadd, 1) := dk_96 (dk_at dksX0_laysWork_9 2 rfl rfl)
theorem dX0_laysWork_215 : decode cX0_laysWork 215 = .ok (.invokevirtual 161, 3) := dk_182 0 161 (dk_at dksX0_laysWork_9 3 rfl rfl)
theorem dX0_laysWork_218 : decode cX0_laysWork 218 = .ok (.imul, 1) := dk_104 (dk_at dksX0_laysWork_9 6 rfl rfl)
theorem dX0_laysWork_219 : decode cX0_laysWork 219 = .ok (.iadd, 1) := dk_96 (dk_at dksX0_laysWork_9 7 rfl rfl)
theorem dX0_laysWork_220 : decode cX0_laysWork 220 = .ok (.iadd, 1) := dk_96 (dk_at dksX0_laysWork_9 8 rfl rfl)
theorem dX0_laysWork_221 : decode cX0_laysWork 221 = .ok (.istore 7, 2) := dk_54 7 (dk_at dksX0_laysWork_9 9 rfl rfl)
theorem dX0_laysWork_223 : decode cX0_laysWork 223 = .ok (.iload 5, 2) := dk_21 5 (dk_at dksX0_laysWork_9 11 rfl rfl)
theorem dX0_laysWork_225 : decode cX0_laysWork 225 = .ok (.iload 12, 2) := dk_21 12 (dk_at dksX0_laysWork_9 13 rfl rfl)
theorem dX0_laysWork_227 : decode cX0_laysWork 227 = .ok (.iload 13, 2) := dk_21 13 (dk_at dksX0_laysWork_9 15 rfl rfl)
theorem dX0_laysWork_229 : decode cX0_laysWork 229 = .ok (.iadd, 1) := dk_96 (dk_at dksX0_laysWork_9 17 rfl rfl)
theorem dX0_laysWork_230 : decode cX0_laysWork 230 = .ok (.isub, 1) := dk_100 (dk_at dksX0_laysWork_9 18 rfl rfl)
theorem dX0_laysWork_231 : decode cX0_laysWork 231 = .ok (.istore 5, 2) := dk_54 5 (dk_at dksX0_laysWork_9 19 rfl rfl)
theorem dX0_laysWork_233 : decode cX0_laysWork 233 = .ok (.iload 5, 2) := dk_21 5 (dk_at dksX0_laysWork_9 21 rfl rfl)
theorem dX0_laysWork_235 : decode cX0_laysWork 235 = .ok (.ifCond .le 6, 3) := dk_158 0 6 (dk_at dksX0_laysWork_10 0 rfl rfl)
theorem dX0_laysWork_238 : decode cX0_laysWork 238 = .ok (.goto 45, 3) := dk_167 0 45 (dk_at dksX0_laysWork_10 3 rfl rfl)
theorem dX0_laysWork_241 : decode cX0_laysWork 241 = .ok (.aload 4, 2) := dk_25 4 (dk_at dksX0_laysWork_10 6 rfl rfl)
theorem dX0_laysWork_243 : decode cX0_laysWork 243 = .ok (.iconst 1, 1) := dk_4 (dk_at dksX0_laysWork_10 8 rfl rfl)
theorem dX0_laysWork_244 : decode cX0_laysWork 244 = .ok (.iaload, 1) := dk_46 (dk_at dksX0_laysWork_10 9 rfl rfl)
theorem dX0_laysWork_245 : decode cX0_laysWork 245 = .ok (.iload 6, 2) := dk_21 6 (dk_at dksX0_laysWork_10 10 rfl rfl)
theorem dX0_laysWork_247 : decode cX0_laysWork 247 = .ok (.iconst (-1), 1) := dk_2 (dk_at dksX0_laysWork_10 12 rfl rfl)
theorem dX0_laysWork_248 : decode cX0_laysWork 248 = .ok (.ixor, 1) := dk_130 (dk_at dksX0_laysWork_10 13 rfl rfl)
theorem dX0_laysWork_249 : decode cX0_laysWork 249 = .ok (.iand, 1) := dk_126 (dk_at dksX0_laysWork_10 14 rfl rfl)
theorem dX0_laysWork_250 : decode cX0_laysWork 250 = .ok (.ifCond .ne 15, 3) := dk_154 0 15 (dk_at dksX0_laysWork_10 15 rfl rfl)
theorem dX0_laysWork_253 : decode cX0_laysWork 253 = .ok (.aload_n 0, 1) := dk_42 (dk_at dksX0_laysWork_10 18 rfl rfl)
theorem dX0_laysWork_254 : decode cX0_laysWork 254 = .ok (.getfield 42, 3) := dk_180 0 42 (dk_at dksX0_laysWork_10 19 rfl rfl)
theorem dX0_laysWork_257 : decode cX0_laysWork 257 = .ok (.iload_n 1, 1) := dk_27 (dk_at dksX0_laysWork_10 22 rfl rfl)
theorem dX0_laysWork_258 : decode cX0_laysWork 258 = .ok (.aaload, 1) := dk_50 (dk_at dksX0_laysWork_10 23 rfl rfl)
theorem dX0_laysWork_259 : decode cX0_laysWork 259 = .ok (.iload_n 2, 1) := dk_28 (dk_at dksX0_laysWork_11 0 rfl rfl)
theorem dX0_laysWork_260 : decode cX0_laysWork 260 = .ok (.aaload, 1) := dk_50 (dk_at dksX0_laysWork_11 1 rfl rfl)
theorem dX0_laysWork_261 : decode cX0_laysWork 261 = .ok (.iload_n 3, 1) := dk_29 (dk_at dksX0_laysWork_11 2 rfl rfl)
theorem dX0_laysWork_262 : decode cX0_laysWork 262 = .ok (.iload 10, 2) := dk_21 10 (dk_at dksX0_laysWork_11 3 rfl rfl)
theorem dX0_laysWork_264 : decode cX0_laysWork 264 = .ok (.iastore, 1) := dk_79 (dk_at dksX0_laysWork_11 5 rfl rfl)
theorem dX0_laysWork_265 : decode cX0_laysWork 265 = .ok (.aload_n 0, 1) := dk_42 (dk_at dksX0_laysWork_11 6 rfl rfl)
theorem dX0_laysWork_266 : decode cX0_laysWork 266 = .ok (.getfield 39, 3) := dk_180 0 39 (dk_at dksX0_laysWork_11 7 rfl rfl)
theorem dX0_laysWork_269 : decode cX0_laysWork 269 = .ok (.iload_n 1, 1) := dk_27 (dk_at dksX0_laysWork_11 10 rfl rfl)
theorem dX0_laysWork_270 : decode cX0_laysWork 270 = .ok (.aaload, 1) := dk_50 (dk_at dksX0_laysWork_11 11 rfl rfl)
theorem dX0_laysWork_271 : decode cX0_laysWork 271 = .ok (.iload_n 2, 1) := dk_28 (dk_at dksX0_laysWork_11 12 rfl rfl)
theorem dX0_laysWork_272 : decode cX0_laysWork 272 = .ok (.aaload, 1) := dk_50 (dk_at dksX0_laysWork_11 13 rfl rfl)
theorem dX0_laysWork_273 : decode cX0_laysWork 273 = .ok (.iload_n 3, 1) := dk_29 (dk_at dksX0_laysWork_11 14 rfl rfl)
theorem dX0_laysWork_274 : decode cX0_laysWork 274 = .ok (.aload 4, 2) := dk_25 4 (dk_at dksX0_laysWork_11 15 rfl rfl)
theorem dX0_laysWork_276 : decode cX0_laysWork 276 = .ok (.iconst 2, 1) := dk_5 (dk_at dksX0_laysWork_11 17 rfl rfl)
theorem dX0_laysWork_277 : decode cX0_laysWork 277 = .ok (.iaload, 1) := dk_46 (dk_at dksX0_laysWork_11 18 rfl rfl)
theorem dX0_laysWork_278 : decode cX0_laysWork 278 = .ok (.iload 7, 2) := dk_21 7 (dk_at dksX0_laysWork_11 19 rfl rfl)
theorem dX0_laysWork_280 : decode cX0_laysWork 280 = .ok (.isub, 1) := dk_100 (dk_at dksX0_laysWork_11 21 rfl rfl)
theorem dX0_laysWork_281 : decode cX0_laysWork 281 = .ok (.iastore, 1) := dk_79 (dk_at dksX0_laysWork_11 22 rfl rfl)
theorem dX0_laysWork_282 : decode cX0_laysWork 282 = .ok (.return_, 1) := dk_177 (dk_at dksX0_laysWork_11 23 rfl rfl)
theorem dX0_laysWork_283 : decode cX0_laysWork 283 = .ok (.iinc 10 1, 3) := dk_132 10 1 (dk_at dksX0_laysWork_12 0 rfl rfl)
theorem dX0_laysWork_286 : decode cX0_laysWork 286 = .ok (.goto (-232), 3) := dk_167 255 24 (dk_at dksX0_laysWork_12 3 rfl rfl)
theorem dX0_laysWork_289 : decode cX0_laysWork 289 = .ok (.return_, 1) := dk_177 (dk_at dksX0_laysWork_12 6 rfl rfl)
abbrev cX0_isMore : ByteArray := prog_1_method_45_code
def yX0_isMore : MethodName := ⟨RX0, "isMore", "(IIIIZ)Z"⟩
def dkwX0_isMore_6 : List UInt8 := [28, 46, 162, 0, 7, 4, 167, 0, 4, 3, 172]
abbrev dktX0_isMore_6 : List UInt8 := dkwX0_isMore_6 ++ []
def dkwX0_isMore_5 : List UInt8 := [163, 0, 29, 21, 7, 42, 180, 0, 56, 27, 50, 28, 46, 160, 0, 20, 21, 8, 42, 180, 0, 59, 27, 50]
abbrev dktX0_isMore_5 : List UInt8 := dkwX0_isMore_5 ++ dktX0_isMore_6
def dkwX0_isMore_4 : List UInt8 := [27, 50, 28, 46, 160, 0, 7, 4, 167, 0, 4, 3, 172, 21, 7, 42, 180, 0, 56, 27, 50, 28, 46]
abbrev dktX0_isMore_4 : List UInt8 := dkwX0_isMore_4 ++ dktX0_isMore_5
def dkwX0_isMore_3 : List UInt8 := [21, 5, 153, 0, 35, 21, 7, 42, 180, 0, 56, 27, 50, 28, 46, 160, 0, 20, 21, 8, 42, 180, 0, 59]
abbrev dktX0_isMore_3 : List UInt8 := dkwX0_isMore_3 ++ dktX0_isMore_4
def dkwX0_isMore_2 : List UInt8 := [46, 96, 54, 7, 4, 42, 180, 0, 59, 27, 4, 29, 120, 128, 50, 21, 6, 4, 96, 46, 96, 54, 8]
abbrev dktX0_isMore_2 : List UInt8 := dkwX0_isMore_2 ++ dktX0_isMore_3
def dkwX0_isMore_1 : List UInt8 := [180, 0, 39, 29, 50, 21, 4, 50, 28, 46, 42, 180, 0, 56, 27, 4, 29, 120, 128, 50, 21, 6, 4, 96]
abbrev dktX0_isMore_1 : List UInt8 := dkwX0_isMore_1 ++ dktX0_isMore_2
def dkwX0_isMore_0 : List UInt8 := [42, 180, 0, 42, 29, 50, 21, 4, 50, 28, 46, 54, 6, 21, 6, 2, 160, 0, 5, 3, 172, 42]
abbrev dktX0_isMore_0 : List UInt8 := dkwX0_isMore_0 ++ dktX0_isMore_1
theorem dksX0_isMore_0 : cX0_isMore.data.toList.drop 0 = dktX0_isMore_0 := by decide +kernel
theorem dksX0_isMore_1 : cX0_isMore.data.toList.drop 22 = dktX0_isMore_1 := dk_seg dksX0_isMore_0 22 rfl rfl
theorem dksX0_isMore_2 : cX0_isMore.data.toList.drop 46 = dktX0_isMore_2 := dk_seg dksX0_isMore_1 24 rfl rfl
theorem dksX0_isMore_3 : cX0_isMore.data.toList.drop 69 = dktX0_isMore_3 := dk_seg dksX0_isMore_2 23 rfl rfl
theorem dksX0_isMore_4 : cX0_isMore.data.toList.drop 93 = dktX0_isMore_4 := dk_seg dksX0_isMore_3 24 rfl rfl
theorem dksX0_isMore_5 : cX0_isMore.data.toList.drop 116 = dktX0_isMore_5 := dk_seg dksX0_isMore_4 23 rfl rfl
theorem dksX0_isMore_6 : cX0_isMore.data.toList.drop 140 = dktX0_isMore_6 := dk_seg dksX0_isMore_5 24 rfl rfl
theorem dX0_isMore_0 : decode cX0_isMore 0 = .ok (.aload_n 0, 1) := dk_42 (dk_at dksX0_isMore_0 0 rfl rfl)
theorem dX0_isMore_1 : decode cX0_isMore 1 = .ok (.getfield 42, 3) := dk_180 0 42 (dk_at dksX0_isMore_0 1 rfl rfl)
theorem dX0_isMore_4 : decode cX0_isMore 4 = .ok (.iload_n 3, 1) := dk_29 (dk_at dksX0_isMore_0 4 rfl rfl)
theorem dX0_isMore_5 : decode cX0_isMore 5 = .ok (.aaload, 1) := dk_50 (dk_at dksX0_isMore_0 5 rfl rfl)
theorem dX0_isMore_6 : decode cX0_isMore 6 = .ok (.iload 4, 2) := dk_21 4 (dk_at dksX0_isMore_0 6 rfl rfl)
theorem dX0_isMore_8 : decode cX0_isMore 8 = .ok (.aaload, 1) := dk_50 (dk_at dksX0_isMore_0 8 rfl rfl)
theorem dX0_isMore_9 : decode cX0_isMore 9 = .ok (.iload_n 2, 1) := dk_28 (dk_at dksX0_isMore_0 9 rfl rfl)
theorem dX0_isMore_10 : decode cX0_isMore 10 = .ok (.iaload, 1) := dk_46 (dk_at dksX0_isMore_0 10 rfl rfl)
theorem dX0_isMore_11 : decode cX0_isMore 11 = .ok (.istore 6, 2) := dk_54 6 (dk_at dksX0_isMore_0 11 rfl rfl)
theorem dX0_isMore_13 : decode cX0_isMore 13 = .ok (.iload 6, 2) := dk_21 6 (dk_at dksX0_isMore_0 13 rfl rfl)
theorem dX0_isMore_15 : decode cX0_isMore 15 = .ok (.iconst (-1), 1) := dk_2 (dk_at dksX0_isMore_0 15 rfl rfl)
theorem dX0_isMore_16 : decode cX0_isMore 16 = .ok (.if_icmp .ne 5, 3) := dk_160 0 5 (dk_at dksX0_isMore_0 16 rfl rfl)
theorem dX0_isMore_19 : decode cX0_isMore 19 = .ok (.iconst 0, 1) := dk_3 (dk_at dksX0_isMore_0 19 rfl rfl)
theorem dX0_isMore_20 : decode cX0_isMore 20 = .ok (.ireturn, 1) := dk_172 (dk_at dksX0_isMore_0 20 rfl rfl)
theorem dX0_isMore_21 : decode cX0_isMore 21 = .ok (.aload_n 0, 1) := dk_42 (dk_at dksX0_isMore_0 21 rfl rfl)
theorem dX0_isMore_22 : decode cX0_isMore 22 = .ok (.getfield 39, 3) := dk_180 0 39 (dk_at dksX0_isMore_1 0 rfl rfl)
theorem dX0_isMore_25 : decode cX0_isMore 25 = .ok (.iload_n 3, 1) := dk_29 (dk_at dksX0_isMore_1 3 rfl rfl)
theorem dX0_isMore_26 : decode cX0_isMore 26 = .ok (.aaload, 1) := dk_50 (dk_at dksX0_isMore_1 4 rfl rfl)
theorem dX0_isMore_27 : decode cX0_isMore 27 = .ok (.iload 4, 2) := dk_21 4 (dk_at dksX0_isMore_1 5 rfl rfl)
theorem dX0_isMore_29 : decode cX0_isMore 29 = .ok (.aaload, 1) := dk_50 (dk_at dksX0_isMore_1 7 rfl rfl)
theorem dX0_isMore_30 : decode cX0_isMore 30 = .ok (.iload_n 2, 1) := dk_28 (dk_at dksX0_isMore_1 8 rfl rfl)
theorem dX0_isMore_31 : decode cX0_isMore 31 = .ok (.iaload, 1) := dk_46 (dk_at dksX0_isMore_1 9 rfl rfl)
theorem dX0_isMore_32 : decode cX0_isMore 32 = .ok (.aload_n 0, 1) := dk_42 (dk_at dksX0_isMore_1 10 rfl rfl)
theorem dX0_isMore_33 : decode cX0_isMore 33 = .ok (.getfield 56, 3) := dk_180 0 56 (dk_at dksX0_isMore_1 11 rfl rfl)
theorem dX0_isMore_36 : decode cX0_isMore 36 = .ok (.iload_n 1, 1) := dk_27 (dk_at dksX0_isMore_1 14 rfl rfl)
theorem dX0_isMore_37 : decode cX0_isMore 37 = .ok (.iconst 1, 1) := dk_4 (dk_at dksX0_isMore_1 15 rfl rfl)
theorem dX0_isMore_38 : decode cX0_isMore 38 = .ok (.iload_n 3, 1) := dk_29 (dk_at dksX0_isMore_1 16 rfl rfl)
theorem dX0_isMore_39 : decode cX0_isMore 39 = .ok (.ishl, 1) := dk_120 (dk_at dksX0_isMore_1 17 rfl rfl)
theorem dX0_isMore_40 : decode cX0_isMore 40 = .ok (.ior, 1) := dk_128 (dk_at dksX0_isMore_1 18 rfl rfl)
theorem dX0_isMore_41 : decode cX0_isMore 41 = .ok (.aaload, 1) := dk_50 (dk_at dksX0_isMore_1 19 rfl rfl)
theorem dX0_isMore_42 : decode cX0_isMore 42 = .ok (.iload 6, 2) := dk_21 6 (dk_at dksX0_isMore_1 20 rfl rfl)
theorem dX0_isMore_44 : decode cX0_isMore 44 = .ok (.iconst 1, 1) := dk_4 (dk_at dksX0_isMore_1 22 rfl rfl)
theorem dX0_isMore_45 : decode cX0_isMore 45 = .ok (.iadd, 1) := dk_96 (dk_at dksX0_isMore_1 23 rfl rfl)
theorem dX0_isMore_46 : decode cX0_isMore 46 = .ok (.iaload, 1) := dk_46 (dk_at dksX0_isMore_2 0 rfl rfl)
theorem dX0_isMore_47 : decode cX0_isMore 47 = .ok (.iadd, 1) := dk_96 (dk_at dksX0_isMore_2 1 rfl rfl)
theorem dX0_isMore_48 : decode cX0_isMore 48 = .ok (.istore 7, 2) := dk_54 7 (dk_at dksX0_isMore_2 2 rfl rfl)
theorem dX0_isMore_50 : decode cX0_isMore 50 = .ok (.iconst 1, 1) := dk_4 (dk_at dksX0_isMore_2 4 rfl rfl)
theorem dX0_isMore_51 : decode cX0_isMore 51 = .ok (.aload_n 0, 1) := dk_42 (dk_at dksX0_isMore_2 5 rfl rfl)
theorem dX0_isMore_52 : decode cX0_isMore 52 = .ok (.getfield 59, 3) := dk_180 0 59 (dk_at dksX0_isMore_2 6 rfl rfl)
theorem dX0_isMore_55 : decode cX0_isMore 55 = .ok (.iload_n 1, 1) := dk_27 (dk_at dksX0_isMore_2 9 rfl rfl)
theorem dX0_isMore_56 : decode cX0_isMore 56 = .ok (.iconst 1, 1) := dk_4 (dk_at dksX0_isMore_2 10 rfl rfl)
theorem dX0_isMore_57 : decode cX0_isMore 57 = .ok (.iload_n 3, 1) := dk_29 (dk_at dksX0_isMore_2 11 rfl rfl)
theorem dX0_isMore_58 : decode cX0_isMore 58 = .ok (.ishl, 1) := dk_120 (dk_at dksX0_isMore_2 12 rfl rfl)
theorem dX0_isMore_59 : decode cX0_isMore 59 = .ok (.ior, 1) := dk_128 (dk_at dksX0_isMore_2 13 rfl rfl)
theorem dX0_isMore_60 : decode cX0_isMore 60 = .ok (.aaload, 1) := dk_50 (dk_at dksX0_isMore_2 14 rfl rfl)
theorem dX0_isMore_61 : decode cX0_isMore 61 = .ok (.iload 6, 2) := dk_21 6 (dk_at dksX0_isMore_2 15 rfl rfl)
theorem dX0_isMore_63 : decode cX0_isMore 63 = .ok (.iconst 1, 1) := dk_4 (dk_at dksX0_isMore_2 17 rfl rfl)
theorem dX0_isMore_64 : decode cX0_isMore 64 = .ok (.iadd, 1) := dk_96 (dk_at dksX0_isMore_2 18 rfl rfl)
theorem dX0_isMore_65 : decode cX0_isMore 65 = .ok (.iaload, 1) := dk_46 (dk_at dksX0_isMore_2 19 rfl rfl)
theorem dX0_isMore_66 : decode cX0_isMore 66 = .ok (.iadd, 1) := dk_96 (dk_at dksX0_isMore_2 20 rfl rfl)
theorem dX0_isMore_67 : decode cX0_isMore 67 = .ok (.istore 8, 2) := dk_54 8 (dk_at dksX0_isMore_2 21 rfl rfl)
theorem dX0_isMore_69 : decode cX0_isMore 69 = .ok (.iload 5, 2) := dk_21 5 (dk_at dksX0_isMore_3 0 rfl rfl)
theorem dX0_isMore_71 : decode cX0_isMore 71 = .ok (.ifCond .eq 35, 3) := dk_153 0 35 (dk_at dksX0_isMore_3 2 rfl rfl)
theorem dX0_isMore_74 : decode cX0_isMore 74 = .ok (.iload 7, 2) := dk_21 7 (dk_at dksX0_isMore_3 5 rfl rfl)
theorem dX0_isMore_76 : decode cX0_isMore 76 = .ok (.aload_n 0, 1) := dk_42 (dk_at dksX0_isMore_3 7 rfl rfl)
theorem dX0_isMore_77 : decode cX0_isMore 77 = .ok (.getfield 56, 3) := dk_180 0 56 (dk_at dksX0_isMore_3 8 rfl rfl)
theorem dX0_isMore_80 : decode cX0_isMore 80 = .ok (.iload_n 1, 1) := dk_27 (dk_at dksX0_isMore_3 11 rfl rfl)
theorem dX0_isMore_81 : decode cX0_isMore 81 = .ok (.aaload, 1) := dk_50 (dk_at dksX0_isMore_3 12 rfl rfl)
theorem dX0_isMore_82 : decode cX0_isMore 82 = .ok (.iload_n 2, 1) := dk_28 (dk_at dksX0_isMore_3 13 rfl rfl)
theorem dX0_isMore_83 : decode cX0_isMore 83 = .ok (.iaload, 1) := dk_46 (dk_at dksX0_isMore_3 14 rfl rfl)
theorem dX0_isMore_84 : decode cX0_isMore 84 = .ok (.if_icmp .ne 20, 3) := dk_160 0 20 (dk_at dksX0_isMore_3 15 rfl rfl)
theorem dX0_isMore_87 : decode cX0_isMore 87 = .ok (.iload 8, 2) := dk_21 8 (dk_at dksX0_isMore_3 18 rfl rfl)
theorem dX0_isMore_89 : decode cX0_isMore 89 = .ok (.aload_n 0, 1) := dk_42 (dk_at dksX0_isMore_3 20 rfl rfl)
theorem dX0_isMore_90 : decode cX0_isMore 90 = .ok (.getfield 59, 3) := dk_180 0 59 (dk_at dksX0_isMore_3 21 rfl rfl)
theorem dX0_isMore_93 : decode cX0_isMore 93 = .ok (.iload_n 1, 1) := dk_27 (dk_at dksX0_isMore_4 0 rfl rfl)
theorem dX0_isMore_94 : decode cX0_isMore 94 = .ok (.aaload, 1) := dk_50 (dk_at dksX0_isMore_4 1 rfl rfl)
theorem dX0_isMore_95 : decode cX0_isMore 95 = .ok (.iload_n 2, 1) := dk_28 (dk_at dksX0_isMore_4 2 rfl rfl)
theorem dX0_isMore_96 : decode cX0_isMore 96 = .ok (.iaload, 1) := dk_46 (dk_at dksX0_isMore_4 3 rfl rfl)
theorem dX0_isMore_97 : decode cX0_isMore 97 = .ok (.if_icmp .ne 7, 3) := dk_160 0 7 (dk_at dksX0_isMore_4 4 rfl rfl)
theorem dX0_isMore_100 : decode cX0_isMore 100 = .ok (.iconst 1, 1) := dk_4 (dk_at dksX0_isMore_4 7 rfl rfl)
theorem dX0_isMore_101 : decode cX0_isMore 101 = .ok (.goto 4, 3) := dk_167 0 4 (dk_at dksX0_isMore_4 8 rfl rfl)
theorem dX0_isMore_104 : decode cX0_isMore 104 = .ok (.iconst 0, 1) := dk_3 (dk_at dksX0_isMore_4 11 rfl rfl)
theorem dX0_isMore_105 : decode cX0_isMore 105 = .ok (.ireturn, 1) := dk_172 (dk_at dksX0_isMore_4 12 rfl rfl)
theorem dX0_isMore_106 : decode cX0_isMore 106 = .ok (.iload 7, 2) := dk_21 7 (dk_at dksX0_isMore_4 13 rfl rfl)
theorem dX0_isMore_108 : decode cX0_isMore 108 = .ok (.aload_n 0, 1) := dk_42 (dk_at dksX0_isMore_4 15 rfl rfl)
theorem dX0_isMore_109 : decode cX0_isMore 109 = .ok (.getfield 56, 3) := dk_180 0 56 (dk_at dksX0_isMore_4 16 rfl rfl)
theorem dX0_isMore_112 : decode cX0_isMore 112 = .ok (.iload_n 1, 1) := dk_27 (dk_at dksX0_isMore_4 19 rfl rfl)
theorem dX0_isMore_113 : decode cX0_isMore 113 = .ok (.aaload, 1) := dk_50 (dk_at dksX0_isMore_4 20 rfl rfl)
theorem dX0_isMore_114 : decode cX0_isMore 114 = .ok (.iload_n 2, 1) := dk_28 (dk_at dksX0_isMore_4 21 rfl rfl)
theorem dX0_isMore_115 : decode cX0_isMore 115 = .ok (.iaload, 1) := dk_46 (dk_at dksX0_isMore_4 22 rfl rfl)
theorem dX0_isMore_116 : decode cX0_isMore 116 = .ok (.if_icmp .gt 29, 3) := dk_163 0 29 (dk_at dksX0_isMore_5 0 rfl rfl)
theorem dX0_isMore_119 : decode cX0_isMore 119 = .ok (.iload 7, 2) := dk_21 7 (dk_at dksX0_isMore_5 3 rfl rfl)
theorem dX0_isMore_121 : decode cX0_isMore 121 = .ok (.aload_n 0, 1) := dk_42 (dk_at dksX0_isMore_5 5 rfl rfl)
theorem dX0_isMore_122 : decode cX0_isMore 122 = .ok (.getfield 56, 3) := dk_180 0 56 (dk_at dksX0_isMore_5 6 rfl rfl)
theorem dX0_isMore_125 : decode cX0_isMore 125 = .ok (.iload_n 1, 1) := dk_27 (dk_at dksX0_isMore_5 9 rfl rfl)
theorem dX0_isMore_126 : decode cX0_isMore 126 = .ok (.aaload, 1) := dk_50 (dk_at dksX0_isMore_5 10 rfl rfl)
theorem dX0_isMore_127 : decode cX0_isMore 127 = .ok (.iload_n 2, 1) := dk_28 (dk_at dksX0_isMore_5 11 rfl rfl)
theorem dX0_isMore_128 : decode cX0_isMore 128 = .ok (.iaload, 1) := dk_46 (dk_at dksX0_isMore_5 12 rfl rfl)
theorem dX0_isMore_129 : decode cX0_isMore 129 = .ok (.if_icmp .ne 20, 3) := dk_160 0 20 (dk_at dksX0_isMore_5 13 rfl rfl)
theorem dX0_isMore_132 : decode cX0_isMore 132 = .ok (.iload 8, 2) := dk_21 8 (dk_at dksX0_isMore_5 16 rfl rfl)
theorem dX0_isMore_134 : decode cX0_isMore 134 = .ok (.aload_n 0, 1) := dk_42 (dk_at dksX0_isMore_5 18 rfl rfl)
theorem dX0_isMore_135 : decode cX0_isMore 135 = .ok (.getfield 59, 3) := dk_180 0 59 (dk_at dksX0_isMore_5 19 rfl rfl)
theorem dX0_isMore_138 : decode cX0_isMore 138 = .ok (.iload_n 1, 1) := dk_27 (dk_at dksX0_isMore_5 22 rfl rfl)
theorem dX0_isMore_139 : decode cX0_isMore 139 = .ok (.aaload, 1) := dk_50 (dk_at dksX0_isMore_5 23 rfl rfl)
theorem dX0_isMore_140 : decode cX0_isMore 140 = .ok (.iload_n 2, 1) := dk_28 (dk_at dksX0_isMore_6 0 rfl rfl)
theorem dX0_isMore_141 : decode cX0_isMore 141 = .ok (.iaload, 1) := dk_46 (dk_at dksX0_isMore_6 1 rfl rfl)
theorem dX0_isMore_142 : decode cX0_isMore 142 = .ok (.if_icmp .ge 7, 3) := dk_162 0 7 (dk_at dksX0_isMore_6 2 rfl rfl)
theorem dX0_isMore_145 : decode cX0_isMore 145 = .ok (.iconst 1, 1) := dk_4 (dk_at dksX0_isMore_6 5 rfl rfl)
theorem dX0_isMore_146 : decode cX0_isMore 146 = .ok (.goto 4, 3) := dk_167 0 4 (dk_at dksX0_isMore_6 6 rfl rfl)
theorem dX0_isMore_149 : decode cX0_isMore 149 = .ok (.iconst 0, 1) := dk_3 (dk_at dksX0_isMore_6 9 rfl rfl)
theorem dX0_isMore_150 : decode cX0_isMore 150 = .ok (.ireturn, 1) := dk_172 (dk_at dksX0_isMore_6 10 rfl rfl)
abbrev cX0_goesPlan : ByteArray := prog_1_method_47_code
def yX0_goesPlan : MethodName := ⟨RX0, "goesPlan", "()I"⟩
def dkwX0_goesPlan_6 : List UInt8 := [172]
abbrev dktX0_goesPlan_6 : List UInt8 := dkwX0_goesPlan_6 ++ []
def dkwX0_goesPlan_5 : List UInt8 := [50, 21, 5, 50, 28, 46, 54, 6, 27, 4, 21, 4, 120, 128, 60, 21, 6, 4, 96, 61, 167, 255, 126, 29]
abbrev dktX0_goesPlan_5 : List UInt8 := dkwX0_goesPlan_5 ++ dktX0_goesPlan_6
def dkwX0_goesPlan_4 : List UInt8 := [180, 0, 45, 21, 4, 46, 79, 42, 180, 0, 51, 29, 21, 5, 79, 132, 3, 1, 42, 180, 0, 42, 21, 4]
abbrev dktX0_goesPlan_4 : List UInt8 := dkwX0_goesPlan_4 ++ dktX0_goesPlan_5
def dkwX0_goesPlan_3 : List UInt8 := [167, 0, 4, 3, 96, 54, 4, 21, 5, 16, 60, 112, 54, 5, 167, 255, 196, 42, 180, 0, 48, 29, 42]
abbrev dktX0_goesPlan_3 : List UInt8 := dkwX0_goesPlan_3 ++ dktX0_goesPlan_4
def dkwX0_goesPlan_2 : List UInt8 := [21, 5, 4, 182, 1, 14, 154, 0, 33, 132, 5, 1, 21, 4, 21, 5, 16, 60, 160, 0, 7, 4]
abbrev dktX0_goesPlan_2 : List UInt8 := dkwX0_goesPlan_2 ++ dktX0_goesPlan_3
def dkwX0_goesPlan_1 : List UInt8 := [21, 4, 122, 4, 126, 4, 159, 0, 26, 42, 21, 5, 182, 1, 7, 153, 0, 17, 42, 27, 28, 21, 4]
abbrev dktX0_goesPlan_1 : List UInt8 := dkwX0_goesPlan_1 ++ dktX0_goesPlan_2
def dkwX0_goesPlan_0 : List UInt8 := [3, 60, 3, 61, 3, 62, 42, 180, 0, 59, 27, 50, 28, 46, 158, 0, 125, 3, 54, 4, 3, 54, 5, 27]
abbrev dktX0_goesPlan_0 : List UInt8 := dkwX0_goesPlan_0 ++ dktX0_goesPlan_1
theorem dksX0_goesPlan_0 : cX0_goesPlan.data.toList.drop 0 = dktX0_goesPlan_0 := by decide +kernel
theorem dksX0_goesPlan_1 : cX0_goesPlan.data.toList.drop 24 = dktX0_goesPlan_1 := dk_seg dksX0_goesPlan_0 24 rfl rfl
theorem dksX0_goesPlan_2 : cX0_goesPlan.data.toList.drop 47 = dktX0_goesPlan_2 := dk_seg dksX0_goesPlan_1 23 rfl rfl
theorem dksX0_goesPlan_3 : cX0_goesPlan.data.toList.drop 69 = dktX0_goesPlan_3 := dk_seg dksX0_goesPlan_2 22 rfl rfl
theorem dksX0_goesPlan_4 : cX0_goesPlan.data.toList.drop 92 = dktX0_goesPlan_4 := dk_seg dksX0_goesPlan_3 23 rfl rfl
theorem dksX0_goesPlan_5 : cX0_goesPlan.data.toList.drop 116 = dktX0_goesPlan_5 := dk_seg dksX0_goesPlan_4 24 rfl rfl
theorem dksX0_goesPlan_6 : cX0_goesPlan.data.toList.drop 140 = dktX0_goesPlan_6 := dk_seg dksX0_goesPlan_5 24 rfl rfl
theorem dX0_goesPlan_0 : decode cX0_goesPlan 0 = .ok (.iconst 0, 1) := dk_3 (dk_at dksX0_goesPlan_0 0 rfl rfl)
theorem dX0_goesPlan_1 : decode cX0_goesPlan 1 = .ok (.istore_n 1, 1) := dk_60 (dk_at dksX0_goesPlan_0 1 rfl rfl)
theorem dX0_goesPlan_2 : decode cX0_goesPlan 2 = .ok (.iconst 0, 1) := dk_3 (dk_at dksX0_goesPlan_0 2 rfl rfl)
theorem dX0_goesPlan_3 : decode cX0_goesPlan 3 = .ok (.istore_n 2, 1) := dk_61 (dk_at dksX0_goesPlan_0 3 rfl rfl)
theorem dX0_goesPlan_4 : decode cX0_goesPlan 4 = .ok (.iconst 0, 1) := dk_3 (dk_at dksX0_goesPlan_0 4 rfl rfl)
theorem dX0_goesPlan_5 : decode cX0_goesPlan 5 = .ok (.istore_n 3, 1) := dk_62 (dk_at dksX0_goesPlan_0 5 rfl rfl)
theorem dX0_goesPlan_6 : decode cX0_goesPlan 6 = .ok (.aload_n 0, 1) := dk_42 (dk_at dksX0_goesPlan_0 6 rfl rfl)
theorem dX0_goesPlan_7 : decode cX0_goesPlan 7 = .ok (.getfield 59, 3) := dk_180 0 59 (dk_at dksX0_goesPlan_0 7 rfl rfl)
theorem dX0_goesPlan_10 : decode cX0_goesPlan 10 = .ok (.iload_n 1, 1) := dk_27 (dk_at dksX0_goesPlan_0 10 rfl rfl)
theorem dX0_goesPlan_11 : decode cX0_goesPlan 11 = .ok (.aaload, 1) := dk_50 (dk_at dksX0_goesPlan_0 11 rfl rfl)
theorem dX0_goesPlan_12 : decode cX0_goesPlan 12 = .ok (.iload_n 2, 1) := dk_28 (dk_at dksX0_goesPlan_0 12 rfl rfl)
theorem dX0_goesPlan_13 : decode cX0_goesPlan 13 = .ok (.iaload, 1) := dk_46 (dk_at dksX0_goesPlan_0 13 rfl rfl)
theorem dX0_goesPlan_14 : decode cX0_goesPlan 14 = .ok (.ifCond .le 125, 3) := dk_158 0 125 (dk_at dksX0_goesPlan_0 14 rfl rfl)
theorem dX0_goesPlan_17 : decode cX0_goesPlan 17 = .ok (.iconst 0, 1) := dk_3 (dk_at dksX0_goesPlan_0 17 rfl rfl)
theorem dX0_goesPlan_18 : decode cX0_goesPlan 18 = .ok (.istore 4, 2) := dk_54 4 (dk_at dksX0_goesPlan_0 18 rfl rfl)
theorem dX0_goesPlan_20 : decode cX0_goesPlan 20 = .ok (.iconst 0, 1) := dk_3 (dk_at dksX0_goesPlan_0 20 rfl rfl)
theorem dX0_goesPlan_21 : decode cX0_goesPlan 21 = .ok (.istore 5, 2) := dk_54 5 (dk_at dksX0_goesPlan_0 21 rfl rfl)
theorem dX0_goesPlan_23 : decode cX0_goesPlan 23 = .ok (.iload_n 1, 1) := dk_27 (dk_at dksX0_goesPlan_0 23 rfl rfl)
theorem dX0_goesPlan_24 : decode cX0_goesPlan 24 = .ok (.iload 4, 2) := dk_21 4 (dk_at dksX0_goesPlan_1 0 rfl rfl)
theorem dX0_goesPlan_26 : decode cX0_goesPlan 26 = .ok (.ishr, 1) := dk_122 (dk_at dksX0_goesPlan_1 2 rfl rfl)
theorem dX0_goesPlan_27 : decode cX0_goesPlan 27 = .ok (.iconst 1, 1) := dk_4 (dk_at dksX0_goesPlan_1 3 rfl rfl)
theorem dX0_goesPlan_28 : decode cX0_goesPlan 28 = .ok (.iand, 1) := dk_126 (dk_at dksX0_goesPlan_1 4 rfl rfl)
theorem dX0_goesPlan_29 : decode cX0_goesPlan 29 = .ok (.iconst 1, 1) := dk_4 (dk_at dksX0_goesPlan_1 5 rfl rfl)
theorem dX0_goesPlan_30 : decode cX0_goesPlan 30 = .ok (.if_icmp .eq 26, 3) := dk_159 0 26 (dk_at dksX0_goesPlan_1 6 rfl rfl)
theorem dX0_goesPlan_33 : decode cX0_goesPlan 33 = .ok (.aload_n 0, 1) := dk_42 (dk_at dksX0_goesPlan_1 9 rfl rfl)
theorem dX0_goesPlan_34 : decode cX0_goesPlan 34 = .ok (.iload 5, 2) := dk_21 5 (dk_at dksX0_goesPlan_1 10 rfl rfl)
theorem dX0_goesPlan_36 : decode cX0_goesPlan 36 = .ok (.invokevirtual 263, 3) := dk_182 1 7 (dk_at dksX0_goesPlan_1 12 rfl rfl)
theorem dX0_goesPlan_39 : decode cX0_goesPlan 39 = .ok (.ifCond .eq 17, 3) := dk_153 0 17 (dk_at dksX0_goesPlan_1 15 rfl rfl)
theorem dX0_goesPlan_42 : decode cX0_goesPlan 42 = .ok (.aload_n 0, 1) := dk_42 (dk_at dksX0_goesPlan_1 18 rfl rfl)
theorem dX0_goesPlan_43 : decode cX0_goesPlan 43 = .ok (.iload_n 1, 1) := dk_27 (dk_at dksX0_goesPlan_1 19 rfl rfl)
theorem dX0_goesPlan_44 : decode cX0_goesPlan 44 = .ok (.iload_n 2, 1) := dk_28 (dk_at dksX0_goesPlan_1 20 rfl rfl)
theorem dX0_goesPlan_45 : decode cX0_goesPlan 45 = .ok (.iload 4, 2) := dk_21 4 (dk_at dksX0_goesPlan_1 21 rfl rfl)
theorem dX0_goesPlan_47 : decode cX0_goesPlan 47 = .ok (.iload 5, 2) := dk_21 5 (dk_at dksX0_goesPlan_2 0 rfl rfl)
theorem dX0_goesPlan_49 : decode cX0_goesPlan 49 = .ok (.iconst 1, 1) := dk_4 (dk_at dksX0_goesPlan_2 2 rfl rfl)
theorem dX0_goesPlan_50 : decode cX0_goesPlan 50 = .ok (.invokevirtual 270, 3) := dk_182 1 14 (dk_at dksX0_goesPlan_2 3 rfl rfl)
theorem dX0_goesPlan_53 : decode cX0_goesPlan 53 = .ok (.ifCond .ne 33, 3) := dk_154 0 33 (dk_at dksX0_goesPlan_2 6 rfl rfl)
theorem dX0_goesPlan_56 : decode cX0_goesPlan 56 = .ok (.iinc 5 1, 3) := dk_132 5 1 (dk_at dksX0_goesPlan_2 9 rfl rfl)
theorem dX0_goesPlan_59 : decode cX0_goesPlan 59 = .ok (.iload 4, 2) := dk_21 4 (dk_at dksX0_goesPlan_2 12 rfl rfl)
theorem dX0_goesPlan_61 : decode cX0_goesPlan 61 = .ok (.iload 5, 2) := dk_21 5 (dk_at dksX0_goesPlan_2 14 rfl rfl)
theorem dX0_goesPlan_63 : decode cX0_goesPlan 63 = .ok (.bipush 60, 2) := dk_16 60 (dk_at dksX0_goesPlan_2 16 rfl rfl)
theorem dX0_goesPlan_65 : decode cX0_goesPlan 65 = .ok (.if_icmp .ne 7, 3) := dk_160 0 7 (dk_at dksX0_goesPlan_2 18 rfl rfl)
theorem dX0_goesPlan_68 : decode cX0_goesPlan 68 = .ok (.iconst 1, 1) := dk_4 (dk_at dksX0_goesPlan_2 21 rfl rfl)
theorem dX0_goesPlan_69 : decode cX0_goesPlan 69 = .ok (.goto 4, 3) := dk_167 0 4 (dk_at dksX0_goesPlan_3 0 rfl rfl)
theorem dX0_goesPlan_72 : decode cX0_goesPlan 72 = .ok (.iconst 0, 1) := dk_3 (dk_at dksX0_goesPlan_3 3 rfl rfl)
theorem dX0_goesPlan_73 : decode cX0_goesPlan 73 = .ok (.iadd, 1) := dk_96 (dk_at dksX0_goesPlan_3 4 rfl rfl)
theorem dX0_goesPlan_74 : decode cX0_goesPlan 74 = .ok (.istore 4, 2) := dk_54 4 (dk_at dksX0_goesPlan_3 5 rfl rfl)
theorem dX0_goesPlan_76 : decode cX0_goesPlan 76 = .ok (.iload 5, 2) := dk_21 5 (dk_at dksX0_goesPlan_3 7 rfl rfl)
theorem dX0_goesPlan_78 : decode cX0_goesPlan 78 = .ok (.bipush 60, 2) := dk_16 60 (dk_at dksX0_goesPlan_3 9 rfl rfl)
theorem dX0_goesPlan_80 : decode cX0_goesPlan 80 = .ok (.irem, 1) := dk_112 (dk_at dksX0_goesPlan_3 11 rfl rfl)
theorem dX0_goesPlan_81 : decode cX0_goesPlan 81 = .ok (.istore 5, 2) := dk_54 5 (dk_at dksX0_goesPlan_3 12 rfl rfl)
theorem dX0_goesPlan_83 : decode cX0_goesPlan 83 = .ok (.goto (-60), 3) := dk_167 255 196 (dk_at dksX0_goesPlan_3 14 rfl rfl)
theorem dX0_goesPlan_86 : decode cX0_goesPlan 86 = .ok (.aload_n 0, 1) := dk_42 (dk_at dksX0_goesPlan_3 17 rfl rfl)
theorem dX0_goesPlan_87 : decode cX0_goesPlan 87 = .ok (.getfield 48, 3) := dk_180 0 48 (dk_at dksX0_goesPlan_3 18 rfl rfl)
theorem dX0_goesPlan_90 : decode cX0_goesPlan 90 = .ok (.iload_n 3, 1) := dk_29 (dk_at dksX0_goesPlan_3 21 rfl rfl)
theorem dX0_goesPlan_91 : decode cX0_goesPlan 91 = .ok (.aload_n 0, 1) := dk_42 (dk_at dksX0_goesPlan_3 22 rfl rfl)
theorem dX0_goesPlan_92 : decode cX0_goesPlan 92 = .ok (.getfield 45, 3) := dk_180 0 45 (dk_at dksX0_goesPlan_4 0 rfl rfl)
theorem dX0_goesPlan_95 : decode cX0_goesPlan 95 = .ok (.iload 4, 2) := dk_21 4 (dk_at dksX0_goesPlan_4 3 rfl rfl)
theorem dX0_goesPlan_97 : decode cX0_goesPlan 97 = .ok (.iaload, 1) := dk_46 (dk_at dksX0_goesPlan_4 5 rfl rfl)
theorem dX0_goesPlan_98 : decode cX0_goesPlan 98 = .ok (.iastore, 1) := dk_79 (dk_at dksX0_goesPlan_4 6 rfl rfl)
theorem dX0_goesPlan_99 : decode cX0_goesPlan 99 = .ok (.aload_n 0, 1) := dk_42 (dk_at dksX0_goesPlan_4 7 rfl rfl)
theorem dX0_goesPlan_100 : decode cX0_goesPlan 100 = .ok (.getfield 51, 3) := dk_180 0 51 (dk_at dksX0_goesPlan_4 8 rfl rfl)
theorem dX0_goesPlan_103 : decode cX0_goesPlan 103 = .ok (.iload_n 3, 1) := dk_29 (dk_at dksX0_goesPlan_4 11 rfl rfl)
theorem dX0_goesPlan_104 : decode cX0_goesPlan 104 = .ok (.iload 5, 2) := dk_21 5 (dk_at dksX0_goesPlan_4 12 rfl rfl)
theorem dX0_goesPlan_106 : decode cX0_goesPlan 106 = .ok (.iastore, 1) := dk_79 (dk_at dksX0_goesPlan_4 14 rfl rfl)
theorem dX0_goesPlan_107 : decode cX0_goesPlan 107 = .ok (.iinc 3 1, 3) := dk_132 3 1 (dk_at dksX0_goesPlan_4 15 rfl rfl)
theorem dX0_goesPlan_110 : decode cX0_goesPlan 110 = .ok (.aload_n 0, 1) := dk_42 (dk_at dksX0_goesPlan_4 18 rfl rfl)
theorem dX0_goesPlan_111 : decode cX0_goesPlan 111 = .ok (.getfield 42, 3) := dk_180 0 42 (dk_at dksX0_goesPlan_4 19 rfl rfl)
theorem dX0_goesPlan_114 : decode cX0_goesPlan 114 = .ok (.iload 4, 2) := dk_21 4 (dk_at dksX0_goesPlan_4 22 rfl rfl)
theorem dX0_goesPlan_116 : decode cX0_goesPlan 116 = .ok (.aaload, 1) := dk_50 (dk_at dksX0_goesPlan_5 0 rfl rfl)
theorem dX0_goesPlan_117 : decode cX0_goesPlan 117 = .ok (.iload 5, 2) := dk_21 5 (dk_at dksX0_goesPlan_5 1 rfl rfl)
theorem dX0_goesPlan_119 : decode cX0_goesPlan 119 = .ok (.aaload, 1) := dk_50 (dk_at dksX0_goesPlan_5 3 rfl rfl)
theorem dX0_goesPlan_120 : decode cX0_goesPlan 120 = .ok (.iload_n 2, 1) := dk_28 (dk_at dksX0_goesPlan_5 4 rfl rfl)
theorem dX0_goesPlan_121 : decode cX0_goesPlan 121 = .ok (.iaload, 1) := dk_46 (dk_at dksX0_goesPlan_5 5 rfl rfl)
theorem dX0_goesPlan_122 : decode cX0_goesPlan 122 = .ok (.istore 6, 2) := dk_54 6 (dk_at dksX0_goesPlan_5 6 rfl rfl)
theorem dX0_goesPlan_124 : decode cX0_goesPlan 124 = .ok (.iload_n 1, 1) := dk_27 (dk_at dksX0_goesPlan_5 8 rfl rfl)
theorem dX0_goesPlan_125 : decode cX0_goesPlan 125 = .ok (.iconst 1, 1) := dk_4 (dk_at dksX0_goesPlan_5 9 rfl rfl)
theorem dX0_goesPlan_126 : decode cX0_goesPlan 126 = .ok (.iload 4, 2) := dk_21 4 (dk_at dksX0_goesPlan_5 10 rfl rfl)
theorem dX0_goesPlan_128 : decode cX0_goesPlan 128 = .ok (.ishl, 1) := dk_120 (dk_at dksX0_goesPlan_5 12 rfl rfl)
theorem dX0_goesPlan_129 : decode cX0_goesPlan 129 = .ok (.ior, 1) := dk_128 (dk_at dksX0_goesPlan_5 13 rfl rfl)
theorem dX0_goesPlan_130 : decode cX0_goesPlan 130 = .ok (.istore_n 1, 1) := dk_60 (dk_at dksX0_goesPlan_5 14 rfl rfl)
theorem dX0_goesPlan_131 : decode cX0_goesPlan 131 = .ok (.iload 6, 2) := dk_21 6 (dk_at dksX0_goesPlan_5 15 rfl rfl)
theorem dX0_goesPlan_133 : decode cX0_goesPlan 133 = .ok (.iconst 1, 1) := dk_4 (dk_at dksX0_goesPlan_5 17 rfl rfl)
theorem dX0_goesPlan_134 : decode cX0_goesPlan 134 = .ok (.iadd, 1) := dk_96 (dk_at dksX0_goesPlan_5 18 rfl rfl)
theorem dX0_goesPlan_135 : decode cX0_goesPlan 135 = .ok (.istore_n 2, 1) := dk_61 (dk_at dksX0_goesPlan_5 19 rfl rfl)
theorem dX0_goesPlan_136 : decode cX0_goesPlan 136 = .ok (.goto (-130), 3) := dk_167 255 126 (dk_at dksX0_goesPlan_5 20 rfl rfl)
theorem dX0_goesPlan_139 : decode cX0_goesPlan 139 = .ok (.iload_n 3, 1) := dk_29 (dk_at dksX0_goesPlan_5 23 rfl rfl)
theorem dX0_goesPlan_140 : decode cX0_goesPlan 140 = .ok (.ireturn, 1) := dk_172 (dk_at dksX0_goesPlan_6 0 rfl rfl)
abbrev cX0_seen : ByteArray := prog_1_method_49_code
def yX0_seen : MethodName := ⟨RX0, "seen", "(I)I"⟩
def dkwX0_seen_3 : List UInt8 := [4, 96, 79, 42, 180, 0, 12, 180, 0, 66, 8, 46, 172]
abbrev dktX0_seen_3 : List UInt8 := dkwX0_seen_3 ++ []
def dkwX0_seen_2 : List UInt8 := [180, 1, 30, 42, 180, 0, 12, 180, 0, 66, 8, 46, 27, 79, 42, 180, 0, 12, 180, 0, 66, 8, 92, 46]
abbrev dktX0_seen_2 : List UInt8 := dkwX0_seen_2 ++ dktX0_seen_3
def dkwX0_seen_1 : List UInt8 := [153, 0, 17, 42, 180, 0, 12, 180, 0, 66, 8, 46, 16, 8, 160, 0, 6, 16, 254, 172, 42, 180, 0, 12]
abbrev dktX0_seen_1 : List UInt8 := dkwX0_seen_1 ++ dktX0_seen_2
def dkwX0_seen_0 : List UInt8 := [27, 2, 160, 0, 15, 42, 180, 0, 12, 180, 0, 66, 8, 3, 79, 3, 172, 27, 3, 16, 40, 184, 0, 69]
abbrev dktX0_seen_0 : List UInt8 := dkwX0_seen_0 ++ dktX0_seen_1
theorem dksX0_seen_0 : cX0_seen.data.toList.drop 0 = dktX0_seen_0 := by decide +kernel
theorem dksX0_seen_1 : cX0_seen.data.toList.drop 24 = dktX0_seen_1 := dk_seg dksX0_seen_0 24 rfl rfl
theorem dksX0_seen_2 : cX0_seen.data.toList.drop 48 = dktX0_seen_2 := dk_seg dksX0_seen_1 24 rfl rfl
theorem dksX0_seen_3 : cX0_seen.data.toList.drop 72 = dktX0_seen_3 := dk_seg dksX0_seen_2 24 rfl rfl
theorem dX0_seen_0 : decode cX0_seen 0 = .ok (.iload_n 1, 1) := dk_27 (dk_at dksX0_seen_0 0 rfl rfl)
theorem dX0_seen_1 : decode cX0_seen 1 = .ok (.iconst (-1), 1) := dk_2 (dk_at dksX0_seen_0 1 rfl rfl)
theorem dX0_seen_2 : decode cX0_seen 2 = .ok (.if_icmp .ne 15, 3) := dk_160 0 15 (dk_at dksX0_seen_0 2 rfl rfl)
theorem dX0_seen_5 : decode cX0_seen 5 = .ok (.aload_n 0, 1) := dk_42 (dk_at dksX0_seen_0 5 rfl rfl)
theorem dX0_seen_6 : decode cX0_seen 6 = .ok (.getfield 12, 3) := dk_180 0 12 (dk_at dksX0_seen_0 6 rfl rfl)
theorem dX0_seen_9 : decode cX0_seen 9 = .ok (.getfield 66, 3) := dk_180 0 66 (dk_at dksX0_seen_0 9 rfl rfl)
theorem dX0_seen_12 : decode cX0_seen 12 = .ok (.iconst 5, 1) := dk_8 (dk_at dksX0_seen_0 12 rfl rfl)
theorem dX0_seen_13 : decode cX0_seen 13 = .ok (.iconst 0, 1) := dk_3 (dk_at dksX0_seen_0 13 rfl rfl)
theorem dX0_seen_14 : decode cX0_seen 14 = .ok (.iastore, 1) := dk_79 (dk_at dksX0_seen_0 14 rfl rfl)
theorem dX0_seen_15 : decode cX0_seen 15 = .ok (.iconst 0, 1) := dk_3 (dk_at dksX0_seen_0 15 rfl rfl)
theorem dX0_seen_16 : decode cX0_seen 16 = .ok (.ireturn, 1) := dk_172 (dk_at dksX0_seen_0 16 rfl rfl)
theorem dX0_seen_17 : decode cX0_seen 17 = .ok (.iload_n 1, 1) := dk_27 (dk_at dksX0_seen_0 17 rfl rfl)
theorem dX0_seen_18 : decode cX0_seen 18 = .ok (.iconst 0, 1) := dk_3 (dk_at dksX0_seen_0 18 rfl rfl)
theorem dX0_seen_19 : decode cX0_seen 19 = .ok (.bipush 40, 2) := dk_16 40 (dk_at dksX0_seen_0 19 rfl rfl)
theorem dX0_seen_21 : decode cX0_seen 21 = .ok (.invokestatic 69, 3) := dk_184 0 69 (dk_at dksX0_seen_0 21 rfl rfl)
theorem dX0_seen_24 : decode cX0_seen 24 = .ok (.ifCond .eq 17, 3) := dk_153 0 17 (dk_at dksX0_seen_1 0 rfl rfl)
theorem dX0_seen_27 : decode cX0_seen 27 = .ok (.aload_n 0, 1) := dk_42 (dk_at dksX0_seen_1 3 rfl rfl)
theorem dX0_seen_28 : decode cX0_seen 28 = .ok (.getfield 12, 3) := dk_180 0 12 (dk_at dksX0_seen_1 4 rfl rfl)
theorem dX0_seen_31 : decode cX0_seen 31 = .ok (.getfield 66, 3) := dk_180 0 66 (dk_at dksX0_seen_1 7 rfl rfl)
theorem dX0_seen_34 : decode cX0_seen 34 = .ok (.iconst 5, 1) := dk_8 (dk_at dksX0_seen_1 10 rfl rfl)
theorem dX0_seen_35 : decode cX0_seen 35 = .ok (.iaload, 1) := dk_46 (dk_at dksX0_seen_1 11 rfl rfl)
theorem dX0_seen_36 : decode cX0_seen 36 = .ok (.bipush 8, 2) := dk_16 8 (dk_at dksX0_seen_1 12 rfl rfl)
theorem dX0_seen_38 : decode cX0_seen 38 = .ok (.if_icmp .ne 6, 3) := dk_160 0 6 (dk_at dksX0_seen_1 14 rfl rfl)
theorem dX0_seen_41 : decode cX0_seen 41 = .ok (.bipush (-2), 2) := dk_16 254 (dk_at dksX0_seen_1 17 rfl rfl)
theorem dX0_seen_43 : decode cX0_seen 43 = .ok (.ireturn, 1) := dk_172 (dk_at dksX0_seen_1 19 rfl rfl)
theorem dX0_seen_44 : decode cX0_seen 44 = .ok (.aload_n 0, 1) := dk_42 (dk_at dksX0_seen_1 20 rfl rfl)
theorem dX0_seen_45 : decode cX0_seen 45 = .ok (.getfield 12, 3) := dk_180 0 12 (dk_at dksX0_seen_1 21 rfl rfl)
theorem dX0_seen_48 : decode cX0_seen 48 = .ok (.getfield 286, 3) := dk_180 1 30 (dk_at dksX0_seen_2 0 rfl rfl)
theorem dX0_seen_51 : decode cX0_seen 51 = .ok (.aload_n 0, 1) := dk_42 (dk_at dksX0_seen_2 3 rfl rfl)
theorem dX0_seen_52 : decode cX0_seen 52 = .ok (.getfield 12, 3) := dk_180 0 12 (dk_at dksX0_seen_2 4 rfl rfl)
theorem dX0_seen_55 : decode cX0_seen 55 = .ok (.getfield 66, 3) := dk_180 0 66 (dk_at dksX0_seen_2 7 rfl rfl)
theorem dX0_seen_58 : decode cX0_seen 58 = .ok (.iconst 5, 1) := dk_8 (dk_at dksX0_seen_2 10 rfl rfl)
theorem dX0_seen_59 : decode cX0_seen 59 = .ok (.iaload, 1) := dk_46 (dk_at dksX0_seen_2 11 rfl rfl)
theorem dX0_seen_60 : decode cX0_seen 60 = .ok (.iload_n 1, 1) := dk_27 (dk_at dksX0_seen_2 12 rfl rfl)
theorem dX0_seen_61 : decode cX0_seen 61 = .ok (.iastore, 1) := dk_79 (dk_at dksX0_seen_2 13 rfl rfl)
theorem dX0_seen_62 : decode cX0_seen 62 = .ok (.aload_n 0, 1) := dk_42 (dk_at dksX0_seen_2 14 rfl rfl)
theorem dX0_seen_63 : decode cX0_seen 63 = .ok (.getfield 12, 3) := dk_180 0 12 (dk_at dksX0_seen_2 15 rfl rfl)
theorem dX0_seen_66 : decode cX0_seen 66 = .ok (.getfield 66, 3) := dk_180 0 66 (dk_at dksX0_seen_2 18 rfl rfl)
theorem dX0_seen_69 : decode cX0_seen 69 = .ok (.iconst 5, 1) := dk_8 (dk_at dksX0_seen_2 21 rfl rfl)
theorem dX0_seen_70 : decode cX0_seen 70 = .ok (.dup2, 1) := dk_92 (dk_at dksX0_seen_2 22 rfl rfl)
theorem dX0_seen_71 : decode cX0_seen 71 = .ok (.iaload, 1) := dk_46 (dk_at dksX0_seen_2 23 rfl rfl)
theorem dX0_seen_72 : decode cX0_seen 72 = .ok (.iconst 1, 1) := dk_4 (dk_at dksX0_seen_3 0 rfl rfl)
theorem dX0_seen_73 : decode cX0_seen 73 = .ok (.iadd, 1) := dk_96 (dk_at dksX0_seen_3 1 rfl rfl)
theorem dX0_seen_74 : decode cX0_seen 74 = .ok (.iastore, 1) := dk_79 (dk_at dksX0_seen_3 2 rfl rfl)
theorem dX0_seen_75 : decode cX0_seen 75 = .ok (.aload_n 0, 1) := dk_42 (dk_at dksX0_seen_3 3 rfl rfl)
theorem dX0_seen_76 : decode cX0_seen 76 = .ok (.getfield 12, 3) := dk_180 0 12 (dk_at dksX0_seen_3 4 rfl rfl)
theorem dX0_seen_79 : decode cX0_seen 79 = .ok (.getfield 66, 3) := dk_180 0 66 (dk_at dksX0_seen_3 7 rfl rfl)
theorem dX0_seen_82 : decode cX0_seen 82 = .ok (.iconst 5, 1) := dk_8 (dk_at dksX0_seen_3 10 rfl rfl)
theorem dX0_seen_83 : decode cX0_seen 83 = .ok (.iaload, 1) := dk_46 (dk_at dksX0_seen_3 11 rfl rfl)
theorem dX0_seen_84 : decode cX0_seen 84 = .ok (.ireturn, 1) := dk_172 (dk_at dksX0_seen_3 12 rfl rfl)
abbrev cX0_whose : ByteArray := prog_1_method_51_code
def yX0_whose : MethodName := ⟨RX0, "whose", "(I)I"⟩
def dkwX0_whose_3 : List UInt8 := [167, 255, 197, 27, 2, 160, 0, 7, 28, 167, 0, 4, 2, 172]
abbrev dktX0_whose_3 : List UInt8 := dkwX0_whose_3 ++ []
def dkwX0_whose_2 : List UInt8 := [29, 182, 1, 35, 154, 0, 6, 167, 0, 13, 28, 27, 160, 0, 5, 29, 172, 132, 2, 1, 132, 3, 1]
abbrev dktX0_whose_2 : List UInt8 := dkwX0_whose_2 ++ dktX0_whose_3
def dkwX0_whose_1 : List UInt8 := [162, 0, 50, 42, 180, 0, 12, 180, 0, 66, 8, 46, 158, 0, 38, 29, 184, 1, 18, 6, 163, 0, 24, 42]
abbrev dktX0_whose_1 : List UInt8 := dkwX0_whose_1 ++ dktX0_whose_2
def dkwX0_whose_0 : List UInt8 := [27, 2, 162, 0, 5, 2, 172, 3, 61, 4, 62, 29, 4, 42, 180, 0, 12, 180, 0, 66, 3, 46, 120]
abbrev dktX0_whose_0 : List UInt8 := dkwX0_whose_0 ++ dktX0_whose_1
theorem dksX0_whose_0 : cX0_whose.data.toList.drop 0 = dktX0_whose_0 := by decide +kernel
theorem dksX0_whose_1 : cX0_whose.data.toList.drop 23 = dktX0_whose_1 := dk_seg dksX0_whose_0 23 rfl rfl
theorem dksX0_whose_2 : cX0_whose.data.toList.drop 47 = dktX0_whose_2 := dk_seg dksX0_whose_1 24 rfl rfl
theorem dksX0_whose_3 : cX0_whose.data.toList.drop 70 = dktX0_whose_3 := dk_seg dksX0_whose_2 23 rfl rfl
theorem dX0_whose_0 : decode cX0_whose 0 = .ok (.iload_n 1, 1) := dk_27 (dk_at dksX0_whose_0 0 rfl rfl)
theorem dX0_whose_1 : decode cX0_whose 1 = .ok (.iconst (-1), 1) := dk_2 (dk_at dksX0_whose_0 1 rfl rfl)
theorem dX0_whose_2 : decode cX0_whose 2 = .ok (.if_icmp .ge 5, 3) := dk_162 0 5 (dk_at dksX0_whose_0 2 rfl rfl)
theorem dX0_whose_5 : decode cX0_whose 5 = .ok (.iconst (-1), 1) := dk_2 (dk_at dksX0_whose_0 5 rfl rfl)
theorem dX0_whose_6 : decode cX0_whose 6 = .ok (.ireturn, 1) := dk_172 (dk_at dksX0_whose_0 6 rfl rfl)
theorem dX0_whose_7 : decode cX0_whose 7 = .ok (.iconst 0, 1) := dk_3 (dk_at dksX0_whose_0 7 rfl rfl)
theorem dX0_whose_8 : decode cX0_whose 8 = .ok (.istore_n 2, 1) := dk_61 (dk_at dksX0_whose_0 8 rfl rfl)
theorem dX0_whose_9 : decode cX0_whose 9 = .ok (.iconst 1, 1) := dk_4 (dk_at dksX0_whose_0 9 rfl rfl)
theorem dX0_whose_10 : decode cX0_whose 10 = .ok (.istore_n 3, 1) := dk_62 (dk_at dksX0_whose_0 10 rfl rfl)
theorem dX0_whose_11 : decode cX0_whose 11 = .ok (.iload_n 3, 1) := dk_29 (dk_at dksX0_whose_0 11 rfl rfl)
theorem dX0_whose_12 : decode cX0_whose 12 = .ok (.iconst 1, 1) := dk_4 (dk_at dksX0_whose_0 12 rfl rfl)
theorem dX0_whose_13 : decode cX0_whose 13 = .ok (.aload_n 0, 1) := dk_42 (dk_at dksX0_whose_0 13 rfl rfl)
theorem dX0_whose_14 : decode cX0_whose 14 = .ok (.getfield 12, 3) := dk_180 0 12 (dk_at dksX0_whose_0 14 rfl rfl)
theorem dX0_whose_17 : decode cX0_whose 17 = .ok (.getfield 66, 3) := dk_180 0 66 (dk_at dksX0_whose_0 17 rfl rfl)
theorem dX0_whose_20 : decode cX0_whose 20 = .ok (.iconst 0, 1) := dk_3 (dk_at dksX0_whose_0 20 rfl rfl)
theorem dX0_whose_21 : decode cX0_whose 21 = .ok (.iaload, 1) := dk_46 (dk_at dksX0_whose_0 21 rfl rfl)
theorem dX0_whose_22 : decode cX0_whose 22 = .ok (.ishl, 1) := dk_120 (dk_at dksX0_whose_0 22 rfl rfl)
theorem dX0_whose_23 : decode cX0_whose 23 = .ok (.if_icmp .ge 50, 3) := dk_162 0 50 (dk_at dksX0_whose_1 0 rfl rfl)
theorem dX0_whose_26 : decode cX0_whose 26 = .ok (.aload_n 0, 1) := dk_42 (dk_at dksX0_whose_1 3 rfl rfl)
theorem dX0_whose_27 : decode cX0_whose 27 = .ok (.getfield 12, 3) := dk_180 0 12 (dk_at dksX0_whose_1 4 rfl rfl)
theorem dX0_whose_30 : decode cX0_whose 30 = .ok (.getfield 66, 3) := dk_180 0 66 (dk_at dksX0_whose_1 7 rfl rfl)
theorem dX0_whose_33 : decode cX0_whose 33 = .ok (.iconst 5, 1) := dk_8 (dk_at dksX0_whose_1 10 rfl rfl)
theorem dX0_whose_34 : decode cX0_whose 34 = .ok (.iaload, 1) := dk_46 (dk_at dksX0_whose_1 11 rfl rfl)
theorem dX0_whose_35 : decode cX0_whose 35 = .ok (.ifCond .le 38, 3) := dk_158 0 38 (dk_at dksX0_whose_1 12 rfl rfl)
theorem dX0_whose_38 : decode cX0_whose 38 = .ok (.iload_n 3, 1) := dk_29 (dk_at dksX0_whose_1 15 rfl rfl)
theorem dX0_whose_39 : decode cX0_whose 39 = .ok (.invokestatic 274, 3) := dk_184 1 18 (dk_at dksX0_whose_1 16 rfl rfl)
theorem dX0_whose_42 : decode cX0_whose 42 = .ok (.iconst 3, 1) := dk_6 (dk_at dksX0_whose_1 19 rfl rfl)
theorem dX0_whose_43 : decode cX0_whose 43 = .ok (.if_icmp .gt 24, 3) := dk_163 0 24 (dk_at dksX0_whose_1 20 rfl rfl)
theorem dX0_whose_46 : decode cX0_whose 46 = .ok (.aload_n 0, 1) := dk_42 (dk_at dksX0_whose_1 23 rfl rfl)
theorem dX0_whose_47 : decode cX0_whose 47 = .ok (.iload_n 3, 1) := dk_29 (dk_at dksX0_whose_2 0 rfl rfl)
theorem dX0_whose_48 : decode cX0_whose 48 = .ok (.invokevirtual 291, 3) := dk_182 1 35 (dk_at dksX0_whose_2 1 rfl rfl)
theorem dX0_whose_51 : decode cX0_whose 51 = .ok (.ifCond .ne 6, 3) := dk_154 0 6 (dk_at dksX0_whose_2 4 rfl rfl)
theorem dX0_whose_54 : decode cX0_whose 54 = .ok (.goto 13, 3) := dk_167 0 13 (dk_at dksX0_whose_2 7 rfl rfl)
theorem dX0_whose_57 : decode cX0_whose 57 = .ok (.iload_n 2, 1) := dk_28 (dk_at dksX0_whose_2 10 rfl rfl)
theorem dX0_whose_58 : decode cX0_whose 58 = .ok (.iload_n 1, 1) := dk_27 (dk_at dksX0_whose_2 11 rfl rfl)
theorem dX0_whose_59 : decode cX0_whose 59 = .ok (.if_icmp .ne 5, 3) := dk_160 0 5 (dk_at dksX0_whose_2 12 rfl rfl)
theorem dX0_whose_62 : decode cX0_whose 62 = .ok (.iload_n 3, 1) := dk_29 (dk_at dksX0_whose_2 15 rfl rfl)
theorem dX0_whose_63 : decode cX0_whose 63 = .ok (.ireturn, 1) := dk_172 (dk_at dksX0_whose_2 16 rfl rfl)
theorem dX0_whose_64 : decode cX0_whose 64 = .ok (.iinc 2 1, 3) := dk_132 2 1 (dk_at dksX0_whose_2 17 rfl rfl)
theorem dX0_whose_67 : decode cX0_whose 67 = .ok (.iinc 3 1, 3) := dk_132 3 1 (dk_at dksX0_whose_2 20 rfl rfl)
theorem dX0_whose_70 : decode cX0_whose 70 = .ok (.goto (-59), 3) := dk_167 255 197 (dk_at dksX0_whose_3 0 rfl rfl)
theorem dX0_whose_73 : decode cX0_whose 73 = .ok (.iload_n 1, 1) := dk_27 (dk_at dksX0_whose_3 3 rfl rfl)
theorem dX0_whose_74 : decode cX0_whose 74 = .ok (.iconst (-1), 1) := dk_2 (dk_at dksX0_whose_3 4 rfl rfl)
theorem dX0_whose_75 : decode cX0_whose 75 = .ok (.if_icmp .ne 7, 3) := dk_160 0 7 (dk_at dksX0_whose_3 5 rfl rfl)
theorem dX0_whose_78 : decode cX0_whose 78 = .ok (.iload_n 2, 1) := dk_28 (dk_at dksX0_whose_3 8 rfl rfl)
theorem dX0_whose_79 : decode cX0_whose 79 = .ok (.goto 4, 3) := dk_167 0 4 (dk_at dksX0_whose_3 9 rfl rfl)
theorem dX0_whose_82 : decode cX0_whose 82 = .ok (.iconst (-1), 1) := dk_2 (dk_at dksX0_whose_3 12 rfl rfl)
theorem dX0_whose_83 : decode cX0_whose 83 = .ok (.ireturn, 1) := dk_172 (dk_at dksX0_whose_3 13 rfl rfl)
abbrev cX0_canBe : ByteArray := prog_1_method_50_code
def yX0_canBe : MethodName := ⟨RX0, "canBe", "(I)Z"⟩
def dkwX0_canBe_6 : List UInt8 := [167, 0, 4, 3, 172]
abbrev dktX0_canBe_6 : List UInt8 := dkwX0_canBe_6 ++ []
def dkwX0_canBe_5 : List UInt8 := [21, 4, 161, 0, 23, 27, 184, 1, 18, 4, 159, 0, 11, 28, 29, 100, 21, 4, 162, 0, 7, 4]
abbrev dktX0_canBe_5 : List UInt8 := dkwX0_canBe_5 ++ dktX0_canBe_6
def dkwX0_canBe_4 : List UInt8 := [21, 4, 42, 180, 0, 12, 180, 1, 30, 21, 5, 46, 184, 1, 33, 54, 4, 132, 5, 1, 167, 255, 222, 28]
abbrev dktX0_canBe_4 : List UInt8 := dkwX0_canBe_4 ++ dktX0_canBe_5
def dkwX0_canBe_3 : List UInt8 := [167, 255, 195, 3, 54, 4, 3, 54, 5, 21, 5, 42, 180, 0, 12, 180, 0, 66, 8, 46, 162, 0, 26]
abbrev dktX0_canBe_3 : List UInt8 := dkwX0_canBe_3 ++ dktX0_canBe_4
def dkwX0_canBe_2 : List UInt8 := [96, 61, 29, 42, 180, 0, 12, 180, 0, 80, 21, 4, 50, 3, 46, 184, 0, 207, 62, 132, 4, 1]
abbrev dktX0_canBe_2 : List UInt8 := dkwX0_canBe_2 ++ dktX0_canBe_3
def dkwX0_canBe_1 : List UInt8 := [21, 4, 122, 4, 126, 154, 0, 6, 167, 0, 35, 28, 42, 180, 0, 12, 180, 0, 80, 21, 4, 50, 3, 46]
abbrev dktX0_canBe_1 : List UInt8 := dkwX0_canBe_1 ++ dktX0_canBe_2
def dkwX0_canBe_0 : List UInt8 := [3, 61, 16, 9, 62, 3, 54, 4, 21, 4, 42, 180, 0, 12, 180, 0, 66, 3, 46, 162, 0, 53, 27]
abbrev dktX0_canBe_0 : List UInt8 := dkwX0_canBe_0 ++ dktX0_canBe_1
theorem dksX0_canBe_0 : cX0_canBe.data.toList.drop 0 = dktX0_canBe_0 := by decide +kernel
theorem dksX0_canBe_1 : cX0_canBe.data.toList.drop 23 = dktX0_canBe_1 := dk_seg dksX0_canBe_0 23 rfl rfl
theorem dksX0_canBe_2 : cX0_canBe.data.toList.drop 47 = dktX0_canBe_2 := dk_seg dksX0_canBe_1 24 rfl rfl
theorem dksX0_canBe_3 : cX0_canBe.data.toList.drop 69 = dktX0_canBe_3 := dk_seg dksX0_canBe_2 22 rfl rfl
theorem dksX0_canBe_4 : cX0_canBe.data.toList.drop 92 = dktX0_canBe_4 := dk_seg dksX0_canBe_3 23 rfl rfl
theorem dksX0_canBe_5 : cX0_canBe.data.toList.drop 116 = dktX0_canBe_5 := dk_seg dksX0_canBe_4 24 rfl rfl
theorem dksX0_canBe_6 : cX0_canBe.data.toList.drop 138 = dktX0_canBe_6 := dk_seg dksX0_canBe_5 22 rfl rfl
theorem dX0_canBe_0 : decode cX0_canBe 0 = .ok (.iconst 0, 1) := dk_3 (dk_at dksX0_canBe_0 0 rfl rfl)
theorem dX0_canBe_1 : decode cX0_canBe 1 = .ok (.istore_n 2, 1) := dk_61 (dk_at dksX0_canBe_0 1 rfl rfl)
theorem dX0_canBe_2 : decode cX0_canBe 2 = .ok (.bipush 9, 2) := dk_16 9 (dk_at dksX0_canBe_0 2 rfl rfl)
theorem dX0_canBe_4 : decode cX0_canBe 4 = .ok (.istore_n 3, 1) := dk_62 (dk_at dksX0_canBe_0 4 rfl rfl)
theorem dX0_canBe_5 : decode cX0_canBe 5 = .ok (.iconst 0, 1) := dk_3 (dk_at dksX0_canBe_0 5 rfl rfl)
theorem dX0_canBe_6 : decode cX0_canBe 6 = .ok (.istore 4, 2) := dk_54 4 (dk_at dksX0_canBe_0 6 rfl rfl)
theorem dX0_canBe_8 : decode cX0_canBe 8 = .ok (.iload 4, 2) := dk_21 4 (dk_at dksX0_canBe_0 8 rfl rfl)
theorem dX0_canBe_10 : decode cX0_canBe 10 = .ok (.aload_n 0, 1) := dk_42 (dk_at dksX0_canBe_0 10 rfl rfl)
theorem dX0_canBe_11 : decode cX0_canBe 11 = .ok (.getfield 12, 3) := dk_180 0 12 (dk_at dksX0_canBe_0 11 rfl rfl)
theorem dX0_canBe_14 : decode cX0_canBe 14 = .ok (.getfield 66, 3) := dk_180 0 66 (dk_at dksX0_canBe_0 14 rfl rfl)
theorem dX0_canBe_17 : decode cX0_canBe 17 = .ok (.iconst 0, 1) := dk_3 (dk_at dksX0_canBe_0 17 rfl rfl)
theorem dX0_canBe_18 : decode cX0_canBe 18 = .ok (.iaload, 1) := dk_46 (dk_at dksX0_canBe_0 18 rfl rfl)
theorem dX0_canBe_19 : decode cX0_canBe 19 = .ok (.if_icmp .ge 53, 3) := dk_162 0 53 (dk_at dksX0_canBe_0 19 rfl rfl)
theorem dX0_canBe_22 : decode cX0_canBe 22 = .ok (.iload_n 1, 1) := dk_27 (dk_at dksX0_canBe_0 22 rfl rfl)
theorem dX0_canBe_23 : decode cX0_canBe 23 = .ok (.iload 4, 2) := dk_21 4 (dk_at dksX0_canBe_1 0 rfl rfl)
theorem dX0_canBe_25 : decode cX0_canBe 25 = .ok (.ishr, 1) := dk_122 (dk_at dksX0_canBe_1 2 rfl rfl)
theorem dX0_canBe_26 : decode cX0_canBe 26 = .ok (.iconst 1, 1) := dk_4 (dk_at dksX0_canBe_1 3 rfl rfl)
theorem dX0_canBe_27 : decode cX0_canBe 27 = .ok (.iand, 1) := dk_126 (dk_at dksX0_canBe_1 4 rfl rfl)
theorem dX0_canBe_28 : decode cX0_canBe 28 = .ok (.ifCond .ne 6, 3) := dk_154 0 6 (dk_at dksX0_canBe_1 5 rfl rfl)
theorem dX0_canBe_31 : decode cX0_canBe 31 = .ok (.goto 35, 3) := dk_167 0 35 (dk_at dksX0_canBe_1 8 rfl rfl)
theorem dX0_canBe_34 : decode cX0_canBe 34 = .ok (.iload_n 2, 1) := dk_28 (dk_at dksX0_canBe_1 11 rfl rfl)
theorem dX0_canBe_35 : decode cX0_canBe 35 = .ok (.aload_n 0, 1) := dk_42 (dk_at dksX0_canBe_1 12 rfl rfl)
theorem dX0_canBe_36 : decode cX0_canBe 36 = .ok (.getfield 12, 3) := dk_180 0 12 (dk_at dksX0_canBe_1 13 rfl rfl)
theorem dX0_canBe_39 : decode cX0_canBe 39 = .ok (.getfield 80, 3) := dk_180 0 80 (dk_at dksX0_canBe_1 16 rfl rfl)
theorem dX0_canBe_42 : decode cX0_canBe 42 = .ok (.iload 4, 2) := dk_21 4 (dk_at dksX0_canBe_1 19 rfl rfl)
theorem dX0_canBe_44 : decode cX0_canBe 44 = .ok (.aaload, 1) := dk_50 (dk_at dksX0_canBe_1 21 rfl rfl)
theorem dX0_canBe_45 : decode cX0_canBe 45 = .ok (.iconst 0, 1) := dk_3 (dk_at dksX0_canBe_1 22 rfl rfl)
theorem dX0_canBe_46 : decode cX0_canBe 46 = .ok (.iaload, 1) := dk_46 (dk_at dksX0_canBe_1 23 rfl rfl)
theorem dX0_canBe_47 : decode cX0_canBe 47 = .ok (.iadd, 1) := dk_96 (dk_at dksX0_canBe_2 0 rfl rfl)
theorem dX0_canBe_48 : decode cX0_canBe 48 = .ok (.istore_n 2, 1) := dk_61 (dk_at dksX0_canBe_2 1 rfl rfl)
theorem dX0_canBe_49 : decode cX0_canBe 49 = .ok (.iload_n 3, 1) := dk_29 (dk_at dksX0_canBe_2 2 rfl rfl)
theorem dX0_canBe_50 : decode cX0_canBe 50 = .ok (.aload_n 0, 1) := dk_42 (dk_at dksX0_canBe_2 3 rfl rfl)
theorem dX0_canBe_51 : decode cX0_canBe 51 = .ok (.getfield 12, 3) := dk_180 0 12 (dk_at dksX0_canBe_2 4 rfl rfl)
theorem dX0_canBe_54 : decode cX0_canBe 54 = .ok (.getfield 80, 3) := dk_180 0 80 (dk_at dksX0_canBe_2 7 rfl rfl)
theorem dX0_canBe_57 : decode cX0_canBe 57 = .ok (.iload 4, 2) := dk_21 4 (dk_at dksX0_canBe_2 10 rfl rfl)
theorem dX0_canBe_59 : decode cX0_canBe 59 = .ok (.aaload, 1) := dk_50 (dk_at dksX0_canBe_2 12 rfl rfl)
theorem dX0_canBe_60 : decode cX0_canBe 60 = .ok (.iconst 0, 1) := dk_3 (dk_at dksX0_canBe_2 13 rfl rfl)
theorem dX0_canBe_61 : decode cX0_canBe 61 = .ok (.iaload, 1) := dk_46 (dk_at dksX0_canBe_2 14 rfl rfl)
theorem dX0_canBe_62 : decode cX0_canBe 62 = .ok (.invokestatic 207, 3) := dk_184 0 207 (dk_at dksX0_canBe_2 15 rfl rfl)
theorem dX0_canBe_65 : decode cX0_canBe 65 = .ok (.istore_n 3, 1) := dk_62 (dk_at dksX0_canBe_2 18 rfl rfl)
theorem dX0_canBe_66 : decode cX0_canBe 66 = .ok (.iinc 4 1, 3) := dk_132 4 1 (dk_at dksX0_canBe_2 19 rfl rfl)
theorem dX0_canBe_69 : decode cX0_canBe 69 = .ok (.goto (-61), 3) := dk_167 255 195 (dk_at dksX0_canBe_3 0 rfl rfl)
theorem dX0_canBe_72 : decode cX0_canBe 72 = .ok (.iconst 0, 1) := dk_3 (dk_at dksX0_canBe_3 3 rfl rfl)
theorem dX0_canBe_73 : decode cX0_canBe 73 = .ok (.istore 4, 2) := dk_54 4 (dk_at dksX0_canBe_3 4 rfl rfl)
theorem dX0_canBe_75 : decode cX0_canBe 75 = .ok (.iconst 0, 1) := dk_3 (dk_at dksX0_canBe_3 6 rfl rfl)
theorem dX0_canBe_76 : decode cX0_canBe 76 = .ok (.istore 5, 2) := dk_54 5 (dk_at dksX0_canBe_3 7 rfl rfl)
theorem dX0_canBe_78 : decode cX0_canBe 78 = .ok (.iload 5, 2) := dk_21 5 (dk_at dksX0_canBe_3 9 rfl rfl)
theorem dX0_canBe_80 : decode cX0_canBe 80 = .ok (.aload_n 0, 1) := dk_42 (dk_at dksX0_canBe_3 11 rfl rfl)
theorem dX0_canBe_81 : decode cX0_canBe 81 = .ok (.getfield 12, 3) := dk_180 0 12 (dk_at dksX0_canBe_3 12 rfl rfl)
theorem dX0_canBe_84 : decode cX0_canBe 84 = .ok (.getfield 66, 3) := dk_180 0 66 (dk_at dksX0_canBe_3 15 rfl rfl)
theorem dX0_canBe_87 : decode cX0_canBe 87 = .ok (.iconst 5, 1) := dk_8 (dk_at dksX0_canBe_3 18 rfl rfl)
theorem dX0_canBe_88 : decode cX0_canBe 88 = .ok (.iaload, 1) := dk_46 (dk_at dksX0_canBe_3 19 rfl rfl)
theorem dX0_canBe_89 : decode cX0_canBe 89 = .ok (.if_icmp .ge 26, 3) := dk_162 0 26 (dk_at dksX0_canBe_3 20 rfl rfl)
theorem dX0_canBe_92 : decode cX0_canBe 92 = .ok (.iload 4, 2) := dk_21 4 (dk_at dksX0_canBe_4 0 rfl rfl)
theorem dX0_canBe_94 : decode cX0_canBe 94 = .ok (.aload_n 0, 1) := dk_42 (dk_at dksX0_canBe_4 2 rfl rfl)
theorem dX0_canBe_95 : decode cX0_canBe 95 = .ok (.getfield 12, 3) := dk_180 0 12 (dk_at dksX0_canBe_4 3 rfl rfl)
theorem dX0_canBe_98 : decode cX0_canBe 98 = .ok (.getfield 286, 3) := dk_180 1 30 (dk_at dksX0_canBe_4 6 rfl rfl)
theorem dX0_canBe_101 : decode cX0_canBe 101 = .ok (.iload 5, 2) := dk_21 5 (dk_at dksX0_canBe_4 9 rfl rfl)
theorem dX0_canBe_103 : decode cX0_canBe 103 = .ok (.iaload, 1) := dk_46 (dk_at dksX0_canBe_4 11 rfl rfl)
theorem dX0_canBe_104 : decode cX0_canBe 104 = .ok (.invokestatic 289, 3) := dk_184 1 33 (dk_at dksX0_canBe_4 12 rfl rfl)
theorem dX0_canBe_107 : decode cX0_canBe 107 = .ok (.istore 4, 2) := dk_54 4 (dk_at dksX0_canBe_4 15 rfl rfl)
theorem dX0_canBe_109 : decode cX0_canBe 109 = .ok (.iinc 5 1, 3) := dk_132 5 1 (dk_at dksX0_canBe_4 17 rfl rfl)
theorem dX0_canBe_112 : decode cX0_canBe 112 = .ok (.goto (-34), 3) := dk_167 255 222 (dk_at dksX0_canBe_4 20 rfl rfl)
theorem dX0_canBe_115 : decode cX0_canBe 115 = .ok (.iload_n 2, 1) := dk_28 (dk_at dksX0_canBe_4 23 rfl rfl)
theorem dX0_canBe_116 : decode cX0_canBe 116 = .ok (.iload 4, 2) := dk_21 4 (dk_at dksX0_canBe_5 0 rfl rfl)
theorem dX0_canBe_118 : decode cX0_canBe 118 = .ok (.if_icmp .lt 23, 3) := dk_161 0 23 (dk_at dksX0_canBe_5 2 rfl rfl)
theorem dX0_canBe_121 : decode cX0_canBe 121 = .ok (.iload_n 1, 1) := dk_27 (dk_at dksX0_canBe_5 5 rfl rfl)
theorem dX0_canBe_122 : decode cX0_canBe 122 = .ok (.invokestatic 274, 3) := dk_184 1 18 (dk_at dksX0_canBe_5 6 rfl rfl)
theorem dX0_canBe_125 : decode cX0_canBe 125 = .ok (.iconst 1, 1) := dk_4 (dk_at dksX0_canBe_5 9 rfl rfl)
theorem dX0_canBe_126 : decode cX0_canBe 126 = .ok (.if_icmp .eq 11, 3) := dk_159 0 11 (dk_at dksX0_canBe_5 10 rfl rfl)
theorem dX0_canBe_129 : decode cX0_canBe 129 = .ok (.iload_n 2, 1) := dk_28 (dk_at dksX0_canBe_5 13 rfl rfl)
theorem dX0_canBe_130 : decode cX0_canBe 130 = .ok (.iload_n 3, 1) := dk_29 (dk_at dksX0_canBe_5 14 rfl rfl)
theorem dX0_canBe_131 : decode cX0_canBe 131 = .ok (.isub, 1) := dk_100 (dk_at dksX0_canBe_5 15 rfl rfl)
theorem dX0_canBe_132 : decode cX0_canBe 132 = .ok (.iload 4, 2) := dk_21 4 (dk_at dksX0_canBe_5 16 rfl rfl)
theorem dX0_canBe_134 : decode cX0_canBe 134 = .ok (.if_icmp .ge 7, 3) := dk_162 0 7 (dk_at dksX0_canBe_5 18 rfl rfl)
theorem dX0_canBe_137 : decode cX0_canBe 137 = .ok (.iconst 1, 1) := dk_4 (dk_at dksX0_canBe_5 21 rfl rfl)
theorem dX0_canBe_138 : decode cX0_canBe 138 = .ok (.goto 4, 3) := dk_167 0 4 (dk_at dksX0_canBe_6 0 rfl rfl)
theorem dX0_canBe_141 : decode cX0_canBe 141 = .ok (.iconst 0, 1) := dk_3 (dk_at dksX0_canBe_6 3 rfl rfl)
theorem dX0_canBe_142 : decode cX0_canBe 142 = .ok (.ireturn, 1) := dk_172 (dk_at dksX0_canBe_6 4 rfl rfl)
abbrev cX0_tell : ByteArray := prog_1_method_52_code
def yX0_tell : MethodName := ⟨RX0, "tell", "(IIII)I"⟩
def dkwX0_tell_5 : List UInt8 := [42, 180, 0, 12, 180, 0, 66, 16, 6, 46, 172]
abbrev dktX0_tell_5 : List UInt8 := dkwX0_tell_5 ++ []
def dkwX0_tell_4 : List UInt8 := [180, 0, 66, 16, 6, 46, 50, 184, 0, 83, 42, 180, 0, 12, 180, 0, 66, 16, 6, 92, 46, 4, 96, 79]
abbrev dktX0_tell_4 : List UInt8 := dkwX0_tell_4 ++ dktX0_tell_5
def dkwX0_tell_3 : List UInt8 := [89, 5, 29, 79, 89, 6, 21, 4, 79, 58, 5, 25, 5, 42, 180, 0, 12, 180, 1, 38, 42, 180, 0, 12]
abbrev dktX0_tell_3 : List UInt8 := dkwX0_tell_3 ++ dktX0_tell_4
def dkwX0_tell_2 : List UInt8 := [180, 0, 66, 16, 6, 46, 16, 20, 160, 0, 5, 2, 172, 7, 188, 10, 89, 3, 28, 79, 89, 4, 27, 79]
abbrev dktX0_tell_2 : List UInt8 := dkwX0_tell_2 ++ dktX0_tell_3
def dkwX0_tell_1 : List UInt8 := [184, 0, 69, 153, 0, 30, 21, 4, 3, 17, 3, 231, 184, 0, 69, 153, 0, 18, 42, 180, 0, 12]
abbrev dktX0_tell_1 : List UInt8 := dkwX0_tell_1 ++ dktX0_tell_2
def dkwX0_tell_0 : List UInt8 := [42, 27, 182, 0, 90, 153, 0, 50, 28, 3, 16, 9, 184, 0, 69, 153, 0, 40, 29, 4, 16, 9]
abbrev dktX0_tell_0 : List UInt8 := dkwX0_tell_0 ++ dktX0_tell_1
theorem dksX0_tell_0 : cX0_tell.data.toList.drop 0 = dktX0_tell_0 := by decide +kernel
theorem dksX0_tell_1 : cX0_tell.data.toList.drop 22 = dktX0_tell_1 := dk_seg dksX0_tell_0 22 rfl rfl
theorem dksX0_tell_2 : cX0_tell.data.toList.drop 44 = dktX0_tell_2 := dk_seg dksX0_tell_1 22 rfl rfl
theorem dksX0_tell_3 : cX0_tell.data.toList.drop 68 = dktX0_tell_3 := dk_seg dksX0_tell_2 24 rfl rfl
theorem dksX0_tell_4 : cX0_tell.data.toList.drop 92 = dktX0_tell_4 := dk_seg dksX0_tell_3 24 rfl rfl
theorem dksX0_tell_5 : cX0_tell.data.toList.drop 116 = dktX0_tell_5 := dk_seg dksX0_tell_4 24 rfl rfl
theorem dX0_tell_0 : decode cX0_tell 0 = .ok (.aload_n 0, 1) := dk_42 (dk_at dksX0_tell_0 0 rfl rfl)
theorem dX0_tell_1 : decode cX0_tell 1 = .ok (.iload_n 1, 1) := dk_27 (dk_at dksX0_tell_0 1 rfl rfl)
theorem dX0_tell_2 : decode cX0_tell 2 = .ok (.invokevirtual 90, 3) := dk_182 0 90 (dk_at dksX0_tell_0 2 rfl rfl)
theorem dX0_tell_5 : decode cX0_tell 5 = .ok (.ifCond .eq 50, 3) := dk_153 0 50 (dk_at dksX0_tell_0 5 rfl rfl)
theorem dX0_tell_8 : decode cX0_tell 8 = .ok (.iload_n 2, 1) := dk_28 (dk_at dksX0_tell_0 8 rfl rfl)
theorem dX0_tell_9 : decode cX0_tell 9 = .ok (.iconst 0, 1) := dk_3 (dk_at dksX0_tell_0 9 rfl rfl)
theorem dX0_tell_10 : decode cX0_tell 10 = .ok (.bipush 9, 2) := dk_16 9 (dk_at dksX0_tell_0 10 rfl rfl)
theorem dX0_tell_12 : decode cX0_tell 12 = .ok (.invokestatic 69, 3) := dk_184 0 69 (dk_at dksX0_tell_0 12 rfl rfl)
theorem dX0_tell_15 : decode cX0_tell 15 = .ok (.ifCond .eq 40, 3) := dk_153 0 40 (dk_at dksX0_tell_0 15 rfl rfl)
theorem dX0_tell_18 : decode cX0_tell 18 = .ok (.iload_n 3, 1) := dk_29 (dk_at dksX0_tell_0 18 rfl rfl)
theorem dX0_tell_19 : decode cX0_tell 19 = .ok (.iconst 1, 1) := dk_4 (dk_at dksX0_tell_0 19 rfl rfl)
theorem dX0_tell_20 : decode cX0_tell 20 = .ok (.bipush 9, 2) := dk_16 9 (dk_at dksX0_tell_0 20 rfl rfl)
theorem dX0_tell_22 : decode cX0_tell 22 = .ok (.invokestatic 69, 3) := dk_184 0 69 (dk_at dksX0_tell_1 0 rfl rfl)
theorem dX0_tell_25 : decode cX0_tell 25 = .ok (.ifCond .eq 30, 3) := dk_153 0 30 (dk_at dksX0_tell_1 3 rfl rfl)
theorem dX0_tell_28 : decode cX0_tell 28 = .ok (.iload 4, 2) := dk_21 4 (dk_at dksX0_tell_1 6 rfl rfl)
theorem dX0_tell_30 : decode cX0_tell 30 = .ok (.iconst 0, 1) := dk_3 (dk_at dksX0_tell_1 8 rfl rfl)
theorem dX0_tell_31 : decode cX0_tell 31 = .ok (.sipush 999, 3) := dk_17 3 231 (dk_at dksX0_tell_1 9 rfl rfl)
theorem dX0_tell_34 : decode cX0_tell 34 = .ok (.invokestatic 69, 3) := dk_184 0 69 (dk_at dksX0_tell_1 12 rfl rfl)
theorem dX0_tell_37 : decode cX0_tell 37 = .ok (.ifCond .eq 18, 3) := dk_153 0 18 (dk_at dksX0_tell_1 15 rfl rfl)
theorem dX0_tell_40 : decode cX0_tell 40 = .ok (.aload_n 0, 1) := dk_42 (dk_at dksX0_tell_1 18 rfl rfl)
theorem dX0_tell_41 : decode cX0_tell 41 = .ok (.getfield 12, 3) := dk_180 0 12 (dk_at dksX0_tell_1 19 rfl rfl)
theorem dX0_tell_44 : decode cX0_tell 44 = .ok (.getfield 66, 3) := dk_180 0 66 (dk_at dksX0_tell_2 0 rfl rfl)
theorem dX0_tell_47 : decode cX0_tell 47 = .ok (.bipush 6, 2) := dk_16 6 (dk_at dksX0_tell_2 3 rfl rfl)
theorem dX0_tell_49 : decode cX0_tell 49 = .ok (.iaload, 1) := dk_46 (dk_at dksX0_tell_2 5 rfl rfl)
theorem dX0_tell_50 : decode cX0_tell 50 = .ok (.bipush 20, 2) := dk_16 20 (dk_at dksX0_tell_2 6 rfl rfl)
theorem dX0_tell_52 : decode cX0_tell 52 = .ok (.if_icmp .ne 5, 3) := dk_160 0 5 (dk_at dksX0_tell_2 8 rfl rfl)
theorem dX0_tell_55 : decode cX0_tell 55 = .ok (.iconst (-1), 1) := dk_2 (dk_at dksX0_tell_2 11 rfl rfl)
theorem dX0_tell_56 : decode cX0_tell 56 = .ok (.ireturn, 1) := dk_172 (dk_at dksX0_tell_2 12 rfl rfl)
theorem dX0_tell_57 : decode cX0_tell 57 = .ok (.iconst 4, 1) := dk_7 (dk_at dksX0_tell_2 13 rfl rfl)
theorem dX0_tell_58 : decode cX0_tell 58 = .ok (.newarray .int, 2) := dk_188_10 (dk_at dksX0_tell_2 14 rfl rfl)
theorem dX0_tell_60 : decode cX0_tell 60 = .ok (.dup, 1) := dk_89 (dk_at dksX0_tell_2 16 rfl rfl)
theorem dX0_tell_61 : decode cX0_tell 61 = .ok (.iconst 0, 1) := dk_3 (dk_at dksX0_tell_2 17 rfl rfl)
theorem dX0_tell_62 : decode cX0_tell 62 = .ok (.iload_n 2, 1) := dk_28 (dk_at dksX0_tell_2 18 rfl rfl)
theorem dX0_tell_63 : decode cX0_tell 63 = .ok (.iastore, 1) := dk_79 (dk_at dksX0_tell_2 19 rfl rfl)
theorem dX0_tell_64 : decode cX0_tell 64 = .ok (.dup, 1) := dk_89 (dk_at dksX0_tell_2 20 rfl rfl)
theorem dX0_tell_65 : decode cX0_tell 65 = .ok (.iconst 1, 1) := dk_4 (dk_at dksX0_tell_2 21 rfl rfl)
theorem dX0_tell_66 : decode cX0_tell 66 = .ok (.iload_n 1, 1) := dk_27 (dk_at dksX0_tell_2 22 rfl rfl)
theorem dX0_tell_67 : decode cX0_tell 67 = .ok (.iastore, 1) := dk_79 (dk_at dksX0_tell_2 23 rfl rfl)
theorem dX0_tell_68 : decode cX0_tell 68 = .ok (.dup, 1) := dk_89 (dk_at dksX0_tell_3 0 rfl rfl)
theorem dX0_tell_69 : decode cX0_tell 69 = .ok (.iconst 2, 1) := dk_5 (dk_at dksX0_tell_3 1 rfl rfl)
theorem dX0_tell_70 : decode cX0_tell 70 = .ok (.iload_n 3, 1) := dk_29 (dk_at dksX0_tell_3 2 rfl rfl)
theorem dX0_tell_71 : decode cX0_tell 71 = .ok (.iastore, 1) := dk_79 (dk_at dksX0_tell_3 3 rfl rfl)
theorem dX0_tell_72 : decode cX0_tell 72 = .ok (.dup, 1) := dk_89 (dk_at dksX0_tell_3 4 rfl rfl)
theorem dX0_tell_73 : decode cX0_tell 73 = .ok (.iconst 3, 1) := dk_6 (dk_at dksX0_tell_3 5 rfl rfl)
theorem dX0_tell_74 : decode cX0_tell 74 = .ok (.iload 4, 2) := dk_21 4 (dk_at dksX0_tell_3 6 rfl rfl)
theorem dX0_tell_76 : decode cX0_tell 76 = .ok (.iastore, 1) := dk_79 (dk_at dksX0_tell_3 8 rfl rfl)
theorem dX0_tell_77 : decode cX0_tell 77 = .ok (.astore 5, 2) := dk_58 5 (dk_at dksX0_tell_3 9 rfl rfl)
theorem dX0_tell_79 : decode cX0_tell 79 = .ok (.aload 5, 2) := dk_25 5 (dk_at dksX0_tell_3 11 rfl rfl)
theorem dX0_tell_81 : decode cX0_tell 81 = .ok (.aload_n 0, 1) := dk_42 (dk_at dksX0_tell_3 13 rfl rfl)
theorem dX0_tell_82 : decode cX0_tell 82 = .ok (.getfield 12, 3) := dk_180 0 12 (dk_at dksX0_tell_3 14 rfl rfl)
theorem dX0_tell_85 : decode cX0_tell 85 = .ok (.getfield 294, 3) := dk_180 1 38 (dk_at dksX0_tell_3 17 rfl rfl)
theorem dX0_tell_88 : decode cX0_tell 88 = .ok (.aload_n 0, 1) := dk_42 (dk_at dksX0_tell_3 20 rfl rfl)
theorem dX0_tell_89 : decode cX0_tell 89 = .ok (.getfield 12, 3) := dk_180 0 12 (dk_at dksX0_tell_3 21 rfl rfl)
theorem dX0_tell_92 : decode cX0_tell 92 = .ok (.getfield 66, 3) := dk_180 0 66 (dk_at dksX0_tell_4 0 rfl rfl)
theorem dX0_tell_95 : decode cX0_tell 95 = .ok (.bipush 6, 2) := dk_16 6 (dk_at dksX0_tell_4 3 rfl rfl)
theorem dX0_tell_97 : decode cX0_tell 97 = .ok (.iaload, 1) := dk_46 (dk_at dksX0_tell_4 5 rfl rfl)
theorem dX0_tell_98 : decode cX0_tell 98 = .ok (.aaload, 1) := dk_50 (dk_at dksX0_tell_4 6 rfl rfl)
theorem dX0_tell_99 : decode cX0_tell 99 = .ok (.invokestatic 83, 3) := dk_184 0 83 (dk_at dksX0_tell_4 7 rfl rfl)
theorem dX0_tell_102 : decode cX0_tell 102 = .ok (.aload_n 0, 1) := dk_42 (dk_at dksX0_tell_4 10 rfl rfl)
theorem dX0_tell_103 : decode cX0_tell 103 = .ok (.getfield 12, 3) := dk_180 0 12 (dk_at dksX0_tell_4 11 rfl rfl)
theorem dX0_tell_106 : decode cX0_tell 106 = .ok (.getfield 66, 3) := dk_180 0 66 (dk_at dksX0_tell_4 14 rfl rfl)
theorem dX0_tell_109 : decode cX0_tell 109 = .ok (.bipush 6, 2) := dk_16 6 (dk_at dksX0_tell_4 17 rfl rfl)
theorem dX0_tell_111 : decode cX0_tell 111 = .ok (.dup2, 1) := dk_92 (dk_at dksX0_tell_4 19 rfl rfl)
theorem dX0_tell_112 : decode cX0_tell 112 = .ok (.iaload, 1) := dk_46 (dk_at dksX0_tell_4 20 rfl rfl)
theorem dX0_tell_113 : decode cX0_tell 113 = .ok (.iconst 1, 1) := dk_4 (dk_at dksX0_tell_4 21 rfl rfl)
theorem dX0_tell_114 : decode cX0_tell 114 = .ok (.iadd, 1) := dk_96 (dk_at dksX0_tell_4 22 rfl rfl)
theorem dX0_tell_115 : decode cX0_tell 115 = .ok (.iastore, 1) := dk_79 (dk_at dksX0_tell_4 23 rfl rfl)
theorem dX0_tell_116 : decode cX0_tell 116 = .ok (.aload_n 0, 1) := dk_42 (dk_at dksX0_tell_5 0 rfl rfl)
theorem dX0_tell_117 : decode cX0_tell 117 = .ok (.getfield 12, 3) := dk_180 0 12 (dk_at dksX0_tell_5 1 rfl rfl)
theorem dX0_tell_120 : decode cX0_tell 120 = .ok (.getfield 66, 3) := dk_180 0 66 (dk_at dksX0_tell_5 4 rfl rfl)
theorem dX0_tell_123 : decode cX0_tell 123 = .ok (.bipush 6, 2) := dk_16 6 (dk_at dksX0_tell_5 7 rfl rfl)
theorem dX0_tell_125 : decode cX0_tell 125 = .ok (.iaload, 1) := dk_46 (dk_at dksX0_tell_5 9 rfl rfl)
theorem dX0_tell_126 : decode cX0_tell 126 = .ok (.ireturn, 1) := dk_172 (dk_at dksX0_tell_5 10 rfl rfl)
abbrev cX0_liars : ByteArray := prog_1_method_54_code
def yX0_liars : MethodName := ⟨RX0, "liars", "()I"⟩
def dkwX0_liars_2 : List UInt8 := [167, 0, 4, 3, 128, 60, 132, 2, 1, 167, 255, 203, 27, 172]
abbrev dktX0_liars_2 : List UInt8 := dkwX0_liars_2 ++ []
def dkwX0_liars_1 : List UInt8 := [180, 1, 38, 28, 50, 182, 1, 41, 153, 0, 19, 4, 42, 180, 0, 12, 180, 1, 38, 28, 50, 4, 46, 120]
abbrev dktX0_liars_1 : List UInt8 := dkwX0_liars_1 ++ dktX0_liars_2
def dkwX0_liars_0 : List UInt8 := [3, 60, 3, 61, 28, 42, 180, 0, 12, 180, 0, 66, 16, 6, 46, 162, 0, 45, 27, 42, 42, 180, 0, 12]
abbrev dktX0_liars_0 : List UInt8 := dkwX0_liars_0 ++ dktX0_liars_1
theorem dksX0_liars_0 : cX0_liars.data.toList.drop 0 = dktX0_liars_0 := by decide +kernel
theorem dksX0_liars_1 : cX0_liars.data.toList.drop 24 = dktX0_liars_1 := dk_seg dksX0_liars_0 24 rfl rfl
theorem dksX0_liars_2 : cX0_liars.data.toList.drop 48 = dktX0_liars_2 := dk_seg dksX0_liars_1 24 rfl rfl
theorem dX0_liars_0 : decode cX0_liars 0 = .ok (.iconst 0, 1) := dk_3 (dk_at dksX0_liars_0 0 rfl rfl)
theorem dX0_liars_1 : decode cX0_liars 1 = .ok (.istore_n 1, 1) := dk_60 (dk_at dksX0_liars_0 1 rfl rfl)
theorem dX0_liars_2 : decode cX0_liars 2 = .ok (.iconst 0, 1) := dk_3 (dk_at dksX0_liars_0 2 rfl rfl)
theorem dX0_liars_3 : decode cX0_liars 3 = .ok (.istore_n 2, 1) := dk_61 (dk_at dksX0_liars_0 3 rfl rfl)
theorem dX0_liars_4 : decode cX0_liars 4 = .ok (.iload_n 2, 1) := dk_28 (dk_at dksX0_liars_0 4 rfl rfl)
theorem dX0_liars_5 : decode cX0_liars 5 = .ok (.aload_n 0, 1) := dk_42 (dk_at dksX0_liars_0 5 rfl rfl)
theorem dX0_liars_6 : decode cX0_liars 6 = .ok (.getfield 12, 3) := dk_180 0 12 (dk_at dksX0_liars_0 6 rfl rfl)
theorem dX0_liars_9 : decode cX0_liars 9 = .ok (.getfield 66, 3) := dk_180 0 66 (dk_at dksX0_liars_0 9 rfl rfl)
theorem dX0_liars_12 : decode cX0_liars 12 = .ok (.bipush 6, 2) := dk_16 6 (dk_at dksX0_liars_0 12 rfl rfl)
theorem dX0_liars_14 : decode cX0_liars 14 = .ok (.iaload, 1) := dk_46 (dk_at dksX0_liars_0 14 rfl rfl)
theorem dX0_liars_15 : decode cX0_liars 15 = .ok (.if_icmp .ge 45, 3) := dk_162 0 45 (dk_at dksX0_liars_0 15 rfl rfl)
theorem dX0_liars_18 : decode cX0_liars 18 = .ok (.iload_n 1, 1) := dk_27 (dk_at dksX0_liars_0 18 rfl rfl)
theorem dX0_liars_19 : decode cX0_liars 19 = .ok (.aload_n 0, 1) := dk_42 (dk_at dksX0_liars_0 19 rfl rfl)
theorem dX0_liars_20 : decode cX0_liars 20 = .ok (.aload_n 0, 1) := dk_42 (dk_at dksX0_liars_0 20 rfl rfl)
theorem dX0_liars_21 : decode cX0_liars 21 = .ok (.getfield 12, 3) := dk_180 0 12 (dk_at dksX0_liars_0 21 rfl rfl)
theorem dX0_liars_24 : decode cX0_liars 24 = .ok (.getfield 294, 3) := dk_180 1 38 (dk_at dksX0_liars_1 0 rfl rfl)
theorem dX0_liars_27 : decode cX0_liars 27 = .ok (.iload_n 2, 1) := dk_28 (dk_at dksX0_liars_1 3 rfl rfl)
theorem dX0_liars_28 : decode cX0_liars 28 = .ok (.aaload, 1) := dk_50 (dk_at dksX0_liars_1 4 rfl rfl)
theorem dX0_liars_29 : decode cX0_liars 29 = .ok (.invokevirtual 297, 3) := dk_182 1 41 (dk_at dksX0_liars_1 5 rfl rfl)
theorem dX0_liars_32 : decode cX0_liars 32 = .ok (.ifCond .eq 19, 3) := dk_153 0 19 (dk_at dksX0_liars_1 8 rfl rfl)
theorem dX0_liars_35 : decode cX0_liars 35 = .ok (.iconst 1, 1) := dk_4 (dk_at dksX0_liars_1 11 rfl rfl)
theorem dX0_liars_36 : decode cX0_liars 36 = .ok (.aload_n 0, 1) := dk_42 (dk_at dksX0_liars_1 12 rfl rfl)
theorem dX0_liars_37 : decode cX0_liars 37 = .ok (.getfield 12, 3) := dk_180 0 12 (dk_at dksX0_liars_1 13 rfl rfl)
theorem dX0_liars_40 : decode cX0_liars 40 = .ok (.getfield 294, 3) := dk_180 1 38 (dk_at dksX0_liars_1 16 rfl rfl)
theorem dX0_liars_43 : decode cX0_liars 43 = .ok (.iload_n 2, 1) := dk_28 (dk_at dksX0_liars_1 19 rfl rfl)
theorem dX0_liars_44 : decode cX0_liars 44 = .ok (.aaload, 1) := dk_50 (dk_at dksX0_liars_1 20 rfl rfl)
theorem dX0_liars_45 : decode cX0_liars 45 = .ok (.iconst 1, 1) := dk_4 (dk_at dksX0_liars_1 21 rfl rfl)
theorem dX0_liars_46 : decode cX0_liars 46 = .ok (.iaload, 1) := dk_46 (dk_at dksX0_liars_1 22 rfl rfl)
theorem dX0_liars_47 : decode cX0_liars 47 = .ok (.ishl, 1) := dk_120 (dk_at dksX0_liars_1 23 rfl rfl)
theorem dX0_liars_48 : decode cX0_liars 48 = .ok (.goto 4, 3) := dk_167 0 4 (dk_at dksX0_liars_2 0 rfl rfl)
theorem dX0_liars_51 : decode cX0_liars 51 = .ok (.iconst 0, 1) := dk_3 (dk_at dksX0_liars_2 3 rfl rfl)
theorem dX0_liars_52 : decode cX0_liars 52 = .ok (.ior, 1) := dk_128 (dk_at dksX0_liars_2 4 rfl rfl)
theorem dX0_liars_53 : decode cX0_liars 53 = .ok (.istore_n 1, 1) := dk_60 (dk_at dksX0_liars_2 5 rfl rfl)
theorem dX0_liars_54 : decode cX0_liars 54 = .ok (.iinc 2 1, 3) := dk_132 2 1 (dk_at dksX0_liars_2 6 rfl rfl)
theorem dX0_liars_57 : decode cX0_liars 57 = .ok (.goto (-53), 3) := dk_167 255 203 (dk_at dksX0_liars_2 9 rfl rfl)
theorem dX0_liars_60 : decode cX0_liars 60 = .ok (.iload_n 1, 1) := dk_27 (dk_at dksX0_liars_2 12 rfl rfl)
theorem dX0_liars_61 : decode cX0_liars 61 = .ok (.ireturn, 1) := dk_172 (dk_at dksX0_liars_2 13 rfl rfl)
abbrev cX0_isFalse : ByteArray := prog_1_method_53_code
def yX0_isFalse : MethodName := ⟨RX0, "isFalse", "([I)Z"⟩
def dkwX0_isFalse_8 : List UInt8 := [29, 164, 0, 7, 4, 167, 0, 4, 3, 172]
abbrev dktX0_isFalse_8 : List UInt8 := dkwX0_isFalse_8 ++ []
def dkwX0_isFalse_7 : List UInt8 := [180, 0, 12, 180, 0, 73, 21, 5, 5, 96, 46, 167, 0, 4, 3, 96, 62, 132, 4, 1, 167, 255, 158, 28]
abbrev dktX0_isFalse_7 : List UInt8 := dkwX0_isFalse_7 ++ dktX0_isFalse_8
def dkwX0_isFalse_6 : List UInt8 := [160, 0, 36, 42, 180, 0, 12, 180, 0, 73, 21, 5, 6, 96, 46, 43, 6, 46, 160, 0, 18, 42]
abbrev dktX0_isFalse_6 : List UInt8 := dkwX0_isFalse_6 ++ dktX0_isFalse_7
def dkwX0_isFalse_5 : List UInt8 := [21, 5, 46, 43, 3, 46, 160, 0, 54, 42, 180, 0, 12, 180, 0, 73, 21, 5, 4, 96, 46, 43, 4, 46]
abbrev dktX0_isFalse_5 : List UInt8 := dkwX0_isFalse_5 ++ dktX0_isFalse_6
def dkwX0_isFalse_4 : List UInt8 := [16, 114, 46, 162, 0, 89, 16, 115, 7, 21, 4, 104, 96, 54, 5, 29, 42, 180, 0, 12, 180, 0, 73]
abbrev dktX0_isFalse_4 : List UInt8 := dkwX0_isFalse_4 ++ dktX0_isFalse_5
def dkwX0_isFalse_3 : List UInt8 := [167, 0, 4, 3, 96, 61, 132, 4, 1, 167, 255, 185, 3, 54, 4, 21, 4, 42, 180, 0, 12, 180, 0, 73]
abbrev dktX0_isFalse_3 : List UInt8 := dkwX0_isFalse_3 ++ dktX0_isFalse_4
def dkwX0_isFalse_2 : List UInt8 := [4, 46, 43, 4, 46, 160, 0, 20, 25, 5, 6, 46, 43, 6, 46, 160, 0, 10, 25, 5, 5, 46]
abbrev dktX0_isFalse_2 : List UInt8 := dkwX0_isFalse_2 ++ dktX0_isFalse_3
def dkwX0_isFalse_1 : List UInt8 := [180, 0, 12, 180, 1, 38, 21, 4, 50, 58, 5, 28, 25, 5, 3, 46, 43, 3, 46, 160, 0, 30, 25, 5]
abbrev dktX0_isFalse_1 : List UInt8 := dkwX0_isFalse_1 ++ dktX0_isFalse_2
def dkwX0_isFalse_0 : List UInt8 := [3, 61, 3, 62, 3, 54, 4, 21, 4, 42, 180, 0, 12, 180, 0, 66, 16, 6, 46, 162, 0, 62, 42]
abbrev dktX0_isFalse_0 : List UInt8 := dkwX0_isFalse_0 ++ dktX0_isFalse_1
theorem dksX0_isFalse_0 : cX0_isFalse.data.toList.drop 0 = dktX0_isFalse_0 := by decide +kernel
theorem dksX0_isFalse_1 : cX0_isFalse.data.toList.drop 23 = dktX0_isFalse_1 := dk_seg dksX0_isFalse_0 23 rfl rfl
theorem dksX0_isFalse_2 : cX0_isFalse.data.toList.drop 47 = dktX0_isFalse_2 := dk_seg dksX0_isFalse_1 24 rfl rfl
theorem dksX0_isFalse_3 : cX0_isFalse.data.toList.drop 69 = dktX0_isFalse_3 := dk_seg dksX0_isFalse_2 22 rfl rfl
theorem dksX0_isFalse_4 : cX0_isFalse.data.toList.drop 93 = dktX0_isFalse_4 := dk_seg dksX0_isFalse_3 24 rfl rfl
theorem dksX0_isFalse_5 : cX0_isFalse.data.toList.drop 116 = dktX0_isFalse_5 := dk_seg dksX0_isFalse_4 23 rfl rfl
theorem dksX0_isFalse_6 : cX0_isFalse.data.toList.drop 140 = dktX0_isFalse_6 := dk_seg dksX0_isFalse_5 24 rfl rfl
theorem dksX0_isFalse_7 : cX0_isFalse.data.toList.drop 162 = dktX0_isFalse_7 := dk_seg dksX0_isFalse_6 22 rfl rfl
theorem dksX0_isFalse_8 : cX0_isFalse.data.toList.drop 186 = dktX0_isFalse_8 := dk_seg dksX0_isFalse_7 24 rfl rfl
theorem dX0_isFalse_0 : decode cX0_isFalse 0 = .ok (.iconst 0, 1) := dk_3 (dk_at dksX0_isFalse_0 0 rfl rfl)
theorem dX0_isFalse_1 : decode cX0_isFalse 1 = .ok (.istore_n 2, 1) := dk_61 (dk_at dksX0_isFalse_0 1 rfl rfl)
theorem dX0_isFalse_2 : decode cX0_isFalse 2 = .ok (.iconst 0, 1) := dk_3 (dk_at dksX0_isFalse_0 2 rfl rfl)
theorem dX0_isFalse_3 : decode cX0_isFalse 3 = .ok (.istore_n 3, 1) := dk_62 (dk_at dksX0_isFalse_0 3 rfl rfl)
theorem dX0_isFalse_4 : decode cX0_isFalse 4 = .ok (.iconst 0, 1) := dk_3 (dk_at dksX0_isFalse_0 4 rfl rfl)
theorem dX0_isFalse_5 : decode cX0_isFalse 5 = .ok (.istore 4, 2) := dk_54 4 (dk_at dksX0_isFalse_0 5 rfl rfl)
theorem dX0_isFalse_7 : decode cX0_isFalse 7 = .ok (.iload 4, 2) := dk_21 4 (dk_at dksX0_isFalse_0 7 rfl rfl)
theorem dX0_isFalse_9 : decode cX0_isFalse 9 = .ok (.aload_n 0, 1) := dk_42 (dk_at dksX0_isFalse_0 9 rfl rfl)
theorem dX0_isFalse_10 : decode cX0_isFalse 10 = .ok (.getfield 12, 3) := dk_180 0 12 (dk_at dksX0_isFalse_0 10 rfl rfl)
theorem dX0_isFalse_13 : decode cX0_isFalse 13 = .ok (.getfield 66, 3) := dk_180 0 66 (dk_at dksX0_isFalse_0 13 rfl rfl)
theorem dX0_isFalse_16 : decode cX0_isFalse 16 = .ok (.bipush 6, 2) := dk_16 6 (dk_at dksX0_isFalse_0 16 rfl rfl)
theorem dX0_isFalse_18 : decode cX0_isFalse 18 = .ok (.iaload, 1) := dk_46 (dk_at dksX0_isFalse_0 18 rfl rfl)
theorem dX0_isFalse_19 : decode cX0_isFalse 19 = .ok (.if_icmp .ge 62, 3) := dk_162 0 62 (dk_at dksX0_isFalse_0 19 rfl rfl)
theorem dX0_isFalse_22 : decode cX0_isFalse 22 = .ok (.aload_n 0, 1) := dk_42 (dk_at dksX0_isFalse_0 22 rfl rfl)
theorem dX0_isFalse_23 : decode cX0_isFalse 23 = .ok (.getfield 12, 3) := dk_180 0 12 (dk_at dksX0_isFalse_1 0 rfl rfl)
theorem dX0_isFalse_26 : decode cX0_isFalse 26 = .ok (.getfield 294, 3) := dk_180 1 38 (dk_at dksX0_isFalse_1 3 rfl rfl)
theorem dX0_isFalse_29 : decode cX0_isFalse 29 = .ok (.iload 4, 2) := dk_21 4 (dk_at dksX0_isFalse_1 6 rfl rfl)
theorem dX0_isFalse_31 : decode cX0_isFalse 31 = .ok (.aaload, 1) := dk_50 (dk_at dksX0_isFalse_1 8 rfl rfl)
theorem dX0_isFalse_32 : decode cX0_isFalse 32 = .ok (.astore 5, 2) := dk_58 5 (dk_at dksX0_isFalse_1 9 rfl rfl)
theorem dX0_isFalse_34 : decode cX0_isFalse 34 = .ok (.iload_n 2, 1) := dk_28 (dk_at dksX0_isFalse_1 11 rfl rfl)
theorem dX0_isFalse_35 : decode cX0_isFalse 35 = .ok (.aload 5, 2) := dk_25 5 (dk_at dksX0_isFalse_1 12 rfl rfl)
theorem dX0_isFalse_37 : decode cX0_isFalse 37 = .ok (.iconst 0, 1) := dk_3 (dk_at dksX0_isFalse_1 14 rfl rfl)
theorem dX0_isFalse_38 : decode cX0_isFalse 38 = .ok (.iaload, 1) := dk_46 (dk_at dksX0_isFalse_1 15 rfl rfl)
theorem dX0_isFalse_39 : decode cX0_isFalse 39 = .ok (.aload_n 1, 1) := dk_43 (dk_at dksX0_isFalse_1 16 rfl rfl)
theorem dX0_isFalse_40 : decode cX0_isFalse 40 = .ok (.iconst 0, 1) := dk_3 (dk_at dksX0_isFalse_1 17 rfl rfl)
theorem dX0_isFalse_41 : decode cX0_isFalse 41 = .ok (.iaload, 1) := dk_46 (dk_at dksX0_isFalse_1 18 rfl rfl)
theorem dX0_isFalse_42 : decode cX0_isFalse 42 = .ok (.if_icmp .ne 30, 3) := dk_160 0 30 (dk_at dksX0_isFalse_1 19 rfl rfl)
theorem dX0_isFalse_45 : decode cX0_isFalse 45 = .ok (.aload 5, 2) := dk_25 5 (dk_at dksX0_isFalse_1 22 rfl rfl)
theorem dX0_isFalse_47 : decode cX0_isFalse 47 = .ok (.iconst 1, 1) := dk_4 (dk_at dksX0_isFalse_2 0 rfl rfl)
theorem dX0_isFalse_48 : decode cX0_isFalse 48 = .ok (.iaload, 1) := dk_46 (dk_at dksX0_isFalse_2 1 rfl rfl)
theorem dX0_isFalse_49 : decode cX0_isFalse 49 = .ok (.aload_n 1, 1) := dk_43 (dk_at dksX0_isFalse_2 2 rfl rfl)
theorem dX0_isFalse_50 : decode cX0_isFalse 50 = .ok (.iconst 1, 1) := dk_4 (dk_at dksX0_isFalse_2 3 rfl rfl)
theorem dX0_isFalse_51 : decode cX0_isFalse 51 = .ok (.iaload, 1) := dk_46 (dk_at dksX0_isFalse_2 4 rfl rfl)
theorem dX0_isFalse_52 : decode cX0_isFalse 52 = .ok (.if_icmp .ne 20, 3) := dk_160 0 20 (dk_at dksX0_isFalse_2 5 rfl rfl)
theorem dX0_isFalse_55 : decode cX0_isFalse 55 = .ok (.aload 5, 2) := dk_25 5 (dk_at dksX0_isFalse_2 8 rfl rfl)
theorem dX0_isFalse_57 : decode cX0_isFalse 57 = .ok (.iconst 3, 1) := dk_6 (dk_at dksX0_isFalse_2 10 rfl rfl)
theorem dX0_isFalse_58 : decode cX0_isFalse 58 = .ok (.iaload, 1) := dk_46 (dk_at dksX0_isFalse_2 11 rfl rfl)
theorem dX0_isFalse_59 : decode cX0_isFalse 59 = .ok (.aload_n 1, 1) := dk_43 (dk_at dksX0_isFalse_2 12 rfl rfl)
theorem dX0_isFalse_60 : decode cX0_isFalse 60 = .ok (.iconst 3, 1) := dk_6 (dk_at dksX0_isFalse_2 13 rfl rfl)
theorem dX0_isFalse_61 : decode cX0_isFalse 61 = .ok (.iaload, 1) := dk_46 (dk_at dksX0_isFalse_2 14 rfl rfl)
theorem dX0_isFalse_62 : decode cX0_isFalse 62 = .ok (.if_icmp .ne 10, 3) := dk_160 0 10 (dk_at dksX0_isFalse_2 15 rfl rfl)
theorem dX0_isFalse_65 : decode cX0_isFalse 65 = .ok (.aload 5, 2) := dk_25 5 (dk_at dksX0_isFalse_2 18 rfl rfl)
theorem dX0_isFalse_67 : decode cX0_isFalse 67 = .ok (.iconst 2, 1) := dk_5 (dk_at dksX0_isFalse_2 20 rfl rfl)
theorem dX0_isFalse_68 : decode cX0_isFalse 68 = .ok (.iaload, 1) := dk_46 (dk_at dksX0_isFalse_2 21 rfl rfl)
theorem dX0_isFalse_69 : decode cX0_isFalse 69 = .ok (.goto 4, 3) := dk_167 0 4 (dk_at dksX0_isFalse_3 0 rfl rfl)
theorem dX0_isFalse_72 : decode cX0_isFalse 72 = .ok (.iconst 0, 1) := dk_3 (dk_at dksX0_isFalse_3 3 rfl rfl)
theorem dX0_isFalse_73 : decode cX0_isFalse 73 = .ok (.iadd, 1) := dk_96 (dk_at dksX0_isFalse_3 4 rfl rfl)
theorem dX0_isFalse_74 : decode cX0_isFalse 74 = .ok (.istore_n 2, 1) := dk_61 (dk_at dksX0_isFalse_3 5 rfl rfl)
theorem dX0_isFalse_75 : decode cX0_isFalse 75 = .ok (.iinc 4 1, 3) := dk_132 4 1 (dk_at dksX0_isFalse_3 6 rfl rfl)
theorem dX0_isFalse_78 : decode cX0_isFalse 78 = .ok (.goto (-71), 3) := dk_167 255 185 (dk_at dksX0_isFalse_3 9 rfl rfl)
theorem dX0_isFalse_81 : decode cX0_isFalse 81 = .ok (.iconst 0, 1) := dk_3 (dk_at dksX0_isFalse_3 12 rfl rfl)
theorem dX0_isFalse_82 : decode cX0_isFalse 82 = .ok (.istore 4, 2) := dk_54 4 (dk_at dksX0_isFalse_3 13 rfl rfl)
theorem dX0_isFalse_84 : decode cX0_isFalse 84 = .ok (.iload 4, 2) := dk_21 4 (dk_at dksX0_isFalse_3 15 rfl rfl)
theorem dX0_isFalse_86 : decode cX0_isFalse 86 = .ok (.aload_n 0, 1) := dk_42 (dk_at dksX0_isFalse_3 17 rfl rfl)
theorem dX0_isFalse_87 : decode cX0_isFalse 87 = .ok (.getfield 12, 3) := dk_180 0 12 (dk_at dksX0_isFalse_3 18 rfl rfl)
theorem dX0_isFalse_90 : decode cX0_isFalse 90 = .ok (.getfield 73, 3) := dk_180 0 73 (dk_at dksX0_isFalse_3 21 rfl rfl)
theorem dX0_isFalse_93 : decode cX0_isFalse 93 = .ok (.bipush 114, 2) := dk_16 114 (dk_at dksX0_isFalse_4 0 rfl rfl)
theorem dX0_isFalse_95 : decode cX0_isFalse 95 = .ok (.iaload, 1) := dk_46 (dk_at dksX0_isFalse_4 2 rfl rfl)
theorem dX0_isFalse_96 : decode cX0_isFalse 96 = .ok (.if_icmp .ge 89, 3) := dk_162 0 89 (dk_at dksX0_isFalse_4 3 rfl rfl)
theorem dX0_isFalse_99 : decode cX0_isFalse 99 = .ok (.bipush 115, 2) := dk_16 115 (dk_at dksX0_isFalse_4 6 rfl rfl)
theorem dX0_isFalse_101 : decode cX0_isFalse 101 = .ok (.iconst 4, 1) := dk_7 (dk_at dksX0_isFalse_4 8 rfl rfl)
theorem dX0_isFalse_102 : decode cX0_isFalse 102 = .ok (.iload 4, 2) := dk_21 4 (dk_at dksX0_isFalse_4 9 rfl rfl)
theorem dX0_isFalse_104 : decode cX0_isFalse 104 = .ok (.imul, 1) := dk_104 (dk_at dksX0_isFalse_4 11 rfl rfl)
theorem dX0_isFalse_105 : decode cX0_isFalse 105 = .ok (.iadd, 1) := dk_96 (dk_at dksX0_isFalse_4 12 rfl rfl)
theorem dX0_isFalse_106 : decode cX0_isFalse 106 = .ok (.istore 5, 2) := dk_54 5 (dk_at dksX0_isFalse_4 13 rfl rfl)
theorem dX0_isFalse_108 : decode cX0_isFalse 108 = .ok (.iload_n 3, 1) := dk_29 (dk_at dksX0_isFalse_4 15 rfl rfl)
theorem dX0_isFalse_109 : decode cX0_isFalse 109 = .ok (.aload_n 0, 1) := dk_42 (dk_at dksX0_isFalse_4 16 rfl rfl)
theorem dX0_isFalse_110 : decode cX0_isFalse 110 = .ok (.getfield 12, 3) := dk_180 0 12 (dk_at dksX0_isFalse_4 17 rfl rfl)
theorem dX0_isFalse_113 : decode cX0_isFalse 113 = .ok (.getfield 73, 3) := dk_180 0 73 (dk_at dksX0_isFalse_4 20 rfl rfl)
theorem dX0_isFalse_116 : decode cX0_isFalse 116 = .ok (.iload 5, 2) := dk_21 5 (dk_at dksX0_isFalse_5 0 rfl rfl)
theorem dX0_isFalse_118 : decode cX0_isFalse 118 = .ok (.iaload, 1) := dk_46 (dk_at dksX0_isFalse_5 2 rfl rfl)
theorem dX0_isFalse_119 : decode cX0_isFalse 119 = .ok (.aload_n 1, 1) := dk_43 (dk_at dksX0_isFalse_5 3 rfl rfl)
theorem dX0_isFalse_120 : decode cX0_isFalse 120 = .ok (.iconst 0, 1) := dk_3 (dk_at dksX0_isFalse_5 4 rfl rfl)
theorem dX0_isFalse_121 : decode cX0_isFalse 121 = .ok (.iaload, 1) := dk_46 (dk_at dksX0_isFalse_5 5 rfl rfl)
theorem dX0_isFalse_122 : decode cX0_isFalse 122 = .ok (.if_icmp .ne 54, 3) := dk_160 0 54 (dk_at dksX0_isFalse_5 6 rfl rfl)
theorem dX0_isFalse_125 : decode cX0_isFalse 125 = .ok (.aload_n 0, 1) := dk_42 (dk_at dksX0_isFalse_5 9 rfl rfl)
theorem dX0_isFalse_126 : decode cX0_isFalse 126 = .ok (.getfield 12, 3) := dk_180 0 12 (dk_at dksX0_isFalse_5 10 rfl rfl)
theorem dX0_isFalse_129 : decode cX0_isFalse 129 = .ok (.getfield 73, 3) := dk_180 0 73 (dk_at dksX0_isFalse_5 13 rfl rfl)
theorem dX0_isFalse_132 : decode cX0_isFalse 132 = .ok (.iload 5, 2) := dk_21 5 (dk_at dksX0_isFalse_5 16 rfl rfl)
theorem dX0_isFalse_134 : decode cX0_isFalse 134 = .ok (.iconst 1, 1) := dk_4 (dk_at dksX0_isFalse_5 18 rfl rfl)
theorem dX0_isFalse_135 : decode cX0_isFalse 135 = .ok (.iadd, 1) := dk_96 (dk_at dksX0_isFalse_5 19 rfl rfl)
theorem dX0_isFalse_136 : decode cX0_isFalse 136 = .ok (.iaload, 1) := dk_46 (dk_at dksX0_isFalse_5 20 rfl rfl)
theorem dX0_isFalse_137 : decode cX0_isFalse 137 = .ok (.aload_n 1, 1) := dk_43 (dk_at dksX0_isFalse_5 21 rfl rfl)
theorem dX0_isFalse_138 : decode cX0_isFalse 138 = .ok (.iconst 1, 1) := dk_4 (dk_at dksX0_isFalse_5 22 rfl rfl)
theorem dX0_isFalse_139 : decode cX0_isFalse 139 = .ok (.iaload, 1) := dk_46 (dk_at dksX0_isFalse_5 23 rfl rfl)
theorem dX0_isFalse_140 : decode cX0_isFalse 140 = .ok (.if_icmp .ne 36, 3) := dk_160 0 36 (dk_at dksX0_isFalse_6 0 rfl rfl)
theorem dX0_isFalse_143 : decode cX0_isFalse 143 = .ok (.aload_n 0, 1) := dk_42 (dk_at dksX0_isFalse_6 3 rfl rfl)
theorem dX0_isFalse_144 : decode cX0_isFalse 144 = .ok (.getfield 12, 3) := dk_180 0 12 (dk_at dksX0_isFalse_6 4 rfl rfl)
theorem dX0_isFalse_147 : decode cX0_isFalse 147 = .ok (.getfield 73, 3) := dk_180 0 73 (dk_at dksX0_isFalse_6 7 rfl rfl)
theorem dX0_isFalse_150 : decode cX0_isFalse 150 = .ok (.iload 5, 2) := dk_21 5 (dk_at dksX0_isFalse_6 10 rfl rfl)
theorem dX0_isFalse_152 : decode cX0_isFalse 152 = .ok (.iconst 3, 1) := dk_6 (dk_at dksX0_isFalse_6 12 rfl rfl)
theorem dX0_isFalse_153 : decode cX0_isFalse 153 = .ok (.iadd, 1) := dk_96 (dk_at dksX0_isFalse_6 13 rfl rfl)
theorem dX0_isFalse_154 : decode cX0_isFalse 154 = .ok (.iaload, 1) := dk_46 (dk_at dksX0_isFalse_6 14 rfl rfl)
theorem dX0_isFalse_155 : decode cX0_isFalse 155 = .ok (.aload_n 1, 1) := dk_43 (dk_at dksX0_isFalse_6 15 rfl rfl)
theorem dX0_isFalse_156 : decode cX0_isFalse 156 = .ok (.iconst 3, 1) := dk_6 (dk_at dksX0_isFalse_6 16 rfl rfl)
theorem dX0_isFalse_157 : decode cX0_isFalse 157 = .ok (.iaload, 1) := dk_46 (dk_at dksX0_isFalse_6 17 rfl rfl)
theorem dX0_isFalse_158 : decode cX0_isFalse 158 = .ok (.if_icmp .ne 18, 3) := dk_160 0 18 (dk_at dksX0_isFalse_6 18 rfl rfl)
theorem dX0_isFalse_161 : decode cX0_isFalse 161 = .ok (.aload_n 0, 1) := dk_42 (dk_at dksX0_isFalse_6 21 rfl rfl)
theorem dX0_isFalse_162 : decode cX0_isFalse 162 = .ok (.getfield 12, 3) := dk_180 0 12 (dk_at dksX0_isFalse_7 0 rfl rfl)
theorem dX0_isFalse_165 : decode cX0_isFalse 165 = .ok (.getfield 73, 3) := dk_180 0 73 (dk_at dksX0_isFalse_7 3 rfl rfl)
theorem dX0_isFalse_168 : decode cX0_isFalse 168 = .ok (.iload 5, 2) := dk_21 5 (dk_at dksX0_isFalse_7 6 rfl rfl)
theorem dX0_isFalse_170 : decode cX0_isFalse 170 = .ok (.iconst 2, 1) := dk_5 (dk_at dksX0_isFalse_7 8 rfl rfl)
theorem dX0_isFalse_171 : decode cX0_isFalse 171 = .ok (.iadd, 1) := dk_96 (dk_at dksX0_isFalse_7 9 rfl rfl)
theorem dX0_isFalse_172 : decode cX0_isFalse 172 = .ok (.iaload, 1) := dk_46 (dk_at dksX0_isFalse_7 10 rfl rfl)
theorem dX0_isFalse_173 : decode cX0_isFalse 173 = .ok (.goto 4, 3) := dk_167 0 4 (dk_at dksX0_isFalse_7 11 rfl rfl)
theorem dX0_isFalse_176 : decode cX0_isFalse 176 = .ok (.iconst 0, 1) := dk_3 (dk_at dksX0_isFalse_7 14 rfl rfl)
theorem dX0_isFalse_177 : decode cX0_isFalse 177 = .ok (.iadd, 1) := dk_96 (dk_at dksX0_isFalse_7 15 rfl rfl)
theorem dX0_isFalse_178 : decode cX0_isFalse 178 = .ok (.istore_n 3, 1) := dk_62 (dk_at dksX0_isFalse_7 16 rfl rfl)
theorem dX0_isFalse_179 : decode cX0_isFalse 179 = .ok (.iinc 4 1, 3) := dk_132 4 1 (dk_at dksX0_isFalse_7 17 rfl rfl)
theorem dX0_isFalse_182 : decode cX0_isFalse 182 = .ok (.goto (-98), 3) := dk_167 255 158 (dk_at dksX0_isFalse_7 20 rfl rfl)
theorem dX0_isFalse_185 : decode cX0_isFalse 185 = .ok (.iload_n 2, 1) := dk_28 (dk_at dksX0_isFalse_7 23 rfl rfl)
theorem dX0_isFalse_186 : decode cX0_isFalse 186 = .ok (.iload_n 3, 1) := dk_29 (dk_at dksX0_isFalse_8 0 rfl rfl)
theorem dX0_isFalse_187 : decode cX0_isFalse 187 = .ok (.if_icmp .le 7, 3) := dk_164 0 7 (dk_at dksX0_isFalse_8 1 rfl rfl)
theorem dX0_isFalse_190 : decode cX0_isFalse 190 = .ok (.iconst 1, 1) := dk_4 (dk_at dksX0_isFalse_8 4 rfl rfl)
theorem dX0_isFalse_191 : decode cX0_isFalse 191 = .ok (.goto 4, 3) := dk_167 0 4 (dk_at dksX0_isFalse_8 5 rfl rfl)
theorem dX0_isFalse_194 : decode cX0_isFalse 194 = .ok (.iconst 0, 1) := dk_3 (dk_at dksX0_isFalse_8 8 rfl rfl)
theorem dX0_isFalse_195 : decode cX0_isFalse 195 = .ok (.ireturn, 1) := dk_172 (dk_at dksX0_isFalse_8 9 rfl rfl)
abbrev cX0_coughs : ByteArray := prog_1_method_55_code
def yX0_coughs : MethodName := ⟨RX0, "coughs", "(IIII)I"⟩
def dkwX0_coughs_5 : List UInt8 := [54, 5, 132, 8, 1, 167, 255, 198, 132, 7, 1, 167, 255, 183, 21, 6, 172]
abbrev dktX0_coughs_5 : List UInt8 := dkwX0_coughs_5 ++ []
def dkwX0_coughs_4 : List UInt8 := [162, 0, 7, 4, 167, 0, 4, 3, 96, 54, 6, 21, 5, 17, 0, 181, 104, 16, 37, 96, 17, 117, 151, 112]
abbrev dktX0_coughs_4 : List UInt8 := dkwX0_coughs_4 ++ dktX0_coughs_5
def dkwX0_coughs_3 : List UInt8 := [180, 0, 66, 3, 46, 162, 0, 50, 21, 6, 21, 8, 21, 4, 160, 0, 16, 21, 5, 16, 10, 112, 29]
abbrev dktX0_coughs_3 : List UInt8 := dkwX0_coughs_3 ++ dktX0_coughs_4
def dkwX0_coughs_2 : List UInt8 := [96, 54, 5, 3, 54, 6, 3, 54, 7, 21, 7, 28, 162, 0, 73, 3, 54, 8, 21, 8, 42, 180, 0, 12]
abbrev dktX0_coughs_2 : List UInt8 := dkwX0_coughs_2 ++ dktX0_coughs_3
def dkwX0_coughs_1 : List UInt8 := [16, 10, 184, 0, 69, 153, 0, 12, 42, 21, 4, 182, 0, 90, 154, 0, 5, 2, 172, 27, 16, 7, 104, 8]
abbrev dktX0_coughs_1 : List UInt8 := dkwX0_coughs_1 ++ dktX0_coughs_2
def dkwX0_coughs_0 : List UInt8 := [27, 3, 17, 39, 15, 184, 0, 69, 153, 0, 32, 28, 4, 16, 30, 184, 0, 69, 153, 0, 22, 29, 4]
abbrev dktX0_coughs_0 : List UInt8 := dkwX0_coughs_0 ++ dktX0_coughs_1
theorem dksX0_coughs_0 : cX0_coughs.data.toList.drop 0 = dktX0_coughs_0 := by decide +kernel
theorem dksX0_coughs_1 : cX0_coughs.data.toList.drop 23 = dktX0_coughs_1 := dk_seg dksX0_coughs_0 23 rfl rfl
theorem dksX0_coughs_2 : cX0_coughs.data.toList.drop 47 = dktX0_coughs_2 := dk_seg dksX0_coughs_1 24 rfl rfl
theorem dksX0_coughs_3 : cX0_coughs.data.toList.drop 71 = dktX0_coughs_3 := dk_seg dksX0_coughs_2 24 rfl rfl
theorem dksX0_coughs_4 : cX0_coughs.data.toList.drop 94 = dktX0_coughs_4 := dk_seg dksX0_coughs_3 23 rfl rfl
theorem dksX0_coughs_5 : cX0_coughs.data.toList.drop 118 = dktX0_coughs_5 := dk_seg dksX0_coughs_4 24 rfl rfl
theorem dX0_coughs_0 : decode cX0_coughs 0 = .ok (.iload_n 1, 1) := dk_27 (dk_at dksX0_coughs_0 0 rfl rfl)
theorem dX0_coughs_1 : decode cX0_coughs 1 = .ok (.iconst 0, 1) := dk_3 (dk_at dksX0_coughs_0 1 rfl rfl)
theorem dX0_coughs_2 : decode cX0_coughs 2 = .ok (.sipush 9999, 3) := dk_17 39 15 (dk_at dksX0_coughs_0 2 rfl rfl)
theorem dX0_coughs_5 : decode cX0_coughs 5 = .ok (.invokestatic 69, 3) := dk_184 0 69 (dk_at dksX0_coughs_0 5 rfl rfl)
theorem dX0_coughs_8 : decode cX0_coughs 8 = .ok (.ifCond .eq 32, 3) := dk_153 0 32 (dk_at dksX0_coughs_0 8 rfl rfl)
theorem dX0_coughs_11 : decode cX0_coughs 11 = .ok (.iload_n 2, 1) := dk_28 (dk_at dksX0_coughs_0 11 rfl rfl)
theorem dX0_coughs_12 : decode cX0_coughs 12 = .ok (.iconst 1, 1) := dk_4 (dk_at dksX0_coughs_0 12 rfl rfl)
theorem dX0_coughs_13 : decode cX0_coughs 13 = .ok (.bipush 30, 2) := dk_16 30 (dk_at dksX0_coughs_0 13 rfl rfl)
theorem dX0_coughs_15 : decode cX0_coughs 15 = .ok (.invokestatic 69, 3) := dk_184 0 69 (dk_at dksX0_coughs_0 15 rfl rfl)
theorem dX0_coughs_18 : decode cX0_coughs 18 = .ok (.ifCond .eq 22, 3) := dk_153 0 22 (dk_at dksX0_coughs_0 18 rfl rfl)
theorem dX0_coughs_21 : decode cX0_coughs 21 = .ok (.iload_n 3, 1) := dk_29 (dk_at dksX0_coughs_0 21 rfl rfl)
theorem dX0_coughs_22 : decode cX0_coughs 22 = .ok (.iconst 1, 1) := dk_4 (dk_at dksX0_coughs_0 22 rfl rfl)
theorem dX0_coughs_23 : decode cX0_coughs 23 = .ok (.bipush 10, 2) := dk_16 10 (dk_at dksX0_coughs_1 0 rfl rfl)
theorem dX0_coughs_25 : decode cX0_coughs 25 = .ok (.invokestatic 69, 3) := dk_184 0 69 (dk_at dksX0_coughs_1 2 rfl rfl)
theorem dX0_coughs_28 : decode cX0_coughs 28 = .ok (.ifCond .eq 12, 3) := dk_153 0 12 (dk_at dksX0_coughs_1 5 rfl rfl)
theorem dX0_coughs_31 : decode cX0_coughs 31 = .ok (.aload_n 0, 1) := dk_42 (dk_at dksX0_coughs_1 8 rfl rfl)
theorem dX0_coughs_32 : decode cX0_coughs 32 = .ok (.iload 4, 2) := dk_21 4 (dk_at dksX0_coughs_1 9 rfl rfl)
theorem dX0_coughs_34 : decode cX0_coughs 34 = .ok (.invokevirtual 90, 3) := dk_182 0 90 (dk_at dksX0_coughs_1 11 rfl rfl)
theorem dX0_coughs_37 : decode cX0_coughs 37 = .ok (.ifCond .ne 5, 3) := dk_154 0 5 (dk_at dksX0_coughs_1 14 rfl rfl)
theorem dX0_coughs_40 : decode cX0_coughs 40 = .ok (.iconst (-1), 1) := dk_2 (dk_at dksX0_coughs_1 17 rfl rfl)
theorem dX0_coughs_41 : decode cX0_coughs 41 = .ok (.ireturn, 1) := dk_172 (dk_at dksX0_coughs_1 18 rfl rfl)
theorem dX0_coughs_42 : decode cX0_coughs 42 = .ok (.iload_n 1, 1) := dk_27 (dk_at dksX0_coughs_1 19 rfl rfl)
theorem dX0_coughs_43 : decode cX0_coughs 43 = .ok (.bipush 7, 2) := dk_16 7 (dk_at dksX0_coughs_1 20 rfl rfl)
theorem dX0_coughs_45 : decode cX0_coughs 45 = .ok (.imul, 1) := dk_104 (dk_at dksX0_coughs_1 22 rfl rfl)
theorem dX0_coughs_46 : decode cX0_coughs 46 = .ok (.iconst 5, 1) := dk_8 (dk_at dksX0_coughs_1 23 rfl rfl)
theorem dX0_coughs_47 : decode cX0_coughs 47 = .ok (.iadd, 1) := dk_96 (dk_at dksX0_coughs_2 0 rfl rfl)
theorem dX0_coughs_48 : decode cX0_coughs 48 = .ok (.istore 5, 2) := dk_54 5 (dk_at dksX0_coughs_2 1 rfl rfl)
theorem dX0_coughs_50 : decode cX0_coughs 50 = .ok (.iconst 0, 1) := dk_3 (dk_at dksX0_coughs_2 3 rfl rfl)
theorem dX0_coughs_51 : decode cX0_coughs 51 = .ok (.istore 6, 2) := dk_54 6 (dk_at dksX0_coughs_2 4 rfl rfl)
theorem dX0_coughs_53 : decode cX0_coughs 53 = .ok (.iconst 0, 1) := dk_3 (dk_at dksX0_coughs_2 6 rfl rfl)
theorem dX0_coughs_54 : decode cX0_coughs 54 = .ok (.istore 7, 2) := dk_54 7 (dk_at dksX0_coughs_2 7 rfl rfl)
theorem dX0_coughs_56 : decode cX0_coughs 56 = .ok (.iload 7, 2) := dk_21 7 (dk_at dksX0_coughs_2 9 rfl rfl)
theorem dX0_coughs_58 : decode cX0_coughs 58 = .ok (.iload_n 2, 1) := dk_28 (dk_at dksX0_coughs_2 11 rfl rfl)
theorem dX0_coughs_59 : decode cX0_coughs 59 = .ok (.if_icmp .ge 73, 3) := dk_162 0 73 (dk_at dksX0_coughs_2 12 rfl rfl)
theorem dX0_coughs_62 : decode cX0_coughs 62 = .ok (.iconst 0, 1) := dk_3 (dk_at dksX0_coughs_2 15 rfl rfl)
theorem dX0_coughs_63 : decode cX0_coughs 63 = .ok (.istore 8, 2) := dk_54 8 (dk_at dksX0_coughs_2 16 rfl rfl)
theorem dX0_coughs_65 : decode cX0_coughs 65 = .ok (.iload 8, 2) := dk_21 8 (dk_at dksX0_coughs_2 18 rfl rfl)
theorem dX0_coughs_67 : decode cX0_coughs 67 = .ok (.aload_n 0, 1) := dk_42 (dk_at dksX0_coughs_2 20 rfl rfl)
theorem dX0_coughs_68 : decode cX0_coughs 68 = .ok (.getfield 12, 3) := dk_180 0 12 (dk_at dksX0_coughs_2 21 rfl rfl)
theorem dX0_coughs_71 : decode cX0_coughs 71 = .ok (.getfield 66, 3) := dk_180 0 66 (dk_at dksX0_coughs_3 0 rfl rfl)
theorem dX0_coughs_74 : decode cX0_coughs 74 = .ok (.iconst 0, 1) := dk_3 (dk_at dksX0_coughs_3 3 rfl rfl)
theorem dX0_coughs_75 : decode cX0_coughs 75 = .ok (.iaload, 1) := dk_46 (dk_at dksX0_coughs_3 4 rfl rfl)
theorem dX0_coughs_76 : decode cX0_coughs 76 = .ok (.if_icmp .ge 50, 3) := dk_162 0 50 (dk_at dksX0_coughs_3 5 rfl rfl)
theorem dX0_coughs_79 : decode cX0_coughs 79 = .ok (.iload 6, 2) := dk_21 6 (dk_at dksX0_coughs_3 8 rfl rfl)
theorem dX0_coughs_81 : decode cX0_coughs 81 = .ok (.iload 8, 2) := dk_21 8 (dk_at dksX0_coughs_3 10 rfl rfl)
theorem dX0_coughs_83 : decode cX0_coughs 83 = .ok (.iload 4, 2) := dk_21 4 (dk_at dksX0_coughs_3 12 rfl rfl)
theorem dX0_coughs_85 : decode cX0_coughs 85 = .ok (.if_icmp .ne 16, 3) := dk_160 0 16 (dk_at dksX0_coughs_3 14 rfl rfl)
theorem dX0_coughs_88 : decode cX0_coughs 88 = .ok (.iload 5, 2) := dk_21 5 (dk_at dksX0_coughs_3 17 rfl rfl)
theorem dX0_coughs_90 : decode cX0_coughs 90 = .ok (.bipush 10, 2) := dk_16 10 (dk_at dksX0_coughs_3 19 rfl rfl)
theorem dX0_coughs_92 : decode cX0_coughs 92 = .ok (.irem, 1) := dk_112 (dk_at dksX0_coughs_3 21 rfl rfl)
theorem dX0_coughs_93 : decode cX0_coughs 93 = .ok (.iload_n 3, 1) := dk_29 (dk_at dksX0_coughs_3 22 rfl rfl)
theorem dX0_coughs_94 : decode cX0_coughs 94 = .ok (.if_icmp .ge 7, 3) := dk_162 0 7 (dk_at dksX0_coughs_4 0 rfl rfl)
theorem dX0_coughs_97 : decode cX0_coughs 97 = .ok (.iconst 1, 1) := dk_4 (dk_at dksX0_coughs_4 3 rfl rfl)
theorem dX0_coughs_98 : decode cX0_coughs 98 = .ok (.goto 4, 3) := dk_167 0 4 (dk_at dksX0_coughs_4 4 rfl rfl)
theorem dX0_coughs_101 : decode cX0_coughs 101 = .ok (.iconst 0, 1) := dk_3 (dk_at dksX0_coughs_4 7 rfl rfl)
theorem dX0_coughs_102 : decode cX0_coughs 102 = .ok (.iadd, 1) := dk_96 (dk_at dksX0_coughs_4 8 rfl rfl)
theorem dX0_coughs_103 : decode cX0_coughs 103 = .ok (.istore 6, 2) := dk_54 6 (dk_at dksX0_coughs_4 9 rfl rfl)
theorem dX0_coughs_105 : decode cX0_coughs 105 = .ok (.iload 5, 2) := dk_21 5 (dk_at dksX0_coughs_4 11 rfl rfl)
theorem dX0_coughs_107 : decode cX0_coughs 107 = .ok (.sipush 181, 3) := dk_17 0 181 (dk_at dksX0_coughs_4 13 rfl rfl)
theorem dX0_coughs_110 : decode cX0_coughs 110 = .ok (.imul, 1) := dk_104 (dk_at dksX0_coughs_4 16 rfl rfl)
theorem dX0_coughs_111 : decode cX0_coughs 111 = .ok (.bipush 37, 2) := dk_16 37 (dk_at dksX0_coughs_4 17 rfl rfl)
theorem dX0_coughs_113 : decode cX0_coughs 113 = .ok (.iadd, 1) := dk_96 (dk_at dksX0_coughs_4 19 rfl rfl)
theorem dX0_coughs_114 : decode cX0_coughs 114 = .ok (.sipush 30103, 3) := dk_17 117 151 (dk_at dksX0_coughs_4 20 rfl rfl)
theorem dX0_coughs_117 : decode cX0_coughs 117 = .ok (.irem, 1) := dk_112 (dk_at dksX0_coughs_4 23 rfl rfl)
theorem dX0_coughs_118 : decode cX0_coughs 118 = .ok (.istore 5, 2) := dk_54 5 (dk_at dksX0_coughs_5 0 rfl rfl)
theorem dX0_coughs_120 : decode cX0_coughs 120 = .ok (.iinc 8 1, 3) := dk_132 8 1 (dk_at dksX0_coughs_5 2 rfl rfl)
theorem dX0_coughs_123 : decode cX0_coughs 123 = .ok (.goto (-58), 3) := dk_167 255 198 (dk_at dksX0_coughs_5 5 rfl rfl)
theorem dX0_coughs_126 : decode cX0_coughs 126 = .ok (.iinc 7 1, 3) := dk_132 7 1 (dk_at dksX0_coughs_5 8 rfl rfl)
theorem dX0_coughs_129 : decode cX0_coughs 129 = .ok (.goto (-73), 3) := dk_167 255 183 (dk_at dksX0_coughs_5 11 rfl rfl)
theorem dX0_coughs_132 : decode cX0_coughs 132 = .ok (.iload 6, 2) := dk_21 6 (dk_at dksX0_coughs_5 14 rfl rfl)
theorem dX0_coughs_134 : decode cX0_coughs 134 = .ok (.ireturn, 1) := dk_172 (dk_at dksX0_coughs_5 16 rfl rfl)
abbrev cX0_image : ByteArray := prog_1_method_56_code
def yX0_image : MethodName := ⟨RX0, "image", "()I"⟩
def dkwX0_image_0 : List UInt8 := [42, 180, 0, 16, 42, 180, 0, 12, 182, 0, 62, 42, 182, 0, 189, 172]
abbrev dktX0_image_0 : List UInt8 := dkwX0_image_0 ++ []
theorem dksX0_image_0 : cX0_image.data.toList.drop 0 = dktX0_image_0 := by decide +kernel
theorem dX0_image_0 : decode cX0_image 0 = .ok (.aload_n 0, 1) := dk_42 (dk_at dksX0_image_0 0 rfl rfl)
theorem dX0_image_1 : decode cX0_image 1 = .ok (.getfield 16, 3) := dk_180 0 16 (dk_at dksX0_image_0 1 rfl rfl)
theorem dX0_image_4 : decode cX0_image 4 = .ok (.aload_n 0, 1) := dk_42 (dk_at dksX0_image_0 4 rfl rfl)
theorem dX0_image_5 : decode cX0_image 5 = .ok (.getfield 12, 3) := dk_180 0 12 (dk_at dksX0_image_0 5 rfl rfl)
theorem dX0_image_8 : decode cX0_image 8 = .ok (.invokevirtual 62, 3) := dk_182 0 62 (dk_at dksX0_image_0 8 rfl rfl)
theorem dX0_image_11 : decode cX0_image 11 = .ok (.aload_n 0, 1) := dk_42 (dk_at dksX0_image_0 11 rfl rfl)
theorem dX0_image_12 : decode cX0_image 12 = .ok (.invokevirtual 189, 3) := dk_182 0 189 (dk_at dksX0_image_0 12 rfl rfl)
theorem dX0_image_15 : decode cX0_image 15 = .ok (.ireturn, 1) := dk_172 (dk_at dksX0_image_0 15 rfl rfl)
abbrev cX0_back : ByteArray := prog_1_method_57_code
def yX0_back : MethodName := ⟨RX0, "back", "()I"⟩
def dkwX0_back_0 : List UInt8 := [42, 180, 0, 12, 42, 180, 0, 16, 182, 0, 62, 42, 182, 0, 189, 172]
abbrev dktX0_back_0 : List UInt8 := dkwX0_back_0 ++ []
theorem dksX0_back_0 : cX0_back.data.toList.drop 0 = dktX0_back_0 := by decide +kernel
theorem dX0_back_0 : decode cX0_back 0 = .ok (.aload_n 0, 1) := dk_42 (dk_at dksX0_back_0 0 rfl rfl)
theorem dX0_back_1 : decode cX0_back 1 = .ok (.getfield 12, 3) := dk_180 0 12 (dk_at dksX0_back_0 1 rfl rfl)
theorem dX0_back_4 : decode cX0_back 4 = .ok (.aload_n 0, 1) := dk_42 (dk_at dksX0_back_0 4 rfl rfl)
theorem dX0_back_5 : decode cX0_back 5 = .ok (.getfield 16, 3) := dk_180 0 16 (dk_at dksX0_back_0 5 rfl rfl)
theorem dX0_back_8 : decode cX0_back 8 = .ok (.invokevirtual 62, 3) := dk_182 0 62 (dk_at dksX0_back_0 8 rfl rfl)
theorem dX0_back_11 : decode cX0_back 11 = .ok (.aload_n 0, 1) := dk_42 (dk_at dksX0_back_0 11 rfl rfl)
theorem dX0_back_12 : decode cX0_back 12 = .ok (.invokevirtual 189, 3) := dk_182 0 189 (dk_at dksX0_back_0 12 rfl rfl)
theorem dX0_back_15 : decode cX0_back 15 = .ok (.ireturn, 1) := dk_172 (dk_at dksX0_back_0 15 rfl rfl)
abbrev cX0_about : ByteArray := prog_1_method_58_code
def yX0_about : MethodName := ⟨RX0, "about", "(I)I"⟩
def dkwX0_about_9 : List UInt8 := [172]
abbrev dktX0_about_9 : List UInt8 := dkwX0_about_9 ++ []
def dkwX0_about_8 : List UInt8 := [50, 3, 46, 104, 42, 180, 0, 12, 180, 0, 98, 27, 16, 20, 100, 50, 4, 46, 96, 167, 0, 5, 16, 254]
abbrev dktX0_about_8 : List UInt8 := dkwX0_about_8 ++ dktX0_about_9
def dkwX0_about_7 : List UInt8 := [42, 27, 16, 20, 100, 182, 0, 164, 153, 0, 38, 16, 100, 42, 180, 0, 12, 180, 0, 98, 27, 16, 20, 100]
abbrev dktX0_about_7 : List UInt8 := dkwX0_about_7 ++ dktX0_about_8
def dkwX0_about_6 : List UInt8 := [16, 10, 100, 182, 0, 164, 153, 0, 18, 42, 180, 0, 12, 180, 0, 98, 27, 16, 10, 100, 50, 5, 46, 172]
abbrev dktX0_about_6 : List UInt8 := dkwX0_about_6 ++ dktX0_about_7
def dkwX0_about_5 : List UInt8 := [180, 0, 66, 8, 46, 172, 42, 180, 0, 12, 180, 0, 66, 16, 6, 46, 172, 42, 180, 0, 101, 172, 42, 27]
abbrev dktX0_about_5 : List UInt8 := dkwX0_about_5 ++ dktX0_about_6
def dkwX0_about_4 : List UInt8 := [180, 0, 12, 180, 0, 66, 6, 46, 172, 42, 180, 0, 12, 180, 0, 66, 7, 46, 172, 42, 180, 0, 12]
abbrev dktX0_about_4 : List UInt8 := dkwX0_about_4 ++ dktX0_about_5
def dkwX0_about_3 : List UInt8 := [180, 0, 73, 16, 112, 46, 172, 42, 182, 0, 189, 172, 42, 180, 0, 12, 180, 0, 66, 5, 46, 172, 42]
abbrev dktX0_about_3 : List UInt8 := dkwX0_about_3 ++ dktX0_about_4
def dkwX0_about_2 : List UInt8 := [42, 180, 0, 12, 180, 0, 66, 3, 46, 172, 42, 180, 0, 12, 180, 0, 66, 4, 46, 172, 42, 180, 0, 12]
abbrev dktX0_about_2 : List UInt8 := dkwX0_about_2 ++ dktX0_about_3
def dkwX0_about_1 : List UInt8 := [170, 0, 0, 0, 0, 0, 147, 0, 0, 0, 0, 0, 0, 0, 9, 0, 0, 0, 55, 0, 0, 0, 65, 0, 0, 0, 75, 0, 0, 0, 86, 0, 0, 0, 91, 0, 0, 0, 101, 0, 0, 0, 111, 0, 0, 0, 121, 0, 0, 0, 131, 0, 0, 0, 142]
abbrev dktX0_about_1 : List UInt8 := dkwX0_about_1 ++ dktX0_about_2
def dkwX0_about_0 : List UInt8 := [27]
abbrev dktX0_about_0 : List UInt8 := dkwX0_about_0 ++ dktX0_about_1
theorem dksX0_about_0 : cX0_about.data.toList.drop 0 = dktX0_about_0 := by decide +kernel
theorem dksX0_about_1 : cX0_about.data.toList.drop 1 = dktX0_about_1 := dk_seg dksX0_about_0 1 rfl rfl
theorem dksX0_about_2 : cX0_about.data.toList.drop 56 = dktX0_about_2 := dk_seg dksX0_about_1 55 rfl rfl
theorem dksX0_about_3 : cX0_about.data.toList.drop 80 = dktX0_about_3 := dk_seg dksX0_about_2 24 rfl rfl
theorem dksX0_about_4 : cX0_about.data.toList.drop 103 = dktX0_about_4 := dk_seg dksX0_about_3 23 rfl rfl
theorem dksX0_about_5 : cX0_about.data.toList.drop 126 = dktX0_about_5 := dk_seg dksX0_about_4 23 rfl rfl
theorem dksX0_about_6 : cX0_about.data.toList.drop 150 = dktX0_about_6 := dk_seg dksX0_about_5 24 rfl rfl
theorem dksX0_about_7 : cX0_about.data.toList.drop 174 = dktX0_about_7 := dk_seg dksX0_about_6 24 rfl rfl
theorem dksX0_about_8 : cX0_about.data.toList.drop 198 = dktX0_about_8 := dk_seg dksX0_about_7 24 rfl rfl
theorem dksX0_about_9 : cX0_about.data.toList.drop 222 = dktX0_about_9 := dk_seg dksX0_about_8 24 rfl rfl
theorem dX0_about_0 : decode cX0_about 0 = .ok (.iload_n 1, 1) := dk_27 (dk_at dksX0_about_0 0 rfl rfl)
theorem dX0_about_1 : decode cX0_about 1 = .ok (.tableswitch 147 0 9 #[55, 65, 75, 86, 91, 101, 111, 121, 131, 142], 55) := by decide +kernel
theorem dX0_about_56 : decode cX0_about 56 = .ok (.aload_n 0, 1) := dk_42 (dk_at dksX0_about_2 0 rfl rfl)
theorem dX0_about_57 : decode cX0_about 57 = .ok (.getfield 12, 3) := dk_180 0 12 (dk_at dksX0_about_2 1 rfl rfl)
theorem dX0_about_60 : decode cX0_about 60 = .ok (.getfield 66, 3) := dk_180 0 66 (dk_at dksX0_about_2 4 rfl rfl)
theorem dX0_about_63 : decode cX0_about 63 = .ok (.iconst 0, 1) := dk_3 (dk_at dksX0_about_2 7 rfl rfl)
theorem dX0_about_64 : decode cX0_about 64 = .ok (.iaload, 1) := dk_46 (dk_at dksX0_about_2 8 rfl rfl)
theorem dX0_about_65 : decode cX0_about 65 = .ok (.ireturn, 1) := dk_172 (dk_at dksX0_about_2 9 rfl rfl)
theorem dX0_about_66 : decode cX0_about 66 = .ok (.aload_n 0, 1) := dk_42 (dk_at dksX0_about_2 10 rfl rfl)
theorem dX0_about_67 : decode cX0_about 67 = .ok (.getfield 12, 3) := dk_180 0 12 (dk_at dksX0_about_2 11 rfl rfl)
theorem dX0_about_70 : decode cX0_about 70 = .ok (.getfield 66, 3) := dk_180 0 66 (dk_at dksX0_about_2 14 rfl rfl)
theorem dX0_about_73 : decode cX0_about 73 = .ok (.iconst 1, 1) := dk_4 (dk_at dksX0_about_2 17 rfl rfl)
theorem dX0_about_74 : decode cX0_about 74 = .ok (.iaload, 1) := dk_46 (dk_at dksX0_about_2 18 rfl rfl)
theorem dX0_about_75 : decode cX0_about 75 = .ok (.ireturn, 1) := dk_172 (dk_at dksX0_about_2 19 rfl rfl)
theorem dX0_about_76 : decode cX0_about 76 = .ok (.aload_n 0, 1) := dk_42 (dk_at dksX0_about_2 20 rfl rfl)
theorem dX0_about_77 : decode cX0_about 77 = .ok (.getfield 12, 3) := dk_180 0 12 (dk_at dksX0_about_2 21 rfl rfl)
theorem dX0_about_80 : decode cX0_about 80 = .ok (.getfield 73, 3) := dk_180 0 73 (dk_at dksX0_about_3 0 rfl rfl)
theorem dX0_about_83 : decode cX0_about 83 = .ok (.bipush 112, 2) := dk_16 112 (dk_at dksX0_about_3 3 rfl rfl)
theorem dX0_about_85 : decode cX0_about 85 = .ok (.iaload, 1) := dk_46 (dk_at dksX0_about_3 5 rfl rfl)
theorem dX0_about_86 : decode cX0_about 86 = .ok (.ireturn, 1) := dk_172 (dk_at dksX0_about_3 6 rfl rfl)
theorem dX0_about_87 : decode cX0_about 87 = .ok (.aload_n 0, 1) := dk_42 (dk_at dksX0_about_3 7 rfl rfl)
theorem dX0_about_88 : decode cX0_about 88 = .ok (.invokevirtual 189, 3) := dk_182 0 189 (dk_at dksX0_about_3 8 rfl rfl)
theorem dX0_about_91 : decode cX0_about 91 = .ok (.ireturn, 1) := dk_172 (dk_at dksX0_about_3 11 rfl rfl)
theorem dX0_about_92 : decode cX0_about 92 = .ok (.aload_n 0, 1) := dk_42 (dk_at dksX0_about_3 12 rfl rfl)
theorem dX0_about_93 : decode cX0_about 93 = .ok (.getfield 12, 3) := dk_180 0 12 (dk_at dksX0_about_3 13 rfl rfl)
theorem dX0_about_96 : decode cX0_about 96 = .ok (.getfield 66, 3) := dk_180 0 66 (dk_at dksX0_about_3 16 rfl rfl)
theorem dX0_about_99 : decode cX0_about 99 = .ok (.iconst 2, 1) := dk_5 (dk_at dksX0_about_3 19 rfl rfl)
theorem dX0_about_100 : decode cX0_about 100 = .ok (.iaload, 1) := dk_46 (dk_at dksX0_about_3 20 rfl rfl)
theorem dX0_about_101 : decode cX0_about 101 = .ok (.ireturn, 1) := dk_172 (dk_at dksX0_about_3 21 rfl rfl)
theorem dX0_about_102 : decode cX0_about 102 = .ok (.aload_n 0, 1) := dk_42 (dk_at dksX0_about_3 22 rfl rfl)
theorem dX0_about_103 : decode cX0_about 103 = .ok (.getfield 12, 3) := dk_180 0 12 (dk_at dksX0_about_4 0 rfl rfl)
theorem dX0_about_106 : decode cX0_about 106 = .ok (.getfield 66, 3) := dk_180 0 66 (dk_at dksX0_about_4 3 rfl rfl)
theorem dX0_about_109 : decode cX0_about 109 = .ok (.iconst 3, 1) := dk_6 (dk_at dksX0_about_4 6 rfl rfl)
theorem dX0_about_110 : decode cX0_about 110 = .ok (.iaload, 1) := dk_46 (dk_at dksX0_about_4 7 rfl rfl)
theorem dX0_about_111 : decode cX0_about 111 = .ok (.ireturn, 1) := dk_172 (dk_at dksX0_about_4 8 rfl rfl)
theorem dX0_about_112 : decode cX0_about 112 = .ok (.aload_n 0, 1) := dk_42 (dk_at dksX0_about_4 9 rfl rfl)
theorem dX0_about_113 : decode cX0_about 113 = .ok (.getfield 12, 3) := dk_180 0 12 (dk_at dksX0_about_4 10 rfl rfl)
theorem dX0_about_116 : decode cX0_about 116 = .ok (.getfield 66, 3) := dk_180 0 66 (dk_at dksX0_about_4 13 rfl rfl)
theorem dX0_about_119 : decode cX0_about 119 = .ok (.iconst 4, 1) := dk_7 (dk_at dksX0_about_4 16 rfl rfl)
theorem dX0_about_120 : decode cX0_about 120 = .ok (.iaload, 1) := dk_46 (dk_at dksX0_about_4 17 rfl rfl)
theorem dX0_about_121 : decode cX0_about 121 = .ok (.ireturn, 1) := dk_172 (dk_at dksX0_about_4 18 rfl rfl)
theorem dX0_about_122 : decode cX0_about 122 = .ok (.aload_n 0, 1) := dk_42 (dk_at dksX0_about_4 19 rfl rfl)
theorem dX0_about_123 : decode cX0_about 123 = .ok (.getfield 12, 3) := dk_180 0 12 (dk_at dksX0_about_4 20 rfl rfl)
theorem dX0_about_126 : decode cX0_about 126 = .ok (.getfield 66, 3) := dk_180 0 66 (dk_at dksX0_about_5 0 rfl rfl)
theorem dX0_about_129 : decode cX0_about 129 = .ok (.iconst 5, 1) := dk_8 (dk_at dksX0_about_5 3 rfl rfl)
theorem dX0_about_130 : decode cX0_about 130 = .ok (.iaload, 1) := dk_46 (dk_at dksX0_about_5 4 rfl rfl)
theorem dX0_about_131 : decode cX0_about 131 = .ok (.ireturn, 1) := dk_172 (dk_at dksX0_about_5 5 rfl rfl)
theorem dX0_about_132 : decode cX0_about 132 = .ok (.aload_n 0, 1) := dk_42 (dk_at dksX0_about_5 6 rfl rfl)
theorem dX0_about_133 : decode cX0_about 133 = .ok (.getfield 12, 3) := dk_180 0 12 (dk_at dksX0_about_5 7 rfl rfl)
theorem dX0_about_136 : decode cX0_about 136 = .ok (.getfield 66, 3) := dk_180 0 66 (dk_at dksX0_about_5 10 rfl rfl)
theorem dX0_about_139 : decode cX0_about 139 = .ok (.bipush 6, 2) := dk_16 6 (dk_at dksX0_about_5 13 rfl rfl)
theorem dX0_about_141 : decode cX0_about 141 = .ok (.iaload, 1) := dk_46 (dk_at dksX0_about_5 15 rfl rfl)
theorem dX0_about_142 : decode cX0_about 142 = .ok (.ireturn, 1) := dk_172 (dk_at dksX0_about_5 16 rfl rfl)
theorem dX0_about_143 : decode cX0_about 143 = .ok (.aload_n 0, 1) := dk_42 (dk_at dksX0_about_5 17 rfl rfl)
theorem dX0_about_144 : decode cX0_about 144 = .ok (.getfield 101, 3) := dk_180 0 101 (dk_at dksX0_about_5 18 rfl rfl)
theorem dX0_about_147 : decode cX0_about 147 = .ok (.ireturn, 1) := dk_172 (dk_at dksX0_about_5 21 rfl rfl)
theorem dX0_about_148 : decode cX0_about 148 = .ok (.aload_n 0, 1) := dk_42 (dk_at dksX0_about_5 22 rfl rfl)
theorem dX0_about_149 : decode cX0_about 149 = .ok (.iload_n 1, 1) := dk_27 (dk_at dksX0_about_5 23 rfl rfl)
theorem dX0_about_150 : decode cX0_about 150 = .ok (.bipush 10, 2) := dk_16 10 (dk_at dksX0_about_6 0 rfl rfl)
theorem dX0_about_152 : decode cX0_about 152 = .ok (.isub, 1) := dk_100 (dk_at dksX0_about_6 2 rfl rfl)
theorem dX0_about_153 : decode cX0_about 153 = .ok (.invokevirtual 164, 3) := dk_182 0 164 (dk_at dksX0_about_6 3 rfl rfl)
theorem dX0_about_156 : decode cX0_about 156 = .ok (.ifCond .eq 18, 3) := dk_153 0 18 (dk_at dksX0_about_6 6 rfl rfl)
theorem dX0_about_159 : decode cX0_about 159 = .ok (.aload_n 0, 1) := dk_42 (dk_at dksX0_about_6 9 rfl rfl)
theorem dX0_about_160 : decode cX0_about 160 = .ok (.getfield 12, 3) := dk_180 0 12 (dk_at dksX0_about_6 10 rfl rfl)
theorem dX0_about_163 : decode cX0_about 163 = .ok (.getfield 98, 3) := dk_180 0 98 (dk_at dksX0_about_6 13 rfl rfl)
theorem dX0_about_166 : decode cX0_about 166 = .ok (.iload_n 1, 1) := dk_27 (dk_at dksX0_about_6 16 rfl rfl)
theorem dX0_about_167 : decode cX0_about 167 = .ok (.bipush 10, 2) := dk_16 10 (dk_at dksX0_about_6 17 rfl rfl)
theorem dX0_about_169 : decode cX0_about 169 = .ok (.isub, 1) := dk_100 (dk_at dksX0_about_6 19 rfl rfl)
theorem dX0_about_170 : decode cX0_about 170 = .ok (.aaload, 1) := dk_50 (dk_at dksX0_about_6 20 rfl rfl)
theorem dX0_about_171 : decode cX0_about 171 = .ok (.iconst 2, 1) := dk_5 (dk_at dksX0_about_6 21 rfl rfl)
theorem dX0_about_172 : decode cX0_about 172 = .ok (.iaload, 1) := dk_46 (dk_at dksX0_about_6 22 rfl rfl)
theorem dX0_about_173 : decode cX0_about 173 = .ok (.ireturn, 1) := dk_172 (dk_at dksX0_about_6 23 rfl rfl)
theorem dX0_about_174 : decode cX0_about 174 = .ok (.aload_n 0, 1) := dk_42 (dk_at dksX0_about_7 0 rfl rfl)
theorem dX0_about_175 : decode cX0_about 175 = .ok (.iload_n 1, 1) := dk_27 (dk_at dksX0_about_7 1 rfl rfl)
theorem dX0_about_176 : decode cX0_about 176 = .ok (.bipush 20, 2) := dk_16 20 (dk_at dksX0_about_7 2 rfl rfl)
theorem dX0_about_178 : decode cX0_about 178 = .ok (.isub, 1) := dk_100 (dk_at dksX0_about_7 4 rfl rfl)
theorem dX0_about_179 : decode cX0_about 179 = .ok (.invokevirtual 164, 3) := dk_182 0 164 (dk_at dksX0_about_7 5 rfl rfl)
theorem dX0_about_182 : decode cX0_about 182 = .ok (.ifCond .eq 38, 3) := dk_153 0 38 (dk_at dksX0_about_7 8 rfl rfl)
theorem dX0_about_185 : decode cX0_about 185 = .ok (.bipush 100, 2) := dk_16 100 (dk_at dksX0_about_7 11 rfl rfl)
theorem dX0_about_187 : decode cX0_about 187 = .ok (.aload_n 0, 1) := dk_42 (dk_at dksX0_about_7 13 rfl rfl)
theorem dX0_about_188 : decode cX0_about 188 = .ok (.getfield 12, 3) := dk_180 0 12 (dk_at dksX0_about_7 14 rfl rfl)
theorem dX0_about_191 : decode cX0_about 191 = .ok (.getfield 98, 3) := dk_180 0 98 (dk_at dksX0_about_7 17 rfl rfl)
theorem dX0_about_194 : decode cX0_about 194 = .ok (.iload_n 1, 1) := dk_27 (dk_at dksX0_about_7 20 rfl rfl)
theorem dX0_about_195 : decode cX0_about 195 = .ok (.bipush 20, 2) := dk_16 20 (dk_at dksX0_about_7 21 rfl rfl)
theorem dX0_about_197 : decode cX0_about 197 = .ok (.isub, 1) := dk_100 (dk_at dksX0_about_7 23 rfl rfl)
theorem dX0_about_198 : decode cX0_about 198 = .ok (.aaload, 1) := dk_50 (dk_at dksX0_about_8 0 rfl rfl)
theorem dX0_about_199 : decode cX0_about 199 = .ok (.iconst 0, 1) := dk_3 (dk_at dksX0_about_8 1 rfl rfl)
theorem dX0_about_200 : decode cX0_about 200 = .ok (.iaload, 1) := dk_46 (dk_at dksX0_about_8 2 rfl rfl)
theorem dX0_about_201 : decode cX0_about 201 = .ok (.imul, 1) := dk_104 (dk_at dksX0_about_8 3 rfl rfl)
theorem dX0_about_202 : decode cX0_about 202 = .ok (.aload_n 0, 1) := dk_42 (dk_at dksX0_about_8 4 rfl rfl)
theorem dX0_about_203 : decode cX0_about 203 = .ok (.getfield 12, 3) := dk_180 0 12 (dk_at dksX0_about_8 5 rfl rfl)
theorem dX0_about_206 : decode cX0_about 206 = .ok (.getfield 98, 3) := dk_180 0 98 (dk_at dksX0_about_8 8 rfl rfl)
theorem dX0_about_209 : decode cX0_about 209 = .ok (.iload_n 1, 1) := dk_27 (dk_at dksX0_about_8 11 rfl rfl)
theorem dX0_about_210 : decode cX0_about 210 = .ok (.bipush 20, 2) := dk_16 20 (dk_at dksX0_about_8 12 rfl rfl)
theorem dX0_about_212 : decode cX0_about 212 = .ok (.isub, 1) := dk_100 (dk_at dksX0_about_8 14 rfl rfl)
theorem dX0_about_213 : decode cX0_about 213 = .ok (.aaload, 1) := dk_50 (dk_at dksX0_about_8 15 rfl rfl)
theorem dX0_about_214 : decode cX0_about 214 = .ok (.iconst 1, 1) := dk_4 (dk_at dksX0_about_8 16 rfl rfl)
theorem dX0_about_215 : decode cX0_about 215 = .ok (.iaload, 1) := dk_46 (dk_at dksX0_about_8 17 rfl rfl)
theorem dX0_about_216 : decode cX0_about 216 = .ok (.iadd, 1) := dk_96 (dk_at dksX0_about_8 18 rfl rfl)
theorem dX0_about_217 : decode cX0_about 217 = .ok (.goto 5, 3) := dk_167 0 5 (dk_at dksX0_about_8 19 rfl rfl)
theorem dX0_about_220 : decode cX0_about 220 = .ok (.bipush (-2), 2) := dk_16 254 (dk_at dksX0_about_8 22 rfl rfl)
theorem dX0_about_222 : decode cX0_about 222 = .ok (.ireturn, 1) := dk_172 (dk_at dksX0_about_9 0 rfl rfl)
theorem q96 : (Jvm.Cond.initialized "BreathOnLoan") ∈ lw_all := lw_g (lw_at lw_m1 1 rfl) rfl
theorem q130 : (Jvm.Cond.instantiable "BreathOnLoan" (17 : Nat)) ∈ lw_all := lw_g (lw_at lw_m1 35 rfl) rfl
theorem q132 : (Jvm.Cond.instanceMethod ({ cls := "BreathOnLoan", name := "<init>", desc := "()V" } : Jvm.MethodName)) ∈ lw_all := lw_g (lw_at lw_m1 37 rfl) rfl
theorem q133 : (Jvm.Cond.code ({ cls := "BreathOnLoan", name := "<init>", desc := "()V" } : Jvm.MethodName) prog_1_method_2_code (1 : Nat) (Option.none : Option Jvm.ClassFile.FieldType)) ∈ lw_all := lw_g (lw_at lw_m1 38 rfl) rfl
theorem q134 : (Jvm.Cond.methodLink "BreathOnLoan" (3 : Nat) ({ cls := "java/lang/Object", name := "<init>", desc := "()V" } : Jvm.MethodName)) ∈ lw_all := lw_g (lw_at lw_m1 39 rfl) rfl
theorem q137 : (Jvm.Cond.classLink "BreathOnLoan" (9 : Nat) "BreathOnLoan$State") ∈ lw_all := lw_g (lw_at lw_m1 42 rfl) rfl
theorem q139 : (Jvm.Cond.methodLink "BreathOnLoan" (11 : Nat) ({ cls := "BreathOnLoan$State", name := "<init>", desc := "()V" } : Jvm.MethodName)) ∈ lw_all := lw_g (lw_at lw_m1 44 rfl) rfl
theorem q148 : (Jvm.Cond.fieldLinkNest "BreathOnLoan" (66 : Nat) "BreathOnLoan$State" "n" "[I" "BreathOnLoan") ∈ lw_tbl := lw_at lw_m1 53 rfl
theorem q150 : (Jvm.Cond.fieldLinkNest "BreathOnLoan" (73 : Nat) "BreathOnLoan$State" "row" "[I" "BreathOnLoan") ∈ lw_tbl := lw_at lw_m1 55 rfl
theorem q152 : (Jvm.Cond.fieldLinkNest "BreathOnLoan" (286 : Nat) "BreathOnLoan$State" "seen" "[I" "BreathOnLoan") ∈ lw_tbl := lw_at lw_m1 57 rfl
theorem q154 : (Jvm.Cond.fieldLinkNest "BreathOnLoan" (80 : Nat) "BreathOnLoan$State" "blower" "[[I" "BreathOnLoan") ∈ lw_tbl := lw_at lw_m1 59 rfl
theorem q156 : (Jvm.Cond.fieldLinkNest "BreathOnLoan" (98 : Nat) "BreathOnLoan$State" "kind" "[[I" "BreathOnLoan") ∈ lw_tbl := lw_at lw_m1 61 rfl
theorem q158 : (Jvm.Cond.fieldLinkNest "BreathOnLoan" (294 : Nat) "BreathOnLoan$State" "told" "[[I" "BreathOnLoan") ∈ lw_tbl := lw_at lw_m1 63 rfl
theorem q160 : (Jvm.Cond.fieldLinkNest "BreathOnLoan" (87 : Nat) "BreathOnLoan$State" "step" "[[I" "BreathOnLoan") ∈ lw_tbl := lw_at lw_m1 65 rfl
theorem q162 : (Jvm.Cond.fieldLinkNest "BreathOnLoan" (108 : Nat) "BreathOnLoan$State" "text" "[LBreathOnLoan$Text;" "BreathOnLoan") ∈ lw_tbl := lw_at lw_m1 67 rfl
theorem q181 : (Jvm.Cond.classLink "BreathOnLoan" (37 : Nat) "[[[I") ∈ lw_all := lw_g (lw_at lw_m1 86 rfl) rfl
theorem q183 : (Jvm.Cond.classLink "BreathOnLoan" (54 : Nat) "[[I") ∈ lw_all := lw_g (lw_at lw_m1 88 rfl) rfl
theorem q184 : (Jvm.Cond.methodLink "BreathOnLoan" (62 : Nat) ({ cls := "BreathOnLoan$State", name := "be", desc := "(LBreathOnLoan$State;)V" } : Jvm.MethodName)) ∈ lw_all := lw_g (lw_at lw_m1 89 rfl) rfl
theorem q197 : (Jvm.Cond.fieldLink "BreathOnLoan" (12 : Nat) "BreathOnLoan" "now" "LBreathOnLoan$State;") ∈ lw_all := lw_g (lw_at lw_m1 102 rfl) rfl
theorem q198 : (Jvm.Cond.fieldLink "BreathOnLoan" (16 : Nat) "BreathOnLoan" "image" "LBreathOnLoan$State;") ∈ lw_all := lw_g (lw_at lw_m1 103 rfl) rfl
theorem q199 : (Jvm.Cond.fieldLink "BreathOnLoan" (19 : Nat) "BreathOnLoan" "tape" "[B") ∈ lw_all := lw_g (lw_at lw_m1 104 rfl) rfl
theorem q200 : (Jvm.Cond.fieldLink "BreathOnLoan" (101 : Nat) "BreathOnLoan" "taped" "I") ∈ lw_all := lw_g (lw_at lw_m1 105 rfl) rfl
theorem q201 : (Jvm.Cond.fieldLink "BreathOnLoan" (23 : Nat) "BreathOnLoan" "fault" "I") ∈ lw_all := lw_g (lw_at lw_m1 106 rfl) rfl
theorem q202 : (Jvm.Cond.fieldLink "BreathOnLoan" (27 : Nat) "BreathOnLoan" "faultAt" "I") ∈ lw_all := lw_g (lw_at lw_m1 107 rfl) rfl
theorem q203 : (Jvm.Cond.fieldLink "BreathOnLoan" (30 : Nat) "BreathOnLoan" "names" "[I") ∈ lw_all := lw_g (lw_at lw_m1 108 rfl) rfl
theorem q204 : (Jvm.Cond.fieldLink "BreathOnLoan" (34 : Nat) "BreathOnLoan" "share" "[I") ∈ lw_all := lw_g (lw_at lw_m1 109 rfl) rfl
theorem q205 : (Jvm.Cond.fieldLink "BreathOnLoan" (39 : Nat) "BreathOnLoan" "gain" "[[[I") ∈ lw_all := lw_g (lw_at lw_m1 110 rfl) rfl
theorem q206 : (Jvm.Cond.fieldLink "BreathOnLoan" (42 : Nat) "BreathOnLoan" "endIn" "[[[I") ∈ lw_all := lw_g (lw_at lw_m1 111 rfl) rfl
theorem q207 : (Jvm.Cond.fieldLink "BreathOnLoan" (45 : Nat) "BreathOnLoan" "work" "[I") ∈ lw_all := lw_g (lw_at lw_m1 112 rfl) rfl
theorem q208 : (Jvm.Cond.fieldLink "BreathOnLoan" (48 : Nat) "BreathOnLoan" "kindOf" "[I") ∈ lw_all := lw_g (lw_at lw_m1 113 rfl) rfl
theorem q209 : (Jvm.Cond.fieldLink "BreathOnLoan" (51 : Nat) "BreathOnLoan" "teamOf" "[I") ∈ lw_all := lw_g (lw_at lw_m1 114 rfl) rfl
theorem q210 : (Jvm.Cond.fieldLink "BreathOnLoan" (56 : Nat) "BreathOnLoan" "most" "[[I") ∈ lw_all := lw_g (lw_at lw_m1 115 rfl) rfl
theorem q211 : (Jvm.Cond.fieldLink "BreathOnLoan" (59 : Nat) "BreathOnLoan" "fewest" "[[I") ∈ lw_all := lw_g (lw_at lw_m1 116 rfl) rfl
theorem q212 : (Jvm.Cond.fieldLink "BreathOnLoan" (260 : Nat) "BreathOnLoan" "works" "I") ∈ lw_all := lw_g (lw_at lw_m1 117 rfl) rfl
theorem q213 : (Jvm.Cond.fieldLink "BreathOnLoan" (257 : Nat) "BreathOnLoan" "hours" "I") ∈ lw_all := lw_g (lw_at lw_m1 118 rfl) rfl
theorem q214 : (Jvm.Cond.laysFinal "BreathOnLoan" "BreathOnLoan" "now" "LBreathOnLoan$State;") ∈ lw_all := lw_g (lw_at lw_m1 119 rfl) rfl
theorem q215 : (Jvm.Cond.soleField "BreathOnLoan" "now") ∈ lw_all := lw_g (lw_at lw_m1 120 rfl) rfl
theorem q216 : (Jvm.Cond.laysFinal "BreathOnLoan" "BreathOnLoan" "image" "LBreathOnLoan$State;") ∈ lw_all := lw_g (lw_at lw_m1 121 rfl) rfl
theorem q217 : (Jvm.Cond.soleField "BreathOnLoan" "image") ∈ lw_all := lw_g (lw_at lw_m1 122 rfl) rfl
theorem q218 : (Jvm.Cond.laysFinal "BreathOnLoan" "BreathOnLoan" "tape" "[B") ∈ lw_all := lw_g (lw_at lw_m1 123 rfl) rfl
theorem q219 : (Jvm.Cond.soleField "BreathOnLoan" "tape") ∈ lw_all := lw_g (lw_at lw_m1 124 rfl) rfl
theorem q220 : (Jvm.Cond.lays "BreathOnLoan" "BreathOnLoan" "taped" "I") ∈ lw_all := lw_g (lw_at lw_m1 125 rfl) rfl
theorem q221 : (Jvm.Cond.soleField "BreathOnLoan" "taped") ∈ lw_all := lw_g (lw_at lw_m1 126 rfl) rfl
theorem q222 : (Jvm.Cond.lays "BreathOnLoan" "BreathOnLoan" "fault" "I") ∈ lw_all := lw_g (lw_at lw_m1 127 rfl) rfl
theorem q223 : (Jvm.Cond.soleField "BreathOnLoan" "fault") ∈ lw_all := lw_g (lw_at lw_m1 128 rfl) rfl
theorem q224 : (Jvm.Cond.lays "BreathOnLoan" "BreathOnLoan" "faultAt" "I") ∈ lw_all := lw_g (lw_at lw_m1 129 rfl) rfl
theorem q225 : (Jvm.Cond.soleField "BreathOnLoan" "faultAt") ∈ lw_all := lw_g (lw_at lw_m1 130 rfl) rfl
theorem q226 : (Jvm.Cond.laysFinal "BreathOnLoan" "BreathOnLoan" "names" "[I") ∈ lw_all := lw_g (lw_at lw_m1 131 rfl) rfl
theorem q227 : (Jvm.Cond.soleField "BreathOnLoan" "names") ∈ lw_all := lw_g (lw_at lw_m1 132 rfl) rfl
theorem q228 : (Jvm.Cond.laysFinal "BreathOnLoan" "BreathOnLoan" "share" "[I") ∈ lw_all := lw_g (lw_at lw_m1 133 rfl) rfl
theorem q229 : (Jvm.Cond.soleField "BreathOnLoan" "share") ∈ lw_all := lw_g (lw_at lw_m1 134 rfl) rfl
theorem q230 : (Jvm.Cond.laysFinal "BreathOnLoan" "BreathOnLoan" "gain" "[[[I") ∈ lw_all := lw_g (lw_at lw_m1 135 rfl) rfl
theorem q231 : (Jvm.Cond.soleField "BreathOnLoan" "gain") ∈ lw_all := lw_g (lw_at lw_m1 136 rfl) rfl
theorem q232 : (Jvm.Cond.laysFinal "BreathOnLoan" "BreathOnLoan" "endIn" "[[[I") ∈ lw_all := lw_g (lw_at lw_m1 137 rfl) rfl
theorem q233 : (Jvm.Cond.soleField "BreathOnLoan" "endIn") ∈ lw_all := lw_g (lw_at lw_m1 138 rfl) rfl
theorem q234 : (Jvm.Cond.laysFinal "BreathOnLoan" "BreathOnLoan" "work" "[I") ∈ lw_all := lw_g (lw_at lw_m1 139 rfl) rfl
theorem q235 : (Jvm.Cond.soleField "BreathOnLoan" "work") ∈ lw_all := lw_g (lw_at lw_m1 140 rfl) rfl
theorem q236 : (Jvm.Cond.laysFinal "BreathOnLoan" "BreathOnLoan" "kindOf" "[I") ∈ lw_all := lw_g (lw_at lw_m1 141 rfl) rfl
theorem q237 : (Jvm.Cond.soleField "BreathOnLoan" "kindOf") ∈ lw_all := lw_g (lw_at lw_m1 142 rfl) rfl
theorem q238 : (Jvm.Cond.laysFinal "BreathOnLoan" "BreathOnLoan" "teamOf" "[I") ∈ lw_all := lw_g (lw_at lw_m1 143 rfl) rfl
theorem q239 : (Jvm.Cond.soleField "BreathOnLoan" "teamOf") ∈ lw_all := lw_g (lw_at lw_m1 144 rfl) rfl
theorem q240 : (Jvm.Cond.laysFinal "BreathOnLoan" "BreathOnLoan" "most" "[[I") ∈ lw_all := lw_g (lw_at lw_m1 145 rfl) rfl
theorem q241 : (Jvm.Cond.soleField "BreathOnLoan" "most") ∈ lw_all := lw_g (lw_at lw_m1 146 rfl) rfl
theorem q242 : (Jvm.Cond.laysFinal "BreathOnLoan" "BreathOnLoan" "fewest" "[[I") ∈ lw_all := lw_g (lw_at lw_m1 147 rfl) rfl
theorem q243 : (Jvm.Cond.soleField "BreathOnLoan" "fewest") ∈ lw_all := lw_g (lw_at lw_m1 148 rfl) rfl
theorem q244 : (Jvm.Cond.lays "BreathOnLoan" "BreathOnLoan" "works" "I") ∈ lw_all := lw_g (lw_at lw_m1 149 rfl) rfl
theorem q245 : (Jvm.Cond.soleField "BreathOnLoan" "works") ∈ lw_all := lw_g (lw_at lw_m1 150 rfl) rfl
theorem q246 : (Jvm.Cond.lays "BreathOnLoan" "BreathOnLoan" "hours" "I") ∈ lw_all := lw_g (lw_at lw_m1 151 rfl) rfl
theorem q247 : (Jvm.Cond.soleField "BreathOnLoan" "hours") ∈ lw_all := lw_g (lw_at lw_m1 152 rfl) rfl
theorem q248 : (Jvm.Cond.superclass "BreathOnLoan" "java/lang/Object") ∈ lw_all := lw_g (lw_at lw_m1 153 rfl) rfl
theorem q251 : (Jvm.Cond.instanceMethod ({ cls := "BreathOnLoan", name := "blower", desc := "(III)I" } : Jvm.MethodName)) ∈ lw_all := lw_g (lw_at lw_m1 156 rfl) rfl
theorem q252 : (Jvm.Cond.selects "BreathOnLoan" ({ cls := "BreathOnLoan", name := "blower", desc := "(III)I" } : Jvm.MethodName) ({ cls := "BreathOnLoan", name := "blower", desc := "(III)I" } : Jvm.MethodName)) ∈ lw_all := lw_g (lw_at lw_m1 157 rfl) rfl
theorem q253 : (Jvm.Cond.code ({ cls := "BreathOnLoan", name := "blower", desc := "(III)I" } : Jvm.MethodName) prog_1_method_8_code (7 : Nat) (Option.some Jvm.ClassFile.FieldType.int)) ∈ lw_all := lw_g (lw_at lw_m1 158 rfl) rfl
theorem q254 : (Jvm.Cond.methodLink "BreathOnLoan" (69 : Nat) ({ cls := "BreathOnLoan", name := "in", desc := "(III)Z" } : Jvm.MethodName)) ∈ lw_all := lw_g (lw_at lw_m1 159 rfl) rfl
theorem q255 : (Jvm.Cond.static ({ cls := "BreathOnLoan", name := "in", desc := "(III)Z" } : Jvm.MethodName)) ∈ lw_all := lw_g (lw_at lw_m1 160 rfl) rfl
theorem q256 : (Jvm.Cond.code ({ cls := "BreathOnLoan", name := "in", desc := "(III)Z" } : Jvm.MethodName) prog_1_method_1_code (3 : Nat) (Option.some Jvm.ClassFile.FieldType.boolean)) ∈ lw_all := lw_g (lw_at lw_m1 161 rfl) rfl
theorem q257 : (Jvm.Cond.methodLinkNest "BreathOnLoan" (83 : Nat) ({ cls := "BreathOnLoan$State", name := "copy", desc := "([I[I)V" } : Jvm.MethodName) "BreathOnLoan") ∈ lw_tbl := lw_at lw_m1 162 rfl
theorem q259 : (Jvm.Cond.instanceMethod ({ cls := "BreathOnLoan", name := "quarrel", desc := "(IIZ)Z" } : Jvm.MethodName)) ∈ lw_all := lw_g (lw_at lw_m1 164 rfl) rfl
theorem q260 : (Jvm.Cond.selects "BreathOnLoan" ({ cls := "BreathOnLoan", name := "quarrel", desc := "(IIZ)Z" } : Jvm.MethodName) ({ cls := "BreathOnLoan", name := "quarrel", desc := "(IIZ)Z" } : Jvm.MethodName)) ∈ lw_all := lw_g (lw_at lw_m1 165 rfl) rfl
theorem q261 : (Jvm.Cond.code ({ cls := "BreathOnLoan", name := "quarrel", desc := "(IIZ)Z" } : Jvm.MethodName) prog_1_method_9_code (4 : Nat) (Option.some Jvm.ClassFile.FieldType.boolean)) ∈ lw_all := lw_g (lw_at lw_m1 166 rfl) rfl
theorem q262 : (Jvm.Cond.methodLink "BreathOnLoan" (90 : Nat) ({ cls := "BreathOnLoan", name := "isBlower", desc := "(I)Z" } : Jvm.MethodName)) ∈ lw_all := lw_g (lw_at lw_m1 167 rfl) rfl
theorem q263 : (Jvm.Cond.privateMethod ({ cls := "BreathOnLoan", name := "isBlower", desc := "(I)Z" } : Jvm.MethodName)) ∈ lw_tbl := lw_at lw_m1 168 rfl
theorem q264 : (Jvm.Cond.instanceMethod ({ cls := "BreathOnLoan", name := "isBlower", desc := "(I)Z" } : Jvm.MethodName)) ∈ lw_all := lw_g (lw_at lw_m1 169 rfl) rfl
theorem q265 : (Jvm.Cond.code ({ cls := "BreathOnLoan", name := "isBlower", desc := "(I)Z" } : Jvm.MethodName) prog_1_method_3_code (2 : Nat) (Option.some Jvm.ClassFile.FieldType.boolean)) ∈ lw_all := lw_g (lw_at lw_m1 170 rfl) rfl
theorem q266 : (Jvm.Cond.methodLink "BreathOnLoan" (94 : Nat) ({ cls := "BreathOnLoan", name := "quarrels", desc := "(IIZ)V" } : Jvm.MethodName)) ∈ lw_all := lw_g (lw_at lw_m1 171 rfl) rfl
theorem q267 : (Jvm.Cond.privateMethod ({ cls := "BreathOnLoan", name := "quarrels", desc := "(IIZ)V" } : Jvm.MethodName)) ∈ lw_tbl := lw_at lw_m1 172 rfl
theorem q268 : (Jvm.Cond.instanceMethod ({ cls := "BreathOnLoan", name := "quarrels", desc := "(IIZ)V" } : Jvm.MethodName)) ∈ lw_all := lw_g (lw_at lw_m1 173 rfl) rfl
theorem q269 : (Jvm.Cond.code ({ cls := "BreathOnLoan", name := "quarrels", desc := "(IIZ)V" } : Jvm.MethodName) prog_1_method_10_code (4 : Nat) (Option.none : Option Jvm.ClassFile.FieldType)) ∈ lw_all := lw_g (lw_at lw_m1 174 rfl) rfl
theorem q271 : (Jvm.Cond.instanceMethod ({ cls := "BreathOnLoan", name := "kind", desc := "(III)I" } : Jvm.MethodName)) ∈ lw_all := lw_g (lw_at lw_m1 176 rfl) rfl
theorem q272 : (Jvm.Cond.selects "BreathOnLoan" ({ cls := "BreathOnLoan", name := "kind", desc := "(III)I" } : Jvm.MethodName) ({ cls := "BreathOnLoan", name := "kind", desc := "(III)I" } : Jvm.MethodName)) ∈ lw_all := lw_g (lw_at lw_m1 177 rfl) rfl
theorem q273 : (Jvm.Cond.code ({ cls := "BreathOnLoan", name := "kind", desc := "(III)I" } : Jvm.MethodName) prog_1_method_11_code (6 : Nat) (Option.some Jvm.ClassFile.FieldType.int)) ∈ lw_all := lw_g (lw_at lw_m1 178 rfl) rfl
theorem q275 : (Jvm.Cond.instanceMethod ({ cls := "BreathOnLoan", name := "feed", desc := "(IIIII)I" } : Jvm.MethodName)) ∈ lw_all := lw_g (lw_at lw_m1 180 rfl) rfl
theorem q276 : (Jvm.Cond.selects "BreathOnLoan" ({ cls := "BreathOnLoan", name := "feed", desc := "(IIIII)I" } : Jvm.MethodName) ({ cls := "BreathOnLoan", name := "feed", desc := "(IIIII)I" } : Jvm.MethodName)) ∈ lw_all := lw_g (lw_at lw_m1 181 rfl) rfl
theorem q277 : (Jvm.Cond.code ({ cls := "BreathOnLoan", name := "feed", desc := "(IIIII)I" } : Jvm.MethodName) prog_1_method_13_code (6 : Nat) (Option.some Jvm.ClassFile.FieldType.int)) ∈ lw_all := lw_g (lw_at lw_m1 182 rfl) rfl
theorem q278 : (Jvm.Cond.methodLink "BreathOnLoan" (104 : Nat) ({ cls := "BreathOnLoan", name := "put", desc := "(I)V" } : Jvm.MethodName)) ∈ lw_all := lw_g (lw_at lw_m1 183 rfl) rfl
theorem q279 : (Jvm.Cond.privateMethod ({ cls := "BreathOnLoan", name := "put", desc := "(I)V" } : Jvm.MethodName)) ∈ lw_tbl := lw_at lw_m1 184 rfl
theorem q280 : (Jvm.Cond.instanceMethod ({ cls := "BreathOnLoan", name := "put", desc := "(I)V" } : Jvm.MethodName)) ∈ lw_all := lw_g (lw_at lw_m1 185 rfl) rfl
theorem q281 : (Jvm.Cond.code ({ cls := "BreathOnLoan", name := "put", desc := "(I)V" } : Jvm.MethodName) prog_1_method_12_code (3 : Nat) (Option.none : Option Jvm.ClassFile.FieldType)) ∈ lw_all := lw_g (lw_at lw_m1 186 rfl) rfl
theorem q283 : (Jvm.Cond.instanceMethod ({ cls := "BreathOnLoan", name := "end", desc := "(I)I" } : Jvm.MethodName)) ∈ lw_all := lw_g (lw_at lw_m1 188 rfl) rfl
theorem q284 : (Jvm.Cond.selects "BreathOnLoan" ({ cls := "BreathOnLoan", name := "end", desc := "(I)I" } : Jvm.MethodName) ({ cls := "BreathOnLoan", name := "end", desc := "(I)I" } : Jvm.MethodName)) ∈ lw_all := lw_g (lw_at lw_m1 189 rfl) rfl
theorem q285 : (Jvm.Cond.code ({ cls := "BreathOnLoan", name := "end", desc := "(I)I" } : Jvm.MethodName) prog_1_method_14_code (2 : Nat) (Option.some Jvm.ClassFile.FieldType.int)) ∈ lw_all := lw_g (lw_at lw_m1 190 rfl) rfl
theorem q287 : (Jvm.Cond.instanceMethod ({ cls := "BreathOnLoan", name := "text", desc := "()I" } : Jvm.MethodName)) ∈ lw_all := lw_g (lw_at lw_m1 192 rfl) rfl
theorem q288 : (Jvm.Cond.selects "BreathOnLoan" ({ cls := "BreathOnLoan", name := "text", desc := "()I" } : Jvm.MethodName) ({ cls := "BreathOnLoan", name := "text", desc := "()I" } : Jvm.MethodName)) ∈ lw_all := lw_g (lw_at lw_m1 193 rfl) rfl
theorem q289 : (Jvm.Cond.codeWith ({ cls := "BreathOnLoan", name := "text", desc := "()I" } : Jvm.MethodName) prog_1_method_15_code (5 : Nat) (Option.some Jvm.ClassFile.FieldType.int) [((30 : Nat), (62 : Nat), (70 : Nat), (121 : Nat)), ((30 : Nat), (62 : Nat), (96 : Nat), (0 : Nat)), ((70 : Nat), (89 : Nat), (96 : Nat), (0 : Nat)), ((96 : Nat), (98 : Nat), (96 : Nat), (0 : Nat))]) ∈ lw_all := lw_g (lw_at lw_m1 194 rfl) rfl
theorem q290 : (Jvm.Cond.classLink "BreathOnLoan" (121 : Nat) "BreathOnLoan$Wrong") ∈ lw_all := lw_g (lw_at lw_m1 195 rfl) rfl
theorem q291 : (Jvm.Cond.classLink "BreathOnLoan" (112 : Nat) "BreathOnLoan$Tokens") ∈ lw_all := lw_g (lw_at lw_m1 196 rfl) rfl
theorem q293 : (Jvm.Cond.methodLink "BreathOnLoan" (114 : Nat) ({ cls := "BreathOnLoan$Tokens", name := "<init>", desc := "([BI)V" } : Jvm.MethodName)) ∈ lw_all := lw_g (lw_at lw_m1 198 rfl) rfl
theorem q322 : (Jvm.Cond.methodLink "BreathOnLoan" (117 : Nat) ({ cls := "BreathOnLoan$Tokens", name := "read", desc := "()LBreathOnLoan$Text;" } : Jvm.MethodName)) ∈ lw_all := lw_g (lw_at lw_m1 227 rfl) rfl
theorem q362 : (Jvm.Cond.fieldLinkNest "BreathOnLoan" (130 : Nat) "BreathOnLoan$Text" "of" "[LBreathOnLoan$Sum;" "BreathOnLoan") ∈ lw_tbl := lw_at lw_m2 27 rfl
theorem q365 : (Jvm.Cond.fieldLinkNest "BreathOnLoan" (209 : Nat) "BreathOnLoan$Text" "doings" "Ljava/util/ArrayList;" "BreathOnLoan") ∈ lw_tbl := lw_at lw_m2 30 rfl
theorem q492 : (Jvm.Cond.fieldLinkNest "BreathOnLoan" (123 : Nat) "BreathOnLoan$Wrong" "fault" "I" "BreathOnLoan") ∈ lw_tbl := lw_at lw_m2 157 rfl
theorem q494 : (Jvm.Cond.fieldLinkNest "BreathOnLoan" (124 : Nat) "BreathOnLoan$Wrong" "place" "I" "BreathOnLoan") ∈ lw_tbl := lw_at lw_m2 159 rfl
theorem q580 : (Jvm.Cond.selects "BreathOnLoan" ({ cls := "java/lang/Object", name := "getClass", desc := "()Ljava/lang/Class;" } : Jvm.MethodName) ({ cls := "java/lang/Object", name := "getClass", desc := "()Ljava/lang/Class;" } : Jvm.MethodName)) ∈ lw_all := lw_g (lw_at lw_m3 5 rfl) rfl
theorem q798 : (Jvm.Cond.instanceMethod ({ cls := "BreathOnLoan", name := "fault", desc := "(I)I" } : Jvm.MethodName)) ∈ lw_all := lw_g (lw_at lw_m3 223 rfl) rfl
theorem q799 : (Jvm.Cond.selects "BreathOnLoan" ({ cls := "BreathOnLoan", name := "fault", desc := "(I)I" } : Jvm.MethodName) ({ cls := "BreathOnLoan", name := "fault", desc := "(I)I" } : Jvm.MethodName)) ∈ lw_all := lw_g (lw_at lw_m3 224 rfl) rfl
theorem q800 : (Jvm.Cond.code ({ cls := "BreathOnLoan", name := "fault", desc := "(I)I" } : Jvm.MethodName) prog_1_method_16_code (2 : Nat) (Option.some Jvm.ClassFile.FieldType.int)) ∈ lw_all := lw_g (lw_at lw_m3 225 rfl) rfl
theorem q802 : (Jvm.Cond.instanceMethod ({ cls := "BreathOnLoan", name := "by", desc := "(I)Z" } : Jvm.MethodName)) ∈ lw_all := lw_g (lw_at lw_m3 227 rfl) rfl
theorem q803 : (Jvm.Cond.selects "BreathOnLoan" ({ cls := "BreathOnLoan", name := "by", desc := "(I)Z" } : Jvm.MethodName) ({ cls := "BreathOnLoan", name := "by", desc := "(I)Z" } : Jvm.MethodName)) ∈ lw_all := lw_g (lw_at lw_m3 228 rfl) rfl
theorem q804 : (Jvm.Cond.code ({ cls := "BreathOnLoan", name := "by", desc := "(I)Z" } : Jvm.MethodName) prog_1_method_18_code (2 : Nat) (Option.some Jvm.ClassFile.FieldType.boolean)) ∈ lw_all := lw_g (lw_at lw_m3 229 rfl) rfl
theorem q805 : (Jvm.Cond.methodLink "BreathOnLoan" (127 : Nat) ({ cls := "BreathOnLoan", name := "isText", desc := "(I)Z" } : Jvm.MethodName)) ∈ lw_all := lw_g (lw_at lw_m3 230 rfl) rfl
theorem q806 : (Jvm.Cond.privateMethod ({ cls := "BreathOnLoan", name := "isText", desc := "(I)Z" } : Jvm.MethodName)) ∈ lw_tbl := lw_at lw_m3 231 rfl
theorem q807 : (Jvm.Cond.instanceMethod ({ cls := "BreathOnLoan", name := "isText", desc := "(I)Z" } : Jvm.MethodName)) ∈ lw_all := lw_g (lw_at lw_m3 232 rfl) rfl
theorem q808 : (Jvm.Cond.code ({ cls := "BreathOnLoan", name := "isText", desc := "(I)Z" } : Jvm.MethodName) prog_1_method_17_code (2 : Nat) (Option.some Jvm.ClassFile.FieldType.boolean)) ∈ lw_all := lw_g (lw_at lw_m3 233 rfl) rfl
theorem q810 : (Jvm.Cond.instanceMethod ({ cls := "BreathOnLoan", name := "smoke", desc := "(I)I" } : Jvm.MethodName)) ∈ lw_all := lw_g (lw_at lw_m3 235 rfl) rfl
theorem q811 : (Jvm.Cond.selects "BreathOnLoan" ({ cls := "BreathOnLoan", name := "smoke", desc := "(I)I" } : Jvm.MethodName) ({ cls := "BreathOnLoan", name := "smoke", desc := "(I)I" } : Jvm.MethodName)) ∈ lw_all := lw_g (lw_at lw_m3 236 rfl) rfl
theorem q812 : (Jvm.Cond.code ({ cls := "BreathOnLoan", name := "smoke", desc := "(I)I" } : Jvm.MethodName) prog_1_method_24_code (2 : Nat) (Option.some Jvm.ClassFile.FieldType.int)) ∈ lw_all := lw_g (lw_at lw_m3 237 rfl) rfl
theorem q813 : (Jvm.Cond.methodLink "BreathOnLoan" (157 : Nat) ({ cls := "BreathOnLoan", name := "smokeIn", desc := "(I)I" } : Jvm.MethodName)) ∈ lw_all := lw_g (lw_at lw_m3 238 rfl) rfl
theorem q814 : (Jvm.Cond.privateMethod ({ cls := "BreathOnLoan", name := "smokeIn", desc := "(I)I" } : Jvm.MethodName)) ∈ lw_tbl := lw_at lw_m3 239 rfl
theorem q815 : (Jvm.Cond.instanceMethod ({ cls := "BreathOnLoan", name := "smokeIn", desc := "(I)I" } : Jvm.MethodName)) ∈ lw_all := lw_g (lw_at lw_m4 0 rfl) rfl
theorem q816 : (Jvm.Cond.code ({ cls := "BreathOnLoan", name := "smokeIn", desc := "(I)I" } : Jvm.MethodName) prog_1_method_22_code (2 : Nat) (Option.some Jvm.ClassFile.FieldType.int)) ∈ lw_all := lw_g (lw_at lw_m4 1 rfl) rfl
theorem q817 : (Jvm.Cond.methodLink "BreathOnLoan" (150 : Nat) ({ cls := "BreathOnLoan", name := "asks", desc := "(III)I" } : Jvm.MethodName)) ∈ lw_all := lw_g (lw_at lw_m4 2 rfl) rfl
theorem q818 : (Jvm.Cond.privateMethod ({ cls := "BreathOnLoan", name := "asks", desc := "(III)I" } : Jvm.MethodName)) ∈ lw_tbl := lw_at lw_m4 3 rfl
theorem q819 : (Jvm.Cond.instanceMethod ({ cls := "BreathOnLoan", name := "asks", desc := "(III)I" } : Jvm.MethodName)) ∈ lw_all := lw_g (lw_at lw_m4 4 rfl) rfl
theorem q820 : (Jvm.Cond.code ({ cls := "BreathOnLoan", name := "asks", desc := "(III)I" } : Jvm.MethodName) prog_1_method_19_code (5 : Nat) (Option.some Jvm.ClassFile.FieldType.int)) ∈ lw_all := lw_g (lw_at lw_m4 5 rfl) rfl
theorem q821 : (Jvm.Cond.interfaceEntry "BreathOnLoan" (136 : Nat)) ∈ lw_tbl := lw_at lw_m4 6 rfl
theorem q822 : (Jvm.Cond.methodLink "BreathOnLoan" (136 : Nat) ({ cls := "BreathOnLoan$Sum", name := "of", desc := "([I)J" } : Jvm.MethodName)) ∈ lw_all := lw_g (lw_at lw_m4 7 rfl) rfl
theorem q908 : (Jvm.Cond.methodLink "BreathOnLoan" (141 : Nat) ({ cls := "java/lang/Math", name := "min", desc := "(JJ)J" } : Jvm.MethodName)) ∈ lw_all := lw_g (lw_at lw_m4 93 rfl) rfl
theorem q909 : (Jvm.Cond.methodLink "BreathOnLoan" (147 : Nat) ({ cls := "java/lang/Math", name := "max", desc := "(JJ)J" } : Jvm.MethodName)) ∈ lw_all := lw_g (lw_at lw_m4 94 rfl) rfl
theorem q911 : (Jvm.Cond.instanceMethod ({ cls := "BreathOnLoan", name := "cost", desc := "(II)I" } : Jvm.MethodName)) ∈ lw_all := lw_g (lw_at lw_m4 96 rfl) rfl
theorem q912 : (Jvm.Cond.selects "BreathOnLoan" ({ cls := "BreathOnLoan", name := "cost", desc := "(II)I" } : Jvm.MethodName) ({ cls := "BreathOnLoan", name := "cost", desc := "(II)I" } : Jvm.MethodName)) ∈ lw_all := lw_g (lw_at lw_m4 97 rfl) rfl
theorem q913 : (Jvm.Cond.code ({ cls := "BreathOnLoan", name := "cost", desc := "(II)I" } : Jvm.MethodName) prog_1_method_25_code (3 : Nat) (Option.some Jvm.ClassFile.FieldType.int)) ∈ lw_all := lw_g (lw_at lw_m4 98 rfl) rfl
theorem q914 : (Jvm.Cond.methodLink "BreathOnLoan" (161 : Nat) ({ cls := "BreathOnLoan", name := "costOf", desc := "(II)I" } : Jvm.MethodName)) ∈ lw_all := lw_g (lw_at lw_m4 99 rfl) rfl
theorem q915 : (Jvm.Cond.privateMethod ({ cls := "BreathOnLoan", name := "costOf", desc := "(II)I" } : Jvm.MethodName)) ∈ lw_tbl := lw_at lw_m4 100 rfl
theorem q916 : (Jvm.Cond.instanceMethod ({ cls := "BreathOnLoan", name := "costOf", desc := "(II)I" } : Jvm.MethodName)) ∈ lw_all := lw_g (lw_at lw_m4 101 rfl) rfl
theorem q917 : (Jvm.Cond.code ({ cls := "BreathOnLoan", name := "costOf", desc := "(II)I" } : Jvm.MethodName) prog_1_method_23_code (3 : Nat) (Option.some Jvm.ClassFile.FieldType.int)) ∈ lw_all := lw_g (lw_at lw_m4 102 rfl) rfl
theorem q918 : (Jvm.Cond.methodLink "BreathOnLoan" (154 : Nat) ({ cls := "BreathOnLoan", name := "namesBlower", desc := "(I)V" } : Jvm.MethodName)) ∈ lw_all := lw_g (lw_at lw_m4 103 rfl) rfl
theorem q919 : (Jvm.Cond.privateMethod ({ cls := "BreathOnLoan", name := "namesBlower", desc := "(I)V" } : Jvm.MethodName)) ∈ lw_tbl := lw_at lw_m4 104 rfl
theorem q920 : (Jvm.Cond.instanceMethod ({ cls := "BreathOnLoan", name := "namesBlower", desc := "(I)V" } : Jvm.MethodName)) ∈ lw_all := lw_g (lw_at lw_m4 105 rfl) rfl
theorem q921 : (Jvm.Cond.code ({ cls := "BreathOnLoan", name := "namesBlower", desc := "(I)V" } : Jvm.MethodName) prog_1_method_20_code (2 : Nat) (Option.none : Option Jvm.ClassFile.FieldType)) ∈ lw_all := lw_g (lw_at lw_m4 106 rfl) rfl
theorem q923 : (Jvm.Cond.instanceMethod ({ cls := "BreathOnLoan", name := "begin", desc := "(I)I" } : Jvm.MethodName)) ∈ lw_all := lw_g (lw_at lw_m4 108 rfl) rfl
theorem q924 : (Jvm.Cond.selects "BreathOnLoan" ({ cls := "BreathOnLoan", name := "begin", desc := "(I)I" } : Jvm.MethodName) ({ cls := "BreathOnLoan", name := "begin", desc := "(I)I" } : Jvm.MethodName)) ∈ lw_all := lw_g (lw_at lw_m4 109 rfl) rfl
theorem q925 : (Jvm.Cond.code ({ cls := "BreathOnLoan", name := "begin", desc := "(I)I" } : Jvm.MethodName) prog_1_method_27_code (3 : Nat) (Option.some Jvm.ClassFile.FieldType.int)) ∈ lw_all := lw_g (lw_at lw_m4 110 rfl) rfl
theorem q926 : (Jvm.Cond.methodLink "BreathOnLoan" (164 : Nat) ({ cls := "BreathOnLoan", name := "isKind", desc := "(I)Z" } : Jvm.MethodName)) ∈ lw_all := lw_g (lw_at lw_m4 111 rfl) rfl
theorem q927 : (Jvm.Cond.privateMethod ({ cls := "BreathOnLoan", name := "isKind", desc := "(I)Z" } : Jvm.MethodName)) ∈ lw_tbl := lw_at lw_m4 112 rfl
theorem q928 : (Jvm.Cond.instanceMethod ({ cls := "BreathOnLoan", name := "isKind", desc := "(I)Z" } : Jvm.MethodName)) ∈ lw_all := lw_g (lw_at lw_m4 113 rfl) rfl
theorem q929 : (Jvm.Cond.code ({ cls := "BreathOnLoan", name := "isKind", desc := "(I)Z" } : Jvm.MethodName) prog_1_method_4_code (2 : Nat) (Option.some Jvm.ClassFile.FieldType.boolean)) ∈ lw_all := lw_g (lw_at lw_m4 114 rfl) rfl
theorem q930 : (Jvm.Cond.methodLink "BreathOnLoan" (167 : Nat) ({ cls := "BreathOnLoan$State", name := "keeps", desc := "()V" } : Jvm.MethodName)) ∈ lw_all := lw_g (lw_at lw_m4 115 rfl) rfl
theorem q934 : (Jvm.Cond.methodLink "BreathOnLoan" (76 : Nat) ({ cls := "BreathOnLoan", name := "at", desc := "(II)I" } : Jvm.MethodName)) ∈ lw_all := lw_g (lw_at lw_m4 119 rfl) rfl
theorem q935 : (Jvm.Cond.static ({ cls := "BreathOnLoan", name := "at", desc := "(II)I" } : Jvm.MethodName)) ∈ lw_all := lw_g (lw_at lw_m4 120 rfl) rfl
theorem q936 : (Jvm.Cond.code ({ cls := "BreathOnLoan", name := "at", desc := "(II)I" } : Jvm.MethodName) prog_1_method_6_code (2 : Nat) (Option.some Jvm.ClassFile.FieldType.int)) ∈ lw_all := lw_g (lw_at lw_m4 121 rfl) rfl
theorem q937 : (Jvm.Cond.methodLink "BreathOnLoan" (170 : Nat) ({ cls := "java/util/Arrays", name := "fill", desc := "([IIII)V" } : Jvm.MethodName)) ∈ lw_all := lw_g (lw_at lw_m4 122 rfl) rfl
theorem q944 : (Jvm.Cond.instanceMethod ({ cls := "BreathOnLoan", name := "blow", desc := "(III)I" } : Jvm.MethodName)) ∈ lw_all := lw_g (lw_at lw_m4 129 rfl) rfl
theorem q945 : (Jvm.Cond.selects "BreathOnLoan" ({ cls := "BreathOnLoan", name := "blow", desc := "(III)I" } : Jvm.MethodName) ({ cls := "BreathOnLoan", name := "blow", desc := "(III)I" } : Jvm.MethodName)) ∈ lw_all := lw_g (lw_at lw_m4 130 rfl) rfl
theorem q946 : (Jvm.Cond.code ({ cls := "BreathOnLoan", name := "blow", desc := "(III)I" } : Jvm.MethodName) prog_1_method_32_code (6 : Nat) (Option.some Jvm.ClassFile.FieldType.int)) ∈ lw_all := lw_g (lw_at lw_m4 131 rfl) rfl
theorem q947 : (Jvm.Cond.methodLink "BreathOnLoan" (192 : Nat) ({ cls := "BreathOnLoan", name := "canBlow", desc := "(III)Z" } : Jvm.MethodName)) ∈ lw_all := lw_g (lw_at lw_m4 132 rfl) rfl
theorem q948 : (Jvm.Cond.privateMethod ({ cls := "BreathOnLoan", name := "canBlow", desc := "(III)Z" } : Jvm.MethodName)) ∈ lw_tbl := lw_at lw_m4 133 rfl
theorem q949 : (Jvm.Cond.instanceMethod ({ cls := "BreathOnLoan", name := "canBlow", desc := "(III)Z" } : Jvm.MethodName)) ∈ lw_all := lw_g (lw_at lw_m4 134 rfl) rfl
theorem q950 : (Jvm.Cond.code ({ cls := "BreathOnLoan", name := "canBlow", desc := "(III)Z" } : Jvm.MethodName) prog_1_method_31_code (4 : Nat) (Option.some Jvm.ClassFile.FieldType.boolean)) ∈ lw_all := lw_g (lw_at lw_m4 135 rfl) rfl
theorem q951 : (Jvm.Cond.methodLink "BreathOnLoan" (182 : Nat) ({ cls := "BreathOnLoan", name := "isPiece", desc := "(I)Z" } : Jvm.MethodName)) ∈ lw_all := lw_g (lw_at lw_m4 136 rfl) rfl
theorem q952 : (Jvm.Cond.privateMethod ({ cls := "BreathOnLoan", name := "isPiece", desc := "(I)Z" } : Jvm.MethodName)) ∈ lw_tbl := lw_at lw_m4 137 rfl
theorem q953 : (Jvm.Cond.instanceMethod ({ cls := "BreathOnLoan", name := "isPiece", desc := "(I)Z" } : Jvm.MethodName)) ∈ lw_all := lw_g (lw_at lw_m4 138 rfl) rfl
theorem q954 : (Jvm.Cond.code ({ cls := "BreathOnLoan", name := "isPiece", desc := "(I)Z" } : Jvm.MethodName) prog_1_method_5_code (2 : Nat) (Option.some Jvm.ClassFile.FieldType.boolean)) ∈ lw_all := lw_g (lw_at lw_m4 139 rfl) rfl
theorem q955 : (Jvm.Cond.methodLink "BreathOnLoan" (176 : Nat) ({ cls := "BreathOnLoan", name := "ofPiece", desc := "(II)I" } : Jvm.MethodName)) ∈ lw_all := lw_g (lw_at lw_m4 140 rfl) rfl
theorem q956 : (Jvm.Cond.privateMethod ({ cls := "BreathOnLoan", name := "ofPiece", desc := "(II)I" } : Jvm.MethodName)) ∈ lw_tbl := lw_at lw_m4 141 rfl
theorem q957 : (Jvm.Cond.instanceMethod ({ cls := "BreathOnLoan", name := "ofPiece", desc := "(II)I" } : Jvm.MethodName)) ∈ lw_all := lw_g (lw_at lw_m4 142 rfl) rfl
theorem q958 : (Jvm.Cond.code ({ cls := "BreathOnLoan", name := "ofPiece", desc := "(II)I" } : Jvm.MethodName) prog_1_method_7_code (3 : Nat) (Option.some Jvm.ClassFile.FieldType.int)) ∈ lw_all := lw_g (lw_at lw_m4 143 rfl) rfl
theorem q959 : (Jvm.Cond.methodLink "BreathOnLoan" (185 : Nat) ({ cls := "BreathOnLoan", name := "givenNow", desc := "()I" } : Jvm.MethodName)) ∈ lw_all := lw_g (lw_at lw_m4 144 rfl) rfl
theorem q960 : (Jvm.Cond.privateMethod ({ cls := "BreathOnLoan", name := "givenNow", desc := "()I" } : Jvm.MethodName)) ∈ lw_tbl := lw_at lw_m4 145 rfl
theorem q961 : (Jvm.Cond.instanceMethod ({ cls := "BreathOnLoan", name := "givenNow", desc := "()I" } : Jvm.MethodName)) ∈ lw_all := lw_g (lw_at lw_m4 146 rfl) rfl
theorem q962 : (Jvm.Cond.code ({ cls := "BreathOnLoan", name := "givenNow", desc := "()I" } : Jvm.MethodName) prog_1_method_28_code (3 : Nat) (Option.some Jvm.ClassFile.FieldType.int)) ∈ lw_all := lw_g (lw_at lw_m4 147 rfl) rfl
theorem q963 : (Jvm.Cond.methodLink "BreathOnLoan" (189 : Nat) ({ cls := "BreathOnLoan", name := "hour", desc := "()I" } : Jvm.MethodName)) ∈ lw_all := lw_g (lw_at lw_m4 148 rfl) rfl
theorem q964 : (Jvm.Cond.privateMethod ({ cls := "BreathOnLoan", name := "hour", desc := "()I" } : Jvm.MethodName)) ∈ lw_tbl := lw_at lw_m4 149 rfl
theorem q965 : (Jvm.Cond.instanceMethod ({ cls := "BreathOnLoan", name := "hour", desc := "()I" } : Jvm.MethodName)) ∈ lw_all := lw_g (lw_at lw_m4 150 rfl) rfl
theorem q966 : (Jvm.Cond.code ({ cls := "BreathOnLoan", name := "hour", desc := "()I" } : Jvm.MethodName) prog_1_method_26_code (1 : Nat) (Option.some Jvm.ClassFile.FieldType.int)) ∈ lw_all := lw_g (lw_at lw_m4 151 rfl) rfl
theorem q967 : (Jvm.Cond.methodLink "BreathOnLoan" (195 : Nat) ({ cls := "BreathOnLoan", name := "stateOf", desc := "(I)I" } : Jvm.MethodName)) ∈ lw_all := lw_g (lw_at lw_m4 152 rfl) rfl
theorem q968 : (Jvm.Cond.privateMethod ({ cls := "BreathOnLoan", name := "stateOf", desc := "(I)I" } : Jvm.MethodName)) ∈ lw_tbl := lw_at lw_m4 153 rfl
theorem q969 : (Jvm.Cond.instanceMethod ({ cls := "BreathOnLoan", name := "stateOf", desc := "(I)I" } : Jvm.MethodName)) ∈ lw_all := lw_g (lw_at lw_m4 154 rfl) rfl
theorem q970 : (Jvm.Cond.code ({ cls := "BreathOnLoan", name := "stateOf", desc := "(I)I" } : Jvm.MethodName) prog_1_method_30_code (4 : Nat) (Option.some Jvm.ClassFile.FieldType.int)) ∈ lw_all := lw_g (lw_at lw_m4 155 rfl) rfl
theorem q971 : (Jvm.Cond.methodLink "BreathOnLoan" (179 : Nat) ({ cls := "BreathOnLoan", name := "voicesOf", desc := "(I)I" } : Jvm.MethodName)) ∈ lw_all := lw_g (lw_at lw_m4 156 rfl) rfl
theorem q972 : (Jvm.Cond.privateMethod ({ cls := "BreathOnLoan", name := "voicesOf", desc := "(I)I" } : Jvm.MethodName)) ∈ lw_tbl := lw_at lw_m4 157 rfl
theorem q973 : (Jvm.Cond.instanceMethod ({ cls := "BreathOnLoan", name := "voicesOf", desc := "(I)I" } : Jvm.MethodName)) ∈ lw_all := lw_g (lw_at lw_m4 158 rfl) rfl
theorem q974 : (Jvm.Cond.code ({ cls := "BreathOnLoan", name := "voicesOf", desc := "(I)I" } : Jvm.MethodName) prog_1_method_29_code (4 : Nat) (Option.some Jvm.ClassFile.FieldType.int)) ∈ lw_all := lw_g (lw_at lw_m4 159 rfl) rfl
theorem q975 : (Jvm.Cond.methodLink "BreathOnLoan" (198 : Nat) ({ cls := "java/lang/System", name := "arraycopy", desc := "(Ljava/lang/Object;ILjava/lang/Object;II)V" } : Jvm.MethodName)) ∈ lw_all := lw_g (lw_at lw_m4 160 rfl) rfl
theorem q977 : (Jvm.Cond.instanceMethod ({ cls := "BreathOnLoan", name := "later", desc := "(I)I" } : Jvm.MethodName)) ∈ lw_all := lw_g (lw_at lw_m4 162 rfl) rfl
theorem q978 : (Jvm.Cond.selects "BreathOnLoan" ({ cls := "BreathOnLoan", name := "later", desc := "(I)I" } : Jvm.MethodName) ({ cls := "BreathOnLoan", name := "later", desc := "(I)I" } : Jvm.MethodName)) ∈ lw_all := lw_g (lw_at lw_m4 163 rfl) rfl
theorem q979 : (Jvm.Cond.code ({ cls := "BreathOnLoan", name := "later", desc := "(I)I" } : Jvm.MethodName) prog_1_method_33_code (3 : Nat) (Option.some Jvm.ClassFile.FieldType.int)) ∈ lw_all := lw_g (lw_at lw_m4 164 rfl) rfl
theorem q981 : (Jvm.Cond.instanceMethod ({ cls := "BreathOnLoan", name := "sell", desc := "(I)I" } : Jvm.MethodName)) ∈ lw_all := lw_g (lw_at lw_m4 166 rfl) rfl
theorem q982 : (Jvm.Cond.selects "BreathOnLoan" ({ cls := "BreathOnLoan", name := "sell", desc := "(I)I" } : Jvm.MethodName) ({ cls := "BreathOnLoan", name := "sell", desc := "(I)I" } : Jvm.MethodName)) ∈ lw_all := lw_g (lw_at lw_m4 167 rfl) rfl
theorem q983 : (Jvm.Cond.code ({ cls := "BreathOnLoan", name := "sell", desc := "(I)I" } : Jvm.MethodName) prog_1_method_34_code (6 : Nat) (Option.some Jvm.ClassFile.FieldType.int)) ∈ lw_all := lw_g (lw_at lw_m4 168 rfl) rfl
theorem q984 : (Jvm.Cond.methodLink "BreathOnLoan" (204 : Nat) ({ cls := "BreathOnLoan", name := "namesKind", desc := "(I)V" } : Jvm.MethodName)) ∈ lw_all := lw_g (lw_at lw_m4 169 rfl) rfl
theorem q985 : (Jvm.Cond.privateMethod ({ cls := "BreathOnLoan", name := "namesKind", desc := "(I)V" } : Jvm.MethodName)) ∈ lw_tbl := lw_at lw_m4 170 rfl
theorem q986 : (Jvm.Cond.instanceMethod ({ cls := "BreathOnLoan", name := "namesKind", desc := "(I)V" } : Jvm.MethodName)) ∈ lw_all := lw_g (lw_at lw_m4 171 rfl) rfl
theorem q987 : (Jvm.Cond.code ({ cls := "BreathOnLoan", name := "namesKind", desc := "(I)V" } : Jvm.MethodName) prog_1_method_21_code (2 : Nat) (Option.none : Option Jvm.ClassFile.FieldType)) ∈ lw_all := lw_g (lw_at lw_m4 172 rfl) rfl
theorem q988 : (Jvm.Cond.methodLink "BreathOnLoan" (207 : Nat) ({ cls := "java/lang/Math", name := "min", desc := "(II)I" } : Jvm.MethodName)) ∈ lw_all := lw_g (lw_at lw_m4 173 rfl) rfl
theorem q990 : (Jvm.Cond.instanceMethod ({ cls := "BreathOnLoan", name := "played", desc := "(I)I" } : Jvm.MethodName)) ∈ lw_all := lw_g (lw_at lw_m4 175 rfl) rfl
theorem q991 : (Jvm.Cond.selects "BreathOnLoan" ({ cls := "BreathOnLoan", name := "played", desc := "(I)I" } : Jvm.MethodName) ({ cls := "BreathOnLoan", name := "played", desc := "(I)I" } : Jvm.MethodName)) ∈ lw_all := lw_g (lw_at lw_m4 176 rfl) rfl
theorem q992 : (Jvm.Cond.code ({ cls := "BreathOnLoan", name := "played", desc := "(I)I" } : Jvm.MethodName) prog_1_method_35_code (6 : Nat) (Option.some Jvm.ClassFile.FieldType.int)) ∈ lw_all := lw_g (lw_at lw_m4 177 rfl) rfl
theorem q993 : (Jvm.Cond.methodLink "BreathOnLoan" (213 : Nat) ({ cls := "java/util/ArrayList", name := "size", desc := "()I" } : Jvm.MethodName)) ∈ lw_all := lw_g (lw_at lw_m4 178 rfl) rfl
theorem q994 : (Jvm.Cond.methodLink "BreathOnLoan" (218 : Nat) ({ cls := "java/util/ArrayList", name := "get", desc := "(I)Ljava/lang/Object;" } : Jvm.MethodName)) ∈ lw_all := lw_g (lw_at lw_m4 179 rfl) rfl
theorem q995 : (Jvm.Cond.classLink "BreathOnLoan" (222 : Nat) "BreathOnLoan$Doing") ∈ lw_all := lw_g (lw_at lw_m4 180 rfl) rfl
theorem q996 : (Jvm.Cond.methodLink "BreathOnLoan" (224 : Nat) ({ cls := "BreathOnLoan$Doing", name := "sort", desc := "()I" } : Jvm.MethodName)) ∈ lw_all := lw_g (lw_at lw_m4 181 rfl) rfl
theorem q1000 : (Jvm.Cond.methodLink "BreathOnLoan" (227 : Nat) ({ cls := "BreathOnLoan$Doing", name := "a", desc := "()I" } : Jvm.MethodName)) ∈ lw_all := lw_g (lw_at lw_m4 185 rfl) rfl
theorem q1004 : (Jvm.Cond.methodLink "BreathOnLoan" (230 : Nat) ({ cls := "BreathOnLoan", name := "begin", desc := "(I)I" } : Jvm.MethodName)) ∈ lw_all := lw_g (lw_at lw_m4 189 rfl) rfl
theorem q1005 : (Jvm.Cond.methodLink "BreathOnLoan" (233 : Nat) ({ cls := "BreathOnLoan$Doing", name := "b", desc := "()I" } : Jvm.MethodName)) ∈ lw_all := lw_g (lw_at lw_m4 190 rfl) rfl
theorem q1009 : (Jvm.Cond.methodLink "BreathOnLoan" (236 : Nat) ({ cls := "BreathOnLoan$Doing", name := "n", desc := "()I" } : Jvm.MethodName)) ∈ lw_all := lw_g (lw_at lw_m4 194 rfl) rfl
theorem q1013 : (Jvm.Cond.methodLink "BreathOnLoan" (238 : Nat) ({ cls := "BreathOnLoan", name := "blow", desc := "(III)I" } : Jvm.MethodName)) ∈ lw_all := lw_g (lw_at lw_m4 198 rfl) rfl
theorem q1014 : (Jvm.Cond.methodLink "BreathOnLoan" (241 : Nat) ({ cls := "BreathOnLoan", name := "later", desc := "(I)I" } : Jvm.MethodName)) ∈ lw_all := lw_g (lw_at lw_m4 199 rfl) rfl
theorem q1015 : (Jvm.Cond.methodLink "BreathOnLoan" (244 : Nat) ({ cls := "BreathOnLoan$Doing", name := "number", desc := "()I" } : Jvm.MethodName)) ∈ lw_all := lw_g (lw_at lw_m4 200 rfl) rfl
theorem q1020 : (Jvm.Cond.instanceMethod ({ cls := "BreathOnLoan", name := "undo", desc := "()I" } : Jvm.MethodName)) ∈ lw_all := lw_g (lw_at lw_m4 205 rfl) rfl
theorem q1021 : (Jvm.Cond.selects "BreathOnLoan" ({ cls := "BreathOnLoan", name := "undo", desc := "()I" } : Jvm.MethodName) ({ cls := "BreathOnLoan", name := "undo", desc := "()I" } : Jvm.MethodName)) ∈ lw_all := lw_g (lw_at lw_m4 206 rfl) rfl
theorem q1022 : (Jvm.Cond.code ({ cls := "BreathOnLoan", name := "undo", desc := "()I" } : Jvm.MethodName) prog_1_method_36_code (1 : Nat) (Option.some Jvm.ClassFile.FieldType.int)) ∈ lw_all := lw_g (lw_at lw_m4 207 rfl) rfl
theorem q1024 : (Jvm.Cond.instanceMethod ({ cls := "BreathOnLoan", name := "of", desc := "(II)I" } : Jvm.MethodName)) ∈ lw_all := lw_g (lw_at lw_m4 209 rfl) rfl
theorem q1025 : (Jvm.Cond.selects "BreathOnLoan" ({ cls := "BreathOnLoan", name := "of", desc := "(II)I" } : Jvm.MethodName) ({ cls := "BreathOnLoan", name := "of", desc := "(II)I" } : Jvm.MethodName)) ∈ lw_all := lw_g (lw_at lw_m4 210 rfl) rfl
theorem q1026 : (Jvm.Cond.code ({ cls := "BreathOnLoan", name := "of", desc := "(II)I" } : Jvm.MethodName) prog_1_method_37_code (3 : Nat) (Option.some Jvm.ClassFile.FieldType.int)) ∈ lw_all := lw_g (lw_at lw_m4 211 rfl) rfl
theorem q1028 : (Jvm.Cond.instanceMethod ({ cls := "BreathOnLoan", name := "piece", desc := "(II)I" } : Jvm.MethodName)) ∈ lw_all := lw_g (lw_at lw_m4 213 rfl) rfl
theorem q1029 : (Jvm.Cond.selects "BreathOnLoan" ({ cls := "BreathOnLoan", name := "piece", desc := "(II)I" } : Jvm.MethodName) ({ cls := "BreathOnLoan", name := "piece", desc := "(II)I" } : Jvm.MethodName)) ∈ lw_all := lw_g (lw_at lw_m4 214 rfl) rfl
theorem q1030 : (Jvm.Cond.code ({ cls := "BreathOnLoan", name := "piece", desc := "(II)I" } : Jvm.MethodName) prog_1_method_38_code (3 : Nat) (Option.some Jvm.ClassFile.FieldType.int)) ∈ lw_all := lw_g (lw_at lw_m4 215 rfl) rfl
theorem q1032 : (Jvm.Cond.instanceMethod ({ cls := "BreathOnLoan", name := "bubble", desc := "(II)I" } : Jvm.MethodName)) ∈ lw_all := lw_g (lw_at lw_m4 217 rfl) rfl
theorem q1033 : (Jvm.Cond.selects "BreathOnLoan" ({ cls := "BreathOnLoan", name := "bubble", desc := "(II)I" } : Jvm.MethodName) ({ cls := "BreathOnLoan", name := "bubble", desc := "(II)I" } : Jvm.MethodName)) ∈ lw_all := lw_g (lw_at lw_m4 218 rfl) rfl
theorem q1034 : (Jvm.Cond.code ({ cls := "BreathOnLoan", name := "bubble", desc := "(II)I" } : Jvm.MethodName) prog_1_method_39_code (3 : Nat) (Option.some Jvm.ClassFile.FieldType.int)) ∈ lw_all := lw_g (lw_at lw_m4 219 rfl) rfl
theorem q1036 : (Jvm.Cond.instanceMethod ({ cls := "BreathOnLoan", name := "odds", desc := "(II)J" } : Jvm.MethodName)) ∈ lw_all := lw_g (lw_at lw_m4 221 rfl) rfl
theorem q1037 : (Jvm.Cond.selects "BreathOnLoan" ({ cls := "BreathOnLoan", name := "odds", desc := "(II)J" } : Jvm.MethodName) ({ cls := "BreathOnLoan", name := "odds", desc := "(II)J" } : Jvm.MethodName)) ∈ lw_all := lw_g (lw_at lw_m4 222 rfl) rfl
theorem q1038 : (Jvm.Cond.code ({ cls := "BreathOnLoan", name := "odds", desc := "(II)J" } : Jvm.MethodName) prog_1_method_42_code (9 : Nat) (Option.some Jvm.ClassFile.FieldType.long)) ∈ lw_all := lw_g (lw_at lw_m4 223 rfl) rfl
theorem q1039 : (Jvm.Cond.constantLong "BreathOnLoan" (250 : Nat) (-1 : Int64)) ∈ lw_all := lw_g (lw_at lw_m4 224 rfl) rfl
theorem q1040 : (Jvm.Cond.methodLink "BreathOnLoan" (252 : Nat) ({ cls := "BreathOnLoan", name := "brittleOf", desc := "(I)I" } : Jvm.MethodName)) ∈ lw_all := lw_g (lw_at lw_m4 225 rfl) rfl
theorem q1041 : (Jvm.Cond.privateMethod ({ cls := "BreathOnLoan", name := "brittleOf", desc := "(I)I" } : Jvm.MethodName)) ∈ lw_tbl := lw_at lw_m4 226 rfl
theorem q1042 : (Jvm.Cond.instanceMethod ({ cls := "BreathOnLoan", name := "brittleOf", desc := "(I)I" } : Jvm.MethodName)) ∈ lw_all := lw_g (lw_at lw_m4 227 rfl) rfl
theorem q1043 : (Jvm.Cond.code ({ cls := "BreathOnLoan", name := "brittleOf", desc := "(I)I" } : Jvm.MethodName) prog_1_method_40_code (6 : Nat) (Option.some Jvm.ClassFile.FieldType.int)) ∈ lw_all := lw_g (lw_at lw_m4 228 rfl) rfl
theorem q1044 : (Jvm.Cond.constantLong "BreathOnLoan" (255 : Nat) (10 : Int64)) ∈ lw_all := lw_g (lw_at lw_m4 229 rfl) rfl
theorem q1045 : (Jvm.Cond.methodLink "BreathOnLoan" (247 : Nat) ({ cls := "BreathOnLoan", name := "common", desc := "(JJ)J" } : Jvm.MethodName)) ∈ lw_all := lw_g (lw_at lw_m4 230 rfl) rfl
theorem q1046 : (Jvm.Cond.static ({ cls := "BreathOnLoan", name := "common", desc := "(JJ)J" } : Jvm.MethodName)) ∈ lw_all := lw_g (lw_at lw_m4 231 rfl) rfl
theorem q1047 : (Jvm.Cond.code ({ cls := "BreathOnLoan", name := "common", desc := "(JJ)J" } : Jvm.MethodName) prog_1_method_41_code (4 : Nat) (Option.some Jvm.ClassFile.FieldType.long)) ∈ lw_all := lw_g (lw_at lw_m4 232 rfl) rfl
theorem q1049 : (Jvm.Cond.instanceMethod ({ cls := "BreathOnLoan", name := "plan", desc := "(III)I" } : Jvm.MethodName)) ∈ lw_all := lw_g (lw_at lw_m4 234 rfl) rfl
theorem q1050 : (Jvm.Cond.selects "BreathOnLoan" ({ cls := "BreathOnLoan", name := "plan", desc := "(III)I" } : Jvm.MethodName) ({ cls := "BreathOnLoan", name := "plan", desc := "(III)I" } : Jvm.MethodName)) ∈ lw_all := lw_g (lw_at lw_m4 235 rfl) rfl
theorem q1051 : (Jvm.Cond.code ({ cls := "BreathOnLoan", name := "plan", desc := "(III)I" } : Jvm.MethodName) prog_1_method_48_code (5 : Nat) (Option.some Jvm.ClassFile.FieldType.int)) ∈ lw_all := lw_g (lw_at lw_m4 236 rfl) rfl
theorem q1052 : (Jvm.Cond.methodLink "BreathOnLoan" (274 : Nat) ({ cls := "java/lang/Integer", name := "bitCount", desc := "(I)I" } : Jvm.MethodName)) ∈ lw_all := lw_g (lw_at lw_m4 237 rfl) rfl
theorem q1058 : (Jvm.Cond.constant "BreathOnLoan" (279 : Nat) (-1000000 : Int32)) ∈ lw_all := lw_g (lw_at lw_m5 3 rfl) rfl
theorem q1059 : (Jvm.Cond.methodLink "BreathOnLoan" (280 : Nat) ({ cls := "BreathOnLoan", name := "laysPlan", desc := "()V" } : Jvm.MethodName)) ∈ lw_all := lw_g (lw_at lw_m5 4 rfl) rfl
theorem q1060 : (Jvm.Cond.privateMethod ({ cls := "BreathOnLoan", name := "laysPlan", desc := "()V" } : Jvm.MethodName)) ∈ lw_tbl := lw_at lw_m5 5 rfl
theorem q1061 : (Jvm.Cond.instanceMethod ({ cls := "BreathOnLoan", name := "laysPlan", desc := "()V" } : Jvm.MethodName)) ∈ lw_all := lw_g (lw_at lw_m5 6 rfl) rfl
theorem q1062 : (Jvm.Cond.code ({ cls := "BreathOnLoan", name := "laysPlan", desc := "()V" } : Jvm.MethodName) prog_1_method_46_code (6 : Nat) (Option.none : Option Jvm.ClassFile.FieldType)) ∈ lw_all := lw_g (lw_at lw_m5 7 rfl) rfl
theorem q1063 : (Jvm.Cond.methodLink "BreathOnLoan" (263 : Nat) ({ cls := "BreathOnLoan", name := "isTeam", desc := "(I)Z" } : Jvm.MethodName)) ∈ lw_all := lw_g (lw_at lw_m5 8 rfl) rfl
theorem q1064 : (Jvm.Cond.privateMethod ({ cls := "BreathOnLoan", name := "isTeam", desc := "(I)Z" } : Jvm.MethodName)) ∈ lw_tbl := lw_at lw_m5 9 rfl
theorem q1065 : (Jvm.Cond.instanceMethod ({ cls := "BreathOnLoan", name := "isTeam", desc := "(I)Z" } : Jvm.MethodName)) ∈ lw_all := lw_g (lw_at lw_m5 10 rfl) rfl
theorem q1066 : (Jvm.Cond.code ({ cls := "BreathOnLoan", name := "isTeam", desc := "(I)Z" } : Jvm.MethodName) prog_1_method_44_code (2 : Nat) (Option.some Jvm.ClassFile.FieldType.boolean)) ∈ lw_all := lw_g (lw_at lw_m5 11 rfl) rfl
theorem q1067 : (Jvm.Cond.methodLink "BreathOnLoan" (266 : Nat) ({ cls := "BreathOnLoan", name := "laysWork", desc := "(III)V" } : Jvm.MethodName)) ∈ lw_all := lw_g (lw_at lw_m5 12 rfl) rfl
theorem q1068 : (Jvm.Cond.privateMethod ({ cls := "BreathOnLoan", name := "laysWork", desc := "(III)V" } : Jvm.MethodName)) ∈ lw_tbl := lw_at lw_m5 13 rfl
theorem q1069 : (Jvm.Cond.instanceMethod ({ cls := "BreathOnLoan", name := "laysWork", desc := "(III)V" } : Jvm.MethodName)) ∈ lw_all := lw_g (lw_at lw_m5 14 rfl) rfl
theorem q1070 : (Jvm.Cond.code ({ cls := "BreathOnLoan", name := "laysWork", desc := "(III)V" } : Jvm.MethodName) prog_1_method_43_code (14 : Nat) (Option.none : Option Jvm.ClassFile.FieldType)) ∈ lw_all := lw_g (lw_at lw_m5 15 rfl) rfl
theorem q1071 : (Jvm.Cond.methodLink "BreathOnLoan" (270 : Nat) ({ cls := "BreathOnLoan", name := "isMore", desc := "(IIIIZ)Z" } : Jvm.MethodName)) ∈ lw_all := lw_g (lw_at lw_m5 16 rfl) rfl
theorem q1072 : (Jvm.Cond.privateMethod ({ cls := "BreathOnLoan", name := "isMore", desc := "(IIIIZ)Z" } : Jvm.MethodName)) ∈ lw_tbl := lw_at lw_m5 17 rfl
theorem q1073 : (Jvm.Cond.instanceMethod ({ cls := "BreathOnLoan", name := "isMore", desc := "(IIIIZ)Z" } : Jvm.MethodName)) ∈ lw_all := lw_g (lw_at lw_m5 18 rfl) rfl
theorem q1074 : (Jvm.Cond.code ({ cls := "BreathOnLoan", name := "isMore", desc := "(IIIIZ)Z" } : Jvm.MethodName) prog_1_method_45_code (9 : Nat) (Option.some Jvm.ClassFile.FieldType.boolean)) ∈ lw_all := lw_g (lw_at lw_m5 19 rfl) rfl
theorem q1075 : (Jvm.Cond.methodLink "BreathOnLoan" (283 : Nat) ({ cls := "BreathOnLoan", name := "goesPlan", desc := "()I" } : Jvm.MethodName)) ∈ lw_all := lw_g (lw_at lw_m5 20 rfl) rfl
theorem q1076 : (Jvm.Cond.privateMethod ({ cls := "BreathOnLoan", name := "goesPlan", desc := "()I" } : Jvm.MethodName)) ∈ lw_tbl := lw_at lw_m5 21 rfl
theorem q1077 : (Jvm.Cond.instanceMethod ({ cls := "BreathOnLoan", name := "goesPlan", desc := "()I" } : Jvm.MethodName)) ∈ lw_all := lw_g (lw_at lw_m5 22 rfl) rfl
theorem q1078 : (Jvm.Cond.code ({ cls := "BreathOnLoan", name := "goesPlan", desc := "()I" } : Jvm.MethodName) prog_1_method_47_code (7 : Nat) (Option.some Jvm.ClassFile.FieldType.int)) ∈ lw_all := lw_g (lw_at lw_m5 23 rfl) rfl
theorem q1080 : (Jvm.Cond.instanceMethod ({ cls := "BreathOnLoan", name := "seen", desc := "(I)I" } : Jvm.MethodName)) ∈ lw_all := lw_g (lw_at lw_m5 25 rfl) rfl
theorem q1081 : (Jvm.Cond.selects "BreathOnLoan" ({ cls := "BreathOnLoan", name := "seen", desc := "(I)I" } : Jvm.MethodName) ({ cls := "BreathOnLoan", name := "seen", desc := "(I)I" } : Jvm.MethodName)) ∈ lw_all := lw_g (lw_at lw_m5 26 rfl) rfl
theorem q1082 : (Jvm.Cond.code ({ cls := "BreathOnLoan", name := "seen", desc := "(I)I" } : Jvm.MethodName) prog_1_method_49_code (2 : Nat) (Option.some Jvm.ClassFile.FieldType.int)) ∈ lw_all := lw_g (lw_at lw_m5 27 rfl) rfl
theorem q1084 : (Jvm.Cond.instanceMethod ({ cls := "BreathOnLoan", name := "whose", desc := "(I)I" } : Jvm.MethodName)) ∈ lw_all := lw_g (lw_at lw_m5 29 rfl) rfl
theorem q1085 : (Jvm.Cond.selects "BreathOnLoan" ({ cls := "BreathOnLoan", name := "whose", desc := "(I)I" } : Jvm.MethodName) ({ cls := "BreathOnLoan", name := "whose", desc := "(I)I" } : Jvm.MethodName)) ∈ lw_all := lw_g (lw_at lw_m5 30 rfl) rfl
theorem q1086 : (Jvm.Cond.code ({ cls := "BreathOnLoan", name := "whose", desc := "(I)I" } : Jvm.MethodName) prog_1_method_51_code (4 : Nat) (Option.some Jvm.ClassFile.FieldType.int)) ∈ lw_all := lw_g (lw_at lw_m5 31 rfl) rfl
theorem q1087 : (Jvm.Cond.methodLink "BreathOnLoan" (291 : Nat) ({ cls := "BreathOnLoan", name := "canBe", desc := "(I)Z" } : Jvm.MethodName)) ∈ lw_all := lw_g (lw_at lw_m5 32 rfl) rfl
theorem q1088 : (Jvm.Cond.privateMethod ({ cls := "BreathOnLoan", name := "canBe", desc := "(I)Z" } : Jvm.MethodName)) ∈ lw_tbl := lw_at lw_m5 33 rfl
theorem q1089 : (Jvm.Cond.instanceMethod ({ cls := "BreathOnLoan", name := "canBe", desc := "(I)Z" } : Jvm.MethodName)) ∈ lw_all := lw_g (lw_at lw_m5 34 rfl) rfl
theorem q1090 : (Jvm.Cond.code ({ cls := "BreathOnLoan", name := "canBe", desc := "(I)Z" } : Jvm.MethodName) prog_1_method_50_code (6 : Nat) (Option.some Jvm.ClassFile.FieldType.boolean)) ∈ lw_all := lw_g (lw_at lw_m5 35 rfl) rfl
theorem q1091 : (Jvm.Cond.methodLink "BreathOnLoan" (289 : Nat) ({ cls := "java/lang/Math", name := "max", desc := "(II)I" } : Jvm.MethodName)) ∈ lw_all := lw_g (lw_at lw_m5 36 rfl) rfl
theorem q1093 : (Jvm.Cond.instanceMethod ({ cls := "BreathOnLoan", name := "tell", desc := "(IIII)I" } : Jvm.MethodName)) ∈ lw_all := lw_g (lw_at lw_m5 38 rfl) rfl
theorem q1094 : (Jvm.Cond.selects "BreathOnLoan" ({ cls := "BreathOnLoan", name := "tell", desc := "(IIII)I" } : Jvm.MethodName) ({ cls := "BreathOnLoan", name := "tell", desc := "(IIII)I" } : Jvm.MethodName)) ∈ lw_all := lw_g (lw_at lw_m5 39 rfl) rfl
theorem q1095 : (Jvm.Cond.code ({ cls := "BreathOnLoan", name := "tell", desc := "(IIII)I" } : Jvm.MethodName) prog_1_method_52_code (6 : Nat) (Option.some Jvm.ClassFile.FieldType.int)) ∈ lw_all := lw_g (lw_at lw_m5 40 rfl) rfl
theorem q1097 : (Jvm.Cond.instanceMethod ({ cls := "BreathOnLoan", name := "liars", desc := "()I" } : Jvm.MethodName)) ∈ lw_all := lw_g (lw_at lw_m5 42 rfl) rfl
theorem q1098 : (Jvm.Cond.selects "BreathOnLoan" ({ cls := "BreathOnLoan", name := "liars", desc := "()I" } : Jvm.MethodName) ({ cls := "BreathOnLoan", name := "liars", desc := "()I" } : Jvm.MethodName)) ∈ lw_all := lw_g (lw_at lw_m5 43 rfl) rfl
theorem q1099 : (Jvm.Cond.code ({ cls := "BreathOnLoan", name := "liars", desc := "()I" } : Jvm.MethodName) prog_1_method_54_code (3 : Nat) (Option.some Jvm.ClassFile.FieldType.int)) ∈ lw_all := lw_g (lw_at lw_m5 44 rfl) rfl
theorem q1100 : (Jvm.Cond.methodLink "BreathOnLoan" (297 : Nat) ({ cls := "BreathOnLoan", name := "isFalse", desc := "([I)Z" } : Jvm.MethodName)) ∈ lw_all := lw_g (lw_at lw_m5 45 rfl) rfl
theorem q1101 : (Jvm.Cond.privateMethod ({ cls := "BreathOnLoan", name := "isFalse", desc := "([I)Z" } : Jvm.MethodName)) ∈ lw_tbl := lw_at lw_m5 46 rfl
theorem q1102 : (Jvm.Cond.instanceMethod ({ cls := "BreathOnLoan", name := "isFalse", desc := "([I)Z" } : Jvm.MethodName)) ∈ lw_all := lw_g (lw_at lw_m5 47 rfl) rfl
theorem q1103 : (Jvm.Cond.code ({ cls := "BreathOnLoan", name := "isFalse", desc := "([I)Z" } : Jvm.MethodName) prog_1_method_53_code (6 : Nat) (Option.some Jvm.ClassFile.FieldType.boolean)) ∈ lw_all := lw_g (lw_at lw_m5 48 rfl) rfl
theorem q1105 : (Jvm.Cond.instanceMethod ({ cls := "BreathOnLoan", name := "coughs", desc := "(IIII)I" } : Jvm.MethodName)) ∈ lw_all := lw_g (lw_at lw_m5 50 rfl) rfl
theorem q1106 : (Jvm.Cond.selects "BreathOnLoan" ({ cls := "BreathOnLoan", name := "coughs", desc := "(IIII)I" } : Jvm.MethodName) ({ cls := "BreathOnLoan", name := "coughs", desc := "(IIII)I" } : Jvm.MethodName)) ∈ lw_all := lw_g (lw_at lw_m5 51 rfl) rfl
theorem q1107 : (Jvm.Cond.code ({ cls := "BreathOnLoan", name := "coughs", desc := "(IIII)I" } : Jvm.MethodName) prog_1_method_55_code (9 : Nat) (Option.some Jvm.ClassFile.FieldType.int)) ∈ lw_all := lw_g (lw_at lw_m5 52 rfl) rfl
theorem q1109 : (Jvm.Cond.instanceMethod ({ cls := "BreathOnLoan", name := "image", desc := "()I" } : Jvm.MethodName)) ∈ lw_all := lw_g (lw_at lw_m5 54 rfl) rfl
theorem q1110 : (Jvm.Cond.selects "BreathOnLoan" ({ cls := "BreathOnLoan", name := "image", desc := "()I" } : Jvm.MethodName) ({ cls := "BreathOnLoan", name := "image", desc := "()I" } : Jvm.MethodName)) ∈ lw_all := lw_g (lw_at lw_m5 55 rfl) rfl
theorem q1111 : (Jvm.Cond.code ({ cls := "BreathOnLoan", name := "image", desc := "()I" } : Jvm.MethodName) prog_1_method_56_code (1 : Nat) (Option.some Jvm.ClassFile.FieldType.int)) ∈ lw_all := lw_g (lw_at lw_m5 56 rfl) rfl
theorem q1113 : (Jvm.Cond.instanceMethod ({ cls := "BreathOnLoan", name := "back", desc := "()I" } : Jvm.MethodName)) ∈ lw_all := lw_g (lw_at lw_m5 58 rfl) rfl
theorem q1114 : (Jvm.Cond.selects "BreathOnLoan" ({ cls := "BreathOnLoan", name := "back", desc := "()I" } : Jvm.MethodName) ({ cls := "BreathOnLoan", name := "back", desc := "()I" } : Jvm.MethodName)) ∈ lw_all := lw_g (lw_at lw_m5 59 rfl) rfl
theorem q1115 : (Jvm.Cond.code ({ cls := "BreathOnLoan", name := "back", desc := "()I" } : Jvm.MethodName) prog_1_method_57_code (1 : Nat) (Option.some Jvm.ClassFile.FieldType.int)) ∈ lw_all := lw_g (lw_at lw_m5 60 rfl) rfl
theorem q1117 : (Jvm.Cond.instanceMethod ({ cls := "BreathOnLoan", name := "about", desc := "(I)I" } : Jvm.MethodName)) ∈ lw_all := lw_g (lw_at lw_m5 62 rfl) rfl
theorem q1118 : (Jvm.Cond.selects "BreathOnLoan" ({ cls := "BreathOnLoan", name := "about", desc := "(I)I" } : Jvm.MethodName) ({ cls := "BreathOnLoan", name := "about", desc := "(I)I" } : Jvm.MethodName)) ∈ lw_all := lw_g (lw_at lw_m5 63 rfl) rfl
theorem q1119 : (Jvm.Cond.code ({ cls := "BreathOnLoan", name := "about", desc := "(I)I" } : Jvm.MethodName) prog_1_method_58_code (2 : Nat) (Option.some Jvm.ClassFile.FieldType.int)) ∈ lw_all := lw_g (lw_at lw_m5 64 rfl) rfl
theorem q1619 : (Jvm.Cond.castable "BreathOnLoan" "java/lang/Object") ∈ lw_tbl := lw_at lw_m7 84 rfl
theorem in_X0 : ∀ w ∈ wsX00, w ∈ lw_all := lw_in wsX00 [214, 216, 218, 220, 222, 224, 226, 228, 230, 232, 234, 236, 238, 240, 242, 244, 246] (by decide +kernel) (by decide +kernel)
